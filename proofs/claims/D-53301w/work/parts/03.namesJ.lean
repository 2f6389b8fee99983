section
/-! java/util/AbstractCollection -/
set_option maxRecDepth 100000
def RJ0 : String := "java/util/AbstractCollection"
abbrev cJ0_init : ByteArray := prog_57_method_1_code
def yJ0_init : MethodName := ⟨RJ0, "<init>", "()V"⟩
theorem dJ0_init_0 : decode cJ0_init 0 = .ok (.aload_n 0, 1) := by decide +kernel
theorem dJ0_init_1 : decode cJ0_init 1 = .ok (.invokespecial 1, 3) := by decide +kernel
theorem dJ0_init_4 : decode cJ0_init 4 = .ok (.return_, 1) := by decide +kernel
abbrev cJ0_toArray : ByteArray := prog_57_method_6_code
def yJ0_toArray : MethodName := ⟨RJ0, "toArray", "()[Ljava/lang/Object;"⟩
def dkwJ0_toArray_3 : List UInt8 := [176]
abbrev dktJ0_toArray_3 : List UInt8 := dkwJ0_toArray_3 ++ []
def dkwJ0_toArray_2 : List UInt8 := [132, 3, 1, 167, 255, 223, 44, 185, 0, 17, 1, 0, 153, 0, 11, 43, 44, 184, 0, 37, 167, 0, 4, 43]
abbrev dktJ0_toArray_2 : List UInt8 := dkwJ0_toArray_2 ++ dktJ0_toArray_3
def dkwJ0_toArray_1 : List UInt8 := [185, 0, 17, 1, 0, 154, 0, 9, 43, 29, 184, 0, 31, 176, 43, 29, 44, 185, 0, 23, 1, 0, 83]
abbrev dktJ0_toArray_1 : List UInt8 := dkwJ0_toArray_1 ++ dktJ0_toArray_2
def dkwJ0_toArray_0 : List UInt8 := [42, 182, 0, 7, 189, 0, 2, 76, 42, 182, 0, 13, 77, 3, 62, 29, 43, 190, 162, 0, 33, 44]
abbrev dktJ0_toArray_0 : List UInt8 := dkwJ0_toArray_0 ++ dktJ0_toArray_1
theorem dksJ0_toArray_0 : cJ0_toArray.data.toList.drop 0 = dktJ0_toArray_0 := by decide +kernel
theorem dksJ0_toArray_1 : cJ0_toArray.data.toList.drop 22 = dktJ0_toArray_1 := dk_seg dksJ0_toArray_0 22 rfl rfl
theorem dksJ0_toArray_2 : cJ0_toArray.data.toList.drop 45 = dktJ0_toArray_2 := dk_seg dksJ0_toArray_1 23 rfl rfl
theorem dksJ0_toArray_3 : cJ0_toArray.data.toList.drop 69 = dktJ0_toArray_3 := dk_seg dksJ0_toArray_2 24 rfl rfl
theorem dJ0_toArray_0 : decode cJ0_toArray 0 = .ok (.aload_n 0, 1) := dk_42 (dk_at dksJ0_toArray_0 0 rfl rfl)
theorem dJ0_toArray_1 : decode cJ0_toArray 1 = .ok (.invokevirtual 7, 3) := dk_182 0 7 (dk_at dksJ0_toArray_0 1 rfl rfl)
theorem dJ0_toArray_4 : decode cJ0_toArray 4 = .ok (.anewarray 2, 3) := dk_189 0 2 (dk_at dksJ0_toArray_0 4 rfl rfl)
theorem dJ0_toArray_7 : decode cJ0_toArray 7 = .ok (.astore_n 1, 1) := dk_76 (dk_at dksJ0_toArray_0 7 rfl rfl)
theorem dJ0_toArray_8 : decode cJ0_toArray 8 = .ok (.aload_n 0, 1) := dk_42 (dk_at dksJ0_toArray_0 8 rfl rfl)
theorem dJ0_toArray_9 : decode cJ0_toArray 9 = .ok (.invokevirtual 13, 3) := dk_182 0 13 (dk_at dksJ0_toArray_0 9 rfl rfl)
theorem dJ0_toArray_12 : decode cJ0_toArray 12 = .ok (.astore_n 2, 1) := dk_77 (dk_at dksJ0_toArray_0 12 rfl rfl)
theorem dJ0_toArray_13 : decode cJ0_toArray 13 = .ok (.iconst 0, 1) := dk_3 (dk_at dksJ0_toArray_0 13 rfl rfl)
theorem dJ0_toArray_14 : decode cJ0_toArray 14 = .ok (.istore_n 3, 1) := dk_62 (dk_at dksJ0_toArray_0 14 rfl rfl)
theorem dJ0_toArray_15 : decode cJ0_toArray 15 = .ok (.iload_n 3, 1) := dk_29 (dk_at dksJ0_toArray_0 15 rfl rfl)
theorem dJ0_toArray_16 : decode cJ0_toArray 16 = .ok (.aload_n 1, 1) := dk_43 (dk_at dksJ0_toArray_0 16 rfl rfl)
theorem dJ0_toArray_17 : decode cJ0_toArray 17 = .ok (.arraylength, 1) := dk_190 (dk_at dksJ0_toArray_0 17 rfl rfl)
theorem dJ0_toArray_18 : decode cJ0_toArray 18 = .ok (.if_icmp .ge 33, 3) := dk_162 0 33 (dk_at dksJ0_toArray_0 18 rfl rfl)
theorem dJ0_toArray_21 : decode cJ0_toArray 21 = .ok (.aload_n 2, 1) := dk_44 (dk_at dksJ0_toArray_0 21 rfl rfl)
theorem dJ0_toArray_22 : decode cJ0_toArray 22 = .ok (.invokeinterface 17 1, 5) := by decide +kernel
theorem dJ0_toArray_27 : decode cJ0_toArray 27 = .ok (.ifCond .ne 9, 3) := dk_154 0 9 (dk_at dksJ0_toArray_1 5 rfl rfl)
theorem dJ0_toArray_30 : decode cJ0_toArray 30 = .ok (.aload_n 1, 1) := dk_43 (dk_at dksJ0_toArray_1 8 rfl rfl)
theorem dJ0_toArray_31 : decode cJ0_toArray 31 = .ok (.iload_n 3, 1) := dk_29 (dk_at dksJ0_toArray_1 9 rfl rfl)
theorem dJ0_toArray_32 : decode cJ0_toArray 32 = .ok (.invokestatic 31, 3) := dk_184 0 31 (dk_at dksJ0_toArray_1 10 rfl rfl)
theorem dJ0_toArray_35 : decode cJ0_toArray 35 = .ok (.areturn, 1) := dk_176 (dk_at dksJ0_toArray_1 13 rfl rfl)
theorem dJ0_toArray_36 : decode cJ0_toArray 36 = .ok (.aload_n 1, 1) := dk_43 (dk_at dksJ0_toArray_1 14 rfl rfl)
theorem dJ0_toArray_37 : decode cJ0_toArray 37 = .ok (.iload_n 3, 1) := dk_29 (dk_at dksJ0_toArray_1 15 rfl rfl)
theorem dJ0_toArray_38 : decode cJ0_toArray 38 = .ok (.aload_n 2, 1) := dk_44 (dk_at dksJ0_toArray_1 16 rfl rfl)
theorem dJ0_toArray_39 : decode cJ0_toArray 39 = .ok (.invokeinterface 23 1, 5) := by decide +kernel
theorem dJ0_toArray_44 : decode cJ0_toArray 44 = .ok (.aastore, 1) := dk_83 (dk_at dksJ0_toArray_1 22 rfl rfl)
theorem dJ0_toArray_45 : decode cJ0_toArray 45 = .ok (.iinc 3 1, 3) := dk_132 3 1 (dk_at dksJ0_toArray_2 0 rfl rfl)
theorem dJ0_toArray_48 : decode cJ0_toArray 48 = .ok (.goto (-33), 3) := dk_167 255 223 (dk_at dksJ0_toArray_2 3 rfl rfl)
theorem dJ0_toArray_51 : decode cJ0_toArray 51 = .ok (.aload_n 2, 1) := dk_44 (dk_at dksJ0_toArray_2 6 rfl rfl)
theorem dJ0_toArray_52 : decode cJ0_toArray 52 = .ok (.invokeinterface 17 1, 5) := by decide +kernel
theorem dJ0_toArray_57 : decode cJ0_toArray 57 = .ok (.ifCond .eq 11, 3) := dk_153 0 11 (dk_at dksJ0_toArray_2 12 rfl rfl)
theorem dJ0_toArray_60 : decode cJ0_toArray 60 = .ok (.aload_n 1, 1) := dk_43 (dk_at dksJ0_toArray_2 15 rfl rfl)
theorem dJ0_toArray_61 : decode cJ0_toArray 61 = .ok (.aload_n 2, 1) := dk_44 (dk_at dksJ0_toArray_2 16 rfl rfl)
theorem dJ0_toArray_62 : decode cJ0_toArray 62 = .ok (.invokestatic 37, 3) := dk_184 0 37 (dk_at dksJ0_toArray_2 17 rfl rfl)
theorem dJ0_toArray_65 : decode cJ0_toArray 65 = .ok (.goto 4, 3) := dk_167 0 4 (dk_at dksJ0_toArray_2 20 rfl rfl)
theorem dJ0_toArray_68 : decode cJ0_toArray 68 = .ok (.aload_n 1, 1) := dk_43 (dk_at dksJ0_toArray_2 23 rfl rfl)
theorem dJ0_toArray_69 : decode cJ0_toArray 69 = .ok (.areturn, 1) := dk_176 (dk_at dksJ0_toArray_3 0 rfl rfl)
abbrev cJ0_finishToArray : ByteArray := prog_57_method_8_code
def yJ0_finishToArray : MethodName := ⟨RJ0, "finishToArray", "([Ljava/lang/Object;Ljava/util/Iterator;)[Ljava/lang/Object;"⟩
def dkwJ0_finishToArray_2 : List UInt8 := [167, 255, 213, 29, 28, 160, 0, 7, 42, 167, 0, 8, 42, 29, 184, 0, 31, 176]
abbrev dktJ0_finishToArray_2 : List UInt8 := dkwJ0_finishToArray_2 ++ []
def dkwJ0_finishToArray_1 : List UInt8 := [4, 96, 184, 0, 64, 61, 42, 28, 184, 0, 31, 75, 42, 29, 132, 3, 1, 43, 185, 0, 23, 1, 0, 83]
abbrev dktJ0_finishToArray_1 : List UInt8 := dkwJ0_finishToArray_1 ++ dktJ0_finishToArray_2
def dkwJ0_finishToArray_0 : List UInt8 := [42, 190, 61, 28, 62, 43, 185, 0, 17, 1, 0, 153, 0, 40, 29, 28, 160, 0, 20, 28, 4, 28, 4, 122]
abbrev dktJ0_finishToArray_0 : List UInt8 := dkwJ0_finishToArray_0 ++ dktJ0_finishToArray_1
theorem dksJ0_finishToArray_0 : cJ0_finishToArray.data.toList.drop 0 = dktJ0_finishToArray_0 := by decide +kernel
theorem dksJ0_finishToArray_1 : cJ0_finishToArray.data.toList.drop 24 = dktJ0_finishToArray_1 := dk_seg dksJ0_finishToArray_0 24 rfl rfl
theorem dksJ0_finishToArray_2 : cJ0_finishToArray.data.toList.drop 48 = dktJ0_finishToArray_2 := dk_seg dksJ0_finishToArray_1 24 rfl rfl
theorem dJ0_finishToArray_0 : decode cJ0_finishToArray 0 = .ok (.aload_n 0, 1) := dk_42 (dk_at dksJ0_finishToArray_0 0 rfl rfl)
theorem dJ0_finishToArray_1 : decode cJ0_finishToArray 1 = .ok (.arraylength, 1) := dk_190 (dk_at dksJ0_finishToArray_0 1 rfl rfl)
theorem dJ0_finishToArray_2 : decode cJ0_finishToArray 2 = .ok (.istore_n 2, 1) := dk_61 (dk_at dksJ0_finishToArray_0 2 rfl rfl)
theorem dJ0_finishToArray_3 : decode cJ0_finishToArray 3 = .ok (.iload_n 2, 1) := dk_28 (dk_at dksJ0_finishToArray_0 3 rfl rfl)
theorem dJ0_finishToArray_4 : decode cJ0_finishToArray 4 = .ok (.istore_n 3, 1) := dk_62 (dk_at dksJ0_finishToArray_0 4 rfl rfl)
theorem dJ0_finishToArray_5 : decode cJ0_finishToArray 5 = .ok (.aload_n 1, 1) := dk_43 (dk_at dksJ0_finishToArray_0 5 rfl rfl)
theorem dJ0_finishToArray_6 : decode cJ0_finishToArray 6 = .ok (.invokeinterface 17 1, 5) := by decide +kernel
theorem dJ0_finishToArray_11 : decode cJ0_finishToArray 11 = .ok (.ifCond .eq 40, 3) := dk_153 0 40 (dk_at dksJ0_finishToArray_0 11 rfl rfl)
theorem dJ0_finishToArray_14 : decode cJ0_finishToArray 14 = .ok (.iload_n 3, 1) := dk_29 (dk_at dksJ0_finishToArray_0 14 rfl rfl)
theorem dJ0_finishToArray_15 : decode cJ0_finishToArray 15 = .ok (.iload_n 2, 1) := dk_28 (dk_at dksJ0_finishToArray_0 15 rfl rfl)
theorem dJ0_finishToArray_16 : decode cJ0_finishToArray 16 = .ok (.if_icmp .ne 20, 3) := dk_160 0 20 (dk_at dksJ0_finishToArray_0 16 rfl rfl)
theorem dJ0_finishToArray_19 : decode cJ0_finishToArray 19 = .ok (.iload_n 2, 1) := dk_28 (dk_at dksJ0_finishToArray_0 19 rfl rfl)
theorem dJ0_finishToArray_20 : decode cJ0_finishToArray 20 = .ok (.iconst 1, 1) := dk_4 (dk_at dksJ0_finishToArray_0 20 rfl rfl)
theorem dJ0_finishToArray_21 : decode cJ0_finishToArray 21 = .ok (.iload_n 2, 1) := dk_28 (dk_at dksJ0_finishToArray_0 21 rfl rfl)
theorem dJ0_finishToArray_22 : decode cJ0_finishToArray 22 = .ok (.iconst 1, 1) := dk_4 (dk_at dksJ0_finishToArray_0 22 rfl rfl)
theorem dJ0_finishToArray_23 : decode cJ0_finishToArray 23 = .ok (.ishr, 1) := dk_122 (dk_at dksJ0_finishToArray_0 23 rfl rfl)
theorem dJ0_finishToArray_24 : decode cJ0_finishToArray 24 = .ok (.iconst 1, 1) := dk_4 (dk_at dksJ0_finishToArray_1 0 rfl rfl)
theorem dJ0_finishToArray_25 : decode cJ0_finishToArray 25 = .ok (.iadd, 1) := dk_96 (dk_at dksJ0_finishToArray_1 1 rfl rfl)
theorem dJ0_finishToArray_26 : decode cJ0_finishToArray 26 = .ok (.invokestatic 64, 3) := dk_184 0 64 (dk_at dksJ0_finishToArray_1 2 rfl rfl)
theorem dJ0_finishToArray_29 : decode cJ0_finishToArray 29 = .ok (.istore_n 2, 1) := dk_61 (dk_at dksJ0_finishToArray_1 5 rfl rfl)
theorem dJ0_finishToArray_30 : decode cJ0_finishToArray 30 = .ok (.aload_n 0, 1) := dk_42 (dk_at dksJ0_finishToArray_1 6 rfl rfl)
theorem dJ0_finishToArray_31 : decode cJ0_finishToArray 31 = .ok (.iload_n 2, 1) := dk_28 (dk_at dksJ0_finishToArray_1 7 rfl rfl)
theorem dJ0_finishToArray_32 : decode cJ0_finishToArray 32 = .ok (.invokestatic 31, 3) := dk_184 0 31 (dk_at dksJ0_finishToArray_1 8 rfl rfl)
theorem dJ0_finishToArray_35 : decode cJ0_finishToArray 35 = .ok (.astore_n 0, 1) := dk_75 (dk_at dksJ0_finishToArray_1 11 rfl rfl)
theorem dJ0_finishToArray_36 : decode cJ0_finishToArray 36 = .ok (.aload_n 0, 1) := dk_42 (dk_at dksJ0_finishToArray_1 12 rfl rfl)
theorem dJ0_finishToArray_37 : decode cJ0_finishToArray 37 = .ok (.iload_n 3, 1) := dk_29 (dk_at dksJ0_finishToArray_1 13 rfl rfl)
theorem dJ0_finishToArray_38 : decode cJ0_finishToArray 38 = .ok (.iinc 3 1, 3) := dk_132 3 1 (dk_at dksJ0_finishToArray_1 14 rfl rfl)
theorem dJ0_finishToArray_41 : decode cJ0_finishToArray 41 = .ok (.aload_n 1, 1) := dk_43 (dk_at dksJ0_finishToArray_1 17 rfl rfl)
theorem dJ0_finishToArray_42 : decode cJ0_finishToArray 42 = .ok (.invokeinterface 23 1, 5) := by decide +kernel
theorem dJ0_finishToArray_47 : decode cJ0_finishToArray 47 = .ok (.aastore, 1) := dk_83 (dk_at dksJ0_finishToArray_1 23 rfl rfl)
theorem dJ0_finishToArray_48 : decode cJ0_finishToArray 48 = .ok (.goto (-43), 3) := dk_167 255 213 (dk_at dksJ0_finishToArray_2 0 rfl rfl)
theorem dJ0_finishToArray_51 : decode cJ0_finishToArray 51 = .ok (.iload_n 3, 1) := dk_29 (dk_at dksJ0_finishToArray_2 3 rfl rfl)
theorem dJ0_finishToArray_52 : decode cJ0_finishToArray 52 = .ok (.iload_n 2, 1) := dk_28 (dk_at dksJ0_finishToArray_2 4 rfl rfl)
theorem dJ0_finishToArray_53 : decode cJ0_finishToArray 53 = .ok (.if_icmp .ne 7, 3) := dk_160 0 7 (dk_at dksJ0_finishToArray_2 5 rfl rfl)
theorem dJ0_finishToArray_56 : decode cJ0_finishToArray 56 = .ok (.aload_n 0, 1) := dk_42 (dk_at dksJ0_finishToArray_2 8 rfl rfl)
theorem dJ0_finishToArray_57 : decode cJ0_finishToArray 57 = .ok (.goto 8, 3) := dk_167 0 8 (dk_at dksJ0_finishToArray_2 9 rfl rfl)
theorem dJ0_finishToArray_60 : decode cJ0_finishToArray 60 = .ok (.aload_n 0, 1) := dk_42 (dk_at dksJ0_finishToArray_2 12 rfl rfl)
theorem dJ0_finishToArray_61 : decode cJ0_finishToArray 61 = .ok (.iload_n 3, 1) := dk_29 (dk_at dksJ0_finishToArray_2 13 rfl rfl)
theorem dJ0_finishToArray_62 : decode cJ0_finishToArray 62 = .ok (.invokestatic 31, 3) := dk_184 0 31 (dk_at dksJ0_finishToArray_2 14 rfl rfl)
theorem dJ0_finishToArray_65 : decode cJ0_finishToArray 65 = .ok (.areturn, 1) := dk_176 (dk_at dksJ0_finishToArray_2 17 rfl rfl)
abbrev cJ0_isEmpty : ByteArray := prog_57_method_4_code
def yJ0_isEmpty : MethodName := ⟨RJ0, "isEmpty", "()Z"⟩
def dkwJ0_isEmpty_0 : List UInt8 := [42, 182, 0, 7, 154, 0, 7, 4, 167, 0, 4, 3, 172]
abbrev dktJ0_isEmpty_0 : List UInt8 := dkwJ0_isEmpty_0 ++ []
theorem dksJ0_isEmpty_0 : cJ0_isEmpty.data.toList.drop 0 = dktJ0_isEmpty_0 := by decide +kernel
theorem dJ0_isEmpty_0 : decode cJ0_isEmpty 0 = .ok (.aload_n 0, 1) := dk_42 (dk_at dksJ0_isEmpty_0 0 rfl rfl)
theorem dJ0_isEmpty_1 : decode cJ0_isEmpty 1 = .ok (.invokevirtual 7, 3) := dk_182 0 7 (dk_at dksJ0_isEmpty_0 1 rfl rfl)
theorem dJ0_isEmpty_4 : decode cJ0_isEmpty 4 = .ok (.ifCond .ne 7, 3) := dk_154 0 7 (dk_at dksJ0_isEmpty_0 4 rfl rfl)
theorem dJ0_isEmpty_7 : decode cJ0_isEmpty 7 = .ok (.iconst 1, 1) := dk_4 (dk_at dksJ0_isEmpty_0 7 rfl rfl)
theorem dJ0_isEmpty_8 : decode cJ0_isEmpty 8 = .ok (.goto 4, 3) := dk_167 0 4 (dk_at dksJ0_isEmpty_0 8 rfl rfl)
theorem dJ0_isEmpty_11 : decode cJ0_isEmpty 11 = .ok (.iconst 0, 1) := dk_3 (dk_at dksJ0_isEmpty_0 11 rfl rfl)
theorem dJ0_isEmpty_12 : decode cJ0_isEmpty 12 = .ok (.ireturn, 1) := dk_172 (dk_at dksJ0_isEmpty_0 12 rfl rfl)
theorem q90 : (Jvm.Cond.initialized "java/util/AbstractCollection") ∈ lw_all := lw_g (lw_at lw_m1 4 rfl) rfl
theorem q184 : (Jvm.Cond.instanceMethod ({ cls := "java/util/AbstractCollection", name := "<init>", desc := "()V" } : Jvm.MethodName)) ∈ lw_all := lw_g (lw_at lw_m1 98 rfl) rfl
theorem q185 : (Jvm.Cond.code ({ cls := "java/util/AbstractCollection", name := "<init>", desc := "()V" } : Jvm.MethodName) prog_57_method_1_code (1 : Nat) (Option.none : Option Jvm.ClassFile.FieldType)) ∈ lw_all := lw_g (lw_at lw_m1 99 rfl) rfl
theorem q186 : (Jvm.Cond.methodLink "java/util/AbstractCollection" (1 : Nat) ({ cls := "java/lang/Object", name := "<init>", desc := "()V" } : Jvm.MethodName)) ∈ lw_all := lw_g (lw_at lw_m1 100 rfl) rfl
theorem q757 : (Jvm.Cond.instanceMethod ({ cls := "java/util/AbstractCollection", name := "toArray", desc := "()[Ljava/lang/Object;" } : Jvm.MethodName)) ∈ lw_all := lw_g (lw_at lw_m3 191 rfl) rfl
theorem q758 : (Jvm.Cond.publicMethod ({ cls := "java/util/AbstractCollection", name := "toArray", desc := "()[Ljava/lang/Object;" } : Jvm.MethodName)) ∈ lw_tbl := lw_at lw_m3 192 rfl
theorem q759 : (Jvm.Cond.code ({ cls := "java/util/AbstractCollection", name := "toArray", desc := "()[Ljava/lang/Object;" } : Jvm.MethodName) prog_57_method_6_code (4 : Nat) (Option.some (Jvm.ClassFile.FieldType.array (Jvm.ClassFile.FieldType.object "java/lang/Object")))) ∈ lw_all := lw_g (lw_at lw_m3 193 rfl) rfl
theorem q760 : (Jvm.Cond.methodLink "java/util/AbstractCollection" (7 : Nat) ({ cls := "java/util/AbstractCollection", name := "size", desc := "()I" } : Jvm.MethodName)) ∈ lw_all := lw_g (lw_at lw_m3 194 rfl) rfl
theorem q761 : (Jvm.Cond.declares ({ cls := "java/util/AbstractCollection", name := "size", desc := "()I" } : Jvm.MethodName)) ∈ lw_tbl := lw_at lw_m3 195 rfl
theorem q762 : (Jvm.Cond.sameMethod "java/util/AbstractCollection" "java/util/AbstractCollection" "size" "()I") ∈ lw_all := lw_g (lw_at lw_m3 196 rfl) rfl
theorem q789 : (Jvm.Cond.classLink "java/util/AbstractCollection" (2 : Nat) "java/lang/Object") ∈ lw_all := lw_g (lw_at lw_m3 223 rfl) rfl
theorem q790 : (Jvm.Cond.methodLink "java/util/AbstractCollection" (13 : Nat) ({ cls := "java/util/AbstractCollection", name := "iterator", desc := "()Ljava/util/Iterator;" } : Jvm.MethodName)) ∈ lw_all := lw_g (lw_at lw_m3 224 rfl) rfl
theorem q791 : (Jvm.Cond.declares ({ cls := "java/util/AbstractCollection", name := "iterator", desc := "()Ljava/util/Iterator;" } : Jvm.MethodName)) ∈ lw_tbl := lw_at lw_m3 225 rfl
theorem q792 : (Jvm.Cond.sameMethod "java/util/AbstractCollection" "java/util/AbstractCollection" "iterator" "()Ljava/util/Iterator;") ∈ lw_all := lw_g (lw_at lw_m3 226 rfl) rfl
theorem q941 : (Jvm.Cond.interfaceEntry "java/util/AbstractCollection" (17 : Nat)) ∈ lw_tbl := lw_at lw_m4 135 rfl
theorem q942 : (Jvm.Cond.methodLink "java/util/AbstractCollection" (17 : Nat) ({ cls := "java/util/Iterator", name := "hasNext", desc := "()Z" } : Jvm.MethodName)) ∈ lw_all := lw_g (lw_at lw_m4 136 rfl) rfl
theorem q973 : (Jvm.Cond.methodLink "java/util/AbstractCollection" (31 : Nat) ({ cls := "java/util/Arrays", name := "copyOf", desc := "([Ljava/lang/Object;I)[Ljava/lang/Object;" } : Jvm.MethodName)) ∈ lw_all := lw_g (lw_at lw_m4 167 rfl) rfl
theorem q974 : (Jvm.Cond.interfaceEntry "java/util/AbstractCollection" (23 : Nat)) ∈ lw_tbl := lw_at lw_m4 168 rfl
theorem q975 : (Jvm.Cond.methodLink "java/util/AbstractCollection" (23 : Nat) ({ cls := "java/util/Iterator", name := "next", desc := "()Ljava/lang/Object;" } : Jvm.MethodName)) ∈ lw_all := lw_g (lw_at lw_m4 169 rfl) rfl
theorem q1029 : (Jvm.Cond.methodLink "java/util/AbstractCollection" (37 : Nat) ({ cls := "java/util/AbstractCollection", name := "finishToArray", desc := "([Ljava/lang/Object;Ljava/util/Iterator;)[Ljava/lang/Object;" } : Jvm.MethodName)) ∈ lw_all := lw_g (lw_at lw_m4 223 rfl) rfl
theorem q1030 : (Jvm.Cond.static ({ cls := "java/util/AbstractCollection", name := "finishToArray", desc := "([Ljava/lang/Object;Ljava/util/Iterator;)[Ljava/lang/Object;" } : Jvm.MethodName)) ∈ lw_all := lw_g (lw_at lw_m4 224 rfl) rfl
theorem q1031 : (Jvm.Cond.code ({ cls := "java/util/AbstractCollection", name := "finishToArray", desc := "([Ljava/lang/Object;Ljava/util/Iterator;)[Ljava/lang/Object;" } : Jvm.MethodName) prog_57_method_8_code (4 : Nat) (Option.some (Jvm.ClassFile.FieldType.array (Jvm.ClassFile.FieldType.object "java/lang/Object")))) ∈ lw_all := lw_g (lw_at lw_m4 225 rfl) rfl
theorem q1032 : (Jvm.Cond.methodLink "java/util/AbstractCollection" (64 : Nat) ({ cls := "jdk/internal/util/ArraysSupport", name := "newLength", desc := "(III)I" } : Jvm.MethodName)) ∈ lw_all := lw_g (lw_at lw_m4 226 rfl) rfl
theorem q2429 : (Jvm.Cond.declares ({ cls := "java/util/AbstractCollection", name := "isEmpty", desc := "()Z" } : Jvm.MethodName)) ∈ lw_tbl := lw_at lw_m10 183 rfl
theorem q2431 : (Jvm.Cond.instanceMethod ({ cls := "java/util/AbstractCollection", name := "isEmpty", desc := "()Z" } : Jvm.MethodName)) ∈ lw_all := lw_g (lw_at lw_m10 185 rfl) rfl
theorem q2432 : (Jvm.Cond.code ({ cls := "java/util/AbstractCollection", name := "isEmpty", desc := "()Z" } : Jvm.MethodName) prog_57_method_4_code (1 : Nat) (Option.some Jvm.ClassFile.FieldType.boolean)) ∈ lw_all := lw_g (lw_at lw_m10 186 rfl) rfl

end
section
/-! java/util/AbstractList -/
set_option maxRecDepth 100000
def RJ1 : String := "java/util/AbstractList"
abbrev cJ1_init : ByteArray := prog_58_method_1_code
def yJ1_init : MethodName := ⟨RJ1, "<init>", "()V"⟩
def dkwJ1_init_0 : List UInt8 := [42, 183, 0, 1, 42, 3, 181, 0, 7, 177]
abbrev dktJ1_init_0 : List UInt8 := dkwJ1_init_0 ++ []
theorem dksJ1_init_0 : cJ1_init.data.toList.drop 0 = dktJ1_init_0 := by decide +kernel
theorem dJ1_init_0 : decode cJ1_init 0 = .ok (.aload_n 0, 1) := dk_42 (dk_at dksJ1_init_0 0 rfl rfl)
theorem dJ1_init_1 : decode cJ1_init 1 = .ok (.invokespecial 1, 3) := dk_183 0 1 (dk_at dksJ1_init_0 1 rfl rfl)
theorem dJ1_init_4 : decode cJ1_init 4 = .ok (.aload_n 0, 1) := dk_42 (dk_at dksJ1_init_0 4 rfl rfl)
theorem dJ1_init_5 : decode cJ1_init 5 = .ok (.iconst 0, 1) := dk_3 (dk_at dksJ1_init_0 5 rfl rfl)
theorem dJ1_init_6 : decode cJ1_init 6 = .ok (.putfield 7, 3) := dk_181 0 7 (dk_at dksJ1_init_0 6 rfl rfl)
theorem dJ1_init_9 : decode cJ1_init 9 = .ok (.return_, 1) := dk_177 (dk_at dksJ1_init_0 9 rfl rfl)
theorem q91 : (Jvm.Cond.initialized "java/util/AbstractList") ∈ lw_all := lw_g (lw_at lw_m1 5 rfl) rfl
theorem q181 : (Jvm.Cond.instanceMethod ({ cls := "java/util/AbstractList", name := "<init>", desc := "()V" } : Jvm.MethodName)) ∈ lw_all := lw_g (lw_at lw_m1 95 rfl) rfl
theorem q182 : (Jvm.Cond.code ({ cls := "java/util/AbstractList", name := "<init>", desc := "()V" } : Jvm.MethodName) prog_58_method_1_code (1 : Nat) (Option.none : Option Jvm.ClassFile.FieldType)) ∈ lw_all := lw_g (lw_at lw_m1 96 rfl) rfl
theorem q183 : (Jvm.Cond.methodLink "java/util/AbstractList" (1 : Nat) ({ cls := "java/util/AbstractCollection", name := "<init>", desc := "()V" } : Jvm.MethodName)) ∈ lw_all := lw_g (lw_at lw_m1 97 rfl) rfl
theorem q193 : (Jvm.Cond.fieldLink "java/util/AbstractList" (7 : Nat) "java/util/AbstractList" "modCount" "I") ∈ lw_all := lw_g (lw_at lw_m1 107 rfl) rfl
theorem q202 : (Jvm.Cond.soleField "java/util/AbstractList" "modCount") ∈ lw_all := lw_g (lw_at lw_m1 116 rfl) rfl

end
section
/-! java/util/ArrayList -/
set_option maxRecDepth 100000
def RJ2 : String := "java/util/ArrayList"
def TJ2 : u_T := fun k => match k with
  | 0 => ("java/util/AbstractList", "modCount", "I", false)
  | 1 => ("java/util/ArrayList", "elementData", "[Ljava/lang/Object;", false)
  | _ => ("java/util/ArrayList", "size", "I", false)
def tyJ2 : Nat → FieldType := fun k => match k with
  | 0 => .int
  | 1 => .array (.object "java/lang/Object")
  | _ => .int
abbrev wsJ20 : List Cond := u_ws RJ2 TJ2 3
theorem nmJ2 : ∀ a, a < 3 → ∀ b, b < 3 → a ≠ b → (TJ2 a).2.1 ≠ (TJ2 b).2.1 := by decide +kernel
theorem tyJ2_ok : ∀ k, k < 3 → parseFieldDescriptor (TJ2 k).2.2.1 = some (tyJ2 k) := by decide +kernel
abbrev cJ2_init : ByteArray := prog_64_method_2_code
def yJ2_init : MethodName := ⟨RJ2, "<init>", "()V"⟩
def dkwJ2_init_0 : List UInt8 := [42, 183, 0, 1, 42, 178, 0, 39, 181, 0, 9, 177]
abbrev dktJ2_init_0 : List UInt8 := dkwJ2_init_0 ++ []
theorem dksJ2_init_0 : cJ2_init.data.toList.drop 0 = dktJ2_init_0 := by decide +kernel
theorem dJ2_init_0 : decode cJ2_init 0 = .ok (.aload_n 0, 1) := dk_42 (dk_at dksJ2_init_0 0 rfl rfl)
theorem dJ2_init_1 : decode cJ2_init 1 = .ok (.invokespecial 1, 3) := dk_183 0 1 (dk_at dksJ2_init_0 1 rfl rfl)
theorem dJ2_init_4 : decode cJ2_init 4 = .ok (.aload_n 0, 1) := dk_42 (dk_at dksJ2_init_0 4 rfl rfl)
theorem dJ2_init_5 : decode cJ2_init 5 = .ok (.getstatic 39, 3) := dk_178 0 39 (dk_at dksJ2_init_0 5 rfl rfl)
theorem dJ2_init_8 : decode cJ2_init 8 = .ok (.putfield 9, 3) := dk_181 0 9 (dk_at dksJ2_init_0 8 rfl rfl)
theorem dJ2_init_11 : decode cJ2_init 11 = .ok (.return_, 1) := dk_177 (dk_at dksJ2_init_0 11 rfl rfl)
abbrev cJ2_size : ByteArray := prog_64_method_8_code
def yJ2_size : MethodName := ⟨RJ2, "size", "()I"⟩
theorem dJ2_size_0 : decode cJ2_size 0 = .ok (.aload_n 0, 1) := by decide +kernel
theorem dJ2_size_1 : decode cJ2_size 1 = .ok (.getfield 48, 3) := by decide +kernel
theorem dJ2_size_4 : decode cJ2_size 4 = .ok (.ireturn, 1) := by decide +kernel
abbrev cJ2_addAll : ByteArray := prog_64_method_41_code
def yJ2_addAll : MethodName := ⟨RJ2, "addAll", "(Ljava/util/Collection;)Z"⟩
def dkwJ2_addAll_3 : List UInt8 := [181, 0, 48, 4, 172]
abbrev dktJ2_addAll_3 : List UInt8 := dkwJ2_addAll_3 ++ []
def dkwJ2_addAll_2 : List UInt8 := [21, 5, 29, 96, 182, 0, 69, 58, 4, 44, 3, 25, 4, 21, 5, 29, 184, 0, 112, 42, 21, 5, 29, 96]
abbrev dktJ2_addAll_2 : List UInt8 := dkwJ2_addAll_2 ++ dktJ2_addAll_3
def dkwJ2_addAll_1 : List UInt8 := [3, 172, 29, 42, 180, 0, 9, 89, 58, 4, 190, 42, 180, 0, 48, 89, 54, 5, 100, 164, 0, 13, 42]
abbrev dktJ2_addAll_1 : List UInt8 := dkwJ2_addAll_1 ++ dktJ2_addAll_2
def dkwJ2_addAll_0 : List UInt8 := [43, 185, 0, 42, 1, 0, 77, 42, 89, 180, 0, 63, 4, 96, 181, 0, 63, 44, 190, 62, 29, 154, 0, 5]
abbrev dktJ2_addAll_0 : List UInt8 := dkwJ2_addAll_0 ++ dktJ2_addAll_1
theorem dksJ2_addAll_0 : cJ2_addAll.data.toList.drop 0 = dktJ2_addAll_0 := by decide +kernel
theorem dksJ2_addAll_1 : cJ2_addAll.data.toList.drop 24 = dktJ2_addAll_1 := dk_seg dksJ2_addAll_0 24 rfl rfl
theorem dksJ2_addAll_2 : cJ2_addAll.data.toList.drop 47 = dktJ2_addAll_2 := dk_seg dksJ2_addAll_1 23 rfl rfl
theorem dksJ2_addAll_3 : cJ2_addAll.data.toList.drop 71 = dktJ2_addAll_3 := dk_seg dksJ2_addAll_2 24 rfl rfl
theorem dJ2_addAll_0 : decode cJ2_addAll 0 = .ok (.aload_n 1, 1) := dk_43 (dk_at dksJ2_addAll_0 0 rfl rfl)
theorem dJ2_addAll_1 : decode cJ2_addAll 1 = .ok (.invokeinterface 42 1, 5) := by decide +kernel
theorem dJ2_addAll_6 : decode cJ2_addAll 6 = .ok (.astore_n 2, 1) := dk_77 (dk_at dksJ2_addAll_0 6 rfl rfl)
theorem dJ2_addAll_7 : decode cJ2_addAll 7 = .ok (.aload_n 0, 1) := dk_42 (dk_at dksJ2_addAll_0 7 rfl rfl)
theorem dJ2_addAll_8 : decode cJ2_addAll 8 = .ok (.dup, 1) := dk_89 (dk_at dksJ2_addAll_0 8 rfl rfl)
theorem dJ2_addAll_9 : decode cJ2_addAll 9 = .ok (.getfield 63, 3) := dk_180 0 63 (dk_at dksJ2_addAll_0 9 rfl rfl)
theorem dJ2_addAll_12 : decode cJ2_addAll 12 = .ok (.iconst 1, 1) := dk_4 (dk_at dksJ2_addAll_0 12 rfl rfl)
theorem dJ2_addAll_13 : decode cJ2_addAll 13 = .ok (.iadd, 1) := dk_96 (dk_at dksJ2_addAll_0 13 rfl rfl)
theorem dJ2_addAll_14 : decode cJ2_addAll 14 = .ok (.putfield 63, 3) := dk_181 0 63 (dk_at dksJ2_addAll_0 14 rfl rfl)
theorem dJ2_addAll_17 : decode cJ2_addAll 17 = .ok (.aload_n 2, 1) := dk_44 (dk_at dksJ2_addAll_0 17 rfl rfl)
theorem dJ2_addAll_18 : decode cJ2_addAll 18 = .ok (.arraylength, 1) := dk_190 (dk_at dksJ2_addAll_0 18 rfl rfl)
theorem dJ2_addAll_19 : decode cJ2_addAll 19 = .ok (.istore_n 3, 1) := dk_62 (dk_at dksJ2_addAll_0 19 rfl rfl)
theorem dJ2_addAll_20 : decode cJ2_addAll 20 = .ok (.iload_n 3, 1) := dk_29 (dk_at dksJ2_addAll_0 20 rfl rfl)
theorem dJ2_addAll_21 : decode cJ2_addAll 21 = .ok (.ifCond .ne 5, 3) := dk_154 0 5 (dk_at dksJ2_addAll_0 21 rfl rfl)
theorem dJ2_addAll_24 : decode cJ2_addAll 24 = .ok (.iconst 0, 1) := dk_3 (dk_at dksJ2_addAll_1 0 rfl rfl)
theorem dJ2_addAll_25 : decode cJ2_addAll 25 = .ok (.ireturn, 1) := dk_172 (dk_at dksJ2_addAll_1 1 rfl rfl)
theorem dJ2_addAll_26 : decode cJ2_addAll 26 = .ok (.iload_n 3, 1) := dk_29 (dk_at dksJ2_addAll_1 2 rfl rfl)
theorem dJ2_addAll_27 : decode cJ2_addAll 27 = .ok (.aload_n 0, 1) := dk_42 (dk_at dksJ2_addAll_1 3 rfl rfl)
theorem dJ2_addAll_28 : decode cJ2_addAll 28 = .ok (.getfield 9, 3) := dk_180 0 9 (dk_at dksJ2_addAll_1 4 rfl rfl)
theorem dJ2_addAll_31 : decode cJ2_addAll 31 = .ok (.dup, 1) := dk_89 (dk_at dksJ2_addAll_1 7 rfl rfl)
theorem dJ2_addAll_32 : decode cJ2_addAll 32 = .ok (.astore 4, 2) := dk_58 4 (dk_at dksJ2_addAll_1 8 rfl rfl)
theorem dJ2_addAll_34 : decode cJ2_addAll 34 = .ok (.arraylength, 1) := dk_190 (dk_at dksJ2_addAll_1 10 rfl rfl)
theorem dJ2_addAll_35 : decode cJ2_addAll 35 = .ok (.aload_n 0, 1) := dk_42 (dk_at dksJ2_addAll_1 11 rfl rfl)
theorem dJ2_addAll_36 : decode cJ2_addAll 36 = .ok (.getfield 48, 3) := dk_180 0 48 (dk_at dksJ2_addAll_1 12 rfl rfl)
theorem dJ2_addAll_39 : decode cJ2_addAll 39 = .ok (.dup, 1) := dk_89 (dk_at dksJ2_addAll_1 15 rfl rfl)
theorem dJ2_addAll_40 : decode cJ2_addAll 40 = .ok (.istore 5, 2) := dk_54 5 (dk_at dksJ2_addAll_1 16 rfl rfl)
theorem dJ2_addAll_42 : decode cJ2_addAll 42 = .ok (.isub, 1) := dk_100 (dk_at dksJ2_addAll_1 18 rfl rfl)
theorem dJ2_addAll_43 : decode cJ2_addAll 43 = .ok (.if_icmp .le 13, 3) := dk_164 0 13 (dk_at dksJ2_addAll_1 19 rfl rfl)
theorem dJ2_addAll_46 : decode cJ2_addAll 46 = .ok (.aload_n 0, 1) := dk_42 (dk_at dksJ2_addAll_1 22 rfl rfl)
theorem dJ2_addAll_47 : decode cJ2_addAll 47 = .ok (.iload 5, 2) := dk_21 5 (dk_at dksJ2_addAll_2 0 rfl rfl)
theorem dJ2_addAll_49 : decode cJ2_addAll 49 = .ok (.iload_n 3, 1) := dk_29 (dk_at dksJ2_addAll_2 2 rfl rfl)
theorem dJ2_addAll_50 : decode cJ2_addAll 50 = .ok (.iadd, 1) := dk_96 (dk_at dksJ2_addAll_2 3 rfl rfl)
theorem dJ2_addAll_51 : decode cJ2_addAll 51 = .ok (.invokevirtual 69, 3) := dk_182 0 69 (dk_at dksJ2_addAll_2 4 rfl rfl)
theorem dJ2_addAll_54 : decode cJ2_addAll 54 = .ok (.astore 4, 2) := dk_58 4 (dk_at dksJ2_addAll_2 7 rfl rfl)
theorem dJ2_addAll_56 : decode cJ2_addAll 56 = .ok (.aload_n 2, 1) := dk_44 (dk_at dksJ2_addAll_2 9 rfl rfl)
theorem dJ2_addAll_57 : decode cJ2_addAll 57 = .ok (.iconst 0, 1) := dk_3 (dk_at dksJ2_addAll_2 10 rfl rfl)
theorem dJ2_addAll_58 : decode cJ2_addAll 58 = .ok (.aload 4, 2) := dk_25 4 (dk_at dksJ2_addAll_2 11 rfl rfl)
theorem dJ2_addAll_60 : decode cJ2_addAll 60 = .ok (.iload 5, 2) := dk_21 5 (dk_at dksJ2_addAll_2 13 rfl rfl)
theorem dJ2_addAll_62 : decode cJ2_addAll 62 = .ok (.iload_n 3, 1) := dk_29 (dk_at dksJ2_addAll_2 15 rfl rfl)
theorem dJ2_addAll_63 : decode cJ2_addAll 63 = .ok (.invokestatic 112, 3) := dk_184 0 112 (dk_at dksJ2_addAll_2 16 rfl rfl)
theorem dJ2_addAll_66 : decode cJ2_addAll 66 = .ok (.aload_n 0, 1) := dk_42 (dk_at dksJ2_addAll_2 19 rfl rfl)
theorem dJ2_addAll_67 : decode cJ2_addAll 67 = .ok (.iload 5, 2) := dk_21 5 (dk_at dksJ2_addAll_2 20 rfl rfl)
theorem dJ2_addAll_69 : decode cJ2_addAll 69 = .ok (.iload_n 3, 1) := dk_29 (dk_at dksJ2_addAll_2 22 rfl rfl)
theorem dJ2_addAll_70 : decode cJ2_addAll 70 = .ok (.iadd, 1) := dk_96 (dk_at dksJ2_addAll_2 23 rfl rfl)
theorem dJ2_addAll_71 : decode cJ2_addAll 71 = .ok (.putfield 48, 3) := dk_181 0 48 (dk_at dksJ2_addAll_3 0 rfl rfl)
theorem dJ2_addAll_74 : decode cJ2_addAll 74 = .ok (.iconst 1, 1) := dk_4 (dk_at dksJ2_addAll_3 3 rfl rfl)
theorem dJ2_addAll_75 : decode cJ2_addAll 75 = .ok (.ireturn, 1) := dk_172 (dk_at dksJ2_addAll_3 4 rfl rfl)
abbrev cJ2_toArray : ByteArray := prog_64_method_16_code
def yJ2_toArray : MethodName := ⟨RJ2, "toArray", "()[Ljava/lang/Object;"⟩
def dkwJ2_toArray_0 : List UInt8 := [42, 180, 0, 9, 42, 180, 0, 48, 184, 0, 66, 176]
abbrev dktJ2_toArray_0 : List UInt8 := dkwJ2_toArray_0 ++ []
theorem dksJ2_toArray_0 : cJ2_toArray.data.toList.drop 0 = dktJ2_toArray_0 := by decide +kernel
theorem dJ2_toArray_0 : decode cJ2_toArray 0 = .ok (.aload_n 0, 1) := dk_42 (dk_at dksJ2_toArray_0 0 rfl rfl)
theorem dJ2_toArray_1 : decode cJ2_toArray 1 = .ok (.getfield 9, 3) := dk_180 0 9 (dk_at dksJ2_toArray_0 1 rfl rfl)
theorem dJ2_toArray_4 : decode cJ2_toArray 4 = .ok (.aload_n 0, 1) := dk_42 (dk_at dksJ2_toArray_0 4 rfl rfl)
theorem dJ2_toArray_5 : decode cJ2_toArray 5 = .ok (.getfield 48, 3) := dk_180 0 48 (dk_at dksJ2_toArray_0 5 rfl rfl)
theorem dJ2_toArray_8 : decode cJ2_toArray 8 = .ok (.invokestatic 66, 3) := dk_184 0 66 (dk_at dksJ2_toArray_0 8 rfl rfl)
theorem dJ2_toArray_11 : decode cJ2_toArray 11 = .ok (.areturn, 1) := dk_176 (dk_at dksJ2_toArray_0 11 rfl rfl)
abbrev cJ2_iterator : ByteArray := prog_64_method_55_code
def yJ2_iterator : MethodName := ⟨RJ2, "iterator", "()Ljava/util/Iterator;"⟩
def dkwJ2_iterator_0 : List UInt8 := [187, 1, 11, 89, 42, 183, 1, 13, 176]
abbrev dktJ2_iterator_0 : List UInt8 := dkwJ2_iterator_0 ++ []
theorem dksJ2_iterator_0 : cJ2_iterator.data.toList.drop 0 = dktJ2_iterator_0 := by decide +kernel
theorem dJ2_iterator_0 : decode cJ2_iterator 0 = .ok (.new 267, 3) := dk_187 1 11 (dk_at dksJ2_iterator_0 0 rfl rfl)
theorem dJ2_iterator_3 : decode cJ2_iterator 3 = .ok (.dup, 1) := dk_89 (dk_at dksJ2_iterator_0 3 rfl rfl)
theorem dJ2_iterator_4 : decode cJ2_iterator 4 = .ok (.aload_n 0, 1) := dk_42 (dk_at dksJ2_iterator_0 4 rfl rfl)
theorem dJ2_iterator_5 : decode cJ2_iterator 5 = .ok (.invokespecial 269, 3) := dk_183 1 13 (dk_at dksJ2_iterator_0 5 rfl rfl)
theorem dJ2_iterator_8 : decode cJ2_iterator 8 = .ok (.areturn, 1) := dk_176 (dk_at dksJ2_iterator_0 8 rfl rfl)
abbrev cJ2_grow : ByteArray := prog_64_method_6_code
def yJ2_grow : MethodName := ⟨RJ2, "grow", "(I)[Ljava/lang/Object;"⟩
def dkwJ2_grow_2 : List UInt8 := [27, 184, 0, 79, 189, 0, 7, 90, 181, 0, 9, 176]
abbrev dktJ2_grow_2 : List UInt8 := dkwJ2_grow_2 ++ []
def dkwJ2_grow_1 : List UInt8 := [28, 4, 122, 184, 0, 73, 62, 42, 42, 180, 0, 9, 29, 184, 0, 66, 90, 181, 0, 9, 176, 42, 16, 10]
abbrev dktJ2_grow_1 : List UInt8 := dkwJ2_grow_1 ++ dktJ2_grow_2
def dkwJ2_grow_0 : List UInt8 := [42, 180, 0, 9, 190, 61, 28, 157, 0, 13, 42, 180, 0, 9, 178, 0, 39, 165, 0, 28, 28, 27, 28, 100]
abbrev dktJ2_grow_0 : List UInt8 := dkwJ2_grow_0 ++ dktJ2_grow_1
theorem dksJ2_grow_0 : cJ2_grow.data.toList.drop 0 = dktJ2_grow_0 := by decide +kernel
theorem dksJ2_grow_1 : cJ2_grow.data.toList.drop 24 = dktJ2_grow_1 := dk_seg dksJ2_grow_0 24 rfl rfl
theorem dksJ2_grow_2 : cJ2_grow.data.toList.drop 48 = dktJ2_grow_2 := dk_seg dksJ2_grow_1 24 rfl rfl
theorem dJ2_grow_0 : decode cJ2_grow 0 = .ok (.aload_n 0, 1) := dk_42 (dk_at dksJ2_grow_0 0 rfl rfl)
theorem dJ2_grow_1 : decode cJ2_grow 1 = .ok (.getfield 9, 3) := dk_180 0 9 (dk_at dksJ2_grow_0 1 rfl rfl)
theorem dJ2_grow_4 : decode cJ2_grow 4 = .ok (.arraylength, 1) := dk_190 (dk_at dksJ2_grow_0 4 rfl rfl)
theorem dJ2_grow_5 : decode cJ2_grow 5 = .ok (.istore_n 2, 1) := dk_61 (dk_at dksJ2_grow_0 5 rfl rfl)
theorem dJ2_grow_6 : decode cJ2_grow 6 = .ok (.iload_n 2, 1) := dk_28 (dk_at dksJ2_grow_0 6 rfl rfl)
theorem dJ2_grow_7 : decode cJ2_grow 7 = .ok (.ifCond .gt 13, 3) := dk_157 0 13 (dk_at dksJ2_grow_0 7 rfl rfl)
theorem dJ2_grow_10 : decode cJ2_grow 10 = .ok (.aload_n 0, 1) := dk_42 (dk_at dksJ2_grow_0 10 rfl rfl)
theorem dJ2_grow_11 : decode cJ2_grow 11 = .ok (.getfield 9, 3) := dk_180 0 9 (dk_at dksJ2_grow_0 11 rfl rfl)
theorem dJ2_grow_14 : decode cJ2_grow 14 = .ok (.getstatic 39, 3) := dk_178 0 39 (dk_at dksJ2_grow_0 14 rfl rfl)
theorem dJ2_grow_17 : decode cJ2_grow 17 = .ok (.if_acmp .eq 28, 3) := dk_165 0 28 (dk_at dksJ2_grow_0 17 rfl rfl)
theorem dJ2_grow_20 : decode cJ2_grow 20 = .ok (.iload_n 2, 1) := dk_28 (dk_at dksJ2_grow_0 20 rfl rfl)
theorem dJ2_grow_21 : decode cJ2_grow 21 = .ok (.iload_n 1, 1) := dk_27 (dk_at dksJ2_grow_0 21 rfl rfl)
theorem dJ2_grow_22 : decode cJ2_grow 22 = .ok (.iload_n 2, 1) := dk_28 (dk_at dksJ2_grow_0 22 rfl rfl)
theorem dJ2_grow_23 : decode cJ2_grow 23 = .ok (.isub, 1) := dk_100 (dk_at dksJ2_grow_0 23 rfl rfl)
theorem dJ2_grow_24 : decode cJ2_grow 24 = .ok (.iload_n 2, 1) := dk_28 (dk_at dksJ2_grow_1 0 rfl rfl)
theorem dJ2_grow_25 : decode cJ2_grow 25 = .ok (.iconst 1, 1) := dk_4 (dk_at dksJ2_grow_1 1 rfl rfl)
theorem dJ2_grow_26 : decode cJ2_grow 26 = .ok (.ishr, 1) := dk_122 (dk_at dksJ2_grow_1 2 rfl rfl)
theorem dJ2_grow_27 : decode cJ2_grow 27 = .ok (.invokestatic 73, 3) := dk_184 0 73 (dk_at dksJ2_grow_1 3 rfl rfl)
theorem dJ2_grow_30 : decode cJ2_grow 30 = .ok (.istore_n 3, 1) := dk_62 (dk_at dksJ2_grow_1 6 rfl rfl)
theorem dJ2_grow_31 : decode cJ2_grow 31 = .ok (.aload_n 0, 1) := dk_42 (dk_at dksJ2_grow_1 7 rfl rfl)
theorem dJ2_grow_32 : decode cJ2_grow 32 = .ok (.aload_n 0, 1) := dk_42 (dk_at dksJ2_grow_1 8 rfl rfl)
theorem dJ2_grow_33 : decode cJ2_grow 33 = .ok (.getfield 9, 3) := dk_180 0 9 (dk_at dksJ2_grow_1 9 rfl rfl)
theorem dJ2_grow_36 : decode cJ2_grow 36 = .ok (.iload_n 3, 1) := dk_29 (dk_at dksJ2_grow_1 12 rfl rfl)
theorem dJ2_grow_37 : decode cJ2_grow 37 = .ok (.invokestatic 66, 3) := dk_184 0 66 (dk_at dksJ2_grow_1 13 rfl rfl)
theorem dJ2_grow_40 : decode cJ2_grow 40 = .ok (.dup_x1, 1) := dk_90 (dk_at dksJ2_grow_1 16 rfl rfl)
theorem dJ2_grow_41 : decode cJ2_grow 41 = .ok (.putfield 9, 3) := dk_181 0 9 (dk_at dksJ2_grow_1 17 rfl rfl)
theorem dJ2_grow_44 : decode cJ2_grow 44 = .ok (.areturn, 1) := dk_176 (dk_at dksJ2_grow_1 20 rfl rfl)
theorem dJ2_grow_45 : decode cJ2_grow 45 = .ok (.aload_n 0, 1) := dk_42 (dk_at dksJ2_grow_1 21 rfl rfl)
theorem dJ2_grow_46 : decode cJ2_grow 46 = .ok (.bipush 10, 2) := dk_16 10 (dk_at dksJ2_grow_1 22 rfl rfl)
theorem dJ2_grow_48 : decode cJ2_grow 48 = .ok (.iload_n 1, 1) := dk_27 (dk_at dksJ2_grow_2 0 rfl rfl)
theorem dJ2_grow_49 : decode cJ2_grow 49 = .ok (.invokestatic 79, 3) := dk_184 0 79 (dk_at dksJ2_grow_2 1 rfl rfl)
theorem dJ2_grow_52 : decode cJ2_grow 52 = .ok (.anewarray 7, 3) := dk_189 0 7 (dk_at dksJ2_grow_2 4 rfl rfl)
theorem dJ2_grow_55 : decode cJ2_grow 55 = .ok (.dup_x1, 1) := dk_90 (dk_at dksJ2_grow_2 7 rfl rfl)
theorem dJ2_grow_56 : decode cJ2_grow 56 = .ok (.putfield 9, 3) := dk_181 0 9 (dk_at dksJ2_grow_2 8 rfl rfl)
theorem dJ2_grow_59 : decode cJ2_grow 59 = .ok (.areturn, 1) := dk_176 (dk_at dksJ2_grow_2 11 rfl rfl)
abbrev cJ2_add : ByteArray := prog_64_method_25_code
def yJ2_add : MethodName := ⟨RJ2, "add", "(Ljava/lang/Object;)Z"⟩
def dkwJ2_add_1 : List UInt8 := [172]
abbrev dktJ2_add_1 : List UInt8 := dkwJ2_add_1 ++ []
def dkwJ2_add_0 : List UInt8 := [42, 89, 180, 0, 63, 4, 96, 181, 0, 63, 42, 43, 42, 180, 0, 9, 42, 180, 0, 48, 182, 0, 131, 4]
abbrev dktJ2_add_0 : List UInt8 := dkwJ2_add_0 ++ dktJ2_add_1
theorem dksJ2_add_0 : cJ2_add.data.toList.drop 0 = dktJ2_add_0 := by decide +kernel
theorem dksJ2_add_1 : cJ2_add.data.toList.drop 24 = dktJ2_add_1 := dk_seg dksJ2_add_0 24 rfl rfl
theorem dJ2_add_0 : decode cJ2_add 0 = .ok (.aload_n 0, 1) := dk_42 (dk_at dksJ2_add_0 0 rfl rfl)
theorem dJ2_add_1 : decode cJ2_add 1 = .ok (.dup, 1) := dk_89 (dk_at dksJ2_add_0 1 rfl rfl)
theorem dJ2_add_2 : decode cJ2_add 2 = .ok (.getfield 63, 3) := dk_180 0 63 (dk_at dksJ2_add_0 2 rfl rfl)
theorem dJ2_add_5 : decode cJ2_add 5 = .ok (.iconst 1, 1) := dk_4 (dk_at dksJ2_add_0 5 rfl rfl)
theorem dJ2_add_6 : decode cJ2_add 6 = .ok (.iadd, 1) := dk_96 (dk_at dksJ2_add_0 6 rfl rfl)
theorem dJ2_add_7 : decode cJ2_add 7 = .ok (.putfield 63, 3) := dk_181 0 63 (dk_at dksJ2_add_0 7 rfl rfl)
theorem dJ2_add_10 : decode cJ2_add 10 = .ok (.aload_n 0, 1) := dk_42 (dk_at dksJ2_add_0 10 rfl rfl)
theorem dJ2_add_11 : decode cJ2_add 11 = .ok (.aload_n 1, 1) := dk_43 (dk_at dksJ2_add_0 11 rfl rfl)
theorem dJ2_add_12 : decode cJ2_add 12 = .ok (.aload_n 0, 1) := dk_42 (dk_at dksJ2_add_0 12 rfl rfl)
theorem dJ2_add_13 : decode cJ2_add 13 = .ok (.getfield 9, 3) := dk_180 0 9 (dk_at dksJ2_add_0 13 rfl rfl)
theorem dJ2_add_16 : decode cJ2_add 16 = .ok (.aload_n 0, 1) := dk_42 (dk_at dksJ2_add_0 16 rfl rfl)
theorem dJ2_add_17 : decode cJ2_add 17 = .ok (.getfield 48, 3) := dk_180 0 48 (dk_at dksJ2_add_0 17 rfl rfl)
theorem dJ2_add_20 : decode cJ2_add 20 = .ok (.invokevirtual 131, 3) := dk_182 0 131 (dk_at dksJ2_add_0 20 rfl rfl)
theorem dJ2_add_23 : decode cJ2_add 23 = .ok (.iconst 1, 1) := dk_4 (dk_at dksJ2_add_0 23 rfl rfl)
theorem dJ2_add_24 : decode cJ2_add 24 = .ok (.ireturn, 1) := dk_172 (dk_at dksJ2_add_1 0 rfl rfl)
abbrev cJ2_add_2 : ByteArray := prog_64_method_24_code
def yJ2_add_2 : MethodName := ⟨RJ2, "add", "(Ljava/lang/Object;[Ljava/lang/Object;I)V"⟩
def dkwJ2_add_2_0 : List UInt8 := [29, 44, 190, 160, 0, 8, 42, 182, 0, 129, 77, 44, 29, 43, 83, 42, 29, 4, 96, 181, 0, 48, 177]
abbrev dktJ2_add_2_0 : List UInt8 := dkwJ2_add_2_0 ++ []
theorem dksJ2_add_2_0 : cJ2_add_2.data.toList.drop 0 = dktJ2_add_2_0 := by decide +kernel
theorem dJ2_add_2_0 : decode cJ2_add_2 0 = .ok (.iload_n 3, 1) := dk_29 (dk_at dksJ2_add_2_0 0 rfl rfl)
theorem dJ2_add_2_1 : decode cJ2_add_2 1 = .ok (.aload_n 2, 1) := dk_44 (dk_at dksJ2_add_2_0 1 rfl rfl)
theorem dJ2_add_2_2 : decode cJ2_add_2 2 = .ok (.arraylength, 1) := dk_190 (dk_at dksJ2_add_2_0 2 rfl rfl)
theorem dJ2_add_2_3 : decode cJ2_add_2 3 = .ok (.if_icmp .ne 8, 3) := dk_160 0 8 (dk_at dksJ2_add_2_0 3 rfl rfl)
theorem dJ2_add_2_6 : decode cJ2_add_2 6 = .ok (.aload_n 0, 1) := dk_42 (dk_at dksJ2_add_2_0 6 rfl rfl)
theorem dJ2_add_2_7 : decode cJ2_add_2 7 = .ok (.invokevirtual 129, 3) := dk_182 0 129 (dk_at dksJ2_add_2_0 7 rfl rfl)
theorem dJ2_add_2_10 : decode cJ2_add_2 10 = .ok (.astore_n 2, 1) := dk_77 (dk_at dksJ2_add_2_0 10 rfl rfl)
theorem dJ2_add_2_11 : decode cJ2_add_2 11 = .ok (.aload_n 2, 1) := dk_44 (dk_at dksJ2_add_2_0 11 rfl rfl)
theorem dJ2_add_2_12 : decode cJ2_add_2 12 = .ok (.iload_n 3, 1) := dk_29 (dk_at dksJ2_add_2_0 12 rfl rfl)
theorem dJ2_add_2_13 : decode cJ2_add_2 13 = .ok (.aload_n 1, 1) := dk_43 (dk_at dksJ2_add_2_0 13 rfl rfl)
theorem dJ2_add_2_14 : decode cJ2_add_2 14 = .ok (.aastore, 1) := dk_83 (dk_at dksJ2_add_2_0 14 rfl rfl)
theorem dJ2_add_2_15 : decode cJ2_add_2 15 = .ok (.aload_n 0, 1) := dk_42 (dk_at dksJ2_add_2_0 15 rfl rfl)
theorem dJ2_add_2_16 : decode cJ2_add_2 16 = .ok (.iload_n 3, 1) := dk_29 (dk_at dksJ2_add_2_0 16 rfl rfl)
theorem dJ2_add_2_17 : decode cJ2_add_2 17 = .ok (.iconst 1, 1) := dk_4 (dk_at dksJ2_add_2_0 17 rfl rfl)
theorem dJ2_add_2_18 : decode cJ2_add_2 18 = .ok (.iadd, 1) := dk_96 (dk_at dksJ2_add_2_0 18 rfl rfl)
theorem dJ2_add_2_19 : decode cJ2_add_2 19 = .ok (.putfield 48, 3) := dk_181 0 48 (dk_at dksJ2_add_2_0 19 rfl rfl)
theorem dJ2_add_2_22 : decode cJ2_add_2 22 = .ok (.return_, 1) := dk_177 (dk_at dksJ2_add_2_0 22 rfl rfl)
abbrev cJ2_grow_2 : ByteArray := prog_64_method_7_code
def yJ2_grow_2 : MethodName := ⟨RJ2, "grow", "()[Ljava/lang/Object;"⟩
def dkwJ2_grow_2_0 : List UInt8 := [42, 42, 180, 0, 48, 4, 96, 182, 0, 69, 176]
abbrev dktJ2_grow_2_0 : List UInt8 := dkwJ2_grow_2_0 ++ []
theorem dksJ2_grow_2_0 : cJ2_grow_2.data.toList.drop 0 = dktJ2_grow_2_0 := by decide +kernel
theorem dJ2_grow_2_0 : decode cJ2_grow_2 0 = .ok (.aload_n 0, 1) := dk_42 (dk_at dksJ2_grow_2_0 0 rfl rfl)
theorem dJ2_grow_2_1 : decode cJ2_grow_2 1 = .ok (.aload_n 0, 1) := dk_42 (dk_at dksJ2_grow_2_0 1 rfl rfl)
theorem dJ2_grow_2_2 : decode cJ2_grow_2 2 = .ok (.getfield 48, 3) := dk_180 0 48 (dk_at dksJ2_grow_2_0 2 rfl rfl)
theorem dJ2_grow_2_5 : decode cJ2_grow_2 5 = .ok (.iconst 1, 1) := dk_4 (dk_at dksJ2_grow_2_0 5 rfl rfl)
theorem dJ2_grow_2_6 : decode cJ2_grow_2 6 = .ok (.iadd, 1) := dk_96 (dk_at dksJ2_grow_2_0 6 rfl rfl)
theorem dJ2_grow_2_7 : decode cJ2_grow_2 7 = .ok (.invokevirtual 69, 3) := dk_182 0 69 (dk_at dksJ2_grow_2_0 7 rfl rfl)
theorem dJ2_grow_2_10 : decode cJ2_grow_2 10 = .ok (.areturn, 1) := dk_176 (dk_at dksJ2_grow_2_0 10 rfl rfl)
abbrev cJ2_get : ByteArray := prog_64_method_20_code
def yJ2_get : MethodName := ⟨RJ2, "get", "(I)Ljava/lang/Object;"⟩
def dkwJ2_get_0 : List UInt8 := [27, 42, 180, 0, 48, 184, 0, 118, 87, 42, 27, 182, 0, 123, 176]
abbrev dktJ2_get_0 : List UInt8 := dkwJ2_get_0 ++ []
theorem dksJ2_get_0 : cJ2_get.data.toList.drop 0 = dktJ2_get_0 := by decide +kernel
theorem dJ2_get_0 : decode cJ2_get 0 = .ok (.iload_n 1, 1) := dk_27 (dk_at dksJ2_get_0 0 rfl rfl)
theorem dJ2_get_1 : decode cJ2_get 1 = .ok (.aload_n 0, 1) := dk_42 (dk_at dksJ2_get_0 1 rfl rfl)
theorem dJ2_get_2 : decode cJ2_get 2 = .ok (.getfield 48, 3) := dk_180 0 48 (dk_at dksJ2_get_0 2 rfl rfl)
theorem dJ2_get_5 : decode cJ2_get 5 = .ok (.invokestatic 118, 3) := dk_184 0 118 (dk_at dksJ2_get_0 5 rfl rfl)
theorem dJ2_get_8 : decode cJ2_get 8 = .ok (.pop, 1) := dk_87 (dk_at dksJ2_get_0 8 rfl rfl)
theorem dJ2_get_9 : decode cJ2_get 9 = .ok (.aload_n 0, 1) := dk_42 (dk_at dksJ2_get_0 9 rfl rfl)
theorem dJ2_get_10 : decode cJ2_get 10 = .ok (.iload_n 1, 1) := dk_27 (dk_at dksJ2_get_0 10 rfl rfl)
theorem dJ2_get_11 : decode cJ2_get 11 = .ok (.invokevirtual 123, 3) := dk_182 0 123 (dk_at dksJ2_get_0 11 rfl rfl)
theorem dJ2_get_14 : decode cJ2_get 14 = .ok (.areturn, 1) := dk_176 (dk_at dksJ2_get_0 14 rfl rfl)
abbrev cJ2_elementData : ByteArray := prog_64_method_18_code
def yJ2_elementData : MethodName := ⟨RJ2, "elementData", "(I)Ljava/lang/Object;"⟩
def dkwJ2_elementData_0 : List UInt8 := [42, 180, 0, 9, 27, 50, 176]
abbrev dktJ2_elementData_0 : List UInt8 := dkwJ2_elementData_0 ++ []
theorem dksJ2_elementData_0 : cJ2_elementData.data.toList.drop 0 = dktJ2_elementData_0 := by decide +kernel
theorem dJ2_elementData_0 : decode cJ2_elementData 0 = .ok (.aload_n 0, 1) := dk_42 (dk_at dksJ2_elementData_0 0 rfl rfl)
theorem dJ2_elementData_1 : decode cJ2_elementData 1 = .ok (.getfield 9, 3) := dk_180 0 9 (dk_at dksJ2_elementData_0 1 rfl rfl)
theorem dJ2_elementData_4 : decode cJ2_elementData 4 = .ok (.iload_n 1, 1) := dk_27 (dk_at dksJ2_elementData_0 4 rfl rfl)
theorem dJ2_elementData_5 : decode cJ2_elementData 5 = .ok (.aaload, 1) := dk_50 (dk_at dksJ2_elementData_0 5 rfl rfl)
theorem dJ2_elementData_6 : decode cJ2_elementData 6 = .ok (.areturn, 1) := dk_176 (dk_at dksJ2_elementData_0 6 rfl rfl)
abbrev cJ2_clear : ByteArray := prog_64_method_40_code
def yJ2_clear : MethodName := ⟨RJ2, "clear", "()V"⟩
def dkwJ2_clear_1 : List UInt8 := [181, 0, 48, 62, 29, 28, 162, 0, 13, 43, 29, 1, 83, 132, 3, 1, 167, 255, 244, 177]
abbrev dktJ2_clear_1 : List UInt8 := dkwJ2_clear_1 ++ []
def dkwJ2_clear_0 : List UInt8 := [42, 89, 180, 0, 63, 4, 96, 181, 0, 63, 42, 180, 0, 9, 76, 42, 180, 0, 48, 61, 42, 3, 90]
abbrev dktJ2_clear_0 : List UInt8 := dkwJ2_clear_0 ++ dktJ2_clear_1
theorem dksJ2_clear_0 : cJ2_clear.data.toList.drop 0 = dktJ2_clear_0 := by decide +kernel
theorem dksJ2_clear_1 : cJ2_clear.data.toList.drop 23 = dktJ2_clear_1 := dk_seg dksJ2_clear_0 23 rfl rfl
theorem dJ2_clear_0 : decode cJ2_clear 0 = .ok (.aload_n 0, 1) := dk_42 (dk_at dksJ2_clear_0 0 rfl rfl)
theorem dJ2_clear_1 : decode cJ2_clear 1 = .ok (.dup, 1) := dk_89 (dk_at dksJ2_clear_0 1 rfl rfl)
theorem dJ2_clear_2 : decode cJ2_clear 2 = .ok (.getfield 63, 3) := dk_180 0 63 (dk_at dksJ2_clear_0 2 rfl rfl)
theorem dJ2_clear_5 : decode cJ2_clear 5 = .ok (.iconst 1, 1) := dk_4 (dk_at dksJ2_clear_0 5 rfl rfl)
theorem dJ2_clear_6 : decode cJ2_clear 6 = .ok (.iadd, 1) := dk_96 (dk_at dksJ2_clear_0 6 rfl rfl)
theorem dJ2_clear_7 : decode cJ2_clear 7 = .ok (.putfield 63, 3) := dk_181 0 63 (dk_at dksJ2_clear_0 7 rfl rfl)
theorem dJ2_clear_10 : decode cJ2_clear 10 = .ok (.aload_n 0, 1) := dk_42 (dk_at dksJ2_clear_0 10 rfl rfl)
theorem dJ2_clear_11 : decode cJ2_clear 11 = .ok (.getfield 9, 3) := dk_180 0 9 (dk_at dksJ2_clear_0 11 rfl rfl)
theorem dJ2_clear_14 : decode cJ2_clear 14 = .ok (.astore_n 1, 1) := dk_76 (dk_at dksJ2_clear_0 14 rfl rfl)
theorem dJ2_clear_15 : decode cJ2_clear 15 = .ok (.aload_n 0, 1) := dk_42 (dk_at dksJ2_clear_0 15 rfl rfl)
theorem dJ2_clear_16 : decode cJ2_clear 16 = .ok (.getfield 48, 3) := dk_180 0 48 (dk_at dksJ2_clear_0 16 rfl rfl)
theorem dJ2_clear_19 : decode cJ2_clear 19 = .ok (.istore_n 2, 1) := dk_61 (dk_at dksJ2_clear_0 19 rfl rfl)
theorem dJ2_clear_20 : decode cJ2_clear 20 = .ok (.aload_n 0, 1) := dk_42 (dk_at dksJ2_clear_0 20 rfl rfl)
theorem dJ2_clear_21 : decode cJ2_clear 21 = .ok (.iconst 0, 1) := dk_3 (dk_at dksJ2_clear_0 21 rfl rfl)
theorem dJ2_clear_22 : decode cJ2_clear 22 = .ok (.dup_x1, 1) := dk_90 (dk_at dksJ2_clear_0 22 rfl rfl)
theorem dJ2_clear_23 : decode cJ2_clear 23 = .ok (.putfield 48, 3) := dk_181 0 48 (dk_at dksJ2_clear_1 0 rfl rfl)
theorem dJ2_clear_26 : decode cJ2_clear 26 = .ok (.istore_n 3, 1) := dk_62 (dk_at dksJ2_clear_1 3 rfl rfl)
theorem dJ2_clear_27 : decode cJ2_clear 27 = .ok (.iload_n 3, 1) := dk_29 (dk_at dksJ2_clear_1 4 rfl rfl)
theorem dJ2_clear_28 : decode cJ2_clear 28 = .ok (.iload_n 2, 1) := dk_28 (dk_at dksJ2_clear_1 5 rfl rfl)
theorem dJ2_clear_29 : decode cJ2_clear 29 = .ok (.if_icmp .ge 13, 3) := dk_162 0 13 (dk_at dksJ2_clear_1 6 rfl rfl)
theorem dJ2_clear_32 : decode cJ2_clear 32 = .ok (.aload_n 1, 1) := dk_43 (dk_at dksJ2_clear_1 9 rfl rfl)
theorem dJ2_clear_33 : decode cJ2_clear 33 = .ok (.iload_n 3, 1) := dk_29 (dk_at dksJ2_clear_1 10 rfl rfl)
theorem dJ2_clear_34 : decode cJ2_clear 34 = .ok (.aconst_null, 1) := dk_1 (dk_at dksJ2_clear_1 11 rfl rfl)
theorem dJ2_clear_35 : decode cJ2_clear 35 = .ok (.aastore, 1) := dk_83 (dk_at dksJ2_clear_1 12 rfl rfl)
theorem dJ2_clear_36 : decode cJ2_clear 36 = .ok (.iinc 3 1, 3) := dk_132 3 1 (dk_at dksJ2_clear_1 13 rfl rfl)
theorem dJ2_clear_39 : decode cJ2_clear 39 = .ok (.goto (-12), 3) := dk_167 255 244 (dk_at dksJ2_clear_1 16 rfl rfl)
theorem dJ2_clear_42 : decode cJ2_clear 42 = .ok (.return_, 1) := dk_177 (dk_at dksJ2_clear_1 19 rfl rfl)
abbrev cJ2_remove : ByteArray := prog_64_method_29_code
def yJ2_remove : MethodName := ⟨RJ2, "remove", "(I)Ljava/lang/Object;"⟩
def dkwJ2_remove_1 : List UInt8 := [45, 176]
abbrev dktJ2_remove_1 : List UInt8 := dkwJ2_remove_1 ++ []
def dkwJ2_remove_0 : List UInt8 := [27, 42, 180, 0, 48, 184, 0, 118, 87, 42, 180, 0, 9, 77, 44, 27, 50, 78, 42, 44, 27, 182, 0, 144]
abbrev dktJ2_remove_0 : List UInt8 := dkwJ2_remove_0 ++ dktJ2_remove_1
theorem dksJ2_remove_0 : cJ2_remove.data.toList.drop 0 = dktJ2_remove_0 := by decide +kernel
theorem dksJ2_remove_1 : cJ2_remove.data.toList.drop 24 = dktJ2_remove_1 := dk_seg dksJ2_remove_0 24 rfl rfl
theorem dJ2_remove_0 : decode cJ2_remove 0 = .ok (.iload_n 1, 1) := dk_27 (dk_at dksJ2_remove_0 0 rfl rfl)
theorem dJ2_remove_1 : decode cJ2_remove 1 = .ok (.aload_n 0, 1) := dk_42 (dk_at dksJ2_remove_0 1 rfl rfl)
theorem dJ2_remove_2 : decode cJ2_remove 2 = .ok (.getfield 48, 3) := dk_180 0 48 (dk_at dksJ2_remove_0 2 rfl rfl)
theorem dJ2_remove_5 : decode cJ2_remove 5 = .ok (.invokestatic 118, 3) := dk_184 0 118 (dk_at dksJ2_remove_0 5 rfl rfl)
theorem dJ2_remove_8 : decode cJ2_remove 8 = .ok (.pop, 1) := dk_87 (dk_at dksJ2_remove_0 8 rfl rfl)
theorem dJ2_remove_9 : decode cJ2_remove 9 = .ok (.aload_n 0, 1) := dk_42 (dk_at dksJ2_remove_0 9 rfl rfl)
theorem dJ2_remove_10 : decode cJ2_remove 10 = .ok (.getfield 9, 3) := dk_180 0 9 (dk_at dksJ2_remove_0 10 rfl rfl)
theorem dJ2_remove_13 : decode cJ2_remove 13 = .ok (.astore_n 2, 1) := dk_77 (dk_at dksJ2_remove_0 13 rfl rfl)
theorem dJ2_remove_14 : decode cJ2_remove 14 = .ok (.aload_n 2, 1) := dk_44 (dk_at dksJ2_remove_0 14 rfl rfl)
theorem dJ2_remove_15 : decode cJ2_remove 15 = .ok (.iload_n 1, 1) := dk_27 (dk_at dksJ2_remove_0 15 rfl rfl)
theorem dJ2_remove_16 : decode cJ2_remove 16 = .ok (.aaload, 1) := dk_50 (dk_at dksJ2_remove_0 16 rfl rfl)
theorem dJ2_remove_17 : decode cJ2_remove 17 = .ok (.astore_n 3, 1) := dk_78 (dk_at dksJ2_remove_0 17 rfl rfl)
theorem dJ2_remove_18 : decode cJ2_remove 18 = .ok (.aload_n 0, 1) := dk_42 (dk_at dksJ2_remove_0 18 rfl rfl)
theorem dJ2_remove_19 : decode cJ2_remove 19 = .ok (.aload_n 2, 1) := dk_44 (dk_at dksJ2_remove_0 19 rfl rfl)
theorem dJ2_remove_20 : decode cJ2_remove 20 = .ok (.iload_n 1, 1) := dk_27 (dk_at dksJ2_remove_0 20 rfl rfl)
theorem dJ2_remove_21 : decode cJ2_remove 21 = .ok (.invokevirtual 144, 3) := dk_182 0 144 (dk_at dksJ2_remove_0 21 rfl rfl)
theorem dJ2_remove_24 : decode cJ2_remove 24 = .ok (.aload_n 3, 1) := dk_45 (dk_at dksJ2_remove_1 0 rfl rfl)
theorem dJ2_remove_25 : decode cJ2_remove 25 = .ok (.areturn, 1) := dk_176 (dk_at dksJ2_remove_1 1 rfl rfl)
abbrev cJ2_fastRemove : ByteArray := prog_64_method_39_code
def yJ2_fastRemove : MethodName := ⟨RJ2, "fastRemove", "([Ljava/lang/Object;I)V"⟩
def dkwJ2_fastRemove_1 : List UInt8 := [4, 96, 43, 28, 29, 28, 100, 184, 0, 112, 43, 42, 29, 90, 181, 0, 48, 1, 83, 177]
abbrev dktJ2_fastRemove_1 : List UInt8 := dkwJ2_fastRemove_1 ++ []
def dkwJ2_fastRemove_0 : List UInt8 := [42, 89, 180, 0, 63, 4, 96, 181, 0, 63, 42, 180, 0, 48, 4, 100, 89, 62, 28, 164, 0, 15, 43, 28]
abbrev dktJ2_fastRemove_0 : List UInt8 := dkwJ2_fastRemove_0 ++ dktJ2_fastRemove_1
theorem dksJ2_fastRemove_0 : cJ2_fastRemove.data.toList.drop 0 = dktJ2_fastRemove_0 := by decide +kernel
theorem dksJ2_fastRemove_1 : cJ2_fastRemove.data.toList.drop 24 = dktJ2_fastRemove_1 := dk_seg dksJ2_fastRemove_0 24 rfl rfl
theorem dJ2_fastRemove_0 : decode cJ2_fastRemove 0 = .ok (.aload_n 0, 1) := dk_42 (dk_at dksJ2_fastRemove_0 0 rfl rfl)
theorem dJ2_fastRemove_1 : decode cJ2_fastRemove 1 = .ok (.dup, 1) := dk_89 (dk_at dksJ2_fastRemove_0 1 rfl rfl)
theorem dJ2_fastRemove_2 : decode cJ2_fastRemove 2 = .ok (.getfield 63, 3) := dk_180 0 63 (dk_at dksJ2_fastRemove_0 2 rfl rfl)
theorem dJ2_fastRemove_5 : decode cJ2_fastRemove 5 = .ok (.iconst 1, 1) := dk_4 (dk_at dksJ2_fastRemove_0 5 rfl rfl)
theorem dJ2_fastRemove_6 : decode cJ2_fastRemove 6 = .ok (.iadd, 1) := dk_96 (dk_at dksJ2_fastRemove_0 6 rfl rfl)
theorem dJ2_fastRemove_7 : decode cJ2_fastRemove 7 = .ok (.putfield 63, 3) := dk_181 0 63 (dk_at dksJ2_fastRemove_0 7 rfl rfl)
theorem dJ2_fastRemove_10 : decode cJ2_fastRemove 10 = .ok (.aload_n 0, 1) := dk_42 (dk_at dksJ2_fastRemove_0 10 rfl rfl)
theorem dJ2_fastRemove_11 : decode cJ2_fastRemove 11 = .ok (.getfield 48, 3) := dk_180 0 48 (dk_at dksJ2_fastRemove_0 11 rfl rfl)
theorem dJ2_fastRemove_14 : decode cJ2_fastRemove 14 = .ok (.iconst 1, 1) := dk_4 (dk_at dksJ2_fastRemove_0 14 rfl rfl)
theorem dJ2_fastRemove_15 : decode cJ2_fastRemove 15 = .ok (.isub, 1) := dk_100 (dk_at dksJ2_fastRemove_0 15 rfl rfl)
theorem dJ2_fastRemove_16 : decode cJ2_fastRemove 16 = .ok (.dup, 1) := dk_89 (dk_at dksJ2_fastRemove_0 16 rfl rfl)
theorem dJ2_fastRemove_17 : decode cJ2_fastRemove 17 = .ok (.istore_n 3, 1) := dk_62 (dk_at dksJ2_fastRemove_0 17 rfl rfl)
theorem dJ2_fastRemove_18 : decode cJ2_fastRemove 18 = .ok (.iload_n 2, 1) := dk_28 (dk_at dksJ2_fastRemove_0 18 rfl rfl)
theorem dJ2_fastRemove_19 : decode cJ2_fastRemove 19 = .ok (.if_icmp .le 15, 3) := dk_164 0 15 (dk_at dksJ2_fastRemove_0 19 rfl rfl)
theorem dJ2_fastRemove_22 : decode cJ2_fastRemove 22 = .ok (.aload_n 1, 1) := dk_43 (dk_at dksJ2_fastRemove_0 22 rfl rfl)
theorem dJ2_fastRemove_23 : decode cJ2_fastRemove 23 = .ok (.iload_n 2, 1) := dk_28 (dk_at dksJ2_fastRemove_0 23 rfl rfl)
theorem dJ2_fastRemove_24 : decode cJ2_fastRemove 24 = .ok (.iconst 1, 1) := dk_4 (dk_at dksJ2_fastRemove_1 0 rfl rfl)
theorem dJ2_fastRemove_25 : decode cJ2_fastRemove 25 = .ok (.iadd, 1) := dk_96 (dk_at dksJ2_fastRemove_1 1 rfl rfl)
theorem dJ2_fastRemove_26 : decode cJ2_fastRemove 26 = .ok (.aload_n 1, 1) := dk_43 (dk_at dksJ2_fastRemove_1 2 rfl rfl)
theorem dJ2_fastRemove_27 : decode cJ2_fastRemove 27 = .ok (.iload_n 2, 1) := dk_28 (dk_at dksJ2_fastRemove_1 3 rfl rfl)
theorem dJ2_fastRemove_28 : decode cJ2_fastRemove 28 = .ok (.iload_n 3, 1) := dk_29 (dk_at dksJ2_fastRemove_1 4 rfl rfl)
theorem dJ2_fastRemove_29 : decode cJ2_fastRemove 29 = .ok (.iload_n 2, 1) := dk_28 (dk_at dksJ2_fastRemove_1 5 rfl rfl)
theorem dJ2_fastRemove_30 : decode cJ2_fastRemove 30 = .ok (.isub, 1) := dk_100 (dk_at dksJ2_fastRemove_1 6 rfl rfl)
theorem dJ2_fastRemove_31 : decode cJ2_fastRemove 31 = .ok (.invokestatic 112, 3) := dk_184 0 112 (dk_at dksJ2_fastRemove_1 7 rfl rfl)
theorem dJ2_fastRemove_34 : decode cJ2_fastRemove 34 = .ok (.aload_n 1, 1) := dk_43 (dk_at dksJ2_fastRemove_1 10 rfl rfl)
theorem dJ2_fastRemove_35 : decode cJ2_fastRemove 35 = .ok (.aload_n 0, 1) := dk_42 (dk_at dksJ2_fastRemove_1 11 rfl rfl)
theorem dJ2_fastRemove_36 : decode cJ2_fastRemove 36 = .ok (.iload_n 3, 1) := dk_29 (dk_at dksJ2_fastRemove_1 12 rfl rfl)
theorem dJ2_fastRemove_37 : decode cJ2_fastRemove 37 = .ok (.dup_x1, 1) := dk_90 (dk_at dksJ2_fastRemove_1 13 rfl rfl)
theorem dJ2_fastRemove_38 : decode cJ2_fastRemove 38 = .ok (.putfield 48, 3) := dk_181 0 48 (dk_at dksJ2_fastRemove_1 14 rfl rfl)
theorem dJ2_fastRemove_41 : decode cJ2_fastRemove 41 = .ok (.aconst_null, 1) := dk_1 (dk_at dksJ2_fastRemove_1 17 rfl rfl)
theorem dJ2_fastRemove_42 : decode cJ2_fastRemove 42 = .ok (.aastore, 1) := dk_83 (dk_at dksJ2_fastRemove_1 18 rfl rfl)
theorem dJ2_fastRemove_43 : decode cJ2_fastRemove 43 = .ok (.return_, 1) := dk_177 (dk_at dksJ2_fastRemove_1 19 rfl rfl)
theorem q92 : (Jvm.Cond.initialized "java/util/ArrayList") ∈ lw_all := lw_g (lw_at lw_m1 6 rfl) rfl
theorem q176 : (Jvm.Cond.instantiable "java/util/ArrayList" (3 : Nat)) ∈ lw_all := lw_g (lw_at lw_m1 90 rfl) rfl
theorem q178 : (Jvm.Cond.instanceMethod ({ cls := "java/util/ArrayList", name := "<init>", desc := "()V" } : Jvm.MethodName)) ∈ lw_all := lw_g (lw_at lw_m1 92 rfl) rfl
theorem q179 : (Jvm.Cond.code ({ cls := "java/util/ArrayList", name := "<init>", desc := "()V" } : Jvm.MethodName) prog_64_method_2_code (1 : Nat) (Option.none : Option Jvm.ClassFile.FieldType)) ∈ lw_all := lw_g (lw_at lw_m1 93 rfl) rfl
theorem q180 : (Jvm.Cond.methodLink "java/util/ArrayList" (1 : Nat) ({ cls := "java/util/AbstractList", name := "<init>", desc := "()V" } : Jvm.MethodName)) ∈ lw_all := lw_g (lw_at lw_m1 94 rfl) rfl
theorem q187 : (Jvm.Cond.fieldLink "java/util/ArrayList" (39 : Nat) "java/util/ArrayList" "DEFAULTCAPACITY_EMPTY_ELEMENTDATA" "[Ljava/lang/Object;") ∈ lw_all := lw_g (lw_at lw_m1 101 rfl) rfl
theorem q188 : (Jvm.Cond.laysStatic "java/util/ArrayList" "DEFAULTCAPACITY_EMPTY_ELEMENTDATA" "[Ljava/lang/Object;") ∈ lw_tbl := lw_at lw_m1 102 rfl
theorem q189 : (Jvm.Cond.fieldLink "java/util/ArrayList" (9 : Nat) "java/util/ArrayList" "elementData" "[Ljava/lang/Object;") ∈ lw_all := lw_g (lw_at lw_m1 103 rfl) rfl
theorem q192 : (Jvm.Cond.fieldLink "java/util/ArrayList" (48 : Nat) "java/util/ArrayList" "size" "I") ∈ lw_all := lw_g (lw_at lw_m1 106 rfl) rfl
theorem q195 : (Jvm.Cond.sameField "java/util/ArrayList" "java/util/AbstractList" "modCount" "I") ∈ lw_all := lw_g (lw_at lw_m1 109 rfl) rfl
theorem q196 : (Jvm.Cond.fieldLink "java/util/ArrayList" (63 : Nat) "java/util/ArrayList" "modCount" "I") ∈ lw_all := lw_g (lw_at lw_m1 110 rfl) rfl
theorem q197 : (Jvm.Cond.lays "java/util/ArrayList" "java/util/ArrayList" "elementData" "[Ljava/lang/Object;") ∈ lw_all := lw_g (lw_at lw_m1 111 rfl) rfl
theorem q198 : (Jvm.Cond.soleField "java/util/ArrayList" "elementData") ∈ lw_all := lw_g (lw_at lw_m1 112 rfl) rfl
theorem q199 : (Jvm.Cond.lays "java/util/ArrayList" "java/util/ArrayList" "size" "I") ∈ lw_all := lw_g (lw_at lw_m1 113 rfl) rfl
theorem q200 : (Jvm.Cond.soleField "java/util/ArrayList" "size") ∈ lw_all := lw_g (lw_at lw_m1 114 rfl) rfl
theorem q201 : (Jvm.Cond.lays "java/util/ArrayList" "java/util/AbstractList" "modCount" "I") ∈ lw_all := lw_g (lw_at lw_m1 115 rfl) rfl
theorem q203 : (Jvm.Cond.superclass "java/util/ArrayList" "java/util/AbstractList") ∈ lw_all := lw_g (lw_at lw_m1 117 rfl) rfl
theorem q420 : (Jvm.Cond.instanceMethod ({ cls := "java/util/ArrayList", name := "size", desc := "()I" } : Jvm.MethodName)) ∈ lw_all := lw_g (lw_at lw_m2 94 rfl) rfl
theorem q421 : (Jvm.Cond.selects "java/util/ArrayList" ({ cls := "java/util/ArrayList", name := "size", desc := "()I" } : Jvm.MethodName) ({ cls := "java/util/ArrayList", name := "size", desc := "()I" } : Jvm.MethodName)) ∈ lw_all := lw_g (lw_at lw_m2 95 rfl) rfl
theorem q422 : (Jvm.Cond.code ({ cls := "java/util/ArrayList", name := "size", desc := "()I" } : Jvm.MethodName) prog_64_method_8_code (1 : Nat) (Option.some Jvm.ClassFile.FieldType.int)) ∈ lw_all := lw_g (lw_at lw_m2 96 rfl) rfl
theorem q657 : (Jvm.Cond.instanceMethod ({ cls := "java/util/ArrayList", name := "addAll", desc := "(Ljava/util/Collection;)Z" } : Jvm.MethodName)) ∈ lw_all := lw_g (lw_at lw_m3 91 rfl) rfl
theorem q658 : (Jvm.Cond.selects "java/util/ArrayList" ({ cls := "java/util/ArrayList", name := "addAll", desc := "(Ljava/util/Collection;)Z" } : Jvm.MethodName) ({ cls := "java/util/ArrayList", name := "addAll", desc := "(Ljava/util/Collection;)Z" } : Jvm.MethodName)) ∈ lw_all := lw_g (lw_at lw_m3 92 rfl) rfl
theorem q659 : (Jvm.Cond.code ({ cls := "java/util/ArrayList", name := "addAll", desc := "(Ljava/util/Collection;)Z" } : Jvm.MethodName) prog_64_method_41_code (6 : Nat) (Option.some Jvm.ClassFile.FieldType.boolean)) ∈ lw_all := lw_g (lw_at lw_m3 93 rfl) rfl
theorem q660 : (Jvm.Cond.interfaceEntry "java/util/ArrayList" (42 : Nat)) ∈ lw_tbl := lw_at lw_m3 94 rfl
theorem q661 : (Jvm.Cond.methodLink "java/util/ArrayList" (42 : Nat) ({ cls := "java/util/Collection", name := "toArray", desc := "()[Ljava/lang/Object;" } : Jvm.MethodName)) ∈ lw_all := lw_g (lw_at lw_m3 95 rfl) rfl
theorem q685 : (Jvm.Cond.castable "java/util/ArrayList" "java/util/Collection") ∈ lw_tbl := lw_at lw_m3 119 rfl
theorem q686 : (Jvm.Cond.selects "java/util/ArrayList" ({ cls := "java/util/Collection", name := "toArray", desc := "()[Ljava/lang/Object;" } : Jvm.MethodName) ({ cls := "java/util/ArrayList", name := "toArray", desc := "()[Ljava/lang/Object;" } : Jvm.MethodName)) ∈ lw_all := lw_g (lw_at lw_m3 120 rfl) rfl
theorem q687 : (Jvm.Cond.unhidden "java/util/ArrayList" "toArray" "()[Ljava/lang/Object;") ∈ lw_tbl := lw_at lw_m3 121 rfl
theorem q688 : (Jvm.Cond.instanceMethod ({ cls := "java/util/ArrayList", name := "toArray", desc := "()[Ljava/lang/Object;" } : Jvm.MethodName)) ∈ lw_all := lw_g (lw_at lw_m3 122 rfl) rfl
theorem q689 : (Jvm.Cond.publicMethod ({ cls := "java/util/ArrayList", name := "toArray", desc := "()[Ljava/lang/Object;" } : Jvm.MethodName)) ∈ lw_tbl := lw_at lw_m3 123 rfl
theorem q690 : (Jvm.Cond.code ({ cls := "java/util/ArrayList", name := "toArray", desc := "()[Ljava/lang/Object;" } : Jvm.MethodName) prog_64_method_16_code (1 : Nat) (Option.some (Jvm.ClassFile.FieldType.array (Jvm.ClassFile.FieldType.object "java/lang/Object")))) ∈ lw_all := lw_g (lw_at lw_m3 124 rfl) rfl
theorem q691 : (Jvm.Cond.methodLink "java/util/ArrayList" (66 : Nat) ({ cls := "java/util/Arrays", name := "copyOf", desc := "([Ljava/lang/Object;I)[Ljava/lang/Object;" } : Jvm.MethodName)) ∈ lw_all := lw_g (lw_at lw_m3 125 rfl) rfl
theorem q733 : (Jvm.Cond.selects "java/util/ArrayList" ({ cls := "java/lang/Object", name := "getClass", desc := "()Ljava/lang/Class;" } : Jvm.MethodName) ({ cls := "java/lang/Object", name := "getClass", desc := "()Ljava/lang/Class;" } : Jvm.MethodName)) ∈ lw_all := lw_g (lw_at lw_m3 167 rfl) rfl
theorem q769 : (Jvm.Cond.selects "java/util/ArrayList" ({ cls := "java/util/AbstractCollection", name := "size", desc := "()I" } : Jvm.MethodName) ({ cls := "java/util/ArrayList", name := "size", desc := "()I" } : Jvm.MethodName)) ∈ lw_all := lw_g (lw_at lw_m3 203 rfl) rfl
theorem q816 : (Jvm.Cond.selects "java/util/ArrayList" ({ cls := "java/util/AbstractCollection", name := "iterator", desc := "()Ljava/util/Iterator;" } : Jvm.MethodName) ({ cls := "java/util/ArrayList", name := "iterator", desc := "()Ljava/util/Iterator;" } : Jvm.MethodName)) ∈ lw_all := lw_g (lw_at lw_m4 10 rfl) rfl
theorem q817 : (Jvm.Cond.instanceMethod ({ cls := "java/util/ArrayList", name := "iterator", desc := "()Ljava/util/Iterator;" } : Jvm.MethodName)) ∈ lw_all := lw_g (lw_at lw_m4 11 rfl) rfl
theorem q818 : (Jvm.Cond.code ({ cls := "java/util/ArrayList", name := "iterator", desc := "()Ljava/util/Iterator;" } : Jvm.MethodName) prog_64_method_55_code (1 : Nat) (Option.some (Jvm.ClassFile.FieldType.object "java/util/Iterator"))) ∈ lw_all := lw_g (lw_at lw_m4 12 rfl) rfl
theorem q819 : (Jvm.Cond.classLink "java/util/ArrayList" (267 : Nat) "java/util/ArrayList$Itr") ∈ lw_all := lw_g (lw_at lw_m4 13 rfl) rfl
theorem q821 : (Jvm.Cond.methodLink "java/util/ArrayList" (269 : Nat) ({ cls := "java/util/ArrayList$Itr", name := "<init>", desc := "(Ljava/util/ArrayList;)V" } : Jvm.MethodName)) ∈ lw_all := lw_g (lw_at lw_m4 15 rfl) rfl
theorem q1045 : (Jvm.Cond.methodLink "java/util/ArrayList" (69 : Nat) ({ cls := "java/util/ArrayList", name := "grow", desc := "(I)[Ljava/lang/Object;" } : Jvm.MethodName)) ∈ lw_all := lw_g (lw_at lw_m4 239 rfl) rfl
theorem q1046 : (Jvm.Cond.privateMethod ({ cls := "java/util/ArrayList", name := "grow", desc := "(I)[Ljava/lang/Object;" } : Jvm.MethodName)) ∈ lw_tbl := lw_at lw_m5 0 rfl
theorem q1047 : (Jvm.Cond.instanceMethod ({ cls := "java/util/ArrayList", name := "grow", desc := "(I)[Ljava/lang/Object;" } : Jvm.MethodName)) ∈ lw_all := lw_g (lw_at lw_m5 1 rfl) rfl
theorem q1048 : (Jvm.Cond.code ({ cls := "java/util/ArrayList", name := "grow", desc := "(I)[Ljava/lang/Object;" } : Jvm.MethodName) prog_64_method_6_code (4 : Nat) (Option.some (Jvm.ClassFile.FieldType.array (Jvm.ClassFile.FieldType.object "java/lang/Object")))) ∈ lw_all := lw_g (lw_at lw_m5 2 rfl) rfl
theorem q1049 : (Jvm.Cond.methodLink "java/util/ArrayList" (73 : Nat) ({ cls := "jdk/internal/util/ArraysSupport", name := "newLength", desc := "(III)I" } : Jvm.MethodName)) ∈ lw_all := lw_g (lw_at lw_m5 3 rfl) rfl
theorem q1050 : (Jvm.Cond.methodLink "java/util/ArrayList" (79 : Nat) ({ cls := "java/lang/Math", name := "max", desc := "(II)I" } : Jvm.MethodName)) ∈ lw_all := lw_g (lw_at lw_m5 4 rfl) rfl
theorem q1051 : (Jvm.Cond.classLink "java/util/ArrayList" (7 : Nat) "java/lang/Object") ∈ lw_all := lw_g (lw_at lw_m5 5 rfl) rfl
theorem q1052 : (Jvm.Cond.methodLink "java/util/ArrayList" (112 : Nat) ({ cls := "java/lang/System", name := "arraycopy", desc := "(Ljava/lang/Object;ILjava/lang/Object;II)V" } : Jvm.MethodName)) ∈ lw_all := lw_g (lw_at lw_m5 6 rfl) rfl
theorem q1106 : (Jvm.Cond.instanceMethod ({ cls := "java/util/ArrayList", name := "add", desc := "(Ljava/lang/Object;)Z" } : Jvm.MethodName)) ∈ lw_all := lw_g (lw_at lw_m5 60 rfl) rfl
theorem q1107 : (Jvm.Cond.selects "java/util/ArrayList" ({ cls := "java/util/ArrayList", name := "add", desc := "(Ljava/lang/Object;)Z" } : Jvm.MethodName) ({ cls := "java/util/ArrayList", name := "add", desc := "(Ljava/lang/Object;)Z" } : Jvm.MethodName)) ∈ lw_all := lw_g (lw_at lw_m5 61 rfl) rfl
theorem q1108 : (Jvm.Cond.code ({ cls := "java/util/ArrayList", name := "add", desc := "(Ljava/lang/Object;)Z" } : Jvm.MethodName) prog_64_method_25_code (2 : Nat) (Option.some Jvm.ClassFile.FieldType.boolean)) ∈ lw_all := lw_g (lw_at lw_m5 62 rfl) rfl
theorem q1109 : (Jvm.Cond.methodLink "java/util/ArrayList" (131 : Nat) ({ cls := "java/util/ArrayList", name := "add", desc := "(Ljava/lang/Object;[Ljava/lang/Object;I)V" } : Jvm.MethodName)) ∈ lw_all := lw_g (lw_at lw_m5 63 rfl) rfl
theorem q1110 : (Jvm.Cond.privateMethod ({ cls := "java/util/ArrayList", name := "add", desc := "(Ljava/lang/Object;[Ljava/lang/Object;I)V" } : Jvm.MethodName)) ∈ lw_tbl := lw_at lw_m5 64 rfl
theorem q1111 : (Jvm.Cond.instanceMethod ({ cls := "java/util/ArrayList", name := "add", desc := "(Ljava/lang/Object;[Ljava/lang/Object;I)V" } : Jvm.MethodName)) ∈ lw_all := lw_g (lw_at lw_m5 65 rfl) rfl
theorem q1112 : (Jvm.Cond.code ({ cls := "java/util/ArrayList", name := "add", desc := "(Ljava/lang/Object;[Ljava/lang/Object;I)V" } : Jvm.MethodName) prog_64_method_24_code (4 : Nat) (Option.none : Option Jvm.ClassFile.FieldType)) ∈ lw_all := lw_g (lw_at lw_m5 66 rfl) rfl
theorem q1113 : (Jvm.Cond.methodLink "java/util/ArrayList" (129 : Nat) ({ cls := "java/util/ArrayList", name := "grow", desc := "()[Ljava/lang/Object;" } : Jvm.MethodName)) ∈ lw_all := lw_g (lw_at lw_m5 67 rfl) rfl
theorem q1114 : (Jvm.Cond.privateMethod ({ cls := "java/util/ArrayList", name := "grow", desc := "()[Ljava/lang/Object;" } : Jvm.MethodName)) ∈ lw_tbl := lw_at lw_m5 68 rfl
theorem q1115 : (Jvm.Cond.instanceMethod ({ cls := "java/util/ArrayList", name := "grow", desc := "()[Ljava/lang/Object;" } : Jvm.MethodName)) ∈ lw_all := lw_g (lw_at lw_m5 69 rfl) rfl
theorem q1116 : (Jvm.Cond.code ({ cls := "java/util/ArrayList", name := "grow", desc := "()[Ljava/lang/Object;" } : Jvm.MethodName) prog_64_method_7_code (1 : Nat) (Option.some (Jvm.ClassFile.FieldType.array (Jvm.ClassFile.FieldType.object "java/lang/Object")))) ∈ lw_all := lw_g (lw_at lw_m5 70 rfl) rfl
theorem q1164 : (Jvm.Cond.instanceMethod ({ cls := "java/util/ArrayList", name := "get", desc := "(I)Ljava/lang/Object;" } : Jvm.MethodName)) ∈ lw_all := lw_g (lw_at lw_m5 118 rfl) rfl
theorem q1165 : (Jvm.Cond.selects "java/util/ArrayList" ({ cls := "java/util/ArrayList", name := "get", desc := "(I)Ljava/lang/Object;" } : Jvm.MethodName) ({ cls := "java/util/ArrayList", name := "get", desc := "(I)Ljava/lang/Object;" } : Jvm.MethodName)) ∈ lw_all := lw_g (lw_at lw_m5 119 rfl) rfl
theorem q1166 : (Jvm.Cond.code ({ cls := "java/util/ArrayList", name := "get", desc := "(I)Ljava/lang/Object;" } : Jvm.MethodName) prog_64_method_20_code (2 : Nat) (Option.some (Jvm.ClassFile.FieldType.object "java/lang/Object"))) ∈ lw_all := lw_g (lw_at lw_m5 120 rfl) rfl
theorem q1167 : (Jvm.Cond.methodLink "java/util/ArrayList" (118 : Nat) ({ cls := "java/util/Objects", name := "checkIndex", desc := "(II)I" } : Jvm.MethodName)) ∈ lw_all := lw_g (lw_at lw_m5 121 rfl) rfl
theorem q1173 : (Jvm.Cond.methodLink "java/util/ArrayList" (123 : Nat) ({ cls := "java/util/ArrayList", name := "elementData", desc := "(I)Ljava/lang/Object;" } : Jvm.MethodName)) ∈ lw_all := lw_g (lw_at lw_m5 127 rfl) rfl
theorem q1174 : (Jvm.Cond.instanceMethod ({ cls := "java/util/ArrayList", name := "elementData", desc := "(I)Ljava/lang/Object;" } : Jvm.MethodName)) ∈ lw_all := lw_g (lw_at lw_m5 128 rfl) rfl
theorem q1175 : (Jvm.Cond.selects "java/util/ArrayList" ({ cls := "java/util/ArrayList", name := "elementData", desc := "(I)Ljava/lang/Object;" } : Jvm.MethodName) ({ cls := "java/util/ArrayList", name := "elementData", desc := "(I)Ljava/lang/Object;" } : Jvm.MethodName)) ∈ lw_all := lw_g (lw_at lw_m5 129 rfl) rfl
theorem q1176 : (Jvm.Cond.code ({ cls := "java/util/ArrayList", name := "elementData", desc := "(I)Ljava/lang/Object;" } : Jvm.MethodName) prog_64_method_18_code (2 : Nat) (Option.some (Jvm.ClassFile.FieldType.object "java/lang/Object"))) ∈ lw_all := lw_g (lw_at lw_m5 130 rfl) rfl
theorem q1232 : (Jvm.Cond.instanceMethod ({ cls := "java/util/ArrayList", name := "clear", desc := "()V" } : Jvm.MethodName)) ∈ lw_all := lw_g (lw_at lw_m5 186 rfl) rfl
theorem q1233 : (Jvm.Cond.selects "java/util/ArrayList" ({ cls := "java/util/ArrayList", name := "clear", desc := "()V" } : Jvm.MethodName) ({ cls := "java/util/ArrayList", name := "clear", desc := "()V" } : Jvm.MethodName)) ∈ lw_all := lw_g (lw_at lw_m5 187 rfl) rfl
theorem q1234 : (Jvm.Cond.code ({ cls := "java/util/ArrayList", name := "clear", desc := "()V" } : Jvm.MethodName) prog_64_method_40_code (4 : Nat) (Option.none : Option Jvm.ClassFile.FieldType)) ∈ lw_all := lw_g (lw_at lw_m5 188 rfl) rfl
theorem q1309 : (Jvm.Cond.instanceMethod ({ cls := "java/util/ArrayList", name := "remove", desc := "(I)Ljava/lang/Object;" } : Jvm.MethodName)) ∈ lw_all := lw_g (lw_at lw_m6 23 rfl) rfl
theorem q1310 : (Jvm.Cond.selects "java/util/ArrayList" ({ cls := "java/util/ArrayList", name := "remove", desc := "(I)Ljava/lang/Object;" } : Jvm.MethodName) ({ cls := "java/util/ArrayList", name := "remove", desc := "(I)Ljava/lang/Object;" } : Jvm.MethodName)) ∈ lw_all := lw_g (lw_at lw_m6 24 rfl) rfl
theorem q1311 : (Jvm.Cond.code ({ cls := "java/util/ArrayList", name := "remove", desc := "(I)Ljava/lang/Object;" } : Jvm.MethodName) prog_64_method_29_code (4 : Nat) (Option.some (Jvm.ClassFile.FieldType.object "java/lang/Object"))) ∈ lw_all := lw_g (lw_at lw_m6 25 rfl) rfl
theorem q1312 : (Jvm.Cond.methodLink "java/util/ArrayList" (144 : Nat) ({ cls := "java/util/ArrayList", name := "fastRemove", desc := "([Ljava/lang/Object;I)V" } : Jvm.MethodName)) ∈ lw_all := lw_g (lw_at lw_m6 26 rfl) rfl
theorem q1313 : (Jvm.Cond.privateMethod ({ cls := "java/util/ArrayList", name := "fastRemove", desc := "([Ljava/lang/Object;I)V" } : Jvm.MethodName)) ∈ lw_tbl := lw_at lw_m6 27 rfl
theorem q1314 : (Jvm.Cond.instanceMethod ({ cls := "java/util/ArrayList", name := "fastRemove", desc := "([Ljava/lang/Object;I)V" } : Jvm.MethodName)) ∈ lw_all := lw_g (lw_at lw_m6 28 rfl) rfl
theorem q1315 : (Jvm.Cond.code ({ cls := "java/util/ArrayList", name := "fastRemove", desc := "([Ljava/lang/Object;I)V" } : Jvm.MethodName) prog_64_method_39_code (4 : Nat) (Option.none : Option Jvm.ClassFile.FieldType)) ∈ lw_all := lw_g (lw_at lw_m6 29 rfl) rfl
theorem q3326 : (Jvm.Cond.selects "java/util/ArrayList" ({ cls := "java/util/ArrayList", name := "iterator", desc := "()Ljava/util/Iterator;" } : Jvm.MethodName) ({ cls := "java/util/ArrayList", name := "iterator", desc := "()Ljava/util/Iterator;" } : Jvm.MethodName)) ∈ lw_all := lw_g (lw_at lw_m14 120 rfl) rfl
theorem q3334 : (Jvm.Cond.castable "java/util/ArrayList" "java/lang/Object") ∈ lw_tbl := lw_at lw_m14 128 rfl
theorem in_J2 : ∀ w ∈ wsJ20, w ∈ lw_all := lw_in wsJ20 [201, 197, 199] (by decide +kernel) (by decide +kernel)

end
section
/-! java/util/ArrayDeque -/
set_option maxRecDepth 100000
def RJ3 : String := "java/util/ArrayDeque"
def TJ3 : u_T := fun k => match k with
  | 0 => ("java/util/ArrayDeque", "elements", "[Ljava/lang/Object;", false)
  | 1 => ("java/util/ArrayDeque", "head", "I", false)
  | _ => ("java/util/ArrayDeque", "tail", "I", false)
def tyJ3 : Nat → FieldType := fun k => match k with
  | 0 => .array (.object "java/lang/Object")
  | 1 => .int
  | _ => .int
abbrev wsJ30 : List Cond := u_ws RJ3 TJ3 3
theorem nmJ3 : ∀ a, a < 3 → ∀ b, b < 3 → a ≠ b → (TJ3 a).2.1 ≠ (TJ3 b).2.1 := by decide +kernel
theorem tyJ3_ok : ∀ k, k < 3 → parseFieldDescriptor (TJ3 k).2.2.1 = some (tyJ3 k) := by decide +kernel
abbrev cJ3_init : ByteArray := prog_62_method_3_code
def yJ3_init : MethodName := ⟨RJ3, "<init>", "()V"⟩
def dkwJ3_init_0 : List UInt8 := [42, 183, 0, 42, 42, 16, 17, 189, 0, 47, 181, 0, 3, 177]
abbrev dktJ3_init_0 : List UInt8 := dkwJ3_init_0 ++ []
theorem dksJ3_init_0 : cJ3_init.data.toList.drop 0 = dktJ3_init_0 := by decide +kernel
theorem dJ3_init_0 : decode cJ3_init 0 = .ok (.aload_n 0, 1) := dk_42 (dk_at dksJ3_init_0 0 rfl rfl)
theorem dJ3_init_1 : decode cJ3_init 1 = .ok (.invokespecial 42, 3) := dk_183 0 42 (dk_at dksJ3_init_0 1 rfl rfl)
theorem dJ3_init_4 : decode cJ3_init 4 = .ok (.aload_n 0, 1) := dk_42 (dk_at dksJ3_init_0 4 rfl rfl)
theorem dJ3_init_5 : decode cJ3_init 5 = .ok (.bipush 17, 2) := dk_16 17 (dk_at dksJ3_init_0 5 rfl rfl)
theorem dJ3_init_7 : decode cJ3_init 7 = .ok (.anewarray 47, 3) := dk_189 0 47 (dk_at dksJ3_init_0 7 rfl rfl)
theorem dJ3_init_10 : decode cJ3_init 10 = .ok (.putfield 3, 3) := dk_181 0 3 (dk_at dksJ3_init_0 10 rfl rfl)
theorem dJ3_init_13 : decode cJ3_init 13 = .ok (.return_, 1) := dk_177 (dk_at dksJ3_init_0 13 rfl rfl)
abbrev cJ3_toArray : ByteArray := prog_62_method_55_code
def yJ3_toArray : MethodName := ⟨RJ3, "toArray", "()[Ljava/lang/Object;"⟩
def dkwJ3_toArray_0 : List UInt8 := [42, 18, 188, 182, 0, 189, 176]
abbrev dktJ3_toArray_0 : List UInt8 := dkwJ3_toArray_0 ++ []
theorem dksJ3_toArray_0 : cJ3_toArray.data.toList.drop 0 = dktJ3_toArray_0 := by decide +kernel
theorem dJ3_toArray_0 : decode cJ3_toArray 0 = .ok (.aload_n 0, 1) := dk_42 (dk_at dksJ3_toArray_0 0 rfl rfl)
theorem dJ3_toArray_1 : decode cJ3_toArray 1 = .ok (.ldc 188, 2) := dk_18 188 (dk_at dksJ3_toArray_0 1 rfl rfl)
theorem dJ3_toArray_3 : decode cJ3_toArray 3 = .ok (.invokevirtual 189, 3) := dk_182 0 189 (dk_at dksJ3_toArray_0 3 rfl rfl)
theorem dJ3_toArray_6 : decode cJ3_toArray 6 = .ok (.areturn, 1) := dk_176 (dk_at dksJ3_toArray_0 6 rfl rfl)
abbrev cJ3_toArray_2 : ByteArray := prog_62_method_56_code
def yJ3_toArray_2 : MethodName := ⟨RJ3, "toArray", "(Ljava/lang/Class;)[Ljava/lang/Object;"⟩
def dkwJ3_toArray_2_4 : List UInt8 := [21, 5, 184, 0, 27, 45, 176]
abbrev dktJ3_toArray_2_4 : List UInt8 := dkwJ3_toArray_2_4 ++ []
def dkwJ3_toArray_2_3 : List UInt8 := [44, 190, 21, 4, 100, 184, 0, 27, 21, 6, 21, 5, 159, 0, 16, 44, 3, 45, 44, 190, 21, 4, 100]
abbrev dktJ3_toArray_2_3 : List UInt8 := dkwJ3_toArray_2_3 ++ dktJ3_toArray_2_4
def dkwJ3_toArray_2_2 : List UInt8 := [184, 0, 193, 78, 167, 0, 28, 44, 3, 21, 6, 21, 4, 100, 43, 184, 0, 193, 78, 44, 21, 4, 45, 3]
abbrev dktJ3_toArray_2_2 : List UInt8 := dkwJ3_toArray_2_2 ++ dktJ3_toArray_2_3
def dkwJ3_toArray_2_1 : List UInt8 := [163, 0, 7, 3, 167, 0, 5, 44, 190, 96, 89, 54, 6, 155, 0, 16, 44, 21, 4, 21, 6, 43]
abbrev dktJ3_toArray_2_1 : List UInt8 := dkwJ3_toArray_2_1 ++ dktJ3_toArray_2_2
def dkwJ3_toArray_2_0 : List UInt8 := [42, 180, 0, 3, 77, 42, 180, 0, 24, 54, 4, 42, 180, 0, 20, 54, 5, 21, 5, 21, 4, 21, 5]
abbrev dktJ3_toArray_2_0 : List UInt8 := dkwJ3_toArray_2_0 ++ dktJ3_toArray_2_1
theorem dksJ3_toArray_2_0 : cJ3_toArray_2.data.toList.drop 0 = dktJ3_toArray_2_0 := by decide +kernel
theorem dksJ3_toArray_2_1 : cJ3_toArray_2.data.toList.drop 23 = dktJ3_toArray_2_1 := dk_seg dksJ3_toArray_2_0 23 rfl rfl
theorem dksJ3_toArray_2_2 : cJ3_toArray_2.data.toList.drop 45 = dktJ3_toArray_2_2 := dk_seg dksJ3_toArray_2_1 22 rfl rfl
theorem dksJ3_toArray_2_3 : cJ3_toArray_2.data.toList.drop 69 = dktJ3_toArray_2_3 := dk_seg dksJ3_toArray_2_2 24 rfl rfl
theorem dksJ3_toArray_2_4 : cJ3_toArray_2.data.toList.drop 92 = dktJ3_toArray_2_4 := dk_seg dksJ3_toArray_2_3 23 rfl rfl
theorem dJ3_toArray_2_0 : decode cJ3_toArray_2 0 = .ok (.aload_n 0, 1) := dk_42 (dk_at dksJ3_toArray_2_0 0 rfl rfl)
theorem dJ3_toArray_2_1 : decode cJ3_toArray_2 1 = .ok (.getfield 3, 3) := dk_180 0 3 (dk_at dksJ3_toArray_2_0 1 rfl rfl)
theorem dJ3_toArray_2_4 : decode cJ3_toArray_2 4 = .ok (.astore_n 2, 1) := dk_77 (dk_at dksJ3_toArray_2_0 4 rfl rfl)
theorem dJ3_toArray_2_5 : decode cJ3_toArray_2 5 = .ok (.aload_n 0, 1) := dk_42 (dk_at dksJ3_toArray_2_0 5 rfl rfl)
theorem dJ3_toArray_2_6 : decode cJ3_toArray_2 6 = .ok (.getfield 24, 3) := dk_180 0 24 (dk_at dksJ3_toArray_2_0 6 rfl rfl)
theorem dJ3_toArray_2_9 : decode cJ3_toArray_2 9 = .ok (.istore 4, 2) := dk_54 4 (dk_at dksJ3_toArray_2_0 9 rfl rfl)
theorem dJ3_toArray_2_11 : decode cJ3_toArray_2 11 = .ok (.aload_n 0, 1) := dk_42 (dk_at dksJ3_toArray_2_0 11 rfl rfl)
theorem dJ3_toArray_2_12 : decode cJ3_toArray_2 12 = .ok (.getfield 20, 3) := dk_180 0 20 (dk_at dksJ3_toArray_2_0 12 rfl rfl)
theorem dJ3_toArray_2_15 : decode cJ3_toArray_2 15 = .ok (.istore 5, 2) := dk_54 5 (dk_at dksJ3_toArray_2_0 15 rfl rfl)
theorem dJ3_toArray_2_17 : decode cJ3_toArray_2 17 = .ok (.iload 5, 2) := dk_21 5 (dk_at dksJ3_toArray_2_0 17 rfl rfl)
theorem dJ3_toArray_2_19 : decode cJ3_toArray_2 19 = .ok (.iload 4, 2) := dk_21 4 (dk_at dksJ3_toArray_2_0 19 rfl rfl)
theorem dJ3_toArray_2_21 : decode cJ3_toArray_2 21 = .ok (.iload 5, 2) := dk_21 5 (dk_at dksJ3_toArray_2_0 21 rfl rfl)
theorem dJ3_toArray_2_23 : decode cJ3_toArray_2 23 = .ok (.if_icmp .gt 7, 3) := dk_163 0 7 (dk_at dksJ3_toArray_2_1 0 rfl rfl)
theorem dJ3_toArray_2_26 : decode cJ3_toArray_2 26 = .ok (.iconst 0, 1) := dk_3 (dk_at dksJ3_toArray_2_1 3 rfl rfl)
theorem dJ3_toArray_2_27 : decode cJ3_toArray_2 27 = .ok (.goto 5, 3) := dk_167 0 5 (dk_at dksJ3_toArray_2_1 4 rfl rfl)
theorem dJ3_toArray_2_30 : decode cJ3_toArray_2 30 = .ok (.aload_n 2, 1) := dk_44 (dk_at dksJ3_toArray_2_1 7 rfl rfl)
theorem dJ3_toArray_2_31 : decode cJ3_toArray_2 31 = .ok (.arraylength, 1) := dk_190 (dk_at dksJ3_toArray_2_1 8 rfl rfl)
theorem dJ3_toArray_2_32 : decode cJ3_toArray_2 32 = .ok (.iadd, 1) := dk_96 (dk_at dksJ3_toArray_2_1 9 rfl rfl)
theorem dJ3_toArray_2_33 : decode cJ3_toArray_2 33 = .ok (.dup, 1) := dk_89 (dk_at dksJ3_toArray_2_1 10 rfl rfl)
theorem dJ3_toArray_2_34 : decode cJ3_toArray_2 34 = .ok (.istore 6, 2) := dk_54 6 (dk_at dksJ3_toArray_2_1 11 rfl rfl)
theorem dJ3_toArray_2_36 : decode cJ3_toArray_2 36 = .ok (.ifCond .lt 16, 3) := dk_155 0 16 (dk_at dksJ3_toArray_2_1 13 rfl rfl)
theorem dJ3_toArray_2_39 : decode cJ3_toArray_2 39 = .ok (.aload_n 2, 1) := dk_44 (dk_at dksJ3_toArray_2_1 16 rfl rfl)
theorem dJ3_toArray_2_40 : decode cJ3_toArray_2 40 = .ok (.iload 4, 2) := dk_21 4 (dk_at dksJ3_toArray_2_1 17 rfl rfl)
theorem dJ3_toArray_2_42 : decode cJ3_toArray_2 42 = .ok (.iload 6, 2) := dk_21 6 (dk_at dksJ3_toArray_2_1 19 rfl rfl)
theorem dJ3_toArray_2_44 : decode cJ3_toArray_2 44 = .ok (.aload_n 1, 1) := dk_43 (dk_at dksJ3_toArray_2_1 21 rfl rfl)
theorem dJ3_toArray_2_45 : decode cJ3_toArray_2 45 = .ok (.invokestatic 193, 3) := dk_184 0 193 (dk_at dksJ3_toArray_2_2 0 rfl rfl)
theorem dJ3_toArray_2_48 : decode cJ3_toArray_2 48 = .ok (.astore_n 3, 1) := dk_78 (dk_at dksJ3_toArray_2_2 3 rfl rfl)
theorem dJ3_toArray_2_49 : decode cJ3_toArray_2 49 = .ok (.goto 28, 3) := dk_167 0 28 (dk_at dksJ3_toArray_2_2 4 rfl rfl)
theorem dJ3_toArray_2_52 : decode cJ3_toArray_2 52 = .ok (.aload_n 2, 1) := dk_44 (dk_at dksJ3_toArray_2_2 7 rfl rfl)
theorem dJ3_toArray_2_53 : decode cJ3_toArray_2 53 = .ok (.iconst 0, 1) := dk_3 (dk_at dksJ3_toArray_2_2 8 rfl rfl)
theorem dJ3_toArray_2_54 : decode cJ3_toArray_2 54 = .ok (.iload 6, 2) := dk_21 6 (dk_at dksJ3_toArray_2_2 9 rfl rfl)
theorem dJ3_toArray_2_56 : decode cJ3_toArray_2 56 = .ok (.iload 4, 2) := dk_21 4 (dk_at dksJ3_toArray_2_2 11 rfl rfl)
theorem dJ3_toArray_2_58 : decode cJ3_toArray_2 58 = .ok (.isub, 1) := dk_100 (dk_at dksJ3_toArray_2_2 13 rfl rfl)
theorem dJ3_toArray_2_59 : decode cJ3_toArray_2 59 = .ok (.aload_n 1, 1) := dk_43 (dk_at dksJ3_toArray_2_2 14 rfl rfl)
theorem dJ3_toArray_2_60 : decode cJ3_toArray_2 60 = .ok (.invokestatic 193, 3) := dk_184 0 193 (dk_at dksJ3_toArray_2_2 15 rfl rfl)
theorem dJ3_toArray_2_63 : decode cJ3_toArray_2 63 = .ok (.astore_n 3, 1) := dk_78 (dk_at dksJ3_toArray_2_2 18 rfl rfl)
theorem dJ3_toArray_2_64 : decode cJ3_toArray_2 64 = .ok (.aload_n 2, 1) := dk_44 (dk_at dksJ3_toArray_2_2 19 rfl rfl)
theorem dJ3_toArray_2_65 : decode cJ3_toArray_2 65 = .ok (.iload 4, 2) := dk_21 4 (dk_at dksJ3_toArray_2_2 20 rfl rfl)
theorem dJ3_toArray_2_67 : decode cJ3_toArray_2 67 = .ok (.aload_n 3, 1) := dk_45 (dk_at dksJ3_toArray_2_2 22 rfl rfl)
theorem dJ3_toArray_2_68 : decode cJ3_toArray_2 68 = .ok (.iconst 0, 1) := dk_3 (dk_at dksJ3_toArray_2_2 23 rfl rfl)
theorem dJ3_toArray_2_69 : decode cJ3_toArray_2 69 = .ok (.aload_n 2, 1) := dk_44 (dk_at dksJ3_toArray_2_3 0 rfl rfl)
theorem dJ3_toArray_2_70 : decode cJ3_toArray_2 70 = .ok (.arraylength, 1) := dk_190 (dk_at dksJ3_toArray_2_3 1 rfl rfl)
theorem dJ3_toArray_2_71 : decode cJ3_toArray_2 71 = .ok (.iload 4, 2) := dk_21 4 (dk_at dksJ3_toArray_2_3 2 rfl rfl)
theorem dJ3_toArray_2_73 : decode cJ3_toArray_2 73 = .ok (.isub, 1) := dk_100 (dk_at dksJ3_toArray_2_3 4 rfl rfl)
theorem dJ3_toArray_2_74 : decode cJ3_toArray_2 74 = .ok (.invokestatic 27, 3) := dk_184 0 27 (dk_at dksJ3_toArray_2_3 5 rfl rfl)
theorem dJ3_toArray_2_77 : decode cJ3_toArray_2 77 = .ok (.iload 6, 2) := dk_21 6 (dk_at dksJ3_toArray_2_3 8 rfl rfl)
theorem dJ3_toArray_2_79 : decode cJ3_toArray_2 79 = .ok (.iload 5, 2) := dk_21 5 (dk_at dksJ3_toArray_2_3 10 rfl rfl)
theorem dJ3_toArray_2_81 : decode cJ3_toArray_2 81 = .ok (.if_icmp .eq 16, 3) := dk_159 0 16 (dk_at dksJ3_toArray_2_3 12 rfl rfl)
theorem dJ3_toArray_2_84 : decode cJ3_toArray_2 84 = .ok (.aload_n 2, 1) := dk_44 (dk_at dksJ3_toArray_2_3 15 rfl rfl)
theorem dJ3_toArray_2_85 : decode cJ3_toArray_2 85 = .ok (.iconst 0, 1) := dk_3 (dk_at dksJ3_toArray_2_3 16 rfl rfl)
theorem dJ3_toArray_2_86 : decode cJ3_toArray_2 86 = .ok (.aload_n 3, 1) := dk_45 (dk_at dksJ3_toArray_2_3 17 rfl rfl)
theorem dJ3_toArray_2_87 : decode cJ3_toArray_2 87 = .ok (.aload_n 2, 1) := dk_44 (dk_at dksJ3_toArray_2_3 18 rfl rfl)
theorem dJ3_toArray_2_88 : decode cJ3_toArray_2 88 = .ok (.arraylength, 1) := dk_190 (dk_at dksJ3_toArray_2_3 19 rfl rfl)
theorem dJ3_toArray_2_89 : decode cJ3_toArray_2 89 = .ok (.iload 4, 2) := dk_21 4 (dk_at dksJ3_toArray_2_3 20 rfl rfl)
theorem dJ3_toArray_2_91 : decode cJ3_toArray_2 91 = .ok (.isub, 1) := dk_100 (dk_at dksJ3_toArray_2_3 22 rfl rfl)
theorem dJ3_toArray_2_92 : decode cJ3_toArray_2 92 = .ok (.iload 5, 2) := dk_21 5 (dk_at dksJ3_toArray_2_4 0 rfl rfl)
theorem dJ3_toArray_2_94 : decode cJ3_toArray_2 94 = .ok (.invokestatic 27, 3) := dk_184 0 27 (dk_at dksJ3_toArray_2_4 2 rfl rfl)
theorem dJ3_toArray_2_97 : decode cJ3_toArray_2 97 = .ok (.aload_n 3, 1) := dk_45 (dk_at dksJ3_toArray_2_4 5 rfl rfl)
theorem dJ3_toArray_2_98 : decode cJ3_toArray_2 98 = .ok (.areturn, 1) := dk_176 (dk_at dksJ3_toArray_2_4 6 rfl rfl)
abbrev cJ3_size : ByteArray := prog_62_method_37_code
def yJ3_size : MethodName := ⟨RJ3, "size", "()I"⟩
def dkwJ3_size_0 : List UInt8 := [42, 180, 0, 20, 42, 180, 0, 24, 42, 180, 0, 3, 190, 184, 0, 127, 172]
abbrev dktJ3_size_0 : List UInt8 := dkwJ3_size_0 ++ []
theorem dksJ3_size_0 : cJ3_size.data.toList.drop 0 = dktJ3_size_0 := by decide +kernel
theorem dJ3_size_0 : decode cJ3_size 0 = .ok (.aload_n 0, 1) := dk_42 (dk_at dksJ3_size_0 0 rfl rfl)
theorem dJ3_size_1 : decode cJ3_size 1 = .ok (.getfield 20, 3) := dk_180 0 20 (dk_at dksJ3_size_0 1 rfl rfl)
theorem dJ3_size_4 : decode cJ3_size 4 = .ok (.aload_n 0, 1) := dk_42 (dk_at dksJ3_size_0 4 rfl rfl)
theorem dJ3_size_5 : decode cJ3_size 5 = .ok (.getfield 24, 3) := dk_180 0 24 (dk_at dksJ3_size_0 5 rfl rfl)
theorem dJ3_size_8 : decode cJ3_size 8 = .ok (.aload_n 0, 1) := dk_42 (dk_at dksJ3_size_0 8 rfl rfl)
theorem dJ3_size_9 : decode cJ3_size 9 = .ok (.getfield 3, 3) := dk_180 0 3 (dk_at dksJ3_size_0 9 rfl rfl)
theorem dJ3_size_12 : decode cJ3_size 12 = .ok (.arraylength, 1) := dk_190 (dk_at dksJ3_size_0 12 rfl rfl)
theorem dJ3_size_13 : decode cJ3_size 13 = .ok (.invokestatic 127, 3) := dk_184 0 127 (dk_at dksJ3_size_0 13 rfl rfl)
theorem dJ3_size_16 : decode cJ3_size 16 = .ok (.ireturn, 1) := dk_172 (dk_at dksJ3_size_0 16 rfl rfl)
abbrev cJ3_sub : ByteArray := prog_62_method_9_code
def yJ3_sub : MethodName := ⟨RJ3, "sub", "(III)I"⟩
def dkwJ3_sub_0 : List UInt8 := [26, 27, 100, 89, 59, 156, 0, 7, 26, 28, 96, 59, 26, 172]
abbrev dktJ3_sub_0 : List UInt8 := dkwJ3_sub_0 ++ []
theorem dksJ3_sub_0 : cJ3_sub.data.toList.drop 0 = dktJ3_sub_0 := by decide +kernel
theorem dJ3_sub_0 : decode cJ3_sub 0 = .ok (.iload_n 0, 1) := dk_26 (dk_at dksJ3_sub_0 0 rfl rfl)
theorem dJ3_sub_1 : decode cJ3_sub 1 = .ok (.iload_n 1, 1) := dk_27 (dk_at dksJ3_sub_0 1 rfl rfl)
theorem dJ3_sub_2 : decode cJ3_sub 2 = .ok (.isub, 1) := dk_100 (dk_at dksJ3_sub_0 2 rfl rfl)
theorem dJ3_sub_3 : decode cJ3_sub 3 = .ok (.dup, 1) := dk_89 (dk_at dksJ3_sub_0 3 rfl rfl)
theorem dJ3_sub_4 : decode cJ3_sub 4 = .ok (.istore_n 0, 1) := dk_59 (dk_at dksJ3_sub_0 4 rfl rfl)
theorem dJ3_sub_5 : decode cJ3_sub 5 = .ok (.ifCond .ge 7, 3) := dk_156 0 7 (dk_at dksJ3_sub_0 5 rfl rfl)
theorem dJ3_sub_8 : decode cJ3_sub 8 = .ok (.iload_n 0, 1) := dk_26 (dk_at dksJ3_sub_0 8 rfl rfl)
theorem dJ3_sub_9 : decode cJ3_sub 9 = .ok (.iload_n 2, 1) := dk_28 (dk_at dksJ3_sub_0 9 rfl rfl)
theorem dJ3_sub_10 : decode cJ3_sub 10 = .ok (.iadd, 1) := dk_96 (dk_at dksJ3_sub_0 10 rfl rfl)
theorem dJ3_sub_11 : decode cJ3_sub 11 = .ok (.istore_n 0, 1) := dk_59 (dk_at dksJ3_sub_0 11 rfl rfl)
theorem dJ3_sub_12 : decode cJ3_sub 12 = .ok (.iload_n 0, 1) := dk_26 (dk_at dksJ3_sub_0 12 rfl rfl)
theorem dJ3_sub_13 : decode cJ3_sub 13 = .ok (.ireturn, 1) := dk_172 (dk_at dksJ3_sub_0 13 rfl rfl)
abbrev cJ3_iterator : ByteArray := prog_62_method_39_code
def yJ3_iterator : MethodName := ⟨RJ3, "iterator", "()Ljava/util/Iterator;"⟩
def dkwJ3_iterator_0 : List UInt8 := [187, 0, 131, 89, 42, 183, 0, 133, 176]
abbrev dktJ3_iterator_0 : List UInt8 := dkwJ3_iterator_0 ++ []
theorem dksJ3_iterator_0 : cJ3_iterator.data.toList.drop 0 = dktJ3_iterator_0 := by decide +kernel
theorem dJ3_iterator_0 : decode cJ3_iterator 0 = .ok (.new 131, 3) := dk_187 0 131 (dk_at dksJ3_iterator_0 0 rfl rfl)
theorem dJ3_iterator_3 : decode cJ3_iterator 3 = .ok (.dup, 1) := dk_89 (dk_at dksJ3_iterator_0 3 rfl rfl)
theorem dJ3_iterator_4 : decode cJ3_iterator 4 = .ok (.aload_n 0, 1) := dk_42 (dk_at dksJ3_iterator_0 4 rfl rfl)
theorem dJ3_iterator_5 : decode cJ3_iterator 5 = .ok (.invokespecial 133, 3) := dk_183 0 133 (dk_at dksJ3_iterator_0 5 rfl rfl)
theorem dJ3_iterator_8 : decode cJ3_iterator 8 = .ok (.areturn, 1) := dk_176 (dk_at dksJ3_iterator_0 8 rfl rfl)
abbrev cJ3_isEmpty : ByteArray := prog_62_method_38_code
def yJ3_isEmpty : MethodName := ⟨RJ3, "isEmpty", "()Z"⟩
def dkwJ3_isEmpty_0 : List UInt8 := [42, 180, 0, 24, 42, 180, 0, 20, 160, 0, 7, 4, 167, 0, 4, 3, 172]
abbrev dktJ3_isEmpty_0 : List UInt8 := dkwJ3_isEmpty_0 ++ []
theorem dksJ3_isEmpty_0 : cJ3_isEmpty.data.toList.drop 0 = dktJ3_isEmpty_0 := by decide +kernel
theorem dJ3_isEmpty_0 : decode cJ3_isEmpty 0 = .ok (.aload_n 0, 1) := dk_42 (dk_at dksJ3_isEmpty_0 0 rfl rfl)
theorem dJ3_isEmpty_1 : decode cJ3_isEmpty 1 = .ok (.getfield 24, 3) := dk_180 0 24 (dk_at dksJ3_isEmpty_0 1 rfl rfl)
theorem dJ3_isEmpty_4 : decode cJ3_isEmpty 4 = .ok (.aload_n 0, 1) := dk_42 (dk_at dksJ3_isEmpty_0 4 rfl rfl)
theorem dJ3_isEmpty_5 : decode cJ3_isEmpty 5 = .ok (.getfield 20, 3) := dk_180 0 20 (dk_at dksJ3_isEmpty_0 5 rfl rfl)
theorem dJ3_isEmpty_8 : decode cJ3_isEmpty 8 = .ok (.if_icmp .ne 7, 3) := dk_160 0 7 (dk_at dksJ3_isEmpty_0 8 rfl rfl)
theorem dJ3_isEmpty_11 : decode cJ3_isEmpty 11 = .ok (.iconst 1, 1) := dk_4 (dk_at dksJ3_isEmpty_0 11 rfl rfl)
theorem dJ3_isEmpty_12 : decode cJ3_isEmpty 12 = .ok (.goto 4, 3) := dk_167 0 4 (dk_at dksJ3_isEmpty_0 12 rfl rfl)
theorem dJ3_isEmpty_15 : decode cJ3_isEmpty 15 = .ok (.iconst 0, 1) := dk_3 (dk_at dksJ3_isEmpty_0 15 rfl rfl)
theorem dJ3_isEmpty_16 : decode cJ3_isEmpty 16 = .ok (.ireturn, 1) := dk_172 (dk_at dksJ3_isEmpty_0 16 rfl rfl)
abbrev cJ3_nonNullElementAt : ByteArray := prog_62_method_11_code
def yJ3_nonNullElementAt : MethodName := ⟨RJ3, "nonNullElementAt", "([Ljava/lang/Object;I)Ljava/lang/Object;"⟩
def dkwJ3_nonNullElementAt_0 : List UInt8 := [42, 27, 50, 77, 44, 199, 0, 11, 187, 0, 62, 89, 183, 0, 64, 191, 44, 176]
abbrev dktJ3_nonNullElementAt_0 : List UInt8 := dkwJ3_nonNullElementAt_0 ++ []
theorem dksJ3_nonNullElementAt_0 : cJ3_nonNullElementAt.data.toList.drop 0 = dktJ3_nonNullElementAt_0 := by decide +kernel
theorem dJ3_nonNullElementAt_0 : decode cJ3_nonNullElementAt 0 = .ok (.aload_n 0, 1) := dk_42 (dk_at dksJ3_nonNullElementAt_0 0 rfl rfl)
theorem dJ3_nonNullElementAt_1 : decode cJ3_nonNullElementAt 1 = .ok (.iload_n 1, 1) := dk_27 (dk_at dksJ3_nonNullElementAt_0 1 rfl rfl)
theorem dJ3_nonNullElementAt_2 : decode cJ3_nonNullElementAt 2 = .ok (.aaload, 1) := dk_50 (dk_at dksJ3_nonNullElementAt_0 2 rfl rfl)
theorem dJ3_nonNullElementAt_3 : decode cJ3_nonNullElementAt 3 = .ok (.astore_n 2, 1) := dk_77 (dk_at dksJ3_nonNullElementAt_0 3 rfl rfl)
theorem dJ3_nonNullElementAt_4 : decode cJ3_nonNullElementAt 4 = .ok (.aload_n 2, 1) := dk_44 (dk_at dksJ3_nonNullElementAt_0 4 rfl rfl)
theorem dJ3_nonNullElementAt_5 : decode cJ3_nonNullElementAt 5 = .ok (.ifnonnull 11, 3) := dk_199 0 11 (dk_at dksJ3_nonNullElementAt_0 5 rfl rfl)
theorem dJ3_nonNullElementAt_8 : decode cJ3_nonNullElementAt 8 = .ok (.new 62, 3) := dk_187 0 62 (dk_at dksJ3_nonNullElementAt_0 8 rfl rfl)
theorem dJ3_nonNullElementAt_11 : decode cJ3_nonNullElementAt 11 = .ok (.dup, 1) := dk_89 (dk_at dksJ3_nonNullElementAt_0 11 rfl rfl)
theorem dJ3_nonNullElementAt_12 : decode cJ3_nonNullElementAt 12 = .ok (.invokespecial 64, 3) := dk_183 0 64 (dk_at dksJ3_nonNullElementAt_0 12 rfl rfl)
theorem dJ3_nonNullElementAt_15 : decode cJ3_nonNullElementAt 15 = .ok (.athrow, 1) := dk_191 (dk_at dksJ3_nonNullElementAt_0 15 rfl rfl)
theorem dJ3_nonNullElementAt_16 : decode cJ3_nonNullElementAt 16 = .ok (.aload_n 2, 1) := dk_44 (dk_at dksJ3_nonNullElementAt_0 16 rfl rfl)
theorem dJ3_nonNullElementAt_17 : decode cJ3_nonNullElementAt 17 = .ok (.areturn, 1) := dk_176 (dk_at dksJ3_nonNullElementAt_0 17 rfl rfl)
abbrev cJ3_inc : ByteArray := prog_62_method_6_code
def yJ3_inc : MethodName := ⟨RJ3, "inc", "(II)I"⟩
def dkwJ3_inc_0 : List UInt8 := [132, 0, 1, 26, 27, 161, 0, 5, 3, 59, 26, 172]
abbrev dktJ3_inc_0 : List UInt8 := dkwJ3_inc_0 ++ []
theorem dksJ3_inc_0 : cJ3_inc.data.toList.drop 0 = dktJ3_inc_0 := by decide +kernel
theorem dJ3_inc_0 : decode cJ3_inc 0 = .ok (.iinc 0 1, 3) := dk_132 0 1 (dk_at dksJ3_inc_0 0 rfl rfl)
theorem dJ3_inc_3 : decode cJ3_inc 3 = .ok (.iload_n 0, 1) := dk_26 (dk_at dksJ3_inc_0 3 rfl rfl)
theorem dJ3_inc_4 : decode cJ3_inc 4 = .ok (.iload_n 1, 1) := dk_27 (dk_at dksJ3_inc_0 4 rfl rfl)
theorem dJ3_inc_5 : decode cJ3_inc 5 = .ok (.if_icmp .lt 5, 3) := dk_161 0 5 (dk_at dksJ3_inc_0 5 rfl rfl)
theorem dJ3_inc_8 : decode cJ3_inc 8 = .ok (.iconst 0, 1) := dk_3 (dk_at dksJ3_inc_0 8 rfl rfl)
theorem dJ3_inc_9 : decode cJ3_inc 9 = .ok (.istore_n 0, 1) := dk_59 (dk_at dksJ3_inc_0 9 rfl rfl)
theorem dJ3_inc_10 : decode cJ3_inc 10 = .ok (.iload_n 0, 1) := dk_26 (dk_at dksJ3_inc_0 10 rfl rfl)
theorem dJ3_inc_11 : decode cJ3_inc 11 = .ok (.ireturn, 1) := dk_172 (dk_at dksJ3_inc_0 11 rfl rfl)
abbrev cJ3_poll : ByteArray := prog_62_method_31_code
def yJ3_poll : MethodName := ⟨RJ3, "poll", "()Ljava/lang/Object;"⟩
theorem dJ3_poll_0 : decode cJ3_poll 0 = .ok (.aload_n 0, 1) := by decide +kernel
theorem dJ3_poll_1 : decode cJ3_poll 1 = .ok (.invokevirtual 93, 3) := by decide +kernel
theorem dJ3_poll_4 : decode cJ3_poll 4 = .ok (.areturn, 1) := by decide +kernel
abbrev cJ3_pollFirst : ByteArray := prog_62_method_20_code
def yJ3_pollFirst : MethodName := ⟨RJ3, "pollFirst", "()Ljava/lang/Object;"⟩
def dkwJ3_pollFirst_1 : List UInt8 := [42, 28, 43, 190, 184, 0, 74, 181, 0, 24, 45, 176]
abbrev dktJ3_pollFirst_1 : List UInt8 := dkwJ3_pollFirst_1 ++ []
def dkwJ3_pollFirst_0 : List UInt8 := [42, 180, 0, 3, 89, 76, 42, 180, 0, 24, 89, 61, 184, 0, 103, 78, 45, 198, 0, 17, 43, 28, 1, 83]
abbrev dktJ3_pollFirst_0 : List UInt8 := dkwJ3_pollFirst_0 ++ dktJ3_pollFirst_1
theorem dksJ3_pollFirst_0 : cJ3_pollFirst.data.toList.drop 0 = dktJ3_pollFirst_0 := by decide +kernel
theorem dksJ3_pollFirst_1 : cJ3_pollFirst.data.toList.drop 24 = dktJ3_pollFirst_1 := dk_seg dksJ3_pollFirst_0 24 rfl rfl
theorem dJ3_pollFirst_0 : decode cJ3_pollFirst 0 = .ok (.aload_n 0, 1) := dk_42 (dk_at dksJ3_pollFirst_0 0 rfl rfl)
theorem dJ3_pollFirst_1 : decode cJ3_pollFirst 1 = .ok (.getfield 3, 3) := dk_180 0 3 (dk_at dksJ3_pollFirst_0 1 rfl rfl)
theorem dJ3_pollFirst_4 : decode cJ3_pollFirst 4 = .ok (.dup, 1) := dk_89 (dk_at dksJ3_pollFirst_0 4 rfl rfl)
theorem dJ3_pollFirst_5 : decode cJ3_pollFirst 5 = .ok (.astore_n 1, 1) := dk_76 (dk_at dksJ3_pollFirst_0 5 rfl rfl)
theorem dJ3_pollFirst_6 : decode cJ3_pollFirst 6 = .ok (.aload_n 0, 1) := dk_42 (dk_at dksJ3_pollFirst_0 6 rfl rfl)
theorem dJ3_pollFirst_7 : decode cJ3_pollFirst 7 = .ok (.getfield 24, 3) := dk_180 0 24 (dk_at dksJ3_pollFirst_0 7 rfl rfl)
theorem dJ3_pollFirst_10 : decode cJ3_pollFirst 10 = .ok (.dup, 1) := dk_89 (dk_at dksJ3_pollFirst_0 10 rfl rfl)
theorem dJ3_pollFirst_11 : decode cJ3_pollFirst 11 = .ok (.istore_n 2, 1) := dk_61 (dk_at dksJ3_pollFirst_0 11 rfl rfl)
theorem dJ3_pollFirst_12 : decode cJ3_pollFirst 12 = .ok (.invokestatic 103, 3) := dk_184 0 103 (dk_at dksJ3_pollFirst_0 12 rfl rfl)
theorem dJ3_pollFirst_15 : decode cJ3_pollFirst 15 = .ok (.astore_n 3, 1) := dk_78 (dk_at dksJ3_pollFirst_0 15 rfl rfl)
theorem dJ3_pollFirst_16 : decode cJ3_pollFirst 16 = .ok (.aload_n 3, 1) := dk_45 (dk_at dksJ3_pollFirst_0 16 rfl rfl)
theorem dJ3_pollFirst_17 : decode cJ3_pollFirst 17 = .ok (.ifnull 17, 3) := dk_198 0 17 (dk_at dksJ3_pollFirst_0 17 rfl rfl)
theorem dJ3_pollFirst_20 : decode cJ3_pollFirst 20 = .ok (.aload_n 1, 1) := dk_43 (dk_at dksJ3_pollFirst_0 20 rfl rfl)
theorem dJ3_pollFirst_21 : decode cJ3_pollFirst 21 = .ok (.iload_n 2, 1) := dk_28 (dk_at dksJ3_pollFirst_0 21 rfl rfl)
theorem dJ3_pollFirst_22 : decode cJ3_pollFirst 22 = .ok (.aconst_null, 1) := dk_1 (dk_at dksJ3_pollFirst_0 22 rfl rfl)
theorem dJ3_pollFirst_23 : decode cJ3_pollFirst 23 = .ok (.aastore, 1) := dk_83 (dk_at dksJ3_pollFirst_0 23 rfl rfl)
theorem dJ3_pollFirst_24 : decode cJ3_pollFirst 24 = .ok (.aload_n 0, 1) := dk_42 (dk_at dksJ3_pollFirst_1 0 rfl rfl)
theorem dJ3_pollFirst_25 : decode cJ3_pollFirst 25 = .ok (.iload_n 2, 1) := dk_28 (dk_at dksJ3_pollFirst_1 1 rfl rfl)
theorem dJ3_pollFirst_26 : decode cJ3_pollFirst 26 = .ok (.aload_n 1, 1) := dk_43 (dk_at dksJ3_pollFirst_1 2 rfl rfl)
theorem dJ3_pollFirst_27 : decode cJ3_pollFirst 27 = .ok (.arraylength, 1) := dk_190 (dk_at dksJ3_pollFirst_1 3 rfl rfl)
theorem dJ3_pollFirst_28 : decode cJ3_pollFirst 28 = .ok (.invokestatic 74, 3) := dk_184 0 74 (dk_at dksJ3_pollFirst_1 4 rfl rfl)
theorem dJ3_pollFirst_31 : decode cJ3_pollFirst 31 = .ok (.putfield 24, 3) := dk_181 0 24 (dk_at dksJ3_pollFirst_1 7 rfl rfl)
theorem dJ3_pollFirst_34 : decode cJ3_pollFirst 34 = .ok (.aload_n 3, 1) := dk_45 (dk_at dksJ3_pollFirst_1 10 rfl rfl)
theorem dJ3_pollFirst_35 : decode cJ3_pollFirst 35 = .ok (.areturn, 1) := dk_176 (dk_at dksJ3_pollFirst_1 11 rfl rfl)
abbrev cJ3_elementAt : ByteArray := prog_62_method_10_code
def yJ3_elementAt : MethodName := ⟨RJ3, "elementAt", "([Ljava/lang/Object;I)Ljava/lang/Object;"⟩
def dkwJ3_elementAt_0 : List UInt8 := [42, 27, 50, 176]
abbrev dktJ3_elementAt_0 : List UInt8 := dkwJ3_elementAt_0 ++ []
theorem dksJ3_elementAt_0 : cJ3_elementAt.data.toList.drop 0 = dktJ3_elementAt_0 := by decide +kernel
theorem dJ3_elementAt_0 : decode cJ3_elementAt 0 = .ok (.aload_n 0, 1) := dk_42 (dk_at dksJ3_elementAt_0 0 rfl rfl)
theorem dJ3_elementAt_1 : decode cJ3_elementAt 1 = .ok (.iload_n 1, 1) := dk_27 (dk_at dksJ3_elementAt_0 1 rfl rfl)
theorem dJ3_elementAt_2 : decode cJ3_elementAt 2 = .ok (.aaload, 1) := dk_50 (dk_at dksJ3_elementAt_0 2 rfl rfl)
theorem dJ3_elementAt_3 : decode cJ3_elementAt 3 = .ok (.areturn, 1) := dk_176 (dk_at dksJ3_elementAt_0 3 rfl rfl)
abbrev cJ3_removeFirst : ByteArray := prog_62_method_18_code
def yJ3_removeFirst : MethodName := ⟨RJ3, "removeFirst", "()Ljava/lang/Object;"⟩
def dkwJ3_removeFirst_0 : List UInt8 := [42, 182, 0, 93, 76, 43, 199, 0, 11, 187, 0, 97, 89, 183, 0, 99, 191, 43, 176]
abbrev dktJ3_removeFirst_0 : List UInt8 := dkwJ3_removeFirst_0 ++ []
theorem dksJ3_removeFirst_0 : cJ3_removeFirst.data.toList.drop 0 = dktJ3_removeFirst_0 := by decide +kernel
theorem dJ3_removeFirst_0 : decode cJ3_removeFirst 0 = .ok (.aload_n 0, 1) := dk_42 (dk_at dksJ3_removeFirst_0 0 rfl rfl)
theorem dJ3_removeFirst_1 : decode cJ3_removeFirst 1 = .ok (.invokevirtual 93, 3) := dk_182 0 93 (dk_at dksJ3_removeFirst_0 1 rfl rfl)
theorem dJ3_removeFirst_4 : decode cJ3_removeFirst 4 = .ok (.astore_n 1, 1) := dk_76 (dk_at dksJ3_removeFirst_0 4 rfl rfl)
theorem dJ3_removeFirst_5 : decode cJ3_removeFirst 5 = .ok (.aload_n 1, 1) := dk_43 (dk_at dksJ3_removeFirst_0 5 rfl rfl)
theorem dJ3_removeFirst_6 : decode cJ3_removeFirst 6 = .ok (.ifnonnull 11, 3) := dk_199 0 11 (dk_at dksJ3_removeFirst_0 6 rfl rfl)
theorem dJ3_removeFirst_9 : decode cJ3_removeFirst 9 = .ok (.new 97, 3) := dk_187 0 97 (dk_at dksJ3_removeFirst_0 9 rfl rfl)
theorem dJ3_removeFirst_12 : decode cJ3_removeFirst 12 = .ok (.dup, 1) := dk_89 (dk_at dksJ3_removeFirst_0 12 rfl rfl)
theorem dJ3_removeFirst_13 : decode cJ3_removeFirst 13 = .ok (.invokespecial 99, 3) := dk_183 0 99 (dk_at dksJ3_removeFirst_0 13 rfl rfl)
theorem dJ3_removeFirst_16 : decode cJ3_removeFirst 16 = .ok (.athrow, 1) := dk_191 (dk_at dksJ3_removeFirst_0 16 rfl rfl)
theorem dJ3_removeFirst_17 : decode cJ3_removeFirst 17 = .ok (.aload_n 1, 1) := dk_43 (dk_at dksJ3_removeFirst_0 17 rfl rfl)
theorem dJ3_removeFirst_18 : decode cJ3_removeFirst 18 = .ok (.areturn, 1) := dk_176 (dk_at dksJ3_removeFirst_0 18 rfl rfl)
abbrev cJ3_addLast : ByteArray := prog_62_method_13_code
def yJ3_addLast : MethodName := ⟨RJ3, "addLast", "(Ljava/lang/Object;)V"⟩
def dkwJ3_addLast_2 : List UInt8 := [182, 0, 71, 177]
abbrev dktJ3_addLast_2 : List UInt8 := dkwJ3_addLast_2 ++ []
def dkwJ3_addLast_1 : List UInt8 := [42, 180, 0, 24, 42, 42, 180, 0, 20, 44, 190, 184, 0, 74, 90, 181, 0, 20, 160, 0, 8, 42, 4]
abbrev dktJ3_addLast_1 : List UInt8 := dkwJ3_addLast_1 ++ dktJ3_addLast_2
def dkwJ3_addLast_0 : List UInt8 := [43, 199, 0, 11, 187, 0, 65, 89, 183, 0, 67, 191, 42, 180, 0, 3, 77, 44, 42, 180, 0, 20, 43, 83]
abbrev dktJ3_addLast_0 : List UInt8 := dkwJ3_addLast_0 ++ dktJ3_addLast_1
theorem dksJ3_addLast_0 : cJ3_addLast.data.toList.drop 0 = dktJ3_addLast_0 := by decide +kernel
theorem dksJ3_addLast_1 : cJ3_addLast.data.toList.drop 24 = dktJ3_addLast_1 := dk_seg dksJ3_addLast_0 24 rfl rfl
theorem dksJ3_addLast_2 : cJ3_addLast.data.toList.drop 47 = dktJ3_addLast_2 := dk_seg dksJ3_addLast_1 23 rfl rfl
theorem dJ3_addLast_0 : decode cJ3_addLast 0 = .ok (.aload_n 1, 1) := dk_43 (dk_at dksJ3_addLast_0 0 rfl rfl)
theorem dJ3_addLast_1 : decode cJ3_addLast 1 = .ok (.ifnonnull 11, 3) := dk_199 0 11 (dk_at dksJ3_addLast_0 1 rfl rfl)
theorem dJ3_addLast_4 : decode cJ3_addLast 4 = .ok (.new 65, 3) := dk_187 0 65 (dk_at dksJ3_addLast_0 4 rfl rfl)
theorem dJ3_addLast_7 : decode cJ3_addLast 7 = .ok (.dup, 1) := dk_89 (dk_at dksJ3_addLast_0 7 rfl rfl)
theorem dJ3_addLast_8 : decode cJ3_addLast 8 = .ok (.invokespecial 67, 3) := dk_183 0 67 (dk_at dksJ3_addLast_0 8 rfl rfl)
theorem dJ3_addLast_11 : decode cJ3_addLast 11 = .ok (.athrow, 1) := dk_191 (dk_at dksJ3_addLast_0 11 rfl rfl)
theorem dJ3_addLast_12 : decode cJ3_addLast 12 = .ok (.aload_n 0, 1) := dk_42 (dk_at dksJ3_addLast_0 12 rfl rfl)
theorem dJ3_addLast_13 : decode cJ3_addLast 13 = .ok (.getfield 3, 3) := dk_180 0 3 (dk_at dksJ3_addLast_0 13 rfl rfl)
theorem dJ3_addLast_16 : decode cJ3_addLast 16 = .ok (.astore_n 2, 1) := dk_77 (dk_at dksJ3_addLast_0 16 rfl rfl)
theorem dJ3_addLast_17 : decode cJ3_addLast 17 = .ok (.aload_n 2, 1) := dk_44 (dk_at dksJ3_addLast_0 17 rfl rfl)
theorem dJ3_addLast_18 : decode cJ3_addLast 18 = .ok (.aload_n 0, 1) := dk_42 (dk_at dksJ3_addLast_0 18 rfl rfl)
theorem dJ3_addLast_19 : decode cJ3_addLast 19 = .ok (.getfield 20, 3) := dk_180 0 20 (dk_at dksJ3_addLast_0 19 rfl rfl)
theorem dJ3_addLast_22 : decode cJ3_addLast 22 = .ok (.aload_n 1, 1) := dk_43 (dk_at dksJ3_addLast_0 22 rfl rfl)
theorem dJ3_addLast_23 : decode cJ3_addLast 23 = .ok (.aastore, 1) := dk_83 (dk_at dksJ3_addLast_0 23 rfl rfl)
theorem dJ3_addLast_24 : decode cJ3_addLast 24 = .ok (.aload_n 0, 1) := dk_42 (dk_at dksJ3_addLast_1 0 rfl rfl)
theorem dJ3_addLast_25 : decode cJ3_addLast 25 = .ok (.getfield 24, 3) := dk_180 0 24 (dk_at dksJ3_addLast_1 1 rfl rfl)
theorem dJ3_addLast_28 : decode cJ3_addLast 28 = .ok (.aload_n 0, 1) := dk_42 (dk_at dksJ3_addLast_1 4 rfl rfl)
theorem dJ3_addLast_29 : decode cJ3_addLast 29 = .ok (.aload_n 0, 1) := dk_42 (dk_at dksJ3_addLast_1 5 rfl rfl)
theorem dJ3_addLast_30 : decode cJ3_addLast 30 = .ok (.getfield 20, 3) := dk_180 0 20 (dk_at dksJ3_addLast_1 6 rfl rfl)
theorem dJ3_addLast_33 : decode cJ3_addLast 33 = .ok (.aload_n 2, 1) := dk_44 (dk_at dksJ3_addLast_1 9 rfl rfl)
theorem dJ3_addLast_34 : decode cJ3_addLast 34 = .ok (.arraylength, 1) := dk_190 (dk_at dksJ3_addLast_1 10 rfl rfl)
theorem dJ3_addLast_35 : decode cJ3_addLast 35 = .ok (.invokestatic 74, 3) := dk_184 0 74 (dk_at dksJ3_addLast_1 11 rfl rfl)
theorem dJ3_addLast_38 : decode cJ3_addLast 38 = .ok (.dup_x1, 1) := dk_90 (dk_at dksJ3_addLast_1 14 rfl rfl)
theorem dJ3_addLast_39 : decode cJ3_addLast 39 = .ok (.putfield 20, 3) := dk_181 0 20 (dk_at dksJ3_addLast_1 15 rfl rfl)
theorem dJ3_addLast_42 : decode cJ3_addLast 42 = .ok (.if_icmp .ne 8, 3) := dk_160 0 8 (dk_at dksJ3_addLast_1 18 rfl rfl)
theorem dJ3_addLast_45 : decode cJ3_addLast 45 = .ok (.aload_n 0, 1) := dk_42 (dk_at dksJ3_addLast_1 21 rfl rfl)
theorem dJ3_addLast_46 : decode cJ3_addLast 46 = .ok (.iconst 1, 1) := dk_4 (dk_at dksJ3_addLast_1 22 rfl rfl)
theorem dJ3_addLast_47 : decode cJ3_addLast 47 = .ok (.invokevirtual 71, 3) := dk_182 0 71 (dk_at dksJ3_addLast_2 0 rfl rfl)
theorem dJ3_addLast_50 : decode cJ3_addLast 50 = .ok (.return_, 1) := dk_177 (dk_at dksJ3_addLast_2 3 rfl rfl)
abbrev cJ3_grow : ByteArray := prog_62_method_1_code
def yJ3_grow : MethodName := ⟨RJ3, "grow", "(I)V"⟩
def dkwJ3_grow_7 : List UInt8 := [177]
abbrev dktJ3_grow_7 : List UInt8 := dkwJ3_grow_7 ++ []
def dkwJ3_grow_6 : List UInt8 := [181, 0, 24, 54, 8, 21, 7, 21, 8, 162, 0, 15, 25, 5, 21, 7, 1, 83, 132, 7, 1, 167, 255, 240]
abbrev dktJ3_grow_6 : List UInt8 := dkwJ3_grow_6 ++ dktJ3_grow_7
def dkwJ3_grow_5 : List UInt8 := [42, 180, 0, 24, 100, 184, 0, 27, 42, 180, 0, 24, 54, 7, 42, 89, 180, 0, 24, 21, 6, 96, 90]
abbrev dktJ3_grow_5 : List UInt8 := dkwJ3_grow_5 ++ dktJ3_grow_6
def dkwJ3_grow_4 : List UInt8 := [198, 0, 71, 29, 28, 100, 54, 6, 25, 5, 42, 180, 0, 24, 25, 5, 42, 180, 0, 24, 21, 6, 96, 28]
abbrev dktJ3_grow_4 : List UInt8 := dkwJ3_grow_4 ++ dktJ3_grow_5
def dkwJ3_grow_3 : List UInt8 := [180, 0, 24, 161, 0, 24, 42, 180, 0, 20, 42, 180, 0, 24, 160, 0, 81, 25, 5, 42, 180, 0, 24, 50]
abbrev dktJ3_grow_3 : List UInt8 := dkwJ3_grow_3 ++ dktJ3_grow_4
def dkwJ3_grow_2 : List UInt8 := [182, 0, 10, 62, 42, 42, 180, 0, 3, 29, 184, 0, 14, 90, 181, 0, 3, 58, 5, 42, 180, 0, 20, 42]
abbrev dktJ3_grow_2 : List UInt8 := dkwJ3_grow_2 ++ dktJ3_grow_3
def dkwJ3_grow_1 : List UInt8 := [21, 4, 27, 161, 0, 15, 28, 21, 4, 96, 89, 62, 18, 9, 100, 158, 0, 11, 42, 27, 21, 4]
abbrev dktJ3_grow_1 : List UInt8 := dkwJ3_grow_1 ++ dktJ3_grow_2
def dkwJ3_grow_0 : List UInt8 := [42, 180, 0, 3, 190, 61, 28, 16, 64, 162, 0, 9, 28, 5, 96, 167, 0, 6, 28, 4, 122, 54, 4]
abbrev dktJ3_grow_0 : List UInt8 := dkwJ3_grow_0 ++ dktJ3_grow_1
theorem dksJ3_grow_0 : cJ3_grow.data.toList.drop 0 = dktJ3_grow_0 := by decide +kernel
theorem dksJ3_grow_1 : cJ3_grow.data.toList.drop 23 = dktJ3_grow_1 := dk_seg dksJ3_grow_0 23 rfl rfl
theorem dksJ3_grow_2 : cJ3_grow.data.toList.drop 45 = dktJ3_grow_2 := dk_seg dksJ3_grow_1 22 rfl rfl
theorem dksJ3_grow_3 : cJ3_grow.data.toList.drop 69 = dktJ3_grow_3 := dk_seg dksJ3_grow_2 24 rfl rfl
theorem dksJ3_grow_4 : cJ3_grow.data.toList.drop 93 = dktJ3_grow_4 := dk_seg dksJ3_grow_3 24 rfl rfl
theorem dksJ3_grow_5 : cJ3_grow.data.toList.drop 117 = dktJ3_grow_5 := dk_seg dksJ3_grow_4 24 rfl rfl
theorem dksJ3_grow_6 : cJ3_grow.data.toList.drop 140 = dktJ3_grow_6 := dk_seg dksJ3_grow_5 23 rfl rfl
theorem dksJ3_grow_7 : cJ3_grow.data.toList.drop 164 = dktJ3_grow_7 := dk_seg dksJ3_grow_6 24 rfl rfl
theorem dJ3_grow_0 : decode cJ3_grow 0 = .ok (.aload_n 0, 1) := dk_42 (dk_at dksJ3_grow_0 0 rfl rfl)
theorem dJ3_grow_1 : decode cJ3_grow 1 = .ok (.getfield 3, 3) := dk_180 0 3 (dk_at dksJ3_grow_0 1 rfl rfl)
theorem dJ3_grow_4 : decode cJ3_grow 4 = .ok (.arraylength, 1) := dk_190 (dk_at dksJ3_grow_0 4 rfl rfl)
theorem dJ3_grow_5 : decode cJ3_grow 5 = .ok (.istore_n 2, 1) := dk_61 (dk_at dksJ3_grow_0 5 rfl rfl)
theorem dJ3_grow_6 : decode cJ3_grow 6 = .ok (.iload_n 2, 1) := dk_28 (dk_at dksJ3_grow_0 6 rfl rfl)
theorem dJ3_grow_7 : decode cJ3_grow 7 = .ok (.bipush 64, 2) := dk_16 64 (dk_at dksJ3_grow_0 7 rfl rfl)
theorem dJ3_grow_9 : decode cJ3_grow 9 = .ok (.if_icmp .ge 9, 3) := dk_162 0 9 (dk_at dksJ3_grow_0 9 rfl rfl)
theorem dJ3_grow_12 : decode cJ3_grow 12 = .ok (.iload_n 2, 1) := dk_28 (dk_at dksJ3_grow_0 12 rfl rfl)
theorem dJ3_grow_13 : decode cJ3_grow 13 = .ok (.iconst 2, 1) := dk_5 (dk_at dksJ3_grow_0 13 rfl rfl)
theorem dJ3_grow_14 : decode cJ3_grow 14 = .ok (.iadd, 1) := dk_96 (dk_at dksJ3_grow_0 14 rfl rfl)
theorem dJ3_grow_15 : decode cJ3_grow 15 = .ok (.goto 6, 3) := dk_167 0 6 (dk_at dksJ3_grow_0 15 rfl rfl)
theorem dJ3_grow_18 : decode cJ3_grow 18 = .ok (.iload_n 2, 1) := dk_28 (dk_at dksJ3_grow_0 18 rfl rfl)
theorem dJ3_grow_19 : decode cJ3_grow 19 = .ok (.iconst 1, 1) := dk_4 (dk_at dksJ3_grow_0 19 rfl rfl)
theorem dJ3_grow_20 : decode cJ3_grow 20 = .ok (.ishr, 1) := dk_122 (dk_at dksJ3_grow_0 20 rfl rfl)
theorem dJ3_grow_21 : decode cJ3_grow 21 = .ok (.istore 4, 2) := dk_54 4 (dk_at dksJ3_grow_0 21 rfl rfl)
theorem dJ3_grow_23 : decode cJ3_grow 23 = .ok (.iload 4, 2) := dk_21 4 (dk_at dksJ3_grow_1 0 rfl rfl)
theorem dJ3_grow_25 : decode cJ3_grow 25 = .ok (.iload_n 1, 1) := dk_27 (dk_at dksJ3_grow_1 2 rfl rfl)
theorem dJ3_grow_26 : decode cJ3_grow 26 = .ok (.if_icmp .lt 15, 3) := dk_161 0 15 (dk_at dksJ3_grow_1 3 rfl rfl)
theorem dJ3_grow_29 : decode cJ3_grow 29 = .ok (.iload_n 2, 1) := dk_28 (dk_at dksJ3_grow_1 6 rfl rfl)
theorem dJ3_grow_30 : decode cJ3_grow 30 = .ok (.iload 4, 2) := dk_21 4 (dk_at dksJ3_grow_1 7 rfl rfl)
theorem dJ3_grow_32 : decode cJ3_grow 32 = .ok (.iadd, 1) := dk_96 (dk_at dksJ3_grow_1 9 rfl rfl)
theorem dJ3_grow_33 : decode cJ3_grow 33 = .ok (.dup, 1) := dk_89 (dk_at dksJ3_grow_1 10 rfl rfl)
theorem dJ3_grow_34 : decode cJ3_grow 34 = .ok (.istore_n 3, 1) := dk_62 (dk_at dksJ3_grow_1 11 rfl rfl)
theorem dJ3_grow_35 : decode cJ3_grow 35 = .ok (.ldc 9, 2) := dk_18 9 (dk_at dksJ3_grow_1 12 rfl rfl)
theorem dJ3_grow_37 : decode cJ3_grow 37 = .ok (.isub, 1) := dk_100 (dk_at dksJ3_grow_1 14 rfl rfl)
theorem dJ3_grow_38 : decode cJ3_grow 38 = .ok (.ifCond .le 11, 3) := dk_158 0 11 (dk_at dksJ3_grow_1 15 rfl rfl)
theorem dJ3_grow_41 : decode cJ3_grow 41 = .ok (.aload_n 0, 1) := dk_42 (dk_at dksJ3_grow_1 18 rfl rfl)
theorem dJ3_grow_42 : decode cJ3_grow 42 = .ok (.iload_n 1, 1) := dk_27 (dk_at dksJ3_grow_1 19 rfl rfl)
theorem dJ3_grow_43 : decode cJ3_grow 43 = .ok (.iload 4, 2) := dk_21 4 (dk_at dksJ3_grow_1 20 rfl rfl)
theorem dJ3_grow_45 : decode cJ3_grow 45 = .ok (.invokevirtual 10, 3) := dk_182 0 10 (dk_at dksJ3_grow_2 0 rfl rfl)
theorem dJ3_grow_48 : decode cJ3_grow 48 = .ok (.istore_n 3, 1) := dk_62 (dk_at dksJ3_grow_2 3 rfl rfl)
theorem dJ3_grow_49 : decode cJ3_grow 49 = .ok (.aload_n 0, 1) := dk_42 (dk_at dksJ3_grow_2 4 rfl rfl)
theorem dJ3_grow_50 : decode cJ3_grow 50 = .ok (.aload_n 0, 1) := dk_42 (dk_at dksJ3_grow_2 5 rfl rfl)
theorem dJ3_grow_51 : decode cJ3_grow 51 = .ok (.getfield 3, 3) := dk_180 0 3 (dk_at dksJ3_grow_2 6 rfl rfl)
theorem dJ3_grow_54 : decode cJ3_grow 54 = .ok (.iload_n 3, 1) := dk_29 (dk_at dksJ3_grow_2 9 rfl rfl)
theorem dJ3_grow_55 : decode cJ3_grow 55 = .ok (.invokestatic 14, 3) := dk_184 0 14 (dk_at dksJ3_grow_2 10 rfl rfl)
theorem dJ3_grow_58 : decode cJ3_grow 58 = .ok (.dup_x1, 1) := dk_90 (dk_at dksJ3_grow_2 13 rfl rfl)
theorem dJ3_grow_59 : decode cJ3_grow 59 = .ok (.putfield 3, 3) := dk_181 0 3 (dk_at dksJ3_grow_2 14 rfl rfl)
theorem dJ3_grow_62 : decode cJ3_grow 62 = .ok (.astore 5, 2) := dk_58 5 (dk_at dksJ3_grow_2 17 rfl rfl)
theorem dJ3_grow_64 : decode cJ3_grow 64 = .ok (.aload_n 0, 1) := dk_42 (dk_at dksJ3_grow_2 19 rfl rfl)
theorem dJ3_grow_65 : decode cJ3_grow 65 = .ok (.getfield 20, 3) := dk_180 0 20 (dk_at dksJ3_grow_2 20 rfl rfl)
theorem dJ3_grow_68 : decode cJ3_grow 68 = .ok (.aload_n 0, 1) := dk_42 (dk_at dksJ3_grow_2 23 rfl rfl)
theorem dJ3_grow_69 : decode cJ3_grow 69 = .ok (.getfield 24, 3) := dk_180 0 24 (dk_at dksJ3_grow_3 0 rfl rfl)
theorem dJ3_grow_72 : decode cJ3_grow 72 = .ok (.if_icmp .lt 24, 3) := dk_161 0 24 (dk_at dksJ3_grow_3 3 rfl rfl)
theorem dJ3_grow_75 : decode cJ3_grow 75 = .ok (.aload_n 0, 1) := dk_42 (dk_at dksJ3_grow_3 6 rfl rfl)
theorem dJ3_grow_76 : decode cJ3_grow 76 = .ok (.getfield 20, 3) := dk_180 0 20 (dk_at dksJ3_grow_3 7 rfl rfl)
theorem dJ3_grow_79 : decode cJ3_grow 79 = .ok (.aload_n 0, 1) := dk_42 (dk_at dksJ3_grow_3 10 rfl rfl)
theorem dJ3_grow_80 : decode cJ3_grow 80 = .ok (.getfield 24, 3) := dk_180 0 24 (dk_at dksJ3_grow_3 11 rfl rfl)
theorem dJ3_grow_83 : decode cJ3_grow 83 = .ok (.if_icmp .ne 81, 3) := dk_160 0 81 (dk_at dksJ3_grow_3 14 rfl rfl)
theorem dJ3_grow_86 : decode cJ3_grow 86 = .ok (.aload 5, 2) := dk_25 5 (dk_at dksJ3_grow_3 17 rfl rfl)
theorem dJ3_grow_88 : decode cJ3_grow 88 = .ok (.aload_n 0, 1) := dk_42 (dk_at dksJ3_grow_3 19 rfl rfl)
theorem dJ3_grow_89 : decode cJ3_grow 89 = .ok (.getfield 24, 3) := dk_180 0 24 (dk_at dksJ3_grow_3 20 rfl rfl)
theorem dJ3_grow_92 : decode cJ3_grow 92 = .ok (.aaload, 1) := dk_50 (dk_at dksJ3_grow_3 23 rfl rfl)
theorem dJ3_grow_93 : decode cJ3_grow 93 = .ok (.ifnull 71, 3) := dk_198 0 71 (dk_at dksJ3_grow_4 0 rfl rfl)
theorem dJ3_grow_96 : decode cJ3_grow 96 = .ok (.iload_n 3, 1) := dk_29 (dk_at dksJ3_grow_4 3 rfl rfl)
theorem dJ3_grow_97 : decode cJ3_grow 97 = .ok (.iload_n 2, 1) := dk_28 (dk_at dksJ3_grow_4 4 rfl rfl)
theorem dJ3_grow_98 : decode cJ3_grow 98 = .ok (.isub, 1) := dk_100 (dk_at dksJ3_grow_4 5 rfl rfl)
theorem dJ3_grow_99 : decode cJ3_grow 99 = .ok (.istore 6, 2) := dk_54 6 (dk_at dksJ3_grow_4 6 rfl rfl)
theorem dJ3_grow_101 : decode cJ3_grow 101 = .ok (.aload 5, 2) := dk_25 5 (dk_at dksJ3_grow_4 8 rfl rfl)
theorem dJ3_grow_103 : decode cJ3_grow 103 = .ok (.aload_n 0, 1) := dk_42 (dk_at dksJ3_grow_4 10 rfl rfl)
theorem dJ3_grow_104 : decode cJ3_grow 104 = .ok (.getfield 24, 3) := dk_180 0 24 (dk_at dksJ3_grow_4 11 rfl rfl)
theorem dJ3_grow_107 : decode cJ3_grow 107 = .ok (.aload 5, 2) := dk_25 5 (dk_at dksJ3_grow_4 14 rfl rfl)
theorem dJ3_grow_109 : decode cJ3_grow 109 = .ok (.aload_n 0, 1) := dk_42 (dk_at dksJ3_grow_4 16 rfl rfl)
theorem dJ3_grow_110 : decode cJ3_grow 110 = .ok (.getfield 24, 3) := dk_180 0 24 (dk_at dksJ3_grow_4 17 rfl rfl)
theorem dJ3_grow_113 : decode cJ3_grow 113 = .ok (.iload 6, 2) := dk_21 6 (dk_at dksJ3_grow_4 20 rfl rfl)
theorem dJ3_grow_115 : decode cJ3_grow 115 = .ok (.iadd, 1) := dk_96 (dk_at dksJ3_grow_4 22 rfl rfl)
theorem dJ3_grow_116 : decode cJ3_grow 116 = .ok (.iload_n 2, 1) := dk_28 (dk_at dksJ3_grow_4 23 rfl rfl)
theorem dJ3_grow_117 : decode cJ3_grow 117 = .ok (.aload_n 0, 1) := dk_42 (dk_at dksJ3_grow_5 0 rfl rfl)
theorem dJ3_grow_118 : decode cJ3_grow 118 = .ok (.getfield 24, 3) := dk_180 0 24 (dk_at dksJ3_grow_5 1 rfl rfl)
theorem dJ3_grow_121 : decode cJ3_grow 121 = .ok (.isub, 1) := dk_100 (dk_at dksJ3_grow_5 4 rfl rfl)
theorem dJ3_grow_122 : decode cJ3_grow 122 = .ok (.invokestatic 27, 3) := dk_184 0 27 (dk_at dksJ3_grow_5 5 rfl rfl)
theorem dJ3_grow_125 : decode cJ3_grow 125 = .ok (.aload_n 0, 1) := dk_42 (dk_at dksJ3_grow_5 8 rfl rfl)
theorem dJ3_grow_126 : decode cJ3_grow 126 = .ok (.getfield 24, 3) := dk_180 0 24 (dk_at dksJ3_grow_5 9 rfl rfl)
theorem dJ3_grow_129 : decode cJ3_grow 129 = .ok (.istore 7, 2) := dk_54 7 (dk_at dksJ3_grow_5 12 rfl rfl)
theorem dJ3_grow_131 : decode cJ3_grow 131 = .ok (.aload_n 0, 1) := dk_42 (dk_at dksJ3_grow_5 14 rfl rfl)
theorem dJ3_grow_132 : decode cJ3_grow 132 = .ok (.dup, 1) := dk_89 (dk_at dksJ3_grow_5 15 rfl rfl)
theorem dJ3_grow_133 : decode cJ3_grow 133 = .ok (.getfield 24, 3) := dk_180 0 24 (dk_at dksJ3_grow_5 16 rfl rfl)
theorem dJ3_grow_136 : decode cJ3_grow 136 = .ok (.iload 6, 2) := dk_21 6 (dk_at dksJ3_grow_5 19 rfl rfl)
theorem dJ3_grow_138 : decode cJ3_grow 138 = .ok (.iadd, 1) := dk_96 (dk_at dksJ3_grow_5 21 rfl rfl)
theorem dJ3_grow_139 : decode cJ3_grow 139 = .ok (.dup_x1, 1) := dk_90 (dk_at dksJ3_grow_5 22 rfl rfl)
theorem dJ3_grow_140 : decode cJ3_grow 140 = .ok (.putfield 24, 3) := dk_181 0 24 (dk_at dksJ3_grow_6 0 rfl rfl)
theorem dJ3_grow_143 : decode cJ3_grow 143 = .ok (.istore 8, 2) := dk_54 8 (dk_at dksJ3_grow_6 3 rfl rfl)
theorem dJ3_grow_145 : decode cJ3_grow 145 = .ok (.iload 7, 2) := dk_21 7 (dk_at dksJ3_grow_6 5 rfl rfl)
theorem dJ3_grow_147 : decode cJ3_grow 147 = .ok (.iload 8, 2) := dk_21 8 (dk_at dksJ3_grow_6 7 rfl rfl)
theorem dJ3_grow_149 : decode cJ3_grow 149 = .ok (.if_icmp .ge 15, 3) := dk_162 0 15 (dk_at dksJ3_grow_6 9 rfl rfl)
theorem dJ3_grow_152 : decode cJ3_grow 152 = .ok (.aload 5, 2) := dk_25 5 (dk_at dksJ3_grow_6 12 rfl rfl)
theorem dJ3_grow_154 : decode cJ3_grow 154 = .ok (.iload 7, 2) := dk_21 7 (dk_at dksJ3_grow_6 14 rfl rfl)
theorem dJ3_grow_156 : decode cJ3_grow 156 = .ok (.aconst_null, 1) := dk_1 (dk_at dksJ3_grow_6 16 rfl rfl)
theorem dJ3_grow_157 : decode cJ3_grow 157 = .ok (.aastore, 1) := dk_83 (dk_at dksJ3_grow_6 17 rfl rfl)
theorem dJ3_grow_158 : decode cJ3_grow 158 = .ok (.iinc 7 1, 3) := dk_132 7 1 (dk_at dksJ3_grow_6 18 rfl rfl)
theorem dJ3_grow_161 : decode cJ3_grow 161 = .ok (.goto (-16), 3) := dk_167 255 240 (dk_at dksJ3_grow_6 21 rfl rfl)
theorem dJ3_grow_164 : decode cJ3_grow 164 = .ok (.return_, 1) := dk_177 (dk_at dksJ3_grow_7 0 rfl rfl)
abbrev cJ3_newCapacity : ByteArray := prog_62_method_2_code
def yJ3_newCapacity : MethodName := ⟨RJ3, "newCapacity", "(II)I"⟩
def dkwJ3_newCapacity_2 : List UInt8 := [18, 9, 100, 156, 0, 9, 29, 28, 96, 167, 0, 5, 18, 9, 172]
abbrev dktJ3_newCapacity_2 : List UInt8 := dkwJ3_newCapacity_2 ++ []
def dkwJ3_newCapacity_1 : List UInt8 := [187, 0, 33, 89, 18, 35, 183, 0, 37, 191, 18, 41, 172, 27, 28, 164, 0, 6, 21, 4, 172, 29, 28, 96]
abbrev dktJ3_newCapacity_1 : List UInt8 := dkwJ3_newCapacity_1 ++ dktJ3_newCapacity_2
def dkwJ3_newCapacity_0 : List UInt8 := [42, 180, 0, 3, 190, 62, 29, 27, 96, 89, 54, 4, 18, 9, 100, 158, 0, 21, 21, 4, 156, 0, 13]
abbrev dktJ3_newCapacity_0 : List UInt8 := dkwJ3_newCapacity_0 ++ dktJ3_newCapacity_1
theorem dksJ3_newCapacity_0 : cJ3_newCapacity.data.toList.drop 0 = dktJ3_newCapacity_0 := by decide +kernel
theorem dksJ3_newCapacity_1 : cJ3_newCapacity.data.toList.drop 23 = dktJ3_newCapacity_1 := dk_seg dksJ3_newCapacity_0 23 rfl rfl
theorem dksJ3_newCapacity_2 : cJ3_newCapacity.data.toList.drop 47 = dktJ3_newCapacity_2 := dk_seg dksJ3_newCapacity_1 24 rfl rfl
theorem dJ3_newCapacity_0 : decode cJ3_newCapacity 0 = .ok (.aload_n 0, 1) := dk_42 (dk_at dksJ3_newCapacity_0 0 rfl rfl)
theorem dJ3_newCapacity_1 : decode cJ3_newCapacity 1 = .ok (.getfield 3, 3) := dk_180 0 3 (dk_at dksJ3_newCapacity_0 1 rfl rfl)
theorem dJ3_newCapacity_4 : decode cJ3_newCapacity 4 = .ok (.arraylength, 1) := dk_190 (dk_at dksJ3_newCapacity_0 4 rfl rfl)
theorem dJ3_newCapacity_5 : decode cJ3_newCapacity 5 = .ok (.istore_n 3, 1) := dk_62 (dk_at dksJ3_newCapacity_0 5 rfl rfl)
theorem dJ3_newCapacity_6 : decode cJ3_newCapacity 6 = .ok (.iload_n 3, 1) := dk_29 (dk_at dksJ3_newCapacity_0 6 rfl rfl)
theorem dJ3_newCapacity_7 : decode cJ3_newCapacity 7 = .ok (.iload_n 1, 1) := dk_27 (dk_at dksJ3_newCapacity_0 7 rfl rfl)
theorem dJ3_newCapacity_8 : decode cJ3_newCapacity 8 = .ok (.iadd, 1) := dk_96 (dk_at dksJ3_newCapacity_0 8 rfl rfl)
theorem dJ3_newCapacity_9 : decode cJ3_newCapacity 9 = .ok (.dup, 1) := dk_89 (dk_at dksJ3_newCapacity_0 9 rfl rfl)
theorem dJ3_newCapacity_10 : decode cJ3_newCapacity 10 = .ok (.istore 4, 2) := dk_54 4 (dk_at dksJ3_newCapacity_0 10 rfl rfl)
theorem dJ3_newCapacity_12 : decode cJ3_newCapacity 12 = .ok (.ldc 9, 2) := dk_18 9 (dk_at dksJ3_newCapacity_0 12 rfl rfl)
theorem dJ3_newCapacity_14 : decode cJ3_newCapacity 14 = .ok (.isub, 1) := dk_100 (dk_at dksJ3_newCapacity_0 14 rfl rfl)
theorem dJ3_newCapacity_15 : decode cJ3_newCapacity 15 = .ok (.ifCond .le 21, 3) := dk_158 0 21 (dk_at dksJ3_newCapacity_0 15 rfl rfl)
theorem dJ3_newCapacity_18 : decode cJ3_newCapacity 18 = .ok (.iload 4, 2) := dk_21 4 (dk_at dksJ3_newCapacity_0 18 rfl rfl)
theorem dJ3_newCapacity_20 : decode cJ3_newCapacity 20 = .ok (.ifCond .ge 13, 3) := dk_156 0 13 (dk_at dksJ3_newCapacity_0 20 rfl rfl)
theorem dJ3_newCapacity_23 : decode cJ3_newCapacity 23 = .ok (.new 33, 3) := dk_187 0 33 (dk_at dksJ3_newCapacity_1 0 rfl rfl)
theorem dJ3_newCapacity_26 : decode cJ3_newCapacity 26 = .ok (.dup, 1) := dk_89 (dk_at dksJ3_newCapacity_1 3 rfl rfl)
theorem dJ3_newCapacity_27 : decode cJ3_newCapacity 27 = .ok (.ldc 35, 2) := dk_18 35 (dk_at dksJ3_newCapacity_1 4 rfl rfl)
theorem dJ3_newCapacity_29 : decode cJ3_newCapacity 29 = .ok (.invokespecial 37, 3) := dk_183 0 37 (dk_at dksJ3_newCapacity_1 6 rfl rfl)
theorem dJ3_newCapacity_32 : decode cJ3_newCapacity 32 = .ok (.athrow, 1) := dk_191 (dk_at dksJ3_newCapacity_1 9 rfl rfl)
theorem dJ3_newCapacity_33 : decode cJ3_newCapacity 33 = .ok (.ldc 41, 2) := dk_18 41 (dk_at dksJ3_newCapacity_1 10 rfl rfl)
theorem dJ3_newCapacity_35 : decode cJ3_newCapacity 35 = .ok (.ireturn, 1) := dk_172 (dk_at dksJ3_newCapacity_1 12 rfl rfl)
theorem dJ3_newCapacity_36 : decode cJ3_newCapacity 36 = .ok (.iload_n 1, 1) := dk_27 (dk_at dksJ3_newCapacity_1 13 rfl rfl)
theorem dJ3_newCapacity_37 : decode cJ3_newCapacity 37 = .ok (.iload_n 2, 1) := dk_28 (dk_at dksJ3_newCapacity_1 14 rfl rfl)
theorem dJ3_newCapacity_38 : decode cJ3_newCapacity 38 = .ok (.if_icmp .le 6, 3) := dk_164 0 6 (dk_at dksJ3_newCapacity_1 15 rfl rfl)
theorem dJ3_newCapacity_41 : decode cJ3_newCapacity 41 = .ok (.iload 4, 2) := dk_21 4 (dk_at dksJ3_newCapacity_1 18 rfl rfl)
theorem dJ3_newCapacity_43 : decode cJ3_newCapacity 43 = .ok (.ireturn, 1) := dk_172 (dk_at dksJ3_newCapacity_1 20 rfl rfl)
theorem dJ3_newCapacity_44 : decode cJ3_newCapacity 44 = .ok (.iload_n 3, 1) := dk_29 (dk_at dksJ3_newCapacity_1 21 rfl rfl)
theorem dJ3_newCapacity_45 : decode cJ3_newCapacity 45 = .ok (.iload_n 2, 1) := dk_28 (dk_at dksJ3_newCapacity_1 22 rfl rfl)
theorem dJ3_newCapacity_46 : decode cJ3_newCapacity 46 = .ok (.iadd, 1) := dk_96 (dk_at dksJ3_newCapacity_1 23 rfl rfl)
theorem dJ3_newCapacity_47 : decode cJ3_newCapacity 47 = .ok (.ldc 9, 2) := dk_18 9 (dk_at dksJ3_newCapacity_2 0 rfl rfl)
theorem dJ3_newCapacity_49 : decode cJ3_newCapacity 49 = .ok (.isub, 1) := dk_100 (dk_at dksJ3_newCapacity_2 2 rfl rfl)
theorem dJ3_newCapacity_50 : decode cJ3_newCapacity 50 = .ok (.ifCond .ge 9, 3) := dk_156 0 9 (dk_at dksJ3_newCapacity_2 3 rfl rfl)
theorem dJ3_newCapacity_53 : decode cJ3_newCapacity 53 = .ok (.iload_n 3, 1) := dk_29 (dk_at dksJ3_newCapacity_2 6 rfl rfl)
theorem dJ3_newCapacity_54 : decode cJ3_newCapacity 54 = .ok (.iload_n 2, 1) := dk_28 (dk_at dksJ3_newCapacity_2 7 rfl rfl)
theorem dJ3_newCapacity_55 : decode cJ3_newCapacity 55 = .ok (.iadd, 1) := dk_96 (dk_at dksJ3_newCapacity_2 8 rfl rfl)
theorem dJ3_newCapacity_56 : decode cJ3_newCapacity 56 = .ok (.goto 5, 3) := dk_167 0 5 (dk_at dksJ3_newCapacity_2 9 rfl rfl)
theorem dJ3_newCapacity_59 : decode cJ3_newCapacity 59 = .ok (.ldc 9, 2) := dk_18 9 (dk_at dksJ3_newCapacity_2 12 rfl rfl)
theorem dJ3_newCapacity_61 : decode cJ3_newCapacity 61 = .ok (.ireturn, 1) := dk_172 (dk_at dksJ3_newCapacity_2 14 rfl rfl)
abbrev cJ3_removeLast : ByteArray := prog_62_method_19_code
def yJ3_removeLast : MethodName := ⟨RJ3, "removeLast", "()Ljava/lang/Object;"⟩
def dkwJ3_removeLast_0 : List UInt8 := [42, 182, 0, 100, 76, 43, 199, 0, 11, 187, 0, 97, 89, 183, 0, 99, 191, 43, 176]
abbrev dktJ3_removeLast_0 : List UInt8 := dkwJ3_removeLast_0 ++ []
theorem dksJ3_removeLast_0 : cJ3_removeLast.data.toList.drop 0 = dktJ3_removeLast_0 := by decide +kernel
theorem dJ3_removeLast_0 : decode cJ3_removeLast 0 = .ok (.aload_n 0, 1) := dk_42 (dk_at dksJ3_removeLast_0 0 rfl rfl)
theorem dJ3_removeLast_1 : decode cJ3_removeLast 1 = .ok (.invokevirtual 100, 3) := dk_182 0 100 (dk_at dksJ3_removeLast_0 1 rfl rfl)
theorem dJ3_removeLast_4 : decode cJ3_removeLast 4 = .ok (.astore_n 1, 1) := dk_76 (dk_at dksJ3_removeLast_0 4 rfl rfl)
theorem dJ3_removeLast_5 : decode cJ3_removeLast 5 = .ok (.aload_n 1, 1) := dk_43 (dk_at dksJ3_removeLast_0 5 rfl rfl)
theorem dJ3_removeLast_6 : decode cJ3_removeLast 6 = .ok (.ifnonnull 11, 3) := dk_199 0 11 (dk_at dksJ3_removeLast_0 6 rfl rfl)
theorem dJ3_removeLast_9 : decode cJ3_removeLast 9 = .ok (.new 97, 3) := dk_187 0 97 (dk_at dksJ3_removeLast_0 9 rfl rfl)
theorem dJ3_removeLast_12 : decode cJ3_removeLast 12 = .ok (.dup, 1) := dk_89 (dk_at dksJ3_removeLast_0 12 rfl rfl)
theorem dJ3_removeLast_13 : decode cJ3_removeLast 13 = .ok (.invokespecial 99, 3) := dk_183 0 99 (dk_at dksJ3_removeLast_0 13 rfl rfl)
theorem dJ3_removeLast_16 : decode cJ3_removeLast 16 = .ok (.athrow, 1) := dk_191 (dk_at dksJ3_removeLast_0 16 rfl rfl)
theorem dJ3_removeLast_17 : decode cJ3_removeLast 17 = .ok (.aload_n 1, 1) := dk_43 (dk_at dksJ3_removeLast_0 17 rfl rfl)
theorem dJ3_removeLast_18 : decode cJ3_removeLast 18 = .ok (.areturn, 1) := dk_176 (dk_at dksJ3_removeLast_0 18 rfl rfl)
abbrev cJ3_pollLast : ByteArray := prog_62_method_21_code
def yJ3_pollLast : MethodName := ⟨RJ3, "pollLast", "()Ljava/lang/Object;"⟩
def dkwJ3_pollLast_1 : List UInt8 := [198, 0, 12, 43, 42, 28, 90, 181, 0, 20, 1, 83, 45, 176]
abbrev dktJ3_pollLast_1 : List UInt8 := dkwJ3_pollLast_1 ++ []
def dkwJ3_pollLast_0 : List UInt8 := [42, 180, 0, 3, 89, 76, 42, 180, 0, 20, 43, 190, 184, 0, 68, 89, 61, 184, 0, 103, 78, 45]
abbrev dktJ3_pollLast_0 : List UInt8 := dkwJ3_pollLast_0 ++ dktJ3_pollLast_1
theorem dksJ3_pollLast_0 : cJ3_pollLast.data.toList.drop 0 = dktJ3_pollLast_0 := by decide +kernel
theorem dksJ3_pollLast_1 : cJ3_pollLast.data.toList.drop 22 = dktJ3_pollLast_1 := dk_seg dksJ3_pollLast_0 22 rfl rfl
theorem dJ3_pollLast_0 : decode cJ3_pollLast 0 = .ok (.aload_n 0, 1) := dk_42 (dk_at dksJ3_pollLast_0 0 rfl rfl)
theorem dJ3_pollLast_1 : decode cJ3_pollLast 1 = .ok (.getfield 3, 3) := dk_180 0 3 (dk_at dksJ3_pollLast_0 1 rfl rfl)
theorem dJ3_pollLast_4 : decode cJ3_pollLast 4 = .ok (.dup, 1) := dk_89 (dk_at dksJ3_pollLast_0 4 rfl rfl)
theorem dJ3_pollLast_5 : decode cJ3_pollLast 5 = .ok (.astore_n 1, 1) := dk_76 (dk_at dksJ3_pollLast_0 5 rfl rfl)
theorem dJ3_pollLast_6 : decode cJ3_pollLast 6 = .ok (.aload_n 0, 1) := dk_42 (dk_at dksJ3_pollLast_0 6 rfl rfl)
theorem dJ3_pollLast_7 : decode cJ3_pollLast 7 = .ok (.getfield 20, 3) := dk_180 0 20 (dk_at dksJ3_pollLast_0 7 rfl rfl)
theorem dJ3_pollLast_10 : decode cJ3_pollLast 10 = .ok (.aload_n 1, 1) := dk_43 (dk_at dksJ3_pollLast_0 10 rfl rfl)
theorem dJ3_pollLast_11 : decode cJ3_pollLast 11 = .ok (.arraylength, 1) := dk_190 (dk_at dksJ3_pollLast_0 11 rfl rfl)
theorem dJ3_pollLast_12 : decode cJ3_pollLast 12 = .ok (.invokestatic 68, 3) := dk_184 0 68 (dk_at dksJ3_pollLast_0 12 rfl rfl)
theorem dJ3_pollLast_15 : decode cJ3_pollLast 15 = .ok (.dup, 1) := dk_89 (dk_at dksJ3_pollLast_0 15 rfl rfl)
theorem dJ3_pollLast_16 : decode cJ3_pollLast 16 = .ok (.istore_n 2, 1) := dk_61 (dk_at dksJ3_pollLast_0 16 rfl rfl)
theorem dJ3_pollLast_17 : decode cJ3_pollLast 17 = .ok (.invokestatic 103, 3) := dk_184 0 103 (dk_at dksJ3_pollLast_0 17 rfl rfl)
theorem dJ3_pollLast_20 : decode cJ3_pollLast 20 = .ok (.astore_n 3, 1) := dk_78 (dk_at dksJ3_pollLast_0 20 rfl rfl)
theorem dJ3_pollLast_21 : decode cJ3_pollLast 21 = .ok (.aload_n 3, 1) := dk_45 (dk_at dksJ3_pollLast_0 21 rfl rfl)
theorem dJ3_pollLast_22 : decode cJ3_pollLast 22 = .ok (.ifnull 12, 3) := dk_198 0 12 (dk_at dksJ3_pollLast_1 0 rfl rfl)
theorem dJ3_pollLast_25 : decode cJ3_pollLast 25 = .ok (.aload_n 1, 1) := dk_43 (dk_at dksJ3_pollLast_1 3 rfl rfl)
theorem dJ3_pollLast_26 : decode cJ3_pollLast 26 = .ok (.aload_n 0, 1) := dk_42 (dk_at dksJ3_pollLast_1 4 rfl rfl)
theorem dJ3_pollLast_27 : decode cJ3_pollLast 27 = .ok (.iload_n 2, 1) := dk_28 (dk_at dksJ3_pollLast_1 5 rfl rfl)
theorem dJ3_pollLast_28 : decode cJ3_pollLast 28 = .ok (.dup_x1, 1) := dk_90 (dk_at dksJ3_pollLast_1 6 rfl rfl)
theorem dJ3_pollLast_29 : decode cJ3_pollLast 29 = .ok (.putfield 20, 3) := dk_181 0 20 (dk_at dksJ3_pollLast_1 7 rfl rfl)
theorem dJ3_pollLast_32 : decode cJ3_pollLast 32 = .ok (.aconst_null, 1) := dk_1 (dk_at dksJ3_pollLast_1 10 rfl rfl)
theorem dJ3_pollLast_33 : decode cJ3_pollLast 33 = .ok (.aastore, 1) := dk_83 (dk_at dksJ3_pollLast_1 11 rfl rfl)
theorem dJ3_pollLast_34 : decode cJ3_pollLast 34 = .ok (.aload_n 3, 1) := dk_45 (dk_at dksJ3_pollLast_1 12 rfl rfl)
theorem dJ3_pollLast_35 : decode cJ3_pollLast 35 = .ok (.areturn, 1) := dk_176 (dk_at dksJ3_pollLast_1 13 rfl rfl)
abbrev cJ3_dec : ByteArray := prog_62_method_7_code
def yJ3_dec : MethodName := ⟨RJ3, "dec", "(II)I"⟩
def dkwJ3_dec_0 : List UInt8 := [132, 0, 255, 26, 156, 0, 7, 27, 4, 100, 59, 26, 172]
abbrev dktJ3_dec_0 : List UInt8 := dkwJ3_dec_0 ++ []
theorem dksJ3_dec_0 : cJ3_dec.data.toList.drop 0 = dktJ3_dec_0 := by decide +kernel
theorem dJ3_dec_0 : decode cJ3_dec 0 = .ok (.iinc 0 (-1), 3) := dk_132 0 255 (dk_at dksJ3_dec_0 0 rfl rfl)
theorem dJ3_dec_3 : decode cJ3_dec 3 = .ok (.iload_n 0, 1) := dk_26 (dk_at dksJ3_dec_0 3 rfl rfl)
theorem dJ3_dec_4 : decode cJ3_dec 4 = .ok (.ifCond .ge 7, 3) := dk_156 0 7 (dk_at dksJ3_dec_0 4 rfl rfl)
theorem dJ3_dec_7 : decode cJ3_dec 7 = .ok (.iload_n 1, 1) := dk_27 (dk_at dksJ3_dec_0 7 rfl rfl)
theorem dJ3_dec_8 : decode cJ3_dec 8 = .ok (.iconst 1, 1) := dk_4 (dk_at dksJ3_dec_0 8 rfl rfl)
theorem dJ3_dec_9 : decode cJ3_dec 9 = .ok (.isub, 1) := dk_100 (dk_at dksJ3_dec_0 9 rfl rfl)
theorem dJ3_dec_10 : decode cJ3_dec 10 = .ok (.istore_n 0, 1) := dk_59 (dk_at dksJ3_dec_0 10 rfl rfl)
theorem dJ3_dec_11 : decode cJ3_dec 11 = .ok (.iload_n 0, 1) := dk_26 (dk_at dksJ3_dec_0 11 rfl rfl)
theorem dJ3_dec_12 : decode cJ3_dec 12 = .ok (.ireturn, 1) := dk_172 (dk_at dksJ3_dec_0 12 rfl rfl)
theorem q93 : (Jvm.Cond.initialized "java/util/ArrayDeque") ∈ lw_all := lw_g (lw_at lw_m1 7 rfl) rfl
theorem q317 : (Jvm.Cond.instantiable "java/util/ArrayDeque" (3 : Nat)) ∈ lw_all := lw_g (lw_at lw_m1 231 rfl) rfl
theorem q319 : (Jvm.Cond.instanceMethod ({ cls := "java/util/ArrayDeque", name := "<init>", desc := "()V" } : Jvm.MethodName)) ∈ lw_all := lw_g (lw_at lw_m1 233 rfl) rfl
theorem q320 : (Jvm.Cond.code ({ cls := "java/util/ArrayDeque", name := "<init>", desc := "()V" } : Jvm.MethodName) prog_62_method_3_code (1 : Nat) (Option.none : Option Jvm.ClassFile.FieldType)) ∈ lw_all := lw_g (lw_at lw_m1 234 rfl) rfl
theorem q321 : (Jvm.Cond.methodLink "java/util/ArrayDeque" (42 : Nat) ({ cls := "java/util/AbstractCollection", name := "<init>", desc := "()V" } : Jvm.MethodName)) ∈ lw_all := lw_g (lw_at lw_m1 235 rfl) rfl
theorem q322 : (Jvm.Cond.classLink "java/util/ArrayDeque" (47 : Nat) "java/lang/Object") ∈ lw_all := lw_g (lw_at lw_m1 236 rfl) rfl
theorem q324 : (Jvm.Cond.fieldLink "java/util/ArrayDeque" (3 : Nat) "java/util/ArrayDeque" "elements" "[Ljava/lang/Object;") ∈ lw_all := lw_g (lw_at lw_m1 238 rfl) rfl
theorem q327 : (Jvm.Cond.fieldLink "java/util/ArrayDeque" (24 : Nat) "java/util/ArrayDeque" "head" "I") ∈ lw_all := lw_g (lw_at lw_m2 1 rfl) rfl
theorem q328 : (Jvm.Cond.fieldLink "java/util/ArrayDeque" (20 : Nat) "java/util/ArrayDeque" "tail" "I") ∈ lw_all := lw_g (lw_at lw_m2 2 rfl) rfl
theorem q329 : (Jvm.Cond.lays "java/util/ArrayDeque" "java/util/ArrayDeque" "elements" "[Ljava/lang/Object;") ∈ lw_all := lw_g (lw_at lw_m2 3 rfl) rfl
theorem q330 : (Jvm.Cond.soleField "java/util/ArrayDeque" "elements") ∈ lw_all := lw_g (lw_at lw_m2 4 rfl) rfl
theorem q331 : (Jvm.Cond.lays "java/util/ArrayDeque" "java/util/ArrayDeque" "head" "I") ∈ lw_all := lw_g (lw_at lw_m2 5 rfl) rfl
theorem q332 : (Jvm.Cond.soleField "java/util/ArrayDeque" "head") ∈ lw_all := lw_g (lw_at lw_m2 6 rfl) rfl
theorem q333 : (Jvm.Cond.lays "java/util/ArrayDeque" "java/util/ArrayDeque" "tail" "I") ∈ lw_all := lw_g (lw_at lw_m2 7 rfl) rfl
theorem q334 : (Jvm.Cond.soleField "java/util/ArrayDeque" "tail") ∈ lw_all := lw_g (lw_at lw_m2 8 rfl) rfl
theorem q335 : (Jvm.Cond.superclass "java/util/ArrayDeque" "java/util/AbstractCollection") ∈ lw_all := lw_g (lw_at lw_m2 9 rfl) rfl
theorem q664 : (Jvm.Cond.castable "java/util/ArrayDeque" "java/util/Collection") ∈ lw_tbl := lw_at lw_m3 98 rfl
theorem q665 : (Jvm.Cond.selects "java/util/ArrayDeque" ({ cls := "java/util/Collection", name := "toArray", desc := "()[Ljava/lang/Object;" } : Jvm.MethodName) ({ cls := "java/util/ArrayDeque", name := "toArray", desc := "()[Ljava/lang/Object;" } : Jvm.MethodName)) ∈ lw_all := lw_g (lw_at lw_m3 99 rfl) rfl
theorem q666 : (Jvm.Cond.unhidden "java/util/ArrayDeque" "toArray" "()[Ljava/lang/Object;") ∈ lw_tbl := lw_at lw_m3 100 rfl
theorem q667 : (Jvm.Cond.instanceMethod ({ cls := "java/util/ArrayDeque", name := "toArray", desc := "()[Ljava/lang/Object;" } : Jvm.MethodName)) ∈ lw_all := lw_g (lw_at lw_m3 101 rfl) rfl
theorem q668 : (Jvm.Cond.publicMethod ({ cls := "java/util/ArrayDeque", name := "toArray", desc := "()[Ljava/lang/Object;" } : Jvm.MethodName)) ∈ lw_tbl := lw_at lw_m3 102 rfl
theorem q669 : (Jvm.Cond.code ({ cls := "java/util/ArrayDeque", name := "toArray", desc := "()[Ljava/lang/Object;" } : Jvm.MethodName) prog_62_method_55_code (1 : Nat) (Option.some (Jvm.ClassFile.FieldType.array (Jvm.ClassFile.FieldType.object "java/lang/Object")))) ∈ lw_all := lw_g (lw_at lw_m3 103 rfl) rfl
theorem q670 : (Jvm.Cond.classLink "java/util/ArrayDeque" (188 : Nat) "[Ljava/lang/Object;") ∈ lw_all := lw_g (lw_at lw_m3 104 rfl) rfl
theorem q671 : (Jvm.Cond.methodLink "java/util/ArrayDeque" (189 : Nat) ({ cls := "java/util/ArrayDeque", name := "toArray", desc := "(Ljava/lang/Class;)[Ljava/lang/Object;" } : Jvm.MethodName)) ∈ lw_all := lw_g (lw_at lw_m3 105 rfl) rfl
theorem q672 : (Jvm.Cond.privateMethod ({ cls := "java/util/ArrayDeque", name := "toArray", desc := "(Ljava/lang/Class;)[Ljava/lang/Object;" } : Jvm.MethodName)) ∈ lw_tbl := lw_at lw_m3 106 rfl
theorem q673 : (Jvm.Cond.instanceMethod ({ cls := "java/util/ArrayDeque", name := "toArray", desc := "(Ljava/lang/Class;)[Ljava/lang/Object;" } : Jvm.MethodName)) ∈ lw_all := lw_g (lw_at lw_m3 107 rfl) rfl
theorem q674 : (Jvm.Cond.code ({ cls := "java/util/ArrayDeque", name := "toArray", desc := "(Ljava/lang/Class;)[Ljava/lang/Object;" } : Jvm.MethodName) prog_62_method_56_code (7 : Nat) (Option.some (Jvm.ClassFile.FieldType.array (Jvm.ClassFile.FieldType.object "java/lang/Object")))) ∈ lw_all := lw_g (lw_at lw_m3 108 rfl) rfl
theorem q675 : (Jvm.Cond.methodLink "java/util/ArrayDeque" (193 : Nat) ({ cls := "java/util/Arrays", name := "copyOfRange", desc := "([Ljava/lang/Object;IILjava/lang/Class;)[Ljava/lang/Object;" } : Jvm.MethodName)) ∈ lw_all := lw_g (lw_at lw_m3 109 rfl) rfl
theorem q684 : (Jvm.Cond.methodLink "java/util/ArrayDeque" (27 : Nat) ({ cls := "java/lang/System", name := "arraycopy", desc := "(Ljava/lang/Object;ILjava/lang/Object;II)V" } : Jvm.MethodName)) ∈ lw_all := lw_g (lw_at lw_m3 118 rfl) rfl
theorem q731 : (Jvm.Cond.selects "java/util/ArrayDeque" ({ cls := "java/lang/Object", name := "getClass", desc := "()Ljava/lang/Class;" } : Jvm.MethodName) ({ cls := "java/lang/Object", name := "getClass", desc := "()Ljava/lang/Class;" } : Jvm.MethodName)) ∈ lw_all := lw_g (lw_at lw_m3 165 rfl) rfl
theorem q763 : (Jvm.Cond.selects "java/util/ArrayDeque" ({ cls := "java/util/AbstractCollection", name := "size", desc := "()I" } : Jvm.MethodName) ({ cls := "java/util/ArrayDeque", name := "size", desc := "()I" } : Jvm.MethodName)) ∈ lw_all := lw_g (lw_at lw_m3 197 rfl) rfl
theorem q764 : (Jvm.Cond.instanceMethod ({ cls := "java/util/ArrayDeque", name := "size", desc := "()I" } : Jvm.MethodName)) ∈ lw_all := lw_g (lw_at lw_m3 198 rfl) rfl
theorem q765 : (Jvm.Cond.code ({ cls := "java/util/ArrayDeque", name := "size", desc := "()I" } : Jvm.MethodName) prog_62_method_37_code (1 : Nat) (Option.some Jvm.ClassFile.FieldType.int)) ∈ lw_all := lw_g (lw_at lw_m3 199 rfl) rfl
theorem q766 : (Jvm.Cond.methodLink "java/util/ArrayDeque" (127 : Nat) ({ cls := "java/util/ArrayDeque", name := "sub", desc := "(III)I" } : Jvm.MethodName)) ∈ lw_all := lw_g (lw_at lw_m3 200 rfl) rfl
theorem q767 : (Jvm.Cond.static ({ cls := "java/util/ArrayDeque", name := "sub", desc := "(III)I" } : Jvm.MethodName)) ∈ lw_all := lw_g (lw_at lw_m3 201 rfl) rfl
theorem q768 : (Jvm.Cond.code ({ cls := "java/util/ArrayDeque", name := "sub", desc := "(III)I" } : Jvm.MethodName) prog_62_method_9_code (3 : Nat) (Option.some Jvm.ClassFile.FieldType.int)) ∈ lw_all := lw_g (lw_at lw_m3 202 rfl) rfl
theorem q793 : (Jvm.Cond.selects "java/util/ArrayDeque" ({ cls := "java/util/AbstractCollection", name := "iterator", desc := "()Ljava/util/Iterator;" } : Jvm.MethodName) ({ cls := "java/util/ArrayDeque", name := "iterator", desc := "()Ljava/util/Iterator;" } : Jvm.MethodName)) ∈ lw_all := lw_g (lw_at lw_m3 227 rfl) rfl
theorem q794 : (Jvm.Cond.instanceMethod ({ cls := "java/util/ArrayDeque", name := "iterator", desc := "()Ljava/util/Iterator;" } : Jvm.MethodName)) ∈ lw_all := lw_g (lw_at lw_m3 228 rfl) rfl
theorem q795 : (Jvm.Cond.code ({ cls := "java/util/ArrayDeque", name := "iterator", desc := "()Ljava/util/Iterator;" } : Jvm.MethodName) prog_62_method_39_code (1 : Nat) (Option.some (Jvm.ClassFile.FieldType.object "java/util/Iterator"))) ∈ lw_all := lw_g (lw_at lw_m3 229 rfl) rfl
theorem q796 : (Jvm.Cond.classLink "java/util/ArrayDeque" (131 : Nat) "java/util/ArrayDeque$DeqIterator") ∈ lw_all := lw_g (lw_at lw_m3 230 rfl) rfl
theorem q798 : (Jvm.Cond.methodLink "java/util/ArrayDeque" (133 : Nat) ({ cls := "java/util/ArrayDeque$DeqIterator", name := "<init>", desc := "(Ljava/util/ArrayDeque;)V" } : Jvm.MethodName)) ∈ lw_all := lw_g (lw_at lw_m3 232 rfl) rfl
theorem q964 : (Jvm.Cond.instanceMethod ({ cls := "java/util/ArrayDeque", name := "isEmpty", desc := "()Z" } : Jvm.MethodName)) ∈ lw_all := lw_g (lw_at lw_m4 158 rfl) rfl
theorem q965 : (Jvm.Cond.selects "java/util/ArrayDeque" ({ cls := "java/util/ArrayDeque", name := "isEmpty", desc := "()Z" } : Jvm.MethodName) ({ cls := "java/util/ArrayDeque", name := "isEmpty", desc := "()Z" } : Jvm.MethodName)) ∈ lw_all := lw_g (lw_at lw_m4 159 rfl) rfl
theorem q966 : (Jvm.Cond.code ({ cls := "java/util/ArrayDeque", name := "isEmpty", desc := "()Z" } : Jvm.MethodName) prog_62_method_38_code (1 : Nat) (Option.some Jvm.ClassFile.FieldType.boolean)) ∈ lw_all := lw_g (lw_at lw_m4 160 rfl) rfl
theorem q984 : (Jvm.Cond.static ({ cls := "java/util/ArrayDeque", name := "nonNullElementAt", desc := "([Ljava/lang/Object;I)Ljava/lang/Object;" } : Jvm.MethodName)) ∈ lw_all := lw_g (lw_at lw_m4 178 rfl) rfl
theorem q985 : (Jvm.Cond.code ({ cls := "java/util/ArrayDeque", name := "nonNullElementAt", desc := "([Ljava/lang/Object;I)Ljava/lang/Object;" } : Jvm.MethodName) prog_62_method_11_code (3 : Nat) (Option.some (Jvm.ClassFile.FieldType.object "java/lang/Object"))) ∈ lw_all := lw_g (lw_at lw_m4 179 rfl) rfl
theorem q987 : (Jvm.Cond.static ({ cls := "java/util/ArrayDeque", name := "inc", desc := "(II)I" } : Jvm.MethodName)) ∈ lw_all := lw_g (lw_at lw_m4 181 rfl) rfl
theorem q988 : (Jvm.Cond.code ({ cls := "java/util/ArrayDeque", name := "inc", desc := "(II)I" } : Jvm.MethodName) prog_62_method_6_code (2 : Nat) (Option.some Jvm.ClassFile.FieldType.int)) ∈ lw_all := lw_g (lw_at lw_m4 182 rfl) rfl
theorem q1004 : (Jvm.Cond.instanceMethod ({ cls := "java/util/ArrayDeque", name := "poll", desc := "()Ljava/lang/Object;" } : Jvm.MethodName)) ∈ lw_all := lw_g (lw_at lw_m4 198 rfl) rfl
theorem q1005 : (Jvm.Cond.selects "java/util/ArrayDeque" ({ cls := "java/util/ArrayDeque", name := "poll", desc := "()Ljava/lang/Object;" } : Jvm.MethodName) ({ cls := "java/util/ArrayDeque", name := "poll", desc := "()Ljava/lang/Object;" } : Jvm.MethodName)) ∈ lw_all := lw_g (lw_at lw_m4 199 rfl) rfl
theorem q1006 : (Jvm.Cond.code ({ cls := "java/util/ArrayDeque", name := "poll", desc := "()Ljava/lang/Object;" } : Jvm.MethodName) prog_62_method_31_code (1 : Nat) (Option.some (Jvm.ClassFile.FieldType.object "java/lang/Object"))) ∈ lw_all := lw_g (lw_at lw_m4 200 rfl) rfl
theorem q1007 : (Jvm.Cond.methodLink "java/util/ArrayDeque" (93 : Nat) ({ cls := "java/util/ArrayDeque", name := "pollFirst", desc := "()Ljava/lang/Object;" } : Jvm.MethodName)) ∈ lw_all := lw_g (lw_at lw_m4 201 rfl) rfl
theorem q1008 : (Jvm.Cond.instanceMethod ({ cls := "java/util/ArrayDeque", name := "pollFirst", desc := "()Ljava/lang/Object;" } : Jvm.MethodName)) ∈ lw_all := lw_g (lw_at lw_m4 202 rfl) rfl
theorem q1009 : (Jvm.Cond.selects "java/util/ArrayDeque" ({ cls := "java/util/ArrayDeque", name := "pollFirst", desc := "()Ljava/lang/Object;" } : Jvm.MethodName) ({ cls := "java/util/ArrayDeque", name := "pollFirst", desc := "()Ljava/lang/Object;" } : Jvm.MethodName)) ∈ lw_all := lw_g (lw_at lw_m4 203 rfl) rfl
theorem q1010 : (Jvm.Cond.code ({ cls := "java/util/ArrayDeque", name := "pollFirst", desc := "()Ljava/lang/Object;" } : Jvm.MethodName) prog_62_method_20_code (4 : Nat) (Option.some (Jvm.ClassFile.FieldType.object "java/lang/Object"))) ∈ lw_all := lw_g (lw_at lw_m4 204 rfl) rfl
theorem q1011 : (Jvm.Cond.methodLink "java/util/ArrayDeque" (103 : Nat) ({ cls := "java/util/ArrayDeque", name := "elementAt", desc := "([Ljava/lang/Object;I)Ljava/lang/Object;" } : Jvm.MethodName)) ∈ lw_all := lw_g (lw_at lw_m4 205 rfl) rfl
theorem q1012 : (Jvm.Cond.static ({ cls := "java/util/ArrayDeque", name := "elementAt", desc := "([Ljava/lang/Object;I)Ljava/lang/Object;" } : Jvm.MethodName)) ∈ lw_all := lw_g (lw_at lw_m4 206 rfl) rfl
theorem q1013 : (Jvm.Cond.code ({ cls := "java/util/ArrayDeque", name := "elementAt", desc := "([Ljava/lang/Object;I)Ljava/lang/Object;" } : Jvm.MethodName) prog_62_method_10_code (2 : Nat) (Option.some (Jvm.ClassFile.FieldType.object "java/lang/Object"))) ∈ lw_all := lw_g (lw_at lw_m4 207 rfl) rfl
theorem q1014 : (Jvm.Cond.methodLink "java/util/ArrayDeque" (74 : Nat) ({ cls := "java/util/ArrayDeque", name := "inc", desc := "(II)I" } : Jvm.MethodName)) ∈ lw_all := lw_g (lw_at lw_m4 208 rfl) rfl
theorem q1059 : (Jvm.Cond.instanceMethod ({ cls := "java/util/ArrayDeque", name := "removeFirst", desc := "()Ljava/lang/Object;" } : Jvm.MethodName)) ∈ lw_all := lw_g (lw_at lw_m5 13 rfl) rfl
theorem q1060 : (Jvm.Cond.selects "java/util/ArrayDeque" ({ cls := "java/util/ArrayDeque", name := "removeFirst", desc := "()Ljava/lang/Object;" } : Jvm.MethodName) ({ cls := "java/util/ArrayDeque", name := "removeFirst", desc := "()Ljava/lang/Object;" } : Jvm.MethodName)) ∈ lw_all := lw_g (lw_at lw_m5 14 rfl) rfl
theorem q1061 : (Jvm.Cond.code ({ cls := "java/util/ArrayDeque", name := "removeFirst", desc := "()Ljava/lang/Object;" } : Jvm.MethodName) prog_62_method_18_code (2 : Nat) (Option.some (Jvm.ClassFile.FieldType.object "java/lang/Object"))) ∈ lw_all := lw_g (lw_at lw_m5 15 rfl) rfl
theorem q1063 : (Jvm.Cond.instanceMethod ({ cls := "java/util/ArrayDeque", name := "addLast", desc := "(Ljava/lang/Object;)V" } : Jvm.MethodName)) ∈ lw_all := lw_g (lw_at lw_m5 17 rfl) rfl
theorem q1064 : (Jvm.Cond.selects "java/util/ArrayDeque" ({ cls := "java/util/ArrayDeque", name := "addLast", desc := "(Ljava/lang/Object;)V" } : Jvm.MethodName) ({ cls := "java/util/ArrayDeque", name := "addLast", desc := "(Ljava/lang/Object;)V" } : Jvm.MethodName)) ∈ lw_all := lw_g (lw_at lw_m5 18 rfl) rfl
theorem q1065 : (Jvm.Cond.code ({ cls := "java/util/ArrayDeque", name := "addLast", desc := "(Ljava/lang/Object;)V" } : Jvm.MethodName) prog_62_method_13_code (3 : Nat) (Option.none : Option Jvm.ClassFile.FieldType)) ∈ lw_all := lw_g (lw_at lw_m5 19 rfl) rfl
theorem q1066 : (Jvm.Cond.methodLink "java/util/ArrayDeque" (71 : Nat) ({ cls := "java/util/ArrayDeque", name := "grow", desc := "(I)V" } : Jvm.MethodName)) ∈ lw_all := lw_g (lw_at lw_m5 20 rfl) rfl
theorem q1067 : (Jvm.Cond.privateMethod ({ cls := "java/util/ArrayDeque", name := "grow", desc := "(I)V" } : Jvm.MethodName)) ∈ lw_tbl := lw_at lw_m5 21 rfl
theorem q1068 : (Jvm.Cond.instanceMethod ({ cls := "java/util/ArrayDeque", name := "grow", desc := "(I)V" } : Jvm.MethodName)) ∈ lw_all := lw_g (lw_at lw_m5 22 rfl) rfl
theorem q1069 : (Jvm.Cond.code ({ cls := "java/util/ArrayDeque", name := "grow", desc := "(I)V" } : Jvm.MethodName) prog_62_method_1_code (9 : Nat) (Option.none : Option Jvm.ClassFile.FieldType)) ∈ lw_all := lw_g (lw_at lw_m5 23 rfl) rfl
theorem q1070 : (Jvm.Cond.constant "java/util/ArrayDeque" (9 : Nat) (2147483639 : Int32)) ∈ lw_all := lw_g (lw_at lw_m5 24 rfl) rfl
theorem q1071 : (Jvm.Cond.methodLink "java/util/ArrayDeque" (10 : Nat) ({ cls := "java/util/ArrayDeque", name := "newCapacity", desc := "(II)I" } : Jvm.MethodName)) ∈ lw_all := lw_g (lw_at lw_m5 25 rfl) rfl
theorem q1072 : (Jvm.Cond.privateMethod ({ cls := "java/util/ArrayDeque", name := "newCapacity", desc := "(II)I" } : Jvm.MethodName)) ∈ lw_tbl := lw_at lw_m5 26 rfl
theorem q1073 : (Jvm.Cond.instanceMethod ({ cls := "java/util/ArrayDeque", name := "newCapacity", desc := "(II)I" } : Jvm.MethodName)) ∈ lw_all := lw_g (lw_at lw_m5 27 rfl) rfl
theorem q1074 : (Jvm.Cond.code ({ cls := "java/util/ArrayDeque", name := "newCapacity", desc := "(II)I" } : Jvm.MethodName) prog_62_method_2_code (5 : Nat) (Option.some Jvm.ClassFile.FieldType.int)) ∈ lw_all := lw_g (lw_at lw_m5 28 rfl) rfl
theorem q1075 : (Jvm.Cond.constant "java/util/ArrayDeque" (41 : Nat) (2147483647 : Int32)) ∈ lw_all := lw_g (lw_at lw_m5 29 rfl) rfl
theorem q1076 : (Jvm.Cond.methodLink "java/util/ArrayDeque" (14 : Nat) ({ cls := "java/util/Arrays", name := "copyOf", desc := "([Ljava/lang/Object;I)[Ljava/lang/Object;" } : Jvm.MethodName)) ∈ lw_all := lw_g (lw_at lw_m5 30 rfl) rfl
theorem q1597 : (Jvm.Cond.instanceMethod ({ cls := "java/util/ArrayDeque", name := "removeLast", desc := "()Ljava/lang/Object;" } : Jvm.MethodName)) ∈ lw_all := lw_g (lw_at lw_m7 71 rfl) rfl
theorem q1598 : (Jvm.Cond.selects "java/util/ArrayDeque" ({ cls := "java/util/ArrayDeque", name := "removeLast", desc := "()Ljava/lang/Object;" } : Jvm.MethodName) ({ cls := "java/util/ArrayDeque", name := "removeLast", desc := "()Ljava/lang/Object;" } : Jvm.MethodName)) ∈ lw_all := lw_g (lw_at lw_m7 72 rfl) rfl
theorem q1599 : (Jvm.Cond.code ({ cls := "java/util/ArrayDeque", name := "removeLast", desc := "()Ljava/lang/Object;" } : Jvm.MethodName) prog_62_method_19_code (2 : Nat) (Option.some (Jvm.ClassFile.FieldType.object "java/lang/Object"))) ∈ lw_all := lw_g (lw_at lw_m7 73 rfl) rfl
theorem q1600 : (Jvm.Cond.methodLink "java/util/ArrayDeque" (100 : Nat) ({ cls := "java/util/ArrayDeque", name := "pollLast", desc := "()Ljava/lang/Object;" } : Jvm.MethodName)) ∈ lw_all := lw_g (lw_at lw_m7 74 rfl) rfl
theorem q1601 : (Jvm.Cond.instanceMethod ({ cls := "java/util/ArrayDeque", name := "pollLast", desc := "()Ljava/lang/Object;" } : Jvm.MethodName)) ∈ lw_all := lw_g (lw_at lw_m7 75 rfl) rfl
theorem q1602 : (Jvm.Cond.selects "java/util/ArrayDeque" ({ cls := "java/util/ArrayDeque", name := "pollLast", desc := "()Ljava/lang/Object;" } : Jvm.MethodName) ({ cls := "java/util/ArrayDeque", name := "pollLast", desc := "()Ljava/lang/Object;" } : Jvm.MethodName)) ∈ lw_all := lw_g (lw_at lw_m7 76 rfl) rfl
theorem q1603 : (Jvm.Cond.code ({ cls := "java/util/ArrayDeque", name := "pollLast", desc := "()Ljava/lang/Object;" } : Jvm.MethodName) prog_62_method_21_code (4 : Nat) (Option.some (Jvm.ClassFile.FieldType.object "java/lang/Object"))) ∈ lw_all := lw_g (lw_at lw_m7 77 rfl) rfl
theorem q1604 : (Jvm.Cond.methodLink "java/util/ArrayDeque" (68 : Nat) ({ cls := "java/util/ArrayDeque", name := "dec", desc := "(II)I" } : Jvm.MethodName)) ∈ lw_all := lw_g (lw_at lw_m7 78 rfl) rfl
theorem q1605 : (Jvm.Cond.static ({ cls := "java/util/ArrayDeque", name := "dec", desc := "(II)I" } : Jvm.MethodName)) ∈ lw_all := lw_g (lw_at lw_m7 79 rfl) rfl
theorem q1606 : (Jvm.Cond.code ({ cls := "java/util/ArrayDeque", name := "dec", desc := "(II)I" } : Jvm.MethodName) prog_62_method_7_code (2 : Nat) (Option.some Jvm.ClassFile.FieldType.int)) ∈ lw_all := lw_g (lw_at lw_m7 80 rfl) rfl
theorem q3315 : (Jvm.Cond.selects "java/util/ArrayDeque" ({ cls := "java/util/ArrayDeque", name := "size", desc := "()I" } : Jvm.MethodName) ({ cls := "java/util/ArrayDeque", name := "size", desc := "()I" } : Jvm.MethodName)) ∈ lw_all := lw_g (lw_at lw_m14 109 rfl) rfl
theorem q3335 : (Jvm.Cond.castable "java/util/ArrayDeque" "java/lang/Object") ∈ lw_tbl := lw_at lw_m14 129 rfl
theorem in_J3 : ∀ w ∈ wsJ30, w ∈ lw_all := lw_in wsJ30 [329, 331, 333] (by decide +kernel) (by decide +kernel)

end
section
/-! java/lang/AbstractStringBuilder -/
set_option maxRecDepth 100000
def RJ4 : String := "java/lang/AbstractStringBuilder"
abbrev cJ4_init : ByteArray := prog_35_method_2_code
def yJ4_init : MethodName := ⟨RJ4, "<init>", "(I)V"⟩
def dkwJ4_init_1 : List UInt8 := [167, 0, 16, 42, 27, 184, 0, 26, 181, 0, 15, 42, 4, 181, 0, 22, 177]
abbrev dktJ4_init_1 : List UInt8 := dkwJ4_init_1 ++ []
def dkwJ4_init_0 : List UInt8 := [42, 183, 0, 3, 178, 0, 18, 153, 0, 18, 42, 27, 188, 8, 181, 0, 15, 42, 3, 181, 0, 22]
abbrev dktJ4_init_0 : List UInt8 := dkwJ4_init_0 ++ dktJ4_init_1
theorem dksJ4_init_0 : cJ4_init.data.toList.drop 0 = dktJ4_init_0 := by decide +kernel
theorem dksJ4_init_1 : cJ4_init.data.toList.drop 22 = dktJ4_init_1 := dk_seg dksJ4_init_0 22 rfl rfl
theorem dJ4_init_0 : decode cJ4_init 0 = .ok (.aload_n 0, 1) := dk_42 (dk_at dksJ4_init_0 0 rfl rfl)
theorem dJ4_init_1 : decode cJ4_init 1 = .ok (.invokespecial 3, 3) := dk_183 0 3 (dk_at dksJ4_init_0 1 rfl rfl)
theorem dJ4_init_4 : decode cJ4_init 4 = .ok (.getstatic 18, 3) := dk_178 0 18 (dk_at dksJ4_init_0 4 rfl rfl)
theorem dJ4_init_7 : decode cJ4_init 7 = .ok (.ifCond .eq 18, 3) := dk_153 0 18 (dk_at dksJ4_init_0 7 rfl rfl)
theorem dJ4_init_10 : decode cJ4_init 10 = .ok (.aload_n 0, 1) := dk_42 (dk_at dksJ4_init_0 10 rfl rfl)
theorem dJ4_init_11 : decode cJ4_init 11 = .ok (.iload_n 1, 1) := dk_27 (dk_at dksJ4_init_0 11 rfl rfl)
theorem dJ4_init_12 : decode cJ4_init 12 = .ok (.newarray .byte, 2) := dk_188_8 (dk_at dksJ4_init_0 12 rfl rfl)
theorem dJ4_init_14 : decode cJ4_init 14 = .ok (.putfield 15, 3) := dk_181 0 15 (dk_at dksJ4_init_0 14 rfl rfl)
theorem dJ4_init_17 : decode cJ4_init 17 = .ok (.aload_n 0, 1) := dk_42 (dk_at dksJ4_init_0 17 rfl rfl)
theorem dJ4_init_18 : decode cJ4_init 18 = .ok (.iconst 0, 1) := dk_3 (dk_at dksJ4_init_0 18 rfl rfl)
theorem dJ4_init_19 : decode cJ4_init 19 = .ok (.putfield 22, 3) := dk_181 0 22 (dk_at dksJ4_init_0 19 rfl rfl)
theorem dJ4_init_22 : decode cJ4_init 22 = .ok (.goto 16, 3) := dk_167 0 16 (dk_at dksJ4_init_1 0 rfl rfl)
theorem dJ4_init_25 : decode cJ4_init 25 = .ok (.aload_n 0, 1) := dk_42 (dk_at dksJ4_init_1 3 rfl rfl)
theorem dJ4_init_26 : decode cJ4_init 26 = .ok (.iload_n 1, 1) := dk_27 (dk_at dksJ4_init_1 4 rfl rfl)
theorem dJ4_init_27 : decode cJ4_init 27 = .ok (.invokestatic 26, 3) := dk_184 0 26 (dk_at dksJ4_init_1 5 rfl rfl)
theorem dJ4_init_30 : decode cJ4_init 30 = .ok (.putfield 15, 3) := dk_181 0 15 (dk_at dksJ4_init_1 8 rfl rfl)
theorem dJ4_init_33 : decode cJ4_init 33 = .ok (.aload_n 0, 1) := dk_42 (dk_at dksJ4_init_1 11 rfl rfl)
theorem dJ4_init_34 : decode cJ4_init 34 = .ok (.iconst 1, 1) := dk_4 (dk_at dksJ4_init_1 12 rfl rfl)
theorem dJ4_init_35 : decode cJ4_init 35 = .ok (.putfield 22, 3) := dk_181 0 22 (dk_at dksJ4_init_1 13 rfl rfl)
theorem dJ4_init_38 : decode cJ4_init 38 = .ok (.return_, 1) := dk_177 (dk_at dksJ4_init_1 16 rfl rfl)
abbrev cJ4_length : ByteArray := prog_35_method_6_code
def yJ4_length : MethodName := ⟨RJ4, "length", "()I"⟩
theorem dJ4_length_0 : decode cJ4_length 0 = .ok (.aload_n 0, 1) := by decide +kernel
theorem dJ4_length_1 : decode cJ4_length 1 = .ok (.getfield 79, 3) := by decide +kernel
theorem dJ4_length_4 : decode cJ4_length 4 = .ok (.ireturn, 1) := by decide +kernel
abbrev cJ4_append : ByteArray := prog_35_method_31_code
def yJ4_append : MethodName := ⟨RJ4, "append", "(C)Ljava/lang/AbstractStringBuilder;"⟩
def dkwJ4_append_3 : List UInt8 := [181, 0, 79, 27, 184, 0, 197, 42, 176]
abbrev dktJ4_append_3 : List UInt8 := dkwJ4_append_3 ++ []
def dkwJ4_append_2 : List UInt8 := [182, 0, 83, 153, 0, 7, 42, 182, 0, 195, 42, 180, 0, 15, 42, 89, 180, 0, 79, 90, 4, 96]
abbrev dktJ4_append_2 : List UInt8 := dkwJ4_append_2 ++ dktJ4_append_3
def dkwJ4_append_1 : List UInt8 := [42, 180, 0, 15, 42, 89, 180, 0, 79, 90, 4, 96, 181, 0, 79, 27, 145, 84, 167, 0, 33, 42]
abbrev dktJ4_append_1 : List UInt8 := dkwJ4_append_1 ++ dktJ4_append_2
def dkwJ4_append_0 : List UInt8 := [42, 42, 180, 0, 79, 4, 96, 182, 0, 100, 42, 182, 0, 83, 153, 0, 31, 27, 184, 0, 191, 153, 0, 24]
abbrev dktJ4_append_0 : List UInt8 := dkwJ4_append_0 ++ dktJ4_append_1
theorem dksJ4_append_0 : cJ4_append.data.toList.drop 0 = dktJ4_append_0 := by decide +kernel
theorem dksJ4_append_1 : cJ4_append.data.toList.drop 24 = dktJ4_append_1 := dk_seg dksJ4_append_0 24 rfl rfl
theorem dksJ4_append_2 : cJ4_append.data.toList.drop 46 = dktJ4_append_2 := dk_seg dksJ4_append_1 22 rfl rfl
theorem dksJ4_append_3 : cJ4_append.data.toList.drop 68 = dktJ4_append_3 := dk_seg dksJ4_append_2 22 rfl rfl
theorem dJ4_append_0 : decode cJ4_append 0 = .ok (.aload_n 0, 1) := dk_42 (dk_at dksJ4_append_0 0 rfl rfl)
theorem dJ4_append_1 : decode cJ4_append 1 = .ok (.aload_n 0, 1) := dk_42 (dk_at dksJ4_append_0 1 rfl rfl)
theorem dJ4_append_2 : decode cJ4_append 2 = .ok (.getfield 79, 3) := dk_180 0 79 (dk_at dksJ4_append_0 2 rfl rfl)
theorem dJ4_append_5 : decode cJ4_append 5 = .ok (.iconst 1, 1) := dk_4 (dk_at dksJ4_append_0 5 rfl rfl)
theorem dJ4_append_6 : decode cJ4_append 6 = .ok (.iadd, 1) := dk_96 (dk_at dksJ4_append_0 6 rfl rfl)
theorem dJ4_append_7 : decode cJ4_append 7 = .ok (.invokevirtual 100, 3) := dk_182 0 100 (dk_at dksJ4_append_0 7 rfl rfl)
theorem dJ4_append_10 : decode cJ4_append 10 = .ok (.aload_n 0, 1) := dk_42 (dk_at dksJ4_append_0 10 rfl rfl)
theorem dJ4_append_11 : decode cJ4_append 11 = .ok (.invokevirtual 83, 3) := dk_182 0 83 (dk_at dksJ4_append_0 11 rfl rfl)
theorem dJ4_append_14 : decode cJ4_append 14 = .ok (.ifCond .eq 31, 3) := dk_153 0 31 (dk_at dksJ4_append_0 14 rfl rfl)
theorem dJ4_append_17 : decode cJ4_append 17 = .ok (.iload_n 1, 1) := dk_27 (dk_at dksJ4_append_0 17 rfl rfl)
theorem dJ4_append_18 : decode cJ4_append 18 = .ok (.invokestatic 191, 3) := dk_184 0 191 (dk_at dksJ4_append_0 18 rfl rfl)
theorem dJ4_append_21 : decode cJ4_append 21 = .ok (.ifCond .eq 24, 3) := dk_153 0 24 (dk_at dksJ4_append_0 21 rfl rfl)
theorem dJ4_append_24 : decode cJ4_append 24 = .ok (.aload_n 0, 1) := dk_42 (dk_at dksJ4_append_1 0 rfl rfl)
theorem dJ4_append_25 : decode cJ4_append 25 = .ok (.getfield 15, 3) := dk_180 0 15 (dk_at dksJ4_append_1 1 rfl rfl)
theorem dJ4_append_28 : decode cJ4_append 28 = .ok (.aload_n 0, 1) := dk_42 (dk_at dksJ4_append_1 4 rfl rfl)
theorem dJ4_append_29 : decode cJ4_append 29 = .ok (.dup, 1) := dk_89 (dk_at dksJ4_append_1 5 rfl rfl)
theorem dJ4_append_30 : decode cJ4_append 30 = .ok (.getfield 79, 3) := dk_180 0 79 (dk_at dksJ4_append_1 6 rfl rfl)
theorem dJ4_append_33 : decode cJ4_append 33 = .ok (.dup_x1, 1) := dk_90 (dk_at dksJ4_append_1 9 rfl rfl)
theorem dJ4_append_34 : decode cJ4_append 34 = .ok (.iconst 1, 1) := dk_4 (dk_at dksJ4_append_1 10 rfl rfl)
theorem dJ4_append_35 : decode cJ4_append 35 = .ok (.iadd, 1) := dk_96 (dk_at dksJ4_append_1 11 rfl rfl)
theorem dJ4_append_36 : decode cJ4_append 36 = .ok (.putfield 79, 3) := dk_181 0 79 (dk_at dksJ4_append_1 12 rfl rfl)
theorem dJ4_append_39 : decode cJ4_append 39 = .ok (.iload_n 1, 1) := dk_27 (dk_at dksJ4_append_1 15 rfl rfl)
theorem dJ4_append_40 : decode cJ4_append 40 = .ok (.i2b, 1) := dk_145 (dk_at dksJ4_append_1 16 rfl rfl)
theorem dJ4_append_41 : decode cJ4_append 41 = .ok (.bastore, 1) := dk_84 (dk_at dksJ4_append_1 17 rfl rfl)
theorem dJ4_append_42 : decode cJ4_append 42 = .ok (.goto 33, 3) := dk_167 0 33 (dk_at dksJ4_append_1 18 rfl rfl)
theorem dJ4_append_45 : decode cJ4_append 45 = .ok (.aload_n 0, 1) := dk_42 (dk_at dksJ4_append_1 21 rfl rfl)
theorem dJ4_append_46 : decode cJ4_append 46 = .ok (.invokevirtual 83, 3) := dk_182 0 83 (dk_at dksJ4_append_2 0 rfl rfl)
theorem dJ4_append_49 : decode cJ4_append 49 = .ok (.ifCond .eq 7, 3) := dk_153 0 7 (dk_at dksJ4_append_2 3 rfl rfl)
theorem dJ4_append_52 : decode cJ4_append 52 = .ok (.aload_n 0, 1) := dk_42 (dk_at dksJ4_append_2 6 rfl rfl)
theorem dJ4_append_53 : decode cJ4_append 53 = .ok (.invokevirtual 195, 3) := dk_182 0 195 (dk_at dksJ4_append_2 7 rfl rfl)
theorem dJ4_append_56 : decode cJ4_append 56 = .ok (.aload_n 0, 1) := dk_42 (dk_at dksJ4_append_2 10 rfl rfl)
theorem dJ4_append_57 : decode cJ4_append 57 = .ok (.getfield 15, 3) := dk_180 0 15 (dk_at dksJ4_append_2 11 rfl rfl)
theorem dJ4_append_60 : decode cJ4_append 60 = .ok (.aload_n 0, 1) := dk_42 (dk_at dksJ4_append_2 14 rfl rfl)
theorem dJ4_append_61 : decode cJ4_append 61 = .ok (.dup, 1) := dk_89 (dk_at dksJ4_append_2 15 rfl rfl)
theorem dJ4_append_62 : decode cJ4_append 62 = .ok (.getfield 79, 3) := dk_180 0 79 (dk_at dksJ4_append_2 16 rfl rfl)
theorem dJ4_append_65 : decode cJ4_append 65 = .ok (.dup_x1, 1) := dk_90 (dk_at dksJ4_append_2 19 rfl rfl)
theorem dJ4_append_66 : decode cJ4_append 66 = .ok (.iconst 1, 1) := dk_4 (dk_at dksJ4_append_2 20 rfl rfl)
theorem dJ4_append_67 : decode cJ4_append 67 = .ok (.iadd, 1) := dk_96 (dk_at dksJ4_append_2 21 rfl rfl)
theorem dJ4_append_68 : decode cJ4_append 68 = .ok (.putfield 79, 3) := dk_181 0 79 (dk_at dksJ4_append_3 0 rfl rfl)
theorem dJ4_append_71 : decode cJ4_append 71 = .ok (.iload_n 1, 1) := dk_27 (dk_at dksJ4_append_3 3 rfl rfl)
theorem dJ4_append_72 : decode cJ4_append 72 = .ok (.invokestatic 197, 3) := dk_184 0 197 (dk_at dksJ4_append_3 4 rfl rfl)
theorem dJ4_append_75 : decode cJ4_append 75 = .ok (.aload_n 0, 1) := dk_42 (dk_at dksJ4_append_3 7 rfl rfl)
theorem dJ4_append_76 : decode cJ4_append 76 = .ok (.areturn, 1) := dk_176 (dk_at dksJ4_append_3 8 rfl rfl)
abbrev cJ4_ensureCapacityInternal : ByteArray := prog_35_method_9_code
def yJ4_ensureCapacityInternal : MethodName := ⟨RJ4, "ensureCapacityInternal", "(I)V"⟩
def dkwJ4_ensureCapacityInternal_1 : List UInt8 := [182, 0, 104, 42, 180, 0, 22, 120, 184, 0, 108, 181, 0, 15, 177]
abbrev dktJ4_ensureCapacityInternal_1 : List UInt8 := dkwJ4_ensureCapacityInternal_1 ++ []
def dkwJ4_ensureCapacityInternal_0 : List UInt8 := [42, 180, 0, 15, 190, 42, 180, 0, 22, 122, 61, 27, 28, 100, 158, 0, 24, 42, 42, 180, 0, 15, 42, 27]
abbrev dktJ4_ensureCapacityInternal_0 : List UInt8 := dkwJ4_ensureCapacityInternal_0 ++ dktJ4_ensureCapacityInternal_1
theorem dksJ4_ensureCapacityInternal_0 : cJ4_ensureCapacityInternal.data.toList.drop 0 = dktJ4_ensureCapacityInternal_0 := by decide +kernel
theorem dksJ4_ensureCapacityInternal_1 : cJ4_ensureCapacityInternal.data.toList.drop 24 = dktJ4_ensureCapacityInternal_1 := dk_seg dksJ4_ensureCapacityInternal_0 24 rfl rfl
theorem dJ4_ensureCapacityInternal_0 : decode cJ4_ensureCapacityInternal 0 = .ok (.aload_n 0, 1) := dk_42 (dk_at dksJ4_ensureCapacityInternal_0 0 rfl rfl)
theorem dJ4_ensureCapacityInternal_1 : decode cJ4_ensureCapacityInternal 1 = .ok (.getfield 15, 3) := dk_180 0 15 (dk_at dksJ4_ensureCapacityInternal_0 1 rfl rfl)
theorem dJ4_ensureCapacityInternal_4 : decode cJ4_ensureCapacityInternal 4 = .ok (.arraylength, 1) := dk_190 (dk_at dksJ4_ensureCapacityInternal_0 4 rfl rfl)
theorem dJ4_ensureCapacityInternal_5 : decode cJ4_ensureCapacityInternal 5 = .ok (.aload_n 0, 1) := dk_42 (dk_at dksJ4_ensureCapacityInternal_0 5 rfl rfl)
theorem dJ4_ensureCapacityInternal_6 : decode cJ4_ensureCapacityInternal 6 = .ok (.getfield 22, 3) := dk_180 0 22 (dk_at dksJ4_ensureCapacityInternal_0 6 rfl rfl)
theorem dJ4_ensureCapacityInternal_9 : decode cJ4_ensureCapacityInternal 9 = .ok (.ishr, 1) := dk_122 (dk_at dksJ4_ensureCapacityInternal_0 9 rfl rfl)
theorem dJ4_ensureCapacityInternal_10 : decode cJ4_ensureCapacityInternal 10 = .ok (.istore_n 2, 1) := dk_61 (dk_at dksJ4_ensureCapacityInternal_0 10 rfl rfl)
theorem dJ4_ensureCapacityInternal_11 : decode cJ4_ensureCapacityInternal 11 = .ok (.iload_n 1, 1) := dk_27 (dk_at dksJ4_ensureCapacityInternal_0 11 rfl rfl)
theorem dJ4_ensureCapacityInternal_12 : decode cJ4_ensureCapacityInternal 12 = .ok (.iload_n 2, 1) := dk_28 (dk_at dksJ4_ensureCapacityInternal_0 12 rfl rfl)
theorem dJ4_ensureCapacityInternal_13 : decode cJ4_ensureCapacityInternal 13 = .ok (.isub, 1) := dk_100 (dk_at dksJ4_ensureCapacityInternal_0 13 rfl rfl)
theorem dJ4_ensureCapacityInternal_14 : decode cJ4_ensureCapacityInternal 14 = .ok (.ifCond .le 24, 3) := dk_158 0 24 (dk_at dksJ4_ensureCapacityInternal_0 14 rfl rfl)
theorem dJ4_ensureCapacityInternal_17 : decode cJ4_ensureCapacityInternal 17 = .ok (.aload_n 0, 1) := dk_42 (dk_at dksJ4_ensureCapacityInternal_0 17 rfl rfl)
theorem dJ4_ensureCapacityInternal_18 : decode cJ4_ensureCapacityInternal 18 = .ok (.aload_n 0, 1) := dk_42 (dk_at dksJ4_ensureCapacityInternal_0 18 rfl rfl)
theorem dJ4_ensureCapacityInternal_19 : decode cJ4_ensureCapacityInternal 19 = .ok (.getfield 15, 3) := dk_180 0 15 (dk_at dksJ4_ensureCapacityInternal_0 19 rfl rfl)
theorem dJ4_ensureCapacityInternal_22 : decode cJ4_ensureCapacityInternal 22 = .ok (.aload_n 0, 1) := dk_42 (dk_at dksJ4_ensureCapacityInternal_0 22 rfl rfl)
theorem dJ4_ensureCapacityInternal_23 : decode cJ4_ensureCapacityInternal 23 = .ok (.iload_n 1, 1) := dk_27 (dk_at dksJ4_ensureCapacityInternal_0 23 rfl rfl)
theorem dJ4_ensureCapacityInternal_24 : decode cJ4_ensureCapacityInternal 24 = .ok (.invokevirtual 104, 3) := dk_182 0 104 (dk_at dksJ4_ensureCapacityInternal_1 0 rfl rfl)
theorem dJ4_ensureCapacityInternal_27 : decode cJ4_ensureCapacityInternal 27 = .ok (.aload_n 0, 1) := dk_42 (dk_at dksJ4_ensureCapacityInternal_1 3 rfl rfl)
theorem dJ4_ensureCapacityInternal_28 : decode cJ4_ensureCapacityInternal 28 = .ok (.getfield 22, 3) := dk_180 0 22 (dk_at dksJ4_ensureCapacityInternal_1 4 rfl rfl)
theorem dJ4_ensureCapacityInternal_31 : decode cJ4_ensureCapacityInternal 31 = .ok (.ishl, 1) := dk_120 (dk_at dksJ4_ensureCapacityInternal_1 7 rfl rfl)
theorem dJ4_ensureCapacityInternal_32 : decode cJ4_ensureCapacityInternal 32 = .ok (.invokestatic 108, 3) := dk_184 0 108 (dk_at dksJ4_ensureCapacityInternal_1 8 rfl rfl)
theorem dJ4_ensureCapacityInternal_35 : decode cJ4_ensureCapacityInternal 35 = .ok (.putfield 15, 3) := dk_181 0 15 (dk_at dksJ4_ensureCapacityInternal_1 11 rfl rfl)
theorem dJ4_ensureCapacityInternal_38 : decode cJ4_ensureCapacityInternal 38 = .ok (.return_, 1) := dk_177 (dk_at dksJ4_ensureCapacityInternal_1 14 rfl rfl)
abbrev cJ4_newCapacity : ByteArray := prog_35_method_10_code
def yJ4_newCapacity : MethodName := ⟨RJ4, "newCapacity", "(I)I"⟩
def dkwJ4_newCapacity_2 : List UInt8 := [183, 0, 124, 191, 21, 5, 42, 180, 0, 22, 122, 172]
abbrev dktJ4_newCapacity_2 : List UInt8 := dkwJ4_newCapacity_2 ++ []
def dkwJ4_newCapacity_1 : List UInt8 := [180, 0, 22, 120, 96, 184, 0, 114, 54, 5, 21, 5, 18, 39, 160, 0, 13, 187, 0, 120, 89, 18, 122]
abbrev dktJ4_newCapacity_1 : List UInt8 := dkwJ4_newCapacity_1 ++ dktJ4_newCapacity_2
def dkwJ4_newCapacity_0 : List UInt8 := [42, 180, 0, 15, 190, 61, 27, 42, 180, 0, 22, 120, 62, 29, 28, 100, 54, 4, 28, 21, 4, 28, 5, 42]
abbrev dktJ4_newCapacity_0 : List UInt8 := dkwJ4_newCapacity_0 ++ dktJ4_newCapacity_1
theorem dksJ4_newCapacity_0 : cJ4_newCapacity.data.toList.drop 0 = dktJ4_newCapacity_0 := by decide +kernel
theorem dksJ4_newCapacity_1 : cJ4_newCapacity.data.toList.drop 24 = dktJ4_newCapacity_1 := dk_seg dksJ4_newCapacity_0 24 rfl rfl
theorem dksJ4_newCapacity_2 : cJ4_newCapacity.data.toList.drop 47 = dktJ4_newCapacity_2 := dk_seg dksJ4_newCapacity_1 23 rfl rfl
theorem dJ4_newCapacity_0 : decode cJ4_newCapacity 0 = .ok (.aload_n 0, 1) := dk_42 (dk_at dksJ4_newCapacity_0 0 rfl rfl)
theorem dJ4_newCapacity_1 : decode cJ4_newCapacity 1 = .ok (.getfield 15, 3) := dk_180 0 15 (dk_at dksJ4_newCapacity_0 1 rfl rfl)
theorem dJ4_newCapacity_4 : decode cJ4_newCapacity 4 = .ok (.arraylength, 1) := dk_190 (dk_at dksJ4_newCapacity_0 4 rfl rfl)
theorem dJ4_newCapacity_5 : decode cJ4_newCapacity 5 = .ok (.istore_n 2, 1) := dk_61 (dk_at dksJ4_newCapacity_0 5 rfl rfl)
theorem dJ4_newCapacity_6 : decode cJ4_newCapacity 6 = .ok (.iload_n 1, 1) := dk_27 (dk_at dksJ4_newCapacity_0 6 rfl rfl)
theorem dJ4_newCapacity_7 : decode cJ4_newCapacity 7 = .ok (.aload_n 0, 1) := dk_42 (dk_at dksJ4_newCapacity_0 7 rfl rfl)
theorem dJ4_newCapacity_8 : decode cJ4_newCapacity 8 = .ok (.getfield 22, 3) := dk_180 0 22 (dk_at dksJ4_newCapacity_0 8 rfl rfl)
theorem dJ4_newCapacity_11 : decode cJ4_newCapacity 11 = .ok (.ishl, 1) := dk_120 (dk_at dksJ4_newCapacity_0 11 rfl rfl)
theorem dJ4_newCapacity_12 : decode cJ4_newCapacity 12 = .ok (.istore_n 3, 1) := dk_62 (dk_at dksJ4_newCapacity_0 12 rfl rfl)
theorem dJ4_newCapacity_13 : decode cJ4_newCapacity 13 = .ok (.iload_n 3, 1) := dk_29 (dk_at dksJ4_newCapacity_0 13 rfl rfl)
theorem dJ4_newCapacity_14 : decode cJ4_newCapacity 14 = .ok (.iload_n 2, 1) := dk_28 (dk_at dksJ4_newCapacity_0 14 rfl rfl)
theorem dJ4_newCapacity_15 : decode cJ4_newCapacity 15 = .ok (.isub, 1) := dk_100 (dk_at dksJ4_newCapacity_0 15 rfl rfl)
theorem dJ4_newCapacity_16 : decode cJ4_newCapacity 16 = .ok (.istore 4, 2) := dk_54 4 (dk_at dksJ4_newCapacity_0 16 rfl rfl)
theorem dJ4_newCapacity_18 : decode cJ4_newCapacity 18 = .ok (.iload_n 2, 1) := dk_28 (dk_at dksJ4_newCapacity_0 18 rfl rfl)
theorem dJ4_newCapacity_19 : decode cJ4_newCapacity 19 = .ok (.iload 4, 2) := dk_21 4 (dk_at dksJ4_newCapacity_0 19 rfl rfl)
theorem dJ4_newCapacity_21 : decode cJ4_newCapacity 21 = .ok (.iload_n 2, 1) := dk_28 (dk_at dksJ4_newCapacity_0 21 rfl rfl)
theorem dJ4_newCapacity_22 : decode cJ4_newCapacity 22 = .ok (.iconst 2, 1) := dk_5 (dk_at dksJ4_newCapacity_0 22 rfl rfl)
theorem dJ4_newCapacity_23 : decode cJ4_newCapacity 23 = .ok (.aload_n 0, 1) := dk_42 (dk_at dksJ4_newCapacity_0 23 rfl rfl)
theorem dJ4_newCapacity_24 : decode cJ4_newCapacity 24 = .ok (.getfield 22, 3) := dk_180 0 22 (dk_at dksJ4_newCapacity_1 0 rfl rfl)
theorem dJ4_newCapacity_27 : decode cJ4_newCapacity 27 = .ok (.ishl, 1) := dk_120 (dk_at dksJ4_newCapacity_1 3 rfl rfl)
theorem dJ4_newCapacity_28 : decode cJ4_newCapacity 28 = .ok (.iadd, 1) := dk_96 (dk_at dksJ4_newCapacity_1 4 rfl rfl)
theorem dJ4_newCapacity_29 : decode cJ4_newCapacity 29 = .ok (.invokestatic 114, 3) := dk_184 0 114 (dk_at dksJ4_newCapacity_1 5 rfl rfl)
theorem dJ4_newCapacity_32 : decode cJ4_newCapacity 32 = .ok (.istore 5, 2) := dk_54 5 (dk_at dksJ4_newCapacity_1 8 rfl rfl)
theorem dJ4_newCapacity_34 : decode cJ4_newCapacity 34 = .ok (.iload 5, 2) := dk_21 5 (dk_at dksJ4_newCapacity_1 10 rfl rfl)
theorem dJ4_newCapacity_36 : decode cJ4_newCapacity 36 = .ok (.ldc 39, 2) := dk_18 39 (dk_at dksJ4_newCapacity_1 12 rfl rfl)
theorem dJ4_newCapacity_38 : decode cJ4_newCapacity 38 = .ok (.if_icmp .ne 13, 3) := dk_160 0 13 (dk_at dksJ4_newCapacity_1 14 rfl rfl)
theorem dJ4_newCapacity_41 : decode cJ4_newCapacity 41 = .ok (.new 120, 3) := dk_187 0 120 (dk_at dksJ4_newCapacity_1 17 rfl rfl)
theorem dJ4_newCapacity_44 : decode cJ4_newCapacity 44 = .ok (.dup, 1) := dk_89 (dk_at dksJ4_newCapacity_1 20 rfl rfl)
theorem dJ4_newCapacity_45 : decode cJ4_newCapacity 45 = .ok (.ldc 122, 2) := dk_18 122 (dk_at dksJ4_newCapacity_1 21 rfl rfl)
theorem dJ4_newCapacity_47 : decode cJ4_newCapacity 47 = .ok (.invokespecial 124, 3) := dk_183 0 124 (dk_at dksJ4_newCapacity_2 0 rfl rfl)
theorem dJ4_newCapacity_50 : decode cJ4_newCapacity 50 = .ok (.athrow, 1) := dk_191 (dk_at dksJ4_newCapacity_2 3 rfl rfl)
theorem dJ4_newCapacity_51 : decode cJ4_newCapacity 51 = .ok (.iload 5, 2) := dk_21 5 (dk_at dksJ4_newCapacity_2 4 rfl rfl)
theorem dJ4_newCapacity_53 : decode cJ4_newCapacity 53 = .ok (.aload_n 0, 1) := dk_42 (dk_at dksJ4_newCapacity_2 6 rfl rfl)
theorem dJ4_newCapacity_54 : decode cJ4_newCapacity 54 = .ok (.getfield 22, 3) := dk_180 0 22 (dk_at dksJ4_newCapacity_2 7 rfl rfl)
theorem dJ4_newCapacity_57 : decode cJ4_newCapacity 57 = .ok (.ishr, 1) := dk_122 (dk_at dksJ4_newCapacity_2 10 rfl rfl)
theorem dJ4_newCapacity_58 : decode cJ4_newCapacity 58 = .ok (.ireturn, 1) := dk_172 (dk_at dksJ4_newCapacity_2 11 rfl rfl)
abbrev cJ4_isLatin1 : ByteArray := prog_35_method_68_code
def yJ4_isLatin1 : MethodName := ⟨RJ4, "isLatin1", "()Z"⟩
def dkwJ4_isLatin1_0 : List UInt8 := [178, 0, 18, 153, 0, 14, 42, 180, 0, 22, 154, 0, 7, 4, 167, 0, 4, 3, 172]
abbrev dktJ4_isLatin1_0 : List UInt8 := dkwJ4_isLatin1_0 ++ []
theorem dksJ4_isLatin1_0 : cJ4_isLatin1.data.toList.drop 0 = dktJ4_isLatin1_0 := by decide +kernel
theorem dJ4_isLatin1_0 : decode cJ4_isLatin1 0 = .ok (.getstatic 18, 3) := dk_178 0 18 (dk_at dksJ4_isLatin1_0 0 rfl rfl)
theorem dJ4_isLatin1_3 : decode cJ4_isLatin1 3 = .ok (.ifCond .eq 14, 3) := dk_153 0 14 (dk_at dksJ4_isLatin1_0 3 rfl rfl)
theorem dJ4_isLatin1_6 : decode cJ4_isLatin1 6 = .ok (.aload_n 0, 1) := dk_42 (dk_at dksJ4_isLatin1_0 6 rfl rfl)
theorem dJ4_isLatin1_7 : decode cJ4_isLatin1 7 = .ok (.getfield 22, 3) := dk_180 0 22 (dk_at dksJ4_isLatin1_0 7 rfl rfl)
theorem dJ4_isLatin1_10 : decode cJ4_isLatin1 10 = .ok (.ifCond .ne 7, 3) := dk_154 0 7 (dk_at dksJ4_isLatin1_0 10 rfl rfl)
theorem dJ4_isLatin1_13 : decode cJ4_isLatin1 13 = .ok (.iconst 1, 1) := dk_4 (dk_at dksJ4_isLatin1_0 13 rfl rfl)
theorem dJ4_isLatin1_14 : decode cJ4_isLatin1 14 = .ok (.goto 4, 3) := dk_167 0 4 (dk_at dksJ4_isLatin1_0 14 rfl rfl)
theorem dJ4_isLatin1_17 : decode cJ4_isLatin1 17 = .ok (.iconst 0, 1) := dk_3 (dk_at dksJ4_isLatin1_0 17 rfl rfl)
theorem dJ4_isLatin1_18 : decode cJ4_isLatin1 18 = .ok (.ireturn, 1) := dk_172 (dk_at dksJ4_isLatin1_0 18 rfl rfl)
abbrev cJ4_inflate : ByteArray := prog_35_method_11_code
def yJ4_inflate : MethodName := ⟨RJ4, "inflate", "()V"⟩
def dkwJ4_inflate_1 : List UInt8 := [42, 180, 0, 79, 184, 0, 125, 42, 43, 181, 0, 15, 42, 4, 181, 0, 22, 177]
abbrev dktJ4_inflate_1 : List UInt8 := dkwJ4_inflate_1 ++ []
def dkwJ4_inflate_0 : List UInt8 := [42, 182, 0, 83, 154, 0, 4, 177, 42, 180, 0, 15, 190, 184, 0, 26, 76, 42, 180, 0, 15, 3, 43, 3]
abbrev dktJ4_inflate_0 : List UInt8 := dkwJ4_inflate_0 ++ dktJ4_inflate_1
theorem dksJ4_inflate_0 : cJ4_inflate.data.toList.drop 0 = dktJ4_inflate_0 := by decide +kernel
theorem dksJ4_inflate_1 : cJ4_inflate.data.toList.drop 24 = dktJ4_inflate_1 := dk_seg dksJ4_inflate_0 24 rfl rfl
theorem dJ4_inflate_0 : decode cJ4_inflate 0 = .ok (.aload_n 0, 1) := dk_42 (dk_at dksJ4_inflate_0 0 rfl rfl)
theorem dJ4_inflate_1 : decode cJ4_inflate 1 = .ok (.invokevirtual 83, 3) := dk_182 0 83 (dk_at dksJ4_inflate_0 1 rfl rfl)
theorem dJ4_inflate_4 : decode cJ4_inflate 4 = .ok (.ifCond .ne 4, 3) := dk_154 0 4 (dk_at dksJ4_inflate_0 4 rfl rfl)
theorem dJ4_inflate_7 : decode cJ4_inflate 7 = .ok (.return_, 1) := dk_177 (dk_at dksJ4_inflate_0 7 rfl rfl)
theorem dJ4_inflate_8 : decode cJ4_inflate 8 = .ok (.aload_n 0, 1) := dk_42 (dk_at dksJ4_inflate_0 8 rfl rfl)
theorem dJ4_inflate_9 : decode cJ4_inflate 9 = .ok (.getfield 15, 3) := dk_180 0 15 (dk_at dksJ4_inflate_0 9 rfl rfl)
theorem dJ4_inflate_12 : decode cJ4_inflate 12 = .ok (.arraylength, 1) := dk_190 (dk_at dksJ4_inflate_0 12 rfl rfl)
theorem dJ4_inflate_13 : decode cJ4_inflate 13 = .ok (.invokestatic 26, 3) := dk_184 0 26 (dk_at dksJ4_inflate_0 13 rfl rfl)
theorem dJ4_inflate_16 : decode cJ4_inflate 16 = .ok (.astore_n 1, 1) := dk_76 (dk_at dksJ4_inflate_0 16 rfl rfl)
theorem dJ4_inflate_17 : decode cJ4_inflate 17 = .ok (.aload_n 0, 1) := dk_42 (dk_at dksJ4_inflate_0 17 rfl rfl)
theorem dJ4_inflate_18 : decode cJ4_inflate 18 = .ok (.getfield 15, 3) := dk_180 0 15 (dk_at dksJ4_inflate_0 18 rfl rfl)
theorem dJ4_inflate_21 : decode cJ4_inflate 21 = .ok (.iconst 0, 1) := dk_3 (dk_at dksJ4_inflate_0 21 rfl rfl)
theorem dJ4_inflate_22 : decode cJ4_inflate 22 = .ok (.aload_n 1, 1) := dk_43 (dk_at dksJ4_inflate_0 22 rfl rfl)
theorem dJ4_inflate_23 : decode cJ4_inflate 23 = .ok (.iconst 0, 1) := dk_3 (dk_at dksJ4_inflate_0 23 rfl rfl)
theorem dJ4_inflate_24 : decode cJ4_inflate 24 = .ok (.aload_n 0, 1) := dk_42 (dk_at dksJ4_inflate_1 0 rfl rfl)
theorem dJ4_inflate_25 : decode cJ4_inflate 25 = .ok (.getfield 79, 3) := dk_180 0 79 (dk_at dksJ4_inflate_1 1 rfl rfl)
theorem dJ4_inflate_28 : decode cJ4_inflate 28 = .ok (.invokestatic 125, 3) := dk_184 0 125 (dk_at dksJ4_inflate_1 4 rfl rfl)
theorem dJ4_inflate_31 : decode cJ4_inflate 31 = .ok (.aload_n 0, 1) := dk_42 (dk_at dksJ4_inflate_1 7 rfl rfl)
theorem dJ4_inflate_32 : decode cJ4_inflate 32 = .ok (.aload_n 1, 1) := dk_43 (dk_at dksJ4_inflate_1 8 rfl rfl)
theorem dJ4_inflate_33 : decode cJ4_inflate 33 = .ok (.putfield 15, 3) := dk_181 0 15 (dk_at dksJ4_inflate_1 9 rfl rfl)
theorem dJ4_inflate_36 : decode cJ4_inflate 36 = .ok (.aload_n 0, 1) := dk_42 (dk_at dksJ4_inflate_1 12 rfl rfl)
theorem dJ4_inflate_37 : decode cJ4_inflate 37 = .ok (.iconst 1, 1) := dk_4 (dk_at dksJ4_inflate_1 13 rfl rfl)
theorem dJ4_inflate_38 : decode cJ4_inflate 38 = .ok (.putfield 22, 3) := dk_181 0 22 (dk_at dksJ4_inflate_1 14 rfl rfl)
theorem dJ4_inflate_41 : decode cJ4_inflate 41 = .ok (.return_, 1) := dk_177 (dk_at dksJ4_inflate_1 17 rfl rfl)
abbrev cJ4_setLength : ByteArray := prog_35_method_13_code
def yJ4_setLength : MethodName := ⟨RJ4, "setLength", "(I)V"⟩
def dkwJ4_setLength_3 : List UInt8 := [164, 0, 8, 42, 4, 181, 0, 73, 42, 27, 181, 0, 79, 177]
abbrev dktJ4_setLength_3 : List UInt8 := dkwJ4_setLength_3 ++ []
def dkwJ4_setLength_2 : List UInt8 := [167, 0, 31, 42, 180, 0, 15, 42, 180, 0, 79, 27, 184, 0, 137, 167, 0, 16, 42, 180, 0, 79, 27]
abbrev dktJ4_setLength_2 : List UInt8 := dkwJ4_setLength_2 ++ dktJ4_setLength_3
def dkwJ4_setLength_1 : List UInt8 := [162, 0, 40, 42, 182, 0, 83, 153, 0, 18, 42, 180, 0, 15, 42, 180, 0, 79, 27, 184, 0, 133]
abbrev dktJ4_setLength_1 : List UInt8 := dkwJ4_setLength_1 ++ dktJ4_setLength_2
def dkwJ4_setLength_0 : List UInt8 := [27, 156, 0, 12, 187, 0, 129, 89, 27, 183, 0, 131, 191, 42, 27, 182, 0, 100, 42, 180, 0, 79, 27]
abbrev dktJ4_setLength_0 : List UInt8 := dkwJ4_setLength_0 ++ dktJ4_setLength_1
theorem dksJ4_setLength_0 : cJ4_setLength.data.toList.drop 0 = dktJ4_setLength_0 := by decide +kernel
theorem dksJ4_setLength_1 : cJ4_setLength.data.toList.drop 23 = dktJ4_setLength_1 := dk_seg dksJ4_setLength_0 23 rfl rfl
theorem dksJ4_setLength_2 : cJ4_setLength.data.toList.drop 45 = dktJ4_setLength_2 := dk_seg dksJ4_setLength_1 22 rfl rfl
theorem dksJ4_setLength_3 : cJ4_setLength.data.toList.drop 68 = dktJ4_setLength_3 := dk_seg dksJ4_setLength_2 23 rfl rfl
theorem dJ4_setLength_0 : decode cJ4_setLength 0 = .ok (.iload_n 1, 1) := dk_27 (dk_at dksJ4_setLength_0 0 rfl rfl)
theorem dJ4_setLength_1 : decode cJ4_setLength 1 = .ok (.ifCond .ge 12, 3) := dk_156 0 12 (dk_at dksJ4_setLength_0 1 rfl rfl)
theorem dJ4_setLength_4 : decode cJ4_setLength 4 = .ok (.new 129, 3) := dk_187 0 129 (dk_at dksJ4_setLength_0 4 rfl rfl)
theorem dJ4_setLength_7 : decode cJ4_setLength 7 = .ok (.dup, 1) := dk_89 (dk_at dksJ4_setLength_0 7 rfl rfl)
theorem dJ4_setLength_8 : decode cJ4_setLength 8 = .ok (.iload_n 1, 1) := dk_27 (dk_at dksJ4_setLength_0 8 rfl rfl)
theorem dJ4_setLength_9 : decode cJ4_setLength 9 = .ok (.invokespecial 131, 3) := dk_183 0 131 (dk_at dksJ4_setLength_0 9 rfl rfl)
theorem dJ4_setLength_12 : decode cJ4_setLength 12 = .ok (.athrow, 1) := dk_191 (dk_at dksJ4_setLength_0 12 rfl rfl)
theorem dJ4_setLength_13 : decode cJ4_setLength 13 = .ok (.aload_n 0, 1) := dk_42 (dk_at dksJ4_setLength_0 13 rfl rfl)
theorem dJ4_setLength_14 : decode cJ4_setLength 14 = .ok (.iload_n 1, 1) := dk_27 (dk_at dksJ4_setLength_0 14 rfl rfl)
theorem dJ4_setLength_15 : decode cJ4_setLength 15 = .ok (.invokevirtual 100, 3) := dk_182 0 100 (dk_at dksJ4_setLength_0 15 rfl rfl)
theorem dJ4_setLength_18 : decode cJ4_setLength 18 = .ok (.aload_n 0, 1) := dk_42 (dk_at dksJ4_setLength_0 18 rfl rfl)
theorem dJ4_setLength_19 : decode cJ4_setLength 19 = .ok (.getfield 79, 3) := dk_180 0 79 (dk_at dksJ4_setLength_0 19 rfl rfl)
theorem dJ4_setLength_22 : decode cJ4_setLength 22 = .ok (.iload_n 1, 1) := dk_27 (dk_at dksJ4_setLength_0 22 rfl rfl)
theorem dJ4_setLength_23 : decode cJ4_setLength 23 = .ok (.if_icmp .ge 40, 3) := dk_162 0 40 (dk_at dksJ4_setLength_1 0 rfl rfl)
theorem dJ4_setLength_26 : decode cJ4_setLength 26 = .ok (.aload_n 0, 1) := dk_42 (dk_at dksJ4_setLength_1 3 rfl rfl)
theorem dJ4_setLength_27 : decode cJ4_setLength 27 = .ok (.invokevirtual 83, 3) := dk_182 0 83 (dk_at dksJ4_setLength_1 4 rfl rfl)
theorem dJ4_setLength_30 : decode cJ4_setLength 30 = .ok (.ifCond .eq 18, 3) := dk_153 0 18 (dk_at dksJ4_setLength_1 7 rfl rfl)
theorem dJ4_setLength_33 : decode cJ4_setLength 33 = .ok (.aload_n 0, 1) := dk_42 (dk_at dksJ4_setLength_1 10 rfl rfl)
theorem dJ4_setLength_34 : decode cJ4_setLength 34 = .ok (.getfield 15, 3) := dk_180 0 15 (dk_at dksJ4_setLength_1 11 rfl rfl)
theorem dJ4_setLength_37 : decode cJ4_setLength 37 = .ok (.aload_n 0, 1) := dk_42 (dk_at dksJ4_setLength_1 14 rfl rfl)
theorem dJ4_setLength_38 : decode cJ4_setLength 38 = .ok (.getfield 79, 3) := dk_180 0 79 (dk_at dksJ4_setLength_1 15 rfl rfl)
theorem dJ4_setLength_41 : decode cJ4_setLength 41 = .ok (.iload_n 1, 1) := dk_27 (dk_at dksJ4_setLength_1 18 rfl rfl)
theorem dJ4_setLength_42 : decode cJ4_setLength 42 = .ok (.invokestatic 133, 3) := dk_184 0 133 (dk_at dksJ4_setLength_1 19 rfl rfl)
theorem dJ4_setLength_45 : decode cJ4_setLength 45 = .ok (.goto 31, 3) := dk_167 0 31 (dk_at dksJ4_setLength_2 0 rfl rfl)
theorem dJ4_setLength_48 : decode cJ4_setLength 48 = .ok (.aload_n 0, 1) := dk_42 (dk_at dksJ4_setLength_2 3 rfl rfl)
theorem dJ4_setLength_49 : decode cJ4_setLength 49 = .ok (.getfield 15, 3) := dk_180 0 15 (dk_at dksJ4_setLength_2 4 rfl rfl)
theorem dJ4_setLength_52 : decode cJ4_setLength 52 = .ok (.aload_n 0, 1) := dk_42 (dk_at dksJ4_setLength_2 7 rfl rfl)
theorem dJ4_setLength_53 : decode cJ4_setLength 53 = .ok (.getfield 79, 3) := dk_180 0 79 (dk_at dksJ4_setLength_2 8 rfl rfl)
theorem dJ4_setLength_56 : decode cJ4_setLength 56 = .ok (.iload_n 1, 1) := dk_27 (dk_at dksJ4_setLength_2 11 rfl rfl)
theorem dJ4_setLength_57 : decode cJ4_setLength 57 = .ok (.invokestatic 137, 3) := dk_184 0 137 (dk_at dksJ4_setLength_2 12 rfl rfl)
theorem dJ4_setLength_60 : decode cJ4_setLength 60 = .ok (.goto 16, 3) := dk_167 0 16 (dk_at dksJ4_setLength_2 15 rfl rfl)
theorem dJ4_setLength_63 : decode cJ4_setLength 63 = .ok (.aload_n 0, 1) := dk_42 (dk_at dksJ4_setLength_2 18 rfl rfl)
theorem dJ4_setLength_64 : decode cJ4_setLength 64 = .ok (.getfield 79, 3) := dk_180 0 79 (dk_at dksJ4_setLength_2 19 rfl rfl)
theorem dJ4_setLength_67 : decode cJ4_setLength 67 = .ok (.iload_n 1, 1) := dk_27 (dk_at dksJ4_setLength_2 22 rfl rfl)
theorem dJ4_setLength_68 : decode cJ4_setLength 68 = .ok (.if_icmp .le 8, 3) := dk_164 0 8 (dk_at dksJ4_setLength_3 0 rfl rfl)
theorem dJ4_setLength_71 : decode cJ4_setLength 71 = .ok (.aload_n 0, 1) := dk_42 (dk_at dksJ4_setLength_3 3 rfl rfl)
theorem dJ4_setLength_72 : decode cJ4_setLength 72 = .ok (.iconst 1, 1) := dk_4 (dk_at dksJ4_setLength_3 4 rfl rfl)
theorem dJ4_setLength_73 : decode cJ4_setLength 73 = .ok (.putfield 73, 3) := dk_181 0 73 (dk_at dksJ4_setLength_3 5 rfl rfl)
theorem dJ4_setLength_76 : decode cJ4_setLength 76 = .ok (.aload_n 0, 1) := dk_42 (dk_at dksJ4_setLength_3 8 rfl rfl)
theorem dJ4_setLength_77 : decode cJ4_setLength 77 = .ok (.iload_n 1, 1) := dk_27 (dk_at dksJ4_setLength_3 9 rfl rfl)
theorem dJ4_setLength_78 : decode cJ4_setLength 78 = .ok (.putfield 79, 3) := dk_181 0 79 (dk_at dksJ4_setLength_3 10 rfl rfl)
theorem dJ4_setLength_81 : decode cJ4_setLength 81 = .ok (.return_, 1) := dk_177 (dk_at dksJ4_setLength_3 13 rfl rfl)
abbrev cJ4_charAt : ByteArray := prog_35_method_14_code
def yJ4_charAt : MethodName := ⟨RJ4, "charAt", "(I)C"⟩
def dkwJ4_charAt_1 : List UInt8 := [21, 4, 184, 0, 144, 28, 154, 0, 12, 45, 27, 51, 17, 0, 255, 126, 146, 172, 45, 27, 184, 0, 148, 172]
abbrev dktJ4_charAt_1 : List UInt8 := dkwJ4_charAt_1 ++ []
def dkwJ4_charAt_0 : List UInt8 := [42, 180, 0, 22, 61, 42, 180, 0, 15, 78, 42, 180, 0, 79, 45, 190, 28, 122, 184, 0, 138, 54, 4, 27]
abbrev dktJ4_charAt_0 : List UInt8 := dkwJ4_charAt_0 ++ dktJ4_charAt_1
theorem dksJ4_charAt_0 : cJ4_charAt.data.toList.drop 0 = dktJ4_charAt_0 := by decide +kernel
theorem dksJ4_charAt_1 : cJ4_charAt.data.toList.drop 24 = dktJ4_charAt_1 := dk_seg dksJ4_charAt_0 24 rfl rfl
theorem dJ4_charAt_0 : decode cJ4_charAt 0 = .ok (.aload_n 0, 1) := dk_42 (dk_at dksJ4_charAt_0 0 rfl rfl)
theorem dJ4_charAt_1 : decode cJ4_charAt 1 = .ok (.getfield 22, 3) := dk_180 0 22 (dk_at dksJ4_charAt_0 1 rfl rfl)
theorem dJ4_charAt_4 : decode cJ4_charAt 4 = .ok (.istore_n 2, 1) := dk_61 (dk_at dksJ4_charAt_0 4 rfl rfl)
theorem dJ4_charAt_5 : decode cJ4_charAt 5 = .ok (.aload_n 0, 1) := dk_42 (dk_at dksJ4_charAt_0 5 rfl rfl)
theorem dJ4_charAt_6 : decode cJ4_charAt 6 = .ok (.getfield 15, 3) := dk_180 0 15 (dk_at dksJ4_charAt_0 6 rfl rfl)
theorem dJ4_charAt_9 : decode cJ4_charAt 9 = .ok (.astore_n 3, 1) := dk_78 (dk_at dksJ4_charAt_0 9 rfl rfl)
theorem dJ4_charAt_10 : decode cJ4_charAt 10 = .ok (.aload_n 0, 1) := dk_42 (dk_at dksJ4_charAt_0 10 rfl rfl)
theorem dJ4_charAt_11 : decode cJ4_charAt 11 = .ok (.getfield 79, 3) := dk_180 0 79 (dk_at dksJ4_charAt_0 11 rfl rfl)
theorem dJ4_charAt_14 : decode cJ4_charAt 14 = .ok (.aload_n 3, 1) := dk_45 (dk_at dksJ4_charAt_0 14 rfl rfl)
theorem dJ4_charAt_15 : decode cJ4_charAt 15 = .ok (.arraylength, 1) := dk_190 (dk_at dksJ4_charAt_0 15 rfl rfl)
theorem dJ4_charAt_16 : decode cJ4_charAt 16 = .ok (.iload_n 2, 1) := dk_28 (dk_at dksJ4_charAt_0 16 rfl rfl)
theorem dJ4_charAt_17 : decode cJ4_charAt 17 = .ok (.ishr, 1) := dk_122 (dk_at dksJ4_charAt_0 17 rfl rfl)
theorem dJ4_charAt_18 : decode cJ4_charAt 18 = .ok (.invokestatic 138, 3) := dk_184 0 138 (dk_at dksJ4_charAt_0 18 rfl rfl)
theorem dJ4_charAt_21 : decode cJ4_charAt 21 = .ok (.istore 4, 2) := dk_54 4 (dk_at dksJ4_charAt_0 21 rfl rfl)
theorem dJ4_charAt_23 : decode cJ4_charAt 23 = .ok (.iload_n 1, 1) := dk_27 (dk_at dksJ4_charAt_0 23 rfl rfl)
theorem dJ4_charAt_24 : decode cJ4_charAt 24 = .ok (.iload 4, 2) := dk_21 4 (dk_at dksJ4_charAt_1 0 rfl rfl)
theorem dJ4_charAt_26 : decode cJ4_charAt 26 = .ok (.invokestatic 144, 3) := dk_184 0 144 (dk_at dksJ4_charAt_1 2 rfl rfl)
theorem dJ4_charAt_29 : decode cJ4_charAt 29 = .ok (.iload_n 2, 1) := dk_28 (dk_at dksJ4_charAt_1 5 rfl rfl)
theorem dJ4_charAt_30 : decode cJ4_charAt 30 = .ok (.ifCond .ne 12, 3) := dk_154 0 12 (dk_at dksJ4_charAt_1 6 rfl rfl)
theorem dJ4_charAt_33 : decode cJ4_charAt 33 = .ok (.aload_n 3, 1) := dk_45 (dk_at dksJ4_charAt_1 9 rfl rfl)
theorem dJ4_charAt_34 : decode cJ4_charAt 34 = .ok (.iload_n 1, 1) := dk_27 (dk_at dksJ4_charAt_1 10 rfl rfl)
theorem dJ4_charAt_35 : decode cJ4_charAt 35 = .ok (.baload, 1) := dk_51 (dk_at dksJ4_charAt_1 11 rfl rfl)
theorem dJ4_charAt_36 : decode cJ4_charAt 36 = .ok (.sipush 255, 3) := dk_17 0 255 (dk_at dksJ4_charAt_1 12 rfl rfl)
theorem dJ4_charAt_39 : decode cJ4_charAt 39 = .ok (.iand, 1) := dk_126 (dk_at dksJ4_charAt_1 15 rfl rfl)
theorem dJ4_charAt_40 : decode cJ4_charAt 40 = .ok (.i2c, 1) := dk_146 (dk_at dksJ4_charAt_1 16 rfl rfl)
theorem dJ4_charAt_41 : decode cJ4_charAt 41 = .ok (.ireturn, 1) := dk_172 (dk_at dksJ4_charAt_1 17 rfl rfl)
theorem dJ4_charAt_42 : decode cJ4_charAt 42 = .ok (.aload_n 3, 1) := dk_45 (dk_at dksJ4_charAt_1 18 rfl rfl)
theorem dJ4_charAt_43 : decode cJ4_charAt 43 = .ok (.iload_n 1, 1) := dk_27 (dk_at dksJ4_charAt_1 19 rfl rfl)
theorem dJ4_charAt_44 : decode cJ4_charAt 44 = .ok (.invokestatic 148, 3) := dk_184 0 148 (dk_at dksJ4_charAt_1 20 rfl rfl)
theorem dJ4_charAt_47 : decode cJ4_charAt 47 = .ok (.ireturn, 1) := dk_172 (dk_at dksJ4_charAt_1 23 rfl rfl)
abbrev cJ4_compareTo : ByteArray := prog_35_method_5_code
def yJ4_compareTo : MethodName := ⟨RJ4, "compareTo", "(Ljava/lang/AbstractStringBuilder;)I"⟩
def dkwJ4_compareTo_4 : List UInt8 := [184, 0, 97, 172]
abbrev dktJ4_compareTo_4 : List UInt8 := dkwJ4_compareTo_4 ++ []
def dkwJ4_compareTo_3 : List UInt8 := [182, 0, 83, 153, 0, 15, 44, 45, 21, 4, 21, 5, 184, 0, 94, 167, 0, 12, 44, 45, 21, 4, 21, 5]
abbrev dktJ4_compareTo_3 : List UInt8 := dkwJ4_compareTo_3 ++ dktJ4_compareTo_4
def dkwJ4_compareTo_2 : List UInt8 := [45, 21, 4, 21, 5, 184, 0, 87, 167, 0, 12, 44, 45, 21, 4, 21, 5, 184, 0, 93, 172, 42]
abbrev dktJ4_compareTo_2 : List UInt8 := dkwJ4_compareTo_2 ++ dktJ4_compareTo_3
def dkwJ4_compareTo_1 : List UInt8 := [180, 0, 79, 54, 5, 42, 180, 0, 22, 43, 180, 0, 22, 160, 0, 32, 42, 182, 0, 83, 153, 0, 15, 44]
abbrev dktJ4_compareTo_1 : List UInt8 := dkwJ4_compareTo_1 ++ dktJ4_compareTo_2
def dkwJ4_compareTo_0 : List UInt8 := [42, 43, 166, 0, 5, 3, 172, 42, 180, 0, 15, 77, 43, 180, 0, 15, 78, 42, 180, 0, 79, 54, 4, 43]
abbrev dktJ4_compareTo_0 : List UInt8 := dkwJ4_compareTo_0 ++ dktJ4_compareTo_1
theorem dksJ4_compareTo_0 : cJ4_compareTo.data.toList.drop 0 = dktJ4_compareTo_0 := by decide +kernel
theorem dksJ4_compareTo_1 : cJ4_compareTo.data.toList.drop 24 = dktJ4_compareTo_1 := dk_seg dksJ4_compareTo_0 24 rfl rfl
theorem dksJ4_compareTo_2 : cJ4_compareTo.data.toList.drop 48 = dktJ4_compareTo_2 := dk_seg dksJ4_compareTo_1 24 rfl rfl
theorem dksJ4_compareTo_3 : cJ4_compareTo.data.toList.drop 70 = dktJ4_compareTo_3 := dk_seg dksJ4_compareTo_2 22 rfl rfl
theorem dksJ4_compareTo_4 : cJ4_compareTo.data.toList.drop 94 = dktJ4_compareTo_4 := dk_seg dksJ4_compareTo_3 24 rfl rfl
theorem dJ4_compareTo_0 : decode cJ4_compareTo 0 = .ok (.aload_n 0, 1) := dk_42 (dk_at dksJ4_compareTo_0 0 rfl rfl)
theorem dJ4_compareTo_1 : decode cJ4_compareTo 1 = .ok (.aload_n 1, 1) := dk_43 (dk_at dksJ4_compareTo_0 1 rfl rfl)
theorem dJ4_compareTo_2 : decode cJ4_compareTo 2 = .ok (.if_acmp .ne 5, 3) := dk_166 0 5 (dk_at dksJ4_compareTo_0 2 rfl rfl)
theorem dJ4_compareTo_5 : decode cJ4_compareTo 5 = .ok (.iconst 0, 1) := dk_3 (dk_at dksJ4_compareTo_0 5 rfl rfl)
theorem dJ4_compareTo_6 : decode cJ4_compareTo 6 = .ok (.ireturn, 1) := dk_172 (dk_at dksJ4_compareTo_0 6 rfl rfl)
theorem dJ4_compareTo_7 : decode cJ4_compareTo 7 = .ok (.aload_n 0, 1) := dk_42 (dk_at dksJ4_compareTo_0 7 rfl rfl)
theorem dJ4_compareTo_8 : decode cJ4_compareTo 8 = .ok (.getfield 15, 3) := dk_180 0 15 (dk_at dksJ4_compareTo_0 8 rfl rfl)
theorem dJ4_compareTo_11 : decode cJ4_compareTo 11 = .ok (.astore_n 2, 1) := dk_77 (dk_at dksJ4_compareTo_0 11 rfl rfl)
theorem dJ4_compareTo_12 : decode cJ4_compareTo 12 = .ok (.aload_n 1, 1) := dk_43 (dk_at dksJ4_compareTo_0 12 rfl rfl)
theorem dJ4_compareTo_13 : decode cJ4_compareTo 13 = .ok (.getfield 15, 3) := dk_180 0 15 (dk_at dksJ4_compareTo_0 13 rfl rfl)
theorem dJ4_compareTo_16 : decode cJ4_compareTo 16 = .ok (.astore_n 3, 1) := dk_78 (dk_at dksJ4_compareTo_0 16 rfl rfl)
theorem dJ4_compareTo_17 : decode cJ4_compareTo 17 = .ok (.aload_n 0, 1) := dk_42 (dk_at dksJ4_compareTo_0 17 rfl rfl)
theorem dJ4_compareTo_18 : decode cJ4_compareTo 18 = .ok (.getfield 79, 3) := dk_180 0 79 (dk_at dksJ4_compareTo_0 18 rfl rfl)
theorem dJ4_compareTo_21 : decode cJ4_compareTo 21 = .ok (.istore 4, 2) := dk_54 4 (dk_at dksJ4_compareTo_0 21 rfl rfl)
theorem dJ4_compareTo_23 : decode cJ4_compareTo 23 = .ok (.aload_n 1, 1) := dk_43 (dk_at dksJ4_compareTo_0 23 rfl rfl)
theorem dJ4_compareTo_24 : decode cJ4_compareTo 24 = .ok (.getfield 79, 3) := dk_180 0 79 (dk_at dksJ4_compareTo_1 0 rfl rfl)
theorem dJ4_compareTo_27 : decode cJ4_compareTo 27 = .ok (.istore 5, 2) := dk_54 5 (dk_at dksJ4_compareTo_1 3 rfl rfl)
theorem dJ4_compareTo_29 : decode cJ4_compareTo 29 = .ok (.aload_n 0, 1) := dk_42 (dk_at dksJ4_compareTo_1 5 rfl rfl)
theorem dJ4_compareTo_30 : decode cJ4_compareTo 30 = .ok (.getfield 22, 3) := dk_180 0 22 (dk_at dksJ4_compareTo_1 6 rfl rfl)
theorem dJ4_compareTo_33 : decode cJ4_compareTo 33 = .ok (.aload_n 1, 1) := dk_43 (dk_at dksJ4_compareTo_1 9 rfl rfl)
theorem dJ4_compareTo_34 : decode cJ4_compareTo 34 = .ok (.getfield 22, 3) := dk_180 0 22 (dk_at dksJ4_compareTo_1 10 rfl rfl)
theorem dJ4_compareTo_37 : decode cJ4_compareTo 37 = .ok (.if_icmp .ne 32, 3) := dk_160 0 32 (dk_at dksJ4_compareTo_1 13 rfl rfl)
theorem dJ4_compareTo_40 : decode cJ4_compareTo 40 = .ok (.aload_n 0, 1) := dk_42 (dk_at dksJ4_compareTo_1 16 rfl rfl)
theorem dJ4_compareTo_41 : decode cJ4_compareTo 41 = .ok (.invokevirtual 83, 3) := dk_182 0 83 (dk_at dksJ4_compareTo_1 17 rfl rfl)
theorem dJ4_compareTo_44 : decode cJ4_compareTo 44 = .ok (.ifCond .eq 15, 3) := dk_153 0 15 (dk_at dksJ4_compareTo_1 20 rfl rfl)
theorem dJ4_compareTo_47 : decode cJ4_compareTo 47 = .ok (.aload_n 2, 1) := dk_44 (dk_at dksJ4_compareTo_1 23 rfl rfl)
theorem dJ4_compareTo_48 : decode cJ4_compareTo 48 = .ok (.aload_n 3, 1) := dk_45 (dk_at dksJ4_compareTo_2 0 rfl rfl)
theorem dJ4_compareTo_49 : decode cJ4_compareTo 49 = .ok (.iload 4, 2) := dk_21 4 (dk_at dksJ4_compareTo_2 1 rfl rfl)
theorem dJ4_compareTo_51 : decode cJ4_compareTo 51 = .ok (.iload 5, 2) := dk_21 5 (dk_at dksJ4_compareTo_2 3 rfl rfl)
theorem dJ4_compareTo_53 : decode cJ4_compareTo 53 = .ok (.invokestatic 87, 3) := dk_184 0 87 (dk_at dksJ4_compareTo_2 5 rfl rfl)
theorem dJ4_compareTo_56 : decode cJ4_compareTo 56 = .ok (.goto 12, 3) := dk_167 0 12 (dk_at dksJ4_compareTo_2 8 rfl rfl)
theorem dJ4_compareTo_59 : decode cJ4_compareTo 59 = .ok (.aload_n 2, 1) := dk_44 (dk_at dksJ4_compareTo_2 11 rfl rfl)
theorem dJ4_compareTo_60 : decode cJ4_compareTo 60 = .ok (.aload_n 3, 1) := dk_45 (dk_at dksJ4_compareTo_2 12 rfl rfl)
theorem dJ4_compareTo_61 : decode cJ4_compareTo 61 = .ok (.iload 4, 2) := dk_21 4 (dk_at dksJ4_compareTo_2 13 rfl rfl)
theorem dJ4_compareTo_63 : decode cJ4_compareTo 63 = .ok (.iload 5, 2) := dk_21 5 (dk_at dksJ4_compareTo_2 15 rfl rfl)
theorem dJ4_compareTo_65 : decode cJ4_compareTo 65 = .ok (.invokestatic 93, 3) := dk_184 0 93 (dk_at dksJ4_compareTo_2 17 rfl rfl)
theorem dJ4_compareTo_68 : decode cJ4_compareTo 68 = .ok (.ireturn, 1) := dk_172 (dk_at dksJ4_compareTo_2 20 rfl rfl)
theorem dJ4_compareTo_69 : decode cJ4_compareTo 69 = .ok (.aload_n 0, 1) := dk_42 (dk_at dksJ4_compareTo_2 21 rfl rfl)
theorem dJ4_compareTo_70 : decode cJ4_compareTo 70 = .ok (.invokevirtual 83, 3) := dk_182 0 83 (dk_at dksJ4_compareTo_3 0 rfl rfl)
theorem dJ4_compareTo_73 : decode cJ4_compareTo 73 = .ok (.ifCond .eq 15, 3) := dk_153 0 15 (dk_at dksJ4_compareTo_3 3 rfl rfl)
theorem dJ4_compareTo_76 : decode cJ4_compareTo 76 = .ok (.aload_n 2, 1) := dk_44 (dk_at dksJ4_compareTo_3 6 rfl rfl)
theorem dJ4_compareTo_77 : decode cJ4_compareTo 77 = .ok (.aload_n 3, 1) := dk_45 (dk_at dksJ4_compareTo_3 7 rfl rfl)
theorem dJ4_compareTo_78 : decode cJ4_compareTo 78 = .ok (.iload 4, 2) := dk_21 4 (dk_at dksJ4_compareTo_3 8 rfl rfl)
theorem dJ4_compareTo_80 : decode cJ4_compareTo 80 = .ok (.iload 5, 2) := dk_21 5 (dk_at dksJ4_compareTo_3 10 rfl rfl)
theorem dJ4_compareTo_82 : decode cJ4_compareTo 82 = .ok (.invokestatic 94, 3) := dk_184 0 94 (dk_at dksJ4_compareTo_3 12 rfl rfl)
theorem dJ4_compareTo_85 : decode cJ4_compareTo 85 = .ok (.goto 12, 3) := dk_167 0 12 (dk_at dksJ4_compareTo_3 15 rfl rfl)
theorem dJ4_compareTo_88 : decode cJ4_compareTo 88 = .ok (.aload_n 2, 1) := dk_44 (dk_at dksJ4_compareTo_3 18 rfl rfl)
theorem dJ4_compareTo_89 : decode cJ4_compareTo 89 = .ok (.aload_n 3, 1) := dk_45 (dk_at dksJ4_compareTo_3 19 rfl rfl)
theorem dJ4_compareTo_90 : decode cJ4_compareTo 90 = .ok (.iload 4, 2) := dk_21 4 (dk_at dksJ4_compareTo_3 20 rfl rfl)
theorem dJ4_compareTo_92 : decode cJ4_compareTo 92 = .ok (.iload 5, 2) := dk_21 5 (dk_at dksJ4_compareTo_3 22 rfl rfl)
theorem dJ4_compareTo_94 : decode cJ4_compareTo 94 = .ok (.invokestatic 97, 3) := dk_184 0 97 (dk_at dksJ4_compareTo_4 0 rfl rfl)
theorem dJ4_compareTo_97 : decode cJ4_compareTo 97 = .ok (.ireturn, 1) := dk_172 (dk_at dksJ4_compareTo_4 3 rfl rfl)
theorem q94 : (Jvm.Cond.initialized "java/lang/AbstractStringBuilder") ∈ lw_all := lw_g (lw_at lw_m1 8 rfl) rfl
theorem q342 : (Jvm.Cond.instanceMethod ({ cls := "java/lang/AbstractStringBuilder", name := "<init>", desc := "(I)V" } : Jvm.MethodName)) ∈ lw_all := lw_g (lw_at lw_m2 16 rfl) rfl
theorem q343 : (Jvm.Cond.code ({ cls := "java/lang/AbstractStringBuilder", name := "<init>", desc := "(I)V" } : Jvm.MethodName) prog_35_method_2_code (2 : Nat) (Option.none : Option Jvm.ClassFile.FieldType)) ∈ lw_all := lw_g (lw_at lw_m2 17 rfl) rfl
theorem q344 : (Jvm.Cond.methodLink "java/lang/AbstractStringBuilder" (3 : Nat) ({ cls := "java/lang/Object", name := "<init>", desc := "()V" } : Jvm.MethodName)) ∈ lw_all := lw_g (lw_at lw_m2 18 rfl) rfl
theorem q345 : (Jvm.Cond.fieldLink "java/lang/AbstractStringBuilder" (18 : Nat) "java/lang/String" "COMPACT_STRINGS" "Z") ∈ lw_all := lw_g (lw_at lw_m2 19 rfl) rfl
theorem q347 : (Jvm.Cond.methodLink "java/lang/AbstractStringBuilder" (26 : Nat) ({ cls := "java/lang/StringUTF16", name := "newBytesFor", desc := "(I)[B" } : Jvm.MethodName)) ∈ lw_all := lw_g (lw_at lw_m2 21 rfl) rfl
theorem q354 : (Jvm.Cond.fieldLink "java/lang/AbstractStringBuilder" (15 : Nat) "java/lang/AbstractStringBuilder" "value" "[B") ∈ lw_all := lw_g (lw_at lw_m2 28 rfl) rfl
theorem q355 : (Jvm.Cond.fieldLink "java/lang/AbstractStringBuilder" (22 : Nat) "java/lang/AbstractStringBuilder" "coder" "B") ∈ lw_all := lw_g (lw_at lw_m2 29 rfl) rfl
theorem q356 : (Jvm.Cond.fieldLink "java/lang/AbstractStringBuilder" (73 : Nat) "java/lang/AbstractStringBuilder" "maybeLatin1" "Z") ∈ lw_all := lw_g (lw_at lw_m2 30 rfl) rfl
theorem q357 : (Jvm.Cond.fieldLink "java/lang/AbstractStringBuilder" (79 : Nat) "java/lang/AbstractStringBuilder" "count" "I") ∈ lw_all := lw_g (lw_at lw_m2 31 rfl) rfl
theorem q359 : (Jvm.Cond.soleField "java/lang/AbstractStringBuilder" "value") ∈ lw_all := lw_g (lw_at lw_m2 33 rfl) rfl
theorem q361 : (Jvm.Cond.soleField "java/lang/AbstractStringBuilder" "coder") ∈ lw_all := lw_g (lw_at lw_m2 35 rfl) rfl
theorem q363 : (Jvm.Cond.soleField "java/lang/AbstractStringBuilder" "maybeLatin1") ∈ lw_all := lw_g (lw_at lw_m2 37 rfl) rfl
theorem q365 : (Jvm.Cond.soleField "java/lang/AbstractStringBuilder" "count") ∈ lw_all := lw_g (lw_at lw_m2 39 rfl) rfl
theorem q1616 : (Jvm.Cond.instanceMethod ({ cls := "java/lang/AbstractStringBuilder", name := "length", desc := "()I" } : Jvm.MethodName)) ∈ lw_all := lw_g (lw_at lw_m7 90 rfl) rfl
theorem q1617 : (Jvm.Cond.code ({ cls := "java/lang/AbstractStringBuilder", name := "length", desc := "()I" } : Jvm.MethodName) prog_35_method_6_code (1 : Nat) (Option.some Jvm.ClassFile.FieldType.int)) ∈ lw_all := lw_g (lw_at lw_m7 91 rfl) rfl
theorem q1623 : (Jvm.Cond.instanceMethod ({ cls := "java/lang/AbstractStringBuilder", name := "append", desc := "(C)Ljava/lang/AbstractStringBuilder;" } : Jvm.MethodName)) ∈ lw_all := lw_g (lw_at lw_m7 97 rfl) rfl
theorem q1624 : (Jvm.Cond.code ({ cls := "java/lang/AbstractStringBuilder", name := "append", desc := "(C)Ljava/lang/AbstractStringBuilder;" } : Jvm.MethodName) prog_35_method_31_code (2 : Nat) (Option.some (Jvm.ClassFile.FieldType.object "java/lang/AbstractStringBuilder"))) ∈ lw_all := lw_g (lw_at lw_m7 98 rfl) rfl
theorem q1625 : (Jvm.Cond.methodLink "java/lang/AbstractStringBuilder" (100 : Nat) ({ cls := "java/lang/AbstractStringBuilder", name := "ensureCapacityInternal", desc := "(I)V" } : Jvm.MethodName)) ∈ lw_all := lw_g (lw_at lw_m7 99 rfl) rfl
theorem q1626 : (Jvm.Cond.privateMethod ({ cls := "java/lang/AbstractStringBuilder", name := "ensureCapacityInternal", desc := "(I)V" } : Jvm.MethodName)) ∈ lw_tbl := lw_at lw_m7 100 rfl
theorem q1627 : (Jvm.Cond.instanceMethod ({ cls := "java/lang/AbstractStringBuilder", name := "ensureCapacityInternal", desc := "(I)V" } : Jvm.MethodName)) ∈ lw_all := lw_g (lw_at lw_m7 101 rfl) rfl
theorem q1628 : (Jvm.Cond.code ({ cls := "java/lang/AbstractStringBuilder", name := "ensureCapacityInternal", desc := "(I)V" } : Jvm.MethodName) prog_35_method_9_code (3 : Nat) (Option.none : Option Jvm.ClassFile.FieldType)) ∈ lw_all := lw_g (lw_at lw_m7 102 rfl) rfl
theorem q1629 : (Jvm.Cond.methodLink "java/lang/AbstractStringBuilder" (104 : Nat) ({ cls := "java/lang/AbstractStringBuilder", name := "newCapacity", desc := "(I)I" } : Jvm.MethodName)) ∈ lw_all := lw_g (lw_at lw_m7 103 rfl) rfl
theorem q1630 : (Jvm.Cond.privateMethod ({ cls := "java/lang/AbstractStringBuilder", name := "newCapacity", desc := "(I)I" } : Jvm.MethodName)) ∈ lw_tbl := lw_at lw_m7 104 rfl
theorem q1631 : (Jvm.Cond.instanceMethod ({ cls := "java/lang/AbstractStringBuilder", name := "newCapacity", desc := "(I)I" } : Jvm.MethodName)) ∈ lw_all := lw_g (lw_at lw_m7 105 rfl) rfl
theorem q1632 : (Jvm.Cond.code ({ cls := "java/lang/AbstractStringBuilder", name := "newCapacity", desc := "(I)I" } : Jvm.MethodName) prog_35_method_10_code (6 : Nat) (Option.some Jvm.ClassFile.FieldType.int)) ∈ lw_all := lw_g (lw_at lw_m7 106 rfl) rfl
theorem q1633 : (Jvm.Cond.methodLink "java/lang/AbstractStringBuilder" (114 : Nat) ({ cls := "jdk/internal/util/ArraysSupport", name := "newLength", desc := "(III)I" } : Jvm.MethodName)) ∈ lw_all := lw_g (lw_at lw_m7 107 rfl) rfl
theorem q1634 : (Jvm.Cond.constant "java/lang/AbstractStringBuilder" (39 : Nat) (2147483647 : Int32)) ∈ lw_all := lw_g (lw_at lw_m7 108 rfl) rfl
theorem q1635 : (Jvm.Cond.methodLink "java/lang/AbstractStringBuilder" (108 : Nat) ({ cls := "java/util/Arrays", name := "copyOf", desc := "([BI)[B" } : Jvm.MethodName)) ∈ lw_all := lw_g (lw_at lw_m7 109 rfl) rfl
theorem q1645 : (Jvm.Cond.methodLink "java/lang/AbstractStringBuilder" (83 : Nat) ({ cls := "java/lang/AbstractStringBuilder", name := "isLatin1", desc := "()Z" } : Jvm.MethodName)) ∈ lw_all := lw_g (lw_at lw_m7 119 rfl) rfl
theorem q1646 : (Jvm.Cond.instanceMethod ({ cls := "java/lang/AbstractStringBuilder", name := "isLatin1", desc := "()Z" } : Jvm.MethodName)) ∈ lw_all := lw_g (lw_at lw_m7 120 rfl) rfl
theorem q1647 : (Jvm.Cond.sameMethod "java/lang/AbstractStringBuilder" "java/lang/AbstractStringBuilder" "isLatin1" "()Z") ∈ lw_all := lw_g (lw_at lw_m7 121 rfl) rfl
theorem q1649 : (Jvm.Cond.code ({ cls := "java/lang/AbstractStringBuilder", name := "isLatin1", desc := "()Z" } : Jvm.MethodName) prog_35_method_68_code (1 : Nat) (Option.some Jvm.ClassFile.FieldType.boolean)) ∈ lw_all := lw_g (lw_at lw_m7 123 rfl) rfl
theorem q1650 : (Jvm.Cond.methodLink "java/lang/AbstractStringBuilder" (191 : Nat) ({ cls := "java/lang/StringLatin1", name := "canEncode", desc := "(C)Z" } : Jvm.MethodName)) ∈ lw_all := lw_g (lw_at lw_m7 124 rfl) rfl
theorem q1653 : (Jvm.Cond.methodLink "java/lang/AbstractStringBuilder" (195 : Nat) ({ cls := "java/lang/AbstractStringBuilder", name := "inflate", desc := "()V" } : Jvm.MethodName)) ∈ lw_all := lw_g (lw_at lw_m7 127 rfl) rfl
theorem q1654 : (Jvm.Cond.privateMethod ({ cls := "java/lang/AbstractStringBuilder", name := "inflate", desc := "()V" } : Jvm.MethodName)) ∈ lw_tbl := lw_at lw_m7 128 rfl
theorem q1655 : (Jvm.Cond.instanceMethod ({ cls := "java/lang/AbstractStringBuilder", name := "inflate", desc := "()V" } : Jvm.MethodName)) ∈ lw_all := lw_g (lw_at lw_m7 129 rfl) rfl
theorem q1656 : (Jvm.Cond.code ({ cls := "java/lang/AbstractStringBuilder", name := "inflate", desc := "()V" } : Jvm.MethodName) prog_35_method_11_code (2 : Nat) (Option.none : Option Jvm.ClassFile.FieldType)) ∈ lw_all := lw_g (lw_at lw_m7 130 rfl) rfl
theorem q1657 : (Jvm.Cond.methodLink "java/lang/AbstractStringBuilder" (125 : Nat) ({ cls := "java/lang/StringLatin1", name := "inflate", desc := "([BI[BII)V" } : Jvm.MethodName)) ∈ lw_all := lw_g (lw_at lw_m7 131 rfl) rfl
theorem q1686 : (Jvm.Cond.methodLink "java/lang/AbstractStringBuilder" (197 : Nat) ({ cls := "java/lang/StringUTF16", name := "putCharSB", desc := "([BII)V" } : Jvm.MethodName)) ∈ lw_all := lw_g (lw_at lw_m7 160 rfl) rfl
theorem q1705 : (Jvm.Cond.instanceMethod ({ cls := "java/lang/AbstractStringBuilder", name := "setLength", desc := "(I)V" } : Jvm.MethodName)) ∈ lw_all := lw_g (lw_at lw_m7 179 rfl) rfl
theorem q1706 : (Jvm.Cond.code ({ cls := "java/lang/AbstractStringBuilder", name := "setLength", desc := "(I)V" } : Jvm.MethodName) prog_35_method_13_code (2 : Nat) (Option.none : Option Jvm.ClassFile.FieldType)) ∈ lw_all := lw_g (lw_at lw_m7 180 rfl) rfl
theorem q1707 : (Jvm.Cond.methodLink "java/lang/AbstractStringBuilder" (133 : Nat) ({ cls := "java/lang/StringLatin1", name := "fillNull", desc := "([BII)V" } : Jvm.MethodName)) ∈ lw_all := lw_g (lw_at lw_m7 181 rfl) rfl
theorem q1716 : (Jvm.Cond.methodLink "java/lang/AbstractStringBuilder" (137 : Nat) ({ cls := "java/lang/StringUTF16", name := "fillNull", desc := "([BII)V" } : Jvm.MethodName)) ∈ lw_all := lw_g (lw_at lw_m7 190 rfl) rfl
theorem q1767 : (Jvm.Cond.instanceMethod ({ cls := "java/lang/AbstractStringBuilder", name := "charAt", desc := "(I)C" } : Jvm.MethodName)) ∈ lw_all := lw_g (lw_at lw_m8 1 rfl) rfl
theorem q1768 : (Jvm.Cond.code ({ cls := "java/lang/AbstractStringBuilder", name := "charAt", desc := "(I)C" } : Jvm.MethodName) prog_35_method_14_code (5 : Nat) (Option.some Jvm.ClassFile.FieldType.char)) ∈ lw_all := lw_g (lw_at lw_m8 2 rfl) rfl
theorem q1769 : (Jvm.Cond.methodLink "java/lang/AbstractStringBuilder" (138 : Nat) ({ cls := "java/lang/Math", name := "min", desc := "(II)I" } : Jvm.MethodName)) ∈ lw_all := lw_g (lw_at lw_m8 3 rfl) rfl
theorem q1770 : (Jvm.Cond.methodLink "java/lang/AbstractStringBuilder" (144 : Nat) ({ cls := "java/lang/String", name := "checkIndex", desc := "(II)V" } : Jvm.MethodName)) ∈ lw_all := lw_g (lw_at lw_m8 4 rfl) rfl
theorem q1771 : (Jvm.Cond.methodLink "java/lang/AbstractStringBuilder" (148 : Nat) ({ cls := "java/lang/StringUTF16", name := "getChar", desc := "([BI)C" } : Jvm.MethodName)) ∈ lw_all := lw_g (lw_at lw_m8 5 rfl) rfl
theorem q2404 : (Jvm.Cond.instanceMethod ({ cls := "java/lang/AbstractStringBuilder", name := "compareTo", desc := "(Ljava/lang/AbstractStringBuilder;)I" } : Jvm.MethodName)) ∈ lw_all := lw_g (lw_at lw_m10 158 rfl) rfl
theorem q2405 : (Jvm.Cond.code ({ cls := "java/lang/AbstractStringBuilder", name := "compareTo", desc := "(Ljava/lang/AbstractStringBuilder;)I" } : Jvm.MethodName) prog_35_method_5_code (6 : Nat) (Option.some Jvm.ClassFile.FieldType.int)) ∈ lw_all := lw_g (lw_at lw_m10 159 rfl) rfl
theorem q2406 : (Jvm.Cond.methodLink "java/lang/AbstractStringBuilder" (87 : Nat) ({ cls := "java/lang/StringLatin1", name := "compareTo", desc := "([B[BII)I" } : Jvm.MethodName)) ∈ lw_all := lw_g (lw_at lw_m10 160 rfl) rfl
theorem q2407 : (Jvm.Cond.methodLink "java/lang/AbstractStringBuilder" (93 : Nat) ({ cls := "java/lang/StringUTF16", name := "compareTo", desc := "([B[BII)I" } : Jvm.MethodName)) ∈ lw_all := lw_g (lw_at lw_m10 161 rfl) rfl
theorem q2419 : (Jvm.Cond.methodLink "java/lang/AbstractStringBuilder" (94 : Nat) ({ cls := "java/lang/StringLatin1", name := "compareToUTF16", desc := "([B[BII)I" } : Jvm.MethodName)) ∈ lw_all := lw_g (lw_at lw_m10 173 rfl) rfl
theorem q2423 : (Jvm.Cond.methodLink "java/lang/AbstractStringBuilder" (97 : Nat) ({ cls := "java/lang/StringUTF16", name := "compareToLatin1", desc := "([B[BII)I" } : Jvm.MethodName)) ∈ lw_all := lw_g (lw_at lw_m10 177 rfl) rfl
theorem q3316 : (Jvm.Cond.sameMethod "java/lang/AbstractStringBuilder" "java/lang/AbstractStringBuilder" "length" "()I") ∈ lw_all := lw_g (lw_at lw_m14 110 rfl) rfl
theorem q3317 : (Jvm.Cond.sameMethod "java/lang/AbstractStringBuilder" "java/lang/AbstractStringBuilder" "append" "(C)Ljava/lang/AbstractStringBuilder;") ∈ lw_all := lw_g (lw_at lw_m14 111 rfl) rfl
theorem q3318 : (Jvm.Cond.sameMethod "java/lang/AbstractStringBuilder" "java/lang/AbstractStringBuilder" "ensureCapacityInternal" "(I)V") ∈ lw_all := lw_g (lw_at lw_m14 112 rfl) rfl
theorem q3319 : (Jvm.Cond.sameMethod "java/lang/AbstractStringBuilder" "java/lang/AbstractStringBuilder" "newCapacity" "(I)I") ∈ lw_all := lw_g (lw_at lw_m14 113 rfl) rfl
theorem q3320 : (Jvm.Cond.sameMethod "java/lang/AbstractStringBuilder" "java/lang/AbstractStringBuilder" "inflate" "()V") ∈ lw_all := lw_g (lw_at lw_m14 114 rfl) rfl
theorem q3321 : (Jvm.Cond.sameMethod "java/lang/AbstractStringBuilder" "java/lang/AbstractStringBuilder" "setLength" "(I)V") ∈ lw_all := lw_g (lw_at lw_m14 115 rfl) rfl
theorem q3322 : (Jvm.Cond.sameMethod "java/lang/AbstractStringBuilder" "java/lang/AbstractStringBuilder" "charAt" "(I)C") ∈ lw_all := lw_g (lw_at lw_m14 116 rfl) rfl
theorem q3324 : (Jvm.Cond.sameMethod "java/lang/AbstractStringBuilder" "java/lang/AbstractStringBuilder" "compareTo" "(Ljava/lang/AbstractStringBuilder;)I") ∈ lw_all := lw_g (lw_at lw_m14 118 rfl) rfl

end
section
/-! java/lang/StringBuilder -/
set_option maxRecDepth 100000
def RJ5 : String := "java/lang/StringBuilder"
def TJ5 : u_T := fun k => match k with
  | 0 => ("java/lang/AbstractStringBuilder", "value", "[B", false)
  | 1 => ("java/lang/AbstractStringBuilder", "coder", "B", false)
  | 2 => ("java/lang/AbstractStringBuilder", "maybeLatin1", "Z", false)
  | _ => ("java/lang/AbstractStringBuilder", "count", "I", false)
def tyJ5 : Nat → FieldType := fun k => match k with
  | 0 => .array .byte
  | 1 => .byte
  | 2 => .boolean
  | _ => .int
abbrev wsJ50 : List Cond := u_ws RJ5 TJ5 4
theorem nmJ5 : ∀ a, a < 4 → ∀ b, b < 4 → a ≠ b → (TJ5 a).2.1 ≠ (TJ5 b).2.1 := by decide +kernel
theorem tyJ5_ok : ∀ k, k < 4 → parseFieldDescriptor (TJ5 k).2.2.1 = some (tyJ5 k) := by decide +kernel
abbrev cJ5_init : ByteArray := prog_49_method_1_code
def yJ5_init : MethodName := ⟨RJ5, "<init>", "()V"⟩
def dkwJ5_init_0 : List UInt8 := [42, 16, 16, 183, 0, 1, 177]
abbrev dktJ5_init_0 : List UInt8 := dkwJ5_init_0 ++ []
theorem dksJ5_init_0 : cJ5_init.data.toList.drop 0 = dktJ5_init_0 := by decide +kernel
theorem dJ5_init_0 : decode cJ5_init 0 = .ok (.aload_n 0, 1) := dk_42 (dk_at dksJ5_init_0 0 rfl rfl)
theorem dJ5_init_1 : decode cJ5_init 1 = .ok (.bipush 16, 2) := dk_16 16 (dk_at dksJ5_init_0 1 rfl rfl)
theorem dJ5_init_3 : decode cJ5_init 3 = .ok (.invokespecial 1, 3) := dk_183 0 1 (dk_at dksJ5_init_0 3 rfl rfl)
theorem dJ5_init_6 : decode cJ5_init 6 = .ok (.return_, 1) := dk_177 (dk_at dksJ5_init_0 6 rfl rfl)
abbrev cJ5_length : ByteArray := prog_49_method_93_code
def yJ5_length : MethodName := ⟨RJ5, "length", "()I"⟩
theorem dJ5_length_0 : decode cJ5_length 0 = .ok (.aload_n 0, 1) := by decide +kernel
theorem dJ5_length_1 : decode cJ5_length 1 = .ok (.invokespecial 343, 3) := by decide +kernel
theorem dJ5_length_4 : decode cJ5_length 4 = .ok (.ireturn, 1) := by decide +kernel
abbrev cJ5_append : ByteArray := prog_49_method_14_code
def yJ5_append : MethodName := ⟨RJ5, "append", "(C)Ljava/lang/StringBuilder;"⟩
def dkwJ5_append_0 : List UInt8 := [42, 27, 183, 0, 50, 87, 42, 176]
abbrev dktJ5_append_0 : List UInt8 := dkwJ5_append_0 ++ []
theorem dksJ5_append_0 : cJ5_append.data.toList.drop 0 = dktJ5_append_0 := by decide +kernel
theorem dJ5_append_0 : decode cJ5_append 0 = .ok (.aload_n 0, 1) := dk_42 (dk_at dksJ5_append_0 0 rfl rfl)
theorem dJ5_append_1 : decode cJ5_append 1 = .ok (.iload_n 1, 1) := dk_27 (dk_at dksJ5_append_0 1 rfl rfl)
theorem dJ5_append_2 : decode cJ5_append 2 = .ok (.invokespecial 50, 3) := dk_183 0 50 (dk_at dksJ5_append_0 2 rfl rfl)
theorem dJ5_append_5 : decode cJ5_append 5 = .ok (.pop, 1) := dk_87 (dk_at dksJ5_append_0 5 rfl rfl)
theorem dJ5_append_6 : decode cJ5_append 6 = .ok (.aload_n 0, 1) := dk_42 (dk_at dksJ5_append_0 6 rfl rfl)
theorem dJ5_append_7 : decode cJ5_append 7 = .ok (.areturn, 1) := dk_176 (dk_at dksJ5_append_0 7 rfl rfl)
abbrev cJ5_setLength : ByteArray := prog_49_method_89_code
def yJ5_setLength : MethodName := ⟨RJ5, "setLength", "(I)V"⟩
def dkwJ5_setLength_0 : List UInt8 := [42, 27, 183, 1, 77, 177]
abbrev dktJ5_setLength_0 : List UInt8 := dkwJ5_setLength_0 ++ []
theorem dksJ5_setLength_0 : cJ5_setLength.data.toList.drop 0 = dktJ5_setLength_0 := by decide +kernel
theorem dJ5_setLength_0 : decode cJ5_setLength 0 = .ok (.aload_n 0, 1) := dk_42 (dk_at dksJ5_setLength_0 0 rfl rfl)
theorem dJ5_setLength_1 : decode cJ5_setLength 1 = .ok (.iload_n 1, 1) := dk_27 (dk_at dksJ5_setLength_0 1 rfl rfl)
theorem dJ5_setLength_2 : decode cJ5_setLength 2 = .ok (.invokespecial 333, 3) := dk_183 1 77 (dk_at dksJ5_setLength_0 2 rfl rfl)
theorem dJ5_setLength_5 : decode cJ5_setLength 5 = .ok (.return_, 1) := dk_177 (dk_at dksJ5_setLength_0 5 rfl rfl)
abbrev cJ5_charAt : ByteArray := prog_49_method_88_code
def yJ5_charAt : MethodName := ⟨RJ5, "charAt", "(I)C"⟩
def dkwJ5_charAt_0 : List UInt8 := [42, 27, 183, 1, 73, 172]
abbrev dktJ5_charAt_0 : List UInt8 := dkwJ5_charAt_0 ++ []
theorem dksJ5_charAt_0 : cJ5_charAt.data.toList.drop 0 = dktJ5_charAt_0 := by decide +kernel
theorem dJ5_charAt_0 : decode cJ5_charAt 0 = .ok (.aload_n 0, 1) := dk_42 (dk_at dksJ5_charAt_0 0 rfl rfl)
theorem dJ5_charAt_1 : decode cJ5_charAt 1 = .ok (.iload_n 1, 1) := dk_27 (dk_at dksJ5_charAt_0 1 rfl rfl)
theorem dJ5_charAt_2 : decode cJ5_charAt 2 = .ok (.invokespecial 329, 3) := dk_183 1 73 (dk_at dksJ5_charAt_0 2 rfl rfl)
theorem dJ5_charAt_5 : decode cJ5_charAt 5 = .ok (.ireturn, 1) := dk_172 (dk_at dksJ5_charAt_0 5 rfl rfl)
abbrev cJ5_compareTo : ByteArray := prog_49_method_97_code
def yJ5_compareTo : MethodName := ⟨RJ5, "compareTo", "(Ljava/lang/Object;)I"⟩
def dkwJ5_compareTo_0 : List UInt8 := [42, 43, 192, 0, 24, 182, 1, 90, 172]
abbrev dktJ5_compareTo_0 : List UInt8 := dkwJ5_compareTo_0 ++ []
theorem dksJ5_compareTo_0 : cJ5_compareTo.data.toList.drop 0 = dktJ5_compareTo_0 := by decide +kernel
theorem dJ5_compareTo_0 : decode cJ5_compareTo 0 = .ok (.aload_n 0, 1) := dk_42 (dk_at dksJ5_compareTo_0 0 rfl rfl)
theorem dJ5_compareTo_1 : decode cJ5_compareTo 1 = .ok (.aload_n 1, 1) := dk_43 (dk_at dksJ5_compareTo_0 1 rfl rfl)
theorem dJ5_compareTo_2 : decode cJ5_compareTo 2 = .ok (.checkcast 24, 3) := dk_192 0 24 (dk_at dksJ5_compareTo_0 2 rfl rfl)
theorem dJ5_compareTo_5 : decode cJ5_compareTo 5 = .ok (.invokevirtual 346, 3) := dk_182 1 90 (dk_at dksJ5_compareTo_0 5 rfl rfl)
theorem dJ5_compareTo_8 : decode cJ5_compareTo 8 = .ok (.ireturn, 1) := dk_172 (dk_at dksJ5_compareTo_0 8 rfl rfl)
abbrev cJ5_compareTo_2 : ByteArray := prog_49_method_5_code
def yJ5_compareTo_2 : MethodName := ⟨RJ5, "compareTo", "(Ljava/lang/StringBuilder;)I"⟩
def dkwJ5_compareTo_2_0 : List UInt8 := [42, 43, 183, 0, 13, 172]
abbrev dktJ5_compareTo_2_0 : List UInt8 := dkwJ5_compareTo_2_0 ++ []
theorem dksJ5_compareTo_2_0 : cJ5_compareTo_2.data.toList.drop 0 = dktJ5_compareTo_2_0 := by decide +kernel
theorem dJ5_compareTo_2_0 : decode cJ5_compareTo_2 0 = .ok (.aload_n 0, 1) := dk_42 (dk_at dksJ5_compareTo_2_0 0 rfl rfl)
theorem dJ5_compareTo_2_1 : decode cJ5_compareTo_2 1 = .ok (.aload_n 1, 1) := dk_43 (dk_at dksJ5_compareTo_2_0 1 rfl rfl)
theorem dJ5_compareTo_2_2 : decode cJ5_compareTo_2 2 = .ok (.invokespecial 13, 3) := dk_183 0 13 (dk_at dksJ5_compareTo_2_0 2 rfl rfl)
theorem dJ5_compareTo_2_5 : decode cJ5_compareTo_2 5 = .ok (.ireturn, 1) := dk_172 (dk_at dksJ5_compareTo_2_0 5 rfl rfl)
theorem q95 : (Jvm.Cond.initialized "java/lang/StringBuilder") ∈ lw_all := lw_g (lw_at lw_m1 9 rfl) rfl
theorem q337 : (Jvm.Cond.instantiable "java/lang/StringBuilder" (4 : Nat)) ∈ lw_all := lw_g (lw_at lw_m2 11 rfl) rfl
theorem q339 : (Jvm.Cond.instanceMethod ({ cls := "java/lang/StringBuilder", name := "<init>", desc := "()V" } : Jvm.MethodName)) ∈ lw_all := lw_g (lw_at lw_m2 13 rfl) rfl
theorem q340 : (Jvm.Cond.code ({ cls := "java/lang/StringBuilder", name := "<init>", desc := "()V" } : Jvm.MethodName) prog_49_method_1_code (1 : Nat) (Option.none : Option Jvm.ClassFile.FieldType)) ∈ lw_all := lw_g (lw_at lw_m2 14 rfl) rfl
theorem q341 : (Jvm.Cond.methodLink "java/lang/StringBuilder" (1 : Nat) ({ cls := "java/lang/AbstractStringBuilder", name := "<init>", desc := "(I)V" } : Jvm.MethodName)) ∈ lw_all := lw_g (lw_at lw_m2 15 rfl) rfl
theorem q358 : (Jvm.Cond.lays "java/lang/StringBuilder" "java/lang/AbstractStringBuilder" "value" "[B") ∈ lw_all := lw_g (lw_at lw_m2 32 rfl) rfl
theorem q360 : (Jvm.Cond.lays "java/lang/StringBuilder" "java/lang/AbstractStringBuilder" "coder" "B") ∈ lw_all := lw_g (lw_at lw_m2 34 rfl) rfl
theorem q362 : (Jvm.Cond.lays "java/lang/StringBuilder" "java/lang/AbstractStringBuilder" "maybeLatin1" "Z") ∈ lw_all := lw_g (lw_at lw_m2 36 rfl) rfl
theorem q364 : (Jvm.Cond.lays "java/lang/StringBuilder" "java/lang/AbstractStringBuilder" "count" "I") ∈ lw_all := lw_g (lw_at lw_m2 38 rfl) rfl
theorem q366 : (Jvm.Cond.superclass "java/lang/StringBuilder" "java/lang/AbstractStringBuilder") ∈ lw_all := lw_g (lw_at lw_m2 40 rfl) rfl
theorem q729 : (Jvm.Cond.selects "java/lang/StringBuilder" ({ cls := "java/lang/Object", name := "getClass", desc := "()Ljava/lang/Class;" } : Jvm.MethodName) ({ cls := "java/lang/Object", name := "getClass", desc := "()Ljava/lang/Class;" } : Jvm.MethodName)) ∈ lw_all := lw_g (lw_at lw_m3 163 rfl) rfl
theorem q1612 : (Jvm.Cond.instanceMethod ({ cls := "java/lang/StringBuilder", name := "length", desc := "()I" } : Jvm.MethodName)) ∈ lw_all := lw_g (lw_at lw_m7 86 rfl) rfl
theorem q1613 : (Jvm.Cond.selects "java/lang/StringBuilder" ({ cls := "java/lang/StringBuilder", name := "length", desc := "()I" } : Jvm.MethodName) ({ cls := "java/lang/StringBuilder", name := "length", desc := "()I" } : Jvm.MethodName)) ∈ lw_all := lw_g (lw_at lw_m7 87 rfl) rfl
theorem q1614 : (Jvm.Cond.code ({ cls := "java/lang/StringBuilder", name := "length", desc := "()I" } : Jvm.MethodName) prog_49_method_93_code (1 : Nat) (Option.some Jvm.ClassFile.FieldType.int)) ∈ lw_all := lw_g (lw_at lw_m7 88 rfl) rfl
theorem q1615 : (Jvm.Cond.methodLink "java/lang/StringBuilder" (343 : Nat) ({ cls := "java/lang/AbstractStringBuilder", name := "length", desc := "()I" } : Jvm.MethodName)) ∈ lw_all := lw_g (lw_at lw_m7 89 rfl) rfl
theorem q1619 : (Jvm.Cond.instanceMethod ({ cls := "java/lang/StringBuilder", name := "append", desc := "(C)Ljava/lang/StringBuilder;" } : Jvm.MethodName)) ∈ lw_all := lw_g (lw_at lw_m7 93 rfl) rfl
theorem q1620 : (Jvm.Cond.selects "java/lang/StringBuilder" ({ cls := "java/lang/StringBuilder", name := "append", desc := "(C)Ljava/lang/StringBuilder;" } : Jvm.MethodName) ({ cls := "java/lang/StringBuilder", name := "append", desc := "(C)Ljava/lang/StringBuilder;" } : Jvm.MethodName)) ∈ lw_all := lw_g (lw_at lw_m7 94 rfl) rfl
theorem q1621 : (Jvm.Cond.code ({ cls := "java/lang/StringBuilder", name := "append", desc := "(C)Ljava/lang/StringBuilder;" } : Jvm.MethodName) prog_49_method_14_code (2 : Nat) (Option.some (Jvm.ClassFile.FieldType.object "java/lang/StringBuilder"))) ∈ lw_all := lw_g (lw_at lw_m7 95 rfl) rfl
theorem q1622 : (Jvm.Cond.methodLink "java/lang/StringBuilder" (50 : Nat) ({ cls := "java/lang/AbstractStringBuilder", name := "append", desc := "(C)Ljava/lang/AbstractStringBuilder;" } : Jvm.MethodName)) ∈ lw_all := lw_g (lw_at lw_m7 96 rfl) rfl
theorem q1648 : (Jvm.Cond.selects "java/lang/StringBuilder" ({ cls := "java/lang/AbstractStringBuilder", name := "isLatin1", desc := "()Z" } : Jvm.MethodName) ({ cls := "java/lang/AbstractStringBuilder", name := "isLatin1", desc := "()Z" } : Jvm.MethodName)) ∈ lw_all := lw_g (lw_at lw_m7 122 rfl) rfl
theorem q1701 : (Jvm.Cond.instanceMethod ({ cls := "java/lang/StringBuilder", name := "setLength", desc := "(I)V" } : Jvm.MethodName)) ∈ lw_all := lw_g (lw_at lw_m7 175 rfl) rfl
theorem q1702 : (Jvm.Cond.selects "java/lang/StringBuilder" ({ cls := "java/lang/StringBuilder", name := "setLength", desc := "(I)V" } : Jvm.MethodName) ({ cls := "java/lang/StringBuilder", name := "setLength", desc := "(I)V" } : Jvm.MethodName)) ∈ lw_all := lw_g (lw_at lw_m7 176 rfl) rfl
theorem q1703 : (Jvm.Cond.code ({ cls := "java/lang/StringBuilder", name := "setLength", desc := "(I)V" } : Jvm.MethodName) prog_49_method_89_code (2 : Nat) (Option.none : Option Jvm.ClassFile.FieldType)) ∈ lw_all := lw_g (lw_at lw_m7 177 rfl) rfl
theorem q1704 : (Jvm.Cond.methodLink "java/lang/StringBuilder" (333 : Nat) ({ cls := "java/lang/AbstractStringBuilder", name := "setLength", desc := "(I)V" } : Jvm.MethodName)) ∈ lw_all := lw_g (lw_at lw_m7 178 rfl) rfl
theorem q1763 : (Jvm.Cond.instanceMethod ({ cls := "java/lang/StringBuilder", name := "charAt", desc := "(I)C" } : Jvm.MethodName)) ∈ lw_all := lw_g (lw_at lw_m7 237 rfl) rfl
theorem q1764 : (Jvm.Cond.selects "java/lang/StringBuilder" ({ cls := "java/lang/StringBuilder", name := "charAt", desc := "(I)C" } : Jvm.MethodName) ({ cls := "java/lang/StringBuilder", name := "charAt", desc := "(I)C" } : Jvm.MethodName)) ∈ lw_all := lw_g (lw_at lw_m7 238 rfl) rfl
theorem q1765 : (Jvm.Cond.code ({ cls := "java/lang/StringBuilder", name := "charAt", desc := "(I)C" } : Jvm.MethodName) prog_49_method_88_code (2 : Nat) (Option.some Jvm.ClassFile.FieldType.char)) ∈ lw_all := lw_g (lw_at lw_m7 239 rfl) rfl
theorem q1766 : (Jvm.Cond.methodLink "java/lang/StringBuilder" (329 : Nat) ({ cls := "java/lang/AbstractStringBuilder", name := "charAt", desc := "(I)C" } : Jvm.MethodName)) ∈ lw_all := lw_g (lw_at lw_m8 0 rfl) rfl
theorem q2392 : (Jvm.Cond.castable "java/lang/StringBuilder" "java/lang/Comparable") ∈ lw_tbl := lw_at lw_m10 146 rfl
theorem q2393 : (Jvm.Cond.selects "java/lang/StringBuilder" ({ cls := "java/lang/Comparable", name := "compareTo", desc := "(Ljava/lang/Object;)I" } : Jvm.MethodName) ({ cls := "java/lang/StringBuilder", name := "compareTo", desc := "(Ljava/lang/Object;)I" } : Jvm.MethodName)) ∈ lw_all := lw_g (lw_at lw_m10 147 rfl) rfl
theorem q2394 : (Jvm.Cond.unhidden "java/lang/StringBuilder" "compareTo" "(Ljava/lang/Object;)I") ∈ lw_tbl := lw_at lw_m10 148 rfl
theorem q2395 : (Jvm.Cond.instanceMethod ({ cls := "java/lang/StringBuilder", name := "compareTo", desc := "(Ljava/lang/Object;)I" } : Jvm.MethodName)) ∈ lw_all := lw_g (lw_at lw_m10 149 rfl) rfl
theorem q2396 : (Jvm.Cond.publicMethod ({ cls := "java/lang/StringBuilder", name := "compareTo", desc := "(Ljava/lang/Object;)I" } : Jvm.MethodName)) ∈ lw_tbl := lw_at lw_m10 150 rfl
theorem q2397 : (Jvm.Cond.code ({ cls := "java/lang/StringBuilder", name := "compareTo", desc := "(Ljava/lang/Object;)I" } : Jvm.MethodName) prog_49_method_97_code (2 : Nat) (Option.some Jvm.ClassFile.FieldType.int)) ∈ lw_all := lw_g (lw_at lw_m10 151 rfl) rfl
theorem q2398 : (Jvm.Cond.classLink "java/lang/StringBuilder" (24 : Nat) "java/lang/StringBuilder") ∈ lw_all := lw_g (lw_at lw_m10 152 rfl) rfl
theorem q2399 : (Jvm.Cond.methodLink "java/lang/StringBuilder" (346 : Nat) ({ cls := "java/lang/StringBuilder", name := "compareTo", desc := "(Ljava/lang/StringBuilder;)I" } : Jvm.MethodName)) ∈ lw_all := lw_g (lw_at lw_m10 153 rfl) rfl
theorem q2400 : (Jvm.Cond.instanceMethod ({ cls := "java/lang/StringBuilder", name := "compareTo", desc := "(Ljava/lang/StringBuilder;)I" } : Jvm.MethodName)) ∈ lw_all := lw_g (lw_at lw_m10 154 rfl) rfl
theorem q2401 : (Jvm.Cond.selects "java/lang/StringBuilder" ({ cls := "java/lang/StringBuilder", name := "compareTo", desc := "(Ljava/lang/StringBuilder;)I" } : Jvm.MethodName) ({ cls := "java/lang/StringBuilder", name := "compareTo", desc := "(Ljava/lang/StringBuilder;)I" } : Jvm.MethodName)) ∈ lw_all := lw_g (lw_at lw_m10 155 rfl) rfl
theorem q2402 : (Jvm.Cond.code ({ cls := "java/lang/StringBuilder", name := "compareTo", desc := "(Ljava/lang/StringBuilder;)I" } : Jvm.MethodName) prog_49_method_5_code (2 : Nat) (Option.some Jvm.ClassFile.FieldType.int)) ∈ lw_all := lw_g (lw_at lw_m10 156 rfl) rfl
theorem q2403 : (Jvm.Cond.methodLink "java/lang/StringBuilder" (13 : Nat) ({ cls := "java/lang/AbstractStringBuilder", name := "compareTo", desc := "(Ljava/lang/AbstractStringBuilder;)I" } : Jvm.MethodName)) ∈ lw_all := lw_g (lw_at lw_m10 157 rfl) rfl
theorem q3336 : (Jvm.Cond.castable "java/lang/StringBuilder" "java/lang/Object") ∈ lw_tbl := lw_at lw_m14 130 rfl
theorem in_J5 : ∀ w ∈ wsJ50, w ∈ lw_all := lw_in wsJ50 [358, 360, 362, 364] (by decide +kernel) (by decide +kernel)

end
section
/-! java/lang/String -/
set_option maxRecDepth 100000
def RJ6 : String := "java/lang/String"
abbrev cJ6_checkBoundsOffCount : ByteArray := prog_48_method_157_code
def yJ6_checkBoundsOffCount : MethodName := ⟨RJ6, "checkBoundsOffCount", "(III)I"⟩
def dkwJ6_checkBoundsOffCount_0 : List UInt8 := [26, 27, 28, 178, 4, 29, 184, 4, 41, 172]
abbrev dktJ6_checkBoundsOffCount_0 : List UInt8 := dkwJ6_checkBoundsOffCount_0 ++ []
theorem dksJ6_checkBoundsOffCount_0 : cJ6_checkBoundsOffCount.data.toList.drop 0 = dktJ6_checkBoundsOffCount_0 := by decide +kernel
theorem dJ6_checkBoundsOffCount_0 : decode cJ6_checkBoundsOffCount 0 = .ok (.iload_n 0, 1) := dk_26 (dk_at dksJ6_checkBoundsOffCount_0 0 rfl rfl)
theorem dJ6_checkBoundsOffCount_1 : decode cJ6_checkBoundsOffCount 1 = .ok (.iload_n 1, 1) := dk_27 (dk_at dksJ6_checkBoundsOffCount_0 1 rfl rfl)
theorem dJ6_checkBoundsOffCount_2 : decode cJ6_checkBoundsOffCount 2 = .ok (.iload_n 2, 1) := dk_28 (dk_at dksJ6_checkBoundsOffCount_0 2 rfl rfl)
theorem dJ6_checkBoundsOffCount_3 : decode cJ6_checkBoundsOffCount 3 = .ok (.getstatic 1053, 3) := dk_178 4 29 (dk_at dksJ6_checkBoundsOffCount_0 3 rfl rfl)
theorem dJ6_checkBoundsOffCount_6 : decode cJ6_checkBoundsOffCount 6 = .ok (.invokestatic 1065, 3) := dk_184 4 41 (dk_at dksJ6_checkBoundsOffCount_0 6 rfl rfl)
theorem dJ6_checkBoundsOffCount_9 : decode cJ6_checkBoundsOffCount 9 = .ok (.ireturn, 1) := dk_172 (dk_at dksJ6_checkBoundsOffCount_0 9 rfl rfl)
abbrev cJ6_checkIndex : ByteArray := prog_48_method_155_code
def yJ6_checkIndex : MethodName := ⟨RJ6, "checkIndex", "(II)V"⟩
def dkwJ6_checkIndex_0 : List UInt8 := [26, 27, 178, 4, 29, 184, 4, 35, 87, 177]
abbrev dktJ6_checkIndex_0 : List UInt8 := dkwJ6_checkIndex_0 ++ []
theorem dksJ6_checkIndex_0 : cJ6_checkIndex.data.toList.drop 0 = dktJ6_checkIndex_0 := by decide +kernel
theorem dJ6_checkIndex_0 : decode cJ6_checkIndex 0 = .ok (.iload_n 0, 1) := dk_26 (dk_at dksJ6_checkIndex_0 0 rfl rfl)
theorem dJ6_checkIndex_1 : decode cJ6_checkIndex 1 = .ok (.iload_n 1, 1) := dk_27 (dk_at dksJ6_checkIndex_0 1 rfl rfl)
theorem dJ6_checkIndex_2 : decode cJ6_checkIndex 2 = .ok (.getstatic 1053, 3) := dk_178 4 29 (dk_at dksJ6_checkIndex_0 2 rfl rfl)
theorem dJ6_checkIndex_5 : decode cJ6_checkIndex 5 = .ok (.invokestatic 1059, 3) := dk_184 4 35 (dk_at dksJ6_checkIndex_0 5 rfl rfl)
theorem dJ6_checkIndex_8 : decode cJ6_checkIndex 8 = .ok (.pop, 1) := dk_87 (dk_at dksJ6_checkIndex_0 8 rfl rfl)
theorem dJ6_checkIndex_9 : decode cJ6_checkIndex 9 = .ok (.return_, 1) := dk_177 (dk_at dksJ6_checkIndex_0 9 rfl rfl)
abbrev cJ6_length : ByteArray := prog_48_method_54_code
def yJ6_length : MethodName := ⟨RJ6, "length", "()I"⟩
def dkwJ6_length_0 : List UInt8 := [42, 180, 0, 9, 190, 42, 182, 1, 79, 122, 172]
abbrev dktJ6_length_0 : List UInt8 := dkwJ6_length_0 ++ []
theorem dksJ6_length_0 : cJ6_length.data.toList.drop 0 = dktJ6_length_0 := by decide +kernel
theorem dJ6_length_0 : decode cJ6_length 0 = .ok (.aload_n 0, 1) := dk_42 (dk_at dksJ6_length_0 0 rfl rfl)
theorem dJ6_length_1 : decode cJ6_length 1 = .ok (.getfield 9, 3) := dk_180 0 9 (dk_at dksJ6_length_0 1 rfl rfl)
theorem dJ6_length_4 : decode cJ6_length 4 = .ok (.arraylength, 1) := dk_190 (dk_at dksJ6_length_0 4 rfl rfl)
theorem dJ6_length_5 : decode cJ6_length 5 = .ok (.aload_n 0, 1) := dk_42 (dk_at dksJ6_length_0 5 rfl rfl)
theorem dJ6_length_6 : decode cJ6_length 6 = .ok (.invokevirtual 335, 3) := dk_182 1 79 (dk_at dksJ6_length_0 6 rfl rfl)
theorem dJ6_length_9 : decode cJ6_length 9 = .ok (.ishr, 1) := dk_122 (dk_at dksJ6_length_0 9 rfl rfl)
theorem dJ6_length_10 : decode cJ6_length 10 = .ok (.ireturn, 1) := dk_172 (dk_at dksJ6_length_0 10 rfl rfl)
abbrev cJ6_coder : ByteArray := prog_48_method_152_code
def yJ6_coder : MethodName := ⟨RJ6, "coder", "()B"⟩
def dkwJ6_coder_0 : List UInt8 := [178, 0, 38, 153, 0, 10, 42, 180, 0, 15, 167, 0, 4, 4, 172]
abbrev dktJ6_coder_0 : List UInt8 := dkwJ6_coder_0 ++ []
theorem dksJ6_coder_0 : cJ6_coder.data.toList.drop 0 = dktJ6_coder_0 := by decide +kernel
theorem dJ6_coder_0 : decode cJ6_coder 0 = .ok (.getstatic 38, 3) := dk_178 0 38 (dk_at dksJ6_coder_0 0 rfl rfl)
theorem dJ6_coder_3 : decode cJ6_coder 3 = .ok (.ifCond .eq 10, 3) := dk_153 0 10 (dk_at dksJ6_coder_0 3 rfl rfl)
theorem dJ6_coder_6 : decode cJ6_coder 6 = .ok (.aload_n 0, 1) := dk_42 (dk_at dksJ6_coder_0 6 rfl rfl)
theorem dJ6_coder_7 : decode cJ6_coder 7 = .ok (.getfield 15, 3) := dk_180 0 15 (dk_at dksJ6_coder_0 7 rfl rfl)
theorem dJ6_coder_10 : decode cJ6_coder 10 = .ok (.goto 4, 3) := dk_167 0 4 (dk_at dksJ6_coder_0 10 rfl rfl)
theorem dJ6_coder_13 : decode cJ6_coder 13 = .ok (.iconst 1, 1) := dk_4 (dk_at dksJ6_coder_0 13 rfl rfl)
theorem dJ6_coder_14 : decode cJ6_coder 14 = .ok (.ireturn, 1) := dk_172 (dk_at dksJ6_coder_0 14 rfl rfl)
abbrev cJ6_charAt : ByteArray := prog_48_method_56_code
def yJ6_charAt : MethodName := ⟨RJ6, "charAt", "(I)C"⟩
def dkwJ6_charAt_1 : List UInt8 := [172]
abbrev dktJ6_charAt_1 : List UInt8 := dkwJ6_charAt_1 ++ []
def dkwJ6_charAt_0 : List UInt8 := [42, 182, 1, 236, 153, 0, 12, 42, 180, 0, 9, 27, 184, 1, 239, 172, 42, 180, 0, 9, 27, 184, 1, 242]
abbrev dktJ6_charAt_0 : List UInt8 := dkwJ6_charAt_0 ++ dktJ6_charAt_1
theorem dksJ6_charAt_0 : cJ6_charAt.data.toList.drop 0 = dktJ6_charAt_0 := by decide +kernel
theorem dksJ6_charAt_1 : cJ6_charAt.data.toList.drop 24 = dktJ6_charAt_1 := dk_seg dksJ6_charAt_0 24 rfl rfl
theorem dJ6_charAt_0 : decode cJ6_charAt 0 = .ok (.aload_n 0, 1) := dk_42 (dk_at dksJ6_charAt_0 0 rfl rfl)
theorem dJ6_charAt_1 : decode cJ6_charAt 1 = .ok (.invokevirtual 492, 3) := dk_182 1 236 (dk_at dksJ6_charAt_0 1 rfl rfl)
theorem dJ6_charAt_4 : decode cJ6_charAt 4 = .ok (.ifCond .eq 12, 3) := dk_153 0 12 (dk_at dksJ6_charAt_0 4 rfl rfl)
theorem dJ6_charAt_7 : decode cJ6_charAt 7 = .ok (.aload_n 0, 1) := dk_42 (dk_at dksJ6_charAt_0 7 rfl rfl)
theorem dJ6_charAt_8 : decode cJ6_charAt 8 = .ok (.getfield 9, 3) := dk_180 0 9 (dk_at dksJ6_charAt_0 8 rfl rfl)
theorem dJ6_charAt_11 : decode cJ6_charAt 11 = .ok (.iload_n 1, 1) := dk_27 (dk_at dksJ6_charAt_0 11 rfl rfl)
theorem dJ6_charAt_12 : decode cJ6_charAt 12 = .ok (.invokestatic 495, 3) := dk_184 1 239 (dk_at dksJ6_charAt_0 12 rfl rfl)
theorem dJ6_charAt_15 : decode cJ6_charAt 15 = .ok (.ireturn, 1) := dk_172 (dk_at dksJ6_charAt_0 15 rfl rfl)
theorem dJ6_charAt_16 : decode cJ6_charAt 16 = .ok (.aload_n 0, 1) := dk_42 (dk_at dksJ6_charAt_0 16 rfl rfl)
theorem dJ6_charAt_17 : decode cJ6_charAt 17 = .ok (.getfield 9, 3) := dk_180 0 9 (dk_at dksJ6_charAt_0 17 rfl rfl)
theorem dJ6_charAt_20 : decode cJ6_charAt 20 = .ok (.iload_n 1, 1) := dk_27 (dk_at dksJ6_charAt_0 20 rfl rfl)
theorem dJ6_charAt_21 : decode cJ6_charAt 21 = .ok (.invokestatic 498, 3) := dk_184 1 242 (dk_at dksJ6_charAt_0 21 rfl rfl)
theorem dJ6_charAt_24 : decode cJ6_charAt 24 = .ok (.ireturn, 1) := dk_172 (dk_at dksJ6_charAt_1 0 rfl rfl)
abbrev cJ6_isLatin1 : ByteArray := prog_48_method_154_code
def yJ6_isLatin1 : MethodName := ⟨RJ6, "isLatin1", "()Z"⟩
def dkwJ6_isLatin1_0 : List UInt8 := [178, 0, 38, 153, 0, 14, 42, 180, 0, 15, 154, 0, 7, 4, 167, 0, 4, 3, 172]
abbrev dktJ6_isLatin1_0 : List UInt8 := dkwJ6_isLatin1_0 ++ []
theorem dksJ6_isLatin1_0 : cJ6_isLatin1.data.toList.drop 0 = dktJ6_isLatin1_0 := by decide +kernel
theorem dJ6_isLatin1_0 : decode cJ6_isLatin1 0 = .ok (.getstatic 38, 3) := dk_178 0 38 (dk_at dksJ6_isLatin1_0 0 rfl rfl)
theorem dJ6_isLatin1_3 : decode cJ6_isLatin1 3 = .ok (.ifCond .eq 14, 3) := dk_153 0 14 (dk_at dksJ6_isLatin1_0 3 rfl rfl)
theorem dJ6_isLatin1_6 : decode cJ6_isLatin1 6 = .ok (.aload_n 0, 1) := dk_42 (dk_at dksJ6_isLatin1_0 6 rfl rfl)
theorem dJ6_isLatin1_7 : decode cJ6_isLatin1 7 = .ok (.getfield 15, 3) := dk_180 0 15 (dk_at dksJ6_isLatin1_0 7 rfl rfl)
theorem dJ6_isLatin1_10 : decode cJ6_isLatin1 10 = .ok (.ifCond .ne 7, 3) := dk_154 0 7 (dk_at dksJ6_isLatin1_0 10 rfl rfl)
theorem dJ6_isLatin1_13 : decode cJ6_isLatin1 13 = .ok (.iconst 1, 1) := dk_4 (dk_at dksJ6_isLatin1_0 13 rfl rfl)
theorem dJ6_isLatin1_14 : decode cJ6_isLatin1 14 = .ok (.goto 4, 3) := dk_167 0 4 (dk_at dksJ6_isLatin1_0 14 rfl rfl)
theorem dJ6_isLatin1_17 : decode cJ6_isLatin1 17 = .ok (.iconst 0, 1) := dk_3 (dk_at dksJ6_isLatin1_0 17 rfl rfl)
theorem dJ6_isLatin1_18 : decode cJ6_isLatin1 18 = .ok (.ireturn, 1) := dk_172 (dk_at dksJ6_isLatin1_0 18 rfl rfl)
abbrev cJ6_equals : ByteArray := prog_48_method_66_code
def yJ6_equals : MethodName := ⟨RJ6, "equals", "(Ljava/lang/Object;)Z"⟩
def dkwJ6_equals_2 : List UInt8 := [184, 2, 29, 153, 0, 7, 4, 167, 0, 4, 3, 172]
abbrev dktJ6_equals_2 : List UInt8 := dkwJ6_equals_2 ++ []
def dkwJ6_equals_1 : List UInt8 := [153, 0, 14, 42, 180, 0, 15, 44, 180, 0, 15, 160, 0, 21, 42, 180, 0, 9, 44, 180, 0, 9]
abbrev dktJ6_equals_1 : List UInt8 := dkwJ6_equals_1 ++ dktJ6_equals_2
def dkwJ6_equals_0 : List UInt8 := [42, 43, 166, 0, 5, 4, 172, 43, 193, 0, 10, 153, 0, 43, 43, 192, 0, 10, 77, 178, 0, 38]
abbrev dktJ6_equals_0 : List UInt8 := dkwJ6_equals_0 ++ dktJ6_equals_1
theorem dksJ6_equals_0 : cJ6_equals.data.toList.drop 0 = dktJ6_equals_0 := by decide +kernel
theorem dksJ6_equals_1 : cJ6_equals.data.toList.drop 22 = dktJ6_equals_1 := dk_seg dksJ6_equals_0 22 rfl rfl
theorem dksJ6_equals_2 : cJ6_equals.data.toList.drop 44 = dktJ6_equals_2 := dk_seg dksJ6_equals_1 22 rfl rfl
theorem dJ6_equals_0 : decode cJ6_equals 0 = .ok (.aload_n 0, 1) := dk_42 (dk_at dksJ6_equals_0 0 rfl rfl)
theorem dJ6_equals_1 : decode cJ6_equals 1 = .ok (.aload_n 1, 1) := dk_43 (dk_at dksJ6_equals_0 1 rfl rfl)
theorem dJ6_equals_2 : decode cJ6_equals 2 = .ok (.if_acmp .ne 5, 3) := dk_166 0 5 (dk_at dksJ6_equals_0 2 rfl rfl)
theorem dJ6_equals_5 : decode cJ6_equals 5 = .ok (.iconst 1, 1) := dk_4 (dk_at dksJ6_equals_0 5 rfl rfl)
theorem dJ6_equals_6 : decode cJ6_equals 6 = .ok (.ireturn, 1) := dk_172 (dk_at dksJ6_equals_0 6 rfl rfl)
theorem dJ6_equals_7 : decode cJ6_equals 7 = .ok (.aload_n 1, 1) := dk_43 (dk_at dksJ6_equals_0 7 rfl rfl)
theorem dJ6_equals_8 : decode cJ6_equals 8 = .ok (.instanceof 10, 3) := dk_193 0 10 (dk_at dksJ6_equals_0 8 rfl rfl)
theorem dJ6_equals_11 : decode cJ6_equals 11 = .ok (.ifCond .eq 43, 3) := dk_153 0 43 (dk_at dksJ6_equals_0 11 rfl rfl)
theorem dJ6_equals_14 : decode cJ6_equals 14 = .ok (.aload_n 1, 1) := dk_43 (dk_at dksJ6_equals_0 14 rfl rfl)
theorem dJ6_equals_15 : decode cJ6_equals 15 = .ok (.checkcast 10, 3) := dk_192 0 10 (dk_at dksJ6_equals_0 15 rfl rfl)
theorem dJ6_equals_18 : decode cJ6_equals 18 = .ok (.astore_n 2, 1) := dk_77 (dk_at dksJ6_equals_0 18 rfl rfl)
theorem dJ6_equals_19 : decode cJ6_equals 19 = .ok (.getstatic 38, 3) := dk_178 0 38 (dk_at dksJ6_equals_0 19 rfl rfl)
theorem dJ6_equals_22 : decode cJ6_equals 22 = .ok (.ifCond .eq 14, 3) := dk_153 0 14 (dk_at dksJ6_equals_1 0 rfl rfl)
theorem dJ6_equals_25 : decode cJ6_equals 25 = .ok (.aload_n 0, 1) := dk_42 (dk_at dksJ6_equals_1 3 rfl rfl)
theorem dJ6_equals_26 : decode cJ6_equals 26 = .ok (.getfield 15, 3) := dk_180 0 15 (dk_at dksJ6_equals_1 4 rfl rfl)
theorem dJ6_equals_29 : decode cJ6_equals 29 = .ok (.aload_n 2, 1) := dk_44 (dk_at dksJ6_equals_1 7 rfl rfl)
theorem dJ6_equals_30 : decode cJ6_equals 30 = .ok (.getfield 15, 3) := dk_180 0 15 (dk_at dksJ6_equals_1 8 rfl rfl)
theorem dJ6_equals_33 : decode cJ6_equals 33 = .ok (.if_icmp .ne 21, 3) := dk_160 0 21 (dk_at dksJ6_equals_1 11 rfl rfl)
theorem dJ6_equals_36 : decode cJ6_equals 36 = .ok (.aload_n 0, 1) := dk_42 (dk_at dksJ6_equals_1 14 rfl rfl)
theorem dJ6_equals_37 : decode cJ6_equals 37 = .ok (.getfield 9, 3) := dk_180 0 9 (dk_at dksJ6_equals_1 15 rfl rfl)
theorem dJ6_equals_40 : decode cJ6_equals 40 = .ok (.aload_n 2, 1) := dk_44 (dk_at dksJ6_equals_1 18 rfl rfl)
theorem dJ6_equals_41 : decode cJ6_equals 41 = .ok (.getfield 9, 3) := dk_180 0 9 (dk_at dksJ6_equals_1 19 rfl rfl)
theorem dJ6_equals_44 : decode cJ6_equals 44 = .ok (.invokestatic 541, 3) := dk_184 2 29 (dk_at dksJ6_equals_2 0 rfl rfl)
theorem dJ6_equals_47 : decode cJ6_equals 47 = .ok (.ifCond .eq 7, 3) := dk_153 0 7 (dk_at dksJ6_equals_2 3 rfl rfl)
theorem dJ6_equals_50 : decode cJ6_equals 50 = .ok (.iconst 1, 1) := dk_4 (dk_at dksJ6_equals_2 6 rfl rfl)
theorem dJ6_equals_51 : decode cJ6_equals 51 = .ok (.goto 4, 3) := dk_167 0 4 (dk_at dksJ6_equals_2 7 rfl rfl)
theorem dJ6_equals_54 : decode cJ6_equals 54 = .ok (.iconst 0, 1) := dk_3 (dk_at dksJ6_equals_2 10 rfl rfl)
theorem dJ6_equals_55 : decode cJ6_equals 55 = .ok (.ireturn, 1) := dk_172 (dk_at dksJ6_equals_2 11 rfl rfl)
abbrev cJ6_hashCode : ByteArray := prog_48_method_78_code
def yJ6_hashCode : MethodName := ⟨RJ6, "hashCode", "()I"⟩
def dkwJ6_hashCode_2 : List UInt8 := [181, 0, 23, 167, 0, 8, 42, 27, 181, 0, 19, 27, 172]
abbrev dktJ6_hashCode_2 : List UInt8 := dkwJ6_hashCode_2 ++ []
def dkwJ6_hashCode_1 : List UInt8 := [180, 0, 9, 184, 2, 116, 167, 0, 10, 42, 180, 0, 9, 184, 2, 120, 60, 27, 154, 0, 11, 42, 4]
abbrev dktJ6_hashCode_1 : List UInt8 := dkwJ6_hashCode_1 ++ dktJ6_hashCode_2
def dkwJ6_hashCode_0 : List UInt8 := [42, 180, 0, 19, 60, 27, 154, 0, 52, 42, 180, 0, 23, 154, 0, 45, 42, 182, 1, 236, 153, 0, 13, 42]
abbrev dktJ6_hashCode_0 : List UInt8 := dkwJ6_hashCode_0 ++ dktJ6_hashCode_1
theorem dksJ6_hashCode_0 : cJ6_hashCode.data.toList.drop 0 = dktJ6_hashCode_0 := by decide +kernel
theorem dksJ6_hashCode_1 : cJ6_hashCode.data.toList.drop 24 = dktJ6_hashCode_1 := dk_seg dksJ6_hashCode_0 24 rfl rfl
theorem dksJ6_hashCode_2 : cJ6_hashCode.data.toList.drop 47 = dktJ6_hashCode_2 := dk_seg dksJ6_hashCode_1 23 rfl rfl
theorem dJ6_hashCode_0 : decode cJ6_hashCode 0 = .ok (.aload_n 0, 1) := dk_42 (dk_at dksJ6_hashCode_0 0 rfl rfl)
theorem dJ6_hashCode_1 : decode cJ6_hashCode 1 = .ok (.getfield 19, 3) := dk_180 0 19 (dk_at dksJ6_hashCode_0 1 rfl rfl)
theorem dJ6_hashCode_4 : decode cJ6_hashCode 4 = .ok (.istore_n 1, 1) := dk_60 (dk_at dksJ6_hashCode_0 4 rfl rfl)
theorem dJ6_hashCode_5 : decode cJ6_hashCode 5 = .ok (.iload_n 1, 1) := dk_27 (dk_at dksJ6_hashCode_0 5 rfl rfl)
theorem dJ6_hashCode_6 : decode cJ6_hashCode 6 = .ok (.ifCond .ne 52, 3) := dk_154 0 52 (dk_at dksJ6_hashCode_0 6 rfl rfl)
theorem dJ6_hashCode_9 : decode cJ6_hashCode 9 = .ok (.aload_n 0, 1) := dk_42 (dk_at dksJ6_hashCode_0 9 rfl rfl)
theorem dJ6_hashCode_10 : decode cJ6_hashCode 10 = .ok (.getfield 23, 3) := dk_180 0 23 (dk_at dksJ6_hashCode_0 10 rfl rfl)
theorem dJ6_hashCode_13 : decode cJ6_hashCode 13 = .ok (.ifCond .ne 45, 3) := dk_154 0 45 (dk_at dksJ6_hashCode_0 13 rfl rfl)
theorem dJ6_hashCode_16 : decode cJ6_hashCode 16 = .ok (.aload_n 0, 1) := dk_42 (dk_at dksJ6_hashCode_0 16 rfl rfl)
theorem dJ6_hashCode_17 : decode cJ6_hashCode 17 = .ok (.invokevirtual 492, 3) := dk_182 1 236 (dk_at dksJ6_hashCode_0 17 rfl rfl)
theorem dJ6_hashCode_20 : decode cJ6_hashCode 20 = .ok (.ifCond .eq 13, 3) := dk_153 0 13 (dk_at dksJ6_hashCode_0 20 rfl rfl)
theorem dJ6_hashCode_23 : decode cJ6_hashCode 23 = .ok (.aload_n 0, 1) := dk_42 (dk_at dksJ6_hashCode_0 23 rfl rfl)
theorem dJ6_hashCode_24 : decode cJ6_hashCode 24 = .ok (.getfield 9, 3) := dk_180 0 9 (dk_at dksJ6_hashCode_1 0 rfl rfl)
theorem dJ6_hashCode_27 : decode cJ6_hashCode 27 = .ok (.invokestatic 628, 3) := dk_184 2 116 (dk_at dksJ6_hashCode_1 3 rfl rfl)
theorem dJ6_hashCode_30 : decode cJ6_hashCode 30 = .ok (.goto 10, 3) := dk_167 0 10 (dk_at dksJ6_hashCode_1 6 rfl rfl)
theorem dJ6_hashCode_33 : decode cJ6_hashCode 33 = .ok (.aload_n 0, 1) := dk_42 (dk_at dksJ6_hashCode_1 9 rfl rfl)
theorem dJ6_hashCode_34 : decode cJ6_hashCode 34 = .ok (.getfield 9, 3) := dk_180 0 9 (dk_at dksJ6_hashCode_1 10 rfl rfl)
theorem dJ6_hashCode_37 : decode cJ6_hashCode 37 = .ok (.invokestatic 632, 3) := dk_184 2 120 (dk_at dksJ6_hashCode_1 13 rfl rfl)
theorem dJ6_hashCode_40 : decode cJ6_hashCode 40 = .ok (.istore_n 1, 1) := dk_60 (dk_at dksJ6_hashCode_1 16 rfl rfl)
theorem dJ6_hashCode_41 : decode cJ6_hashCode 41 = .ok (.iload_n 1, 1) := dk_27 (dk_at dksJ6_hashCode_1 17 rfl rfl)
theorem dJ6_hashCode_42 : decode cJ6_hashCode 42 = .ok (.ifCond .ne 11, 3) := dk_154 0 11 (dk_at dksJ6_hashCode_1 18 rfl rfl)
theorem dJ6_hashCode_45 : decode cJ6_hashCode 45 = .ok (.aload_n 0, 1) := dk_42 (dk_at dksJ6_hashCode_1 21 rfl rfl)
theorem dJ6_hashCode_46 : decode cJ6_hashCode 46 = .ok (.iconst 1, 1) := dk_4 (dk_at dksJ6_hashCode_1 22 rfl rfl)
theorem dJ6_hashCode_47 : decode cJ6_hashCode 47 = .ok (.putfield 23, 3) := dk_181 0 23 (dk_at dksJ6_hashCode_2 0 rfl rfl)
theorem dJ6_hashCode_50 : decode cJ6_hashCode 50 = .ok (.goto 8, 3) := dk_167 0 8 (dk_at dksJ6_hashCode_2 3 rfl rfl)
theorem dJ6_hashCode_53 : decode cJ6_hashCode 53 = .ok (.aload_n 0, 1) := dk_42 (dk_at dksJ6_hashCode_2 6 rfl rfl)
theorem dJ6_hashCode_54 : decode cJ6_hashCode 54 = .ok (.iload_n 1, 1) := dk_27 (dk_at dksJ6_hashCode_2 7 rfl rfl)
theorem dJ6_hashCode_55 : decode cJ6_hashCode 55 = .ok (.putfield 19, 3) := dk_181 0 19 (dk_at dksJ6_hashCode_2 8 rfl rfl)
theorem dJ6_hashCode_58 : decode cJ6_hashCode 58 = .ok (.iload_n 1, 1) := dk_27 (dk_at dksJ6_hashCode_2 11 rfl rfl)
theorem dJ6_hashCode_59 : decode cJ6_hashCode 59 = .ok (.ireturn, 1) := dk_172 (dk_at dksJ6_hashCode_2 12 rfl rfl)
abbrev cJ6_compareTo : ByteArray := prog_48_method_162_code
def yJ6_compareTo : MethodName := ⟨RJ6, "compareTo", "(Ljava/lang/Object;)I"⟩
def dkwJ6_compareTo_0 : List UInt8 := [42, 43, 192, 0, 10, 182, 4, 60, 172]
abbrev dktJ6_compareTo_0 : List UInt8 := dkwJ6_compareTo_0 ++ []
theorem dksJ6_compareTo_0 : cJ6_compareTo.data.toList.drop 0 = dktJ6_compareTo_0 := by decide +kernel
theorem dJ6_compareTo_0 : decode cJ6_compareTo 0 = .ok (.aload_n 0, 1) := dk_42 (dk_at dksJ6_compareTo_0 0 rfl rfl)
theorem dJ6_compareTo_1 : decode cJ6_compareTo 1 = .ok (.aload_n 1, 1) := dk_43 (dk_at dksJ6_compareTo_0 1 rfl rfl)
theorem dJ6_compareTo_2 : decode cJ6_compareTo 2 = .ok (.checkcast 10, 3) := dk_192 0 10 (dk_at dksJ6_compareTo_0 2 rfl rfl)
theorem dJ6_compareTo_5 : decode cJ6_compareTo 5 = .ok (.invokevirtual 1084, 3) := dk_182 4 60 (dk_at dksJ6_compareTo_0 5 rfl rfl)
theorem dJ6_compareTo_8 : decode cJ6_compareTo 8 = .ok (.ireturn, 1) := dk_172 (dk_at dksJ6_compareTo_0 8 rfl rfl)
abbrev cJ6_compareTo_2 : ByteArray := prog_48_method_71_code
def yJ6_compareTo_2 : MethodName := ⟨RJ6, "compareTo", "(Ljava/lang/String;)I"⟩
def dkwJ6_compareTo_2_2 : List UInt8 := [154, 0, 11, 44, 45, 184, 2, 79, 167, 0, 8, 44, 45, 184, 2, 82, 172]
abbrev dktJ6_compareTo_2_2 : List UInt8 := dkwJ6_compareTo_2_2 ++ []
def dkwJ6_compareTo_2_1 : List UInt8 := [160, 0, 22, 21, 4, 154, 0, 11, 44, 45, 184, 2, 74, 167, 0, 8, 44, 45, 184, 2, 78, 172, 21, 4]
abbrev dktJ6_compareTo_2_1 : List UInt8 := dkwJ6_compareTo_2_1 ++ dktJ6_compareTo_2_2
def dkwJ6_compareTo_2_0 : List UInt8 := [42, 180, 0, 9, 77, 43, 180, 0, 9, 78, 42, 182, 1, 79, 54, 4, 21, 4, 43, 182, 1, 79]
abbrev dktJ6_compareTo_2_0 : List UInt8 := dkwJ6_compareTo_2_0 ++ dktJ6_compareTo_2_1
theorem dksJ6_compareTo_2_0 : cJ6_compareTo_2.data.toList.drop 0 = dktJ6_compareTo_2_0 := by decide +kernel
theorem dksJ6_compareTo_2_1 : cJ6_compareTo_2.data.toList.drop 22 = dktJ6_compareTo_2_1 := dk_seg dksJ6_compareTo_2_0 22 rfl rfl
theorem dksJ6_compareTo_2_2 : cJ6_compareTo_2.data.toList.drop 46 = dktJ6_compareTo_2_2 := dk_seg dksJ6_compareTo_2_1 24 rfl rfl
theorem dJ6_compareTo_2_0 : decode cJ6_compareTo_2 0 = .ok (.aload_n 0, 1) := dk_42 (dk_at dksJ6_compareTo_2_0 0 rfl rfl)
theorem dJ6_compareTo_2_1 : decode cJ6_compareTo_2 1 = .ok (.getfield 9, 3) := dk_180 0 9 (dk_at dksJ6_compareTo_2_0 1 rfl rfl)
theorem dJ6_compareTo_2_4 : decode cJ6_compareTo_2 4 = .ok (.astore_n 2, 1) := dk_77 (dk_at dksJ6_compareTo_2_0 4 rfl rfl)
theorem dJ6_compareTo_2_5 : decode cJ6_compareTo_2 5 = .ok (.aload_n 1, 1) := dk_43 (dk_at dksJ6_compareTo_2_0 5 rfl rfl)
theorem dJ6_compareTo_2_6 : decode cJ6_compareTo_2 6 = .ok (.getfield 9, 3) := dk_180 0 9 (dk_at dksJ6_compareTo_2_0 6 rfl rfl)
theorem dJ6_compareTo_2_9 : decode cJ6_compareTo_2 9 = .ok (.astore_n 3, 1) := dk_78 (dk_at dksJ6_compareTo_2_0 9 rfl rfl)
theorem dJ6_compareTo_2_10 : decode cJ6_compareTo_2 10 = .ok (.aload_n 0, 1) := dk_42 (dk_at dksJ6_compareTo_2_0 10 rfl rfl)
theorem dJ6_compareTo_2_11 : decode cJ6_compareTo_2 11 = .ok (.invokevirtual 335, 3) := dk_182 1 79 (dk_at dksJ6_compareTo_2_0 11 rfl rfl)
theorem dJ6_compareTo_2_14 : decode cJ6_compareTo_2 14 = .ok (.istore 4, 2) := dk_54 4 (dk_at dksJ6_compareTo_2_0 14 rfl rfl)
theorem dJ6_compareTo_2_16 : decode cJ6_compareTo_2 16 = .ok (.iload 4, 2) := dk_21 4 (dk_at dksJ6_compareTo_2_0 16 rfl rfl)
theorem dJ6_compareTo_2_18 : decode cJ6_compareTo_2 18 = .ok (.aload_n 1, 1) := dk_43 (dk_at dksJ6_compareTo_2_0 18 rfl rfl)
theorem dJ6_compareTo_2_19 : decode cJ6_compareTo_2 19 = .ok (.invokevirtual 335, 3) := dk_182 1 79 (dk_at dksJ6_compareTo_2_0 19 rfl rfl)
theorem dJ6_compareTo_2_22 : decode cJ6_compareTo_2 22 = .ok (.if_icmp .ne 22, 3) := dk_160 0 22 (dk_at dksJ6_compareTo_2_1 0 rfl rfl)
theorem dJ6_compareTo_2_25 : decode cJ6_compareTo_2 25 = .ok (.iload 4, 2) := dk_21 4 (dk_at dksJ6_compareTo_2_1 3 rfl rfl)
theorem dJ6_compareTo_2_27 : decode cJ6_compareTo_2 27 = .ok (.ifCond .ne 11, 3) := dk_154 0 11 (dk_at dksJ6_compareTo_2_1 5 rfl rfl)
theorem dJ6_compareTo_2_30 : decode cJ6_compareTo_2 30 = .ok (.aload_n 2, 1) := dk_44 (dk_at dksJ6_compareTo_2_1 8 rfl rfl)
theorem dJ6_compareTo_2_31 : decode cJ6_compareTo_2 31 = .ok (.aload_n 3, 1) := dk_45 (dk_at dksJ6_compareTo_2_1 9 rfl rfl)
theorem dJ6_compareTo_2_32 : decode cJ6_compareTo_2 32 = .ok (.invokestatic 586, 3) := dk_184 2 74 (dk_at dksJ6_compareTo_2_1 10 rfl rfl)
theorem dJ6_compareTo_2_35 : decode cJ6_compareTo_2 35 = .ok (.goto 8, 3) := dk_167 0 8 (dk_at dksJ6_compareTo_2_1 13 rfl rfl)
theorem dJ6_compareTo_2_38 : decode cJ6_compareTo_2 38 = .ok (.aload_n 2, 1) := dk_44 (dk_at dksJ6_compareTo_2_1 16 rfl rfl)
theorem dJ6_compareTo_2_39 : decode cJ6_compareTo_2 39 = .ok (.aload_n 3, 1) := dk_45 (dk_at dksJ6_compareTo_2_1 17 rfl rfl)
theorem dJ6_compareTo_2_40 : decode cJ6_compareTo_2 40 = .ok (.invokestatic 590, 3) := dk_184 2 78 (dk_at dksJ6_compareTo_2_1 18 rfl rfl)
theorem dJ6_compareTo_2_43 : decode cJ6_compareTo_2 43 = .ok (.ireturn, 1) := dk_172 (dk_at dksJ6_compareTo_2_1 21 rfl rfl)
theorem dJ6_compareTo_2_44 : decode cJ6_compareTo_2 44 = .ok (.iload 4, 2) := dk_21 4 (dk_at dksJ6_compareTo_2_1 22 rfl rfl)
theorem dJ6_compareTo_2_46 : decode cJ6_compareTo_2 46 = .ok (.ifCond .ne 11, 3) := dk_154 0 11 (dk_at dksJ6_compareTo_2_2 0 rfl rfl)
theorem dJ6_compareTo_2_49 : decode cJ6_compareTo_2 49 = .ok (.aload_n 2, 1) := dk_44 (dk_at dksJ6_compareTo_2_2 3 rfl rfl)
theorem dJ6_compareTo_2_50 : decode cJ6_compareTo_2 50 = .ok (.aload_n 3, 1) := dk_45 (dk_at dksJ6_compareTo_2_2 4 rfl rfl)
theorem dJ6_compareTo_2_51 : decode cJ6_compareTo_2 51 = .ok (.invokestatic 591, 3) := dk_184 2 79 (dk_at dksJ6_compareTo_2_2 5 rfl rfl)
theorem dJ6_compareTo_2_54 : decode cJ6_compareTo_2 54 = .ok (.goto 8, 3) := dk_167 0 8 (dk_at dksJ6_compareTo_2_2 8 rfl rfl)
theorem dJ6_compareTo_2_57 : decode cJ6_compareTo_2 57 = .ok (.aload_n 2, 1) := dk_44 (dk_at dksJ6_compareTo_2_2 11 rfl rfl)
theorem dJ6_compareTo_2_58 : decode cJ6_compareTo_2 58 = .ok (.aload_n 3, 1) := dk_45 (dk_at dksJ6_compareTo_2_2 12 rfl rfl)
theorem dJ6_compareTo_2_59 : decode cJ6_compareTo_2 59 = .ok (.invokestatic 594, 3) := dk_184 2 82 (dk_at dksJ6_compareTo_2_2 13 rfl rfl)
theorem dJ6_compareTo_2_62 : decode cJ6_compareTo_2 62 = .ok (.ireturn, 1) := dk_172 (dk_at dksJ6_compareTo_2_2 16 rfl rfl)
abbrev cJ6_checkOffset : ByteArray := prog_48_method_156_code
def yJ6_checkOffset : MethodName := ⟨RJ6, "checkOffset", "(II)V"⟩
def dkwJ6_checkOffset_0 : List UInt8 := [26, 27, 27, 178, 4, 29, 184, 4, 38, 87, 177]
abbrev dktJ6_checkOffset_0 : List UInt8 := dkwJ6_checkOffset_0 ++ []
theorem dksJ6_checkOffset_0 : cJ6_checkOffset.data.toList.drop 0 = dktJ6_checkOffset_0 := by decide +kernel
theorem dJ6_checkOffset_0 : decode cJ6_checkOffset 0 = .ok (.iload_n 0, 1) := dk_26 (dk_at dksJ6_checkOffset_0 0 rfl rfl)
theorem dJ6_checkOffset_1 : decode cJ6_checkOffset 1 = .ok (.iload_n 1, 1) := dk_27 (dk_at dksJ6_checkOffset_0 1 rfl rfl)
theorem dJ6_checkOffset_2 : decode cJ6_checkOffset 2 = .ok (.iload_n 1, 1) := dk_27 (dk_at dksJ6_checkOffset_0 2 rfl rfl)
theorem dJ6_checkOffset_3 : decode cJ6_checkOffset 3 = .ok (.getstatic 1053, 3) := dk_178 4 29 (dk_at dksJ6_checkOffset_0 3 rfl rfl)
theorem dJ6_checkOffset_6 : decode cJ6_checkOffset 6 = .ok (.invokestatic 1062, 3) := dk_184 4 38 (dk_at dksJ6_checkOffset_0 6 rfl rfl)
theorem dJ6_checkOffset_9 : decode cJ6_checkOffset 9 = .ok (.pop, 1) := dk_87 (dk_at dksJ6_checkOffset_0 9 rfl rfl)
theorem dJ6_checkOffset_10 : decode cJ6_checkOffset 10 = .ok (.return_, 1) := dk_177 (dk_at dksJ6_checkOffset_0 10 rfl rfl)
theorem q96 : (Jvm.Cond.initialized "java/lang/String") ∈ lw_all := lw_g (lw_at lw_m1 10 rfl) rfl
theorem q346 : (Jvm.Cond.laysStatic "java/lang/String" "COMPACT_STRINGS" "Z") ∈ lw_tbl := lw_at lw_m2 20 rfl
theorem q1670 : (Jvm.Cond.static ({ cls := "java/lang/String", name := "checkBoundsOffCount", desc := "(III)I" } : Jvm.MethodName)) ∈ lw_all := lw_g (lw_at lw_m7 144 rfl) rfl
theorem q1671 : (Jvm.Cond.code ({ cls := "java/lang/String", name := "checkBoundsOffCount", desc := "(III)I" } : Jvm.MethodName) prog_48_method_157_code (3 : Nat) (Option.some Jvm.ClassFile.FieldType.int)) ∈ lw_all := lw_g (lw_at lw_m7 145 rfl) rfl
theorem q1672 : (Jvm.Cond.fieldLink "java/lang/String" (1053 : Nat) "jdk/internal/util/Preconditions" "SIOOBE_FORMATTER" "Ljava/util/function/BiFunction;") ∈ lw_all := lw_g (lw_at lw_m7 146 rfl) rfl
theorem q1674 : (Jvm.Cond.methodLink "java/lang/String" (1065 : Nat) ({ cls := "jdk/internal/util/Preconditions", name := "checkFromIndexSize", desc := "(IIILjava/util/function/BiFunction;)I" } : Jvm.MethodName)) ∈ lw_all := lw_g (lw_at lw_m7 148 rfl) rfl
theorem q1693 : (Jvm.Cond.static ({ cls := "java/lang/String", name := "checkIndex", desc := "(II)V" } : Jvm.MethodName)) ∈ lw_all := lw_g (lw_at lw_m7 167 rfl) rfl
theorem q1694 : (Jvm.Cond.code ({ cls := "java/lang/String", name := "checkIndex", desc := "(II)V" } : Jvm.MethodName) prog_48_method_155_code (2 : Nat) (Option.none : Option Jvm.ClassFile.FieldType)) ∈ lw_all := lw_g (lw_at lw_m7 168 rfl) rfl
theorem q1695 : (Jvm.Cond.methodLink "java/lang/String" (1059 : Nat) ({ cls := "jdk/internal/util/Preconditions", name := "checkIndex", desc := "(IILjava/util/function/BiFunction;)I" } : Jvm.MethodName)) ∈ lw_all := lw_g (lw_at lw_m7 169 rfl) rfl
theorem q1796 : (Jvm.Cond.instanceMethod ({ cls := "java/lang/String", name := "length", desc := "()I" } : Jvm.MethodName)) ∈ lw_all := lw_g (lw_at lw_m8 30 rfl) rfl
theorem q1797 : (Jvm.Cond.selects "java/lang/String" ({ cls := "java/lang/String", name := "length", desc := "()I" } : Jvm.MethodName) ({ cls := "java/lang/String", name := "length", desc := "()I" } : Jvm.MethodName)) ∈ lw_all := lw_g (lw_at lw_m8 31 rfl) rfl
theorem q1798 : (Jvm.Cond.code ({ cls := "java/lang/String", name := "length", desc := "()I" } : Jvm.MethodName) prog_48_method_54_code (1 : Nat) (Option.some Jvm.ClassFile.FieldType.int)) ∈ lw_all := lw_g (lw_at lw_m8 32 rfl) rfl
theorem q1799 : (Jvm.Cond.methodLink "java/lang/String" (335 : Nat) ({ cls := "java/lang/String", name := "coder", desc := "()B" } : Jvm.MethodName)) ∈ lw_all := lw_g (lw_at lw_m8 33 rfl) rfl
theorem q1800 : (Jvm.Cond.instanceMethod ({ cls := "java/lang/String", name := "coder", desc := "()B" } : Jvm.MethodName)) ∈ lw_all := lw_g (lw_at lw_m8 34 rfl) rfl
theorem q1801 : (Jvm.Cond.selects "java/lang/String" ({ cls := "java/lang/String", name := "coder", desc := "()B" } : Jvm.MethodName) ({ cls := "java/lang/String", name := "coder", desc := "()B" } : Jvm.MethodName)) ∈ lw_all := lw_g (lw_at lw_m8 35 rfl) rfl
theorem q1802 : (Jvm.Cond.code ({ cls := "java/lang/String", name := "coder", desc := "()B" } : Jvm.MethodName) prog_48_method_152_code (1 : Nat) (Option.some Jvm.ClassFile.FieldType.byte)) ∈ lw_all := lw_g (lw_at lw_m8 36 rfl) rfl
theorem q1803 : (Jvm.Cond.fieldLink "java/lang/String" (38 : Nat) "java/lang/String" "COMPACT_STRINGS" "Z") ∈ lw_all := lw_g (lw_at lw_m8 37 rfl) rfl
theorem q1805 : (Jvm.Cond.instanceMethod ({ cls := "java/lang/String", name := "charAt", desc := "(I)C" } : Jvm.MethodName)) ∈ lw_all := lw_g (lw_at lw_m8 39 rfl) rfl
theorem q1806 : (Jvm.Cond.selects "java/lang/String" ({ cls := "java/lang/String", name := "charAt", desc := "(I)C" } : Jvm.MethodName) ({ cls := "java/lang/String", name := "charAt", desc := "(I)C" } : Jvm.MethodName)) ∈ lw_all := lw_g (lw_at lw_m8 40 rfl) rfl
theorem q1807 : (Jvm.Cond.code ({ cls := "java/lang/String", name := "charAt", desc := "(I)C" } : Jvm.MethodName) prog_48_method_56_code (2 : Nat) (Option.some Jvm.ClassFile.FieldType.char)) ∈ lw_all := lw_g (lw_at lw_m8 41 rfl) rfl
theorem q1808 : (Jvm.Cond.methodLink "java/lang/String" (492 : Nat) ({ cls := "java/lang/String", name := "isLatin1", desc := "()Z" } : Jvm.MethodName)) ∈ lw_all := lw_g (lw_at lw_m8 42 rfl) rfl
theorem q1809 : (Jvm.Cond.instanceMethod ({ cls := "java/lang/String", name := "isLatin1", desc := "()Z" } : Jvm.MethodName)) ∈ lw_all := lw_g (lw_at lw_m8 43 rfl) rfl
theorem q1810 : (Jvm.Cond.selects "java/lang/String" ({ cls := "java/lang/String", name := "isLatin1", desc := "()Z" } : Jvm.MethodName) ({ cls := "java/lang/String", name := "isLatin1", desc := "()Z" } : Jvm.MethodName)) ∈ lw_all := lw_g (lw_at lw_m8 44 rfl) rfl
theorem q1811 : (Jvm.Cond.code ({ cls := "java/lang/String", name := "isLatin1", desc := "()Z" } : Jvm.MethodName) prog_48_method_154_code (1 : Nat) (Option.some Jvm.ClassFile.FieldType.boolean)) ∈ lw_all := lw_g (lw_at lw_m8 45 rfl) rfl
theorem q1812 : (Jvm.Cond.methodLink "java/lang/String" (495 : Nat) ({ cls := "java/lang/StringLatin1", name := "charAt", desc := "([BI)C" } : Jvm.MethodName)) ∈ lw_all := lw_g (lw_at lw_m8 46 rfl) rfl
theorem q1816 : (Jvm.Cond.methodLink "java/lang/String" (498 : Nat) ({ cls := "java/lang/StringUTF16", name := "charAt", desc := "([BI)C" } : Jvm.MethodName)) ∈ lw_all := lw_g (lw_at lw_m8 50 rfl) rfl
theorem q1886 : (Jvm.Cond.instanceMethod ({ cls := "java/lang/String", name := "equals", desc := "(Ljava/lang/Object;)Z" } : Jvm.MethodName)) ∈ lw_all := lw_g (lw_at lw_m8 120 rfl) rfl
theorem q1887 : (Jvm.Cond.selects "java/lang/String" ({ cls := "java/lang/String", name := "equals", desc := "(Ljava/lang/Object;)Z" } : Jvm.MethodName) ({ cls := "java/lang/String", name := "equals", desc := "(Ljava/lang/Object;)Z" } : Jvm.MethodName)) ∈ lw_all := lw_g (lw_at lw_m8 121 rfl) rfl
theorem q1888 : (Jvm.Cond.code ({ cls := "java/lang/String", name := "equals", desc := "(Ljava/lang/Object;)Z" } : Jvm.MethodName) prog_48_method_66_code (3 : Nat) (Option.some Jvm.ClassFile.FieldType.boolean)) ∈ lw_all := lw_g (lw_at lw_m8 122 rfl) rfl
theorem q1889 : (Jvm.Cond.classLink "java/lang/String" (10 : Nat) "java/lang/String") ∈ lw_all := lw_g (lw_at lw_m8 123 rfl) rfl
theorem q1890 : (Jvm.Cond.methodLink "java/lang/String" (541 : Nat) ({ cls := "java/lang/StringLatin1", name := "equals", desc := "([B[B)Z" } : Jvm.MethodName)) ∈ lw_all := lw_g (lw_at lw_m8 124 rfl) rfl
theorem q1914 : (Jvm.Cond.instanceMethod ({ cls := "java/lang/String", name := "hashCode", desc := "()I" } : Jvm.MethodName)) ∈ lw_all := lw_g (lw_at lw_m8 148 rfl) rfl
theorem q1915 : (Jvm.Cond.selects "java/lang/String" ({ cls := "java/lang/String", name := "hashCode", desc := "()I" } : Jvm.MethodName) ({ cls := "java/lang/String", name := "hashCode", desc := "()I" } : Jvm.MethodName)) ∈ lw_all := lw_g (lw_at lw_m8 149 rfl) rfl
theorem q1916 : (Jvm.Cond.code ({ cls := "java/lang/String", name := "hashCode", desc := "()I" } : Jvm.MethodName) prog_48_method_78_code (2 : Nat) (Option.some Jvm.ClassFile.FieldType.int)) ∈ lw_all := lw_g (lw_at lw_m8 150 rfl) rfl
theorem q1917 : (Jvm.Cond.methodLink "java/lang/String" (628 : Nat) ({ cls := "java/lang/StringLatin1", name := "hashCode", desc := "([B)I" } : Jvm.MethodName)) ∈ lw_all := lw_g (lw_at lw_m8 151 rfl) rfl
theorem q1958 : (Jvm.Cond.methodLink "java/lang/String" (632 : Nat) ({ cls := "java/lang/StringUTF16", name := "hashCode", desc := "([B)I" } : Jvm.MethodName)) ∈ lw_all := lw_g (lw_at lw_m8 192 rfl) rfl
theorem q2246 : (Jvm.Cond.castable "java/lang/String" "java/lang/Comparable") ∈ lw_tbl := lw_at lw_m10 0 rfl
theorem q2247 : (Jvm.Cond.selects "java/lang/String" ({ cls := "java/lang/Comparable", name := "compareTo", desc := "(Ljava/lang/Object;)I" } : Jvm.MethodName) ({ cls := "java/lang/String", name := "compareTo", desc := "(Ljava/lang/Object;)I" } : Jvm.MethodName)) ∈ lw_all := lw_g (lw_at lw_m10 1 rfl) rfl
theorem q2248 : (Jvm.Cond.unhidden "java/lang/String" "compareTo" "(Ljava/lang/Object;)I") ∈ lw_tbl := lw_at lw_m10 2 rfl
theorem q2249 : (Jvm.Cond.instanceMethod ({ cls := "java/lang/String", name := "compareTo", desc := "(Ljava/lang/Object;)I" } : Jvm.MethodName)) ∈ lw_all := lw_g (lw_at lw_m10 3 rfl) rfl
theorem q2250 : (Jvm.Cond.publicMethod ({ cls := "java/lang/String", name := "compareTo", desc := "(Ljava/lang/Object;)I" } : Jvm.MethodName)) ∈ lw_tbl := lw_at lw_m10 4 rfl
theorem q2251 : (Jvm.Cond.code ({ cls := "java/lang/String", name := "compareTo", desc := "(Ljava/lang/Object;)I" } : Jvm.MethodName) prog_48_method_162_code (2 : Nat) (Option.some Jvm.ClassFile.FieldType.int)) ∈ lw_all := lw_g (lw_at lw_m10 5 rfl) rfl
theorem q2252 : (Jvm.Cond.methodLink "java/lang/String" (1084 : Nat) ({ cls := "java/lang/String", name := "compareTo", desc := "(Ljava/lang/String;)I" } : Jvm.MethodName)) ∈ lw_all := lw_g (lw_at lw_m10 6 rfl) rfl
theorem q2253 : (Jvm.Cond.instanceMethod ({ cls := "java/lang/String", name := "compareTo", desc := "(Ljava/lang/String;)I" } : Jvm.MethodName)) ∈ lw_all := lw_g (lw_at lw_m10 7 rfl) rfl
theorem q2254 : (Jvm.Cond.selects "java/lang/String" ({ cls := "java/lang/String", name := "compareTo", desc := "(Ljava/lang/String;)I" } : Jvm.MethodName) ({ cls := "java/lang/String", name := "compareTo", desc := "(Ljava/lang/String;)I" } : Jvm.MethodName)) ∈ lw_all := lw_g (lw_at lw_m10 8 rfl) rfl
theorem q2255 : (Jvm.Cond.code ({ cls := "java/lang/String", name := "compareTo", desc := "(Ljava/lang/String;)I" } : Jvm.MethodName) prog_48_method_71_code (5 : Nat) (Option.some Jvm.ClassFile.FieldType.int)) ∈ lw_all := lw_g (lw_at lw_m10 9 rfl) rfl
theorem q2256 : (Jvm.Cond.methodLink "java/lang/String" (586 : Nat) ({ cls := "java/lang/StringLatin1", name := "compareTo", desc := "([B[B)I" } : Jvm.MethodName)) ∈ lw_all := lw_g (lw_at lw_m10 10 rfl) rfl
theorem q2370 : (Jvm.Cond.methodLink "java/lang/String" (590 : Nat) ({ cls := "java/lang/StringUTF16", name := "compareTo", desc := "([B[B)I" } : Jvm.MethodName)) ∈ lw_all := lw_g (lw_at lw_m10 124 rfl) rfl
theorem q2377 : (Jvm.Cond.methodLink "java/lang/String" (591 : Nat) ({ cls := "java/lang/StringLatin1", name := "compareToUTF16", desc := "([B[B)I" } : Jvm.MethodName)) ∈ lw_all := lw_g (lw_at lw_m10 131 rfl) rfl
theorem q2388 : (Jvm.Cond.methodLink "java/lang/String" (594 : Nat) ({ cls := "java/lang/StringUTF16", name := "compareToLatin1", desc := "([B[B)I" } : Jvm.MethodName)) ∈ lw_all := lw_g (lw_at lw_m10 142 rfl) rfl
theorem q2414 : (Jvm.Cond.static ({ cls := "java/lang/String", name := "checkOffset", desc := "(II)V" } : Jvm.MethodName)) ∈ lw_all := lw_g (lw_at lw_m10 168 rfl) rfl
theorem q2415 : (Jvm.Cond.code ({ cls := "java/lang/String", name := "checkOffset", desc := "(II)V" } : Jvm.MethodName) prog_48_method_156_code (2 : Nat) (Option.none : Option Jvm.ClassFile.FieldType)) ∈ lw_all := lw_g (lw_at lw_m10 169 rfl) rfl
theorem q2416 : (Jvm.Cond.methodLink "java/lang/String" (1062 : Nat) ({ cls := "jdk/internal/util/Preconditions", name := "checkFromToIndex", desc := "(IIILjava/util/function/BiFunction;)I" } : Jvm.MethodName)) ∈ lw_all := lw_g (lw_at lw_m10 170 rfl) rfl
theorem q3331 : (Jvm.Cond.castable "java/lang/String" "java/lang/Object") ∈ lw_tbl := lw_at lw_m14 125 rfl
theorem q3390 : (Jvm.Cond.fieldLink "java/lang/String" (9 : Nat) "java/lang/String" "value" "[B") ∈ lw_all := lw_g (lw_at lw_m14 184 rfl) rfl
theorem q3391 : (Jvm.Cond.fieldLink "java/lang/String" (15 : Nat) "java/lang/String" "coder" "B") ∈ lw_all := lw_g (lw_at lw_m14 185 rfl) rfl
theorem q3392 : (Jvm.Cond.fieldLink "java/lang/String" (19 : Nat) "java/lang/String" "hash" "I") ∈ lw_all := lw_g (lw_at lw_m14 186 rfl) rfl
theorem q3393 : (Jvm.Cond.fieldLink "java/lang/String" (23 : Nat) "java/lang/String" "hashIsZero" "Z") ∈ lw_all := lw_g (lw_at lw_m14 187 rfl) rfl

end
section
/-! java/lang/StringUTF16 -/
set_option maxRecDepth 100000
def RJ7 : String := "java/lang/StringUTF16"
abbrev cJ7_newBytesFor : ByteArray := prog_51_method_2_code
def yJ7_newBytesFor : MethodName := ⟨RJ7, "newBytesFor", "(I)[B"⟩
def dkwJ7_newBytesFor_0 : List UInt8 := [26, 184, 0, 11, 188, 8, 176]
abbrev dktJ7_newBytesFor_0 : List UInt8 := dkwJ7_newBytesFor_0 ++ []
theorem dksJ7_newBytesFor_0 : cJ7_newBytesFor.data.toList.drop 0 = dktJ7_newBytesFor_0 := by decide +kernel
theorem dJ7_newBytesFor_0 : decode cJ7_newBytesFor 0 = .ok (.iload_n 0, 1) := dk_26 (dk_at dksJ7_newBytesFor_0 0 rfl rfl)
theorem dJ7_newBytesFor_1 : decode cJ7_newBytesFor 1 = .ok (.invokestatic 11, 3) := dk_184 0 11 (dk_at dksJ7_newBytesFor_0 1 rfl rfl)
theorem dJ7_newBytesFor_4 : decode cJ7_newBytesFor 4 = .ok (.newarray .byte, 2) := dk_188_8 (dk_at dksJ7_newBytesFor_0 4 rfl rfl)
theorem dJ7_newBytesFor_6 : decode cJ7_newBytesFor 6 = .ok (.areturn, 1) := dk_176 (dk_at dksJ7_newBytesFor_0 6 rfl rfl)
abbrev cJ7_newBytesLength : ByteArray := prog_51_method_3_code
def yJ7_newBytesLength : MethodName := ⟨RJ7, "newBytesLength", "(I)I"⟩
def dkwJ7_newBytesLength_2 : List UInt8 := [182, 0, 32, 182, 0, 37, 183, 0, 41, 191, 26, 4, 120, 172]
abbrev dktJ7_newBytesLength_2 : List UInt8 := dkwJ7_newBytesLength_2 ++ []
def dkwJ7_newBytesLength_1 : List UInt8 := [187, 0, 23, 89, 183, 0, 25, 18, 26, 182, 0, 28, 26, 182, 0, 32, 18, 35, 182, 0, 28, 18, 20]
abbrev dktJ7_newBytesLength_1 : List UInt8 := dkwJ7_newBytesLength_1 ++ dktJ7_newBytesLength_2
def dkwJ7_newBytesLength_0 : List UInt8 := [26, 156, 0, 11, 187, 0, 17, 89, 183, 0, 19, 191, 26, 18, 20, 161, 0, 40, 187, 0, 21, 89]
abbrev dktJ7_newBytesLength_0 : List UInt8 := dkwJ7_newBytesLength_0 ++ dktJ7_newBytesLength_1
theorem dksJ7_newBytesLength_0 : cJ7_newBytesLength.data.toList.drop 0 = dktJ7_newBytesLength_0 := by decide +kernel
theorem dksJ7_newBytesLength_1 : cJ7_newBytesLength.data.toList.drop 22 = dktJ7_newBytesLength_1 := dk_seg dksJ7_newBytesLength_0 22 rfl rfl
theorem dksJ7_newBytesLength_2 : cJ7_newBytesLength.data.toList.drop 45 = dktJ7_newBytesLength_2 := dk_seg dksJ7_newBytesLength_1 23 rfl rfl
theorem dJ7_newBytesLength_0 : decode cJ7_newBytesLength 0 = .ok (.iload_n 0, 1) := dk_26 (dk_at dksJ7_newBytesLength_0 0 rfl rfl)
theorem dJ7_newBytesLength_1 : decode cJ7_newBytesLength 1 = .ok (.ifCond .ge 11, 3) := dk_156 0 11 (dk_at dksJ7_newBytesLength_0 1 rfl rfl)
theorem dJ7_newBytesLength_4 : decode cJ7_newBytesLength 4 = .ok (.new 17, 3) := dk_187 0 17 (dk_at dksJ7_newBytesLength_0 4 rfl rfl)
theorem dJ7_newBytesLength_7 : decode cJ7_newBytesLength 7 = .ok (.dup, 1) := dk_89 (dk_at dksJ7_newBytesLength_0 7 rfl rfl)
theorem dJ7_newBytesLength_8 : decode cJ7_newBytesLength 8 = .ok (.invokespecial 19, 3) := dk_183 0 19 (dk_at dksJ7_newBytesLength_0 8 rfl rfl)
theorem dJ7_newBytesLength_11 : decode cJ7_newBytesLength 11 = .ok (.athrow, 1) := dk_191 (dk_at dksJ7_newBytesLength_0 11 rfl rfl)
theorem dJ7_newBytesLength_12 : decode cJ7_newBytesLength 12 = .ok (.iload_n 0, 1) := dk_26 (dk_at dksJ7_newBytesLength_0 12 rfl rfl)
theorem dJ7_newBytesLength_13 : decode cJ7_newBytesLength 13 = .ok (.ldc 20, 2) := dk_18 20 (dk_at dksJ7_newBytesLength_0 13 rfl rfl)
theorem dJ7_newBytesLength_15 : decode cJ7_newBytesLength 15 = .ok (.if_icmp .lt 40, 3) := dk_161 0 40 (dk_at dksJ7_newBytesLength_0 15 rfl rfl)
theorem dJ7_newBytesLength_18 : decode cJ7_newBytesLength 18 = .ok (.new 21, 3) := dk_187 0 21 (dk_at dksJ7_newBytesLength_0 18 rfl rfl)
theorem dJ7_newBytesLength_21 : decode cJ7_newBytesLength 21 = .ok (.dup, 1) := dk_89 (dk_at dksJ7_newBytesLength_0 21 rfl rfl)
theorem dJ7_newBytesLength_22 : decode cJ7_newBytesLength 22 = .ok (.new 23, 3) := dk_187 0 23 (dk_at dksJ7_newBytesLength_1 0 rfl rfl)
theorem dJ7_newBytesLength_25 : decode cJ7_newBytesLength 25 = .ok (.dup, 1) := dk_89 (dk_at dksJ7_newBytesLength_1 3 rfl rfl)
theorem dJ7_newBytesLength_26 : decode cJ7_newBytesLength 26 = .ok (.invokespecial 25, 3) := dk_183 0 25 (dk_at dksJ7_newBytesLength_1 4 rfl rfl)
theorem dJ7_newBytesLength_29 : decode cJ7_newBytesLength 29 = .ok (.ldc 26, 2) := dk_18 26 (dk_at dksJ7_newBytesLength_1 7 rfl rfl)
theorem dJ7_newBytesLength_31 : decode cJ7_newBytesLength 31 = .ok (.invokevirtual 28, 3) := dk_182 0 28 (dk_at dksJ7_newBytesLength_1 9 rfl rfl)
theorem dJ7_newBytesLength_34 : decode cJ7_newBytesLength 34 = .ok (.iload_n 0, 1) := dk_26 (dk_at dksJ7_newBytesLength_1 12 rfl rfl)
theorem dJ7_newBytesLength_35 : decode cJ7_newBytesLength 35 = .ok (.invokevirtual 32, 3) := dk_182 0 32 (dk_at dksJ7_newBytesLength_1 13 rfl rfl)
theorem dJ7_newBytesLength_38 : decode cJ7_newBytesLength 38 = .ok (.ldc 35, 2) := dk_18 35 (dk_at dksJ7_newBytesLength_1 16 rfl rfl)
theorem dJ7_newBytesLength_40 : decode cJ7_newBytesLength 40 = .ok (.invokevirtual 28, 3) := dk_182 0 28 (dk_at dksJ7_newBytesLength_1 18 rfl rfl)
theorem dJ7_newBytesLength_43 : decode cJ7_newBytesLength 43 = .ok (.ldc 20, 2) := dk_18 20 (dk_at dksJ7_newBytesLength_1 21 rfl rfl)
theorem dJ7_newBytesLength_45 : decode cJ7_newBytesLength 45 = .ok (.invokevirtual 32, 3) := dk_182 0 32 (dk_at dksJ7_newBytesLength_2 0 rfl rfl)
theorem dJ7_newBytesLength_48 : decode cJ7_newBytesLength 48 = .ok (.invokevirtual 37, 3) := dk_182 0 37 (dk_at dksJ7_newBytesLength_2 3 rfl rfl)
theorem dJ7_newBytesLength_51 : decode cJ7_newBytesLength 51 = .ok (.invokespecial 41, 3) := dk_183 0 41 (dk_at dksJ7_newBytesLength_2 6 rfl rfl)
theorem dJ7_newBytesLength_54 : decode cJ7_newBytesLength 54 = .ok (.athrow, 1) := dk_191 (dk_at dksJ7_newBytesLength_2 9 rfl rfl)
theorem dJ7_newBytesLength_55 : decode cJ7_newBytesLength 55 = .ok (.iload_n 0, 1) := dk_26 (dk_at dksJ7_newBytesLength_2 10 rfl rfl)
theorem dJ7_newBytesLength_56 : decode cJ7_newBytesLength 56 = .ok (.iconst 1, 1) := dk_4 (dk_at dksJ7_newBytesLength_2 11 rfl rfl)
theorem dJ7_newBytesLength_57 : decode cJ7_newBytesLength 57 = .ok (.ishl, 1) := dk_120 (dk_at dksJ7_newBytesLength_2 12 rfl rfl)
theorem dJ7_newBytesLength_58 : decode cJ7_newBytesLength 58 = .ok (.ireturn, 1) := dk_172 (dk_at dksJ7_newBytesLength_2 13 rfl rfl)
abbrev cJ7_inflate : ByteArray := prog_51_method_86_code
def yJ7_inflate : MethodName := ⟨RJ7, "inflate", "([BI[BII)V"⟩
def dkwJ7_inflate_1 : List UInt8 := [132, 1, 1, 51, 17, 0, 255, 126, 184, 0, 111, 132, 5, 1, 167, 255, 228, 177]
abbrev dktJ7_inflate_1 : List UInt8 := dkwJ7_inflate_1 ++ []
def dkwJ7_inflate_0 : List UInt8 := [29, 21, 4, 44, 184, 0, 173, 3, 54, 5, 21, 5, 21, 4, 162, 0, 27, 44, 29, 132, 3, 1, 42, 27]
abbrev dktJ7_inflate_0 : List UInt8 := dkwJ7_inflate_0 ++ dktJ7_inflate_1
theorem dksJ7_inflate_0 : cJ7_inflate.data.toList.drop 0 = dktJ7_inflate_0 := by decide +kernel
theorem dksJ7_inflate_1 : cJ7_inflate.data.toList.drop 24 = dktJ7_inflate_1 := dk_seg dksJ7_inflate_0 24 rfl rfl
theorem dJ7_inflate_0 : decode cJ7_inflate 0 = .ok (.iload_n 3, 1) := dk_29 (dk_at dksJ7_inflate_0 0 rfl rfl)
theorem dJ7_inflate_1 : decode cJ7_inflate 1 = .ok (.iload 4, 2) := dk_21 4 (dk_at dksJ7_inflate_0 1 rfl rfl)
theorem dJ7_inflate_3 : decode cJ7_inflate 3 = .ok (.aload_n 2, 1) := dk_44 (dk_at dksJ7_inflate_0 3 rfl rfl)
theorem dJ7_inflate_4 : decode cJ7_inflate 4 = .ok (.invokestatic 173, 3) := dk_184 0 173 (dk_at dksJ7_inflate_0 4 rfl rfl)
theorem dJ7_inflate_7 : decode cJ7_inflate 7 = .ok (.iconst 0, 1) := dk_3 (dk_at dksJ7_inflate_0 7 rfl rfl)
theorem dJ7_inflate_8 : decode cJ7_inflate 8 = .ok (.istore 5, 2) := dk_54 5 (dk_at dksJ7_inflate_0 8 rfl rfl)
theorem dJ7_inflate_10 : decode cJ7_inflate 10 = .ok (.iload 5, 2) := dk_21 5 (dk_at dksJ7_inflate_0 10 rfl rfl)
theorem dJ7_inflate_12 : decode cJ7_inflate 12 = .ok (.iload 4, 2) := dk_21 4 (dk_at dksJ7_inflate_0 12 rfl rfl)
theorem dJ7_inflate_14 : decode cJ7_inflate 14 = .ok (.if_icmp .ge 27, 3) := dk_162 0 27 (dk_at dksJ7_inflate_0 14 rfl rfl)
theorem dJ7_inflate_17 : decode cJ7_inflate 17 = .ok (.aload_n 2, 1) := dk_44 (dk_at dksJ7_inflate_0 17 rfl rfl)
theorem dJ7_inflate_18 : decode cJ7_inflate 18 = .ok (.iload_n 3, 1) := dk_29 (dk_at dksJ7_inflate_0 18 rfl rfl)
theorem dJ7_inflate_19 : decode cJ7_inflate 19 = .ok (.iinc 3 1, 3) := dk_132 3 1 (dk_at dksJ7_inflate_0 19 rfl rfl)
theorem dJ7_inflate_22 : decode cJ7_inflate 22 = .ok (.aload_n 0, 1) := dk_42 (dk_at dksJ7_inflate_0 22 rfl rfl)
theorem dJ7_inflate_23 : decode cJ7_inflate 23 = .ok (.iload_n 1, 1) := dk_27 (dk_at dksJ7_inflate_0 23 rfl rfl)
theorem dJ7_inflate_24 : decode cJ7_inflate 24 = .ok (.iinc 1 1, 3) := dk_132 1 1 (dk_at dksJ7_inflate_1 0 rfl rfl)
theorem dJ7_inflate_27 : decode cJ7_inflate 27 = .ok (.baload, 1) := dk_51 (dk_at dksJ7_inflate_1 3 rfl rfl)
theorem dJ7_inflate_28 : decode cJ7_inflate 28 = .ok (.sipush 255, 3) := dk_17 0 255 (dk_at dksJ7_inflate_1 4 rfl rfl)
theorem dJ7_inflate_31 : decode cJ7_inflate 31 = .ok (.iand, 1) := dk_126 (dk_at dksJ7_inflate_1 7 rfl rfl)
theorem dJ7_inflate_32 : decode cJ7_inflate 32 = .ok (.invokestatic 111, 3) := dk_184 0 111 (dk_at dksJ7_inflate_1 8 rfl rfl)
theorem dJ7_inflate_35 : decode cJ7_inflate 35 = .ok (.iinc 5 1, 3) := dk_132 5 1 (dk_at dksJ7_inflate_1 11 rfl rfl)
theorem dJ7_inflate_38 : decode cJ7_inflate 38 = .ok (.goto (-28), 3) := dk_167 255 228 (dk_at dksJ7_inflate_1 14 rfl rfl)
theorem dJ7_inflate_41 : decode cJ7_inflate 41 = .ok (.return_, 1) := dk_177 (dk_at dksJ7_inflate_1 17 rfl rfl)
abbrev cJ7_checkBoundsOffCount : ByteArray := prog_51_method_94_code
def yJ7_checkBoundsOffCount : MethodName := ⟨RJ7, "checkBoundsOffCount", "(II[B)V"⟩
def dkwJ7_checkBoundsOffCount_0 : List UInt8 := [26, 27, 44, 184, 0, 48, 184, 1, 163, 87, 177]
abbrev dktJ7_checkBoundsOffCount_0 : List UInt8 := dkwJ7_checkBoundsOffCount_0 ++ []
theorem dksJ7_checkBoundsOffCount_0 : cJ7_checkBoundsOffCount.data.toList.drop 0 = dktJ7_checkBoundsOffCount_0 := by decide +kernel
theorem dJ7_checkBoundsOffCount_0 : decode cJ7_checkBoundsOffCount 0 = .ok (.iload_n 0, 1) := dk_26 (dk_at dksJ7_checkBoundsOffCount_0 0 rfl rfl)
theorem dJ7_checkBoundsOffCount_1 : decode cJ7_checkBoundsOffCount 1 = .ok (.iload_n 1, 1) := dk_27 (dk_at dksJ7_checkBoundsOffCount_0 1 rfl rfl)
theorem dJ7_checkBoundsOffCount_2 : decode cJ7_checkBoundsOffCount 2 = .ok (.aload_n 2, 1) := dk_44 (dk_at dksJ7_checkBoundsOffCount_0 2 rfl rfl)
theorem dJ7_checkBoundsOffCount_3 : decode cJ7_checkBoundsOffCount 3 = .ok (.invokestatic 48, 3) := dk_184 0 48 (dk_at dksJ7_checkBoundsOffCount_0 3 rfl rfl)
theorem dJ7_checkBoundsOffCount_6 : decode cJ7_checkBoundsOffCount 6 = .ok (.invokestatic 419, 3) := dk_184 1 163 (dk_at dksJ7_checkBoundsOffCount_0 6 rfl rfl)
theorem dJ7_checkBoundsOffCount_9 : decode cJ7_checkBoundsOffCount 9 = .ok (.pop, 1) := dk_87 (dk_at dksJ7_checkBoundsOffCount_0 9 rfl rfl)
theorem dJ7_checkBoundsOffCount_10 : decode cJ7_checkBoundsOffCount 10 = .ok (.return_, 1) := dk_177 (dk_at dksJ7_checkBoundsOffCount_0 10 rfl rfl)
abbrev cJ7_length : ByteArray := prog_51_method_6_code
def yJ7_length : MethodName := ⟨RJ7, "length", "([B)I"⟩
def dkwJ7_length_0 : List UInt8 := [42, 190, 4, 122, 172]
abbrev dktJ7_length_0 : List UInt8 := dkwJ7_length_0 ++ []
theorem dksJ7_length_0 : cJ7_length.data.toList.drop 0 = dktJ7_length_0 := by decide +kernel
theorem dJ7_length_0 : decode cJ7_length 0 = .ok (.aload_n 0, 1) := dk_42 (dk_at dksJ7_length_0 0 rfl rfl)
theorem dJ7_length_1 : decode cJ7_length 1 = .ok (.arraylength, 1) := dk_190 (dk_at dksJ7_length_0 1 rfl rfl)
theorem dJ7_length_2 : decode cJ7_length 2 = .ok (.iconst 1, 1) := dk_4 (dk_at dksJ7_length_0 2 rfl rfl)
theorem dJ7_length_3 : decode cJ7_length 3 = .ok (.ishr, 1) := dk_122 (dk_at dksJ7_length_0 3 rfl rfl)
theorem dJ7_length_4 : decode cJ7_length 4 = .ok (.ireturn, 1) := dk_172 (dk_at dksJ7_length_0 4 rfl rfl)
abbrev cJ7_putChar : ByteArray := prog_51_method_4_code
def yJ7_putChar : MethodName := ⟨RJ7, "putChar", "([BII)V"⟩
def dkwJ7_putChar_2 : List UInt8 := [178, 0, 63, 122, 145, 84, 177]
abbrev dktJ7_putChar_2 : List UInt8 := dkwJ7_putChar_2 ++ []
def dkwJ7_putChar_1 : List UInt8 := [183, 0, 56, 191, 27, 4, 120, 60, 42, 27, 132, 1, 1, 28, 178, 0, 59, 122, 145, 84, 42, 27, 28]
abbrev dktJ7_putChar_1 : List UInt8 := dkwJ7_putChar_1 ++ dktJ7_putChar_2
def dkwJ7_putChar_0 : List UInt8 := [178, 0, 44, 154, 0, 25, 27, 155, 0, 11, 27, 42, 184, 0, 48, 161, 0, 13, 187, 0, 52, 89, 18, 54]
abbrev dktJ7_putChar_0 : List UInt8 := dkwJ7_putChar_0 ++ dktJ7_putChar_1
theorem dksJ7_putChar_0 : cJ7_putChar.data.toList.drop 0 = dktJ7_putChar_0 := by decide +kernel
theorem dksJ7_putChar_1 : cJ7_putChar.data.toList.drop 24 = dktJ7_putChar_1 := dk_seg dksJ7_putChar_0 24 rfl rfl
theorem dksJ7_putChar_2 : cJ7_putChar.data.toList.drop 47 = dktJ7_putChar_2 := dk_seg dksJ7_putChar_1 23 rfl rfl
theorem dJ7_putChar_0 : decode cJ7_putChar 0 = .ok (.getstatic 44, 3) := dk_178 0 44 (dk_at dksJ7_putChar_0 0 rfl rfl)
theorem dJ7_putChar_3 : decode cJ7_putChar 3 = .ok (.ifCond .ne 25, 3) := dk_154 0 25 (dk_at dksJ7_putChar_0 3 rfl rfl)
theorem dJ7_putChar_6 : decode cJ7_putChar 6 = .ok (.iload_n 1, 1) := dk_27 (dk_at dksJ7_putChar_0 6 rfl rfl)
theorem dJ7_putChar_7 : decode cJ7_putChar 7 = .ok (.ifCond .lt 11, 3) := dk_155 0 11 (dk_at dksJ7_putChar_0 7 rfl rfl)
theorem dJ7_putChar_10 : decode cJ7_putChar 10 = .ok (.iload_n 1, 1) := dk_27 (dk_at dksJ7_putChar_0 10 rfl rfl)
theorem dJ7_putChar_11 : decode cJ7_putChar 11 = .ok (.aload_n 0, 1) := dk_42 (dk_at dksJ7_putChar_0 11 rfl rfl)
theorem dJ7_putChar_12 : decode cJ7_putChar 12 = .ok (.invokestatic 48, 3) := dk_184 0 48 (dk_at dksJ7_putChar_0 12 rfl rfl)
theorem dJ7_putChar_15 : decode cJ7_putChar 15 = .ok (.if_icmp .lt 13, 3) := dk_161 0 13 (dk_at dksJ7_putChar_0 15 rfl rfl)
theorem dJ7_putChar_18 : decode cJ7_putChar 18 = .ok (.new 52, 3) := dk_187 0 52 (dk_at dksJ7_putChar_0 18 rfl rfl)
theorem dJ7_putChar_21 : decode cJ7_putChar 21 = .ok (.dup, 1) := dk_89 (dk_at dksJ7_putChar_0 21 rfl rfl)
theorem dJ7_putChar_22 : decode cJ7_putChar 22 = .ok (.ldc 54, 2) := dk_18 54 (dk_at dksJ7_putChar_0 22 rfl rfl)
theorem dJ7_putChar_24 : decode cJ7_putChar 24 = .ok (.invokespecial 56, 3) := dk_183 0 56 (dk_at dksJ7_putChar_1 0 rfl rfl)
theorem dJ7_putChar_27 : decode cJ7_putChar 27 = .ok (.athrow, 1) := dk_191 (dk_at dksJ7_putChar_1 3 rfl rfl)
theorem dJ7_putChar_28 : decode cJ7_putChar 28 = .ok (.iload_n 1, 1) := dk_27 (dk_at dksJ7_putChar_1 4 rfl rfl)
theorem dJ7_putChar_29 : decode cJ7_putChar 29 = .ok (.iconst 1, 1) := dk_4 (dk_at dksJ7_putChar_1 5 rfl rfl)
theorem dJ7_putChar_30 : decode cJ7_putChar 30 = .ok (.ishl, 1) := dk_120 (dk_at dksJ7_putChar_1 6 rfl rfl)
theorem dJ7_putChar_31 : decode cJ7_putChar 31 = .ok (.istore_n 1, 1) := dk_60 (dk_at dksJ7_putChar_1 7 rfl rfl)
theorem dJ7_putChar_32 : decode cJ7_putChar 32 = .ok (.aload_n 0, 1) := dk_42 (dk_at dksJ7_putChar_1 8 rfl rfl)
theorem dJ7_putChar_33 : decode cJ7_putChar 33 = .ok (.iload_n 1, 1) := dk_27 (dk_at dksJ7_putChar_1 9 rfl rfl)
theorem dJ7_putChar_34 : decode cJ7_putChar 34 = .ok (.iinc 1 1, 3) := dk_132 1 1 (dk_at dksJ7_putChar_1 10 rfl rfl)
theorem dJ7_putChar_37 : decode cJ7_putChar 37 = .ok (.iload_n 2, 1) := dk_28 (dk_at dksJ7_putChar_1 13 rfl rfl)
theorem dJ7_putChar_38 : decode cJ7_putChar 38 = .ok (.getstatic 59, 3) := dk_178 0 59 (dk_at dksJ7_putChar_1 14 rfl rfl)
theorem dJ7_putChar_41 : decode cJ7_putChar 41 = .ok (.ishr, 1) := dk_122 (dk_at dksJ7_putChar_1 17 rfl rfl)
theorem dJ7_putChar_42 : decode cJ7_putChar 42 = .ok (.i2b, 1) := dk_145 (dk_at dksJ7_putChar_1 18 rfl rfl)
theorem dJ7_putChar_43 : decode cJ7_putChar 43 = .ok (.bastore, 1) := dk_84 (dk_at dksJ7_putChar_1 19 rfl rfl)
theorem dJ7_putChar_44 : decode cJ7_putChar 44 = .ok (.aload_n 0, 1) := dk_42 (dk_at dksJ7_putChar_1 20 rfl rfl)
theorem dJ7_putChar_45 : decode cJ7_putChar 45 = .ok (.iload_n 1, 1) := dk_27 (dk_at dksJ7_putChar_1 21 rfl rfl)
theorem dJ7_putChar_46 : decode cJ7_putChar 46 = .ok (.iload_n 2, 1) := dk_28 (dk_at dksJ7_putChar_1 22 rfl rfl)
theorem dJ7_putChar_47 : decode cJ7_putChar 47 = .ok (.getstatic 63, 3) := dk_178 0 63 (dk_at dksJ7_putChar_2 0 rfl rfl)
theorem dJ7_putChar_50 : decode cJ7_putChar 50 = .ok (.ishr, 1) := dk_122 (dk_at dksJ7_putChar_2 3 rfl rfl)
theorem dJ7_putChar_51 : decode cJ7_putChar 51 = .ok (.i2b, 1) := dk_145 (dk_at dksJ7_putChar_2 4 rfl rfl)
theorem dJ7_putChar_52 : decode cJ7_putChar 52 = .ok (.bastore, 1) := dk_84 (dk_at dksJ7_putChar_2 5 rfl rfl)
theorem dJ7_putChar_53 : decode cJ7_putChar 53 = .ok (.return_, 1) := dk_177 (dk_at dksJ7_putChar_2 6 rfl rfl)
abbrev cJ7_putCharSB : ByteArray := prog_51_method_71_code
def yJ7_putCharSB : MethodName := ⟨RJ7, "putCharSB", "([BII)V"⟩
def dkwJ7_putCharSB_0 : List UInt8 := [27, 42, 184, 0, 67, 42, 27, 28, 184, 0, 111, 177]
abbrev dktJ7_putCharSB_0 : List UInt8 := dkwJ7_putCharSB_0 ++ []
theorem dksJ7_putCharSB_0 : cJ7_putCharSB.data.toList.drop 0 = dktJ7_putCharSB_0 := by decide +kernel
theorem dJ7_putCharSB_0 : decode cJ7_putCharSB 0 = .ok (.iload_n 1, 1) := dk_27 (dk_at dksJ7_putCharSB_0 0 rfl rfl)
theorem dJ7_putCharSB_1 : decode cJ7_putCharSB 1 = .ok (.aload_n 0, 1) := dk_42 (dk_at dksJ7_putCharSB_0 1 rfl rfl)
theorem dJ7_putCharSB_2 : decode cJ7_putCharSB 2 = .ok (.invokestatic 67, 3) := dk_184 0 67 (dk_at dksJ7_putCharSB_0 2 rfl rfl)
theorem dJ7_putCharSB_5 : decode cJ7_putCharSB 5 = .ok (.aload_n 0, 1) := dk_42 (dk_at dksJ7_putCharSB_0 5 rfl rfl)
theorem dJ7_putCharSB_6 : decode cJ7_putCharSB 6 = .ok (.iload_n 1, 1) := dk_27 (dk_at dksJ7_putCharSB_0 6 rfl rfl)
theorem dJ7_putCharSB_7 : decode cJ7_putCharSB 7 = .ok (.iload_n 2, 1) := dk_28 (dk_at dksJ7_putCharSB_0 7 rfl rfl)
theorem dJ7_putCharSB_8 : decode cJ7_putCharSB 8 = .ok (.invokestatic 111, 3) := dk_184 0 111 (dk_at dksJ7_putCharSB_0 8 rfl rfl)
theorem dJ7_putCharSB_11 : decode cJ7_putCharSB 11 = .ok (.return_, 1) := dk_177 (dk_at dksJ7_putCharSB_0 11 rfl rfl)
abbrev cJ7_checkIndex : ByteArray := prog_51_method_91_code
def yJ7_checkIndex : MethodName := ⟨RJ7, "checkIndex", "(I[B)V"⟩
def dkwJ7_checkIndex_0 : List UInt8 := [26, 43, 184, 0, 48, 184, 1, 158, 177]
abbrev dktJ7_checkIndex_0 : List UInt8 := dkwJ7_checkIndex_0 ++ []
theorem dksJ7_checkIndex_0 : cJ7_checkIndex.data.toList.drop 0 = dktJ7_checkIndex_0 := by decide +kernel
theorem dJ7_checkIndex_0 : decode cJ7_checkIndex 0 = .ok (.iload_n 0, 1) := dk_26 (dk_at dksJ7_checkIndex_0 0 rfl rfl)
theorem dJ7_checkIndex_1 : decode cJ7_checkIndex 1 = .ok (.aload_n 1, 1) := dk_43 (dk_at dksJ7_checkIndex_0 1 rfl rfl)
theorem dJ7_checkIndex_2 : decode cJ7_checkIndex 2 = .ok (.invokestatic 48, 3) := dk_184 0 48 (dk_at dksJ7_checkIndex_0 2 rfl rfl)
theorem dJ7_checkIndex_5 : decode cJ7_checkIndex 5 = .ok (.invokestatic 414, 3) := dk_184 1 158 (dk_at dksJ7_checkIndex_0 5 rfl rfl)
theorem dJ7_checkIndex_8 : decode cJ7_checkIndex 8 = .ok (.return_, 1) := dk_177 (dk_at dksJ7_checkIndex_0 8 rfl rfl)
abbrev cJ7_fillNull : ByteArray := prog_51_method_70_code
def yJ7_fillNull : MethodName := ⟨RJ7, "fillNull", "([BII)V"⟩
def dkwJ7_fillNull_0 : List UInt8 := [42, 27, 4, 120, 28, 4, 120, 3, 184, 1, 124, 177]
abbrev dktJ7_fillNull_0 : List UInt8 := dkwJ7_fillNull_0 ++ []
theorem dksJ7_fillNull_0 : cJ7_fillNull.data.toList.drop 0 = dktJ7_fillNull_0 := by decide +kernel
theorem dJ7_fillNull_0 : decode cJ7_fillNull 0 = .ok (.aload_n 0, 1) := dk_42 (dk_at dksJ7_fillNull_0 0 rfl rfl)
theorem dJ7_fillNull_1 : decode cJ7_fillNull 1 = .ok (.iload_n 1, 1) := dk_27 (dk_at dksJ7_fillNull_0 1 rfl rfl)
theorem dJ7_fillNull_2 : decode cJ7_fillNull 2 = .ok (.iconst 1, 1) := dk_4 (dk_at dksJ7_fillNull_0 2 rfl rfl)
theorem dJ7_fillNull_3 : decode cJ7_fillNull 3 = .ok (.ishl, 1) := dk_120 (dk_at dksJ7_fillNull_0 3 rfl rfl)
theorem dJ7_fillNull_4 : decode cJ7_fillNull 4 = .ok (.iload_n 2, 1) := dk_28 (dk_at dksJ7_fillNull_0 4 rfl rfl)
theorem dJ7_fillNull_5 : decode cJ7_fillNull 5 = .ok (.iconst 1, 1) := dk_4 (dk_at dksJ7_fillNull_0 5 rfl rfl)
theorem dJ7_fillNull_6 : decode cJ7_fillNull 6 = .ok (.ishl, 1) := dk_120 (dk_at dksJ7_fillNull_0 6 rfl rfl)
theorem dJ7_fillNull_7 : decode cJ7_fillNull 7 = .ok (.iconst 0, 1) := dk_3 (dk_at dksJ7_fillNull_0 7 rfl rfl)
theorem dJ7_fillNull_8 : decode cJ7_fillNull 8 = .ok (.invokestatic 380, 3) := dk_184 1 124 (dk_at dksJ7_fillNull_0 8 rfl rfl)
theorem dJ7_fillNull_11 : decode cJ7_fillNull 11 = .ok (.return_, 1) := dk_177 (dk_at dksJ7_fillNull_0 11 rfl rfl)
abbrev cJ7_getChar : ByteArray := prog_51_method_5_code
def yJ7_getChar : MethodName := ⟨RJ7, "getChar", "([BI)C"⟩
def dkwJ7_getChar_2 : List UInt8 := [51, 17, 0, 255, 126, 178, 0, 63, 120, 128, 146, 172]
abbrev dktJ7_getChar_2 : List UInt8 := dkwJ7_getChar_2 ++ []
def dkwJ7_getChar_1 : List UInt8 := [183, 0, 56, 191, 27, 4, 120, 60, 42, 27, 132, 1, 1, 51, 17, 0, 255, 126, 178, 0, 59, 120, 42, 27]
abbrev dktJ7_getChar_1 : List UInt8 := dkwJ7_getChar_1 ++ dktJ7_getChar_2
def dkwJ7_getChar_0 : List UInt8 := [178, 0, 44, 154, 0, 25, 27, 155, 0, 11, 27, 42, 184, 0, 48, 161, 0, 13, 187, 0, 52, 89, 18, 54]
abbrev dktJ7_getChar_0 : List UInt8 := dkwJ7_getChar_0 ++ dktJ7_getChar_1
theorem dksJ7_getChar_0 : cJ7_getChar.data.toList.drop 0 = dktJ7_getChar_0 := by decide +kernel
theorem dksJ7_getChar_1 : cJ7_getChar.data.toList.drop 24 = dktJ7_getChar_1 := dk_seg dksJ7_getChar_0 24 rfl rfl
theorem dksJ7_getChar_2 : cJ7_getChar.data.toList.drop 48 = dktJ7_getChar_2 := dk_seg dksJ7_getChar_1 24 rfl rfl
theorem dJ7_getChar_0 : decode cJ7_getChar 0 = .ok (.getstatic 44, 3) := dk_178 0 44 (dk_at dksJ7_getChar_0 0 rfl rfl)
theorem dJ7_getChar_3 : decode cJ7_getChar 3 = .ok (.ifCond .ne 25, 3) := dk_154 0 25 (dk_at dksJ7_getChar_0 3 rfl rfl)
theorem dJ7_getChar_6 : decode cJ7_getChar 6 = .ok (.iload_n 1, 1) := dk_27 (dk_at dksJ7_getChar_0 6 rfl rfl)
theorem dJ7_getChar_7 : decode cJ7_getChar 7 = .ok (.ifCond .lt 11, 3) := dk_155 0 11 (dk_at dksJ7_getChar_0 7 rfl rfl)
theorem dJ7_getChar_10 : decode cJ7_getChar 10 = .ok (.iload_n 1, 1) := dk_27 (dk_at dksJ7_getChar_0 10 rfl rfl)
theorem dJ7_getChar_11 : decode cJ7_getChar 11 = .ok (.aload_n 0, 1) := dk_42 (dk_at dksJ7_getChar_0 11 rfl rfl)
theorem dJ7_getChar_12 : decode cJ7_getChar 12 = .ok (.invokestatic 48, 3) := dk_184 0 48 (dk_at dksJ7_getChar_0 12 rfl rfl)
theorem dJ7_getChar_15 : decode cJ7_getChar 15 = .ok (.if_icmp .lt 13, 3) := dk_161 0 13 (dk_at dksJ7_getChar_0 15 rfl rfl)
theorem dJ7_getChar_18 : decode cJ7_getChar 18 = .ok (.new 52, 3) := dk_187 0 52 (dk_at dksJ7_getChar_0 18 rfl rfl)
theorem dJ7_getChar_21 : decode cJ7_getChar 21 = .ok (.dup, 1) := dk_89 (dk_at dksJ7_getChar_0 21 rfl rfl)
theorem dJ7_getChar_22 : decode cJ7_getChar 22 = .ok (.ldc 54, 2) := dk_18 54 (dk_at dksJ7_getChar_0 22 rfl rfl)
theorem dJ7_getChar_24 : decode cJ7_getChar 24 = .ok (.invokespecial 56, 3) := dk_183 0 56 (dk_at dksJ7_getChar_1 0 rfl rfl)
theorem dJ7_getChar_27 : decode cJ7_getChar 27 = .ok (.athrow, 1) := dk_191 (dk_at dksJ7_getChar_1 3 rfl rfl)
theorem dJ7_getChar_28 : decode cJ7_getChar 28 = .ok (.iload_n 1, 1) := dk_27 (dk_at dksJ7_getChar_1 4 rfl rfl)
theorem dJ7_getChar_29 : decode cJ7_getChar 29 = .ok (.iconst 1, 1) := dk_4 (dk_at dksJ7_getChar_1 5 rfl rfl)
theorem dJ7_getChar_30 : decode cJ7_getChar 30 = .ok (.ishl, 1) := dk_120 (dk_at dksJ7_getChar_1 6 rfl rfl)
theorem dJ7_getChar_31 : decode cJ7_getChar 31 = .ok (.istore_n 1, 1) := dk_60 (dk_at dksJ7_getChar_1 7 rfl rfl)
theorem dJ7_getChar_32 : decode cJ7_getChar 32 = .ok (.aload_n 0, 1) := dk_42 (dk_at dksJ7_getChar_1 8 rfl rfl)
theorem dJ7_getChar_33 : decode cJ7_getChar 33 = .ok (.iload_n 1, 1) := dk_27 (dk_at dksJ7_getChar_1 9 rfl rfl)
theorem dJ7_getChar_34 : decode cJ7_getChar 34 = .ok (.iinc 1 1, 3) := dk_132 1 1 (dk_at dksJ7_getChar_1 10 rfl rfl)
theorem dJ7_getChar_37 : decode cJ7_getChar 37 = .ok (.baload, 1) := dk_51 (dk_at dksJ7_getChar_1 13 rfl rfl)
theorem dJ7_getChar_38 : decode cJ7_getChar 38 = .ok (.sipush 255, 3) := dk_17 0 255 (dk_at dksJ7_getChar_1 14 rfl rfl)
theorem dJ7_getChar_41 : decode cJ7_getChar 41 = .ok (.iand, 1) := dk_126 (dk_at dksJ7_getChar_1 17 rfl rfl)
theorem dJ7_getChar_42 : decode cJ7_getChar 42 = .ok (.getstatic 59, 3) := dk_178 0 59 (dk_at dksJ7_getChar_1 18 rfl rfl)
theorem dJ7_getChar_45 : decode cJ7_getChar 45 = .ok (.ishl, 1) := dk_120 (dk_at dksJ7_getChar_1 21 rfl rfl)
theorem dJ7_getChar_46 : decode cJ7_getChar 46 = .ok (.aload_n 0, 1) := dk_42 (dk_at dksJ7_getChar_1 22 rfl rfl)
theorem dJ7_getChar_47 : decode cJ7_getChar 47 = .ok (.iload_n 1, 1) := dk_27 (dk_at dksJ7_getChar_1 23 rfl rfl)
theorem dJ7_getChar_48 : decode cJ7_getChar 48 = .ok (.baload, 1) := dk_51 (dk_at dksJ7_getChar_2 0 rfl rfl)
theorem dJ7_getChar_49 : decode cJ7_getChar 49 = .ok (.sipush 255, 3) := dk_17 0 255 (dk_at dksJ7_getChar_2 1 rfl rfl)
theorem dJ7_getChar_52 : decode cJ7_getChar 52 = .ok (.iand, 1) := dk_126 (dk_at dksJ7_getChar_2 4 rfl rfl)
theorem dJ7_getChar_53 : decode cJ7_getChar 53 = .ok (.getstatic 63, 3) := dk_178 0 63 (dk_at dksJ7_getChar_2 5 rfl rfl)
theorem dJ7_getChar_56 : decode cJ7_getChar 56 = .ok (.ishl, 1) := dk_120 (dk_at dksJ7_getChar_2 8 rfl rfl)
theorem dJ7_getChar_57 : decode cJ7_getChar 57 = .ok (.ior, 1) := dk_128 (dk_at dksJ7_getChar_2 9 rfl rfl)
theorem dJ7_getChar_58 : decode cJ7_getChar 58 = .ok (.i2c, 1) := dk_146 (dk_at dksJ7_getChar_2 10 rfl rfl)
theorem dJ7_getChar_59 : decode cJ7_getChar 59 = .ok (.ireturn, 1) := dk_172 (dk_at dksJ7_getChar_2 11 rfl rfl)
abbrev cJ7_charAt : ByteArray := prog_51_method_83_code
def yJ7_charAt : MethodName := ⟨RJ7, "charAt", "([BI)C"⟩
def dkwJ7_charAt_0 : List UInt8 := [27, 42, 184, 0, 67, 42, 27, 184, 0, 71, 172]
abbrev dktJ7_charAt_0 : List UInt8 := dkwJ7_charAt_0 ++ []
theorem dksJ7_charAt_0 : cJ7_charAt.data.toList.drop 0 = dktJ7_charAt_0 := by decide +kernel
theorem dJ7_charAt_0 : decode cJ7_charAt 0 = .ok (.iload_n 1, 1) := dk_27 (dk_at dksJ7_charAt_0 0 rfl rfl)
theorem dJ7_charAt_1 : decode cJ7_charAt 1 = .ok (.aload_n 0, 1) := dk_42 (dk_at dksJ7_charAt_0 1 rfl rfl)
theorem dJ7_charAt_2 : decode cJ7_charAt 2 = .ok (.invokestatic 67, 3) := dk_184 0 67 (dk_at dksJ7_charAt_0 2 rfl rfl)
theorem dJ7_charAt_5 : decode cJ7_charAt 5 = .ok (.aload_n 0, 1) := dk_42 (dk_at dksJ7_charAt_0 5 rfl rfl)
theorem dJ7_charAt_6 : decode cJ7_charAt 6 = .ok (.iload_n 1, 1) := dk_27 (dk_at dksJ7_charAt_0 6 rfl rfl)
theorem dJ7_charAt_7 : decode cJ7_charAt 7 = .ok (.invokestatic 71, 3) := dk_184 0 71 (dk_at dksJ7_charAt_0 7 rfl rfl)
theorem dJ7_charAt_10 : decode cJ7_charAt 10 = .ok (.ireturn, 1) := dk_172 (dk_at dksJ7_charAt_0 10 rfl rfl)
abbrev cJ7_hashCode : ByteArray := prog_51_method_39_code
def yJ7_hashCode : MethodName := ⟨RJ7, "hashCode", "([B)I"⟩
def dkwJ7_hashCode_2 : List UInt8 := [3, 167, 0, 22, 42, 3, 184, 0, 71, 167, 0, 14, 42, 3, 42, 190, 4, 122, 3, 8, 184, 0, 220, 172]
abbrev dktJ7_hashCode_2 : List UInt8 := dkwJ7_hashCode_2 ++ []
def dkwJ7_hashCode_1 : List UInt8 := [171, 0, 0, 0, 0, 38, 0, 0, 0, 2, 0, 0, 0, 0, 0, 0, 0, 26, 0, 0, 0, 2, 0, 0, 0, 30]
abbrev dktJ7_hashCode_1 : List UInt8 := dkwJ7_hashCode_1 ++ dktJ7_hashCode_2
def dkwJ7_hashCode_0 : List UInt8 := [42, 190]
abbrev dktJ7_hashCode_0 : List UInt8 := dkwJ7_hashCode_0 ++ dktJ7_hashCode_1
theorem dksJ7_hashCode_0 : cJ7_hashCode.data.toList.drop 0 = dktJ7_hashCode_0 := by decide +kernel
theorem dksJ7_hashCode_1 : cJ7_hashCode.data.toList.drop 2 = dktJ7_hashCode_1 := dk_seg dksJ7_hashCode_0 2 rfl rfl
theorem dksJ7_hashCode_2 : cJ7_hashCode.data.toList.drop 28 = dktJ7_hashCode_2 := dk_seg dksJ7_hashCode_1 26 rfl rfl
theorem dJ7_hashCode_0 : decode cJ7_hashCode 0 = .ok (.aload_n 0, 1) := dk_42 (dk_at dksJ7_hashCode_0 0 rfl rfl)
theorem dJ7_hashCode_1 : decode cJ7_hashCode 1 = .ok (.arraylength, 1) := dk_190 (dk_at dksJ7_hashCode_0 1 rfl rfl)
theorem dJ7_hashCode_2 : decode cJ7_hashCode 2 = .ok (.lookupswitch 38 #[(0, 26), (2, 30)], 26) := by decide +kernel
theorem dJ7_hashCode_28 : decode cJ7_hashCode 28 = .ok (.iconst 0, 1) := dk_3 (dk_at dksJ7_hashCode_2 0 rfl rfl)
theorem dJ7_hashCode_29 : decode cJ7_hashCode 29 = .ok (.goto 22, 3) := dk_167 0 22 (dk_at dksJ7_hashCode_2 1 rfl rfl)
theorem dJ7_hashCode_32 : decode cJ7_hashCode 32 = .ok (.aload_n 0, 1) := dk_42 (dk_at dksJ7_hashCode_2 4 rfl rfl)
theorem dJ7_hashCode_33 : decode cJ7_hashCode 33 = .ok (.iconst 0, 1) := dk_3 (dk_at dksJ7_hashCode_2 5 rfl rfl)
theorem dJ7_hashCode_34 : decode cJ7_hashCode 34 = .ok (.invokestatic 71, 3) := dk_184 0 71 (dk_at dksJ7_hashCode_2 6 rfl rfl)
theorem dJ7_hashCode_37 : decode cJ7_hashCode 37 = .ok (.goto 14, 3) := dk_167 0 14 (dk_at dksJ7_hashCode_2 9 rfl rfl)
theorem dJ7_hashCode_40 : decode cJ7_hashCode 40 = .ok (.aload_n 0, 1) := dk_42 (dk_at dksJ7_hashCode_2 12 rfl rfl)
theorem dJ7_hashCode_41 : decode cJ7_hashCode 41 = .ok (.iconst 0, 1) := dk_3 (dk_at dksJ7_hashCode_2 13 rfl rfl)
theorem dJ7_hashCode_42 : decode cJ7_hashCode 42 = .ok (.aload_n 0, 1) := dk_42 (dk_at dksJ7_hashCode_2 14 rfl rfl)
theorem dJ7_hashCode_43 : decode cJ7_hashCode 43 = .ok (.arraylength, 1) := dk_190 (dk_at dksJ7_hashCode_2 15 rfl rfl)
theorem dJ7_hashCode_44 : decode cJ7_hashCode 44 = .ok (.iconst 1, 1) := dk_4 (dk_at dksJ7_hashCode_2 16 rfl rfl)
theorem dJ7_hashCode_45 : decode cJ7_hashCode 45 = .ok (.ishr, 1) := dk_122 (dk_at dksJ7_hashCode_2 17 rfl rfl)
theorem dJ7_hashCode_46 : decode cJ7_hashCode 46 = .ok (.iconst 0, 1) := dk_3 (dk_at dksJ7_hashCode_2 18 rfl rfl)
theorem dJ7_hashCode_47 : decode cJ7_hashCode 47 = .ok (.iconst 5, 1) := dk_8 (dk_at dksJ7_hashCode_2 19 rfl rfl)
theorem dJ7_hashCode_48 : decode cJ7_hashCode 48 = .ok (.invokestatic 220, 3) := dk_184 0 220 (dk_at dksJ7_hashCode_2 20 rfl rfl)
theorem dJ7_hashCode_51 : decode cJ7_hashCode 51 = .ok (.ireturn, 1) := dk_172 (dk_at dksJ7_hashCode_2 23 rfl rfl)
abbrev cJ7_compareTo : ByteArray := prog_51_method_29_code
def yJ7_compareTo : MethodName := ⟨RJ7, "compareTo", "([B[B)I"⟩
def dkwJ7_compareTo_0 : List UInt8 := [42, 184, 0, 48, 61, 43, 184, 0, 48, 62, 42, 43, 28, 29, 184, 0, 176, 172]
abbrev dktJ7_compareTo_0 : List UInt8 := dkwJ7_compareTo_0 ++ []
theorem dksJ7_compareTo_0 : cJ7_compareTo.data.toList.drop 0 = dktJ7_compareTo_0 := by decide +kernel
theorem dJ7_compareTo_0 : decode cJ7_compareTo 0 = .ok (.aload_n 0, 1) := dk_42 (dk_at dksJ7_compareTo_0 0 rfl rfl)
theorem dJ7_compareTo_1 : decode cJ7_compareTo 1 = .ok (.invokestatic 48, 3) := dk_184 0 48 (dk_at dksJ7_compareTo_0 1 rfl rfl)
theorem dJ7_compareTo_4 : decode cJ7_compareTo 4 = .ok (.istore_n 2, 1) := dk_61 (dk_at dksJ7_compareTo_0 4 rfl rfl)
theorem dJ7_compareTo_5 : decode cJ7_compareTo 5 = .ok (.aload_n 1, 1) := dk_43 (dk_at dksJ7_compareTo_0 5 rfl rfl)
theorem dJ7_compareTo_6 : decode cJ7_compareTo 6 = .ok (.invokestatic 48, 3) := dk_184 0 48 (dk_at dksJ7_compareTo_0 6 rfl rfl)
theorem dJ7_compareTo_9 : decode cJ7_compareTo 9 = .ok (.istore_n 3, 1) := dk_62 (dk_at dksJ7_compareTo_0 9 rfl rfl)
theorem dJ7_compareTo_10 : decode cJ7_compareTo 10 = .ok (.aload_n 0, 1) := dk_42 (dk_at dksJ7_compareTo_0 10 rfl rfl)
theorem dJ7_compareTo_11 : decode cJ7_compareTo 11 = .ok (.aload_n 1, 1) := dk_43 (dk_at dksJ7_compareTo_0 11 rfl rfl)
theorem dJ7_compareTo_12 : decode cJ7_compareTo 12 = .ok (.iload_n 2, 1) := dk_28 (dk_at dksJ7_compareTo_0 12 rfl rfl)
theorem dJ7_compareTo_13 : decode cJ7_compareTo 13 = .ok (.iload_n 3, 1) := dk_29 (dk_at dksJ7_compareTo_0 13 rfl rfl)
theorem dJ7_compareTo_14 : decode cJ7_compareTo 14 = .ok (.invokestatic 176, 3) := dk_184 0 176 (dk_at dksJ7_compareTo_0 14 rfl rfl)
theorem dJ7_compareTo_17 : decode cJ7_compareTo 17 = .ok (.ireturn, 1) := dk_172 (dk_at dksJ7_compareTo_0 17 rfl rfl)
abbrev cJ7_compareValues : ByteArray := prog_51_method_31_code
def yJ7_compareValues : MethodName := ⟨RJ7, "compareValues", "([B[BII)I"⟩
def dkwJ7_compareValues_2 : List UInt8 := [132, 5, 1, 167, 255, 217, 28, 29, 100, 172]
abbrev dktJ7_compareValues_2 : List UInt8 := dkwJ7_compareValues_2 ++ []
def dkwJ7_compareValues_1 : List UInt8 := [54, 6, 43, 21, 5, 184, 0, 71, 54, 7, 21, 6, 21, 7, 159, 0, 9, 21, 6, 21, 7, 100, 172]
abbrev dktJ7_compareValues_1 : List UInt8 := dkwJ7_compareValues_1 ++ dktJ7_compareValues_2
def dkwJ7_compareValues_0 : List UInt8 := [28, 29, 184, 0, 183, 54, 4, 3, 54, 5, 21, 5, 21, 4, 162, 0, 38, 42, 21, 5, 184, 0, 71]
abbrev dktJ7_compareValues_0 : List UInt8 := dkwJ7_compareValues_0 ++ dktJ7_compareValues_1
theorem dksJ7_compareValues_0 : cJ7_compareValues.data.toList.drop 0 = dktJ7_compareValues_0 := by decide +kernel
theorem dksJ7_compareValues_1 : cJ7_compareValues.data.toList.drop 23 = dktJ7_compareValues_1 := dk_seg dksJ7_compareValues_0 23 rfl rfl
theorem dksJ7_compareValues_2 : cJ7_compareValues.data.toList.drop 46 = dktJ7_compareValues_2 := dk_seg dksJ7_compareValues_1 23 rfl rfl
theorem dJ7_compareValues_0 : decode cJ7_compareValues 0 = .ok (.iload_n 2, 1) := dk_28 (dk_at dksJ7_compareValues_0 0 rfl rfl)
theorem dJ7_compareValues_1 : decode cJ7_compareValues 1 = .ok (.iload_n 3, 1) := dk_29 (dk_at dksJ7_compareValues_0 1 rfl rfl)
theorem dJ7_compareValues_2 : decode cJ7_compareValues 2 = .ok (.invokestatic 183, 3) := dk_184 0 183 (dk_at dksJ7_compareValues_0 2 rfl rfl)
theorem dJ7_compareValues_5 : decode cJ7_compareValues 5 = .ok (.istore 4, 2) := dk_54 4 (dk_at dksJ7_compareValues_0 5 rfl rfl)
theorem dJ7_compareValues_7 : decode cJ7_compareValues 7 = .ok (.iconst 0, 1) := dk_3 (dk_at dksJ7_compareValues_0 7 rfl rfl)
theorem dJ7_compareValues_8 : decode cJ7_compareValues 8 = .ok (.istore 5, 2) := dk_54 5 (dk_at dksJ7_compareValues_0 8 rfl rfl)
theorem dJ7_compareValues_10 : decode cJ7_compareValues 10 = .ok (.iload 5, 2) := dk_21 5 (dk_at dksJ7_compareValues_0 10 rfl rfl)
theorem dJ7_compareValues_12 : decode cJ7_compareValues 12 = .ok (.iload 4, 2) := dk_21 4 (dk_at dksJ7_compareValues_0 12 rfl rfl)
theorem dJ7_compareValues_14 : decode cJ7_compareValues 14 = .ok (.if_icmp .ge 38, 3) := dk_162 0 38 (dk_at dksJ7_compareValues_0 14 rfl rfl)
theorem dJ7_compareValues_17 : decode cJ7_compareValues 17 = .ok (.aload_n 0, 1) := dk_42 (dk_at dksJ7_compareValues_0 17 rfl rfl)
theorem dJ7_compareValues_18 : decode cJ7_compareValues 18 = .ok (.iload 5, 2) := dk_21 5 (dk_at dksJ7_compareValues_0 18 rfl rfl)
theorem dJ7_compareValues_20 : decode cJ7_compareValues 20 = .ok (.invokestatic 71, 3) := dk_184 0 71 (dk_at dksJ7_compareValues_0 20 rfl rfl)
theorem dJ7_compareValues_23 : decode cJ7_compareValues 23 = .ok (.istore 6, 2) := dk_54 6 (dk_at dksJ7_compareValues_1 0 rfl rfl)
theorem dJ7_compareValues_25 : decode cJ7_compareValues 25 = .ok (.aload_n 1, 1) := dk_43 (dk_at dksJ7_compareValues_1 2 rfl rfl)
theorem dJ7_compareValues_26 : decode cJ7_compareValues 26 = .ok (.iload 5, 2) := dk_21 5 (dk_at dksJ7_compareValues_1 3 rfl rfl)
theorem dJ7_compareValues_28 : decode cJ7_compareValues 28 = .ok (.invokestatic 71, 3) := dk_184 0 71 (dk_at dksJ7_compareValues_1 5 rfl rfl)
theorem dJ7_compareValues_31 : decode cJ7_compareValues 31 = .ok (.istore 7, 2) := dk_54 7 (dk_at dksJ7_compareValues_1 8 rfl rfl)
theorem dJ7_compareValues_33 : decode cJ7_compareValues 33 = .ok (.iload 6, 2) := dk_21 6 (dk_at dksJ7_compareValues_1 10 rfl rfl)
theorem dJ7_compareValues_35 : decode cJ7_compareValues 35 = .ok (.iload 7, 2) := dk_21 7 (dk_at dksJ7_compareValues_1 12 rfl rfl)
theorem dJ7_compareValues_37 : decode cJ7_compareValues 37 = .ok (.if_icmp .eq 9, 3) := dk_159 0 9 (dk_at dksJ7_compareValues_1 14 rfl rfl)
theorem dJ7_compareValues_40 : decode cJ7_compareValues 40 = .ok (.iload 6, 2) := dk_21 6 (dk_at dksJ7_compareValues_1 17 rfl rfl)
theorem dJ7_compareValues_42 : decode cJ7_compareValues 42 = .ok (.iload 7, 2) := dk_21 7 (dk_at dksJ7_compareValues_1 19 rfl rfl)
theorem dJ7_compareValues_44 : decode cJ7_compareValues 44 = .ok (.isub, 1) := dk_100 (dk_at dksJ7_compareValues_1 21 rfl rfl)
theorem dJ7_compareValues_45 : decode cJ7_compareValues 45 = .ok (.ireturn, 1) := dk_172 (dk_at dksJ7_compareValues_1 22 rfl rfl)
theorem dJ7_compareValues_46 : decode cJ7_compareValues 46 = .ok (.iinc 5 1, 3) := dk_132 5 1 (dk_at dksJ7_compareValues_2 0 rfl rfl)
theorem dJ7_compareValues_49 : decode cJ7_compareValues 49 = .ok (.goto (-39), 3) := dk_167 255 217 (dk_at dksJ7_compareValues_2 3 rfl rfl)
theorem dJ7_compareValues_52 : decode cJ7_compareValues 52 = .ok (.iload_n 2, 1) := dk_28 (dk_at dksJ7_compareValues_2 6 rfl rfl)
theorem dJ7_compareValues_53 : decode cJ7_compareValues 53 = .ok (.iload_n 3, 1) := dk_29 (dk_at dksJ7_compareValues_2 7 rfl rfl)
theorem dJ7_compareValues_54 : decode cJ7_compareValues 54 = .ok (.isub, 1) := dk_100 (dk_at dksJ7_compareValues_2 8 rfl rfl)
theorem dJ7_compareValues_55 : decode cJ7_compareValues 55 = .ok (.ireturn, 1) := dk_172 (dk_at dksJ7_compareValues_2 9 rfl rfl)
abbrev cJ7_compareToLatin1 : ByteArray := prog_51_method_32_code
def yJ7_compareToLatin1 : MethodName := ⟨RJ7, "compareToLatin1", "([B[B)I"⟩
def dkwJ7_compareToLatin1_0 : List UInt8 := [43, 42, 184, 0, 189, 116, 172]
abbrev dktJ7_compareToLatin1_0 : List UInt8 := dkwJ7_compareToLatin1_0 ++ []
theorem dksJ7_compareToLatin1_0 : cJ7_compareToLatin1.data.toList.drop 0 = dktJ7_compareToLatin1_0 := by decide +kernel
theorem dJ7_compareToLatin1_0 : decode cJ7_compareToLatin1 0 = .ok (.aload_n 1, 1) := dk_43 (dk_at dksJ7_compareToLatin1_0 0 rfl rfl)
theorem dJ7_compareToLatin1_1 : decode cJ7_compareToLatin1 1 = .ok (.aload_n 0, 1) := dk_42 (dk_at dksJ7_compareToLatin1_0 1 rfl rfl)
theorem dJ7_compareToLatin1_2 : decode cJ7_compareToLatin1 2 = .ok (.invokestatic 189, 3) := dk_184 0 189 (dk_at dksJ7_compareToLatin1_0 2 rfl rfl)
theorem dJ7_compareToLatin1_5 : decode cJ7_compareToLatin1 5 = .ok (.ineg, 1) := dk_116 (dk_at dksJ7_compareToLatin1_0 5 rfl rfl)
theorem dJ7_compareToLatin1_6 : decode cJ7_compareToLatin1 6 = .ok (.ireturn, 1) := dk_172 (dk_at dksJ7_compareToLatin1_0 6 rfl rfl)
abbrev cJ7_compareTo_2 : ByteArray := prog_51_method_30_code
def yJ7_compareTo_2 : MethodName := ⟨RJ7, "compareTo", "([B[BII)I"⟩
def dkwJ7_compareTo_2_0 : List UInt8 := [28, 42, 184, 0, 180, 29, 43, 184, 0, 180, 42, 43, 28, 29, 184, 0, 176, 172]
abbrev dktJ7_compareTo_2_0 : List UInt8 := dkwJ7_compareTo_2_0 ++ []
theorem dksJ7_compareTo_2_0 : cJ7_compareTo_2.data.toList.drop 0 = dktJ7_compareTo_2_0 := by decide +kernel
theorem dJ7_compareTo_2_0 : decode cJ7_compareTo_2 0 = .ok (.iload_n 2, 1) := dk_28 (dk_at dksJ7_compareTo_2_0 0 rfl rfl)
theorem dJ7_compareTo_2_1 : decode cJ7_compareTo_2 1 = .ok (.aload_n 0, 1) := dk_42 (dk_at dksJ7_compareTo_2_0 1 rfl rfl)
theorem dJ7_compareTo_2_2 : decode cJ7_compareTo_2 2 = .ok (.invokestatic 180, 3) := dk_184 0 180 (dk_at dksJ7_compareTo_2_0 2 rfl rfl)
theorem dJ7_compareTo_2_5 : decode cJ7_compareTo_2 5 = .ok (.iload_n 3, 1) := dk_29 (dk_at dksJ7_compareTo_2_0 5 rfl rfl)
theorem dJ7_compareTo_2_6 : decode cJ7_compareTo_2 6 = .ok (.aload_n 1, 1) := dk_43 (dk_at dksJ7_compareTo_2_0 6 rfl rfl)
theorem dJ7_compareTo_2_7 : decode cJ7_compareTo_2 7 = .ok (.invokestatic 180, 3) := dk_184 0 180 (dk_at dksJ7_compareTo_2_0 7 rfl rfl)
theorem dJ7_compareTo_2_10 : decode cJ7_compareTo_2 10 = .ok (.aload_n 0, 1) := dk_42 (dk_at dksJ7_compareTo_2_0 10 rfl rfl)
theorem dJ7_compareTo_2_11 : decode cJ7_compareTo_2 11 = .ok (.aload_n 1, 1) := dk_43 (dk_at dksJ7_compareTo_2_0 11 rfl rfl)
theorem dJ7_compareTo_2_12 : decode cJ7_compareTo_2 12 = .ok (.iload_n 2, 1) := dk_28 (dk_at dksJ7_compareTo_2_0 12 rfl rfl)
theorem dJ7_compareTo_2_13 : decode cJ7_compareTo_2 13 = .ok (.iload_n 3, 1) := dk_29 (dk_at dksJ7_compareTo_2_0 13 rfl rfl)
theorem dJ7_compareTo_2_14 : decode cJ7_compareTo_2 14 = .ok (.invokestatic 176, 3) := dk_184 0 176 (dk_at dksJ7_compareTo_2_0 14 rfl rfl)
theorem dJ7_compareTo_2_17 : decode cJ7_compareTo_2 17 = .ok (.ireturn, 1) := dk_172 (dk_at dksJ7_compareTo_2_0 17 rfl rfl)
abbrev cJ7_checkOffset : ByteArray := prog_51_method_92_code
def yJ7_checkOffset : MethodName := ⟨RJ7, "checkOffset", "(I[B)V"⟩
def dkwJ7_checkOffset_0 : List UInt8 := [26, 43, 184, 0, 48, 184, 1, 161, 177]
abbrev dktJ7_checkOffset_0 : List UInt8 := dkwJ7_checkOffset_0 ++ []
theorem dksJ7_checkOffset_0 : cJ7_checkOffset.data.toList.drop 0 = dktJ7_checkOffset_0 := by decide +kernel
theorem dJ7_checkOffset_0 : decode cJ7_checkOffset 0 = .ok (.iload_n 0, 1) := dk_26 (dk_at dksJ7_checkOffset_0 0 rfl rfl)
theorem dJ7_checkOffset_1 : decode cJ7_checkOffset 1 = .ok (.aload_n 1, 1) := dk_43 (dk_at dksJ7_checkOffset_0 1 rfl rfl)
theorem dJ7_checkOffset_2 : decode cJ7_checkOffset 2 = .ok (.invokestatic 48, 3) := dk_184 0 48 (dk_at dksJ7_checkOffset_0 2 rfl rfl)
theorem dJ7_checkOffset_5 : decode cJ7_checkOffset 5 = .ok (.invokestatic 417, 3) := dk_184 1 161 (dk_at dksJ7_checkOffset_0 5 rfl rfl)
theorem dJ7_checkOffset_8 : decode cJ7_checkOffset 8 = .ok (.return_, 1) := dk_177 (dk_at dksJ7_checkOffset_0 8 rfl rfl)
abbrev cJ7_compareToLatin1_2 : ByteArray := prog_51_method_33_code
def yJ7_compareToLatin1_2 : MethodName := ⟨RJ7, "compareToLatin1", "([B[BII)I"⟩
def dkwJ7_compareToLatin1_2_0 : List UInt8 := [43, 42, 29, 28, 184, 0, 193, 116, 172]
abbrev dktJ7_compareToLatin1_2_0 : List UInt8 := dkwJ7_compareToLatin1_2_0 ++ []
theorem dksJ7_compareToLatin1_2_0 : cJ7_compareToLatin1_2.data.toList.drop 0 = dktJ7_compareToLatin1_2_0 := by decide +kernel
theorem dJ7_compareToLatin1_2_0 : decode cJ7_compareToLatin1_2 0 = .ok (.aload_n 1, 1) := dk_43 (dk_at dksJ7_compareToLatin1_2_0 0 rfl rfl)
theorem dJ7_compareToLatin1_2_1 : decode cJ7_compareToLatin1_2 1 = .ok (.aload_n 0, 1) := dk_42 (dk_at dksJ7_compareToLatin1_2_0 1 rfl rfl)
theorem dJ7_compareToLatin1_2_2 : decode cJ7_compareToLatin1_2 2 = .ok (.iload_n 3, 1) := dk_29 (dk_at dksJ7_compareToLatin1_2_0 2 rfl rfl)
theorem dJ7_compareToLatin1_2_3 : decode cJ7_compareToLatin1_2 3 = .ok (.iload_n 2, 1) := dk_28 (dk_at dksJ7_compareToLatin1_2_0 3 rfl rfl)
theorem dJ7_compareToLatin1_2_4 : decode cJ7_compareToLatin1_2 4 = .ok (.invokestatic 193, 3) := dk_184 0 193 (dk_at dksJ7_compareToLatin1_2_0 4 rfl rfl)
theorem dJ7_compareToLatin1_2_7 : decode cJ7_compareToLatin1_2 7 = .ok (.ineg, 1) := dk_116 (dk_at dksJ7_compareToLatin1_2_0 7 rfl rfl)
theorem dJ7_compareToLatin1_2_8 : decode cJ7_compareToLatin1_2 8 = .ok (.ireturn, 1) := dk_172 (dk_at dksJ7_compareToLatin1_2_0 8 rfl rfl)
theorem q97 : (Jvm.Cond.initialized "java/lang/StringUTF16") ∈ lw_all := lw_g (lw_at lw_m1 11 rfl) rfl
theorem q348 : (Jvm.Cond.static ({ cls := "java/lang/StringUTF16", name := "newBytesFor", desc := "(I)[B" } : Jvm.MethodName)) ∈ lw_all := lw_g (lw_at lw_m2 22 rfl) rfl
theorem q349 : (Jvm.Cond.code ({ cls := "java/lang/StringUTF16", name := "newBytesFor", desc := "(I)[B" } : Jvm.MethodName) prog_51_method_2_code (1 : Nat) (Option.some (Jvm.ClassFile.FieldType.array Jvm.ClassFile.FieldType.byte))) ∈ lw_all := lw_g (lw_at lw_m2 23 rfl) rfl
theorem q350 : (Jvm.Cond.methodLink "java/lang/StringUTF16" (11 : Nat) ({ cls := "java/lang/StringUTF16", name := "newBytesLength", desc := "(I)I" } : Jvm.MethodName)) ∈ lw_all := lw_g (lw_at lw_m2 24 rfl) rfl
theorem q351 : (Jvm.Cond.static ({ cls := "java/lang/StringUTF16", name := "newBytesLength", desc := "(I)I" } : Jvm.MethodName)) ∈ lw_all := lw_g (lw_at lw_m2 25 rfl) rfl
theorem q352 : (Jvm.Cond.code ({ cls := "java/lang/StringUTF16", name := "newBytesLength", desc := "(I)I" } : Jvm.MethodName) prog_51_method_3_code (1 : Nat) (Option.some Jvm.ClassFile.FieldType.int)) ∈ lw_all := lw_g (lw_at lw_m2 26 rfl) rfl
theorem q353 : (Jvm.Cond.constant "java/lang/StringUTF16" (20 : Nat) (1073741823 : Int32)) ∈ lw_all := lw_g (lw_at lw_m2 27 rfl) rfl
theorem q1661 : (Jvm.Cond.static ({ cls := "java/lang/StringUTF16", name := "inflate", desc := "([BI[BII)V" } : Jvm.MethodName)) ∈ lw_all := lw_g (lw_at lw_m7 135 rfl) rfl
theorem q1662 : (Jvm.Cond.code ({ cls := "java/lang/StringUTF16", name := "inflate", desc := "([BI[BII)V" } : Jvm.MethodName) prog_51_method_86_code (6 : Nat) (Option.none : Option Jvm.ClassFile.FieldType)) ∈ lw_all := lw_g (lw_at lw_m7 136 rfl) rfl
theorem q1663 : (Jvm.Cond.methodLink "java/lang/StringUTF16" (173 : Nat) ({ cls := "java/lang/StringUTF16", name := "checkBoundsOffCount", desc := "(II[B)V" } : Jvm.MethodName)) ∈ lw_all := lw_g (lw_at lw_m7 137 rfl) rfl
theorem q1664 : (Jvm.Cond.static ({ cls := "java/lang/StringUTF16", name := "checkBoundsOffCount", desc := "(II[B)V" } : Jvm.MethodName)) ∈ lw_all := lw_g (lw_at lw_m7 138 rfl) rfl
theorem q1665 : (Jvm.Cond.code ({ cls := "java/lang/StringUTF16", name := "checkBoundsOffCount", desc := "(II[B)V" } : Jvm.MethodName) prog_51_method_94_code (3 : Nat) (Option.none : Option Jvm.ClassFile.FieldType)) ∈ lw_all := lw_g (lw_at lw_m7 139 rfl) rfl
theorem q1666 : (Jvm.Cond.methodLink "java/lang/StringUTF16" (48 : Nat) ({ cls := "java/lang/StringUTF16", name := "length", desc := "([B)I" } : Jvm.MethodName)) ∈ lw_all := lw_g (lw_at lw_m7 140 rfl) rfl
theorem q1667 : (Jvm.Cond.static ({ cls := "java/lang/StringUTF16", name := "length", desc := "([B)I" } : Jvm.MethodName)) ∈ lw_all := lw_g (lw_at lw_m7 141 rfl) rfl
theorem q1668 : (Jvm.Cond.code ({ cls := "java/lang/StringUTF16", name := "length", desc := "([B)I" } : Jvm.MethodName) prog_51_method_6_code (1 : Nat) (Option.some Jvm.ClassFile.FieldType.int)) ∈ lw_all := lw_g (lw_at lw_m7 142 rfl) rfl
theorem q1669 : (Jvm.Cond.methodLink "java/lang/StringUTF16" (419 : Nat) ({ cls := "java/lang/String", name := "checkBoundsOffCount", desc := "(III)I" } : Jvm.MethodName)) ∈ lw_all := lw_g (lw_at lw_m7 143 rfl) rfl
theorem q1677 : (Jvm.Cond.methodLink "java/lang/StringUTF16" (111 : Nat) ({ cls := "java/lang/StringUTF16", name := "putChar", desc := "([BII)V" } : Jvm.MethodName)) ∈ lw_all := lw_g (lw_at lw_m7 151 rfl) rfl
theorem q1678 : (Jvm.Cond.static ({ cls := "java/lang/StringUTF16", name := "putChar", desc := "([BII)V" } : Jvm.MethodName)) ∈ lw_all := lw_g (lw_at lw_m7 152 rfl) rfl
theorem q1679 : (Jvm.Cond.code ({ cls := "java/lang/StringUTF16", name := "putChar", desc := "([BII)V" } : Jvm.MethodName) prog_51_method_4_code (3 : Nat) (Option.none : Option Jvm.ClassFile.FieldType)) ∈ lw_all := lw_g (lw_at lw_m7 153 rfl) rfl
theorem q1680 : (Jvm.Cond.fieldLink "java/lang/StringUTF16" (44 : Nat) "java/lang/StringUTF16" "$assertionsDisabled" "Z") ∈ lw_all := lw_g (lw_at lw_m7 154 rfl) rfl
theorem q1681 : (Jvm.Cond.laysStatic "java/lang/StringUTF16" "$assertionsDisabled" "Z") ∈ lw_tbl := lw_at lw_m7 155 rfl
theorem q1682 : (Jvm.Cond.fieldLink "java/lang/StringUTF16" (59 : Nat) "java/lang/StringUTF16" "HI_BYTE_SHIFT" "I") ∈ lw_all := lw_g (lw_at lw_m7 156 rfl) rfl
theorem q1683 : (Jvm.Cond.laysStatic "java/lang/StringUTF16" "HI_BYTE_SHIFT" "I") ∈ lw_tbl := lw_at lw_m7 157 rfl
theorem q1684 : (Jvm.Cond.fieldLink "java/lang/StringUTF16" (63 : Nat) "java/lang/StringUTF16" "LO_BYTE_SHIFT" "I") ∈ lw_all := lw_g (lw_at lw_m7 158 rfl) rfl
theorem q1685 : (Jvm.Cond.laysStatic "java/lang/StringUTF16" "LO_BYTE_SHIFT" "I") ∈ lw_tbl := lw_at lw_m7 159 rfl
theorem q1687 : (Jvm.Cond.static ({ cls := "java/lang/StringUTF16", name := "putCharSB", desc := "([BII)V" } : Jvm.MethodName)) ∈ lw_all := lw_g (lw_at lw_m7 161 rfl) rfl
theorem q1688 : (Jvm.Cond.code ({ cls := "java/lang/StringUTF16", name := "putCharSB", desc := "([BII)V" } : Jvm.MethodName) prog_51_method_71_code (3 : Nat) (Option.none : Option Jvm.ClassFile.FieldType)) ∈ lw_all := lw_g (lw_at lw_m7 162 rfl) rfl
theorem q1689 : (Jvm.Cond.methodLink "java/lang/StringUTF16" (67 : Nat) ({ cls := "java/lang/StringUTF16", name := "checkIndex", desc := "(I[B)V" } : Jvm.MethodName)) ∈ lw_all := lw_g (lw_at lw_m7 163 rfl) rfl
theorem q1690 : (Jvm.Cond.static ({ cls := "java/lang/StringUTF16", name := "checkIndex", desc := "(I[B)V" } : Jvm.MethodName)) ∈ lw_all := lw_g (lw_at lw_m7 164 rfl) rfl
theorem q1691 : (Jvm.Cond.code ({ cls := "java/lang/StringUTF16", name := "checkIndex", desc := "(I[B)V" } : Jvm.MethodName) prog_51_method_91_code (2 : Nat) (Option.none : Option Jvm.ClassFile.FieldType)) ∈ lw_all := lw_g (lw_at lw_m7 165 rfl) rfl
theorem q1692 : (Jvm.Cond.methodLink "java/lang/StringUTF16" (414 : Nat) ({ cls := "java/lang/String", name := "checkIndex", desc := "(II)V" } : Jvm.MethodName)) ∈ lw_all := lw_g (lw_at lw_m7 166 rfl) rfl
theorem q1717 : (Jvm.Cond.static ({ cls := "java/lang/StringUTF16", name := "fillNull", desc := "([BII)V" } : Jvm.MethodName)) ∈ lw_all := lw_g (lw_at lw_m7 191 rfl) rfl
theorem q1718 : (Jvm.Cond.code ({ cls := "java/lang/StringUTF16", name := "fillNull", desc := "([BII)V" } : Jvm.MethodName) prog_51_method_70_code (3 : Nat) (Option.none : Option Jvm.ClassFile.FieldType)) ∈ lw_all := lw_g (lw_at lw_m7 192 rfl) rfl
theorem q1719 : (Jvm.Cond.methodLink "java/lang/StringUTF16" (380 : Nat) ({ cls := "java/util/Arrays", name := "fill", desc := "([BIIB)V" } : Jvm.MethodName)) ∈ lw_all := lw_g (lw_at lw_m7 193 rfl) rfl
theorem q1772 : (Jvm.Cond.static ({ cls := "java/lang/StringUTF16", name := "getChar", desc := "([BI)C" } : Jvm.MethodName)) ∈ lw_all := lw_g (lw_at lw_m8 6 rfl) rfl
theorem q1773 : (Jvm.Cond.code ({ cls := "java/lang/StringUTF16", name := "getChar", desc := "([BI)C" } : Jvm.MethodName) prog_51_method_5_code (2 : Nat) (Option.some Jvm.ClassFile.FieldType.char)) ∈ lw_all := lw_g (lw_at lw_m8 7 rfl) rfl
theorem q1817 : (Jvm.Cond.static ({ cls := "java/lang/StringUTF16", name := "charAt", desc := "([BI)C" } : Jvm.MethodName)) ∈ lw_all := lw_g (lw_at lw_m8 51 rfl) rfl
theorem q1818 : (Jvm.Cond.code ({ cls := "java/lang/StringUTF16", name := "charAt", desc := "([BI)C" } : Jvm.MethodName) prog_51_method_83_code (2 : Nat) (Option.some Jvm.ClassFile.FieldType.char)) ∈ lw_all := lw_g (lw_at lw_m8 52 rfl) rfl
theorem q1819 : (Jvm.Cond.methodLink "java/lang/StringUTF16" (71 : Nat) ({ cls := "java/lang/StringUTF16", name := "getChar", desc := "([BI)C" } : Jvm.MethodName)) ∈ lw_all := lw_g (lw_at lw_m8 53 rfl) rfl
theorem q1959 : (Jvm.Cond.static ({ cls := "java/lang/StringUTF16", name := "hashCode", desc := "([B)I" } : Jvm.MethodName)) ∈ lw_all := lw_g (lw_at lw_m8 193 rfl) rfl
theorem q1960 : (Jvm.Cond.code ({ cls := "java/lang/StringUTF16", name := "hashCode", desc := "([B)I" } : Jvm.MethodName) prog_51_method_39_code (1 : Nat) (Option.some Jvm.ClassFile.FieldType.int)) ∈ lw_all := lw_g (lw_at lw_m8 194 rfl) rfl
theorem q1961 : (Jvm.Cond.methodLink "java/lang/StringUTF16" (220 : Nat) ({ cls := "jdk/internal/util/ArraysSupport", name := "vectorizedHashCode", desc := "(Ljava/lang/Object;IIII)I" } : Jvm.MethodName)) ∈ lw_all := lw_g (lw_at lw_m8 195 rfl) rfl
theorem q2371 : (Jvm.Cond.static ({ cls := "java/lang/StringUTF16", name := "compareTo", desc := "([B[B)I" } : Jvm.MethodName)) ∈ lw_all := lw_g (lw_at lw_m10 125 rfl) rfl
theorem q2372 : (Jvm.Cond.code ({ cls := "java/lang/StringUTF16", name := "compareTo", desc := "([B[B)I" } : Jvm.MethodName) prog_51_method_29_code (4 : Nat) (Option.some Jvm.ClassFile.FieldType.int)) ∈ lw_all := lw_g (lw_at lw_m10 126 rfl) rfl
theorem q2373 : (Jvm.Cond.methodLink "java/lang/StringUTF16" (176 : Nat) ({ cls := "java/lang/StringUTF16", name := "compareValues", desc := "([B[BII)I" } : Jvm.MethodName)) ∈ lw_all := lw_g (lw_at lw_m10 127 rfl) rfl
theorem q2374 : (Jvm.Cond.static ({ cls := "java/lang/StringUTF16", name := "compareValues", desc := "([B[BII)I" } : Jvm.MethodName)) ∈ lw_all := lw_g (lw_at lw_m10 128 rfl) rfl
theorem q2375 : (Jvm.Cond.code ({ cls := "java/lang/StringUTF16", name := "compareValues", desc := "([B[BII)I" } : Jvm.MethodName) prog_51_method_31_code (8 : Nat) (Option.some Jvm.ClassFile.FieldType.int)) ∈ lw_all := lw_g (lw_at lw_m10 129 rfl) rfl
theorem q2376 : (Jvm.Cond.methodLink "java/lang/StringUTF16" (183 : Nat) ({ cls := "java/lang/Math", name := "min", desc := "(II)I" } : Jvm.MethodName)) ∈ lw_all := lw_g (lw_at lw_m10 130 rfl) rfl
theorem q2389 : (Jvm.Cond.static ({ cls := "java/lang/StringUTF16", name := "compareToLatin1", desc := "([B[B)I" } : Jvm.MethodName)) ∈ lw_all := lw_g (lw_at lw_m10 143 rfl) rfl
theorem q2390 : (Jvm.Cond.code ({ cls := "java/lang/StringUTF16", name := "compareToLatin1", desc := "([B[B)I" } : Jvm.MethodName) prog_51_method_32_code (2 : Nat) (Option.some Jvm.ClassFile.FieldType.int)) ∈ lw_all := lw_g (lw_at lw_m10 144 rfl) rfl
theorem q2391 : (Jvm.Cond.methodLink "java/lang/StringUTF16" (189 : Nat) ({ cls := "java/lang/StringLatin1", name := "compareToUTF16", desc := "([B[B)I" } : Jvm.MethodName)) ∈ lw_all := lw_g (lw_at lw_m10 145 rfl) rfl
theorem q2408 : (Jvm.Cond.static ({ cls := "java/lang/StringUTF16", name := "compareTo", desc := "([B[BII)I" } : Jvm.MethodName)) ∈ lw_all := lw_g (lw_at lw_m10 162 rfl) rfl
theorem q2409 : (Jvm.Cond.code ({ cls := "java/lang/StringUTF16", name := "compareTo", desc := "([B[BII)I" } : Jvm.MethodName) prog_51_method_30_code (4 : Nat) (Option.some Jvm.ClassFile.FieldType.int)) ∈ lw_all := lw_g (lw_at lw_m10 163 rfl) rfl
theorem q2410 : (Jvm.Cond.methodLink "java/lang/StringUTF16" (180 : Nat) ({ cls := "java/lang/StringUTF16", name := "checkOffset", desc := "(I[B)V" } : Jvm.MethodName)) ∈ lw_all := lw_g (lw_at lw_m10 164 rfl) rfl
theorem q2411 : (Jvm.Cond.static ({ cls := "java/lang/StringUTF16", name := "checkOffset", desc := "(I[B)V" } : Jvm.MethodName)) ∈ lw_all := lw_g (lw_at lw_m10 165 rfl) rfl
theorem q2412 : (Jvm.Cond.code ({ cls := "java/lang/StringUTF16", name := "checkOffset", desc := "(I[B)V" } : Jvm.MethodName) prog_51_method_92_code (2 : Nat) (Option.none : Option Jvm.ClassFile.FieldType)) ∈ lw_all := lw_g (lw_at lw_m10 166 rfl) rfl
theorem q2413 : (Jvm.Cond.methodLink "java/lang/StringUTF16" (417 : Nat) ({ cls := "java/lang/String", name := "checkOffset", desc := "(II)V" } : Jvm.MethodName)) ∈ lw_all := lw_g (lw_at lw_m10 167 rfl) rfl
theorem q2424 : (Jvm.Cond.static ({ cls := "java/lang/StringUTF16", name := "compareToLatin1", desc := "([B[BII)I" } : Jvm.MethodName)) ∈ lw_all := lw_g (lw_at lw_m10 178 rfl) rfl
theorem q2425 : (Jvm.Cond.code ({ cls := "java/lang/StringUTF16", name := "compareToLatin1", desc := "([B[BII)I" } : Jvm.MethodName) prog_51_method_33_code (4 : Nat) (Option.some Jvm.ClassFile.FieldType.int)) ∈ lw_all := lw_g (lw_at lw_m10 179 rfl) rfl
theorem q2426 : (Jvm.Cond.methodLink "java/lang/StringUTF16" (193 : Nat) ({ cls := "java/lang/StringLatin1", name := "compareToUTF16", desc := "([B[BII)I" } : Jvm.MethodName)) ∈ lw_all := lw_g (lw_at lw_m10 180 rfl) rfl

end
section
/-! java/lang/Record -/
set_option maxRecDepth 100000
def RJ8 : String := "java/lang/Record"
abbrev cJ8_init : ByteArray := prog_47_method_1_code
def yJ8_init : MethodName := ⟨RJ8, "<init>", "()V"⟩
theorem dJ8_init_0 : decode cJ8_init 0 = .ok (.aload_n 0, 1) := by decide +kernel
theorem dJ8_init_1 : decode cJ8_init 1 = .ok (.invokespecial 1, 3) := by decide +kernel
theorem dJ8_init_4 : decode cJ8_init 4 = .ok (.return_, 1) := by decide +kernel
theorem q99 : (Jvm.Cond.initialized "java/lang/Record") ∈ lw_all := lw_g (lw_at lw_m1 13 rfl) rfl
theorem q388 : (Jvm.Cond.instanceMethod ({ cls := "java/lang/Record", name := "<init>", desc := "()V" } : Jvm.MethodName)) ∈ lw_all := lw_g (lw_at lw_m2 62 rfl) rfl
theorem q389 : (Jvm.Cond.code ({ cls := "java/lang/Record", name := "<init>", desc := "()V" } : Jvm.MethodName) prog_47_method_1_code (1 : Nat) (Option.none : Option Jvm.ClassFile.FieldType)) ∈ lw_all := lw_g (lw_at lw_m2 63 rfl) rfl
theorem q390 : (Jvm.Cond.methodLink "java/lang/Record" (1 : Nat) ({ cls := "java/lang/Object", name := "<init>", desc := "()V" } : Jvm.MethodName)) ∈ lw_all := lw_g (lw_at lw_m2 64 rfl) rfl

end
section
/-! java/lang/Number -/
set_option maxRecDepth 100000
def RJ9 : String := "java/lang/Number"
abbrev cJ9_init : ByteArray := prog_46_method_1_code
def yJ9_init : MethodName := ⟨RJ9, "<init>", "()V"⟩
theorem dJ9_init_0 : decode cJ9_init 0 = .ok (.aload_n 0, 1) := by decide +kernel
theorem dJ9_init_1 : decode cJ9_init 1 = .ok (.invokespecial 1, 3) := by decide +kernel
theorem dJ9_init_4 : decode cJ9_init 4 = .ok (.return_, 1) := by decide +kernel
theorem q103 : (Jvm.Cond.initialized "java/lang/Number") ∈ lw_all := lw_g (lw_at lw_m1 17 rfl) rfl
theorem q2491 : (Jvm.Cond.instanceMethod ({ cls := "java/lang/Number", name := "<init>", desc := "()V" } : Jvm.MethodName)) ∈ lw_all := lw_g (lw_at lw_m11 5 rfl) rfl
theorem q2492 : (Jvm.Cond.code ({ cls := "java/lang/Number", name := "<init>", desc := "()V" } : Jvm.MethodName) prog_46_method_1_code (1 : Nat) (Option.none : Option Jvm.ClassFile.FieldType)) ∈ lw_all := lw_g (lw_at lw_m11 6 rfl) rfl
theorem q2493 : (Jvm.Cond.methodLink "java/lang/Number" (1 : Nat) ({ cls := "java/lang/Object", name := "<init>", desc := "()V" } : Jvm.MethodName)) ∈ lw_all := lw_g (lw_at lw_m11 7 rfl) rfl

end
section
/-! java/lang/Integer -/
set_option maxRecDepth 100000
def RJ10 : String := "java/lang/Integer"
def TJ10 : u_T := fun k => match k with
  | _ => ("java/lang/Integer", "value", "I", true)
def tyJ10 : Nat → FieldType := fun k => match k with
  | _ => .int
abbrev wsJ100 : List Cond := u_ws RJ10 TJ10 1
theorem nmJ10 : ∀ a, a < 1 → ∀ b, b < 1 → a ≠ b → (TJ10 a).2.1 ≠ (TJ10 b).2.1 := by decide +kernel
theorem tyJ10_ok : ∀ k, k < 1 → parseFieldDescriptor (TJ10 k).2.2.1 = some (tyJ10 k) := by decide +kernel
abbrev cJ10_bitCount : ByteArray := prog_41_method_49_code
def yJ10_bitCount : MethodName := ⟨RJ10, "bitCount", "(I)I"⟩
def dkwJ10_bitCount_2 : List UInt8 := [26, 16, 63, 126, 172]
abbrev dktJ10_bitCount_2 : List UInt8 := dkwJ10_bitCount_2 ++ []
def dkwJ10_bitCount_1 : List UInt8 := [26, 26, 7, 124, 96, 19, 1, 11, 126, 59, 26, 26, 16, 8, 124, 96, 59, 26, 26, 16, 16, 124, 96, 59]
abbrev dktJ10_bitCount_1 : List UInt8 := dkwJ10_bitCount_1 ++ dktJ10_bitCount_2
def dkwJ10_bitCount_0 : List UInt8 := [26, 26, 4, 124, 19, 1, 9, 126, 100, 59, 26, 19, 1, 10, 126, 26, 5, 124, 19, 1, 10, 126, 96, 59]
abbrev dktJ10_bitCount_0 : List UInt8 := dkwJ10_bitCount_0 ++ dktJ10_bitCount_1
theorem dksJ10_bitCount_0 : cJ10_bitCount.data.toList.drop 0 = dktJ10_bitCount_0 := by decide +kernel
theorem dksJ10_bitCount_1 : cJ10_bitCount.data.toList.drop 24 = dktJ10_bitCount_1 := dk_seg dksJ10_bitCount_0 24 rfl rfl
theorem dksJ10_bitCount_2 : cJ10_bitCount.data.toList.drop 48 = dktJ10_bitCount_2 := dk_seg dksJ10_bitCount_1 24 rfl rfl
theorem dJ10_bitCount_0 : decode cJ10_bitCount 0 = .ok (.iload_n 0, 1) := dk_26 (dk_at dksJ10_bitCount_0 0 rfl rfl)
theorem dJ10_bitCount_1 : decode cJ10_bitCount 1 = .ok (.iload_n 0, 1) := dk_26 (dk_at dksJ10_bitCount_0 1 rfl rfl)
theorem dJ10_bitCount_2 : decode cJ10_bitCount 2 = .ok (.iconst 1, 1) := dk_4 (dk_at dksJ10_bitCount_0 2 rfl rfl)
theorem dJ10_bitCount_3 : decode cJ10_bitCount 3 = .ok (.iushr, 1) := dk_124 (dk_at dksJ10_bitCount_0 3 rfl rfl)
theorem dJ10_bitCount_4 : decode cJ10_bitCount 4 = .ok (.ldc_w 265, 3) := dk_19 1 9 (dk_at dksJ10_bitCount_0 4 rfl rfl)
theorem dJ10_bitCount_7 : decode cJ10_bitCount 7 = .ok (.iand, 1) := dk_126 (dk_at dksJ10_bitCount_0 7 rfl rfl)
theorem dJ10_bitCount_8 : decode cJ10_bitCount 8 = .ok (.isub, 1) := dk_100 (dk_at dksJ10_bitCount_0 8 rfl rfl)
theorem dJ10_bitCount_9 : decode cJ10_bitCount 9 = .ok (.istore_n 0, 1) := dk_59 (dk_at dksJ10_bitCount_0 9 rfl rfl)
theorem dJ10_bitCount_10 : decode cJ10_bitCount 10 = .ok (.iload_n 0, 1) := dk_26 (dk_at dksJ10_bitCount_0 10 rfl rfl)
theorem dJ10_bitCount_11 : decode cJ10_bitCount 11 = .ok (.ldc_w 266, 3) := dk_19 1 10 (dk_at dksJ10_bitCount_0 11 rfl rfl)
theorem dJ10_bitCount_14 : decode cJ10_bitCount 14 = .ok (.iand, 1) := dk_126 (dk_at dksJ10_bitCount_0 14 rfl rfl)
theorem dJ10_bitCount_15 : decode cJ10_bitCount 15 = .ok (.iload_n 0, 1) := dk_26 (dk_at dksJ10_bitCount_0 15 rfl rfl)
theorem dJ10_bitCount_16 : decode cJ10_bitCount 16 = .ok (.iconst 2, 1) := dk_5 (dk_at dksJ10_bitCount_0 16 rfl rfl)
theorem dJ10_bitCount_17 : decode cJ10_bitCount 17 = .ok (.iushr, 1) := dk_124 (dk_at dksJ10_bitCount_0 17 rfl rfl)
theorem dJ10_bitCount_18 : decode cJ10_bitCount 18 = .ok (.ldc_w 266, 3) := dk_19 1 10 (dk_at dksJ10_bitCount_0 18 rfl rfl)
theorem dJ10_bitCount_21 : decode cJ10_bitCount 21 = .ok (.iand, 1) := dk_126 (dk_at dksJ10_bitCount_0 21 rfl rfl)
theorem dJ10_bitCount_22 : decode cJ10_bitCount 22 = .ok (.iadd, 1) := dk_96 (dk_at dksJ10_bitCount_0 22 rfl rfl)
theorem dJ10_bitCount_23 : decode cJ10_bitCount 23 = .ok (.istore_n 0, 1) := dk_59 (dk_at dksJ10_bitCount_0 23 rfl rfl)
theorem dJ10_bitCount_24 : decode cJ10_bitCount 24 = .ok (.iload_n 0, 1) := dk_26 (dk_at dksJ10_bitCount_1 0 rfl rfl)
theorem dJ10_bitCount_25 : decode cJ10_bitCount 25 = .ok (.iload_n 0, 1) := dk_26 (dk_at dksJ10_bitCount_1 1 rfl rfl)
theorem dJ10_bitCount_26 : decode cJ10_bitCount 26 = .ok (.iconst 4, 1) := dk_7 (dk_at dksJ10_bitCount_1 2 rfl rfl)
theorem dJ10_bitCount_27 : decode cJ10_bitCount 27 = .ok (.iushr, 1) := dk_124 (dk_at dksJ10_bitCount_1 3 rfl rfl)
theorem dJ10_bitCount_28 : decode cJ10_bitCount 28 = .ok (.iadd, 1) := dk_96 (dk_at dksJ10_bitCount_1 4 rfl rfl)
theorem dJ10_bitCount_29 : decode cJ10_bitCount 29 = .ok (.ldc_w 267, 3) := dk_19 1 11 (dk_at dksJ10_bitCount_1 5 rfl rfl)
theorem dJ10_bitCount_32 : decode cJ10_bitCount 32 = .ok (.iand, 1) := dk_126 (dk_at dksJ10_bitCount_1 8 rfl rfl)
theorem dJ10_bitCount_33 : decode cJ10_bitCount 33 = .ok (.istore_n 0, 1) := dk_59 (dk_at dksJ10_bitCount_1 9 rfl rfl)
theorem dJ10_bitCount_34 : decode cJ10_bitCount 34 = .ok (.iload_n 0, 1) := dk_26 (dk_at dksJ10_bitCount_1 10 rfl rfl)
theorem dJ10_bitCount_35 : decode cJ10_bitCount 35 = .ok (.iload_n 0, 1) := dk_26 (dk_at dksJ10_bitCount_1 11 rfl rfl)
theorem dJ10_bitCount_36 : decode cJ10_bitCount 36 = .ok (.bipush 8, 2) := dk_16 8 (dk_at dksJ10_bitCount_1 12 rfl rfl)
theorem dJ10_bitCount_38 : decode cJ10_bitCount 38 = .ok (.iushr, 1) := dk_124 (dk_at dksJ10_bitCount_1 14 rfl rfl)
theorem dJ10_bitCount_39 : decode cJ10_bitCount 39 = .ok (.iadd, 1) := dk_96 (dk_at dksJ10_bitCount_1 15 rfl rfl)
theorem dJ10_bitCount_40 : decode cJ10_bitCount 40 = .ok (.istore_n 0, 1) := dk_59 (dk_at dksJ10_bitCount_1 16 rfl rfl)
theorem dJ10_bitCount_41 : decode cJ10_bitCount 41 = .ok (.iload_n 0, 1) := dk_26 (dk_at dksJ10_bitCount_1 17 rfl rfl)
theorem dJ10_bitCount_42 : decode cJ10_bitCount 42 = .ok (.iload_n 0, 1) := dk_26 (dk_at dksJ10_bitCount_1 18 rfl rfl)
theorem dJ10_bitCount_43 : decode cJ10_bitCount 43 = .ok (.bipush 16, 2) := dk_16 16 (dk_at dksJ10_bitCount_1 19 rfl rfl)
theorem dJ10_bitCount_45 : decode cJ10_bitCount 45 = .ok (.iushr, 1) := dk_124 (dk_at dksJ10_bitCount_1 21 rfl rfl)
theorem dJ10_bitCount_46 : decode cJ10_bitCount 46 = .ok (.iadd, 1) := dk_96 (dk_at dksJ10_bitCount_1 22 rfl rfl)
theorem dJ10_bitCount_47 : decode cJ10_bitCount 47 = .ok (.istore_n 0, 1) := dk_59 (dk_at dksJ10_bitCount_1 23 rfl rfl)
theorem dJ10_bitCount_48 : decode cJ10_bitCount 48 = .ok (.iload_n 0, 1) := dk_26 (dk_at dksJ10_bitCount_2 0 rfl rfl)
theorem dJ10_bitCount_49 : decode cJ10_bitCount 49 = .ok (.bipush 63, 2) := dk_16 63 (dk_at dksJ10_bitCount_2 1 rfl rfl)
theorem dJ10_bitCount_51 : decode cJ10_bitCount 51 = .ok (.iand, 1) := dk_126 (dk_at dksJ10_bitCount_2 3 rfl rfl)
theorem dJ10_bitCount_52 : decode cJ10_bitCount 52 = .ok (.ireturn, 1) := dk_172 (dk_at dksJ10_bitCount_2 4 rfl rfl)
abbrev cJ10_compareTo : ByteArray := prog_41_method_63_code
def yJ10_compareTo : MethodName := ⟨RJ10, "compareTo", "(Ljava/lang/Object;)I"⟩
def dkwJ10_compareTo_0 : List UInt8 := [42, 43, 192, 0, 1, 182, 1, 28, 172]
abbrev dktJ10_compareTo_0 : List UInt8 := dkwJ10_compareTo_0 ++ []
theorem dksJ10_compareTo_0 : cJ10_compareTo.data.toList.drop 0 = dktJ10_compareTo_0 := by decide +kernel
theorem dJ10_compareTo_0 : decode cJ10_compareTo 0 = .ok (.aload_n 0, 1) := dk_42 (dk_at dksJ10_compareTo_0 0 rfl rfl)
theorem dJ10_compareTo_1 : decode cJ10_compareTo 1 = .ok (.aload_n 1, 1) := dk_43 (dk_at dksJ10_compareTo_0 1 rfl rfl)
theorem dJ10_compareTo_2 : decode cJ10_compareTo 2 = .ok (.checkcast 1, 3) := dk_192 0 1 (dk_at dksJ10_compareTo_0 2 rfl rfl)
theorem dJ10_compareTo_5 : decode cJ10_compareTo 5 = .ok (.invokevirtual 284, 3) := dk_182 1 28 (dk_at dksJ10_compareTo_0 5 rfl rfl)
theorem dJ10_compareTo_8 : decode cJ10_compareTo 8 = .ok (.ireturn, 1) := dk_172 (dk_at dksJ10_compareTo_0 8 rfl rfl)
abbrev cJ10_compareTo_2 : ByteArray := prog_41_method_39_code
def yJ10_compareTo_2 : MethodName := ⟨RJ10, "compareTo", "(Ljava/lang/Integer;)I"⟩
def dkwJ10_compareTo_2_0 : List UInt8 := [42, 180, 0, 205, 43, 180, 0, 205, 184, 1, 3, 172]
abbrev dktJ10_compareTo_2_0 : List UInt8 := dkwJ10_compareTo_2_0 ++ []
theorem dksJ10_compareTo_2_0 : cJ10_compareTo_2.data.toList.drop 0 = dktJ10_compareTo_2_0 := by decide +kernel
theorem dJ10_compareTo_2_0 : decode cJ10_compareTo_2 0 = .ok (.aload_n 0, 1) := dk_42 (dk_at dksJ10_compareTo_2_0 0 rfl rfl)
theorem dJ10_compareTo_2_1 : decode cJ10_compareTo_2 1 = .ok (.getfield 205, 3) := dk_180 0 205 (dk_at dksJ10_compareTo_2_0 1 rfl rfl)
theorem dJ10_compareTo_2_4 : decode cJ10_compareTo_2 4 = .ok (.aload_n 1, 1) := dk_43 (dk_at dksJ10_compareTo_2_0 4 rfl rfl)
theorem dJ10_compareTo_2_5 : decode cJ10_compareTo_2 5 = .ok (.getfield 205, 3) := dk_180 0 205 (dk_at dksJ10_compareTo_2_0 5 rfl rfl)
theorem dJ10_compareTo_2_8 : decode cJ10_compareTo_2 8 = .ok (.invokestatic 259, 3) := dk_184 1 3 (dk_at dksJ10_compareTo_2_0 8 rfl rfl)
theorem dJ10_compareTo_2_11 : decode cJ10_compareTo_2 11 = .ok (.ireturn, 1) := dk_172 (dk_at dksJ10_compareTo_2_0 11 rfl rfl)
abbrev cJ10_compare : ByteArray := prog_41_method_40_code
def yJ10_compare : MethodName := ⟨RJ10, "compare", "(II)I"⟩
def dkwJ10_compare_0 : List UInt8 := [26, 27, 162, 0, 7, 2, 167, 0, 13, 26, 27, 160, 0, 7, 3, 167, 0, 4, 4, 172]
abbrev dktJ10_compare_0 : List UInt8 := dkwJ10_compare_0 ++ []
theorem dksJ10_compare_0 : cJ10_compare.data.toList.drop 0 = dktJ10_compare_0 := by decide +kernel
theorem dJ10_compare_0 : decode cJ10_compare 0 = .ok (.iload_n 0, 1) := dk_26 (dk_at dksJ10_compare_0 0 rfl rfl)
theorem dJ10_compare_1 : decode cJ10_compare 1 = .ok (.iload_n 1, 1) := dk_27 (dk_at dksJ10_compare_0 1 rfl rfl)
theorem dJ10_compare_2 : decode cJ10_compare 2 = .ok (.if_icmp .ge 7, 3) := dk_162 0 7 (dk_at dksJ10_compare_0 2 rfl rfl)
theorem dJ10_compare_5 : decode cJ10_compare 5 = .ok (.iconst (-1), 1) := dk_2 (dk_at dksJ10_compare_0 5 rfl rfl)
theorem dJ10_compare_6 : decode cJ10_compare 6 = .ok (.goto 13, 3) := dk_167 0 13 (dk_at dksJ10_compare_0 6 rfl rfl)
theorem dJ10_compare_9 : decode cJ10_compare 9 = .ok (.iload_n 0, 1) := dk_26 (dk_at dksJ10_compare_0 9 rfl rfl)
theorem dJ10_compare_10 : decode cJ10_compare 10 = .ok (.iload_n 1, 1) := dk_27 (dk_at dksJ10_compare_0 10 rfl rfl)
theorem dJ10_compare_11 : decode cJ10_compare 11 = .ok (.if_icmp .ne 7, 3) := dk_160 0 7 (dk_at dksJ10_compare_0 11 rfl rfl)
theorem dJ10_compare_14 : decode cJ10_compare 14 = .ok (.iconst 0, 1) := dk_3 (dk_at dksJ10_compare_0 14 rfl rfl)
theorem dJ10_compare_15 : decode cJ10_compare 15 = .ok (.goto 4, 3) := dk_167 0 4 (dk_at dksJ10_compare_0 15 rfl rfl)
theorem dJ10_compare_18 : decode cJ10_compare 18 = .ok (.iconst 1, 1) := dk_4 (dk_at dksJ10_compare_0 18 rfl rfl)
theorem dJ10_compare_19 : decode cJ10_compare 19 = .ok (.ireturn, 1) := dk_172 (dk_at dksJ10_compare_0 19 rfl rfl)
abbrev cJ10_numberOfLeadingZeros : ByteArray := prog_41_method_47_code
def yJ10_numberOfLeadingZeros : MethodName := ⟨RJ10, "numberOfLeadingZeros", "(I)I"⟩
def dkwJ10_numberOfLeadingZeros_3 : List UInt8 := [5, 124, 59, 27, 26, 4, 124, 100, 172]
abbrev dktJ10_numberOfLeadingZeros_3 : List UInt8 := dkwJ10_numberOfLeadingZeros_3 ++ []
def dkwJ10_numberOfLeadingZeros_2 : List UInt8 := [124, 59, 26, 16, 16, 161, 0, 10, 132, 1, 252, 26, 7, 124, 59, 26, 7, 161, 0, 10, 132, 1, 254, 26]
abbrev dktJ10_numberOfLeadingZeros_2 : List UInt8 := dkwJ10_numberOfLeadingZeros_2 ++ dktJ10_numberOfLeadingZeros_3
def dkwJ10_numberOfLeadingZeros_1 : List UInt8 := [161, 0, 11, 132, 1, 240, 26, 16, 16, 124, 59, 26, 17, 1, 0, 161, 0, 11, 132, 1, 248, 26, 16, 8]
abbrev dktJ10_numberOfLeadingZeros_1 : List UInt8 := dkwJ10_numberOfLeadingZeros_1 ++ dktJ10_numberOfLeadingZeros_2
def dkwJ10_numberOfLeadingZeros_0 : List UInt8 := [26, 157, 0, 14, 26, 154, 0, 8, 16, 32, 167, 0, 4, 3, 172, 16, 31, 60, 26, 19, 1, 8]
abbrev dktJ10_numberOfLeadingZeros_0 : List UInt8 := dkwJ10_numberOfLeadingZeros_0 ++ dktJ10_numberOfLeadingZeros_1
theorem dksJ10_numberOfLeadingZeros_0 : cJ10_numberOfLeadingZeros.data.toList.drop 0 = dktJ10_numberOfLeadingZeros_0 := by decide +kernel
theorem dksJ10_numberOfLeadingZeros_1 : cJ10_numberOfLeadingZeros.data.toList.drop 22 = dktJ10_numberOfLeadingZeros_1 := dk_seg dksJ10_numberOfLeadingZeros_0 22 rfl rfl
theorem dksJ10_numberOfLeadingZeros_2 : cJ10_numberOfLeadingZeros.data.toList.drop 46 = dktJ10_numberOfLeadingZeros_2 := dk_seg dksJ10_numberOfLeadingZeros_1 24 rfl rfl
theorem dksJ10_numberOfLeadingZeros_3 : cJ10_numberOfLeadingZeros.data.toList.drop 70 = dktJ10_numberOfLeadingZeros_3 := dk_seg dksJ10_numberOfLeadingZeros_2 24 rfl rfl
theorem dJ10_numberOfLeadingZeros_0 : decode cJ10_numberOfLeadingZeros 0 = .ok (.iload_n 0, 1) := dk_26 (dk_at dksJ10_numberOfLeadingZeros_0 0 rfl rfl)
theorem dJ10_numberOfLeadingZeros_1 : decode cJ10_numberOfLeadingZeros 1 = .ok (.ifCond .gt 14, 3) := dk_157 0 14 (dk_at dksJ10_numberOfLeadingZeros_0 1 rfl rfl)
theorem dJ10_numberOfLeadingZeros_4 : decode cJ10_numberOfLeadingZeros 4 = .ok (.iload_n 0, 1) := dk_26 (dk_at dksJ10_numberOfLeadingZeros_0 4 rfl rfl)
theorem dJ10_numberOfLeadingZeros_5 : decode cJ10_numberOfLeadingZeros 5 = .ok (.ifCond .ne 8, 3) := dk_154 0 8 (dk_at dksJ10_numberOfLeadingZeros_0 5 rfl rfl)
theorem dJ10_numberOfLeadingZeros_8 : decode cJ10_numberOfLeadingZeros 8 = .ok (.bipush 32, 2) := dk_16 32 (dk_at dksJ10_numberOfLeadingZeros_0 8 rfl rfl)
theorem dJ10_numberOfLeadingZeros_10 : decode cJ10_numberOfLeadingZeros 10 = .ok (.goto 4, 3) := dk_167 0 4 (dk_at dksJ10_numberOfLeadingZeros_0 10 rfl rfl)
theorem dJ10_numberOfLeadingZeros_13 : decode cJ10_numberOfLeadingZeros 13 = .ok (.iconst 0, 1) := dk_3 (dk_at dksJ10_numberOfLeadingZeros_0 13 rfl rfl)
theorem dJ10_numberOfLeadingZeros_14 : decode cJ10_numberOfLeadingZeros 14 = .ok (.ireturn, 1) := dk_172 (dk_at dksJ10_numberOfLeadingZeros_0 14 rfl rfl)
theorem dJ10_numberOfLeadingZeros_15 : decode cJ10_numberOfLeadingZeros 15 = .ok (.bipush 31, 2) := dk_16 31 (dk_at dksJ10_numberOfLeadingZeros_0 15 rfl rfl)
theorem dJ10_numberOfLeadingZeros_17 : decode cJ10_numberOfLeadingZeros 17 = .ok (.istore_n 1, 1) := dk_60 (dk_at dksJ10_numberOfLeadingZeros_0 17 rfl rfl)
theorem dJ10_numberOfLeadingZeros_18 : decode cJ10_numberOfLeadingZeros 18 = .ok (.iload_n 0, 1) := dk_26 (dk_at dksJ10_numberOfLeadingZeros_0 18 rfl rfl)
theorem dJ10_numberOfLeadingZeros_19 : decode cJ10_numberOfLeadingZeros 19 = .ok (.ldc_w 264, 3) := dk_19 1 8 (dk_at dksJ10_numberOfLeadingZeros_0 19 rfl rfl)
theorem dJ10_numberOfLeadingZeros_22 : decode cJ10_numberOfLeadingZeros 22 = .ok (.if_icmp .lt 11, 3) := dk_161 0 11 (dk_at dksJ10_numberOfLeadingZeros_1 0 rfl rfl)
theorem dJ10_numberOfLeadingZeros_25 : decode cJ10_numberOfLeadingZeros 25 = .ok (.iinc 1 (-16), 3) := dk_132 1 240 (dk_at dksJ10_numberOfLeadingZeros_1 3 rfl rfl)
theorem dJ10_numberOfLeadingZeros_28 : decode cJ10_numberOfLeadingZeros 28 = .ok (.iload_n 0, 1) := dk_26 (dk_at dksJ10_numberOfLeadingZeros_1 6 rfl rfl)
theorem dJ10_numberOfLeadingZeros_29 : decode cJ10_numberOfLeadingZeros 29 = .ok (.bipush 16, 2) := dk_16 16 (dk_at dksJ10_numberOfLeadingZeros_1 7 rfl rfl)
theorem dJ10_numberOfLeadingZeros_31 : decode cJ10_numberOfLeadingZeros 31 = .ok (.iushr, 1) := dk_124 (dk_at dksJ10_numberOfLeadingZeros_1 9 rfl rfl)
theorem dJ10_numberOfLeadingZeros_32 : decode cJ10_numberOfLeadingZeros 32 = .ok (.istore_n 0, 1) := dk_59 (dk_at dksJ10_numberOfLeadingZeros_1 10 rfl rfl)
theorem dJ10_numberOfLeadingZeros_33 : decode cJ10_numberOfLeadingZeros 33 = .ok (.iload_n 0, 1) := dk_26 (dk_at dksJ10_numberOfLeadingZeros_1 11 rfl rfl)
theorem dJ10_numberOfLeadingZeros_34 : decode cJ10_numberOfLeadingZeros 34 = .ok (.sipush 256, 3) := dk_17 1 0 (dk_at dksJ10_numberOfLeadingZeros_1 12 rfl rfl)
theorem dJ10_numberOfLeadingZeros_37 : decode cJ10_numberOfLeadingZeros 37 = .ok (.if_icmp .lt 11, 3) := dk_161 0 11 (dk_at dksJ10_numberOfLeadingZeros_1 15 rfl rfl)
theorem dJ10_numberOfLeadingZeros_40 : decode cJ10_numberOfLeadingZeros 40 = .ok (.iinc 1 (-8), 3) := dk_132 1 248 (dk_at dksJ10_numberOfLeadingZeros_1 18 rfl rfl)
theorem dJ10_numberOfLeadingZeros_43 : decode cJ10_numberOfLeadingZeros 43 = .ok (.iload_n 0, 1) := dk_26 (dk_at dksJ10_numberOfLeadingZeros_1 21 rfl rfl)
theorem dJ10_numberOfLeadingZeros_44 : decode cJ10_numberOfLeadingZeros 44 = .ok (.bipush 8, 2) := dk_16 8 (dk_at dksJ10_numberOfLeadingZeros_1 22 rfl rfl)
theorem dJ10_numberOfLeadingZeros_46 : decode cJ10_numberOfLeadingZeros 46 = .ok (.iushr, 1) := dk_124 (dk_at dksJ10_numberOfLeadingZeros_2 0 rfl rfl)
theorem dJ10_numberOfLeadingZeros_47 : decode cJ10_numberOfLeadingZeros 47 = .ok (.istore_n 0, 1) := dk_59 (dk_at dksJ10_numberOfLeadingZeros_2 1 rfl rfl)
theorem dJ10_numberOfLeadingZeros_48 : decode cJ10_numberOfLeadingZeros 48 = .ok (.iload_n 0, 1) := dk_26 (dk_at dksJ10_numberOfLeadingZeros_2 2 rfl rfl)
theorem dJ10_numberOfLeadingZeros_49 : decode cJ10_numberOfLeadingZeros 49 = .ok (.bipush 16, 2) := dk_16 16 (dk_at dksJ10_numberOfLeadingZeros_2 3 rfl rfl)
theorem dJ10_numberOfLeadingZeros_51 : decode cJ10_numberOfLeadingZeros 51 = .ok (.if_icmp .lt 10, 3) := dk_161 0 10 (dk_at dksJ10_numberOfLeadingZeros_2 5 rfl rfl)
theorem dJ10_numberOfLeadingZeros_54 : decode cJ10_numberOfLeadingZeros 54 = .ok (.iinc 1 (-4), 3) := dk_132 1 252 (dk_at dksJ10_numberOfLeadingZeros_2 8 rfl rfl)
theorem dJ10_numberOfLeadingZeros_57 : decode cJ10_numberOfLeadingZeros 57 = .ok (.iload_n 0, 1) := dk_26 (dk_at dksJ10_numberOfLeadingZeros_2 11 rfl rfl)
theorem dJ10_numberOfLeadingZeros_58 : decode cJ10_numberOfLeadingZeros 58 = .ok (.iconst 4, 1) := dk_7 (dk_at dksJ10_numberOfLeadingZeros_2 12 rfl rfl)
theorem dJ10_numberOfLeadingZeros_59 : decode cJ10_numberOfLeadingZeros 59 = .ok (.iushr, 1) := dk_124 (dk_at dksJ10_numberOfLeadingZeros_2 13 rfl rfl)
theorem dJ10_numberOfLeadingZeros_60 : decode cJ10_numberOfLeadingZeros 60 = .ok (.istore_n 0, 1) := dk_59 (dk_at dksJ10_numberOfLeadingZeros_2 14 rfl rfl)
theorem dJ10_numberOfLeadingZeros_61 : decode cJ10_numberOfLeadingZeros 61 = .ok (.iload_n 0, 1) := dk_26 (dk_at dksJ10_numberOfLeadingZeros_2 15 rfl rfl)
theorem dJ10_numberOfLeadingZeros_62 : decode cJ10_numberOfLeadingZeros 62 = .ok (.iconst 4, 1) := dk_7 (dk_at dksJ10_numberOfLeadingZeros_2 16 rfl rfl)
theorem dJ10_numberOfLeadingZeros_63 : decode cJ10_numberOfLeadingZeros 63 = .ok (.if_icmp .lt 10, 3) := dk_161 0 10 (dk_at dksJ10_numberOfLeadingZeros_2 17 rfl rfl)
theorem dJ10_numberOfLeadingZeros_66 : decode cJ10_numberOfLeadingZeros 66 = .ok (.iinc 1 (-2), 3) := dk_132 1 254 (dk_at dksJ10_numberOfLeadingZeros_2 20 rfl rfl)
theorem dJ10_numberOfLeadingZeros_69 : decode cJ10_numberOfLeadingZeros 69 = .ok (.iload_n 0, 1) := dk_26 (dk_at dksJ10_numberOfLeadingZeros_2 23 rfl rfl)
theorem dJ10_numberOfLeadingZeros_70 : decode cJ10_numberOfLeadingZeros 70 = .ok (.iconst 2, 1) := dk_5 (dk_at dksJ10_numberOfLeadingZeros_3 0 rfl rfl)
theorem dJ10_numberOfLeadingZeros_71 : decode cJ10_numberOfLeadingZeros 71 = .ok (.iushr, 1) := dk_124 (dk_at dksJ10_numberOfLeadingZeros_3 1 rfl rfl)
theorem dJ10_numberOfLeadingZeros_72 : decode cJ10_numberOfLeadingZeros 72 = .ok (.istore_n 0, 1) := dk_59 (dk_at dksJ10_numberOfLeadingZeros_3 2 rfl rfl)
theorem dJ10_numberOfLeadingZeros_73 : decode cJ10_numberOfLeadingZeros 73 = .ok (.iload_n 1, 1) := dk_27 (dk_at dksJ10_numberOfLeadingZeros_3 3 rfl rfl)
theorem dJ10_numberOfLeadingZeros_74 : decode cJ10_numberOfLeadingZeros 74 = .ok (.iload_n 0, 1) := dk_26 (dk_at dksJ10_numberOfLeadingZeros_3 4 rfl rfl)
theorem dJ10_numberOfLeadingZeros_75 : decode cJ10_numberOfLeadingZeros 75 = .ok (.iconst 1, 1) := dk_4 (dk_at dksJ10_numberOfLeadingZeros_3 5 rfl rfl)
theorem dJ10_numberOfLeadingZeros_76 : decode cJ10_numberOfLeadingZeros 76 = .ok (.iushr, 1) := dk_124 (dk_at dksJ10_numberOfLeadingZeros_3 6 rfl rfl)
theorem dJ10_numberOfLeadingZeros_77 : decode cJ10_numberOfLeadingZeros 77 = .ok (.isub, 1) := dk_100 (dk_at dksJ10_numberOfLeadingZeros_3 7 rfl rfl)
theorem dJ10_numberOfLeadingZeros_78 : decode cJ10_numberOfLeadingZeros 78 = .ok (.ireturn, 1) := dk_172 (dk_at dksJ10_numberOfLeadingZeros_3 8 rfl rfl)
abbrev cJ10_numberOfTrailingZeros : ByteArray := prog_41_method_48_code
def yJ10_numberOfTrailingZeros : MethodName := ⟨RJ10, "numberOfTrailingZeros", "(I)I"⟩
def dkwJ10_numberOfTrailingZeros_3 : List UInt8 := [5, 124, 59, 27, 26, 4, 124, 96, 172]
abbrev dktJ10_numberOfTrailingZeros_3 : List UInt8 := dkwJ10_numberOfTrailingZeros_3 ++ []
def dkwJ10_numberOfTrailingZeros_2 : List UInt8 := [124, 59, 26, 16, 16, 164, 0, 10, 132, 1, 4, 26, 7, 124, 59, 26, 7, 164, 0, 10, 132, 1, 2, 26]
abbrev dktJ10_numberOfTrailingZeros_2 : List UInt8 := dkwJ10_numberOfTrailingZeros_2 ++ dktJ10_numberOfTrailingZeros_3
def dkwJ10_numberOfTrailingZeros_1 : List UInt8 := [164, 0, 11, 132, 1, 16, 26, 16, 16, 124, 59, 26, 17, 1, 0, 164, 0, 11, 132, 1, 8, 26, 16, 8]
abbrev dktJ10_numberOfTrailingZeros_1 : List UInt8 := dkwJ10_numberOfTrailingZeros_1 ++ dktJ10_numberOfTrailingZeros_2
def dkwJ10_numberOfTrailingZeros_0 : List UInt8 := [26, 2, 130, 26, 4, 100, 126, 59, 26, 157, 0, 8, 26, 16, 32, 126, 172, 4, 60, 26, 19, 1, 8]
abbrev dktJ10_numberOfTrailingZeros_0 : List UInt8 := dkwJ10_numberOfTrailingZeros_0 ++ dktJ10_numberOfTrailingZeros_1
theorem dksJ10_numberOfTrailingZeros_0 : cJ10_numberOfTrailingZeros.data.toList.drop 0 = dktJ10_numberOfTrailingZeros_0 := by decide +kernel
theorem dksJ10_numberOfTrailingZeros_1 : cJ10_numberOfTrailingZeros.data.toList.drop 23 = dktJ10_numberOfTrailingZeros_1 := dk_seg dksJ10_numberOfTrailingZeros_0 23 rfl rfl
theorem dksJ10_numberOfTrailingZeros_2 : cJ10_numberOfTrailingZeros.data.toList.drop 47 = dktJ10_numberOfTrailingZeros_2 := dk_seg dksJ10_numberOfTrailingZeros_1 24 rfl rfl
theorem dksJ10_numberOfTrailingZeros_3 : cJ10_numberOfTrailingZeros.data.toList.drop 71 = dktJ10_numberOfTrailingZeros_3 := dk_seg dksJ10_numberOfTrailingZeros_2 24 rfl rfl
theorem dJ10_numberOfTrailingZeros_0 : decode cJ10_numberOfTrailingZeros 0 = .ok (.iload_n 0, 1) := dk_26 (dk_at dksJ10_numberOfTrailingZeros_0 0 rfl rfl)
theorem dJ10_numberOfTrailingZeros_1 : decode cJ10_numberOfTrailingZeros 1 = .ok (.iconst (-1), 1) := dk_2 (dk_at dksJ10_numberOfTrailingZeros_0 1 rfl rfl)
theorem dJ10_numberOfTrailingZeros_2 : decode cJ10_numberOfTrailingZeros 2 = .ok (.ixor, 1) := dk_130 (dk_at dksJ10_numberOfTrailingZeros_0 2 rfl rfl)
theorem dJ10_numberOfTrailingZeros_3 : decode cJ10_numberOfTrailingZeros 3 = .ok (.iload_n 0, 1) := dk_26 (dk_at dksJ10_numberOfTrailingZeros_0 3 rfl rfl)
theorem dJ10_numberOfTrailingZeros_4 : decode cJ10_numberOfTrailingZeros 4 = .ok (.iconst 1, 1) := dk_4 (dk_at dksJ10_numberOfTrailingZeros_0 4 rfl rfl)
theorem dJ10_numberOfTrailingZeros_5 : decode cJ10_numberOfTrailingZeros 5 = .ok (.isub, 1) := dk_100 (dk_at dksJ10_numberOfTrailingZeros_0 5 rfl rfl)
theorem dJ10_numberOfTrailingZeros_6 : decode cJ10_numberOfTrailingZeros 6 = .ok (.iand, 1) := dk_126 (dk_at dksJ10_numberOfTrailingZeros_0 6 rfl rfl)
theorem dJ10_numberOfTrailingZeros_7 : decode cJ10_numberOfTrailingZeros 7 = .ok (.istore_n 0, 1) := dk_59 (dk_at dksJ10_numberOfTrailingZeros_0 7 rfl rfl)
theorem dJ10_numberOfTrailingZeros_8 : decode cJ10_numberOfTrailingZeros 8 = .ok (.iload_n 0, 1) := dk_26 (dk_at dksJ10_numberOfTrailingZeros_0 8 rfl rfl)
theorem dJ10_numberOfTrailingZeros_9 : decode cJ10_numberOfTrailingZeros 9 = .ok (.ifCond .gt 8, 3) := dk_157 0 8 (dk_at dksJ10_numberOfTrailingZeros_0 9 rfl rfl)
theorem dJ10_numberOfTrailingZeros_12 : decode cJ10_numberOfTrailingZeros 12 = .ok (.iload_n 0, 1) := dk_26 (dk_at dksJ10_numberOfTrailingZeros_0 12 rfl rfl)
theorem dJ10_numberOfTrailingZeros_13 : decode cJ10_numberOfTrailingZeros 13 = .ok (.bipush 32, 2) := dk_16 32 (dk_at dksJ10_numberOfTrailingZeros_0 13 rfl rfl)
theorem dJ10_numberOfTrailingZeros_15 : decode cJ10_numberOfTrailingZeros 15 = .ok (.iand, 1) := dk_126 (dk_at dksJ10_numberOfTrailingZeros_0 15 rfl rfl)
theorem dJ10_numberOfTrailingZeros_16 : decode cJ10_numberOfTrailingZeros 16 = .ok (.ireturn, 1) := dk_172 (dk_at dksJ10_numberOfTrailingZeros_0 16 rfl rfl)
theorem dJ10_numberOfTrailingZeros_17 : decode cJ10_numberOfTrailingZeros 17 = .ok (.iconst 1, 1) := dk_4 (dk_at dksJ10_numberOfTrailingZeros_0 17 rfl rfl)
theorem dJ10_numberOfTrailingZeros_18 : decode cJ10_numberOfTrailingZeros 18 = .ok (.istore_n 1, 1) := dk_60 (dk_at dksJ10_numberOfTrailingZeros_0 18 rfl rfl)
theorem dJ10_numberOfTrailingZeros_19 : decode cJ10_numberOfTrailingZeros 19 = .ok (.iload_n 0, 1) := dk_26 (dk_at dksJ10_numberOfTrailingZeros_0 19 rfl rfl)
theorem dJ10_numberOfTrailingZeros_20 : decode cJ10_numberOfTrailingZeros 20 = .ok (.ldc_w 264, 3) := dk_19 1 8 (dk_at dksJ10_numberOfTrailingZeros_0 20 rfl rfl)
theorem dJ10_numberOfTrailingZeros_23 : decode cJ10_numberOfTrailingZeros 23 = .ok (.if_icmp .le 11, 3) := dk_164 0 11 (dk_at dksJ10_numberOfTrailingZeros_1 0 rfl rfl)
theorem dJ10_numberOfTrailingZeros_26 : decode cJ10_numberOfTrailingZeros 26 = .ok (.iinc 1 16, 3) := dk_132 1 16 (dk_at dksJ10_numberOfTrailingZeros_1 3 rfl rfl)
theorem dJ10_numberOfTrailingZeros_29 : decode cJ10_numberOfTrailingZeros 29 = .ok (.iload_n 0, 1) := dk_26 (dk_at dksJ10_numberOfTrailingZeros_1 6 rfl rfl)
theorem dJ10_numberOfTrailingZeros_30 : decode cJ10_numberOfTrailingZeros 30 = .ok (.bipush 16, 2) := dk_16 16 (dk_at dksJ10_numberOfTrailingZeros_1 7 rfl rfl)
theorem dJ10_numberOfTrailingZeros_32 : decode cJ10_numberOfTrailingZeros 32 = .ok (.iushr, 1) := dk_124 (dk_at dksJ10_numberOfTrailingZeros_1 9 rfl rfl)
theorem dJ10_numberOfTrailingZeros_33 : decode cJ10_numberOfTrailingZeros 33 = .ok (.istore_n 0, 1) := dk_59 (dk_at dksJ10_numberOfTrailingZeros_1 10 rfl rfl)
theorem dJ10_numberOfTrailingZeros_34 : decode cJ10_numberOfTrailingZeros 34 = .ok (.iload_n 0, 1) := dk_26 (dk_at dksJ10_numberOfTrailingZeros_1 11 rfl rfl)
theorem dJ10_numberOfTrailingZeros_35 : decode cJ10_numberOfTrailingZeros 35 = .ok (.sipush 256, 3) := dk_17 1 0 (dk_at dksJ10_numberOfTrailingZeros_1 12 rfl rfl)
theorem dJ10_numberOfTrailingZeros_38 : decode cJ10_numberOfTrailingZeros 38 = .ok (.if_icmp .le 11, 3) := dk_164 0 11 (dk_at dksJ10_numberOfTrailingZeros_1 15 rfl rfl)
theorem dJ10_numberOfTrailingZeros_41 : decode cJ10_numberOfTrailingZeros 41 = .ok (.iinc 1 8, 3) := dk_132 1 8 (dk_at dksJ10_numberOfTrailingZeros_1 18 rfl rfl)
theorem dJ10_numberOfTrailingZeros_44 : decode cJ10_numberOfTrailingZeros 44 = .ok (.iload_n 0, 1) := dk_26 (dk_at dksJ10_numberOfTrailingZeros_1 21 rfl rfl)
theorem dJ10_numberOfTrailingZeros_45 : decode cJ10_numberOfTrailingZeros 45 = .ok (.bipush 8, 2) := dk_16 8 (dk_at dksJ10_numberOfTrailingZeros_1 22 rfl rfl)
theorem dJ10_numberOfTrailingZeros_47 : decode cJ10_numberOfTrailingZeros 47 = .ok (.iushr, 1) := dk_124 (dk_at dksJ10_numberOfTrailingZeros_2 0 rfl rfl)
theorem dJ10_numberOfTrailingZeros_48 : decode cJ10_numberOfTrailingZeros 48 = .ok (.istore_n 0, 1) := dk_59 (dk_at dksJ10_numberOfTrailingZeros_2 1 rfl rfl)
theorem dJ10_numberOfTrailingZeros_49 : decode cJ10_numberOfTrailingZeros 49 = .ok (.iload_n 0, 1) := dk_26 (dk_at dksJ10_numberOfTrailingZeros_2 2 rfl rfl)
theorem dJ10_numberOfTrailingZeros_50 : decode cJ10_numberOfTrailingZeros 50 = .ok (.bipush 16, 2) := dk_16 16 (dk_at dksJ10_numberOfTrailingZeros_2 3 rfl rfl)
theorem dJ10_numberOfTrailingZeros_52 : decode cJ10_numberOfTrailingZeros 52 = .ok (.if_icmp .le 10, 3) := dk_164 0 10 (dk_at dksJ10_numberOfTrailingZeros_2 5 rfl rfl)
theorem dJ10_numberOfTrailingZeros_55 : decode cJ10_numberOfTrailingZeros 55 = .ok (.iinc 1 4, 3) := dk_132 1 4 (dk_at dksJ10_numberOfTrailingZeros_2 8 rfl rfl)
theorem dJ10_numberOfTrailingZeros_58 : decode cJ10_numberOfTrailingZeros 58 = .ok (.iload_n 0, 1) := dk_26 (dk_at dksJ10_numberOfTrailingZeros_2 11 rfl rfl)
theorem dJ10_numberOfTrailingZeros_59 : decode cJ10_numberOfTrailingZeros 59 = .ok (.iconst 4, 1) := dk_7 (dk_at dksJ10_numberOfTrailingZeros_2 12 rfl rfl)
theorem dJ10_numberOfTrailingZeros_60 : decode cJ10_numberOfTrailingZeros 60 = .ok (.iushr, 1) := dk_124 (dk_at dksJ10_numberOfTrailingZeros_2 13 rfl rfl)
theorem dJ10_numberOfTrailingZeros_61 : decode cJ10_numberOfTrailingZeros 61 = .ok (.istore_n 0, 1) := dk_59 (dk_at dksJ10_numberOfTrailingZeros_2 14 rfl rfl)
theorem dJ10_numberOfTrailingZeros_62 : decode cJ10_numberOfTrailingZeros 62 = .ok (.iload_n 0, 1) := dk_26 (dk_at dksJ10_numberOfTrailingZeros_2 15 rfl rfl)
theorem dJ10_numberOfTrailingZeros_63 : decode cJ10_numberOfTrailingZeros 63 = .ok (.iconst 4, 1) := dk_7 (dk_at dksJ10_numberOfTrailingZeros_2 16 rfl rfl)
theorem dJ10_numberOfTrailingZeros_64 : decode cJ10_numberOfTrailingZeros 64 = .ok (.if_icmp .le 10, 3) := dk_164 0 10 (dk_at dksJ10_numberOfTrailingZeros_2 17 rfl rfl)
theorem dJ10_numberOfTrailingZeros_67 : decode cJ10_numberOfTrailingZeros 67 = .ok (.iinc 1 2, 3) := dk_132 1 2 (dk_at dksJ10_numberOfTrailingZeros_2 20 rfl rfl)
theorem dJ10_numberOfTrailingZeros_70 : decode cJ10_numberOfTrailingZeros 70 = .ok (.iload_n 0, 1) := dk_26 (dk_at dksJ10_numberOfTrailingZeros_2 23 rfl rfl)
theorem dJ10_numberOfTrailingZeros_71 : decode cJ10_numberOfTrailingZeros 71 = .ok (.iconst 2, 1) := dk_5 (dk_at dksJ10_numberOfTrailingZeros_3 0 rfl rfl)
theorem dJ10_numberOfTrailingZeros_72 : decode cJ10_numberOfTrailingZeros 72 = .ok (.iushr, 1) := dk_124 (dk_at dksJ10_numberOfTrailingZeros_3 1 rfl rfl)
theorem dJ10_numberOfTrailingZeros_73 : decode cJ10_numberOfTrailingZeros 73 = .ok (.istore_n 0, 1) := dk_59 (dk_at dksJ10_numberOfTrailingZeros_3 2 rfl rfl)
theorem dJ10_numberOfTrailingZeros_74 : decode cJ10_numberOfTrailingZeros 74 = .ok (.iload_n 1, 1) := dk_27 (dk_at dksJ10_numberOfTrailingZeros_3 3 rfl rfl)
theorem dJ10_numberOfTrailingZeros_75 : decode cJ10_numberOfTrailingZeros 75 = .ok (.iload_n 0, 1) := dk_26 (dk_at dksJ10_numberOfTrailingZeros_3 4 rfl rfl)
theorem dJ10_numberOfTrailingZeros_76 : decode cJ10_numberOfTrailingZeros 76 = .ok (.iconst 1, 1) := dk_4 (dk_at dksJ10_numberOfTrailingZeros_3 5 rfl rfl)
theorem dJ10_numberOfTrailingZeros_77 : decode cJ10_numberOfTrailingZeros 77 = .ok (.iushr, 1) := dk_124 (dk_at dksJ10_numberOfTrailingZeros_3 6 rfl rfl)
theorem dJ10_numberOfTrailingZeros_78 : decode cJ10_numberOfTrailingZeros 78 = .ok (.iadd, 1) := dk_96 (dk_at dksJ10_numberOfTrailingZeros_3 7 rfl rfl)
theorem dJ10_numberOfTrailingZeros_79 : decode cJ10_numberOfTrailingZeros 79 = .ok (.ireturn, 1) := dk_172 (dk_at dksJ10_numberOfTrailingZeros_3 8 rfl rfl)
abbrev cJ10_valueOf : ByteArray := prog_41_method_22_code
def yJ10_valueOf : MethodName := ⟨RJ10, "valueOf", "(I)Ljava/lang/Integer;"⟩
def dkwJ10_valueOf_1 : List UInt8 := [187, 0, 1, 89, 26, 183, 0, 199, 176]
abbrev dktJ10_valueOf_1 : List UInt8 := dkwJ10_valueOf_1 ++ []
def dkwJ10_valueOf_0 : List UInt8 := [26, 16, 128, 161, 0, 20, 26, 178, 0, 191, 163, 0, 13, 178, 0, 195, 26, 17, 0, 128, 96, 50, 176]
abbrev dktJ10_valueOf_0 : List UInt8 := dkwJ10_valueOf_0 ++ dktJ10_valueOf_1
theorem dksJ10_valueOf_0 : cJ10_valueOf.data.toList.drop 0 = dktJ10_valueOf_0 := by decide +kernel
theorem dksJ10_valueOf_1 : cJ10_valueOf.data.toList.drop 23 = dktJ10_valueOf_1 := dk_seg dksJ10_valueOf_0 23 rfl rfl
theorem dJ10_valueOf_0 : decode cJ10_valueOf 0 = .ok (.iload_n 0, 1) := dk_26 (dk_at dksJ10_valueOf_0 0 rfl rfl)
theorem dJ10_valueOf_1 : decode cJ10_valueOf 1 = .ok (.bipush (-128), 2) := dk_16 128 (dk_at dksJ10_valueOf_0 1 rfl rfl)
theorem dJ10_valueOf_3 : decode cJ10_valueOf 3 = .ok (.if_icmp .lt 20, 3) := dk_161 0 20 (dk_at dksJ10_valueOf_0 3 rfl rfl)
theorem dJ10_valueOf_6 : decode cJ10_valueOf 6 = .ok (.iload_n 0, 1) := dk_26 (dk_at dksJ10_valueOf_0 6 rfl rfl)
theorem dJ10_valueOf_7 : decode cJ10_valueOf 7 = .ok (.getstatic 191, 3) := dk_178 0 191 (dk_at dksJ10_valueOf_0 7 rfl rfl)
theorem dJ10_valueOf_10 : decode cJ10_valueOf 10 = .ok (.if_icmp .gt 13, 3) := dk_163 0 13 (dk_at dksJ10_valueOf_0 10 rfl rfl)
theorem dJ10_valueOf_13 : decode cJ10_valueOf 13 = .ok (.getstatic 195, 3) := dk_178 0 195 (dk_at dksJ10_valueOf_0 13 rfl rfl)
theorem dJ10_valueOf_16 : decode cJ10_valueOf 16 = .ok (.iload_n 0, 1) := dk_26 (dk_at dksJ10_valueOf_0 16 rfl rfl)
theorem dJ10_valueOf_17 : decode cJ10_valueOf 17 = .ok (.sipush 128, 3) := dk_17 0 128 (dk_at dksJ10_valueOf_0 17 rfl rfl)
theorem dJ10_valueOf_20 : decode cJ10_valueOf 20 = .ok (.iadd, 1) := dk_96 (dk_at dksJ10_valueOf_0 20 rfl rfl)
theorem dJ10_valueOf_21 : decode cJ10_valueOf 21 = .ok (.aaload, 1) := dk_50 (dk_at dksJ10_valueOf_0 21 rfl rfl)
theorem dJ10_valueOf_22 : decode cJ10_valueOf 22 = .ok (.areturn, 1) := dk_176 (dk_at dksJ10_valueOf_0 22 rfl rfl)
theorem dJ10_valueOf_23 : decode cJ10_valueOf 23 = .ok (.new 1, 3) := dk_187 0 1 (dk_at dksJ10_valueOf_1 0 rfl rfl)
theorem dJ10_valueOf_26 : decode cJ10_valueOf 26 = .ok (.dup, 1) := dk_89 (dk_at dksJ10_valueOf_1 3 rfl rfl)
theorem dJ10_valueOf_27 : decode cJ10_valueOf 27 = .ok (.iload_n 0, 1) := dk_26 (dk_at dksJ10_valueOf_1 4 rfl rfl)
theorem dJ10_valueOf_28 : decode cJ10_valueOf 28 = .ok (.invokespecial 199, 3) := dk_183 0 199 (dk_at dksJ10_valueOf_1 5 rfl rfl)
theorem dJ10_valueOf_31 : decode cJ10_valueOf 31 = .ok (.areturn, 1) := dk_176 (dk_at dksJ10_valueOf_1 8 rfl rfl)
abbrev cJ10_init : ByteArray := prog_41_method_23_code
def yJ10_init : MethodName := ⟨RJ10, "<init>", "(I)V"⟩
def dkwJ10_init_0 : List UInt8 := [42, 183, 0, 202, 42, 27, 181, 0, 205, 177]
abbrev dktJ10_init_0 : List UInt8 := dkwJ10_init_0 ++ []
theorem dksJ10_init_0 : cJ10_init.data.toList.drop 0 = dktJ10_init_0 := by decide +kernel
theorem dJ10_init_0 : decode cJ10_init 0 = .ok (.aload_n 0, 1) := dk_42 (dk_at dksJ10_init_0 0 rfl rfl)
theorem dJ10_init_1 : decode cJ10_init 1 = .ok (.invokespecial 202, 3) := dk_183 0 202 (dk_at dksJ10_init_0 1 rfl rfl)
theorem dJ10_init_4 : decode cJ10_init 4 = .ok (.aload_n 0, 1) := dk_42 (dk_at dksJ10_init_0 4 rfl rfl)
theorem dJ10_init_5 : decode cJ10_init 5 = .ok (.iload_n 1, 1) := dk_27 (dk_at dksJ10_init_0 5 rfl rfl)
theorem dJ10_init_6 : decode cJ10_init 6 = .ok (.putfield 205, 3) := dk_181 0 205 (dk_at dksJ10_init_0 6 rfl rfl)
theorem dJ10_init_9 : decode cJ10_init 9 = .ok (.return_, 1) := dk_177 (dk_at dksJ10_init_0 9 rfl rfl)
abbrev cJ10_intValue : ByteArray := prog_41_method_27_code
def yJ10_intValue : MethodName := ⟨RJ10, "intValue", "()I"⟩
theorem dJ10_intValue_0 : decode cJ10_intValue 0 = .ok (.aload_n 0, 1) := by decide +kernel
theorem dJ10_intValue_1 : decode cJ10_intValue 1 = .ok (.getfield 205, 3) := by decide +kernel
theorem dJ10_intValue_4 : decode cJ10_intValue 4 = .ok (.ireturn, 1) := by decide +kernel
theorem q104 : (Jvm.Cond.initialized "java/lang/Integer") ∈ lw_all := lw_g (lw_at lw_m1 18 rfl) rfl
theorem q621 : (Jvm.Cond.static ({ cls := "java/lang/Integer", name := "bitCount", desc := "(I)I" } : Jvm.MethodName)) ∈ lw_all := lw_g (lw_at lw_m3 55 rfl) rfl
theorem q622 : (Jvm.Cond.code ({ cls := "java/lang/Integer", name := "bitCount", desc := "(I)I" } : Jvm.MethodName) prog_41_method_49_code (1 : Nat) (Option.some Jvm.ClassFile.FieldType.int)) ∈ lw_all := lw_g (lw_at lw_m3 56 rfl) rfl
theorem q623 : (Jvm.Cond.constant "java/lang/Integer" (265 : Nat) (1431655765 : Int32)) ∈ lw_all := lw_g (lw_at lw_m3 57 rfl) rfl
theorem q624 : (Jvm.Cond.constant "java/lang/Integer" (266 : Nat) (858993459 : Int32)) ∈ lw_all := lw_g (lw_at lw_m3 58 rfl) rfl
theorem q625 : (Jvm.Cond.constant "java/lang/Integer" (267 : Nat) (252645135 : Int32)) ∈ lw_all := lw_g (lw_at lw_m3 59 rfl) rfl
theorem q728 : (Jvm.Cond.selects "java/lang/Integer" ({ cls := "java/lang/Object", name := "getClass", desc := "()Ljava/lang/Class;" } : Jvm.MethodName) ({ cls := "java/lang/Object", name := "getClass", desc := "()Ljava/lang/Class;" } : Jvm.MethodName)) ∈ lw_all := lw_g (lw_at lw_m3 162 rfl) rfl
theorem q2232 : (Jvm.Cond.castable "java/lang/Integer" "java/lang/Comparable") ∈ lw_tbl := lw_at lw_m9 226 rfl
theorem q2233 : (Jvm.Cond.selects "java/lang/Integer" ({ cls := "java/lang/Comparable", name := "compareTo", desc := "(Ljava/lang/Object;)I" } : Jvm.MethodName) ({ cls := "java/lang/Integer", name := "compareTo", desc := "(Ljava/lang/Object;)I" } : Jvm.MethodName)) ∈ lw_all := lw_g (lw_at lw_m9 227 rfl) rfl
theorem q2234 : (Jvm.Cond.unhidden "java/lang/Integer" "compareTo" "(Ljava/lang/Object;)I") ∈ lw_tbl := lw_at lw_m9 228 rfl
theorem q2235 : (Jvm.Cond.instanceMethod ({ cls := "java/lang/Integer", name := "compareTo", desc := "(Ljava/lang/Object;)I" } : Jvm.MethodName)) ∈ lw_all := lw_g (lw_at lw_m9 229 rfl) rfl
theorem q2236 : (Jvm.Cond.publicMethod ({ cls := "java/lang/Integer", name := "compareTo", desc := "(Ljava/lang/Object;)I" } : Jvm.MethodName)) ∈ lw_tbl := lw_at lw_m9 230 rfl
theorem q2237 : (Jvm.Cond.code ({ cls := "java/lang/Integer", name := "compareTo", desc := "(Ljava/lang/Object;)I" } : Jvm.MethodName) prog_41_method_63_code (2 : Nat) (Option.some Jvm.ClassFile.FieldType.int)) ∈ lw_all := lw_g (lw_at lw_m9 231 rfl) rfl
theorem q2238 : (Jvm.Cond.classLink "java/lang/Integer" (1 : Nat) "java/lang/Integer") ∈ lw_all := lw_g (lw_at lw_m9 232 rfl) rfl
theorem q2239 : (Jvm.Cond.methodLink "java/lang/Integer" (284 : Nat) ({ cls := "java/lang/Integer", name := "compareTo", desc := "(Ljava/lang/Integer;)I" } : Jvm.MethodName)) ∈ lw_all := lw_g (lw_at lw_m9 233 rfl) rfl
theorem q2240 : (Jvm.Cond.instanceMethod ({ cls := "java/lang/Integer", name := "compareTo", desc := "(Ljava/lang/Integer;)I" } : Jvm.MethodName)) ∈ lw_all := lw_g (lw_at lw_m9 234 rfl) rfl
theorem q2241 : (Jvm.Cond.selects "java/lang/Integer" ({ cls := "java/lang/Integer", name := "compareTo", desc := "(Ljava/lang/Integer;)I" } : Jvm.MethodName) ({ cls := "java/lang/Integer", name := "compareTo", desc := "(Ljava/lang/Integer;)I" } : Jvm.MethodName)) ∈ lw_all := lw_g (lw_at lw_m9 235 rfl) rfl
theorem q2242 : (Jvm.Cond.code ({ cls := "java/lang/Integer", name := "compareTo", desc := "(Ljava/lang/Integer;)I" } : Jvm.MethodName) prog_41_method_39_code (2 : Nat) (Option.some Jvm.ClassFile.FieldType.int)) ∈ lw_all := lw_g (lw_at lw_m9 236 rfl) rfl
theorem q2243 : (Jvm.Cond.methodLink "java/lang/Integer" (259 : Nat) ({ cls := "java/lang/Integer", name := "compare", desc := "(II)I" } : Jvm.MethodName)) ∈ lw_all := lw_g (lw_at lw_m9 237 rfl) rfl
theorem q2244 : (Jvm.Cond.static ({ cls := "java/lang/Integer", name := "compare", desc := "(II)I" } : Jvm.MethodName)) ∈ lw_all := lw_g (lw_at lw_m9 238 rfl) rfl
theorem q2245 : (Jvm.Cond.code ({ cls := "java/lang/Integer", name := "compare", desc := "(II)I" } : Jvm.MethodName) prog_41_method_40_code (2 : Nat) (Option.some Jvm.ClassFile.FieldType.int)) ∈ lw_all := lw_g (lw_at lw_m9 239 rfl) rfl
theorem q2335 : (Jvm.Cond.static ({ cls := "java/lang/Integer", name := "numberOfLeadingZeros", desc := "(I)I" } : Jvm.MethodName)) ∈ lw_all := lw_g (lw_at lw_m10 89 rfl) rfl
theorem q2336 : (Jvm.Cond.code ({ cls := "java/lang/Integer", name := "numberOfLeadingZeros", desc := "(I)I" } : Jvm.MethodName) prog_41_method_47_code (2 : Nat) (Option.some Jvm.ClassFile.FieldType.int)) ∈ lw_all := lw_g (lw_at lw_m10 90 rfl) rfl
theorem q2337 : (Jvm.Cond.constant "java/lang/Integer" (264 : Nat) (65536 : Int32)) ∈ lw_all := lw_g (lw_at lw_m10 91 rfl) rfl
theorem q2344 : (Jvm.Cond.static ({ cls := "java/lang/Integer", name := "numberOfTrailingZeros", desc := "(I)I" } : Jvm.MethodName)) ∈ lw_all := lw_g (lw_at lw_m10 98 rfl) rfl
theorem q2345 : (Jvm.Cond.code ({ cls := "java/lang/Integer", name := "numberOfTrailingZeros", desc := "(I)I" } : Jvm.MethodName) prog_41_method_48_code (2 : Nat) (Option.some Jvm.ClassFile.FieldType.int)) ∈ lw_all := lw_g (lw_at lw_m10 99 rfl) rfl
theorem q2480 : (Jvm.Cond.static ({ cls := "java/lang/Integer", name := "valueOf", desc := "(I)Ljava/lang/Integer;" } : Jvm.MethodName)) ∈ lw_all := lw_g (lw_at lw_m10 234 rfl) rfl
theorem q2481 : (Jvm.Cond.code ({ cls := "java/lang/Integer", name := "valueOf", desc := "(I)Ljava/lang/Integer;" } : Jvm.MethodName) prog_41_method_22_code (1 : Nat) (Option.some (Jvm.ClassFile.FieldType.object "java/lang/Integer"))) ∈ lw_all := lw_g (lw_at lw_m10 235 rfl) rfl
theorem q2482 : (Jvm.Cond.fieldLink "java/lang/Integer" (191 : Nat) "java/lang/Integer$IntegerCache" "high" "I") ∈ lw_all := lw_g (lw_at lw_m10 236 rfl) rfl
theorem q2484 : (Jvm.Cond.fieldLink "java/lang/Integer" (195 : Nat) "java/lang/Integer$IntegerCache" "cache" "[Ljava/lang/Integer;") ∈ lw_all := lw_g (lw_at lw_m10 238 rfl) rfl
theorem q2486 : (Jvm.Cond.instantiable "java/lang/Integer" (1 : Nat)) ∈ lw_all := lw_g (lw_at lw_m11 0 rfl) rfl
theorem q2487 : (Jvm.Cond.methodLink "java/lang/Integer" (199 : Nat) ({ cls := "java/lang/Integer", name := "<init>", desc := "(I)V" } : Jvm.MethodName)) ∈ lw_all := lw_g (lw_at lw_m11 1 rfl) rfl
theorem q2488 : (Jvm.Cond.instanceMethod ({ cls := "java/lang/Integer", name := "<init>", desc := "(I)V" } : Jvm.MethodName)) ∈ lw_all := lw_g (lw_at lw_m11 2 rfl) rfl
theorem q2489 : (Jvm.Cond.code ({ cls := "java/lang/Integer", name := "<init>", desc := "(I)V" } : Jvm.MethodName) prog_41_method_23_code (2 : Nat) (Option.none : Option Jvm.ClassFile.FieldType)) ∈ lw_all := lw_g (lw_at lw_m11 3 rfl) rfl
theorem q2490 : (Jvm.Cond.methodLink "java/lang/Integer" (202 : Nat) ({ cls := "java/lang/Number", name := "<init>", desc := "()V" } : Jvm.MethodName)) ∈ lw_all := lw_g (lw_at lw_m11 4 rfl) rfl
theorem q2494 : (Jvm.Cond.fieldLink "java/lang/Integer" (205 : Nat) "java/lang/Integer" "value" "I") ∈ lw_all := lw_g (lw_at lw_m11 8 rfl) rfl
theorem q2495 : (Jvm.Cond.laysFinal "java/lang/Integer" "java/lang/Integer" "value" "I") ∈ lw_all := lw_g (lw_at lw_m11 9 rfl) rfl
theorem q2496 : (Jvm.Cond.soleField "java/lang/Integer" "value") ∈ lw_all := lw_g (lw_at lw_m11 10 rfl) rfl
theorem q2497 : (Jvm.Cond.superclass "java/lang/Integer" "java/lang/Number") ∈ lw_all := lw_g (lw_at lw_m11 11 rfl) rfl
theorem q2520 : (Jvm.Cond.instanceMethod ({ cls := "java/lang/Integer", name := "intValue", desc := "()I" } : Jvm.MethodName)) ∈ lw_all := lw_g (lw_at lw_m11 34 rfl) rfl
theorem q2521 : (Jvm.Cond.selects "java/lang/Integer" ({ cls := "java/lang/Integer", name := "intValue", desc := "()I" } : Jvm.MethodName) ({ cls := "java/lang/Integer", name := "intValue", desc := "()I" } : Jvm.MethodName)) ∈ lw_all := lw_g (lw_at lw_m11 35 rfl) rfl
theorem q2522 : (Jvm.Cond.code ({ cls := "java/lang/Integer", name := "intValue", desc := "()I" } : Jvm.MethodName) prog_41_method_27_code (1 : Nat) (Option.some Jvm.ClassFile.FieldType.int)) ∈ lw_all := lw_g (lw_at lw_m11 36 rfl) rfl
theorem q3367 : (Jvm.Cond.castable "java/lang/Integer" "java/lang/Object") ∈ lw_tbl := lw_at lw_m14 161 rfl
theorem in_J10 : ∀ w ∈ wsJ100, w ∈ lw_all := lw_in wsJ100 [2495] (by decide +kernel) (by decide +kernel)

end
section
/-! java/util/Arrays -/
set_option maxRecDepth 100000
def RJ11 : String := "java/util/Arrays"
abbrev cJ11_copyOfRange : ByteArray := prog_66_method_130_code
def yJ11_copyOfRange : MethodName := ⟨RJ11, "copyOfRange", "([Ljava/lang/Object;IILjava/lang/Class;)[Ljava/lang/Object;"⟩
def dkwJ11_copyOfRange_3 : List UInt8 := [58, 5, 42, 27, 25, 5, 3, 42, 190, 27, 100, 21, 4, 184, 1, 48, 184, 0, 150, 25, 5, 176]
abbrev dktJ11_copyOfRange_3 : List UInt8 := dkwJ11_copyOfRange_3 ++ []
def dkwJ11_copyOfRange_2 : List UInt8 := [166, 0, 11, 21, 4, 189, 0, 2, 167, 0, 15, 45, 182, 0, 90, 21, 4, 184, 0, 95, 192, 0, 110]
abbrev dktJ11_copyOfRange_2 : List UInt8 := dkwJ11_copyOfRange_2 ++ dktJ11_copyOfRange_3
def dkwJ11_copyOfRange_1 : List UInt8 := [182, 0, 54, 19, 1, 81, 182, 0, 50, 28, 182, 0, 54, 182, 0, 61, 183, 0, 65, 191, 45, 18, 110]
abbrev dktJ11_copyOfRange_1 : List UInt8 := dkwJ11_copyOfRange_1 ++ dktJ11_copyOfRange_2
def dkwJ11_copyOfRange_0 : List UInt8 := [28, 27, 100, 54, 4, 21, 4, 156, 0, 35, 187, 0, 43, 89, 187, 0, 45, 89, 183, 0, 47, 27]
abbrev dktJ11_copyOfRange_0 : List UInt8 := dkwJ11_copyOfRange_0 ++ dktJ11_copyOfRange_1
theorem dksJ11_copyOfRange_0 : cJ11_copyOfRange.data.toList.drop 0 = dktJ11_copyOfRange_0 := by decide +kernel
theorem dksJ11_copyOfRange_1 : cJ11_copyOfRange.data.toList.drop 22 = dktJ11_copyOfRange_1 := dk_seg dksJ11_copyOfRange_0 22 rfl rfl
theorem dksJ11_copyOfRange_2 : cJ11_copyOfRange.data.toList.drop 45 = dktJ11_copyOfRange_2 := dk_seg dksJ11_copyOfRange_1 23 rfl rfl
theorem dksJ11_copyOfRange_3 : cJ11_copyOfRange.data.toList.drop 68 = dktJ11_copyOfRange_3 := dk_seg dksJ11_copyOfRange_2 23 rfl rfl
theorem dJ11_copyOfRange_0 : decode cJ11_copyOfRange 0 = .ok (.iload_n 2, 1) := dk_28 (dk_at dksJ11_copyOfRange_0 0 rfl rfl)
theorem dJ11_copyOfRange_1 : decode cJ11_copyOfRange 1 = .ok (.iload_n 1, 1) := dk_27 (dk_at dksJ11_copyOfRange_0 1 rfl rfl)
theorem dJ11_copyOfRange_2 : decode cJ11_copyOfRange 2 = .ok (.isub, 1) := dk_100 (dk_at dksJ11_copyOfRange_0 2 rfl rfl)
theorem dJ11_copyOfRange_3 : decode cJ11_copyOfRange 3 = .ok (.istore 4, 2) := dk_54 4 (dk_at dksJ11_copyOfRange_0 3 rfl rfl)
theorem dJ11_copyOfRange_5 : decode cJ11_copyOfRange 5 = .ok (.iload 4, 2) := dk_21 4 (dk_at dksJ11_copyOfRange_0 5 rfl rfl)
theorem dJ11_copyOfRange_7 : decode cJ11_copyOfRange 7 = .ok (.ifCond .ge 35, 3) := dk_156 0 35 (dk_at dksJ11_copyOfRange_0 7 rfl rfl)
theorem dJ11_copyOfRange_10 : decode cJ11_copyOfRange 10 = .ok (.new 43, 3) := dk_187 0 43 (dk_at dksJ11_copyOfRange_0 10 rfl rfl)
theorem dJ11_copyOfRange_13 : decode cJ11_copyOfRange 13 = .ok (.dup, 1) := dk_89 (dk_at dksJ11_copyOfRange_0 13 rfl rfl)
theorem dJ11_copyOfRange_14 : decode cJ11_copyOfRange 14 = .ok (.new 45, 3) := dk_187 0 45 (dk_at dksJ11_copyOfRange_0 14 rfl rfl)
theorem dJ11_copyOfRange_17 : decode cJ11_copyOfRange 17 = .ok (.dup, 1) := dk_89 (dk_at dksJ11_copyOfRange_0 17 rfl rfl)
theorem dJ11_copyOfRange_18 : decode cJ11_copyOfRange 18 = .ok (.invokespecial 47, 3) := dk_183 0 47 (dk_at dksJ11_copyOfRange_0 18 rfl rfl)
theorem dJ11_copyOfRange_21 : decode cJ11_copyOfRange 21 = .ok (.iload_n 1, 1) := dk_27 (dk_at dksJ11_copyOfRange_0 21 rfl rfl)
theorem dJ11_copyOfRange_22 : decode cJ11_copyOfRange 22 = .ok (.invokevirtual 54, 3) := dk_182 0 54 (dk_at dksJ11_copyOfRange_1 0 rfl rfl)
theorem dJ11_copyOfRange_25 : decode cJ11_copyOfRange 25 = .ok (.ldc_w 337, 3) := dk_19 1 81 (dk_at dksJ11_copyOfRange_1 3 rfl rfl)
theorem dJ11_copyOfRange_28 : decode cJ11_copyOfRange 28 = .ok (.invokevirtual 50, 3) := dk_182 0 50 (dk_at dksJ11_copyOfRange_1 6 rfl rfl)
theorem dJ11_copyOfRange_31 : decode cJ11_copyOfRange 31 = .ok (.iload_n 2, 1) := dk_28 (dk_at dksJ11_copyOfRange_1 9 rfl rfl)
theorem dJ11_copyOfRange_32 : decode cJ11_copyOfRange 32 = .ok (.invokevirtual 54, 3) := dk_182 0 54 (dk_at dksJ11_copyOfRange_1 10 rfl rfl)
theorem dJ11_copyOfRange_35 : decode cJ11_copyOfRange 35 = .ok (.invokevirtual 61, 3) := dk_182 0 61 (dk_at dksJ11_copyOfRange_1 13 rfl rfl)
theorem dJ11_copyOfRange_38 : decode cJ11_copyOfRange 38 = .ok (.invokespecial 65, 3) := dk_183 0 65 (dk_at dksJ11_copyOfRange_1 16 rfl rfl)
theorem dJ11_copyOfRange_41 : decode cJ11_copyOfRange 41 = .ok (.athrow, 1) := dk_191 (dk_at dksJ11_copyOfRange_1 19 rfl rfl)
theorem dJ11_copyOfRange_42 : decode cJ11_copyOfRange 42 = .ok (.aload_n 3, 1) := dk_45 (dk_at dksJ11_copyOfRange_1 20 rfl rfl)
theorem dJ11_copyOfRange_43 : decode cJ11_copyOfRange 43 = .ok (.ldc 110, 2) := dk_18 110 (dk_at dksJ11_copyOfRange_1 21 rfl rfl)
theorem dJ11_copyOfRange_45 : decode cJ11_copyOfRange 45 = .ok (.if_acmp .ne 11, 3) := dk_166 0 11 (dk_at dksJ11_copyOfRange_2 0 rfl rfl)
theorem dJ11_copyOfRange_48 : decode cJ11_copyOfRange 48 = .ok (.iload 4, 2) := dk_21 4 (dk_at dksJ11_copyOfRange_2 3 rfl rfl)
theorem dJ11_copyOfRange_50 : decode cJ11_copyOfRange 50 = .ok (.anewarray 2, 3) := dk_189 0 2 (dk_at dksJ11_copyOfRange_2 5 rfl rfl)
theorem dJ11_copyOfRange_53 : decode cJ11_copyOfRange 53 = .ok (.goto 15, 3) := dk_167 0 15 (dk_at dksJ11_copyOfRange_2 8 rfl rfl)
theorem dJ11_copyOfRange_56 : decode cJ11_copyOfRange 56 = .ok (.aload_n 3, 1) := dk_45 (dk_at dksJ11_copyOfRange_2 11 rfl rfl)
theorem dJ11_copyOfRange_57 : decode cJ11_copyOfRange 57 = .ok (.invokevirtual 90, 3) := dk_182 0 90 (dk_at dksJ11_copyOfRange_2 12 rfl rfl)
theorem dJ11_copyOfRange_60 : decode cJ11_copyOfRange 60 = .ok (.iload 4, 2) := dk_21 4 (dk_at dksJ11_copyOfRange_2 15 rfl rfl)
theorem dJ11_copyOfRange_62 : decode cJ11_copyOfRange 62 = .ok (.invokestatic 95, 3) := dk_184 0 95 (dk_at dksJ11_copyOfRange_2 17 rfl rfl)
theorem dJ11_copyOfRange_65 : decode cJ11_copyOfRange 65 = .ok (.checkcast 110, 3) := dk_192 0 110 (dk_at dksJ11_copyOfRange_2 20 rfl rfl)
theorem dJ11_copyOfRange_68 : decode cJ11_copyOfRange 68 = .ok (.astore 5, 2) := dk_58 5 (dk_at dksJ11_copyOfRange_3 0 rfl rfl)
theorem dJ11_copyOfRange_70 : decode cJ11_copyOfRange 70 = .ok (.aload_n 0, 1) := dk_42 (dk_at dksJ11_copyOfRange_3 2 rfl rfl)
theorem dJ11_copyOfRange_71 : decode cJ11_copyOfRange 71 = .ok (.iload_n 1, 1) := dk_27 (dk_at dksJ11_copyOfRange_3 3 rfl rfl)
theorem dJ11_copyOfRange_72 : decode cJ11_copyOfRange 72 = .ok (.aload 5, 2) := dk_25 5 (dk_at dksJ11_copyOfRange_3 4 rfl rfl)
theorem dJ11_copyOfRange_74 : decode cJ11_copyOfRange 74 = .ok (.iconst 0, 1) := dk_3 (dk_at dksJ11_copyOfRange_3 6 rfl rfl)
theorem dJ11_copyOfRange_75 : decode cJ11_copyOfRange 75 = .ok (.aload_n 0, 1) := dk_42 (dk_at dksJ11_copyOfRange_3 7 rfl rfl)
theorem dJ11_copyOfRange_76 : decode cJ11_copyOfRange 76 = .ok (.arraylength, 1) := dk_190 (dk_at dksJ11_copyOfRange_3 8 rfl rfl)
theorem dJ11_copyOfRange_77 : decode cJ11_copyOfRange 77 = .ok (.iload_n 1, 1) := dk_27 (dk_at dksJ11_copyOfRange_3 9 rfl rfl)
theorem dJ11_copyOfRange_78 : decode cJ11_copyOfRange 78 = .ok (.isub, 1) := dk_100 (dk_at dksJ11_copyOfRange_3 10 rfl rfl)
theorem dJ11_copyOfRange_79 : decode cJ11_copyOfRange 79 = .ok (.iload 4, 2) := dk_21 4 (dk_at dksJ11_copyOfRange_3 11 rfl rfl)
theorem dJ11_copyOfRange_81 : decode cJ11_copyOfRange 81 = .ok (.invokestatic 304, 3) := dk_184 1 48 (dk_at dksJ11_copyOfRange_3 13 rfl rfl)
theorem dJ11_copyOfRange_84 : decode cJ11_copyOfRange 84 = .ok (.invokestatic 150, 3) := dk_184 0 150 (dk_at dksJ11_copyOfRange_3 16 rfl rfl)
theorem dJ11_copyOfRange_87 : decode cJ11_copyOfRange 87 = .ok (.aload 5, 2) := dk_25 5 (dk_at dksJ11_copyOfRange_3 19 rfl rfl)
theorem dJ11_copyOfRange_89 : decode cJ11_copyOfRange 89 = .ok (.areturn, 1) := dk_176 (dk_at dksJ11_copyOfRange_3 21 rfl rfl)
abbrev cJ11_copyOf : ByteArray := prog_66_method_119_code
def yJ11_copyOf : MethodName := ⟨RJ11, "copyOf", "([Ljava/lang/Object;I)[Ljava/lang/Object;"⟩
def dkwJ11_copyOf_0 : List UInt8 := [42, 27, 42, 182, 0, 86, 184, 1, 44, 176]
abbrev dktJ11_copyOf_0 : List UInt8 := dkwJ11_copyOf_0 ++ []
theorem dksJ11_copyOf_0 : cJ11_copyOf.data.toList.drop 0 = dktJ11_copyOf_0 := by decide +kernel
theorem dJ11_copyOf_0 : decode cJ11_copyOf 0 = .ok (.aload_n 0, 1) := dk_42 (dk_at dksJ11_copyOf_0 0 rfl rfl)
theorem dJ11_copyOf_1 : decode cJ11_copyOf 1 = .ok (.iload_n 1, 1) := dk_27 (dk_at dksJ11_copyOf_0 1 rfl rfl)
theorem dJ11_copyOf_2 : decode cJ11_copyOf 2 = .ok (.aload_n 0, 1) := dk_42 (dk_at dksJ11_copyOf_0 2 rfl rfl)
theorem dJ11_copyOf_3 : decode cJ11_copyOf 3 = .ok (.invokevirtual 86, 3) := dk_182 0 86 (dk_at dksJ11_copyOf_0 3 rfl rfl)
theorem dJ11_copyOf_6 : decode cJ11_copyOf 6 = .ok (.invokestatic 300, 3) := dk_184 1 44 (dk_at dksJ11_copyOf_0 6 rfl rfl)
theorem dJ11_copyOf_9 : decode cJ11_copyOf 9 = .ok (.areturn, 1) := dk_176 (dk_at dksJ11_copyOf_0 9 rfl rfl)
abbrev cJ11_copyOf_2 : ByteArray := prog_66_method_120_code
def yJ11_copyOf_2 : MethodName := ⟨RJ11, "copyOf", "([Ljava/lang/Object;ILjava/lang/Class;)[Ljava/lang/Object;"⟩
def dkwJ11_copyOf_2_1 : List UInt8 := [78, 42, 3, 45, 3, 42, 190, 27, 184, 1, 48, 184, 0, 150, 45, 176]
abbrev dktJ11_copyOf_2_1 : List UInt8 := dkwJ11_copyOf_2_1 ++ []
def dkwJ11_copyOf_2_0 : List UInt8 := [44, 18, 110, 166, 0, 10, 27, 189, 0, 2, 167, 0, 14, 44, 182, 0, 90, 27, 184, 0, 95, 192, 0, 110]
abbrev dktJ11_copyOf_2_0 : List UInt8 := dkwJ11_copyOf_2_0 ++ dktJ11_copyOf_2_1
theorem dksJ11_copyOf_2_0 : cJ11_copyOf_2.data.toList.drop 0 = dktJ11_copyOf_2_0 := by decide +kernel
theorem dksJ11_copyOf_2_1 : cJ11_copyOf_2.data.toList.drop 24 = dktJ11_copyOf_2_1 := dk_seg dksJ11_copyOf_2_0 24 rfl rfl
theorem dJ11_copyOf_2_0 : decode cJ11_copyOf_2 0 = .ok (.aload_n 2, 1) := dk_44 (dk_at dksJ11_copyOf_2_0 0 rfl rfl)
theorem dJ11_copyOf_2_1 : decode cJ11_copyOf_2 1 = .ok (.ldc 110, 2) := dk_18 110 (dk_at dksJ11_copyOf_2_0 1 rfl rfl)
theorem dJ11_copyOf_2_3 : decode cJ11_copyOf_2 3 = .ok (.if_acmp .ne 10, 3) := dk_166 0 10 (dk_at dksJ11_copyOf_2_0 3 rfl rfl)
theorem dJ11_copyOf_2_6 : decode cJ11_copyOf_2 6 = .ok (.iload_n 1, 1) := dk_27 (dk_at dksJ11_copyOf_2_0 6 rfl rfl)
theorem dJ11_copyOf_2_7 : decode cJ11_copyOf_2 7 = .ok (.anewarray 2, 3) := dk_189 0 2 (dk_at dksJ11_copyOf_2_0 7 rfl rfl)
theorem dJ11_copyOf_2_10 : decode cJ11_copyOf_2 10 = .ok (.goto 14, 3) := dk_167 0 14 (dk_at dksJ11_copyOf_2_0 10 rfl rfl)
theorem dJ11_copyOf_2_13 : decode cJ11_copyOf_2 13 = .ok (.aload_n 2, 1) := dk_44 (dk_at dksJ11_copyOf_2_0 13 rfl rfl)
theorem dJ11_copyOf_2_14 : decode cJ11_copyOf_2 14 = .ok (.invokevirtual 90, 3) := dk_182 0 90 (dk_at dksJ11_copyOf_2_0 14 rfl rfl)
theorem dJ11_copyOf_2_17 : decode cJ11_copyOf_2 17 = .ok (.iload_n 1, 1) := dk_27 (dk_at dksJ11_copyOf_2_0 17 rfl rfl)
theorem dJ11_copyOf_2_18 : decode cJ11_copyOf_2 18 = .ok (.invokestatic 95, 3) := dk_184 0 95 (dk_at dksJ11_copyOf_2_0 18 rfl rfl)
theorem dJ11_copyOf_2_21 : decode cJ11_copyOf_2 21 = .ok (.checkcast 110, 3) := dk_192 0 110 (dk_at dksJ11_copyOf_2_0 21 rfl rfl)
theorem dJ11_copyOf_2_24 : decode cJ11_copyOf_2 24 = .ok (.astore_n 3, 1) := dk_78 (dk_at dksJ11_copyOf_2_1 0 rfl rfl)
theorem dJ11_copyOf_2_25 : decode cJ11_copyOf_2 25 = .ok (.aload_n 0, 1) := dk_42 (dk_at dksJ11_copyOf_2_1 1 rfl rfl)
theorem dJ11_copyOf_2_26 : decode cJ11_copyOf_2 26 = .ok (.iconst 0, 1) := dk_3 (dk_at dksJ11_copyOf_2_1 2 rfl rfl)
theorem dJ11_copyOf_2_27 : decode cJ11_copyOf_2 27 = .ok (.aload_n 3, 1) := dk_45 (dk_at dksJ11_copyOf_2_1 3 rfl rfl)
theorem dJ11_copyOf_2_28 : decode cJ11_copyOf_2 28 = .ok (.iconst 0, 1) := dk_3 (dk_at dksJ11_copyOf_2_1 4 rfl rfl)
theorem dJ11_copyOf_2_29 : decode cJ11_copyOf_2 29 = .ok (.aload_n 0, 1) := dk_42 (dk_at dksJ11_copyOf_2_1 5 rfl rfl)
theorem dJ11_copyOf_2_30 : decode cJ11_copyOf_2 30 = .ok (.arraylength, 1) := dk_190 (dk_at dksJ11_copyOf_2_1 6 rfl rfl)
theorem dJ11_copyOf_2_31 : decode cJ11_copyOf_2 31 = .ok (.iload_n 1, 1) := dk_27 (dk_at dksJ11_copyOf_2_1 7 rfl rfl)
theorem dJ11_copyOf_2_32 : decode cJ11_copyOf_2 32 = .ok (.invokestatic 304, 3) := dk_184 1 48 (dk_at dksJ11_copyOf_2_1 8 rfl rfl)
theorem dJ11_copyOf_2_35 : decode cJ11_copyOf_2 35 = .ok (.invokestatic 150, 3) := dk_184 0 150 (dk_at dksJ11_copyOf_2_1 11 rfl rfl)
theorem dJ11_copyOf_2_38 : decode cJ11_copyOf_2 38 = .ok (.aload_n 3, 1) := dk_45 (dk_at dksJ11_copyOf_2_1 14 rfl rfl)
theorem dJ11_copyOf_2_39 : decode cJ11_copyOf_2 39 = .ok (.areturn, 1) := dk_176 (dk_at dksJ11_copyOf_2_1 15 rfl rfl)
abbrev cJ11_copyOf_3 : ByteArray := prog_66_method_121_code
def yJ11_copyOf_3 : MethodName := ⟨RJ11, "copyOf", "([BI)[B"⟩
def dkwJ11_copyOf_3_1 : List UInt8 := [27, 184, 1, 48, 184, 0, 150, 44, 176]
abbrev dktJ11_copyOf_3_1 : List UInt8 := dkwJ11_copyOf_3_1 ++ []
def dkwJ11_copyOf_3_0 : List UInt8 := [27, 42, 190, 160, 0, 11, 42, 182, 1, 54, 192, 1, 55, 176, 27, 188, 8, 77, 42, 3, 44, 3, 42, 190]
abbrev dktJ11_copyOf_3_0 : List UInt8 := dkwJ11_copyOf_3_0 ++ dktJ11_copyOf_3_1
theorem dksJ11_copyOf_3_0 : cJ11_copyOf_3.data.toList.drop 0 = dktJ11_copyOf_3_0 := by decide +kernel
theorem dksJ11_copyOf_3_1 : cJ11_copyOf_3.data.toList.drop 24 = dktJ11_copyOf_3_1 := dk_seg dksJ11_copyOf_3_0 24 rfl rfl
theorem dJ11_copyOf_3_0 : decode cJ11_copyOf_3 0 = .ok (.iload_n 1, 1) := dk_27 (dk_at dksJ11_copyOf_3_0 0 rfl rfl)
theorem dJ11_copyOf_3_1 : decode cJ11_copyOf_3 1 = .ok (.aload_n 0, 1) := dk_42 (dk_at dksJ11_copyOf_3_0 1 rfl rfl)
theorem dJ11_copyOf_3_2 : decode cJ11_copyOf_3 2 = .ok (.arraylength, 1) := dk_190 (dk_at dksJ11_copyOf_3_0 2 rfl rfl)
theorem dJ11_copyOf_3_3 : decode cJ11_copyOf_3 3 = .ok (.if_icmp .ne 11, 3) := dk_160 0 11 (dk_at dksJ11_copyOf_3_0 3 rfl rfl)
theorem dJ11_copyOf_3_6 : decode cJ11_copyOf_3 6 = .ok (.aload_n 0, 1) := dk_42 (dk_at dksJ11_copyOf_3_0 6 rfl rfl)
theorem dJ11_copyOf_3_7 : decode cJ11_copyOf_3 7 = .ok (.invokevirtual 310, 3) := dk_182 1 54 (dk_at dksJ11_copyOf_3_0 7 rfl rfl)
theorem dJ11_copyOf_3_10 : decode cJ11_copyOf_3 10 = .ok (.checkcast 311, 3) := dk_192 1 55 (dk_at dksJ11_copyOf_3_0 10 rfl rfl)
theorem dJ11_copyOf_3_13 : decode cJ11_copyOf_3 13 = .ok (.areturn, 1) := dk_176 (dk_at dksJ11_copyOf_3_0 13 rfl rfl)
theorem dJ11_copyOf_3_14 : decode cJ11_copyOf_3 14 = .ok (.iload_n 1, 1) := dk_27 (dk_at dksJ11_copyOf_3_0 14 rfl rfl)
theorem dJ11_copyOf_3_15 : decode cJ11_copyOf_3 15 = .ok (.newarray .byte, 2) := dk_188_8 (dk_at dksJ11_copyOf_3_0 15 rfl rfl)
theorem dJ11_copyOf_3_17 : decode cJ11_copyOf_3 17 = .ok (.astore_n 2, 1) := dk_77 (dk_at dksJ11_copyOf_3_0 17 rfl rfl)
theorem dJ11_copyOf_3_18 : decode cJ11_copyOf_3 18 = .ok (.aload_n 0, 1) := dk_42 (dk_at dksJ11_copyOf_3_0 18 rfl rfl)
theorem dJ11_copyOf_3_19 : decode cJ11_copyOf_3 19 = .ok (.iconst 0, 1) := dk_3 (dk_at dksJ11_copyOf_3_0 19 rfl rfl)
theorem dJ11_copyOf_3_20 : decode cJ11_copyOf_3 20 = .ok (.aload_n 2, 1) := dk_44 (dk_at dksJ11_copyOf_3_0 20 rfl rfl)
theorem dJ11_copyOf_3_21 : decode cJ11_copyOf_3 21 = .ok (.iconst 0, 1) := dk_3 (dk_at dksJ11_copyOf_3_0 21 rfl rfl)
theorem dJ11_copyOf_3_22 : decode cJ11_copyOf_3 22 = .ok (.aload_n 0, 1) := dk_42 (dk_at dksJ11_copyOf_3_0 22 rfl rfl)
theorem dJ11_copyOf_3_23 : decode cJ11_copyOf_3 23 = .ok (.arraylength, 1) := dk_190 (dk_at dksJ11_copyOf_3_0 23 rfl rfl)
theorem dJ11_copyOf_3_24 : decode cJ11_copyOf_3 24 = .ok (.iload_n 1, 1) := dk_27 (dk_at dksJ11_copyOf_3_1 0 rfl rfl)
theorem dJ11_copyOf_3_25 : decode cJ11_copyOf_3 25 = .ok (.invokestatic 304, 3) := dk_184 1 48 (dk_at dksJ11_copyOf_3_1 1 rfl rfl)
theorem dJ11_copyOf_3_28 : decode cJ11_copyOf_3 28 = .ok (.invokestatic 150, 3) := dk_184 0 150 (dk_at dksJ11_copyOf_3_1 4 rfl rfl)
theorem dJ11_copyOf_3_31 : decode cJ11_copyOf_3 31 = .ok (.aload_n 2, 1) := dk_44 (dk_at dksJ11_copyOf_3_1 7 rfl rfl)
theorem dJ11_copyOf_3_32 : decode cJ11_copyOf_3 32 = .ok (.areturn, 1) := dk_176 (dk_at dksJ11_copyOf_3_1 8 rfl rfl)
abbrev cJ11_fill : ByteArray := prog_66_method_110_code
def yJ11_fill : MethodName := ⟨RJ11, "fill", "([BIIB)V"⟩
def dkwJ11_fill_1 : List UInt8 := [167, 255, 242, 177]
abbrev dktJ11_fill_1 : List UInt8 := dkwJ11_fill_1 ++ []
def dkwJ11_fill_0 : List UInt8 := [42, 190, 27, 28, 184, 0, 13, 27, 54, 4, 21, 4, 28, 162, 0, 14, 42, 21, 4, 29, 84, 132, 4, 1]
abbrev dktJ11_fill_0 : List UInt8 := dkwJ11_fill_0 ++ dktJ11_fill_1
theorem dksJ11_fill_0 : cJ11_fill.data.toList.drop 0 = dktJ11_fill_0 := by decide +kernel
theorem dksJ11_fill_1 : cJ11_fill.data.toList.drop 24 = dktJ11_fill_1 := dk_seg dksJ11_fill_0 24 rfl rfl
theorem dJ11_fill_0 : decode cJ11_fill 0 = .ok (.aload_n 0, 1) := dk_42 (dk_at dksJ11_fill_0 0 rfl rfl)
theorem dJ11_fill_1 : decode cJ11_fill 1 = .ok (.arraylength, 1) := dk_190 (dk_at dksJ11_fill_0 1 rfl rfl)
theorem dJ11_fill_2 : decode cJ11_fill 2 = .ok (.iload_n 1, 1) := dk_27 (dk_at dksJ11_fill_0 2 rfl rfl)
theorem dJ11_fill_3 : decode cJ11_fill 3 = .ok (.iload_n 2, 1) := dk_28 (dk_at dksJ11_fill_0 3 rfl rfl)
theorem dJ11_fill_4 : decode cJ11_fill 4 = .ok (.invokestatic 13, 3) := dk_184 0 13 (dk_at dksJ11_fill_0 4 rfl rfl)
theorem dJ11_fill_7 : decode cJ11_fill 7 = .ok (.iload_n 1, 1) := dk_27 (dk_at dksJ11_fill_0 7 rfl rfl)
theorem dJ11_fill_8 : decode cJ11_fill 8 = .ok (.istore 4, 2) := dk_54 4 (dk_at dksJ11_fill_0 8 rfl rfl)
theorem dJ11_fill_10 : decode cJ11_fill 10 = .ok (.iload 4, 2) := dk_21 4 (dk_at dksJ11_fill_0 10 rfl rfl)
theorem dJ11_fill_12 : decode cJ11_fill 12 = .ok (.iload_n 2, 1) := dk_28 (dk_at dksJ11_fill_0 12 rfl rfl)
theorem dJ11_fill_13 : decode cJ11_fill 13 = .ok (.if_icmp .ge 14, 3) := dk_162 0 14 (dk_at dksJ11_fill_0 13 rfl rfl)
theorem dJ11_fill_16 : decode cJ11_fill 16 = .ok (.aload_n 0, 1) := dk_42 (dk_at dksJ11_fill_0 16 rfl rfl)
theorem dJ11_fill_17 : decode cJ11_fill 17 = .ok (.iload 4, 2) := dk_21 4 (dk_at dksJ11_fill_0 17 rfl rfl)
theorem dJ11_fill_19 : decode cJ11_fill 19 = .ok (.iload_n 3, 1) := dk_29 (dk_at dksJ11_fill_0 19 rfl rfl)
theorem dJ11_fill_20 : decode cJ11_fill 20 = .ok (.bastore, 1) := dk_84 (dk_at dksJ11_fill_0 20 rfl rfl)
theorem dJ11_fill_21 : decode cJ11_fill 21 = .ok (.iinc 4 1, 3) := dk_132 4 1 (dk_at dksJ11_fill_0 21 rfl rfl)
theorem dJ11_fill_24 : decode cJ11_fill 24 = .ok (.goto (-14), 3) := dk_167 255 242 (dk_at dksJ11_fill_1 0 rfl rfl)
theorem dJ11_fill_27 : decode cJ11_fill 27 = .ok (.return_, 1) := dk_177 (dk_at dksJ11_fill_1 3 rfl rfl)
abbrev cJ11_rangeCheck : ByteArray := prog_66_method_30_code
def yJ11_rangeCheck : MethodName := ⟨RJ11, "rangeCheck", "(III)V"⟩
def dkwJ11_rangeCheck_3 : List UInt8 := [183, 0, 70, 191, 177]
abbrev dktJ11_rangeCheck_3 : List UInt8 := dkwJ11_rangeCheck_3 ++ []
def dkwJ11_rangeCheck_2 : List UInt8 := [27, 156, 0, 12, 187, 0, 68, 89, 27, 183, 0, 70, 191, 28, 26, 164, 0, 12, 187, 0, 68, 89, 28]
abbrev dktJ11_rangeCheck_2 : List UInt8 := dkwJ11_rangeCheck_2 ++ dktJ11_rangeCheck_3
def dkwJ11_rangeCheck_1 : List UInt8 := [182, 0, 54, 18, 57, 182, 0, 50, 28, 182, 0, 54, 18, 59, 182, 0, 50, 182, 0, 61, 183, 0, 65, 191]
abbrev dktJ11_rangeCheck_1 : List UInt8 := dkwJ11_rangeCheck_1 ++ dktJ11_rangeCheck_2
def dkwJ11_rangeCheck_0 : List UInt8 := [27, 28, 164, 0, 44, 187, 0, 43, 89, 187, 0, 45, 89, 183, 0, 47, 18, 48, 182, 0, 50, 27]
abbrev dktJ11_rangeCheck_0 : List UInt8 := dkwJ11_rangeCheck_0 ++ dktJ11_rangeCheck_1
theorem dksJ11_rangeCheck_0 : cJ11_rangeCheck.data.toList.drop 0 = dktJ11_rangeCheck_0 := by decide +kernel
theorem dksJ11_rangeCheck_1 : cJ11_rangeCheck.data.toList.drop 22 = dktJ11_rangeCheck_1 := dk_seg dksJ11_rangeCheck_0 22 rfl rfl
theorem dksJ11_rangeCheck_2 : cJ11_rangeCheck.data.toList.drop 46 = dktJ11_rangeCheck_2 := dk_seg dksJ11_rangeCheck_1 24 rfl rfl
theorem dksJ11_rangeCheck_3 : cJ11_rangeCheck.data.toList.drop 69 = dktJ11_rangeCheck_3 := dk_seg dksJ11_rangeCheck_2 23 rfl rfl
theorem dJ11_rangeCheck_0 : decode cJ11_rangeCheck 0 = .ok (.iload_n 1, 1) := dk_27 (dk_at dksJ11_rangeCheck_0 0 rfl rfl)
theorem dJ11_rangeCheck_1 : decode cJ11_rangeCheck 1 = .ok (.iload_n 2, 1) := dk_28 (dk_at dksJ11_rangeCheck_0 1 rfl rfl)
theorem dJ11_rangeCheck_2 : decode cJ11_rangeCheck 2 = .ok (.if_icmp .le 44, 3) := dk_164 0 44 (dk_at dksJ11_rangeCheck_0 2 rfl rfl)
theorem dJ11_rangeCheck_5 : decode cJ11_rangeCheck 5 = .ok (.new 43, 3) := dk_187 0 43 (dk_at dksJ11_rangeCheck_0 5 rfl rfl)
theorem dJ11_rangeCheck_8 : decode cJ11_rangeCheck 8 = .ok (.dup, 1) := dk_89 (dk_at dksJ11_rangeCheck_0 8 rfl rfl)
theorem dJ11_rangeCheck_9 : decode cJ11_rangeCheck 9 = .ok (.new 45, 3) := dk_187 0 45 (dk_at dksJ11_rangeCheck_0 9 rfl rfl)
theorem dJ11_rangeCheck_12 : decode cJ11_rangeCheck 12 = .ok (.dup, 1) := dk_89 (dk_at dksJ11_rangeCheck_0 12 rfl rfl)
theorem dJ11_rangeCheck_13 : decode cJ11_rangeCheck 13 = .ok (.invokespecial 47, 3) := dk_183 0 47 (dk_at dksJ11_rangeCheck_0 13 rfl rfl)
theorem dJ11_rangeCheck_16 : decode cJ11_rangeCheck 16 = .ok (.ldc 48, 2) := dk_18 48 (dk_at dksJ11_rangeCheck_0 16 rfl rfl)
theorem dJ11_rangeCheck_18 : decode cJ11_rangeCheck 18 = .ok (.invokevirtual 50, 3) := dk_182 0 50 (dk_at dksJ11_rangeCheck_0 18 rfl rfl)
theorem dJ11_rangeCheck_21 : decode cJ11_rangeCheck 21 = .ok (.iload_n 1, 1) := dk_27 (dk_at dksJ11_rangeCheck_0 21 rfl rfl)
theorem dJ11_rangeCheck_22 : decode cJ11_rangeCheck 22 = .ok (.invokevirtual 54, 3) := dk_182 0 54 (dk_at dksJ11_rangeCheck_1 0 rfl rfl)
theorem dJ11_rangeCheck_25 : decode cJ11_rangeCheck 25 = .ok (.ldc 57, 2) := dk_18 57 (dk_at dksJ11_rangeCheck_1 3 rfl rfl)
theorem dJ11_rangeCheck_27 : decode cJ11_rangeCheck 27 = .ok (.invokevirtual 50, 3) := dk_182 0 50 (dk_at dksJ11_rangeCheck_1 5 rfl rfl)
theorem dJ11_rangeCheck_30 : decode cJ11_rangeCheck 30 = .ok (.iload_n 2, 1) := dk_28 (dk_at dksJ11_rangeCheck_1 8 rfl rfl)
theorem dJ11_rangeCheck_31 : decode cJ11_rangeCheck 31 = .ok (.invokevirtual 54, 3) := dk_182 0 54 (dk_at dksJ11_rangeCheck_1 9 rfl rfl)
theorem dJ11_rangeCheck_34 : decode cJ11_rangeCheck 34 = .ok (.ldc 59, 2) := dk_18 59 (dk_at dksJ11_rangeCheck_1 12 rfl rfl)
theorem dJ11_rangeCheck_36 : decode cJ11_rangeCheck 36 = .ok (.invokevirtual 50, 3) := dk_182 0 50 (dk_at dksJ11_rangeCheck_1 14 rfl rfl)
theorem dJ11_rangeCheck_39 : decode cJ11_rangeCheck 39 = .ok (.invokevirtual 61, 3) := dk_182 0 61 (dk_at dksJ11_rangeCheck_1 17 rfl rfl)
theorem dJ11_rangeCheck_42 : decode cJ11_rangeCheck 42 = .ok (.invokespecial 65, 3) := dk_183 0 65 (dk_at dksJ11_rangeCheck_1 20 rfl rfl)
theorem dJ11_rangeCheck_45 : decode cJ11_rangeCheck 45 = .ok (.athrow, 1) := dk_191 (dk_at dksJ11_rangeCheck_1 23 rfl rfl)
theorem dJ11_rangeCheck_46 : decode cJ11_rangeCheck 46 = .ok (.iload_n 1, 1) := dk_27 (dk_at dksJ11_rangeCheck_2 0 rfl rfl)
theorem dJ11_rangeCheck_47 : decode cJ11_rangeCheck 47 = .ok (.ifCond .ge 12, 3) := dk_156 0 12 (dk_at dksJ11_rangeCheck_2 1 rfl rfl)
theorem dJ11_rangeCheck_50 : decode cJ11_rangeCheck 50 = .ok (.new 68, 3) := dk_187 0 68 (dk_at dksJ11_rangeCheck_2 4 rfl rfl)
theorem dJ11_rangeCheck_53 : decode cJ11_rangeCheck 53 = .ok (.dup, 1) := dk_89 (dk_at dksJ11_rangeCheck_2 7 rfl rfl)
theorem dJ11_rangeCheck_54 : decode cJ11_rangeCheck 54 = .ok (.iload_n 1, 1) := dk_27 (dk_at dksJ11_rangeCheck_2 8 rfl rfl)
theorem dJ11_rangeCheck_55 : decode cJ11_rangeCheck 55 = .ok (.invokespecial 70, 3) := dk_183 0 70 (dk_at dksJ11_rangeCheck_2 9 rfl rfl)
theorem dJ11_rangeCheck_58 : decode cJ11_rangeCheck 58 = .ok (.athrow, 1) := dk_191 (dk_at dksJ11_rangeCheck_2 12 rfl rfl)
theorem dJ11_rangeCheck_59 : decode cJ11_rangeCheck 59 = .ok (.iload_n 2, 1) := dk_28 (dk_at dksJ11_rangeCheck_2 13 rfl rfl)
theorem dJ11_rangeCheck_60 : decode cJ11_rangeCheck 60 = .ok (.iload_n 0, 1) := dk_26 (dk_at dksJ11_rangeCheck_2 14 rfl rfl)
theorem dJ11_rangeCheck_61 : decode cJ11_rangeCheck 61 = .ok (.if_icmp .le 12, 3) := dk_164 0 12 (dk_at dksJ11_rangeCheck_2 15 rfl rfl)
theorem dJ11_rangeCheck_64 : decode cJ11_rangeCheck 64 = .ok (.new 68, 3) := dk_187 0 68 (dk_at dksJ11_rangeCheck_2 18 rfl rfl)
theorem dJ11_rangeCheck_67 : decode cJ11_rangeCheck 67 = .ok (.dup, 1) := dk_89 (dk_at dksJ11_rangeCheck_2 21 rfl rfl)
theorem dJ11_rangeCheck_68 : decode cJ11_rangeCheck 68 = .ok (.iload_n 2, 1) := dk_28 (dk_at dksJ11_rangeCheck_2 22 rfl rfl)
theorem dJ11_rangeCheck_69 : decode cJ11_rangeCheck 69 = .ok (.invokespecial 70, 3) := dk_183 0 70 (dk_at dksJ11_rangeCheck_3 0 rfl rfl)
theorem dJ11_rangeCheck_72 : decode cJ11_rangeCheck 72 = .ok (.athrow, 1) := dk_191 (dk_at dksJ11_rangeCheck_3 3 rfl rfl)
theorem dJ11_rangeCheck_73 : decode cJ11_rangeCheck 73 = .ok (.return_, 1) := dk_177 (dk_at dksJ11_rangeCheck_3 4 rfl rfl)
theorem q106 : (Jvm.Cond.initialized "java/util/Arrays") ∈ lw_all := lw_g (lw_at lw_m1 20 rfl) rfl
theorem q676 : (Jvm.Cond.static ({ cls := "java/util/Arrays", name := "copyOfRange", desc := "([Ljava/lang/Object;IILjava/lang/Class;)[Ljava/lang/Object;" } : Jvm.MethodName)) ∈ lw_all := lw_g (lw_at lw_m3 110 rfl) rfl
theorem q677 : (Jvm.Cond.code ({ cls := "java/util/Arrays", name := "copyOfRange", desc := "([Ljava/lang/Object;IILjava/lang/Class;)[Ljava/lang/Object;" } : Jvm.MethodName) prog_66_method_130_code (6 : Nat) (Option.some (Jvm.ClassFile.FieldType.array (Jvm.ClassFile.FieldType.object "java/lang/Object")))) ∈ lw_all := lw_g (lw_at lw_m3 111 rfl) rfl
theorem q678 : (Jvm.Cond.classLink "java/util/Arrays" (110 : Nat) "[Ljava/lang/Object;") ∈ lw_all := lw_g (lw_at lw_m3 112 rfl) rfl
theorem q679 : (Jvm.Cond.classLink "java/util/Arrays" (2 : Nat) "java/lang/Object") ∈ lw_all := lw_g (lw_at lw_m3 113 rfl) rfl
theorem q680 : (Jvm.Cond.methodLink "java/util/Arrays" (304 : Nat) ({ cls := "java/lang/Math", name := "min", desc := "(II)I" } : Jvm.MethodName)) ∈ lw_all := lw_g (lw_at lw_m3 114 rfl) rfl
theorem q683 : (Jvm.Cond.methodLink "java/util/Arrays" (150 : Nat) ({ cls := "java/lang/System", name := "arraycopy", desc := "(Ljava/lang/Object;ILjava/lang/Object;II)V" } : Jvm.MethodName)) ∈ lw_all := lw_g (lw_at lw_m3 117 rfl) rfl
theorem q692 : (Jvm.Cond.static ({ cls := "java/util/Arrays", name := "copyOf", desc := "([Ljava/lang/Object;I)[Ljava/lang/Object;" } : Jvm.MethodName)) ∈ lw_all := lw_g (lw_at lw_m3 126 rfl) rfl
theorem q693 : (Jvm.Cond.code ({ cls := "java/util/Arrays", name := "copyOf", desc := "([Ljava/lang/Object;I)[Ljava/lang/Object;" } : Jvm.MethodName) prog_66_method_119_code (2 : Nat) (Option.some (Jvm.ClassFile.FieldType.array (Jvm.ClassFile.FieldType.object "java/lang/Object")))) ∈ lw_all := lw_g (lw_at lw_m3 127 rfl) rfl
theorem q694 : (Jvm.Cond.methodLink "java/util/Arrays" (86 : Nat) ({ cls := "java/lang/Object", name := "getClass", desc := "()Ljava/lang/Class;" } : Jvm.MethodName)) ∈ lw_all := lw_g (lw_at lw_m3 128 rfl) rfl
theorem q744 : (Jvm.Cond.methodLink "java/util/Arrays" (300 : Nat) ({ cls := "java/util/Arrays", name := "copyOf", desc := "([Ljava/lang/Object;ILjava/lang/Class;)[Ljava/lang/Object;" } : Jvm.MethodName)) ∈ lw_all := lw_g (lw_at lw_m3 178 rfl) rfl
theorem q745 : (Jvm.Cond.static ({ cls := "java/util/Arrays", name := "copyOf", desc := "([Ljava/lang/Object;ILjava/lang/Class;)[Ljava/lang/Object;" } : Jvm.MethodName)) ∈ lw_all := lw_g (lw_at lw_m3 179 rfl) rfl
theorem q746 : (Jvm.Cond.code ({ cls := "java/util/Arrays", name := "copyOf", desc := "([Ljava/lang/Object;ILjava/lang/Class;)[Ljava/lang/Object;" } : Jvm.MethodName) prog_66_method_120_code (4 : Nat) (Option.some (Jvm.ClassFile.FieldType.array (Jvm.ClassFile.FieldType.object "java/lang/Object")))) ∈ lw_all := lw_g (lw_at lw_m3 180 rfl) rfl
theorem q1636 : (Jvm.Cond.static ({ cls := "java/util/Arrays", name := "copyOf", desc := "([BI)[B" } : Jvm.MethodName)) ∈ lw_all := lw_g (lw_at lw_m7 110 rfl) rfl
theorem q1637 : (Jvm.Cond.code ({ cls := "java/util/Arrays", name := "copyOf", desc := "([BI)[B" } : Jvm.MethodName) prog_66_method_121_code (3 : Nat) (Option.some (Jvm.ClassFile.FieldType.array Jvm.ClassFile.FieldType.byte))) ∈ lw_all := lw_g (lw_at lw_m7 111 rfl) rfl
theorem q1638 : (Jvm.Cond.methodLink "java/util/Arrays" (310 : Nat) ({ cls := "[B", name := "clone", desc := "()Ljava/lang/Object;" } : Jvm.MethodName)) ∈ lw_all := lw_g (lw_at lw_m7 112 rfl) rfl
theorem q1644 : (Jvm.Cond.classLink "java/util/Arrays" (311 : Nat) "[B") ∈ lw_all := lw_g (lw_at lw_m7 118 rfl) rfl
theorem q1711 : (Jvm.Cond.static ({ cls := "java/util/Arrays", name := "fill", desc := "([BIIB)V" } : Jvm.MethodName)) ∈ lw_all := lw_g (lw_at lw_m7 185 rfl) rfl
theorem q1712 : (Jvm.Cond.code ({ cls := "java/util/Arrays", name := "fill", desc := "([BIIB)V" } : Jvm.MethodName) prog_66_method_110_code (5 : Nat) (Option.none : Option Jvm.ClassFile.FieldType)) ∈ lw_all := lw_g (lw_at lw_m7 186 rfl) rfl
theorem q1713 : (Jvm.Cond.methodLink "java/util/Arrays" (13 : Nat) ({ cls := "java/util/Arrays", name := "rangeCheck", desc := "(III)V" } : Jvm.MethodName)) ∈ lw_all := lw_g (lw_at lw_m7 187 rfl) rfl
theorem q1714 : (Jvm.Cond.static ({ cls := "java/util/Arrays", name := "rangeCheck", desc := "(III)V" } : Jvm.MethodName)) ∈ lw_all := lw_g (lw_at lw_m7 188 rfl) rfl
theorem q1715 : (Jvm.Cond.code ({ cls := "java/util/Arrays", name := "rangeCheck", desc := "(III)V" } : Jvm.MethodName) prog_66_method_30_code (3 : Nat) (Option.none : Option Jvm.ClassFile.FieldType)) ∈ lw_all := lw_g (lw_at lw_m7 189 rfl) rfl

end
section
/-! java/lang/Math -/
set_option maxRecDepth 100000
def RJ12 : String := "java/lang/Math"
abbrev cJ12_min : ByteArray := prog_45_method_69_code
def yJ12_min : MethodName := ⟨RJ12, "min", "(II)I"⟩
def dkwJ12_min_0 : List UInt8 := [26, 27, 163, 0, 7, 26, 167, 0, 4, 27, 172]
abbrev dktJ12_min_0 : List UInt8 := dkwJ12_min_0 ++ []
theorem dksJ12_min_0 : cJ12_min.data.toList.drop 0 = dktJ12_min_0 := by decide +kernel
theorem dJ12_min_0 : decode cJ12_min 0 = .ok (.iload_n 0, 1) := dk_26 (dk_at dksJ12_min_0 0 rfl rfl)
theorem dJ12_min_1 : decode cJ12_min 1 = .ok (.iload_n 1, 1) := dk_27 (dk_at dksJ12_min_0 1 rfl rfl)
theorem dJ12_min_2 : decode cJ12_min 2 = .ok (.if_icmp .gt 7, 3) := dk_163 0 7 (dk_at dksJ12_min_0 2 rfl rfl)
theorem dJ12_min_5 : decode cJ12_min 5 = .ok (.iload_n 0, 1) := dk_26 (dk_at dksJ12_min_0 5 rfl rfl)
theorem dJ12_min_6 : decode cJ12_min 6 = .ok (.goto 4, 3) := dk_167 0 4 (dk_at dksJ12_min_0 6 rfl rfl)
theorem dJ12_min_9 : decode cJ12_min 9 = .ok (.iload_n 1, 1) := dk_27 (dk_at dksJ12_min_0 9 rfl rfl)
theorem dJ12_min_10 : decode cJ12_min 10 = .ok (.ireturn, 1) := dk_172 (dk_at dksJ12_min_0 10 rfl rfl)
abbrev cJ12_max : ByteArray := prog_45_method_65_code
def yJ12_max : MethodName := ⟨RJ12, "max", "(II)I"⟩
def dkwJ12_max_0 : List UInt8 := [26, 27, 161, 0, 7, 26, 167, 0, 4, 27, 172]
abbrev dktJ12_max_0 : List UInt8 := dkwJ12_max_0 ++ []
theorem dksJ12_max_0 : cJ12_max.data.toList.drop 0 = dktJ12_max_0 := by decide +kernel
theorem dJ12_max_0 : decode cJ12_max 0 = .ok (.iload_n 0, 1) := dk_26 (dk_at dksJ12_max_0 0 rfl rfl)
theorem dJ12_max_1 : decode cJ12_max 1 = .ok (.iload_n 1, 1) := dk_27 (dk_at dksJ12_max_0 1 rfl rfl)
theorem dJ12_max_2 : decode cJ12_max 2 = .ok (.if_icmp .lt 7, 3) := dk_161 0 7 (dk_at dksJ12_max_0 2 rfl rfl)
theorem dJ12_max_5 : decode cJ12_max 5 = .ok (.iload_n 0, 1) := dk_26 (dk_at dksJ12_max_0 5 rfl rfl)
theorem dJ12_max_6 : decode cJ12_max 6 = .ok (.goto 4, 3) := dk_167 0 4 (dk_at dksJ12_max_0 6 rfl rfl)
theorem dJ12_max_9 : decode cJ12_max 9 = .ok (.iload_n 1, 1) := dk_27 (dk_at dksJ12_max_0 9 rfl rfl)
theorem dJ12_max_10 : decode cJ12_max 10 = .ok (.ireturn, 1) := dk_172 (dk_at dksJ12_max_0 10 rfl rfl)
theorem q107 : (Jvm.Cond.initialized "java/lang/Math") ∈ lw_all := lw_g (lw_at lw_m1 21 rfl) rfl
theorem q681 : (Jvm.Cond.static ({ cls := "java/lang/Math", name := "min", desc := "(II)I" } : Jvm.MethodName)) ∈ lw_all := lw_g (lw_at lw_m3 115 rfl) rfl
theorem q682 : (Jvm.Cond.code ({ cls := "java/lang/Math", name := "min", desc := "(II)I" } : Jvm.MethodName) prog_45_method_69_code (2 : Nat) (Option.some Jvm.ClassFile.FieldType.int)) ∈ lw_all := lw_g (lw_at lw_m3 116 rfl) rfl
theorem q1036 : (Jvm.Cond.static ({ cls := "java/lang/Math", name := "max", desc := "(II)I" } : Jvm.MethodName)) ∈ lw_all := lw_g (lw_at lw_m4 230 rfl) rfl
theorem q1037 : (Jvm.Cond.code ({ cls := "java/lang/Math", name := "max", desc := "(II)I" } : Jvm.MethodName) prog_45_method_65_code (2 : Nat) (Option.some Jvm.ClassFile.FieldType.int)) ∈ lw_all := lw_g (lw_at lw_m4 231 rfl) rfl

end
section
/-! java/util/ArrayDeque$DeqIterator -/
set_option maxRecDepth 100000
def RJ13 : String := "java/util/ArrayDeque$DeqIterator"
def TJ13 : u_T := fun k => match k with
  | 0 => ("java/util/ArrayDeque$DeqIterator", "cursor", "I", false)
  | 1 => ("java/util/ArrayDeque$DeqIterator", "remaining", "I", false)
  | 2 => ("java/util/ArrayDeque$DeqIterator", "lastRet", "I", false)
  | _ => ("java/util/ArrayDeque$DeqIterator", "this$0", "Ljava/util/ArrayDeque;", true)
def tyJ13 : Nat → FieldType := fun k => match k with
  | 0 => .int
  | 1 => .int
  | 2 => .int
  | _ => .object "java/util/ArrayDeque"
abbrev wsJ130 : List Cond := u_ws RJ13 TJ13 4
theorem nmJ13 : ∀ a, a < 4 → ∀ b, b < 4 → a ≠ b → (TJ13 a).2.1 ≠ (TJ13 b).2.1 := by decide +kernel
theorem tyJ13_ok : ∀ k, k < 4 → parseFieldDescriptor (TJ13 k).2.2.1 = some (tyJ13 k) := by decide +kernel
abbrev cJ13_init : ByteArray := prog_63_method_1_code
def yJ13_init : MethodName := ⟨RJ13, "<init>", "(Ljava/util/ArrayDeque;)V"⟩
def dkwJ13_init_1 : List UInt8 := [181, 0, 23, 42, 43, 180, 0, 26, 181, 0, 29, 177]
abbrev dktJ13_init_1 : List UInt8 := dkwJ13_init_1 ++ []
def dkwJ13_init_0 : List UInt8 := [42, 43, 181, 0, 1, 42, 183, 0, 7, 42, 42, 180, 0, 1, 182, 0, 13, 181, 0, 19, 42, 2]
abbrev dktJ13_init_0 : List UInt8 := dkwJ13_init_0 ++ dktJ13_init_1
theorem dksJ13_init_0 : cJ13_init.data.toList.drop 0 = dktJ13_init_0 := by decide +kernel
theorem dksJ13_init_1 : cJ13_init.data.toList.drop 22 = dktJ13_init_1 := dk_seg dksJ13_init_0 22 rfl rfl
theorem dJ13_init_0 : decode cJ13_init 0 = .ok (.aload_n 0, 1) := dk_42 (dk_at dksJ13_init_0 0 rfl rfl)
theorem dJ13_init_1 : decode cJ13_init 1 = .ok (.aload_n 1, 1) := dk_43 (dk_at dksJ13_init_0 1 rfl rfl)
theorem dJ13_init_2 : decode cJ13_init 2 = .ok (.putfield 1, 3) := dk_181 0 1 (dk_at dksJ13_init_0 2 rfl rfl)
theorem dJ13_init_5 : decode cJ13_init 5 = .ok (.aload_n 0, 1) := dk_42 (dk_at dksJ13_init_0 5 rfl rfl)
theorem dJ13_init_6 : decode cJ13_init 6 = .ok (.invokespecial 7, 3) := dk_183 0 7 (dk_at dksJ13_init_0 6 rfl rfl)
theorem dJ13_init_9 : decode cJ13_init 9 = .ok (.aload_n 0, 1) := dk_42 (dk_at dksJ13_init_0 9 rfl rfl)
theorem dJ13_init_10 : decode cJ13_init 10 = .ok (.aload_n 0, 1) := dk_42 (dk_at dksJ13_init_0 10 rfl rfl)
theorem dJ13_init_11 : decode cJ13_init 11 = .ok (.getfield 1, 3) := dk_180 0 1 (dk_at dksJ13_init_0 11 rfl rfl)
theorem dJ13_init_14 : decode cJ13_init 14 = .ok (.invokevirtual 13, 3) := dk_182 0 13 (dk_at dksJ13_init_0 14 rfl rfl)
theorem dJ13_init_17 : decode cJ13_init 17 = .ok (.putfield 19, 3) := dk_181 0 19 (dk_at dksJ13_init_0 17 rfl rfl)
theorem dJ13_init_20 : decode cJ13_init 20 = .ok (.aload_n 0, 1) := dk_42 (dk_at dksJ13_init_0 20 rfl rfl)
theorem dJ13_init_21 : decode cJ13_init 21 = .ok (.iconst (-1), 1) := dk_2 (dk_at dksJ13_init_0 21 rfl rfl)
theorem dJ13_init_22 : decode cJ13_init 22 = .ok (.putfield 23, 3) := dk_181 0 23 (dk_at dksJ13_init_1 0 rfl rfl)
theorem dJ13_init_25 : decode cJ13_init 25 = .ok (.aload_n 0, 1) := dk_42 (dk_at dksJ13_init_1 3 rfl rfl)
theorem dJ13_init_26 : decode cJ13_init 26 = .ok (.aload_n 1, 1) := dk_43 (dk_at dksJ13_init_1 4 rfl rfl)
theorem dJ13_init_27 : decode cJ13_init 27 = .ok (.getfield 26, 3) := dk_180 0 26 (dk_at dksJ13_init_1 5 rfl rfl)
theorem dJ13_init_30 : decode cJ13_init 30 = .ok (.putfield 29, 3) := dk_181 0 29 (dk_at dksJ13_init_1 8 rfl rfl)
theorem dJ13_init_33 : decode cJ13_init 33 = .ok (.return_, 1) := dk_177 (dk_at dksJ13_init_1 11 rfl rfl)
abbrev cJ13_hasNext : ByteArray := prog_63_method_2_code
def yJ13_hasNext : MethodName := ⟨RJ13, "hasNext", "()Z"⟩
def dkwJ13_hasNext_0 : List UInt8 := [42, 180, 0, 19, 158, 0, 7, 4, 167, 0, 4, 3, 172]
abbrev dktJ13_hasNext_0 : List UInt8 := dkwJ13_hasNext_0 ++ []
theorem dksJ13_hasNext_0 : cJ13_hasNext.data.toList.drop 0 = dktJ13_hasNext_0 := by decide +kernel
theorem dJ13_hasNext_0 : decode cJ13_hasNext 0 = .ok (.aload_n 0, 1) := dk_42 (dk_at dksJ13_hasNext_0 0 rfl rfl)
theorem dJ13_hasNext_1 : decode cJ13_hasNext 1 = .ok (.getfield 19, 3) := dk_180 0 19 (dk_at dksJ13_hasNext_0 1 rfl rfl)
theorem dJ13_hasNext_4 : decode cJ13_hasNext 4 = .ok (.ifCond .le 7, 3) := dk_158 0 7 (dk_at dksJ13_hasNext_0 4 rfl rfl)
theorem dJ13_hasNext_7 : decode cJ13_hasNext 7 = .ok (.iconst 1, 1) := dk_4 (dk_at dksJ13_hasNext_0 7 rfl rfl)
theorem dJ13_hasNext_8 : decode cJ13_hasNext 8 = .ok (.goto 4, 3) := dk_167 0 4 (dk_at dksJ13_hasNext_0 8 rfl rfl)
theorem dJ13_hasNext_11 : decode cJ13_hasNext 11 = .ok (.iconst 0, 1) := dk_3 (dk_at dksJ13_hasNext_0 11 rfl rfl)
theorem dJ13_hasNext_12 : decode cJ13_hasNext 12 = .ok (.ireturn, 1) := dk_172 (dk_at dksJ13_hasNext_0 12 rfl rfl)
abbrev cJ13_next : ByteArray := prog_63_method_3_code
def yJ13_next : MethodName := ⟨RJ13, "next", "()Ljava/lang/Object;"⟩
def dkwJ13_next_2 : List UInt8 := [181, 0, 29, 42, 89, 180, 0, 19, 4, 100, 181, 0, 19, 44, 176]
abbrev dktJ13_next_2 : List UInt8 := dkwJ13_next_2 ++ []
def dkwJ13_next_1 : List UInt8 := [42, 180, 0, 29, 184, 0, 39, 77, 42, 42, 42, 180, 0, 29, 90, 181, 0, 23, 43, 190, 184, 0, 43]
abbrev dktJ13_next_1 : List UInt8 := dkwJ13_next_1 ++ dktJ13_next_2
def dkwJ13_next_0 : List UInt8 := [42, 180, 0, 19, 157, 0, 11, 187, 0, 32, 89, 183, 0, 34, 191, 42, 180, 0, 1, 180, 0, 35, 76, 43]
abbrev dktJ13_next_0 : List UInt8 := dkwJ13_next_0 ++ dktJ13_next_1
theorem dksJ13_next_0 : cJ13_next.data.toList.drop 0 = dktJ13_next_0 := by decide +kernel
theorem dksJ13_next_1 : cJ13_next.data.toList.drop 24 = dktJ13_next_1 := dk_seg dksJ13_next_0 24 rfl rfl
theorem dksJ13_next_2 : cJ13_next.data.toList.drop 47 = dktJ13_next_2 := dk_seg dksJ13_next_1 23 rfl rfl
theorem dJ13_next_0 : decode cJ13_next 0 = .ok (.aload_n 0, 1) := dk_42 (dk_at dksJ13_next_0 0 rfl rfl)
theorem dJ13_next_1 : decode cJ13_next 1 = .ok (.getfield 19, 3) := dk_180 0 19 (dk_at dksJ13_next_0 1 rfl rfl)
theorem dJ13_next_4 : decode cJ13_next 4 = .ok (.ifCond .gt 11, 3) := dk_157 0 11 (dk_at dksJ13_next_0 4 rfl rfl)
theorem dJ13_next_7 : decode cJ13_next 7 = .ok (.new 32, 3) := dk_187 0 32 (dk_at dksJ13_next_0 7 rfl rfl)
theorem dJ13_next_10 : decode cJ13_next 10 = .ok (.dup, 1) := dk_89 (dk_at dksJ13_next_0 10 rfl rfl)
theorem dJ13_next_11 : decode cJ13_next 11 = .ok (.invokespecial 34, 3) := dk_183 0 34 (dk_at dksJ13_next_0 11 rfl rfl)
theorem dJ13_next_14 : decode cJ13_next 14 = .ok (.athrow, 1) := dk_191 (dk_at dksJ13_next_0 14 rfl rfl)
theorem dJ13_next_15 : decode cJ13_next 15 = .ok (.aload_n 0, 1) := dk_42 (dk_at dksJ13_next_0 15 rfl rfl)
theorem dJ13_next_16 : decode cJ13_next 16 = .ok (.getfield 1, 3) := dk_180 0 1 (dk_at dksJ13_next_0 16 rfl rfl)
theorem dJ13_next_19 : decode cJ13_next 19 = .ok (.getfield 35, 3) := dk_180 0 35 (dk_at dksJ13_next_0 19 rfl rfl)
theorem dJ13_next_22 : decode cJ13_next 22 = .ok (.astore_n 1, 1) := dk_76 (dk_at dksJ13_next_0 22 rfl rfl)
theorem dJ13_next_23 : decode cJ13_next 23 = .ok (.aload_n 1, 1) := dk_43 (dk_at dksJ13_next_0 23 rfl rfl)
theorem dJ13_next_24 : decode cJ13_next 24 = .ok (.aload_n 0, 1) := dk_42 (dk_at dksJ13_next_1 0 rfl rfl)
theorem dJ13_next_25 : decode cJ13_next 25 = .ok (.getfield 29, 3) := dk_180 0 29 (dk_at dksJ13_next_1 1 rfl rfl)
theorem dJ13_next_28 : decode cJ13_next 28 = .ok (.invokestatic 39, 3) := dk_184 0 39 (dk_at dksJ13_next_1 4 rfl rfl)
theorem dJ13_next_31 : decode cJ13_next 31 = .ok (.astore_n 2, 1) := dk_77 (dk_at dksJ13_next_1 7 rfl rfl)
theorem dJ13_next_32 : decode cJ13_next 32 = .ok (.aload_n 0, 1) := dk_42 (dk_at dksJ13_next_1 8 rfl rfl)
theorem dJ13_next_33 : decode cJ13_next 33 = .ok (.aload_n 0, 1) := dk_42 (dk_at dksJ13_next_1 9 rfl rfl)
theorem dJ13_next_34 : decode cJ13_next 34 = .ok (.aload_n 0, 1) := dk_42 (dk_at dksJ13_next_1 10 rfl rfl)
theorem dJ13_next_35 : decode cJ13_next 35 = .ok (.getfield 29, 3) := dk_180 0 29 (dk_at dksJ13_next_1 11 rfl rfl)
theorem dJ13_next_38 : decode cJ13_next 38 = .ok (.dup_x1, 1) := dk_90 (dk_at dksJ13_next_1 14 rfl rfl)
theorem dJ13_next_39 : decode cJ13_next 39 = .ok (.putfield 23, 3) := dk_181 0 23 (dk_at dksJ13_next_1 15 rfl rfl)
theorem dJ13_next_42 : decode cJ13_next 42 = .ok (.aload_n 1, 1) := dk_43 (dk_at dksJ13_next_1 18 rfl rfl)
theorem dJ13_next_43 : decode cJ13_next 43 = .ok (.arraylength, 1) := dk_190 (dk_at dksJ13_next_1 19 rfl rfl)
theorem dJ13_next_44 : decode cJ13_next 44 = .ok (.invokestatic 43, 3) := dk_184 0 43 (dk_at dksJ13_next_1 20 rfl rfl)
theorem dJ13_next_47 : decode cJ13_next 47 = .ok (.putfield 29, 3) := dk_181 0 29 (dk_at dksJ13_next_2 0 rfl rfl)
theorem dJ13_next_50 : decode cJ13_next 50 = .ok (.aload_n 0, 1) := dk_42 (dk_at dksJ13_next_2 3 rfl rfl)
theorem dJ13_next_51 : decode cJ13_next 51 = .ok (.dup, 1) := dk_89 (dk_at dksJ13_next_2 4 rfl rfl)
theorem dJ13_next_52 : decode cJ13_next 52 = .ok (.getfield 19, 3) := dk_180 0 19 (dk_at dksJ13_next_2 5 rfl rfl)
theorem dJ13_next_55 : decode cJ13_next 55 = .ok (.iconst 1, 1) := dk_4 (dk_at dksJ13_next_2 8 rfl rfl)
theorem dJ13_next_56 : decode cJ13_next 56 = .ok (.isub, 1) := dk_100 (dk_at dksJ13_next_2 9 rfl rfl)
theorem dJ13_next_57 : decode cJ13_next 57 = .ok (.putfield 19, 3) := dk_181 0 19 (dk_at dksJ13_next_2 10 rfl rfl)
theorem dJ13_next_60 : decode cJ13_next 60 = .ok (.aload_n 2, 1) := dk_44 (dk_at dksJ13_next_2 13 rfl rfl)
theorem dJ13_next_61 : decode cJ13_next 61 = .ok (.areturn, 1) := dk_176 (dk_at dksJ13_next_2 14 rfl rfl)
theorem q108 : (Jvm.Cond.initialized "java/util/ArrayDeque$DeqIterator") ∈ lw_all := lw_g (lw_at lw_m1 22 rfl) rfl
theorem q325 : (Jvm.Cond.fieldLink "java/util/ArrayDeque$DeqIterator" (35 : Nat) "java/util/ArrayDeque" "elements" "[Ljava/lang/Object;") ∈ lw_all := lw_g (lw_at lw_m1 239 rfl) rfl
theorem q326 : (Jvm.Cond.fieldLink "java/util/ArrayDeque$DeqIterator" (26 : Nat) "java/util/ArrayDeque" "head" "I") ∈ lw_all := lw_g (lw_at lw_m2 0 rfl) rfl
theorem q732 : (Jvm.Cond.selects "java/util/ArrayDeque$DeqIterator" ({ cls := "java/lang/Object", name := "getClass", desc := "()Ljava/lang/Class;" } : Jvm.MethodName) ({ cls := "java/lang/Object", name := "getClass", desc := "()Ljava/lang/Class;" } : Jvm.MethodName)) ∈ lw_all := lw_g (lw_at lw_m3 166 rfl) rfl
theorem q797 : (Jvm.Cond.instantiable "java/util/ArrayDeque$DeqIterator" (4 : Nat)) ∈ lw_all := lw_g (lw_at lw_m3 231 rfl) rfl
theorem q799 : (Jvm.Cond.instanceMethod ({ cls := "java/util/ArrayDeque$DeqIterator", name := "<init>", desc := "(Ljava/util/ArrayDeque;)V" } : Jvm.MethodName)) ∈ lw_all := lw_g (lw_at lw_m3 233 rfl) rfl
theorem q800 : (Jvm.Cond.code ({ cls := "java/util/ArrayDeque$DeqIterator", name := "<init>", desc := "(Ljava/util/ArrayDeque;)V" } : Jvm.MethodName) prog_63_method_1_code (2 : Nat) (Option.none : Option Jvm.ClassFile.FieldType)) ∈ lw_all := lw_g (lw_at lw_m3 234 rfl) rfl
theorem q801 : (Jvm.Cond.methodLink "java/util/ArrayDeque$DeqIterator" (7 : Nat) ({ cls := "java/lang/Object", name := "<init>", desc := "()V" } : Jvm.MethodName)) ∈ lw_all := lw_g (lw_at lw_m3 235 rfl) rfl
theorem q802 : (Jvm.Cond.methodLink "java/util/ArrayDeque$DeqIterator" (13 : Nat) ({ cls := "java/util/ArrayDeque", name := "size", desc := "()I" } : Jvm.MethodName)) ∈ lw_all := lw_g (lw_at lw_m3 236 rfl) rfl
theorem q803 : (Jvm.Cond.fieldLink "java/util/ArrayDeque$DeqIterator" (29 : Nat) "java/util/ArrayDeque$DeqIterator" "cursor" "I") ∈ lw_all := lw_g (lw_at lw_m3 237 rfl) rfl
theorem q804 : (Jvm.Cond.fieldLink "java/util/ArrayDeque$DeqIterator" (19 : Nat) "java/util/ArrayDeque$DeqIterator" "remaining" "I") ∈ lw_all := lw_g (lw_at lw_m3 238 rfl) rfl
theorem q805 : (Jvm.Cond.fieldLink "java/util/ArrayDeque$DeqIterator" (23 : Nat) "java/util/ArrayDeque$DeqIterator" "lastRet" "I") ∈ lw_all := lw_g (lw_at lw_m3 239 rfl) rfl
theorem q806 : (Jvm.Cond.fieldLink "java/util/ArrayDeque$DeqIterator" (1 : Nat) "java/util/ArrayDeque$DeqIterator" "this$0" "Ljava/util/ArrayDeque;") ∈ lw_all := lw_g (lw_at lw_m4 0 rfl) rfl
theorem q807 : (Jvm.Cond.lays "java/util/ArrayDeque$DeqIterator" "java/util/ArrayDeque$DeqIterator" "cursor" "I") ∈ lw_all := lw_g (lw_at lw_m4 1 rfl) rfl
theorem q808 : (Jvm.Cond.soleField "java/util/ArrayDeque$DeqIterator" "cursor") ∈ lw_all := lw_g (lw_at lw_m4 2 rfl) rfl
theorem q809 : (Jvm.Cond.lays "java/util/ArrayDeque$DeqIterator" "java/util/ArrayDeque$DeqIterator" "remaining" "I") ∈ lw_all := lw_g (lw_at lw_m4 3 rfl) rfl
theorem q810 : (Jvm.Cond.soleField "java/util/ArrayDeque$DeqIterator" "remaining") ∈ lw_all := lw_g (lw_at lw_m4 4 rfl) rfl
theorem q811 : (Jvm.Cond.lays "java/util/ArrayDeque$DeqIterator" "java/util/ArrayDeque$DeqIterator" "lastRet" "I") ∈ lw_all := lw_g (lw_at lw_m4 5 rfl) rfl
theorem q812 : (Jvm.Cond.soleField "java/util/ArrayDeque$DeqIterator" "lastRet") ∈ lw_all := lw_g (lw_at lw_m4 6 rfl) rfl
theorem q813 : (Jvm.Cond.laysFinal "java/util/ArrayDeque$DeqIterator" "java/util/ArrayDeque$DeqIterator" "this$0" "Ljava/util/ArrayDeque;") ∈ lw_all := lw_g (lw_at lw_m4 7 rfl) rfl
theorem q814 : (Jvm.Cond.soleField "java/util/ArrayDeque$DeqIterator" "this$0") ∈ lw_all := lw_g (lw_at lw_m4 8 rfl) rfl
theorem q815 : (Jvm.Cond.superclass "java/util/ArrayDeque$DeqIterator" "java/lang/Object") ∈ lw_all := lw_g (lw_at lw_m4 9 rfl) rfl
theorem q945 : (Jvm.Cond.castable "java/util/ArrayDeque$DeqIterator" "java/util/Iterator") ∈ lw_tbl := lw_at lw_m4 139 rfl
theorem q946 : (Jvm.Cond.selects "java/util/ArrayDeque$DeqIterator" ({ cls := "java/util/Iterator", name := "hasNext", desc := "()Z" } : Jvm.MethodName) ({ cls := "java/util/ArrayDeque$DeqIterator", name := "hasNext", desc := "()Z" } : Jvm.MethodName)) ∈ lw_all := lw_g (lw_at lw_m4 140 rfl) rfl
theorem q947 : (Jvm.Cond.unhidden "java/util/ArrayDeque$DeqIterator" "hasNext" "()Z") ∈ lw_tbl := lw_at lw_m4 141 rfl
theorem q948 : (Jvm.Cond.instanceMethod ({ cls := "java/util/ArrayDeque$DeqIterator", name := "hasNext", desc := "()Z" } : Jvm.MethodName)) ∈ lw_all := lw_g (lw_at lw_m4 142 rfl) rfl
theorem q949 : (Jvm.Cond.publicMethod ({ cls := "java/util/ArrayDeque$DeqIterator", name := "hasNext", desc := "()Z" } : Jvm.MethodName)) ∈ lw_tbl := lw_at lw_m4 143 rfl
theorem q950 : (Jvm.Cond.code ({ cls := "java/util/ArrayDeque$DeqIterator", name := "hasNext", desc := "()Z" } : Jvm.MethodName) prog_63_method_2_code (1 : Nat) (Option.some Jvm.ClassFile.FieldType.boolean)) ∈ lw_all := lw_g (lw_at lw_m4 144 rfl) rfl
theorem q978 : (Jvm.Cond.selects "java/util/ArrayDeque$DeqIterator" ({ cls := "java/util/Iterator", name := "next", desc := "()Ljava/lang/Object;" } : Jvm.MethodName) ({ cls := "java/util/ArrayDeque$DeqIterator", name := "next", desc := "()Ljava/lang/Object;" } : Jvm.MethodName)) ∈ lw_all := lw_g (lw_at lw_m4 172 rfl) rfl
theorem q979 : (Jvm.Cond.unhidden "java/util/ArrayDeque$DeqIterator" "next" "()Ljava/lang/Object;") ∈ lw_tbl := lw_at lw_m4 173 rfl
theorem q980 : (Jvm.Cond.instanceMethod ({ cls := "java/util/ArrayDeque$DeqIterator", name := "next", desc := "()Ljava/lang/Object;" } : Jvm.MethodName)) ∈ lw_all := lw_g (lw_at lw_m4 174 rfl) rfl
theorem q981 : (Jvm.Cond.publicMethod ({ cls := "java/util/ArrayDeque$DeqIterator", name := "next", desc := "()Ljava/lang/Object;" } : Jvm.MethodName)) ∈ lw_tbl := lw_at lw_m4 175 rfl
theorem q982 : (Jvm.Cond.code ({ cls := "java/util/ArrayDeque$DeqIterator", name := "next", desc := "()Ljava/lang/Object;" } : Jvm.MethodName) prog_63_method_3_code (3 : Nat) (Option.some (Jvm.ClassFile.FieldType.object "java/lang/Object"))) ∈ lw_all := lw_g (lw_at lw_m4 176 rfl) rfl
theorem q983 : (Jvm.Cond.methodLink "java/util/ArrayDeque$DeqIterator" (39 : Nat) ({ cls := "java/util/ArrayDeque", name := "nonNullElementAt", desc := "([Ljava/lang/Object;I)Ljava/lang/Object;" } : Jvm.MethodName)) ∈ lw_all := lw_g (lw_at lw_m4 177 rfl) rfl
theorem q986 : (Jvm.Cond.methodLink "java/util/ArrayDeque$DeqIterator" (43 : Nat) ({ cls := "java/util/ArrayDeque", name := "inc", desc := "(II)I" } : Jvm.MethodName)) ∈ lw_all := lw_g (lw_at lw_m4 180 rfl) rfl
theorem q3374 : (Jvm.Cond.castable "java/util/ArrayDeque$DeqIterator" "java/lang/Object") ∈ lw_tbl := lw_at lw_m14 168 rfl
theorem in_J13 : ∀ w ∈ wsJ130, w ∈ lw_all := lw_in wsJ130 [807, 809, 811, 813] (by decide +kernel) (by decide +kernel)

end
section
/-! java/util/ArrayList$Itr -/
set_option maxRecDepth 100000
def RJ14 : String := "java/util/ArrayList$Itr"
def TJ14 : u_T := fun k => match k with
  | 0 => ("java/util/ArrayList$Itr", "cursor", "I", false)
  | 1 => ("java/util/ArrayList$Itr", "lastRet", "I", false)
  | 2 => ("java/util/ArrayList$Itr", "expectedModCount", "I", false)
  | _ => ("java/util/ArrayList$Itr", "this$0", "Ljava/util/ArrayList;", true)
def tyJ14 : Nat → FieldType := fun k => match k with
  | 0 => .int
  | 1 => .int
  | 2 => .int
  | _ => .object "java/util/ArrayList"
abbrev wsJ140 : List Cond := u_ws RJ14 TJ14 4
theorem nmJ14 : ∀ a, a < 4 → ∀ b, b < 4 → a ≠ b → (TJ14 a).2.1 ≠ (TJ14 b).2.1 := by decide +kernel
theorem tyJ14_ok : ∀ k, k < 4 → parseFieldDescriptor (TJ14 k).2.2.1 = some (tyJ14 k) := by decide +kernel
abbrev cJ14_init : ByteArray := prog_65_method_1_code
def yJ14_init : MethodName := ⟨RJ14, "<init>", "(Ljava/util/ArrayList;)V"⟩
def dkwJ14_init_1 : List UInt8 := [181, 0, 22, 177]
abbrev dktJ14_init_1 : List UInt8 := dkwJ14_init_1 ++ []
def dkwJ14_init_0 : List UInt8 := [42, 43, 181, 0, 1, 42, 183, 0, 7, 42, 2, 181, 0, 13, 42, 42, 180, 0, 1, 180, 0, 17]
abbrev dktJ14_init_0 : List UInt8 := dkwJ14_init_0 ++ dktJ14_init_1
theorem dksJ14_init_0 : cJ14_init.data.toList.drop 0 = dktJ14_init_0 := by decide +kernel
theorem dksJ14_init_1 : cJ14_init.data.toList.drop 22 = dktJ14_init_1 := dk_seg dksJ14_init_0 22 rfl rfl
theorem dJ14_init_0 : decode cJ14_init 0 = .ok (.aload_n 0, 1) := dk_42 (dk_at dksJ14_init_0 0 rfl rfl)
theorem dJ14_init_1 : decode cJ14_init 1 = .ok (.aload_n 1, 1) := dk_43 (dk_at dksJ14_init_0 1 rfl rfl)
theorem dJ14_init_2 : decode cJ14_init 2 = .ok (.putfield 1, 3) := dk_181 0 1 (dk_at dksJ14_init_0 2 rfl rfl)
theorem dJ14_init_5 : decode cJ14_init 5 = .ok (.aload_n 0, 1) := dk_42 (dk_at dksJ14_init_0 5 rfl rfl)
theorem dJ14_init_6 : decode cJ14_init 6 = .ok (.invokespecial 7, 3) := dk_183 0 7 (dk_at dksJ14_init_0 6 rfl rfl)
theorem dJ14_init_9 : decode cJ14_init 9 = .ok (.aload_n 0, 1) := dk_42 (dk_at dksJ14_init_0 9 rfl rfl)
theorem dJ14_init_10 : decode cJ14_init 10 = .ok (.iconst (-1), 1) := dk_2 (dk_at dksJ14_init_0 10 rfl rfl)
theorem dJ14_init_11 : decode cJ14_init 11 = .ok (.putfield 13, 3) := dk_181 0 13 (dk_at dksJ14_init_0 11 rfl rfl)
theorem dJ14_init_14 : decode cJ14_init 14 = .ok (.aload_n 0, 1) := dk_42 (dk_at dksJ14_init_0 14 rfl rfl)
theorem dJ14_init_15 : decode cJ14_init 15 = .ok (.aload_n 0, 1) := dk_42 (dk_at dksJ14_init_0 15 rfl rfl)
theorem dJ14_init_16 : decode cJ14_init 16 = .ok (.getfield 1, 3) := dk_180 0 1 (dk_at dksJ14_init_0 16 rfl rfl)
theorem dJ14_init_19 : decode cJ14_init 19 = .ok (.getfield 17, 3) := dk_180 0 17 (dk_at dksJ14_init_0 19 rfl rfl)
theorem dJ14_init_22 : decode cJ14_init 22 = .ok (.putfield 22, 3) := dk_181 0 22 (dk_at dksJ14_init_1 0 rfl rfl)
theorem dJ14_init_25 : decode cJ14_init 25 = .ok (.return_, 1) := dk_177 (dk_at dksJ14_init_1 3 rfl rfl)
abbrev cJ14_hasNext : ByteArray := prog_65_method_2_code
def yJ14_hasNext : MethodName := ⟨RJ14, "hasNext", "()Z"⟩
def dkwJ14_hasNext_0 : List UInt8 := [42, 180, 0, 25, 42, 180, 0, 1, 180, 0, 28, 159, 0, 7, 4, 167, 0, 4, 3, 172]
abbrev dktJ14_hasNext_0 : List UInt8 := dkwJ14_hasNext_0 ++ []
theorem dksJ14_hasNext_0 : cJ14_hasNext.data.toList.drop 0 = dktJ14_hasNext_0 := by decide +kernel
theorem dJ14_hasNext_0 : decode cJ14_hasNext 0 = .ok (.aload_n 0, 1) := dk_42 (dk_at dksJ14_hasNext_0 0 rfl rfl)
theorem dJ14_hasNext_1 : decode cJ14_hasNext 1 = .ok (.getfield 25, 3) := dk_180 0 25 (dk_at dksJ14_hasNext_0 1 rfl rfl)
theorem dJ14_hasNext_4 : decode cJ14_hasNext 4 = .ok (.aload_n 0, 1) := dk_42 (dk_at dksJ14_hasNext_0 4 rfl rfl)
theorem dJ14_hasNext_5 : decode cJ14_hasNext 5 = .ok (.getfield 1, 3) := dk_180 0 1 (dk_at dksJ14_hasNext_0 5 rfl rfl)
theorem dJ14_hasNext_8 : decode cJ14_hasNext 8 = .ok (.getfield 28, 3) := dk_180 0 28 (dk_at dksJ14_hasNext_0 8 rfl rfl)
theorem dJ14_hasNext_11 : decode cJ14_hasNext 11 = .ok (.if_icmp .eq 7, 3) := dk_159 0 7 (dk_at dksJ14_hasNext_0 11 rfl rfl)
theorem dJ14_hasNext_14 : decode cJ14_hasNext 14 = .ok (.iconst 1, 1) := dk_4 (dk_at dksJ14_hasNext_0 14 rfl rfl)
theorem dJ14_hasNext_15 : decode cJ14_hasNext 15 = .ok (.goto 4, 3) := dk_167 0 4 (dk_at dksJ14_hasNext_0 15 rfl rfl)
theorem dJ14_hasNext_18 : decode cJ14_hasNext 18 = .ok (.iconst 0, 1) := dk_3 (dk_at dksJ14_hasNext_0 18 rfl rfl)
theorem dJ14_hasNext_19 : decode cJ14_hasNext 19 = .ok (.ireturn, 1) := dk_172 (dk_at dksJ14_hasNext_0 19 rfl rfl)
abbrev cJ14_next : ByteArray := prog_65_method_3_code
def yJ14_next : MethodName := ⟨RJ14, "next", "()Ljava/lang/Object;"⟩
def dkwJ14_next_2 : List UInt8 := [183, 0, 43, 191, 42, 27, 4, 96, 181, 0, 25, 44, 42, 27, 90, 181, 0, 13, 50, 176]
abbrev dktJ14_next_2 : List UInt8 := dkwJ14_next_2 ++ []
def dkwJ14_next_1 : List UInt8 := [183, 0, 36, 191, 42, 180, 0, 1, 180, 0, 37, 77, 27, 44, 190, 161, 0, 11, 187, 0, 41, 89]
abbrev dktJ14_next_1 : List UInt8 := dkwJ14_next_1 ++ dktJ14_next_2
def dkwJ14_next_0 : List UInt8 := [42, 182, 0, 31, 42, 180, 0, 25, 60, 27, 42, 180, 0, 1, 180, 0, 28, 161, 0, 11, 187, 0, 34, 89]
abbrev dktJ14_next_0 : List UInt8 := dkwJ14_next_0 ++ dktJ14_next_1
theorem dksJ14_next_0 : cJ14_next.data.toList.drop 0 = dktJ14_next_0 := by decide +kernel
theorem dksJ14_next_1 : cJ14_next.data.toList.drop 24 = dktJ14_next_1 := dk_seg dksJ14_next_0 24 rfl rfl
theorem dksJ14_next_2 : cJ14_next.data.toList.drop 46 = dktJ14_next_2 := dk_seg dksJ14_next_1 22 rfl rfl
theorem dJ14_next_0 : decode cJ14_next 0 = .ok (.aload_n 0, 1) := dk_42 (dk_at dksJ14_next_0 0 rfl rfl)
theorem dJ14_next_1 : decode cJ14_next 1 = .ok (.invokevirtual 31, 3) := dk_182 0 31 (dk_at dksJ14_next_0 1 rfl rfl)
theorem dJ14_next_4 : decode cJ14_next 4 = .ok (.aload_n 0, 1) := dk_42 (dk_at dksJ14_next_0 4 rfl rfl)
theorem dJ14_next_5 : decode cJ14_next 5 = .ok (.getfield 25, 3) := dk_180 0 25 (dk_at dksJ14_next_0 5 rfl rfl)
theorem dJ14_next_8 : decode cJ14_next 8 = .ok (.istore_n 1, 1) := dk_60 (dk_at dksJ14_next_0 8 rfl rfl)
theorem dJ14_next_9 : decode cJ14_next 9 = .ok (.iload_n 1, 1) := dk_27 (dk_at dksJ14_next_0 9 rfl rfl)
theorem dJ14_next_10 : decode cJ14_next 10 = .ok (.aload_n 0, 1) := dk_42 (dk_at dksJ14_next_0 10 rfl rfl)
theorem dJ14_next_11 : decode cJ14_next 11 = .ok (.getfield 1, 3) := dk_180 0 1 (dk_at dksJ14_next_0 11 rfl rfl)
theorem dJ14_next_14 : decode cJ14_next 14 = .ok (.getfield 28, 3) := dk_180 0 28 (dk_at dksJ14_next_0 14 rfl rfl)
theorem dJ14_next_17 : decode cJ14_next 17 = .ok (.if_icmp .lt 11, 3) := dk_161 0 11 (dk_at dksJ14_next_0 17 rfl rfl)
theorem dJ14_next_20 : decode cJ14_next 20 = .ok (.new 34, 3) := dk_187 0 34 (dk_at dksJ14_next_0 20 rfl rfl)
theorem dJ14_next_23 : decode cJ14_next 23 = .ok (.dup, 1) := dk_89 (dk_at dksJ14_next_0 23 rfl rfl)
theorem dJ14_next_24 : decode cJ14_next 24 = .ok (.invokespecial 36, 3) := dk_183 0 36 (dk_at dksJ14_next_1 0 rfl rfl)
theorem dJ14_next_27 : decode cJ14_next 27 = .ok (.athrow, 1) := dk_191 (dk_at dksJ14_next_1 3 rfl rfl)
theorem dJ14_next_28 : decode cJ14_next 28 = .ok (.aload_n 0, 1) := dk_42 (dk_at dksJ14_next_1 4 rfl rfl)
theorem dJ14_next_29 : decode cJ14_next 29 = .ok (.getfield 1, 3) := dk_180 0 1 (dk_at dksJ14_next_1 5 rfl rfl)
theorem dJ14_next_32 : decode cJ14_next 32 = .ok (.getfield 37, 3) := dk_180 0 37 (dk_at dksJ14_next_1 8 rfl rfl)
theorem dJ14_next_35 : decode cJ14_next 35 = .ok (.astore_n 2, 1) := dk_77 (dk_at dksJ14_next_1 11 rfl rfl)
theorem dJ14_next_36 : decode cJ14_next 36 = .ok (.iload_n 1, 1) := dk_27 (dk_at dksJ14_next_1 12 rfl rfl)
theorem dJ14_next_37 : decode cJ14_next 37 = .ok (.aload_n 2, 1) := dk_44 (dk_at dksJ14_next_1 13 rfl rfl)
theorem dJ14_next_38 : decode cJ14_next 38 = .ok (.arraylength, 1) := dk_190 (dk_at dksJ14_next_1 14 rfl rfl)
theorem dJ14_next_39 : decode cJ14_next 39 = .ok (.if_icmp .lt 11, 3) := dk_161 0 11 (dk_at dksJ14_next_1 15 rfl rfl)
theorem dJ14_next_42 : decode cJ14_next 42 = .ok (.new 41, 3) := dk_187 0 41 (dk_at dksJ14_next_1 18 rfl rfl)
theorem dJ14_next_45 : decode cJ14_next 45 = .ok (.dup, 1) := dk_89 (dk_at dksJ14_next_1 21 rfl rfl)
theorem dJ14_next_46 : decode cJ14_next 46 = .ok (.invokespecial 43, 3) := dk_183 0 43 (dk_at dksJ14_next_2 0 rfl rfl)
theorem dJ14_next_49 : decode cJ14_next 49 = .ok (.athrow, 1) := dk_191 (dk_at dksJ14_next_2 3 rfl rfl)
theorem dJ14_next_50 : decode cJ14_next 50 = .ok (.aload_n 0, 1) := dk_42 (dk_at dksJ14_next_2 4 rfl rfl)
theorem dJ14_next_51 : decode cJ14_next 51 = .ok (.iload_n 1, 1) := dk_27 (dk_at dksJ14_next_2 5 rfl rfl)
theorem dJ14_next_52 : decode cJ14_next 52 = .ok (.iconst 1, 1) := dk_4 (dk_at dksJ14_next_2 6 rfl rfl)
theorem dJ14_next_53 : decode cJ14_next 53 = .ok (.iadd, 1) := dk_96 (dk_at dksJ14_next_2 7 rfl rfl)
theorem dJ14_next_54 : decode cJ14_next 54 = .ok (.putfield 25, 3) := dk_181 0 25 (dk_at dksJ14_next_2 8 rfl rfl)
theorem dJ14_next_57 : decode cJ14_next 57 = .ok (.aload_n 2, 1) := dk_44 (dk_at dksJ14_next_2 11 rfl rfl)
theorem dJ14_next_58 : decode cJ14_next 58 = .ok (.aload_n 0, 1) := dk_42 (dk_at dksJ14_next_2 12 rfl rfl)
theorem dJ14_next_59 : decode cJ14_next 59 = .ok (.iload_n 1, 1) := dk_27 (dk_at dksJ14_next_2 13 rfl rfl)
theorem dJ14_next_60 : decode cJ14_next 60 = .ok (.dup_x1, 1) := dk_90 (dk_at dksJ14_next_2 14 rfl rfl)
theorem dJ14_next_61 : decode cJ14_next 61 = .ok (.putfield 13, 3) := dk_181 0 13 (dk_at dksJ14_next_2 15 rfl rfl)
theorem dJ14_next_64 : decode cJ14_next 64 = .ok (.aaload, 1) := dk_50 (dk_at dksJ14_next_2 18 rfl rfl)
theorem dJ14_next_65 : decode cJ14_next 65 = .ok (.areturn, 1) := dk_176 (dk_at dksJ14_next_2 19 rfl rfl)
abbrev cJ14_checkForComodification : ByteArray := prog_65_method_6_code
def yJ14_checkForComodification : MethodName := ⟨RJ14, "checkForComodification", "()V"⟩
def dkwJ14_checkForComodification_0 : List UInt8 := [42, 180, 0, 1, 180, 0, 17, 42, 180, 0, 22, 159, 0, 11, 187, 0, 41, 89, 183, 0, 43, 191, 177]
abbrev dktJ14_checkForComodification_0 : List UInt8 := dkwJ14_checkForComodification_0 ++ []
theorem dksJ14_checkForComodification_0 : cJ14_checkForComodification.data.toList.drop 0 = dktJ14_checkForComodification_0 := by decide +kernel
theorem dJ14_checkForComodification_0 : decode cJ14_checkForComodification 0 = .ok (.aload_n 0, 1) := dk_42 (dk_at dksJ14_checkForComodification_0 0 rfl rfl)
theorem dJ14_checkForComodification_1 : decode cJ14_checkForComodification 1 = .ok (.getfield 1, 3) := dk_180 0 1 (dk_at dksJ14_checkForComodification_0 1 rfl rfl)
theorem dJ14_checkForComodification_4 : decode cJ14_checkForComodification 4 = .ok (.getfield 17, 3) := dk_180 0 17 (dk_at dksJ14_checkForComodification_0 4 rfl rfl)
theorem dJ14_checkForComodification_7 : decode cJ14_checkForComodification 7 = .ok (.aload_n 0, 1) := dk_42 (dk_at dksJ14_checkForComodification_0 7 rfl rfl)
theorem dJ14_checkForComodification_8 : decode cJ14_checkForComodification 8 = .ok (.getfield 22, 3) := dk_180 0 22 (dk_at dksJ14_checkForComodification_0 8 rfl rfl)
theorem dJ14_checkForComodification_11 : decode cJ14_checkForComodification 11 = .ok (.if_icmp .eq 11, 3) := dk_159 0 11 (dk_at dksJ14_checkForComodification_0 11 rfl rfl)
theorem dJ14_checkForComodification_14 : decode cJ14_checkForComodification 14 = .ok (.new 41, 3) := dk_187 0 41 (dk_at dksJ14_checkForComodification_0 14 rfl rfl)
theorem dJ14_checkForComodification_17 : decode cJ14_checkForComodification 17 = .ok (.dup, 1) := dk_89 (dk_at dksJ14_checkForComodification_0 17 rfl rfl)
theorem dJ14_checkForComodification_18 : decode cJ14_checkForComodification 18 = .ok (.invokespecial 43, 3) := dk_183 0 43 (dk_at dksJ14_checkForComodification_0 18 rfl rfl)
theorem dJ14_checkForComodification_21 : decode cJ14_checkForComodification 21 = .ok (.athrow, 1) := dk_191 (dk_at dksJ14_checkForComodification_0 21 rfl rfl)
theorem dJ14_checkForComodification_22 : decode cJ14_checkForComodification 22 = .ok (.return_, 1) := dk_177 (dk_at dksJ14_checkForComodification_0 22 rfl rfl)
theorem q109 : (Jvm.Cond.initialized "java/util/ArrayList$Itr") ∈ lw_all := lw_g (lw_at lw_m1 23 rfl) rfl
theorem q190 : (Jvm.Cond.fieldLink "java/util/ArrayList$Itr" (37 : Nat) "java/util/ArrayList" "elementData" "[Ljava/lang/Object;") ∈ lw_all := lw_g (lw_at lw_m1 104 rfl) rfl
theorem q191 : (Jvm.Cond.fieldLinkNest "java/util/ArrayList$Itr" (28 : Nat) "java/util/ArrayList" "size" "I" "java/util/ArrayList") ∈ lw_tbl := lw_at lw_m1 105 rfl
theorem q194 : (Jvm.Cond.fieldLink "java/util/ArrayList$Itr" (17 : Nat) "java/util/ArrayList" "modCount" "I") ∈ lw_all := lw_g (lw_at lw_m1 108 rfl) rfl
theorem q734 : (Jvm.Cond.selects "java/util/ArrayList$Itr" ({ cls := "java/lang/Object", name := "getClass", desc := "()Ljava/lang/Class;" } : Jvm.MethodName) ({ cls := "java/lang/Object", name := "getClass", desc := "()Ljava/lang/Class;" } : Jvm.MethodName)) ∈ lw_all := lw_g (lw_at lw_m3 168 rfl) rfl
theorem q820 : (Jvm.Cond.instantiable "java/util/ArrayList$Itr" (4 : Nat)) ∈ lw_all := lw_g (lw_at lw_m4 14 rfl) rfl
theorem q822 : (Jvm.Cond.instanceMethod ({ cls := "java/util/ArrayList$Itr", name := "<init>", desc := "(Ljava/util/ArrayList;)V" } : Jvm.MethodName)) ∈ lw_all := lw_g (lw_at lw_m4 16 rfl) rfl
theorem q823 : (Jvm.Cond.code ({ cls := "java/util/ArrayList$Itr", name := "<init>", desc := "(Ljava/util/ArrayList;)V" } : Jvm.MethodName) prog_65_method_1_code (2 : Nat) (Option.none : Option Jvm.ClassFile.FieldType)) ∈ lw_all := lw_g (lw_at lw_m4 17 rfl) rfl
theorem q824 : (Jvm.Cond.methodLink "java/util/ArrayList$Itr" (7 : Nat) ({ cls := "java/lang/Object", name := "<init>", desc := "()V" } : Jvm.MethodName)) ∈ lw_all := lw_g (lw_at lw_m4 18 rfl) rfl
theorem q825 : (Jvm.Cond.fieldLink "java/util/ArrayList$Itr" (25 : Nat) "java/util/ArrayList$Itr" "cursor" "I") ∈ lw_all := lw_g (lw_at lw_m4 19 rfl) rfl
theorem q826 : (Jvm.Cond.fieldLink "java/util/ArrayList$Itr" (13 : Nat) "java/util/ArrayList$Itr" "lastRet" "I") ∈ lw_all := lw_g (lw_at lw_m4 20 rfl) rfl
theorem q827 : (Jvm.Cond.fieldLink "java/util/ArrayList$Itr" (22 : Nat) "java/util/ArrayList$Itr" "expectedModCount" "I") ∈ lw_all := lw_g (lw_at lw_m4 21 rfl) rfl
theorem q828 : (Jvm.Cond.fieldLink "java/util/ArrayList$Itr" (1 : Nat) "java/util/ArrayList$Itr" "this$0" "Ljava/util/ArrayList;") ∈ lw_all := lw_g (lw_at lw_m4 22 rfl) rfl
theorem q829 : (Jvm.Cond.lays "java/util/ArrayList$Itr" "java/util/ArrayList$Itr" "cursor" "I") ∈ lw_all := lw_g (lw_at lw_m4 23 rfl) rfl
theorem q830 : (Jvm.Cond.soleField "java/util/ArrayList$Itr" "cursor") ∈ lw_all := lw_g (lw_at lw_m4 24 rfl) rfl
theorem q831 : (Jvm.Cond.lays "java/util/ArrayList$Itr" "java/util/ArrayList$Itr" "lastRet" "I") ∈ lw_all := lw_g (lw_at lw_m4 25 rfl) rfl
theorem q832 : (Jvm.Cond.soleField "java/util/ArrayList$Itr" "lastRet") ∈ lw_all := lw_g (lw_at lw_m4 26 rfl) rfl
theorem q833 : (Jvm.Cond.lays "java/util/ArrayList$Itr" "java/util/ArrayList$Itr" "expectedModCount" "I") ∈ lw_all := lw_g (lw_at lw_m4 27 rfl) rfl
theorem q834 : (Jvm.Cond.soleField "java/util/ArrayList$Itr" "expectedModCount") ∈ lw_all := lw_g (lw_at lw_m4 28 rfl) rfl
theorem q835 : (Jvm.Cond.laysFinal "java/util/ArrayList$Itr" "java/util/ArrayList$Itr" "this$0" "Ljava/util/ArrayList;") ∈ lw_all := lw_g (lw_at lw_m4 29 rfl) rfl
theorem q836 : (Jvm.Cond.soleField "java/util/ArrayList$Itr" "this$0") ∈ lw_all := lw_g (lw_at lw_m4 30 rfl) rfl
theorem q837 : (Jvm.Cond.superclass "java/util/ArrayList$Itr" "java/lang/Object") ∈ lw_all := lw_g (lw_at lw_m4 31 rfl) rfl
theorem q951 : (Jvm.Cond.castable "java/util/ArrayList$Itr" "java/util/Iterator") ∈ lw_tbl := lw_at lw_m4 145 rfl
theorem q952 : (Jvm.Cond.selects "java/util/ArrayList$Itr" ({ cls := "java/util/Iterator", name := "hasNext", desc := "()Z" } : Jvm.MethodName) ({ cls := "java/util/ArrayList$Itr", name := "hasNext", desc := "()Z" } : Jvm.MethodName)) ∈ lw_all := lw_g (lw_at lw_m4 146 rfl) rfl
theorem q953 : (Jvm.Cond.unhidden "java/util/ArrayList$Itr" "hasNext" "()Z") ∈ lw_tbl := lw_at lw_m4 147 rfl
theorem q954 : (Jvm.Cond.instanceMethod ({ cls := "java/util/ArrayList$Itr", name := "hasNext", desc := "()Z" } : Jvm.MethodName)) ∈ lw_all := lw_g (lw_at lw_m4 148 rfl) rfl
theorem q955 : (Jvm.Cond.publicMethod ({ cls := "java/util/ArrayList$Itr", name := "hasNext", desc := "()Z" } : Jvm.MethodName)) ∈ lw_tbl := lw_at lw_m4 149 rfl
theorem q956 : (Jvm.Cond.code ({ cls := "java/util/ArrayList$Itr", name := "hasNext", desc := "()Z" } : Jvm.MethodName) prog_65_method_2_code (1 : Nat) (Option.some Jvm.ClassFile.FieldType.boolean)) ∈ lw_all := lw_g (lw_at lw_m4 150 rfl) rfl
theorem q989 : (Jvm.Cond.selects "java/util/ArrayList$Itr" ({ cls := "java/util/Iterator", name := "next", desc := "()Ljava/lang/Object;" } : Jvm.MethodName) ({ cls := "java/util/ArrayList$Itr", name := "next", desc := "()Ljava/lang/Object;" } : Jvm.MethodName)) ∈ lw_all := lw_g (lw_at lw_m4 183 rfl) rfl
theorem q990 : (Jvm.Cond.unhidden "java/util/ArrayList$Itr" "next" "()Ljava/lang/Object;") ∈ lw_tbl := lw_at lw_m4 184 rfl
theorem q991 : (Jvm.Cond.instanceMethod ({ cls := "java/util/ArrayList$Itr", name := "next", desc := "()Ljava/lang/Object;" } : Jvm.MethodName)) ∈ lw_all := lw_g (lw_at lw_m4 185 rfl) rfl
theorem q992 : (Jvm.Cond.publicMethod ({ cls := "java/util/ArrayList$Itr", name := "next", desc := "()Ljava/lang/Object;" } : Jvm.MethodName)) ∈ lw_tbl := lw_at lw_m4 186 rfl
theorem q993 : (Jvm.Cond.code ({ cls := "java/util/ArrayList$Itr", name := "next", desc := "()Ljava/lang/Object;" } : Jvm.MethodName) prog_65_method_3_code (3 : Nat) (Option.some (Jvm.ClassFile.FieldType.object "java/lang/Object"))) ∈ lw_all := lw_g (lw_at lw_m4 187 rfl) rfl
theorem q994 : (Jvm.Cond.methodLink "java/util/ArrayList$Itr" (31 : Nat) ({ cls := "java/util/ArrayList$Itr", name := "checkForComodification", desc := "()V" } : Jvm.MethodName)) ∈ lw_all := lw_g (lw_at lw_m4 188 rfl) rfl
theorem q995 : (Jvm.Cond.instanceMethod ({ cls := "java/util/ArrayList$Itr", name := "checkForComodification", desc := "()V" } : Jvm.MethodName)) ∈ lw_all := lw_g (lw_at lw_m4 189 rfl) rfl
theorem q996 : (Jvm.Cond.selects "java/util/ArrayList$Itr" ({ cls := "java/util/ArrayList$Itr", name := "checkForComodification", desc := "()V" } : Jvm.MethodName) ({ cls := "java/util/ArrayList$Itr", name := "checkForComodification", desc := "()V" } : Jvm.MethodName)) ∈ lw_all := lw_g (lw_at lw_m4 190 rfl) rfl
theorem q997 : (Jvm.Cond.code ({ cls := "java/util/ArrayList$Itr", name := "checkForComodification", desc := "()V" } : Jvm.MethodName) prog_65_method_6_code (1 : Nat) (Option.none : Option Jvm.ClassFile.FieldType)) ∈ lw_all := lw_g (lw_at lw_m4 191 rfl) rfl
theorem q3371 : (Jvm.Cond.castable "java/util/ArrayList$Itr" "java/lang/Object") ∈ lw_tbl := lw_at lw_m14 165 rfl
theorem in_J14 : ∀ w ∈ wsJ140, w ∈ lw_all := lw_in wsJ140 [829, 831, 833, 835] (by decide +kernel) (by decide +kernel)

end
section
/-! java/util/PriorityQueue$Itr -/
set_option maxRecDepth 100000
def RJ15 : String := "java/util/PriorityQueue$Itr"
def TJ15 : u_T := fun k => match k with
  | 0 => ("java/util/PriorityQueue$Itr", "cursor", "I", false)
  | 1 => ("java/util/PriorityQueue$Itr", "lastRet", "I", false)
  | 2 => ("java/util/PriorityQueue$Itr", "forgetMeNot", "Ljava/util/ArrayDeque;", false)
  | 3 => ("java/util/PriorityQueue$Itr", "lastRetElt", "Ljava/lang/Object;", false)
  | 4 => ("java/util/PriorityQueue$Itr", "expectedModCount", "I", false)
  | _ => ("java/util/PriorityQueue$Itr", "this$0", "Ljava/util/PriorityQueue;", true)
def tyJ15 : Nat → FieldType := fun k => match k with
  | 0 => .int
  | 1 => .int
  | 2 => .object "java/util/ArrayDeque"
  | 3 => .object "java/lang/Object"
  | 4 => .int
  | _ => .object "java/util/PriorityQueue"
abbrev wsJ150 : List Cond := u_ws RJ15 TJ15 6
theorem nmJ15 : ∀ a, a < 6 → ∀ b, b < 6 → a ≠ b → (TJ15 a).2.1 ≠ (TJ15 b).2.1 := by decide +kernel
theorem tyJ15_ok : ∀ k, k < 6 → parseFieldDescriptor (TJ15 k).2.2.1 = some (tyJ15 k) := by decide +kernel
abbrev cJ15_init : ByteArray := prog_78_method_1_code
def yJ15_init : MethodName := ⟨RJ15, "<init>", "(Ljava/util/PriorityQueue;)V"⟩
def dkwJ15_init_1 : List UInt8 := [181, 0, 22, 177]
abbrev dktJ15_init_1 : List UInt8 := dkwJ15_init_1 ++ []
def dkwJ15_init_0 : List UInt8 := [42, 43, 181, 0, 1, 42, 183, 0, 7, 42, 2, 181, 0, 13, 42, 42, 180, 0, 1, 180, 0, 17]
abbrev dktJ15_init_0 : List UInt8 := dkwJ15_init_0 ++ dktJ15_init_1
theorem dksJ15_init_0 : cJ15_init.data.toList.drop 0 = dktJ15_init_0 := by decide +kernel
theorem dksJ15_init_1 : cJ15_init.data.toList.drop 22 = dktJ15_init_1 := dk_seg dksJ15_init_0 22 rfl rfl
theorem dJ15_init_0 : decode cJ15_init 0 = .ok (.aload_n 0, 1) := dk_42 (dk_at dksJ15_init_0 0 rfl rfl)
theorem dJ15_init_1 : decode cJ15_init 1 = .ok (.aload_n 1, 1) := dk_43 (dk_at dksJ15_init_0 1 rfl rfl)
theorem dJ15_init_2 : decode cJ15_init 2 = .ok (.putfield 1, 3) := dk_181 0 1 (dk_at dksJ15_init_0 2 rfl rfl)
theorem dJ15_init_5 : decode cJ15_init 5 = .ok (.aload_n 0, 1) := dk_42 (dk_at dksJ15_init_0 5 rfl rfl)
theorem dJ15_init_6 : decode cJ15_init 6 = .ok (.invokespecial 7, 3) := dk_183 0 7 (dk_at dksJ15_init_0 6 rfl rfl)
theorem dJ15_init_9 : decode cJ15_init 9 = .ok (.aload_n 0, 1) := dk_42 (dk_at dksJ15_init_0 9 rfl rfl)
theorem dJ15_init_10 : decode cJ15_init 10 = .ok (.iconst (-1), 1) := dk_2 (dk_at dksJ15_init_0 10 rfl rfl)
theorem dJ15_init_11 : decode cJ15_init 11 = .ok (.putfield 13, 3) := dk_181 0 13 (dk_at dksJ15_init_0 11 rfl rfl)
theorem dJ15_init_14 : decode cJ15_init 14 = .ok (.aload_n 0, 1) := dk_42 (dk_at dksJ15_init_0 14 rfl rfl)
theorem dJ15_init_15 : decode cJ15_init 15 = .ok (.aload_n 0, 1) := dk_42 (dk_at dksJ15_init_0 15 rfl rfl)
theorem dJ15_init_16 : decode cJ15_init 16 = .ok (.getfield 1, 3) := dk_180 0 1 (dk_at dksJ15_init_0 16 rfl rfl)
theorem dJ15_init_19 : decode cJ15_init 19 = .ok (.getfield 17, 3) := dk_180 0 17 (dk_at dksJ15_init_0 19 rfl rfl)
theorem dJ15_init_22 : decode cJ15_init 22 = .ok (.putfield 22, 3) := dk_181 0 22 (dk_at dksJ15_init_1 0 rfl rfl)
theorem dJ15_init_25 : decode cJ15_init 25 = .ok (.return_, 1) := dk_177 (dk_at dksJ15_init_1 3 rfl rfl)
abbrev cJ15_hasNext : ByteArray := prog_78_method_2_code
def yJ15_hasNext : MethodName := ⟨RJ15, "hasNext", "()Z"⟩
def dkwJ15_hasNext_1 : List UInt8 := [180, 0, 31, 182, 0, 35, 154, 0, 7, 4, 167, 0, 4, 3, 172]
abbrev dktJ15_hasNext_1 : List UInt8 := dkwJ15_hasNext_1 ++ []
def dkwJ15_hasNext_0 : List UInt8 := [42, 180, 0, 25, 42, 180, 0, 1, 180, 0, 28, 161, 0, 20, 42, 180, 0, 31, 198, 0, 17, 42]
abbrev dktJ15_hasNext_0 : List UInt8 := dkwJ15_hasNext_0 ++ dktJ15_hasNext_1
theorem dksJ15_hasNext_0 : cJ15_hasNext.data.toList.drop 0 = dktJ15_hasNext_0 := by decide +kernel
theorem dksJ15_hasNext_1 : cJ15_hasNext.data.toList.drop 22 = dktJ15_hasNext_1 := dk_seg dksJ15_hasNext_0 22 rfl rfl
theorem dJ15_hasNext_0 : decode cJ15_hasNext 0 = .ok (.aload_n 0, 1) := dk_42 (dk_at dksJ15_hasNext_0 0 rfl rfl)
theorem dJ15_hasNext_1 : decode cJ15_hasNext 1 = .ok (.getfield 25, 3) := dk_180 0 25 (dk_at dksJ15_hasNext_0 1 rfl rfl)
theorem dJ15_hasNext_4 : decode cJ15_hasNext 4 = .ok (.aload_n 0, 1) := dk_42 (dk_at dksJ15_hasNext_0 4 rfl rfl)
theorem dJ15_hasNext_5 : decode cJ15_hasNext 5 = .ok (.getfield 1, 3) := dk_180 0 1 (dk_at dksJ15_hasNext_0 5 rfl rfl)
theorem dJ15_hasNext_8 : decode cJ15_hasNext 8 = .ok (.getfield 28, 3) := dk_180 0 28 (dk_at dksJ15_hasNext_0 8 rfl rfl)
theorem dJ15_hasNext_11 : decode cJ15_hasNext 11 = .ok (.if_icmp .lt 20, 3) := dk_161 0 20 (dk_at dksJ15_hasNext_0 11 rfl rfl)
theorem dJ15_hasNext_14 : decode cJ15_hasNext 14 = .ok (.aload_n 0, 1) := dk_42 (dk_at dksJ15_hasNext_0 14 rfl rfl)
theorem dJ15_hasNext_15 : decode cJ15_hasNext 15 = .ok (.getfield 31, 3) := dk_180 0 31 (dk_at dksJ15_hasNext_0 15 rfl rfl)
theorem dJ15_hasNext_18 : decode cJ15_hasNext 18 = .ok (.ifnull 17, 3) := dk_198 0 17 (dk_at dksJ15_hasNext_0 18 rfl rfl)
theorem dJ15_hasNext_21 : decode cJ15_hasNext 21 = .ok (.aload_n 0, 1) := dk_42 (dk_at dksJ15_hasNext_0 21 rfl rfl)
theorem dJ15_hasNext_22 : decode cJ15_hasNext 22 = .ok (.getfield 31, 3) := dk_180 0 31 (dk_at dksJ15_hasNext_1 0 rfl rfl)
theorem dJ15_hasNext_25 : decode cJ15_hasNext 25 = .ok (.invokevirtual 35, 3) := dk_182 0 35 (dk_at dksJ15_hasNext_1 3 rfl rfl)
theorem dJ15_hasNext_28 : decode cJ15_hasNext 28 = .ok (.ifCond .ne 7, 3) := dk_154 0 7 (dk_at dksJ15_hasNext_1 6 rfl rfl)
theorem dJ15_hasNext_31 : decode cJ15_hasNext 31 = .ok (.iconst 1, 1) := dk_4 (dk_at dksJ15_hasNext_1 9 rfl rfl)
theorem dJ15_hasNext_32 : decode cJ15_hasNext 32 = .ok (.goto 4, 3) := dk_167 0 4 (dk_at dksJ15_hasNext_1 10 rfl rfl)
theorem dJ15_hasNext_35 : decode cJ15_hasNext 35 = .ok (.iconst 0, 1) := dk_3 (dk_at dksJ15_hasNext_1 13 rfl rfl)
theorem dJ15_hasNext_36 : decode cJ15_hasNext 36 = .ok (.ireturn, 1) := dk_172 (dk_at dksJ15_hasNext_1 14 rfl rfl)
abbrev cJ15_next : ByteArray := prog_78_method_3_code
def yJ15_next : MethodName := ⟨RJ15, "next", "()Ljava/lang/Object;"⟩
def dkwJ15_next_4 : List UInt8 := [180, 0, 52, 176, 187, 0, 56, 89, 183, 0, 58, 191]
abbrev dktJ15_next_4 : List UInt8 := dkwJ15_next_4 ++ []
def dkwJ15_next_3 : List UInt8 := [181, 0, 13, 42, 42, 180, 0, 31, 182, 0, 48, 181, 0, 52, 42, 180, 0, 52, 198, 0, 8, 42]
abbrev dktJ15_next_3 : List UInt8 := dkwJ15_next_3 ++ dktJ15_next_4
def dkwJ15_next_2 : List UInt8 := [180, 0, 25, 90, 4, 96, 181, 0, 25, 90, 181, 0, 13, 50, 176, 42, 180, 0, 31, 198, 0, 31, 42, 2]
abbrev dktJ15_next_2 : List UInt8 := dkwJ15_next_2 ++ dktJ15_next_3
def dkwJ15_next_1 : List UInt8 := [180, 0, 25, 42, 180, 0, 1, 180, 0, 28, 162, 0, 28, 42, 180, 0, 1, 180, 0, 44, 42, 42, 89]
abbrev dktJ15_next_1 : List UInt8 := dkwJ15_next_1 ++ dktJ15_next_2
def dkwJ15_next_0 : List UInt8 := [42, 180, 0, 22, 42, 180, 0, 1, 180, 0, 17, 159, 0, 11, 187, 0, 41, 89, 183, 0, 43, 191, 42]
abbrev dktJ15_next_0 : List UInt8 := dkwJ15_next_0 ++ dktJ15_next_1
theorem dksJ15_next_0 : cJ15_next.data.toList.drop 0 = dktJ15_next_0 := by decide +kernel
theorem dksJ15_next_1 : cJ15_next.data.toList.drop 23 = dktJ15_next_1 := dk_seg dksJ15_next_0 23 rfl rfl
theorem dksJ15_next_2 : cJ15_next.data.toList.drop 46 = dktJ15_next_2 := dk_seg dksJ15_next_1 23 rfl rfl
theorem dksJ15_next_3 : cJ15_next.data.toList.drop 70 = dktJ15_next_3 := dk_seg dksJ15_next_2 24 rfl rfl
theorem dksJ15_next_4 : cJ15_next.data.toList.drop 92 = dktJ15_next_4 := dk_seg dksJ15_next_3 22 rfl rfl
theorem dJ15_next_0 : decode cJ15_next 0 = .ok (.aload_n 0, 1) := dk_42 (dk_at dksJ15_next_0 0 rfl rfl)
theorem dJ15_next_1 : decode cJ15_next 1 = .ok (.getfield 22, 3) := dk_180 0 22 (dk_at dksJ15_next_0 1 rfl rfl)
theorem dJ15_next_4 : decode cJ15_next 4 = .ok (.aload_n 0, 1) := dk_42 (dk_at dksJ15_next_0 4 rfl rfl)
theorem dJ15_next_5 : decode cJ15_next 5 = .ok (.getfield 1, 3) := dk_180 0 1 (dk_at dksJ15_next_0 5 rfl rfl)
theorem dJ15_next_8 : decode cJ15_next 8 = .ok (.getfield 17, 3) := dk_180 0 17 (dk_at dksJ15_next_0 8 rfl rfl)
theorem dJ15_next_11 : decode cJ15_next 11 = .ok (.if_icmp .eq 11, 3) := dk_159 0 11 (dk_at dksJ15_next_0 11 rfl rfl)
theorem dJ15_next_14 : decode cJ15_next 14 = .ok (.new 41, 3) := dk_187 0 41 (dk_at dksJ15_next_0 14 rfl rfl)
theorem dJ15_next_17 : decode cJ15_next 17 = .ok (.dup, 1) := dk_89 (dk_at dksJ15_next_0 17 rfl rfl)
theorem dJ15_next_18 : decode cJ15_next 18 = .ok (.invokespecial 43, 3) := dk_183 0 43 (dk_at dksJ15_next_0 18 rfl rfl)
theorem dJ15_next_21 : decode cJ15_next 21 = .ok (.athrow, 1) := dk_191 (dk_at dksJ15_next_0 21 rfl rfl)
theorem dJ15_next_22 : decode cJ15_next 22 = .ok (.aload_n 0, 1) := dk_42 (dk_at dksJ15_next_0 22 rfl rfl)
theorem dJ15_next_23 : decode cJ15_next 23 = .ok (.getfield 25, 3) := dk_180 0 25 (dk_at dksJ15_next_1 0 rfl rfl)
theorem dJ15_next_26 : decode cJ15_next 26 = .ok (.aload_n 0, 1) := dk_42 (dk_at dksJ15_next_1 3 rfl rfl)
theorem dJ15_next_27 : decode cJ15_next 27 = .ok (.getfield 1, 3) := dk_180 0 1 (dk_at dksJ15_next_1 4 rfl rfl)
theorem dJ15_next_30 : decode cJ15_next 30 = .ok (.getfield 28, 3) := dk_180 0 28 (dk_at dksJ15_next_1 7 rfl rfl)
theorem dJ15_next_33 : decode cJ15_next 33 = .ok (.if_icmp .ge 28, 3) := dk_162 0 28 (dk_at dksJ15_next_1 10 rfl rfl)
theorem dJ15_next_36 : decode cJ15_next 36 = .ok (.aload_n 0, 1) := dk_42 (dk_at dksJ15_next_1 13 rfl rfl)
theorem dJ15_next_37 : decode cJ15_next 37 = .ok (.getfield 1, 3) := dk_180 0 1 (dk_at dksJ15_next_1 14 rfl rfl)
theorem dJ15_next_40 : decode cJ15_next 40 = .ok (.getfield 44, 3) := dk_180 0 44 (dk_at dksJ15_next_1 17 rfl rfl)
theorem dJ15_next_43 : decode cJ15_next 43 = .ok (.aload_n 0, 1) := dk_42 (dk_at dksJ15_next_1 20 rfl rfl)
theorem dJ15_next_44 : decode cJ15_next 44 = .ok (.aload_n 0, 1) := dk_42 (dk_at dksJ15_next_1 21 rfl rfl)
theorem dJ15_next_45 : decode cJ15_next 45 = .ok (.dup, 1) := dk_89 (dk_at dksJ15_next_1 22 rfl rfl)
theorem dJ15_next_46 : decode cJ15_next 46 = .ok (.getfield 25, 3) := dk_180 0 25 (dk_at dksJ15_next_2 0 rfl rfl)
theorem dJ15_next_49 : decode cJ15_next 49 = .ok (.dup_x1, 1) := dk_90 (dk_at dksJ15_next_2 3 rfl rfl)
theorem dJ15_next_50 : decode cJ15_next 50 = .ok (.iconst 1, 1) := dk_4 (dk_at dksJ15_next_2 4 rfl rfl)
theorem dJ15_next_51 : decode cJ15_next 51 = .ok (.iadd, 1) := dk_96 (dk_at dksJ15_next_2 5 rfl rfl)
theorem dJ15_next_52 : decode cJ15_next 52 = .ok (.putfield 25, 3) := dk_181 0 25 (dk_at dksJ15_next_2 6 rfl rfl)
theorem dJ15_next_55 : decode cJ15_next 55 = .ok (.dup_x1, 1) := dk_90 (dk_at dksJ15_next_2 9 rfl rfl)
theorem dJ15_next_56 : decode cJ15_next 56 = .ok (.putfield 13, 3) := dk_181 0 13 (dk_at dksJ15_next_2 10 rfl rfl)
theorem dJ15_next_59 : decode cJ15_next 59 = .ok (.aaload, 1) := dk_50 (dk_at dksJ15_next_2 13 rfl rfl)
theorem dJ15_next_60 : decode cJ15_next 60 = .ok (.areturn, 1) := dk_176 (dk_at dksJ15_next_2 14 rfl rfl)
theorem dJ15_next_61 : decode cJ15_next 61 = .ok (.aload_n 0, 1) := dk_42 (dk_at dksJ15_next_2 15 rfl rfl)
theorem dJ15_next_62 : decode cJ15_next 62 = .ok (.getfield 31, 3) := dk_180 0 31 (dk_at dksJ15_next_2 16 rfl rfl)
theorem dJ15_next_65 : decode cJ15_next 65 = .ok (.ifnull 31, 3) := dk_198 0 31 (dk_at dksJ15_next_2 19 rfl rfl)
theorem dJ15_next_68 : decode cJ15_next 68 = .ok (.aload_n 0, 1) := dk_42 (dk_at dksJ15_next_2 22 rfl rfl)
theorem dJ15_next_69 : decode cJ15_next 69 = .ok (.iconst (-1), 1) := dk_2 (dk_at dksJ15_next_2 23 rfl rfl)
theorem dJ15_next_70 : decode cJ15_next 70 = .ok (.putfield 13, 3) := dk_181 0 13 (dk_at dksJ15_next_3 0 rfl rfl)
theorem dJ15_next_73 : decode cJ15_next 73 = .ok (.aload_n 0, 1) := dk_42 (dk_at dksJ15_next_3 3 rfl rfl)
theorem dJ15_next_74 : decode cJ15_next 74 = .ok (.aload_n 0, 1) := dk_42 (dk_at dksJ15_next_3 4 rfl rfl)
theorem dJ15_next_75 : decode cJ15_next 75 = .ok (.getfield 31, 3) := dk_180 0 31 (dk_at dksJ15_next_3 5 rfl rfl)
theorem dJ15_next_78 : decode cJ15_next 78 = .ok (.invokevirtual 48, 3) := dk_182 0 48 (dk_at dksJ15_next_3 8 rfl rfl)
theorem dJ15_next_81 : decode cJ15_next 81 = .ok (.putfield 52, 3) := dk_181 0 52 (dk_at dksJ15_next_3 11 rfl rfl)
theorem dJ15_next_84 : decode cJ15_next 84 = .ok (.aload_n 0, 1) := dk_42 (dk_at dksJ15_next_3 14 rfl rfl)
theorem dJ15_next_85 : decode cJ15_next 85 = .ok (.getfield 52, 3) := dk_180 0 52 (dk_at dksJ15_next_3 15 rfl rfl)
theorem dJ15_next_88 : decode cJ15_next 88 = .ok (.ifnull 8, 3) := dk_198 0 8 (dk_at dksJ15_next_3 18 rfl rfl)
theorem dJ15_next_91 : decode cJ15_next 91 = .ok (.aload_n 0, 1) := dk_42 (dk_at dksJ15_next_3 21 rfl rfl)
theorem dJ15_next_92 : decode cJ15_next 92 = .ok (.getfield 52, 3) := dk_180 0 52 (dk_at dksJ15_next_4 0 rfl rfl)
theorem dJ15_next_95 : decode cJ15_next 95 = .ok (.areturn, 1) := dk_176 (dk_at dksJ15_next_4 3 rfl rfl)
theorem dJ15_next_96 : decode cJ15_next 96 = .ok (.new 56, 3) := dk_187 0 56 (dk_at dksJ15_next_4 4 rfl rfl)
theorem dJ15_next_99 : decode cJ15_next 99 = .ok (.dup, 1) := dk_89 (dk_at dksJ15_next_4 7 rfl rfl)
theorem dJ15_next_100 : decode cJ15_next 100 = .ok (.invokespecial 58, 3) := dk_183 0 58 (dk_at dksJ15_next_4 8 rfl rfl)
theorem dJ15_next_103 : decode cJ15_next 103 = .ok (.athrow, 1) := dk_191 (dk_at dksJ15_next_4 11 rfl rfl)
theorem q110 : (Jvm.Cond.initialized "java/util/PriorityQueue$Itr") ∈ lw_all := lw_g (lw_at lw_m1 24 rfl) rfl
theorem q736 : (Jvm.Cond.selects "java/util/PriorityQueue$Itr" ({ cls := "java/lang/Object", name := "getClass", desc := "()Ljava/lang/Class;" } : Jvm.MethodName) ({ cls := "java/lang/Object", name := "getClass", desc := "()Ljava/lang/Class;" } : Jvm.MethodName)) ∈ lw_all := lw_g (lw_at lw_m3 170 rfl) rfl
theorem q842 : (Jvm.Cond.instantiable "java/util/PriorityQueue$Itr" (6 : Nat)) ∈ lw_all := lw_g (lw_at lw_m4 36 rfl) rfl
theorem q844 : (Jvm.Cond.instanceMethod ({ cls := "java/util/PriorityQueue$Itr", name := "<init>", desc := "(Ljava/util/PriorityQueue;)V" } : Jvm.MethodName)) ∈ lw_all := lw_g (lw_at lw_m4 38 rfl) rfl
theorem q845 : (Jvm.Cond.code ({ cls := "java/util/PriorityQueue$Itr", name := "<init>", desc := "(Ljava/util/PriorityQueue;)V" } : Jvm.MethodName) prog_78_method_1_code (2 : Nat) (Option.none : Option Jvm.ClassFile.FieldType)) ∈ lw_all := lw_g (lw_at lw_m4 39 rfl) rfl
theorem q846 : (Jvm.Cond.methodLink "java/util/PriorityQueue$Itr" (7 : Nat) ({ cls := "java/lang/Object", name := "<init>", desc := "()V" } : Jvm.MethodName)) ∈ lw_all := lw_g (lw_at lw_m4 40 rfl) rfl
theorem q847 : (Jvm.Cond.fieldLink "java/util/PriorityQueue$Itr" (25 : Nat) "java/util/PriorityQueue$Itr" "cursor" "I") ∈ lw_all := lw_g (lw_at lw_m4 41 rfl) rfl
theorem q848 : (Jvm.Cond.fieldLink "java/util/PriorityQueue$Itr" (13 : Nat) "java/util/PriorityQueue$Itr" "lastRet" "I") ∈ lw_all := lw_g (lw_at lw_m4 42 rfl) rfl
theorem q849 : (Jvm.Cond.fieldLink "java/util/PriorityQueue$Itr" (31 : Nat) "java/util/PriorityQueue$Itr" "forgetMeNot" "Ljava/util/ArrayDeque;") ∈ lw_all := lw_g (lw_at lw_m4 43 rfl) rfl
theorem q850 : (Jvm.Cond.fieldLink "java/util/PriorityQueue$Itr" (52 : Nat) "java/util/PriorityQueue$Itr" "lastRetElt" "Ljava/lang/Object;") ∈ lw_all := lw_g (lw_at lw_m4 44 rfl) rfl
theorem q851 : (Jvm.Cond.fieldLink "java/util/PriorityQueue$Itr" (22 : Nat) "java/util/PriorityQueue$Itr" "expectedModCount" "I") ∈ lw_all := lw_g (lw_at lw_m4 45 rfl) rfl
theorem q852 : (Jvm.Cond.fieldLink "java/util/PriorityQueue$Itr" (1 : Nat) "java/util/PriorityQueue$Itr" "this$0" "Ljava/util/PriorityQueue;") ∈ lw_all := lw_g (lw_at lw_m4 46 rfl) rfl
theorem q853 : (Jvm.Cond.lays "java/util/PriorityQueue$Itr" "java/util/PriorityQueue$Itr" "cursor" "I") ∈ lw_all := lw_g (lw_at lw_m4 47 rfl) rfl
theorem q854 : (Jvm.Cond.soleField "java/util/PriorityQueue$Itr" "cursor") ∈ lw_all := lw_g (lw_at lw_m4 48 rfl) rfl
theorem q855 : (Jvm.Cond.lays "java/util/PriorityQueue$Itr" "java/util/PriorityQueue$Itr" "lastRet" "I") ∈ lw_all := lw_g (lw_at lw_m4 49 rfl) rfl
theorem q856 : (Jvm.Cond.soleField "java/util/PriorityQueue$Itr" "lastRet") ∈ lw_all := lw_g (lw_at lw_m4 50 rfl) rfl
theorem q857 : (Jvm.Cond.lays "java/util/PriorityQueue$Itr" "java/util/PriorityQueue$Itr" "forgetMeNot" "Ljava/util/ArrayDeque;") ∈ lw_all := lw_g (lw_at lw_m4 51 rfl) rfl
theorem q858 : (Jvm.Cond.soleField "java/util/PriorityQueue$Itr" "forgetMeNot") ∈ lw_all := lw_g (lw_at lw_m4 52 rfl) rfl
theorem q859 : (Jvm.Cond.lays "java/util/PriorityQueue$Itr" "java/util/PriorityQueue$Itr" "lastRetElt" "Ljava/lang/Object;") ∈ lw_all := lw_g (lw_at lw_m4 53 rfl) rfl
theorem q860 : (Jvm.Cond.soleField "java/util/PriorityQueue$Itr" "lastRetElt") ∈ lw_all := lw_g (lw_at lw_m4 54 rfl) rfl
theorem q861 : (Jvm.Cond.lays "java/util/PriorityQueue$Itr" "java/util/PriorityQueue$Itr" "expectedModCount" "I") ∈ lw_all := lw_g (lw_at lw_m4 55 rfl) rfl
theorem q862 : (Jvm.Cond.soleField "java/util/PriorityQueue$Itr" "expectedModCount") ∈ lw_all := lw_g (lw_at lw_m4 56 rfl) rfl
theorem q863 : (Jvm.Cond.laysFinal "java/util/PriorityQueue$Itr" "java/util/PriorityQueue$Itr" "this$0" "Ljava/util/PriorityQueue;") ∈ lw_all := lw_g (lw_at lw_m4 57 rfl) rfl
theorem q864 : (Jvm.Cond.soleField "java/util/PriorityQueue$Itr" "this$0") ∈ lw_all := lw_g (lw_at lw_m4 58 rfl) rfl
theorem q865 : (Jvm.Cond.superclass "java/util/PriorityQueue$Itr" "java/lang/Object") ∈ lw_all := lw_g (lw_at lw_m4 59 rfl) rfl
theorem q957 : (Jvm.Cond.castable "java/util/PriorityQueue$Itr" "java/util/Iterator") ∈ lw_tbl := lw_at lw_m4 151 rfl
theorem q958 : (Jvm.Cond.selects "java/util/PriorityQueue$Itr" ({ cls := "java/util/Iterator", name := "hasNext", desc := "()Z" } : Jvm.MethodName) ({ cls := "java/util/PriorityQueue$Itr", name := "hasNext", desc := "()Z" } : Jvm.MethodName)) ∈ lw_all := lw_g (lw_at lw_m4 152 rfl) rfl
theorem q959 : (Jvm.Cond.unhidden "java/util/PriorityQueue$Itr" "hasNext" "()Z") ∈ lw_tbl := lw_at lw_m4 153 rfl
theorem q960 : (Jvm.Cond.instanceMethod ({ cls := "java/util/PriorityQueue$Itr", name := "hasNext", desc := "()Z" } : Jvm.MethodName)) ∈ lw_all := lw_g (lw_at lw_m4 154 rfl) rfl
theorem q961 : (Jvm.Cond.publicMethod ({ cls := "java/util/PriorityQueue$Itr", name := "hasNext", desc := "()Z" } : Jvm.MethodName)) ∈ lw_tbl := lw_at lw_m4 155 rfl
theorem q962 : (Jvm.Cond.code ({ cls := "java/util/PriorityQueue$Itr", name := "hasNext", desc := "()Z" } : Jvm.MethodName) prog_78_method_2_code (1 : Nat) (Option.some Jvm.ClassFile.FieldType.boolean)) ∈ lw_all := lw_g (lw_at lw_m4 156 rfl) rfl
theorem q963 : (Jvm.Cond.methodLink "java/util/PriorityQueue$Itr" (35 : Nat) ({ cls := "java/util/ArrayDeque", name := "isEmpty", desc := "()Z" } : Jvm.MethodName)) ∈ lw_all := lw_g (lw_at lw_m4 157 rfl) rfl
theorem q998 : (Jvm.Cond.selects "java/util/PriorityQueue$Itr" ({ cls := "java/util/Iterator", name := "next", desc := "()Ljava/lang/Object;" } : Jvm.MethodName) ({ cls := "java/util/PriorityQueue$Itr", name := "next", desc := "()Ljava/lang/Object;" } : Jvm.MethodName)) ∈ lw_all := lw_g (lw_at lw_m4 192 rfl) rfl
theorem q999 : (Jvm.Cond.unhidden "java/util/PriorityQueue$Itr" "next" "()Ljava/lang/Object;") ∈ lw_tbl := lw_at lw_m4 193 rfl
theorem q1000 : (Jvm.Cond.instanceMethod ({ cls := "java/util/PriorityQueue$Itr", name := "next", desc := "()Ljava/lang/Object;" } : Jvm.MethodName)) ∈ lw_all := lw_g (lw_at lw_m4 194 rfl) rfl
theorem q1001 : (Jvm.Cond.publicMethod ({ cls := "java/util/PriorityQueue$Itr", name := "next", desc := "()Ljava/lang/Object;" } : Jvm.MethodName)) ∈ lw_tbl := lw_at lw_m4 195 rfl
theorem q1002 : (Jvm.Cond.code ({ cls := "java/util/PriorityQueue$Itr", name := "next", desc := "()Ljava/lang/Object;" } : Jvm.MethodName) prog_78_method_3_code (1 : Nat) (Option.some (Jvm.ClassFile.FieldType.object "java/lang/Object"))) ∈ lw_all := lw_g (lw_at lw_m4 196 rfl) rfl
theorem q1003 : (Jvm.Cond.methodLink "java/util/PriorityQueue$Itr" (48 : Nat) ({ cls := "java/util/ArrayDeque", name := "poll", desc := "()Ljava/lang/Object;" } : Jvm.MethodName)) ∈ lw_all := lw_g (lw_at lw_m4 197 rfl) rfl
theorem q2130 : (Jvm.Cond.fieldLink "java/util/PriorityQueue$Itr" (44 : Nat) "java/util/PriorityQueue" "queue" "[Ljava/lang/Object;") ∈ lw_all := lw_g (lw_at lw_m9 124 rfl) rfl
theorem q2132 : (Jvm.Cond.fieldLink "java/util/PriorityQueue$Itr" (28 : Nat) "java/util/PriorityQueue" "size" "I") ∈ lw_all := lw_g (lw_at lw_m9 126 rfl) rfl
theorem q2135 : (Jvm.Cond.fieldLink "java/util/PriorityQueue$Itr" (17 : Nat) "java/util/PriorityQueue" "modCount" "I") ∈ lw_all := lw_g (lw_at lw_m9 129 rfl) rfl
theorem q3375 : (Jvm.Cond.castable "java/util/PriorityQueue$Itr" "java/lang/Object") ∈ lw_tbl := lw_at lw_m14 169 rfl
theorem in_J15 : ∀ w ∈ wsJ150, w ∈ lw_all := lw_in wsJ150 [853, 855, 857, 859, 861, 863] (by decide +kernel) (by decide +kernel)

end
section
/-! java/util/TreeMap$PrivateEntryIterator -/
set_option maxRecDepth 100000
def RJ16 : String := "java/util/TreeMap$PrivateEntryIterator"
abbrev cJ16_init : ByteArray := prog_92_method_1_code
def yJ16_init : MethodName := ⟨RJ16, "<init>", "(Ljava/util/TreeMap;Ljava/util/TreeMap$Entry;)V"⟩
def dkwJ16_init_1 : List UInt8 := [181, 0, 26, 177]
abbrev dktJ16_init_1 : List UInt8 := dkwJ16_init_1 ++ []
def dkwJ16_init_0 : List UInt8 := [42, 43, 181, 0, 1, 42, 183, 0, 7, 42, 43, 180, 0, 13, 181, 0, 19, 42, 1, 181, 0, 22, 42, 44]
abbrev dktJ16_init_0 : List UInt8 := dkwJ16_init_0 ++ dktJ16_init_1
theorem dksJ16_init_0 : cJ16_init.data.toList.drop 0 = dktJ16_init_0 := by decide +kernel
theorem dksJ16_init_1 : cJ16_init.data.toList.drop 24 = dktJ16_init_1 := dk_seg dksJ16_init_0 24 rfl rfl
theorem dJ16_init_0 : decode cJ16_init 0 = .ok (.aload_n 0, 1) := dk_42 (dk_at dksJ16_init_0 0 rfl rfl)
theorem dJ16_init_1 : decode cJ16_init 1 = .ok (.aload_n 1, 1) := dk_43 (dk_at dksJ16_init_0 1 rfl rfl)
theorem dJ16_init_2 : decode cJ16_init 2 = .ok (.putfield 1, 3) := dk_181 0 1 (dk_at dksJ16_init_0 2 rfl rfl)
theorem dJ16_init_5 : decode cJ16_init 5 = .ok (.aload_n 0, 1) := dk_42 (dk_at dksJ16_init_0 5 rfl rfl)
theorem dJ16_init_6 : decode cJ16_init 6 = .ok (.invokespecial 7, 3) := dk_183 0 7 (dk_at dksJ16_init_0 6 rfl rfl)
theorem dJ16_init_9 : decode cJ16_init 9 = .ok (.aload_n 0, 1) := dk_42 (dk_at dksJ16_init_0 9 rfl rfl)
theorem dJ16_init_10 : decode cJ16_init 10 = .ok (.aload_n 1, 1) := dk_43 (dk_at dksJ16_init_0 10 rfl rfl)
theorem dJ16_init_11 : decode cJ16_init 11 = .ok (.getfield 13, 3) := dk_180 0 13 (dk_at dksJ16_init_0 11 rfl rfl)
theorem dJ16_init_14 : decode cJ16_init 14 = .ok (.putfield 19, 3) := dk_181 0 19 (dk_at dksJ16_init_0 14 rfl rfl)
theorem dJ16_init_17 : decode cJ16_init 17 = .ok (.aload_n 0, 1) := dk_42 (dk_at dksJ16_init_0 17 rfl rfl)
theorem dJ16_init_18 : decode cJ16_init 18 = .ok (.aconst_null, 1) := dk_1 (dk_at dksJ16_init_0 18 rfl rfl)
theorem dJ16_init_19 : decode cJ16_init 19 = .ok (.putfield 22, 3) := dk_181 0 22 (dk_at dksJ16_init_0 19 rfl rfl)
theorem dJ16_init_22 : decode cJ16_init 22 = .ok (.aload_n 0, 1) := dk_42 (dk_at dksJ16_init_0 22 rfl rfl)
theorem dJ16_init_23 : decode cJ16_init 23 = .ok (.aload_n 2, 1) := dk_44 (dk_at dksJ16_init_0 23 rfl rfl)
theorem dJ16_init_24 : decode cJ16_init 24 = .ok (.putfield 26, 3) := dk_181 0 26 (dk_at dksJ16_init_1 0 rfl rfl)
theorem dJ16_init_27 : decode cJ16_init 27 = .ok (.return_, 1) := dk_177 (dk_at dksJ16_init_1 3 rfl rfl)
abbrev cJ16_hasNext : ByteArray := prog_92_method_2_code
def yJ16_hasNext : MethodName := ⟨RJ16, "hasNext", "()Z"⟩
def dkwJ16_hasNext_0 : List UInt8 := [42, 180, 0, 26, 198, 0, 7, 4, 167, 0, 4, 3, 172]
abbrev dktJ16_hasNext_0 : List UInt8 := dkwJ16_hasNext_0 ++ []
theorem dksJ16_hasNext_0 : cJ16_hasNext.data.toList.drop 0 = dktJ16_hasNext_0 := by decide +kernel
theorem dJ16_hasNext_0 : decode cJ16_hasNext 0 = .ok (.aload_n 0, 1) := dk_42 (dk_at dksJ16_hasNext_0 0 rfl rfl)
theorem dJ16_hasNext_1 : decode cJ16_hasNext 1 = .ok (.getfield 26, 3) := dk_180 0 26 (dk_at dksJ16_hasNext_0 1 rfl rfl)
theorem dJ16_hasNext_4 : decode cJ16_hasNext 4 = .ok (.ifnull 7, 3) := dk_198 0 7 (dk_at dksJ16_hasNext_0 4 rfl rfl)
theorem dJ16_hasNext_7 : decode cJ16_hasNext 7 = .ok (.iconst 1, 1) := dk_4 (dk_at dksJ16_hasNext_0 7 rfl rfl)
theorem dJ16_hasNext_8 : decode cJ16_hasNext 8 = .ok (.goto 4, 3) := dk_167 0 4 (dk_at dksJ16_hasNext_0 8 rfl rfl)
theorem dJ16_hasNext_11 : decode cJ16_hasNext 11 = .ok (.iconst 0, 1) := dk_3 (dk_at dksJ16_hasNext_0 11 rfl rfl)
theorem dJ16_hasNext_12 : decode cJ16_hasNext 12 = .ok (.ireturn, 1) := dk_172 (dk_at dksJ16_hasNext_0 12 rfl rfl)
abbrev cJ16_nextEntry : ByteArray := prog_92_method_3_code
def yJ16_nextEntry : MethodName := ⟨RJ16, "nextEntry", "()Ljava/util/TreeMap$Entry;"⟩
def dkwJ16_nextEntry_2 : List UInt8 := [43, 181, 0, 22, 43, 176]
abbrev dktJ16_nextEntry_2 : List UInt8 := dkwJ16_nextEntry_2 ++ []
def dkwJ16_nextEntry_1 : List UInt8 := [42, 180, 0, 19, 159, 0, 11, 187, 0, 32, 89, 183, 0, 34, 191, 42, 43, 184, 0, 35, 181, 0, 26, 42]
abbrev dktJ16_nextEntry_1 : List UInt8 := dkwJ16_nextEntry_1 ++ dktJ16_nextEntry_2
def dkwJ16_nextEntry_0 : List UInt8 := [42, 180, 0, 26, 76, 43, 199, 0, 11, 187, 0, 29, 89, 183, 0, 31, 191, 42, 180, 0, 1, 180, 0, 13]
abbrev dktJ16_nextEntry_0 : List UInt8 := dkwJ16_nextEntry_0 ++ dktJ16_nextEntry_1
theorem dksJ16_nextEntry_0 : cJ16_nextEntry.data.toList.drop 0 = dktJ16_nextEntry_0 := by decide +kernel
theorem dksJ16_nextEntry_1 : cJ16_nextEntry.data.toList.drop 24 = dktJ16_nextEntry_1 := dk_seg dksJ16_nextEntry_0 24 rfl rfl
theorem dksJ16_nextEntry_2 : cJ16_nextEntry.data.toList.drop 48 = dktJ16_nextEntry_2 := dk_seg dksJ16_nextEntry_1 24 rfl rfl
theorem dJ16_nextEntry_0 : decode cJ16_nextEntry 0 = .ok (.aload_n 0, 1) := dk_42 (dk_at dksJ16_nextEntry_0 0 rfl rfl)
theorem dJ16_nextEntry_1 : decode cJ16_nextEntry 1 = .ok (.getfield 26, 3) := dk_180 0 26 (dk_at dksJ16_nextEntry_0 1 rfl rfl)
theorem dJ16_nextEntry_4 : decode cJ16_nextEntry 4 = .ok (.astore_n 1, 1) := dk_76 (dk_at dksJ16_nextEntry_0 4 rfl rfl)
theorem dJ16_nextEntry_5 : decode cJ16_nextEntry 5 = .ok (.aload_n 1, 1) := dk_43 (dk_at dksJ16_nextEntry_0 5 rfl rfl)
theorem dJ16_nextEntry_6 : decode cJ16_nextEntry 6 = .ok (.ifnonnull 11, 3) := dk_199 0 11 (dk_at dksJ16_nextEntry_0 6 rfl rfl)
theorem dJ16_nextEntry_9 : decode cJ16_nextEntry 9 = .ok (.new 29, 3) := dk_187 0 29 (dk_at dksJ16_nextEntry_0 9 rfl rfl)
theorem dJ16_nextEntry_12 : decode cJ16_nextEntry 12 = .ok (.dup, 1) := dk_89 (dk_at dksJ16_nextEntry_0 12 rfl rfl)
theorem dJ16_nextEntry_13 : decode cJ16_nextEntry 13 = .ok (.invokespecial 31, 3) := dk_183 0 31 (dk_at dksJ16_nextEntry_0 13 rfl rfl)
theorem dJ16_nextEntry_16 : decode cJ16_nextEntry 16 = .ok (.athrow, 1) := dk_191 (dk_at dksJ16_nextEntry_0 16 rfl rfl)
theorem dJ16_nextEntry_17 : decode cJ16_nextEntry 17 = .ok (.aload_n 0, 1) := dk_42 (dk_at dksJ16_nextEntry_0 17 rfl rfl)
theorem dJ16_nextEntry_18 : decode cJ16_nextEntry 18 = .ok (.getfield 1, 3) := dk_180 0 1 (dk_at dksJ16_nextEntry_0 18 rfl rfl)
theorem dJ16_nextEntry_21 : decode cJ16_nextEntry 21 = .ok (.getfield 13, 3) := dk_180 0 13 (dk_at dksJ16_nextEntry_0 21 rfl rfl)
theorem dJ16_nextEntry_24 : decode cJ16_nextEntry 24 = .ok (.aload_n 0, 1) := dk_42 (dk_at dksJ16_nextEntry_1 0 rfl rfl)
theorem dJ16_nextEntry_25 : decode cJ16_nextEntry 25 = .ok (.getfield 19, 3) := dk_180 0 19 (dk_at dksJ16_nextEntry_1 1 rfl rfl)
theorem dJ16_nextEntry_28 : decode cJ16_nextEntry 28 = .ok (.if_icmp .eq 11, 3) := dk_159 0 11 (dk_at dksJ16_nextEntry_1 4 rfl rfl)
theorem dJ16_nextEntry_31 : decode cJ16_nextEntry 31 = .ok (.new 32, 3) := dk_187 0 32 (dk_at dksJ16_nextEntry_1 7 rfl rfl)
theorem dJ16_nextEntry_34 : decode cJ16_nextEntry 34 = .ok (.dup, 1) := dk_89 (dk_at dksJ16_nextEntry_1 10 rfl rfl)
theorem dJ16_nextEntry_35 : decode cJ16_nextEntry 35 = .ok (.invokespecial 34, 3) := dk_183 0 34 (dk_at dksJ16_nextEntry_1 11 rfl rfl)
theorem dJ16_nextEntry_38 : decode cJ16_nextEntry 38 = .ok (.athrow, 1) := dk_191 (dk_at dksJ16_nextEntry_1 14 rfl rfl)
theorem dJ16_nextEntry_39 : decode cJ16_nextEntry 39 = .ok (.aload_n 0, 1) := dk_42 (dk_at dksJ16_nextEntry_1 15 rfl rfl)
theorem dJ16_nextEntry_40 : decode cJ16_nextEntry 40 = .ok (.aload_n 1, 1) := dk_43 (dk_at dksJ16_nextEntry_1 16 rfl rfl)
theorem dJ16_nextEntry_41 : decode cJ16_nextEntry 41 = .ok (.invokestatic 35, 3) := dk_184 0 35 (dk_at dksJ16_nextEntry_1 17 rfl rfl)
theorem dJ16_nextEntry_44 : decode cJ16_nextEntry 44 = .ok (.putfield 26, 3) := dk_181 0 26 (dk_at dksJ16_nextEntry_1 20 rfl rfl)
theorem dJ16_nextEntry_47 : decode cJ16_nextEntry 47 = .ok (.aload_n 0, 1) := dk_42 (dk_at dksJ16_nextEntry_1 23 rfl rfl)
theorem dJ16_nextEntry_48 : decode cJ16_nextEntry 48 = .ok (.aload_n 1, 1) := dk_43 (dk_at dksJ16_nextEntry_2 0 rfl rfl)
theorem dJ16_nextEntry_49 : decode cJ16_nextEntry 49 = .ok (.putfield 22, 3) := dk_181 0 22 (dk_at dksJ16_nextEntry_2 1 rfl rfl)
theorem dJ16_nextEntry_52 : decode cJ16_nextEntry 52 = .ok (.aload_n 1, 1) := dk_43 (dk_at dksJ16_nextEntry_2 4 rfl rfl)
theorem dJ16_nextEntry_53 : decode cJ16_nextEntry 53 = .ok (.areturn, 1) := dk_176 (dk_at dksJ16_nextEntry_2 5 rfl rfl)
theorem q111 : (Jvm.Cond.initialized "java/util/TreeMap$PrivateEntryIterator") ∈ lw_all := lw_g (lw_at lw_m1 25 rfl) rfl
theorem q884 : (Jvm.Cond.instanceMethod ({ cls := "java/util/TreeMap$PrivateEntryIterator", name := "<init>", desc := "(Ljava/util/TreeMap;Ljava/util/TreeMap$Entry;)V" } : Jvm.MethodName)) ∈ lw_all := lw_g (lw_at lw_m4 78 rfl) rfl
theorem q885 : (Jvm.Cond.code ({ cls := "java/util/TreeMap$PrivateEntryIterator", name := "<init>", desc := "(Ljava/util/TreeMap;Ljava/util/TreeMap$Entry;)V" } : Jvm.MethodName) prog_92_method_1_code (3 : Nat) (Option.none : Option Jvm.ClassFile.FieldType)) ∈ lw_all := lw_g (lw_at lw_m4 79 rfl) rfl
theorem q886 : (Jvm.Cond.methodLink "java/util/TreeMap$PrivateEntryIterator" (7 : Nat) ({ cls := "java/lang/Object", name := "<init>", desc := "()V" } : Jvm.MethodName)) ∈ lw_all := lw_g (lw_at lw_m4 80 rfl) rfl
theorem q887 : (Jvm.Cond.fieldLink "java/util/TreeMap$PrivateEntryIterator" (26 : Nat) "java/util/TreeMap$PrivateEntryIterator" "next" "Ljava/util/TreeMap$Entry;") ∈ lw_all := lw_g (lw_at lw_m4 81 rfl) rfl
theorem q888 : (Jvm.Cond.fieldLink "java/util/TreeMap$PrivateEntryIterator" (22 : Nat) "java/util/TreeMap$PrivateEntryIterator" "lastReturned" "Ljava/util/TreeMap$Entry;") ∈ lw_all := lw_g (lw_at lw_m4 82 rfl) rfl
theorem q889 : (Jvm.Cond.fieldLink "java/util/TreeMap$PrivateEntryIterator" (19 : Nat) "java/util/TreeMap$PrivateEntryIterator" "expectedModCount" "I") ∈ lw_all := lw_g (lw_at lw_m4 83 rfl) rfl
theorem q890 : (Jvm.Cond.fieldLink "java/util/TreeMap$PrivateEntryIterator" (1 : Nat) "java/util/TreeMap$PrivateEntryIterator" "this$0" "Ljava/util/TreeMap;") ∈ lw_all := lw_g (lw_at lw_m4 84 rfl) rfl
theorem q892 : (Jvm.Cond.soleField "java/util/TreeMap$PrivateEntryIterator" "next") ∈ lw_all := lw_g (lw_at lw_m4 86 rfl) rfl
theorem q894 : (Jvm.Cond.soleField "java/util/TreeMap$PrivateEntryIterator" "lastReturned") ∈ lw_all := lw_g (lw_at lw_m4 88 rfl) rfl
theorem q896 : (Jvm.Cond.soleField "java/util/TreeMap$PrivateEntryIterator" "expectedModCount") ∈ lw_all := lw_g (lw_at lw_m4 90 rfl) rfl
theorem q898 : (Jvm.Cond.soleField "java/util/TreeMap$PrivateEntryIterator" "this$0") ∈ lw_all := lw_g (lw_at lw_m4 92 rfl) rfl
theorem q970 : (Jvm.Cond.instanceMethod ({ cls := "java/util/TreeMap$PrivateEntryIterator", name := "hasNext", desc := "()Z" } : Jvm.MethodName)) ∈ lw_all := lw_g (lw_at lw_m4 164 rfl) rfl
theorem q971 : (Jvm.Cond.publicMethod ({ cls := "java/util/TreeMap$PrivateEntryIterator", name := "hasNext", desc := "()Z" } : Jvm.MethodName)) ∈ lw_tbl := lw_at lw_m4 165 rfl
theorem q972 : (Jvm.Cond.code ({ cls := "java/util/TreeMap$PrivateEntryIterator", name := "hasNext", desc := "()Z" } : Jvm.MethodName) prog_92_method_2_code (1 : Nat) (Option.some Jvm.ClassFile.FieldType.boolean)) ∈ lw_all := lw_g (lw_at lw_m4 166 rfl) rfl
theorem q1022 : (Jvm.Cond.declares ({ cls := "java/util/TreeMap$PrivateEntryIterator", name := "nextEntry", desc := "()Ljava/util/TreeMap$Entry;" } : Jvm.MethodName)) ∈ lw_tbl := lw_at lw_m4 216 rfl
theorem q1024 : (Jvm.Cond.instanceMethod ({ cls := "java/util/TreeMap$PrivateEntryIterator", name := "nextEntry", desc := "()Ljava/util/TreeMap$Entry;" } : Jvm.MethodName)) ∈ lw_all := lw_g (lw_at lw_m4 218 rfl) rfl
theorem q1025 : (Jvm.Cond.code ({ cls := "java/util/TreeMap$PrivateEntryIterator", name := "nextEntry", desc := "()Ljava/util/TreeMap$Entry;" } : Jvm.MethodName) prog_92_method_3_code (2 : Nat) (Option.some (Jvm.ClassFile.FieldType.object "java/util/TreeMap$Entry"))) ∈ lw_all := lw_g (lw_at lw_m4 219 rfl) rfl
theorem q1026 : (Jvm.Cond.methodLink "java/util/TreeMap$PrivateEntryIterator" (35 : Nat) ({ cls := "java/util/TreeMap", name := "successor", desc := "(Ljava/util/TreeMap$Entry;)Ljava/util/TreeMap$Entry;" } : Jvm.MethodName)) ∈ lw_all := lw_g (lw_at lw_m4 220 rfl) rfl
theorem q2089 : (Jvm.Cond.fieldLinkNest "java/util/TreeMap$PrivateEntryIterator" (13 : Nat) "java/util/TreeMap" "modCount" "I" "java/util/TreeMap") ∈ lw_tbl := lw_at lw_m9 83 rfl

end
section
/-! java/util/TreeMap$KeyIterator -/
set_option maxRecDepth 100000
def RJ17 : String := "java/util/TreeMap$KeyIterator"
def TJ17 : u_T := fun k => match k with
  | 0 => ("java/util/TreeMap$PrivateEntryIterator", "next", "Ljava/util/TreeMap$Entry;", false)
  | 1 => ("java/util/TreeMap$PrivateEntryIterator", "lastReturned", "Ljava/util/TreeMap$Entry;", false)
  | 2 => ("java/util/TreeMap$PrivateEntryIterator", "expectedModCount", "I", false)
  | _ => ("java/util/TreeMap$PrivateEntryIterator", "this$0", "Ljava/util/TreeMap;", true)
def tyJ17 : Nat → FieldType := fun k => match k with
  | 0 => .object "java/util/TreeMap$Entry"
  | 1 => .object "java/util/TreeMap$Entry"
  | 2 => .int
  | _ => .object "java/util/TreeMap"
abbrev wsJ170 : List Cond := u_ws RJ17 TJ17 4
theorem nmJ17 : ∀ a, a < 4 → ∀ b, b < 4 → a ≠ b → (TJ17 a).2.1 ≠ (TJ17 b).2.1 := by decide +kernel
theorem tyJ17_ok : ∀ k, k < 4 → parseFieldDescriptor (TJ17 k).2.2.1 = some (tyJ17 k) := by decide +kernel
abbrev cJ17_init : ByteArray := prog_89_method_1_code
def yJ17_init : MethodName := ⟨RJ17, "<init>", "(Ljava/util/TreeMap;Ljava/util/TreeMap$Entry;)V"⟩
def dkwJ17_init_0 : List UInt8 := [42, 43, 44, 183, 0, 1, 177]
abbrev dktJ17_init_0 : List UInt8 := dkwJ17_init_0 ++ []
theorem dksJ17_init_0 : cJ17_init.data.toList.drop 0 = dktJ17_init_0 := by decide +kernel
theorem dJ17_init_0 : decode cJ17_init 0 = .ok (.aload_n 0, 1) := dk_42 (dk_at dksJ17_init_0 0 rfl rfl)
theorem dJ17_init_1 : decode cJ17_init 1 = .ok (.aload_n 1, 1) := dk_43 (dk_at dksJ17_init_0 1 rfl rfl)
theorem dJ17_init_2 : decode cJ17_init 2 = .ok (.aload_n 2, 1) := dk_44 (dk_at dksJ17_init_0 2 rfl rfl)
theorem dJ17_init_3 : decode cJ17_init 3 = .ok (.invokespecial 1, 3) := dk_183 0 1 (dk_at dksJ17_init_0 3 rfl rfl)
theorem dJ17_init_6 : decode cJ17_init 6 = .ok (.return_, 1) := dk_177 (dk_at dksJ17_init_0 6 rfl rfl)
abbrev cJ17_next : ByteArray := prog_89_method_2_code
def yJ17_next : MethodName := ⟨RJ17, "next", "()Ljava/lang/Object;"⟩
def dkwJ17_next_0 : List UInt8 := [42, 182, 0, 7, 180, 0, 13, 176]
abbrev dktJ17_next_0 : List UInt8 := dkwJ17_next_0 ++ []
theorem dksJ17_next_0 : cJ17_next.data.toList.drop 0 = dktJ17_next_0 := by decide +kernel
theorem dJ17_next_0 : decode cJ17_next 0 = .ok (.aload_n 0, 1) := dk_42 (dk_at dksJ17_next_0 0 rfl rfl)
theorem dJ17_next_1 : decode cJ17_next 1 = .ok (.invokevirtual 7, 3) := dk_182 0 7 (dk_at dksJ17_next_0 1 rfl rfl)
theorem dJ17_next_4 : decode cJ17_next 4 = .ok (.getfield 13, 3) := dk_180 0 13 (dk_at dksJ17_next_0 4 rfl rfl)
theorem dJ17_next_7 : decode cJ17_next 7 = .ok (.areturn, 1) := dk_176 (dk_at dksJ17_next_0 7 rfl rfl)
theorem q112 : (Jvm.Cond.initialized "java/util/TreeMap$KeyIterator") ∈ lw_all := lw_g (lw_at lw_m1 26 rfl) rfl
theorem q739 : (Jvm.Cond.selects "java/util/TreeMap$KeyIterator" ({ cls := "java/lang/Object", name := "getClass", desc := "()Ljava/lang/Class;" } : Jvm.MethodName) ({ cls := "java/lang/Object", name := "getClass", desc := "()Ljava/lang/Class;" } : Jvm.MethodName)) ∈ lw_all := lw_g (lw_at lw_m3 173 rfl) rfl
theorem q875 : (Jvm.Cond.instantiable "java/util/TreeMap$KeyIterator" (4 : Nat)) ∈ lw_all := lw_g (lw_at lw_m4 69 rfl) rfl
theorem q881 : (Jvm.Cond.instanceMethod ({ cls := "java/util/TreeMap$KeyIterator", name := "<init>", desc := "(Ljava/util/TreeMap;Ljava/util/TreeMap$Entry;)V" } : Jvm.MethodName)) ∈ lw_all := lw_g (lw_at lw_m4 75 rfl) rfl
theorem q882 : (Jvm.Cond.code ({ cls := "java/util/TreeMap$KeyIterator", name := "<init>", desc := "(Ljava/util/TreeMap;Ljava/util/TreeMap$Entry;)V" } : Jvm.MethodName) prog_89_method_1_code (3 : Nat) (Option.none : Option Jvm.ClassFile.FieldType)) ∈ lw_all := lw_g (lw_at lw_m4 76 rfl) rfl
theorem q883 : (Jvm.Cond.methodLink "java/util/TreeMap$KeyIterator" (1 : Nat) ({ cls := "java/util/TreeMap$PrivateEntryIterator", name := "<init>", desc := "(Ljava/util/TreeMap;Ljava/util/TreeMap$Entry;)V" } : Jvm.MethodName)) ∈ lw_all := lw_g (lw_at lw_m4 77 rfl) rfl
theorem q891 : (Jvm.Cond.lays "java/util/TreeMap$KeyIterator" "java/util/TreeMap$PrivateEntryIterator" "next" "Ljava/util/TreeMap$Entry;") ∈ lw_all := lw_g (lw_at lw_m4 85 rfl) rfl
theorem q893 : (Jvm.Cond.lays "java/util/TreeMap$KeyIterator" "java/util/TreeMap$PrivateEntryIterator" "lastReturned" "Ljava/util/TreeMap$Entry;") ∈ lw_all := lw_g (lw_at lw_m4 87 rfl) rfl
theorem q895 : (Jvm.Cond.lays "java/util/TreeMap$KeyIterator" "java/util/TreeMap$PrivateEntryIterator" "expectedModCount" "I") ∈ lw_all := lw_g (lw_at lw_m4 89 rfl) rfl
theorem q897 : (Jvm.Cond.laysFinal "java/util/TreeMap$KeyIterator" "java/util/TreeMap$PrivateEntryIterator" "this$0" "Ljava/util/TreeMap;") ∈ lw_all := lw_g (lw_at lw_m4 91 rfl) rfl
theorem q899 : (Jvm.Cond.superclass "java/util/TreeMap$KeyIterator" "java/util/TreeMap$PrivateEntryIterator") ∈ lw_all := lw_g (lw_at lw_m4 93 rfl) rfl
theorem q967 : (Jvm.Cond.castable "java/util/TreeMap$KeyIterator" "java/util/Iterator") ∈ lw_tbl := lw_at lw_m4 161 rfl
theorem q968 : (Jvm.Cond.selects "java/util/TreeMap$KeyIterator" ({ cls := "java/util/Iterator", name := "hasNext", desc := "()Z" } : Jvm.MethodName) ({ cls := "java/util/TreeMap$PrivateEntryIterator", name := "hasNext", desc := "()Z" } : Jvm.MethodName)) ∈ lw_all := lw_g (lw_at lw_m4 162 rfl) rfl
theorem q969 : (Jvm.Cond.unhidden "java/util/TreeMap$KeyIterator" "hasNext" "()Z") ∈ lw_tbl := lw_at lw_m4 163 rfl
theorem q1015 : (Jvm.Cond.selects "java/util/TreeMap$KeyIterator" ({ cls := "java/util/Iterator", name := "next", desc := "()Ljava/lang/Object;" } : Jvm.MethodName) ({ cls := "java/util/TreeMap$KeyIterator", name := "next", desc := "()Ljava/lang/Object;" } : Jvm.MethodName)) ∈ lw_all := lw_g (lw_at lw_m4 209 rfl) rfl
theorem q1016 : (Jvm.Cond.unhidden "java/util/TreeMap$KeyIterator" "next" "()Ljava/lang/Object;") ∈ lw_tbl := lw_at lw_m4 210 rfl
theorem q1017 : (Jvm.Cond.instanceMethod ({ cls := "java/util/TreeMap$KeyIterator", name := "next", desc := "()Ljava/lang/Object;" } : Jvm.MethodName)) ∈ lw_all := lw_g (lw_at lw_m4 211 rfl) rfl
theorem q1018 : (Jvm.Cond.publicMethod ({ cls := "java/util/TreeMap$KeyIterator", name := "next", desc := "()Ljava/lang/Object;" } : Jvm.MethodName)) ∈ lw_tbl := lw_at lw_m4 212 rfl
theorem q1019 : (Jvm.Cond.code ({ cls := "java/util/TreeMap$KeyIterator", name := "next", desc := "()Ljava/lang/Object;" } : Jvm.MethodName) prog_89_method_2_code (1 : Nat) (Option.some (Jvm.ClassFile.FieldType.object "java/lang/Object"))) ∈ lw_all := lw_g (lw_at lw_m4 213 rfl) rfl
theorem q1020 : (Jvm.Cond.methodLink "java/util/TreeMap$KeyIterator" (7 : Nat) ({ cls := "java/util/TreeMap$KeyIterator", name := "nextEntry", desc := "()Ljava/util/TreeMap$Entry;" } : Jvm.MethodName)) ∈ lw_all := lw_g (lw_at lw_m4 214 rfl) rfl
theorem q1021 : (Jvm.Cond.sameMethod "java/util/TreeMap$KeyIterator" "java/util/TreeMap$PrivateEntryIterator" "nextEntry" "()Ljava/util/TreeMap$Entry;") ∈ lw_all := lw_g (lw_at lw_m4 215 rfl) rfl
theorem q1023 : (Jvm.Cond.selects "java/util/TreeMap$KeyIterator" ({ cls := "java/util/TreeMap$KeyIterator", name := "nextEntry", desc := "()Ljava/util/TreeMap$Entry;" } : Jvm.MethodName) ({ cls := "java/util/TreeMap$PrivateEntryIterator", name := "nextEntry", desc := "()Ljava/util/TreeMap$Entry;" } : Jvm.MethodName)) ∈ lw_all := lw_g (lw_at lw_m4 217 rfl) rfl
theorem q2546 : (Jvm.Cond.fieldLink "java/util/TreeMap$KeyIterator" (13 : Nat) "java/util/TreeMap$Entry" "key" "Ljava/lang/Object;") ∈ lw_all := lw_g (lw_at lw_m11 60 rfl) rfl
theorem q3370 : (Jvm.Cond.castable "java/util/TreeMap$KeyIterator" "java/lang/Object") ∈ lw_tbl := lw_at lw_m14 164 rfl
theorem in_J17 : ∀ w ∈ wsJ170, w ∈ lw_all := lw_in wsJ170 [891, 893, 895, 897] (by decide +kernel) (by decide +kernel)

end
section
/-! java/util/AbstractSet -/
set_option maxRecDepth 100000
def RJ18 : String := "java/util/AbstractSet"
abbrev cJ18_init : ByteArray := prog_61_method_1_code
def yJ18_init : MethodName := ⟨RJ18, "<init>", "()V"⟩
theorem dJ18_init_0 : decode cJ18_init 0 = .ok (.aload_n 0, 1) := by decide +kernel
theorem dJ18_init_1 : decode cJ18_init 1 = .ok (.invokespecial 1, 3) := by decide +kernel
theorem dJ18_init_4 : decode cJ18_init 4 = .ok (.return_, 1) := by decide +kernel
theorem q113 : (Jvm.Cond.initialized "java/util/AbstractSet") ∈ lw_all := lw_g (lw_at lw_m1 27 rfl) rfl
theorem q922 : (Jvm.Cond.instanceMethod ({ cls := "java/util/AbstractSet", name := "<init>", desc := "()V" } : Jvm.MethodName)) ∈ lw_all := lw_g (lw_at lw_m4 116 rfl) rfl
theorem q923 : (Jvm.Cond.code ({ cls := "java/util/AbstractSet", name := "<init>", desc := "()V" } : Jvm.MethodName) prog_61_method_1_code (1 : Nat) (Option.none : Option Jvm.ClassFile.FieldType)) ∈ lw_all := lw_g (lw_at lw_m4 117 rfl) rfl
theorem q924 : (Jvm.Cond.methodLink "java/util/AbstractSet" (1 : Nat) ({ cls := "java/util/AbstractCollection", name := "<init>", desc := "()V" } : Jvm.MethodName)) ∈ lw_all := lw_g (lw_at lw_m4 118 rfl) rfl

end
section
/-! java/util/TreeMap$KeySet -/
set_option maxRecDepth 100000
def RJ19 : String := "java/util/TreeMap$KeySet"
def TJ19 : u_T := fun k => match k with
  | _ => ("java/util/TreeMap$KeySet", "m", "Ljava/util/NavigableMap;", true)
def tyJ19 : Nat → FieldType := fun k => match k with
  | _ => .object "java/util/NavigableMap"
abbrev wsJ190 : List Cond := u_ws RJ19 TJ19 1
theorem nmJ19 : ∀ a, a < 1 → ∀ b, b < 1 → a ≠ b → (TJ19 a).2.1 ≠ (TJ19 b).2.1 := by decide +kernel
theorem tyJ19_ok : ∀ k, k < 1 → parseFieldDescriptor (TJ19 k).2.2.1 = some (tyJ19 k) := by decide +kernel
abbrev cJ19_size : ByteArray := prog_90_method_4_code
def yJ19_size : MethodName := ⟨RJ19, "size", "()I"⟩
def dkwJ19_size_0 : List UInt8 := [42, 180, 0, 7, 185, 0, 26, 1, 0, 172]
abbrev dktJ19_size_0 : List UInt8 := dkwJ19_size_0 ++ []
theorem dksJ19_size_0 : cJ19_size.data.toList.drop 0 = dktJ19_size_0 := by decide +kernel
theorem dJ19_size_0 : decode cJ19_size 0 = .ok (.aload_n 0, 1) := dk_42 (dk_at dksJ19_size_0 0 rfl rfl)
theorem dJ19_size_1 : decode cJ19_size 1 = .ok (.getfield 7, 3) := dk_180 0 7 (dk_at dksJ19_size_0 1 rfl rfl)
theorem dJ19_size_4 : decode cJ19_size 4 = .ok (.invokeinterface 26 1, 5) := by decide +kernel
theorem dJ19_size_9 : decode cJ19_size 9 = .ok (.ireturn, 1) := dk_172 (dk_at dksJ19_size_0 9 rfl rfl)
abbrev cJ19_iterator : ByteArray := prog_90_method_2_code
def yJ19_iterator : MethodName := ⟨RJ19, "iterator", "()Ljava/util/Iterator;"⟩
def dkwJ19_iterator_1 : List UInt8 := [180, 0, 7, 192, 0, 19, 182, 0, 21, 176]
abbrev dktJ19_iterator_1 : List UInt8 := dkwJ19_iterator_1 ++ []
def dkwJ19_iterator_0 : List UInt8 := [42, 180, 0, 7, 193, 0, 13, 153, 0, 14, 42, 180, 0, 7, 192, 0, 13, 182, 0, 15, 176, 42]
abbrev dktJ19_iterator_0 : List UInt8 := dkwJ19_iterator_0 ++ dktJ19_iterator_1
theorem dksJ19_iterator_0 : cJ19_iterator.data.toList.drop 0 = dktJ19_iterator_0 := by decide +kernel
theorem dksJ19_iterator_1 : cJ19_iterator.data.toList.drop 22 = dktJ19_iterator_1 := dk_seg dksJ19_iterator_0 22 rfl rfl
theorem dJ19_iterator_0 : decode cJ19_iterator 0 = .ok (.aload_n 0, 1) := dk_42 (dk_at dksJ19_iterator_0 0 rfl rfl)
theorem dJ19_iterator_1 : decode cJ19_iterator 1 = .ok (.getfield 7, 3) := dk_180 0 7 (dk_at dksJ19_iterator_0 1 rfl rfl)
theorem dJ19_iterator_4 : decode cJ19_iterator 4 = .ok (.instanceof 13, 3) := dk_193 0 13 (dk_at dksJ19_iterator_0 4 rfl rfl)
theorem dJ19_iterator_7 : decode cJ19_iterator 7 = .ok (.ifCond .eq 14, 3) := dk_153 0 14 (dk_at dksJ19_iterator_0 7 rfl rfl)
theorem dJ19_iterator_10 : decode cJ19_iterator 10 = .ok (.aload_n 0, 1) := dk_42 (dk_at dksJ19_iterator_0 10 rfl rfl)
theorem dJ19_iterator_11 : decode cJ19_iterator 11 = .ok (.getfield 7, 3) := dk_180 0 7 (dk_at dksJ19_iterator_0 11 rfl rfl)
theorem dJ19_iterator_14 : decode cJ19_iterator 14 = .ok (.checkcast 13, 3) := dk_192 0 13 (dk_at dksJ19_iterator_0 14 rfl rfl)
theorem dJ19_iterator_17 : decode cJ19_iterator 17 = .ok (.invokevirtual 15, 3) := dk_182 0 15 (dk_at dksJ19_iterator_0 17 rfl rfl)
theorem dJ19_iterator_20 : decode cJ19_iterator 20 = .ok (.areturn, 1) := dk_176 (dk_at dksJ19_iterator_0 20 rfl rfl)
theorem dJ19_iterator_21 : decode cJ19_iterator 21 = .ok (.aload_n 0, 1) := dk_42 (dk_at dksJ19_iterator_0 21 rfl rfl)
theorem dJ19_iterator_22 : decode cJ19_iterator 22 = .ok (.getfield 7, 3) := dk_180 0 7 (dk_at dksJ19_iterator_1 0 rfl rfl)
theorem dJ19_iterator_25 : decode cJ19_iterator 25 = .ok (.checkcast 19, 3) := dk_192 0 19 (dk_at dksJ19_iterator_1 3 rfl rfl)
theorem dJ19_iterator_28 : decode cJ19_iterator 28 = .ok (.invokevirtual 21, 3) := dk_182 0 21 (dk_at dksJ19_iterator_1 6 rfl rfl)
theorem dJ19_iterator_31 : decode cJ19_iterator 31 = .ok (.areturn, 1) := dk_176 (dk_at dksJ19_iterator_1 9 rfl rfl)
abbrev cJ19_init : ByteArray := prog_90_method_1_code
def yJ19_init : MethodName := ⟨RJ19, "<init>", "(Ljava/util/NavigableMap;)V"⟩
def dkwJ19_init_0 : List UInt8 := [42, 183, 0, 1, 42, 43, 181, 0, 7, 177]
abbrev dktJ19_init_0 : List UInt8 := dkwJ19_init_0 ++ []
theorem dksJ19_init_0 : cJ19_init.data.toList.drop 0 = dktJ19_init_0 := by decide +kernel
theorem dJ19_init_0 : decode cJ19_init 0 = .ok (.aload_n 0, 1) := dk_42 (dk_at dksJ19_init_0 0 rfl rfl)
theorem dJ19_init_1 : decode cJ19_init 1 = .ok (.invokespecial 1, 3) := dk_183 0 1 (dk_at dksJ19_init_0 1 rfl rfl)
theorem dJ19_init_4 : decode cJ19_init 4 = .ok (.aload_n 0, 1) := dk_42 (dk_at dksJ19_init_0 4 rfl rfl)
theorem dJ19_init_5 : decode cJ19_init 5 = .ok (.aload_n 1, 1) := dk_43 (dk_at dksJ19_init_0 5 rfl rfl)
theorem dJ19_init_6 : decode cJ19_init 6 = .ok (.putfield 7, 3) := dk_181 0 7 (dk_at dksJ19_init_0 6 rfl rfl)
theorem dJ19_init_9 : decode cJ19_init 9 = .ok (.return_, 1) := dk_177 (dk_at dksJ19_init_0 9 rfl rfl)
theorem q114 : (Jvm.Cond.initialized "java/util/TreeMap$KeySet") ∈ lw_all := lw_g (lw_at lw_m1 28 rfl) rfl
theorem q740 : (Jvm.Cond.selects "java/util/TreeMap$KeySet" ({ cls := "java/lang/Object", name := "getClass", desc := "()Ljava/lang/Class;" } : Jvm.MethodName) ({ cls := "java/lang/Object", name := "getClass", desc := "()Ljava/lang/Class;" } : Jvm.MethodName)) ∈ lw_all := lw_g (lw_at lw_m3 174 rfl) rfl
theorem q754 : (Jvm.Cond.castable "java/util/TreeMap$KeySet" "java/util/Collection") ∈ lw_tbl := lw_at lw_m3 188 rfl
theorem q755 : (Jvm.Cond.selects "java/util/TreeMap$KeySet" ({ cls := "java/util/Collection", name := "toArray", desc := "()[Ljava/lang/Object;" } : Jvm.MethodName) ({ cls := "java/util/AbstractCollection", name := "toArray", desc := "()[Ljava/lang/Object;" } : Jvm.MethodName)) ∈ lw_all := lw_g (lw_at lw_m3 189 rfl) rfl
theorem q756 : (Jvm.Cond.unhidden "java/util/TreeMap$KeySet" "toArray" "()[Ljava/lang/Object;") ∈ lw_tbl := lw_at lw_m3 190 rfl
theorem q773 : (Jvm.Cond.selects "java/util/TreeMap$KeySet" ({ cls := "java/util/AbstractCollection", name := "size", desc := "()I" } : Jvm.MethodName) ({ cls := "java/util/TreeMap$KeySet", name := "size", desc := "()I" } : Jvm.MethodName)) ∈ lw_all := lw_g (lw_at lw_m3 207 rfl) rfl
theorem q774 : (Jvm.Cond.instanceMethod ({ cls := "java/util/TreeMap$KeySet", name := "size", desc := "()I" } : Jvm.MethodName)) ∈ lw_all := lw_g (lw_at lw_m3 208 rfl) rfl
theorem q775 : (Jvm.Cond.code ({ cls := "java/util/TreeMap$KeySet", name := "size", desc := "()I" } : Jvm.MethodName) prog_90_method_4_code (1 : Nat) (Option.some Jvm.ClassFile.FieldType.int)) ∈ lw_all := lw_g (lw_at lw_m3 209 rfl) rfl
theorem q776 : (Jvm.Cond.interfaceEntry "java/util/TreeMap$KeySet" (26 : Nat)) ∈ lw_tbl := lw_at lw_m3 210 rfl
theorem q866 : (Jvm.Cond.selects "java/util/TreeMap$KeySet" ({ cls := "java/util/AbstractCollection", name := "iterator", desc := "()Ljava/util/Iterator;" } : Jvm.MethodName) ({ cls := "java/util/TreeMap$KeySet", name := "iterator", desc := "()Ljava/util/Iterator;" } : Jvm.MethodName)) ∈ lw_all := lw_g (lw_at lw_m4 60 rfl) rfl
theorem q867 : (Jvm.Cond.instanceMethod ({ cls := "java/util/TreeMap$KeySet", name := "iterator", desc := "()Ljava/util/Iterator;" } : Jvm.MethodName)) ∈ lw_all := lw_g (lw_at lw_m4 61 rfl) rfl
theorem q868 : (Jvm.Cond.code ({ cls := "java/util/TreeMap$KeySet", name := "iterator", desc := "()Ljava/util/Iterator;" } : Jvm.MethodName) prog_90_method_2_code (1 : Nat) (Option.some (Jvm.ClassFile.FieldType.object "java/util/Iterator"))) ∈ lw_all := lw_g (lw_at lw_m4 62 rfl) rfl
theorem q869 : (Jvm.Cond.classLink "java/util/TreeMap$KeySet" (13 : Nat) "java/util/TreeMap") ∈ lw_all := lw_g (lw_at lw_m4 63 rfl) rfl
theorem q870 : (Jvm.Cond.methodLink "java/util/TreeMap$KeySet" (15 : Nat) ({ cls := "java/util/TreeMap", name := "keyIterator", desc := "()Ljava/util/Iterator;" } : Jvm.MethodName)) ∈ lw_all := lw_g (lw_at lw_m4 64 rfl) rfl
theorem q900 : (Jvm.Cond.classLink "java/util/TreeMap$KeySet" (19 : Nat) "java/util/TreeMap$NavigableSubMap") ∈ lw_all := lw_g (lw_at lw_m4 94 rfl) rfl
theorem q901 : (Jvm.Cond.methodLink "java/util/TreeMap$KeySet" (21 : Nat) ({ cls := "java/util/TreeMap$NavigableSubMap", name := "keyIterator", desc := "()Ljava/util/Iterator;" } : Jvm.MethodName)) ∈ lw_all := lw_g (lw_at lw_m4 95 rfl) rfl
theorem q917 : (Jvm.Cond.instantiable "java/util/TreeMap$KeySet" (1 : Nat)) ∈ lw_all := lw_g (lw_at lw_m4 111 rfl) rfl
theorem q919 : (Jvm.Cond.instanceMethod ({ cls := "java/util/TreeMap$KeySet", name := "<init>", desc := "(Ljava/util/NavigableMap;)V" } : Jvm.MethodName)) ∈ lw_all := lw_g (lw_at lw_m4 113 rfl) rfl
theorem q920 : (Jvm.Cond.code ({ cls := "java/util/TreeMap$KeySet", name := "<init>", desc := "(Ljava/util/NavigableMap;)V" } : Jvm.MethodName) prog_90_method_1_code (2 : Nat) (Option.none : Option Jvm.ClassFile.FieldType)) ∈ lw_all := lw_g (lw_at lw_m4 114 rfl) rfl
theorem q921 : (Jvm.Cond.methodLink "java/util/TreeMap$KeySet" (1 : Nat) ({ cls := "java/util/AbstractSet", name := "<init>", desc := "()V" } : Jvm.MethodName)) ∈ lw_all := lw_g (lw_at lw_m4 115 rfl) rfl
theorem q925 : (Jvm.Cond.fieldLink "java/util/TreeMap$KeySet" (7 : Nat) "java/util/TreeMap$KeySet" "m" "Ljava/util/NavigableMap;") ∈ lw_all := lw_g (lw_at lw_m4 119 rfl) rfl
theorem q926 : (Jvm.Cond.laysFinal "java/util/TreeMap$KeySet" "java/util/TreeMap$KeySet" "m" "Ljava/util/NavigableMap;") ∈ lw_all := lw_g (lw_at lw_m4 120 rfl) rfl
theorem q927 : (Jvm.Cond.soleField "java/util/TreeMap$KeySet" "m") ∈ lw_all := lw_g (lw_at lw_m4 121 rfl) rfl
theorem q928 : (Jvm.Cond.superclass "java/util/TreeMap$KeySet" "java/util/AbstractSet") ∈ lw_all := lw_g (lw_at lw_m4 122 rfl) rfl
theorem q933 : (Jvm.Cond.castable "java/util/TreeMap$KeySet" "java/util/NavigableSet") ∈ lw_tbl := lw_at lw_m4 127 rfl
theorem q934 : (Jvm.Cond.selects "java/util/TreeMap$KeySet" ({ cls := "java/util/NavigableSet", name := "iterator", desc := "()Ljava/util/Iterator;" } : Jvm.MethodName) ({ cls := "java/util/TreeMap$KeySet", name := "iterator", desc := "()Ljava/util/Iterator;" } : Jvm.MethodName)) ∈ lw_all := lw_g (lw_at lw_m4 128 rfl) rfl
theorem q935 : (Jvm.Cond.unhidden "java/util/TreeMap$KeySet" "iterator" "()Ljava/util/Iterator;") ∈ lw_tbl := lw_at lw_m4 129 rfl
theorem q936 : (Jvm.Cond.publicMethod ({ cls := "java/util/TreeMap$KeySet", name := "iterator", desc := "()Ljava/util/Iterator;" } : Jvm.MethodName)) ∈ lw_tbl := lw_at lw_m4 130 rfl
theorem q2697 : (Jvm.Cond.castable "java/util/TreeMap$KeySet" "java/util/Set") ∈ lw_tbl := lw_at lw_m11 211 rfl
theorem q2698 : (Jvm.Cond.selects "java/util/TreeMap$KeySet" ({ cls := "java/util/Set", name := "iterator", desc := "()Ljava/util/Iterator;" } : Jvm.MethodName) ({ cls := "java/util/TreeMap$KeySet", name := "iterator", desc := "()Ljava/util/Iterator;" } : Jvm.MethodName)) ∈ lw_all := lw_g (lw_at lw_m11 212 rfl) rfl
theorem q3369 : (Jvm.Cond.castable "java/util/TreeMap$KeySet" "java/lang/Object") ∈ lw_tbl := lw_at lw_m14 163 rfl
theorem in_J19 : ∀ w ∈ wsJ190, w ∈ lw_all := lw_in wsJ190 [926] (by decide +kernel) (by decide +kernel)

end
section
/-! java/util/AbstractMap -/
set_option maxRecDepth 100000
def RJ20 : String := "java/util/AbstractMap"
abbrev cJ20_init : ByteArray := prog_59_method_1_code
def yJ20_init : MethodName := ⟨RJ20, "<init>", "()V"⟩
theorem dJ20_init_0 : decode cJ20_init 0 = .ok (.aload_n 0, 1) := by decide +kernel
theorem dJ20_init_1 : decode cJ20_init 1 = .ok (.invokespecial 1, 3) := by decide +kernel
theorem dJ20_init_4 : decode cJ20_init 4 = .ok (.return_, 1) := by decide +kernel
theorem q115 : (Jvm.Cond.initialized "java/util/AbstractMap") ∈ lw_all := lw_g (lw_at lw_m1 29 rfl) rfl
theorem q2083 : (Jvm.Cond.instanceMethod ({ cls := "java/util/AbstractMap", name := "<init>", desc := "()V" } : Jvm.MethodName)) ∈ lw_all := lw_g (lw_at lw_m9 77 rfl) rfl
theorem q2084 : (Jvm.Cond.code ({ cls := "java/util/AbstractMap", name := "<init>", desc := "()V" } : Jvm.MethodName) prog_59_method_1_code (1 : Nat) (Option.none : Option Jvm.ClassFile.FieldType)) ∈ lw_all := lw_g (lw_at lw_m9 78 rfl) rfl
theorem q2085 : (Jvm.Cond.methodLink "java/util/AbstractMap" (1 : Nat) ({ cls := "java/lang/Object", name := "<init>", desc := "()V" } : Jvm.MethodName)) ∈ lw_all := lw_g (lw_at lw_m9 79 rfl) rfl
theorem q2107 : (Jvm.Cond.soleField "java/util/AbstractMap" "keySet") ∈ lw_all := lw_g (lw_at lw_m9 101 rfl) rfl
theorem q2109 : (Jvm.Cond.soleField "java/util/AbstractMap" "values") ∈ lw_all := lw_g (lw_at lw_m9 103 rfl) rfl

end
section
/-! java/util/TreeMap -/
set_option maxRecDepth 100000
def RJ21 : String := "java/util/TreeMap"
def TJ21 : u_T := fun k => match k with
  | 0 => ("java/util/AbstractMap", "keySet", "Ljava/util/Set;", false)
  | 1 => ("java/util/AbstractMap", "values", "Ljava/util/Collection;", false)
  | 2 => ("java/util/TreeMap", "comparator", "Ljava/util/Comparator;", true)
  | 3 => ("java/util/TreeMap", "root", "Ljava/util/TreeMap$Entry;", false)
  | 4 => ("java/util/TreeMap", "size", "I", false)
  | 5 => ("java/util/TreeMap", "modCount", "I", false)
  | 6 => ("java/util/TreeMap", "entrySet", "Ljava/util/TreeMap$EntrySet;", false)
  | 7 => ("java/util/TreeMap", "navigableKeySet", "Ljava/util/TreeMap$KeySet;", false)
  | _ => ("java/util/TreeMap", "descendingMap", "Ljava/util/NavigableMap;", false)
def tyJ21 : Nat → FieldType := fun k => match k with
  | 0 => .object "java/util/Set"
  | 1 => .object "java/util/Collection"
  | 2 => .object "java/util/Comparator"
  | 3 => .object "java/util/TreeMap$Entry"
  | 4 => .int
  | 5 => .int
  | 6 => .object "java/util/TreeMap$EntrySet"
  | 7 => .object "java/util/TreeMap$KeySet"
  | _ => .object "java/util/NavigableMap"
abbrev wsJ210 : List Cond := u_ws RJ21 TJ21 9
theorem nmJ21 : ∀ a, a < 9 → ∀ b, b < 9 → a ≠ b → (TJ21 a).2.1 ≠ (TJ21 b).2.1 := by decide +kernel
theorem tyJ21_ok : ∀ k, k < 9 → parseFieldDescriptor (TJ21 k).2.2.1 = some (tyJ21 k) := by decide +kernel
abbrev cJ21_size : ByteArray := prog_87_method_5_code
def yJ21_size : MethodName := ⟨RJ21, "size", "()I"⟩
theorem dJ21_size_0 : decode cJ21_size 0 = .ok (.aload_n 0, 1) := by decide +kernel
theorem dJ21_size_1 : decode cJ21_size 1 = .ok (.getfield 7, 3) := by decide +kernel
theorem dJ21_size_4 : decode cJ21_size 4 = .ok (.ireturn, 1) := by decide +kernel
abbrev cJ21_keyIterator : ByteArray := prog_87_method_65_code
def yJ21_keyIterator : MethodName := ⟨RJ21, "keyIterator", "()Ljava/util/Iterator;"⟩
def dkwJ21_keyIterator_0 : List UInt8 := [187, 1, 13, 89, 42, 42, 182, 0, 54, 183, 1, 15, 176]
abbrev dktJ21_keyIterator_0 : List UInt8 := dkwJ21_keyIterator_0 ++ []
theorem dksJ21_keyIterator_0 : cJ21_keyIterator.data.toList.drop 0 = dktJ21_keyIterator_0 := by decide +kernel
theorem dJ21_keyIterator_0 : decode cJ21_keyIterator 0 = .ok (.new 269, 3) := dk_187 1 13 (dk_at dksJ21_keyIterator_0 0 rfl rfl)
theorem dJ21_keyIterator_3 : decode cJ21_keyIterator 3 = .ok (.dup, 1) := dk_89 (dk_at dksJ21_keyIterator_0 3 rfl rfl)
theorem dJ21_keyIterator_4 : decode cJ21_keyIterator 4 = .ok (.aload_n 0, 1) := dk_42 (dk_at dksJ21_keyIterator_0 4 rfl rfl)
theorem dJ21_keyIterator_5 : decode cJ21_keyIterator 5 = .ok (.aload_n 0, 1) := dk_42 (dk_at dksJ21_keyIterator_0 5 rfl rfl)
theorem dJ21_keyIterator_6 : decode cJ21_keyIterator 6 = .ok (.invokevirtual 54, 3) := dk_182 0 54 (dk_at dksJ21_keyIterator_0 6 rfl rfl)
theorem dJ21_keyIterator_9 : decode cJ21_keyIterator 9 = .ok (.invokespecial 271, 3) := dk_183 1 15 (dk_at dksJ21_keyIterator_0 9 rfl rfl)
theorem dJ21_keyIterator_12 : decode cJ21_keyIterator 12 = .ok (.areturn, 1) := dk_176 (dk_at dksJ21_keyIterator_0 12 rfl rfl)
abbrev cJ21_getFirstEntry : ByteArray := prog_87_method_72_code
def yJ21_getFirstEntry : MethodName := ⟨RJ21, "getFirstEntry", "()Ljava/util/TreeMap$Entry;"⟩
def dkwJ21_getFirstEntry_1 : List UInt8 := [43, 176]
abbrev dktJ21_getFirstEntry_1 : List UInt8 := dkwJ21_getFirstEntry_1 ++ []
def dkwJ21_getFirstEntry_0 : List UInt8 := [42, 180, 0, 101, 76, 43, 198, 0, 18, 43, 180, 0, 111, 198, 0, 11, 43, 180, 0, 111, 76, 167, 255, 244]
abbrev dktJ21_getFirstEntry_0 : List UInt8 := dkwJ21_getFirstEntry_0 ++ dktJ21_getFirstEntry_1
theorem dksJ21_getFirstEntry_0 : cJ21_getFirstEntry.data.toList.drop 0 = dktJ21_getFirstEntry_0 := by decide +kernel
theorem dksJ21_getFirstEntry_1 : cJ21_getFirstEntry.data.toList.drop 24 = dktJ21_getFirstEntry_1 := dk_seg dksJ21_getFirstEntry_0 24 rfl rfl
theorem dJ21_getFirstEntry_0 : decode cJ21_getFirstEntry 0 = .ok (.aload_n 0, 1) := dk_42 (dk_at dksJ21_getFirstEntry_0 0 rfl rfl)
theorem dJ21_getFirstEntry_1 : decode cJ21_getFirstEntry 1 = .ok (.getfield 101, 3) := dk_180 0 101 (dk_at dksJ21_getFirstEntry_0 1 rfl rfl)
theorem dJ21_getFirstEntry_4 : decode cJ21_getFirstEntry 4 = .ok (.astore_n 1, 1) := dk_76 (dk_at dksJ21_getFirstEntry_0 4 rfl rfl)
theorem dJ21_getFirstEntry_5 : decode cJ21_getFirstEntry 5 = .ok (.aload_n 1, 1) := dk_43 (dk_at dksJ21_getFirstEntry_0 5 rfl rfl)
theorem dJ21_getFirstEntry_6 : decode cJ21_getFirstEntry 6 = .ok (.ifnull 18, 3) := dk_198 0 18 (dk_at dksJ21_getFirstEntry_0 6 rfl rfl)
theorem dJ21_getFirstEntry_9 : decode cJ21_getFirstEntry 9 = .ok (.aload_n 1, 1) := dk_43 (dk_at dksJ21_getFirstEntry_0 9 rfl rfl)
theorem dJ21_getFirstEntry_10 : decode cJ21_getFirstEntry 10 = .ok (.getfield 111, 3) := dk_180 0 111 (dk_at dksJ21_getFirstEntry_0 10 rfl rfl)
theorem dJ21_getFirstEntry_13 : decode cJ21_getFirstEntry 13 = .ok (.ifnull 11, 3) := dk_198 0 11 (dk_at dksJ21_getFirstEntry_0 13 rfl rfl)
theorem dJ21_getFirstEntry_16 : decode cJ21_getFirstEntry 16 = .ok (.aload_n 1, 1) := dk_43 (dk_at dksJ21_getFirstEntry_0 16 rfl rfl)
theorem dJ21_getFirstEntry_17 : decode cJ21_getFirstEntry 17 = .ok (.getfield 111, 3) := dk_180 0 111 (dk_at dksJ21_getFirstEntry_0 17 rfl rfl)
theorem dJ21_getFirstEntry_20 : decode cJ21_getFirstEntry 20 = .ok (.astore_n 1, 1) := dk_76 (dk_at dksJ21_getFirstEntry_0 20 rfl rfl)
theorem dJ21_getFirstEntry_21 : decode cJ21_getFirstEntry 21 = .ok (.goto (-12), 3) := dk_167 255 244 (dk_at dksJ21_getFirstEntry_0 21 rfl rfl)
theorem dJ21_getFirstEntry_24 : decode cJ21_getFirstEntry 24 = .ok (.aload_n 1, 1) := dk_43 (dk_at dksJ21_getFirstEntry_1 0 rfl rfl)
theorem dJ21_getFirstEntry_25 : decode cJ21_getFirstEntry 25 = .ok (.areturn, 1) := dk_176 (dk_at dksJ21_getFirstEntry_1 1 rfl rfl)
abbrev cJ21_navigableKeySet : ByteArray := prog_87_method_50_code
def yJ21_navigableKeySet : MethodName := ⟨RJ21, "navigableKeySet", "()Ljava/util/NavigableSet;"⟩
def dkwJ21_navigableKeySet_1 : List UInt8 := [181, 0, 191, 176]
abbrev dktJ21_navigableKeySet_1 : List UInt8 := dkwJ21_navigableKeySet_1 ++ []
def dkwJ21_navigableKeySet_0 : List UInt8 := [42, 180, 0, 191, 76, 43, 198, 0, 7, 43, 167, 0, 16, 42, 187, 0, 222, 89, 42, 183, 0, 224, 90]
abbrev dktJ21_navigableKeySet_0 : List UInt8 := dkwJ21_navigableKeySet_0 ++ dktJ21_navigableKeySet_1
theorem dksJ21_navigableKeySet_0 : cJ21_navigableKeySet.data.toList.drop 0 = dktJ21_navigableKeySet_0 := by decide +kernel
theorem dksJ21_navigableKeySet_1 : cJ21_navigableKeySet.data.toList.drop 23 = dktJ21_navigableKeySet_1 := dk_seg dksJ21_navigableKeySet_0 23 rfl rfl
theorem dJ21_navigableKeySet_0 : decode cJ21_navigableKeySet 0 = .ok (.aload_n 0, 1) := dk_42 (dk_at dksJ21_navigableKeySet_0 0 rfl rfl)
theorem dJ21_navigableKeySet_1 : decode cJ21_navigableKeySet 1 = .ok (.getfield 191, 3) := dk_180 0 191 (dk_at dksJ21_navigableKeySet_0 1 rfl rfl)
theorem dJ21_navigableKeySet_4 : decode cJ21_navigableKeySet 4 = .ok (.astore_n 1, 1) := dk_76 (dk_at dksJ21_navigableKeySet_0 4 rfl rfl)
theorem dJ21_navigableKeySet_5 : decode cJ21_navigableKeySet 5 = .ok (.aload_n 1, 1) := dk_43 (dk_at dksJ21_navigableKeySet_0 5 rfl rfl)
theorem dJ21_navigableKeySet_6 : decode cJ21_navigableKeySet 6 = .ok (.ifnull 7, 3) := dk_198 0 7 (dk_at dksJ21_navigableKeySet_0 6 rfl rfl)
theorem dJ21_navigableKeySet_9 : decode cJ21_navigableKeySet 9 = .ok (.aload_n 1, 1) := dk_43 (dk_at dksJ21_navigableKeySet_0 9 rfl rfl)
theorem dJ21_navigableKeySet_10 : decode cJ21_navigableKeySet 10 = .ok (.goto 16, 3) := dk_167 0 16 (dk_at dksJ21_navigableKeySet_0 10 rfl rfl)
theorem dJ21_navigableKeySet_13 : decode cJ21_navigableKeySet 13 = .ok (.aload_n 0, 1) := dk_42 (dk_at dksJ21_navigableKeySet_0 13 rfl rfl)
theorem dJ21_navigableKeySet_14 : decode cJ21_navigableKeySet 14 = .ok (.new 222, 3) := dk_187 0 222 (dk_at dksJ21_navigableKeySet_0 14 rfl rfl)
theorem dJ21_navigableKeySet_17 : decode cJ21_navigableKeySet 17 = .ok (.dup, 1) := dk_89 (dk_at dksJ21_navigableKeySet_0 17 rfl rfl)
theorem dJ21_navigableKeySet_18 : decode cJ21_navigableKeySet 18 = .ok (.aload_n 0, 1) := dk_42 (dk_at dksJ21_navigableKeySet_0 18 rfl rfl)
theorem dJ21_navigableKeySet_19 : decode cJ21_navigableKeySet 19 = .ok (.invokespecial 224, 3) := dk_183 0 224 (dk_at dksJ21_navigableKeySet_0 19 rfl rfl)
theorem dJ21_navigableKeySet_22 : decode cJ21_navigableKeySet 22 = .ok (.dup_x1, 1) := dk_90 (dk_at dksJ21_navigableKeySet_0 22 rfl rfl)
theorem dJ21_navigableKeySet_23 : decode cJ21_navigableKeySet 23 = .ok (.putfield 191, 3) := dk_181 0 191 (dk_at dksJ21_navigableKeySet_1 0 rfl rfl)
theorem dJ21_navigableKeySet_26 : decode cJ21_navigableKeySet 26 = .ok (.areturn, 1) := dk_176 (dk_at dksJ21_navigableKeySet_1 3 rfl rfl)
abbrev cJ21_successor : ByteArray := prog_87_method_74_code
def yJ21_successor : MethodName := ⟨RJ21, "successor", "(Ljava/util/TreeMap$Entry;)Ljava/util/TreeMap$Entry;"⟩
def dkwJ21_successor_2 : List UInt8 := [44, 43, 180, 0, 114, 166, 0, 13, 43, 77, 43, 180, 0, 124, 76, 167, 255, 237, 43, 176]
abbrev dktJ21_successor_2 : List UInt8 := dkwJ21_successor_2 ++ []
def dkwJ21_successor_1 : List UInt8 := [198, 0, 11, 43, 180, 0, 111, 76, 167, 255, 244, 43, 176, 42, 180, 0, 124, 76, 42, 77, 43, 198, 0, 21]
abbrev dktJ21_successor_1 : List UInt8 := dkwJ21_successor_1 ++ dktJ21_successor_2
def dkwJ21_successor_0 : List UInt8 := [42, 199, 0, 5, 1, 176, 42, 180, 0, 114, 198, 0, 25, 42, 180, 0, 114, 76, 43, 180, 0, 111]
abbrev dktJ21_successor_0 : List UInt8 := dkwJ21_successor_0 ++ dktJ21_successor_1
theorem dksJ21_successor_0 : cJ21_successor.data.toList.drop 0 = dktJ21_successor_0 := by decide +kernel
theorem dksJ21_successor_1 : cJ21_successor.data.toList.drop 22 = dktJ21_successor_1 := dk_seg dksJ21_successor_0 22 rfl rfl
theorem dksJ21_successor_2 : cJ21_successor.data.toList.drop 46 = dktJ21_successor_2 := dk_seg dksJ21_successor_1 24 rfl rfl
theorem dJ21_successor_0 : decode cJ21_successor 0 = .ok (.aload_n 0, 1) := dk_42 (dk_at dksJ21_successor_0 0 rfl rfl)
theorem dJ21_successor_1 : decode cJ21_successor 1 = .ok (.ifnonnull 5, 3) := dk_199 0 5 (dk_at dksJ21_successor_0 1 rfl rfl)
theorem dJ21_successor_4 : decode cJ21_successor 4 = .ok (.aconst_null, 1) := dk_1 (dk_at dksJ21_successor_0 4 rfl rfl)
theorem dJ21_successor_5 : decode cJ21_successor 5 = .ok (.areturn, 1) := dk_176 (dk_at dksJ21_successor_0 5 rfl rfl)
theorem dJ21_successor_6 : decode cJ21_successor 6 = .ok (.aload_n 0, 1) := dk_42 (dk_at dksJ21_successor_0 6 rfl rfl)
theorem dJ21_successor_7 : decode cJ21_successor 7 = .ok (.getfield 114, 3) := dk_180 0 114 (dk_at dksJ21_successor_0 7 rfl rfl)
theorem dJ21_successor_10 : decode cJ21_successor 10 = .ok (.ifnull 25, 3) := dk_198 0 25 (dk_at dksJ21_successor_0 10 rfl rfl)
theorem dJ21_successor_13 : decode cJ21_successor 13 = .ok (.aload_n 0, 1) := dk_42 (dk_at dksJ21_successor_0 13 rfl rfl)
theorem dJ21_successor_14 : decode cJ21_successor 14 = .ok (.getfield 114, 3) := dk_180 0 114 (dk_at dksJ21_successor_0 14 rfl rfl)
theorem dJ21_successor_17 : decode cJ21_successor 17 = .ok (.astore_n 1, 1) := dk_76 (dk_at dksJ21_successor_0 17 rfl rfl)
theorem dJ21_successor_18 : decode cJ21_successor 18 = .ok (.aload_n 1, 1) := dk_43 (dk_at dksJ21_successor_0 18 rfl rfl)
theorem dJ21_successor_19 : decode cJ21_successor 19 = .ok (.getfield 111, 3) := dk_180 0 111 (dk_at dksJ21_successor_0 19 rfl rfl)
theorem dJ21_successor_22 : decode cJ21_successor 22 = .ok (.ifnull 11, 3) := dk_198 0 11 (dk_at dksJ21_successor_1 0 rfl rfl)
theorem dJ21_successor_25 : decode cJ21_successor 25 = .ok (.aload_n 1, 1) := dk_43 (dk_at dksJ21_successor_1 3 rfl rfl)
theorem dJ21_successor_26 : decode cJ21_successor 26 = .ok (.getfield 111, 3) := dk_180 0 111 (dk_at dksJ21_successor_1 4 rfl rfl)
theorem dJ21_successor_29 : decode cJ21_successor 29 = .ok (.astore_n 1, 1) := dk_76 (dk_at dksJ21_successor_1 7 rfl rfl)
theorem dJ21_successor_30 : decode cJ21_successor 30 = .ok (.goto (-12), 3) := dk_167 255 244 (dk_at dksJ21_successor_1 8 rfl rfl)
theorem dJ21_successor_33 : decode cJ21_successor 33 = .ok (.aload_n 1, 1) := dk_43 (dk_at dksJ21_successor_1 11 rfl rfl)
theorem dJ21_successor_34 : decode cJ21_successor 34 = .ok (.areturn, 1) := dk_176 (dk_at dksJ21_successor_1 12 rfl rfl)
theorem dJ21_successor_35 : decode cJ21_successor 35 = .ok (.aload_n 0, 1) := dk_42 (dk_at dksJ21_successor_1 13 rfl rfl)
theorem dJ21_successor_36 : decode cJ21_successor 36 = .ok (.getfield 124, 3) := dk_180 0 124 (dk_at dksJ21_successor_1 14 rfl rfl)
theorem dJ21_successor_39 : decode cJ21_successor 39 = .ok (.astore_n 1, 1) := dk_76 (dk_at dksJ21_successor_1 17 rfl rfl)
theorem dJ21_successor_40 : decode cJ21_successor 40 = .ok (.aload_n 0, 1) := dk_42 (dk_at dksJ21_successor_1 18 rfl rfl)
theorem dJ21_successor_41 : decode cJ21_successor 41 = .ok (.astore_n 2, 1) := dk_77 (dk_at dksJ21_successor_1 19 rfl rfl)
theorem dJ21_successor_42 : decode cJ21_successor 42 = .ok (.aload_n 1, 1) := dk_43 (dk_at dksJ21_successor_1 20 rfl rfl)
theorem dJ21_successor_43 : decode cJ21_successor 43 = .ok (.ifnull 21, 3) := dk_198 0 21 (dk_at dksJ21_successor_1 21 rfl rfl)
theorem dJ21_successor_46 : decode cJ21_successor 46 = .ok (.aload_n 2, 1) := dk_44 (dk_at dksJ21_successor_2 0 rfl rfl)
theorem dJ21_successor_47 : decode cJ21_successor 47 = .ok (.aload_n 1, 1) := dk_43 (dk_at dksJ21_successor_2 1 rfl rfl)
theorem dJ21_successor_48 : decode cJ21_successor 48 = .ok (.getfield 114, 3) := dk_180 0 114 (dk_at dksJ21_successor_2 2 rfl rfl)
theorem dJ21_successor_51 : decode cJ21_successor 51 = .ok (.if_acmp .ne 13, 3) := dk_166 0 13 (dk_at dksJ21_successor_2 5 rfl rfl)
theorem dJ21_successor_54 : decode cJ21_successor 54 = .ok (.aload_n 1, 1) := dk_43 (dk_at dksJ21_successor_2 8 rfl rfl)
theorem dJ21_successor_55 : decode cJ21_successor 55 = .ok (.astore_n 2, 1) := dk_77 (dk_at dksJ21_successor_2 9 rfl rfl)
theorem dJ21_successor_56 : decode cJ21_successor 56 = .ok (.aload_n 1, 1) := dk_43 (dk_at dksJ21_successor_2 10 rfl rfl)
theorem dJ21_successor_57 : decode cJ21_successor 57 = .ok (.getfield 124, 3) := dk_180 0 124 (dk_at dksJ21_successor_2 11 rfl rfl)
theorem dJ21_successor_60 : decode cJ21_successor 60 = .ok (.astore_n 1, 1) := dk_76 (dk_at dksJ21_successor_2 14 rfl rfl)
theorem dJ21_successor_61 : decode cJ21_successor 61 = .ok (.goto (-19), 3) := dk_167 255 237 (dk_at dksJ21_successor_2 15 rfl rfl)
theorem dJ21_successor_64 : decode cJ21_successor 64 = .ok (.aload_n 1, 1) := dk_43 (dk_at dksJ21_successor_2 18 rfl rfl)
theorem dJ21_successor_65 : decode cJ21_successor 65 = .ok (.areturn, 1) := dk_176 (dk_at dksJ21_successor_2 19 rfl rfl)
abbrev cJ21_init : ByteArray := prog_87_method_1_code
def yJ21_init : MethodName := ⟨RJ21, "<init>", "()V"⟩
def dkwJ21_init_0 : List UInt8 := [42, 183, 0, 1, 42, 3, 181, 0, 7, 42, 3, 181, 0, 13, 42, 1, 181, 0, 16, 177]
abbrev dktJ21_init_0 : List UInt8 := dkwJ21_init_0 ++ []
theorem dksJ21_init_0 : cJ21_init.data.toList.drop 0 = dktJ21_init_0 := by decide +kernel
theorem dJ21_init_0 : decode cJ21_init 0 = .ok (.aload_n 0, 1) := dk_42 (dk_at dksJ21_init_0 0 rfl rfl)
theorem dJ21_init_1 : decode cJ21_init 1 = .ok (.invokespecial 1, 3) := dk_183 0 1 (dk_at dksJ21_init_0 1 rfl rfl)
theorem dJ21_init_4 : decode cJ21_init 4 = .ok (.aload_n 0, 1) := dk_42 (dk_at dksJ21_init_0 4 rfl rfl)
theorem dJ21_init_5 : decode cJ21_init 5 = .ok (.iconst 0, 1) := dk_3 (dk_at dksJ21_init_0 5 rfl rfl)
theorem dJ21_init_6 : decode cJ21_init 6 = .ok (.putfield 7, 3) := dk_181 0 7 (dk_at dksJ21_init_0 6 rfl rfl)
theorem dJ21_init_9 : decode cJ21_init 9 = .ok (.aload_n 0, 1) := dk_42 (dk_at dksJ21_init_0 9 rfl rfl)
theorem dJ21_init_10 : decode cJ21_init 10 = .ok (.iconst 0, 1) := dk_3 (dk_at dksJ21_init_0 10 rfl rfl)
theorem dJ21_init_11 : decode cJ21_init 11 = .ok (.putfield 13, 3) := dk_181 0 13 (dk_at dksJ21_init_0 11 rfl rfl)
theorem dJ21_init_14 : decode cJ21_init 14 = .ok (.aload_n 0, 1) := dk_42 (dk_at dksJ21_init_0 14 rfl rfl)
theorem dJ21_init_15 : decode cJ21_init 15 = .ok (.aconst_null, 1) := dk_1 (dk_at dksJ21_init_0 15 rfl rfl)
theorem dJ21_init_16 : decode cJ21_init 16 = .ok (.putfield 16, 3) := dk_181 0 16 (dk_at dksJ21_init_0 16 rfl rfl)
theorem dJ21_init_19 : decode cJ21_init 19 = .ok (.return_, 1) := dk_177 (dk_at dksJ21_init_0 19 rfl rfl)
abbrev cJ21_get : ByteArray := prog_87_method_8_code
def yJ21_get : MethodName := ⟨RJ21, "get", "(Ljava/lang/Object;)Ljava/lang/Object;"⟩
def dkwJ21_get_0 : List UInt8 := [42, 43, 182, 0, 50, 77, 44, 199, 0, 7, 1, 167, 0, 7, 44, 180, 0, 58, 176]
abbrev dktJ21_get_0 : List UInt8 := dkwJ21_get_0 ++ []
theorem dksJ21_get_0 : cJ21_get.data.toList.drop 0 = dktJ21_get_0 := by decide +kernel
theorem dJ21_get_0 : decode cJ21_get 0 = .ok (.aload_n 0, 1) := dk_42 (dk_at dksJ21_get_0 0 rfl rfl)
theorem dJ21_get_1 : decode cJ21_get 1 = .ok (.aload_n 1, 1) := dk_43 (dk_at dksJ21_get_0 1 rfl rfl)
theorem dJ21_get_2 : decode cJ21_get 2 = .ok (.invokevirtual 50, 3) := dk_182 0 50 (dk_at dksJ21_get_0 2 rfl rfl)
theorem dJ21_get_5 : decode cJ21_get 5 = .ok (.astore_n 2, 1) := dk_77 (dk_at dksJ21_get_0 5 rfl rfl)
theorem dJ21_get_6 : decode cJ21_get 6 = .ok (.aload_n 2, 1) := dk_44 (dk_at dksJ21_get_0 6 rfl rfl)
theorem dJ21_get_7 : decode cJ21_get 7 = .ok (.ifnonnull 7, 3) := dk_199 0 7 (dk_at dksJ21_get_0 7 rfl rfl)
theorem dJ21_get_10 : decode cJ21_get 10 = .ok (.aconst_null, 1) := dk_1 (dk_at dksJ21_get_0 10 rfl rfl)
theorem dJ21_get_11 : decode cJ21_get 11 = .ok (.goto 7, 3) := dk_167 0 7 (dk_at dksJ21_get_0 11 rfl rfl)
theorem dJ21_get_14 : decode cJ21_get 14 = .ok (.aload_n 2, 1) := dk_44 (dk_at dksJ21_get_0 14 rfl rfl)
theorem dJ21_get_15 : decode cJ21_get 15 = .ok (.getfield 58, 3) := dk_180 0 58 (dk_at dksJ21_get_0 15 rfl rfl)
theorem dJ21_get_18 : decode cJ21_get 18 = .ok (.areturn, 1) := dk_176 (dk_at dksJ21_get_0 18 rfl rfl)
abbrev cJ21_getEntry : ByteArray := prog_87_method_15_code
def yJ21_getEntry : MethodName := ⟨RJ21, "getEntry", "(Ljava/lang/Object;)Ljava/util/TreeMap$Entry;"⟩
def dkwJ21_getEntry_3 : List UInt8 := [45, 176, 167, 255, 212, 1, 176]
abbrev dktJ21_getEntry_3 : List UInt8 := dkwJ21_getEntry_3 ++ []
def dkwJ21_getEntry_2 : List UInt8 := [156, 0, 11, 45, 180, 0, 111, 78, 167, 0, 18, 21, 4, 158, 0, 11, 45, 180, 0, 114, 78, 167, 0, 5]
abbrev dktJ21_getEntry_2 : List UInt8 := dkwJ21_getEntry_2 ++ dktJ21_getEntry_3
def dkwJ21_getEntry_1 : List UInt8 := [180, 0, 101, 78, 45, 198, 0, 46, 44, 45, 180, 0, 105, 185, 0, 107, 2, 0, 54, 4, 21, 4]
abbrev dktJ21_getEntry_1 : List UInt8 := dkwJ21_getEntry_1 ++ dktJ21_getEntry_2
def dkwJ21_getEntry_0 : List UInt8 := [42, 180, 0, 16, 198, 0, 9, 42, 43, 182, 0, 92, 176, 43, 184, 0, 95, 87, 43, 192, 0, 99, 77, 42]
abbrev dktJ21_getEntry_0 : List UInt8 := dkwJ21_getEntry_0 ++ dktJ21_getEntry_1
theorem dksJ21_getEntry_0 : cJ21_getEntry.data.toList.drop 0 = dktJ21_getEntry_0 := by decide +kernel
theorem dksJ21_getEntry_1 : cJ21_getEntry.data.toList.drop 24 = dktJ21_getEntry_1 := dk_seg dksJ21_getEntry_0 24 rfl rfl
theorem dksJ21_getEntry_2 : cJ21_getEntry.data.toList.drop 46 = dktJ21_getEntry_2 := dk_seg dksJ21_getEntry_1 22 rfl rfl
theorem dksJ21_getEntry_3 : cJ21_getEntry.data.toList.drop 70 = dktJ21_getEntry_3 := dk_seg dksJ21_getEntry_2 24 rfl rfl
theorem dJ21_getEntry_0 : decode cJ21_getEntry 0 = .ok (.aload_n 0, 1) := dk_42 (dk_at dksJ21_getEntry_0 0 rfl rfl)
theorem dJ21_getEntry_1 : decode cJ21_getEntry 1 = .ok (.getfield 16, 3) := dk_180 0 16 (dk_at dksJ21_getEntry_0 1 rfl rfl)
theorem dJ21_getEntry_4 : decode cJ21_getEntry 4 = .ok (.ifnull 9, 3) := dk_198 0 9 (dk_at dksJ21_getEntry_0 4 rfl rfl)
theorem dJ21_getEntry_7 : decode cJ21_getEntry 7 = .ok (.aload_n 0, 1) := dk_42 (dk_at dksJ21_getEntry_0 7 rfl rfl)
theorem dJ21_getEntry_8 : decode cJ21_getEntry 8 = .ok (.aload_n 1, 1) := dk_43 (dk_at dksJ21_getEntry_0 8 rfl rfl)
theorem dJ21_getEntry_9 : decode cJ21_getEntry 9 = .ok (.invokevirtual 92, 3) := dk_182 0 92 (dk_at dksJ21_getEntry_0 9 rfl rfl)
theorem dJ21_getEntry_12 : decode cJ21_getEntry 12 = .ok (.areturn, 1) := dk_176 (dk_at dksJ21_getEntry_0 12 rfl rfl)
theorem dJ21_getEntry_13 : decode cJ21_getEntry 13 = .ok (.aload_n 1, 1) := dk_43 (dk_at dksJ21_getEntry_0 13 rfl rfl)
theorem dJ21_getEntry_14 : decode cJ21_getEntry 14 = .ok (.invokestatic 95, 3) := dk_184 0 95 (dk_at dksJ21_getEntry_0 14 rfl rfl)
theorem dJ21_getEntry_17 : decode cJ21_getEntry 17 = .ok (.pop, 1) := dk_87 (dk_at dksJ21_getEntry_0 17 rfl rfl)
theorem dJ21_getEntry_18 : decode cJ21_getEntry 18 = .ok (.aload_n 1, 1) := dk_43 (dk_at dksJ21_getEntry_0 18 rfl rfl)
theorem dJ21_getEntry_19 : decode cJ21_getEntry 19 = .ok (.checkcast 99, 3) := dk_192 0 99 (dk_at dksJ21_getEntry_0 19 rfl rfl)
theorem dJ21_getEntry_22 : decode cJ21_getEntry 22 = .ok (.astore_n 2, 1) := dk_77 (dk_at dksJ21_getEntry_0 22 rfl rfl)
theorem dJ21_getEntry_23 : decode cJ21_getEntry 23 = .ok (.aload_n 0, 1) := dk_42 (dk_at dksJ21_getEntry_0 23 rfl rfl)
theorem dJ21_getEntry_24 : decode cJ21_getEntry 24 = .ok (.getfield 101, 3) := dk_180 0 101 (dk_at dksJ21_getEntry_1 0 rfl rfl)
theorem dJ21_getEntry_27 : decode cJ21_getEntry 27 = .ok (.astore_n 3, 1) := dk_78 (dk_at dksJ21_getEntry_1 3 rfl rfl)
theorem dJ21_getEntry_28 : decode cJ21_getEntry 28 = .ok (.aload_n 3, 1) := dk_45 (dk_at dksJ21_getEntry_1 4 rfl rfl)
theorem dJ21_getEntry_29 : decode cJ21_getEntry 29 = .ok (.ifnull 46, 3) := dk_198 0 46 (dk_at dksJ21_getEntry_1 5 rfl rfl)
theorem dJ21_getEntry_32 : decode cJ21_getEntry 32 = .ok (.aload_n 2, 1) := dk_44 (dk_at dksJ21_getEntry_1 8 rfl rfl)
theorem dJ21_getEntry_33 : decode cJ21_getEntry 33 = .ok (.aload_n 3, 1) := dk_45 (dk_at dksJ21_getEntry_1 9 rfl rfl)
theorem dJ21_getEntry_34 : decode cJ21_getEntry 34 = .ok (.getfield 105, 3) := dk_180 0 105 (dk_at dksJ21_getEntry_1 10 rfl rfl)
theorem dJ21_getEntry_37 : decode cJ21_getEntry 37 = .ok (.invokeinterface 107 2, 5) := by decide +kernel
theorem dJ21_getEntry_42 : decode cJ21_getEntry 42 = .ok (.istore 4, 2) := dk_54 4 (dk_at dksJ21_getEntry_1 18 rfl rfl)
theorem dJ21_getEntry_44 : decode cJ21_getEntry 44 = .ok (.iload 4, 2) := dk_21 4 (dk_at dksJ21_getEntry_1 20 rfl rfl)
theorem dJ21_getEntry_46 : decode cJ21_getEntry 46 = .ok (.ifCond .ge 11, 3) := dk_156 0 11 (dk_at dksJ21_getEntry_2 0 rfl rfl)
theorem dJ21_getEntry_49 : decode cJ21_getEntry 49 = .ok (.aload_n 3, 1) := dk_45 (dk_at dksJ21_getEntry_2 3 rfl rfl)
theorem dJ21_getEntry_50 : decode cJ21_getEntry 50 = .ok (.getfield 111, 3) := dk_180 0 111 (dk_at dksJ21_getEntry_2 4 rfl rfl)
theorem dJ21_getEntry_53 : decode cJ21_getEntry 53 = .ok (.astore_n 3, 1) := dk_78 (dk_at dksJ21_getEntry_2 7 rfl rfl)
theorem dJ21_getEntry_54 : decode cJ21_getEntry 54 = .ok (.goto 18, 3) := dk_167 0 18 (dk_at dksJ21_getEntry_2 8 rfl rfl)
theorem dJ21_getEntry_57 : decode cJ21_getEntry 57 = .ok (.iload 4, 2) := dk_21 4 (dk_at dksJ21_getEntry_2 11 rfl rfl)
theorem dJ21_getEntry_59 : decode cJ21_getEntry 59 = .ok (.ifCond .le 11, 3) := dk_158 0 11 (dk_at dksJ21_getEntry_2 13 rfl rfl)
theorem dJ21_getEntry_62 : decode cJ21_getEntry 62 = .ok (.aload_n 3, 1) := dk_45 (dk_at dksJ21_getEntry_2 16 rfl rfl)
theorem dJ21_getEntry_63 : decode cJ21_getEntry 63 = .ok (.getfield 114, 3) := dk_180 0 114 (dk_at dksJ21_getEntry_2 17 rfl rfl)
theorem dJ21_getEntry_66 : decode cJ21_getEntry 66 = .ok (.astore_n 3, 1) := dk_78 (dk_at dksJ21_getEntry_2 20 rfl rfl)
theorem dJ21_getEntry_67 : decode cJ21_getEntry 67 = .ok (.goto 5, 3) := dk_167 0 5 (dk_at dksJ21_getEntry_2 21 rfl rfl)
theorem dJ21_getEntry_70 : decode cJ21_getEntry 70 = .ok (.aload_n 3, 1) := dk_45 (dk_at dksJ21_getEntry_3 0 rfl rfl)
theorem dJ21_getEntry_71 : decode cJ21_getEntry 71 = .ok (.areturn, 1) := dk_176 (dk_at dksJ21_getEntry_3 1 rfl rfl)
theorem dJ21_getEntry_72 : decode cJ21_getEntry 72 = .ok (.goto (-44), 3) := dk_167 255 212 (dk_at dksJ21_getEntry_3 2 rfl rfl)
theorem dJ21_getEntry_75 : decode cJ21_getEntry 75 = .ok (.aconst_null, 1) := dk_1 (dk_at dksJ21_getEntry_3 5 rfl rfl)
theorem dJ21_getEntry_76 : decode cJ21_getEntry 76 = .ok (.areturn, 1) := dk_176 (dk_at dksJ21_getEntry_3 6 rfl rfl)
abbrev cJ21_getEntryUsingComparator : ByteArray := prog_87_method_16_code
def yJ21_getEntryUsingComparator : MethodName := ⟨RJ21, "getEntryUsingComparator", "(Ljava/lang/Object;)Ljava/util/TreeMap$Entry;"⟩
def dkwJ21_getEntryUsingComparator_3 : List UInt8 := [1, 176]
abbrev dktJ21_getEntryUsingComparator_3 : List UInt8 := dkwJ21_getEntryUsingComparator_3 ++ []
def dkwJ21_getEntryUsingComparator_2 : List UInt8 := [167, 0, 21, 21, 5, 158, 0, 13, 25, 4, 180, 0, 114, 58, 4, 167, 0, 6, 25, 4, 176, 167, 255, 204]
abbrev dktJ21_getEntryUsingComparator_2 : List UInt8 := dkwJ21_getEntryUsingComparator_2 ++ dktJ21_getEntryUsingComparator_3
def dkwJ21_getEntryUsingComparator_1 : List UInt8 := [25, 4, 180, 0, 105, 185, 0, 117, 3, 0, 54, 5, 21, 5, 156, 0, 13, 25, 4, 180, 0, 111, 58, 4]
abbrev dktJ21_getEntryUsingComparator_1 : List UInt8 := dkwJ21_getEntryUsingComparator_1 ++ dktJ21_getEntryUsingComparator_2
def dkwJ21_getEntryUsingComparator_0 : List UInt8 := [43, 77, 42, 180, 0, 16, 78, 45, 198, 0, 64, 42, 180, 0, 101, 58, 4, 25, 4, 198, 0, 53, 45, 44]
abbrev dktJ21_getEntryUsingComparator_0 : List UInt8 := dkwJ21_getEntryUsingComparator_0 ++ dktJ21_getEntryUsingComparator_1
theorem dksJ21_getEntryUsingComparator_0 : cJ21_getEntryUsingComparator.data.toList.drop 0 = dktJ21_getEntryUsingComparator_0 := by decide +kernel
theorem dksJ21_getEntryUsingComparator_1 : cJ21_getEntryUsingComparator.data.toList.drop 24 = dktJ21_getEntryUsingComparator_1 := dk_seg dksJ21_getEntryUsingComparator_0 24 rfl rfl
theorem dksJ21_getEntryUsingComparator_2 : cJ21_getEntryUsingComparator.data.toList.drop 48 = dktJ21_getEntryUsingComparator_2 := dk_seg dksJ21_getEntryUsingComparator_1 24 rfl rfl
theorem dksJ21_getEntryUsingComparator_3 : cJ21_getEntryUsingComparator.data.toList.drop 72 = dktJ21_getEntryUsingComparator_3 := dk_seg dksJ21_getEntryUsingComparator_2 24 rfl rfl
theorem dJ21_getEntryUsingComparator_0 : decode cJ21_getEntryUsingComparator 0 = .ok (.aload_n 1, 1) := dk_43 (dk_at dksJ21_getEntryUsingComparator_0 0 rfl rfl)
theorem dJ21_getEntryUsingComparator_1 : decode cJ21_getEntryUsingComparator 1 = .ok (.astore_n 2, 1) := dk_77 (dk_at dksJ21_getEntryUsingComparator_0 1 rfl rfl)
theorem dJ21_getEntryUsingComparator_2 : decode cJ21_getEntryUsingComparator 2 = .ok (.aload_n 0, 1) := dk_42 (dk_at dksJ21_getEntryUsingComparator_0 2 rfl rfl)
theorem dJ21_getEntryUsingComparator_3 : decode cJ21_getEntryUsingComparator 3 = .ok (.getfield 16, 3) := dk_180 0 16 (dk_at dksJ21_getEntryUsingComparator_0 3 rfl rfl)
theorem dJ21_getEntryUsingComparator_6 : decode cJ21_getEntryUsingComparator 6 = .ok (.astore_n 3, 1) := dk_78 (dk_at dksJ21_getEntryUsingComparator_0 6 rfl rfl)
theorem dJ21_getEntryUsingComparator_7 : decode cJ21_getEntryUsingComparator 7 = .ok (.aload_n 3, 1) := dk_45 (dk_at dksJ21_getEntryUsingComparator_0 7 rfl rfl)
theorem dJ21_getEntryUsingComparator_8 : decode cJ21_getEntryUsingComparator 8 = .ok (.ifnull 64, 3) := dk_198 0 64 (dk_at dksJ21_getEntryUsingComparator_0 8 rfl rfl)
theorem dJ21_getEntryUsingComparator_11 : decode cJ21_getEntryUsingComparator 11 = .ok (.aload_n 0, 1) := dk_42 (dk_at dksJ21_getEntryUsingComparator_0 11 rfl rfl)
theorem dJ21_getEntryUsingComparator_12 : decode cJ21_getEntryUsingComparator 12 = .ok (.getfield 101, 3) := dk_180 0 101 (dk_at dksJ21_getEntryUsingComparator_0 12 rfl rfl)
theorem dJ21_getEntryUsingComparator_15 : decode cJ21_getEntryUsingComparator 15 = .ok (.astore 4, 2) := dk_58 4 (dk_at dksJ21_getEntryUsingComparator_0 15 rfl rfl)
theorem dJ21_getEntryUsingComparator_17 : decode cJ21_getEntryUsingComparator 17 = .ok (.aload 4, 2) := dk_25 4 (dk_at dksJ21_getEntryUsingComparator_0 17 rfl rfl)
theorem dJ21_getEntryUsingComparator_19 : decode cJ21_getEntryUsingComparator 19 = .ok (.ifnull 53, 3) := dk_198 0 53 (dk_at dksJ21_getEntryUsingComparator_0 19 rfl rfl)
theorem dJ21_getEntryUsingComparator_22 : decode cJ21_getEntryUsingComparator 22 = .ok (.aload_n 3, 1) := dk_45 (dk_at dksJ21_getEntryUsingComparator_0 22 rfl rfl)
theorem dJ21_getEntryUsingComparator_23 : decode cJ21_getEntryUsingComparator 23 = .ok (.aload_n 2, 1) := dk_44 (dk_at dksJ21_getEntryUsingComparator_0 23 rfl rfl)
theorem dJ21_getEntryUsingComparator_24 : decode cJ21_getEntryUsingComparator 24 = .ok (.aload 4, 2) := dk_25 4 (dk_at dksJ21_getEntryUsingComparator_1 0 rfl rfl)
theorem dJ21_getEntryUsingComparator_26 : decode cJ21_getEntryUsingComparator 26 = .ok (.getfield 105, 3) := dk_180 0 105 (dk_at dksJ21_getEntryUsingComparator_1 2 rfl rfl)
theorem dJ21_getEntryUsingComparator_29 : decode cJ21_getEntryUsingComparator 29 = .ok (.invokeinterface 117 3, 5) := by decide +kernel
theorem dJ21_getEntryUsingComparator_34 : decode cJ21_getEntryUsingComparator 34 = .ok (.istore 5, 2) := dk_54 5 (dk_at dksJ21_getEntryUsingComparator_1 10 rfl rfl)
theorem dJ21_getEntryUsingComparator_36 : decode cJ21_getEntryUsingComparator 36 = .ok (.iload 5, 2) := dk_21 5 (dk_at dksJ21_getEntryUsingComparator_1 12 rfl rfl)
theorem dJ21_getEntryUsingComparator_38 : decode cJ21_getEntryUsingComparator 38 = .ok (.ifCond .ge 13, 3) := dk_156 0 13 (dk_at dksJ21_getEntryUsingComparator_1 14 rfl rfl)
theorem dJ21_getEntryUsingComparator_41 : decode cJ21_getEntryUsingComparator 41 = .ok (.aload 4, 2) := dk_25 4 (dk_at dksJ21_getEntryUsingComparator_1 17 rfl rfl)
theorem dJ21_getEntryUsingComparator_43 : decode cJ21_getEntryUsingComparator 43 = .ok (.getfield 111, 3) := dk_180 0 111 (dk_at dksJ21_getEntryUsingComparator_1 19 rfl rfl)
theorem dJ21_getEntryUsingComparator_46 : decode cJ21_getEntryUsingComparator 46 = .ok (.astore 4, 2) := dk_58 4 (dk_at dksJ21_getEntryUsingComparator_1 22 rfl rfl)
theorem dJ21_getEntryUsingComparator_48 : decode cJ21_getEntryUsingComparator 48 = .ok (.goto 21, 3) := dk_167 0 21 (dk_at dksJ21_getEntryUsingComparator_2 0 rfl rfl)
theorem dJ21_getEntryUsingComparator_51 : decode cJ21_getEntryUsingComparator 51 = .ok (.iload 5, 2) := dk_21 5 (dk_at dksJ21_getEntryUsingComparator_2 3 rfl rfl)
theorem dJ21_getEntryUsingComparator_53 : decode cJ21_getEntryUsingComparator 53 = .ok (.ifCond .le 13, 3) := dk_158 0 13 (dk_at dksJ21_getEntryUsingComparator_2 5 rfl rfl)
theorem dJ21_getEntryUsingComparator_56 : decode cJ21_getEntryUsingComparator 56 = .ok (.aload 4, 2) := dk_25 4 (dk_at dksJ21_getEntryUsingComparator_2 8 rfl rfl)
theorem dJ21_getEntryUsingComparator_58 : decode cJ21_getEntryUsingComparator 58 = .ok (.getfield 114, 3) := dk_180 0 114 (dk_at dksJ21_getEntryUsingComparator_2 10 rfl rfl)
theorem dJ21_getEntryUsingComparator_61 : decode cJ21_getEntryUsingComparator 61 = .ok (.astore 4, 2) := dk_58 4 (dk_at dksJ21_getEntryUsingComparator_2 13 rfl rfl)
theorem dJ21_getEntryUsingComparator_63 : decode cJ21_getEntryUsingComparator 63 = .ok (.goto 6, 3) := dk_167 0 6 (dk_at dksJ21_getEntryUsingComparator_2 15 rfl rfl)
theorem dJ21_getEntryUsingComparator_66 : decode cJ21_getEntryUsingComparator 66 = .ok (.aload 4, 2) := dk_25 4 (dk_at dksJ21_getEntryUsingComparator_2 18 rfl rfl)
theorem dJ21_getEntryUsingComparator_68 : decode cJ21_getEntryUsingComparator 68 = .ok (.areturn, 1) := dk_176 (dk_at dksJ21_getEntryUsingComparator_2 20 rfl rfl)
theorem dJ21_getEntryUsingComparator_69 : decode cJ21_getEntryUsingComparator 69 = .ok (.goto (-52), 3) := dk_167 255 204 (dk_at dksJ21_getEntryUsingComparator_2 21 rfl rfl)
theorem dJ21_getEntryUsingComparator_72 : decode cJ21_getEntryUsingComparator 72 = .ok (.aconst_null, 1) := dk_1 (dk_at dksJ21_getEntryUsingComparator_3 0 rfl rfl)
theorem dJ21_getEntryUsingComparator_73 : decode cJ21_getEntryUsingComparator 73 = .ok (.areturn, 1) := dk_176 (dk_at dksJ21_getEntryUsingComparator_3 1 rfl rfl)
abbrev cJ21_put : ByteArray := prog_87_method_21_code
def yJ21_put : MethodName := ⟨RJ21, "put", "(Ljava/lang/Object;Ljava/lang/Object;)Ljava/lang/Object;"⟩
def dkwJ21_put_0 : List UInt8 := [42, 43, 44, 4, 182, 0, 127, 176]
abbrev dktJ21_put_0 : List UInt8 := dkwJ21_put_0 ++ []
theorem dksJ21_put_0 : cJ21_put.data.toList.drop 0 = dktJ21_put_0 := by decide +kernel
theorem dJ21_put_0 : decode cJ21_put 0 = .ok (.aload_n 0, 1) := dk_42 (dk_at dksJ21_put_0 0 rfl rfl)
theorem dJ21_put_1 : decode cJ21_put 1 = .ok (.aload_n 1, 1) := dk_43 (dk_at dksJ21_put_0 1 rfl rfl)
theorem dJ21_put_2 : decode cJ21_put 2 = .ok (.aload_n 2, 1) := dk_44 (dk_at dksJ21_put_0 2 rfl rfl)
theorem dJ21_put_3 : decode cJ21_put 3 = .ok (.iconst 1, 1) := dk_4 (dk_at dksJ21_put_0 3 rfl rfl)
theorem dJ21_put_4 : decode cJ21_put 4 = .ok (.invokevirtual 127, 3) := dk_182 0 127 (dk_at dksJ21_put_0 4 rfl rfl)
theorem dJ21_put_7 : decode cJ21_put 7 = .ok (.areturn, 1) := dk_176 (dk_at dksJ21_put_0 7 rfl rfl)
abbrev cJ21_put_2 : ByteArray := prog_87_method_31_code
def yJ21_put_2 : MethodName := ⟨RJ21, "put", "(Ljava/lang/Object;Ljava/lang/Object;Z)Ljava/lang/Object;"⟩
def dkwJ21_put_2_9 : List UInt8 := [4, 167, 0, 4, 3, 182, 0, 139, 1, 176]
abbrev dktJ21_put_2_9 : List UInt8 := dkwJ21_put_2_9 ++ []
def dkwJ21_put_2_8 : List UInt8 := [25, 4, 44, 181, 0, 58, 25, 9, 176, 25, 4, 199, 255, 181, 42, 43, 44, 25, 6, 21, 5, 156, 0, 7]
abbrev dktJ21_put_2_8 : List UInt8 := dkwJ21_put_2_8 ++ dktJ21_put_2_9
def dkwJ21_put_2_7 : List UInt8 := [180, 0, 114, 58, 4, 167, 0, 28, 25, 4, 180, 0, 58, 58, 9, 29, 154, 0, 8, 25, 9, 199, 0, 9]
abbrev dktJ21_put_2_7 : List UInt8 := dkwJ21_put_2_7 ++ dktJ21_put_2_8
def dkwJ21_put_2_6 : List UInt8 := [21, 5, 156, 0, 13, 25, 4, 180, 0, 111, 58, 4, 167, 0, 43, 21, 5, 158, 0, 13, 25, 4]
abbrev dktJ21_put_2_6 : List UInt8 := dkwJ21_put_2_6 ++ dktJ21_put_2_7
def dkwJ21_put_2_5 : List UInt8 := [192, 0, 99, 58, 8, 25, 4, 58, 6, 25, 8, 25, 4, 180, 0, 105, 185, 0, 107, 2, 0, 54, 5]
abbrev dktJ21_put_2_5 : List UInt8 := dkwJ21_put_2_5 ++ dktJ21_put_2_6
def dkwJ21_put_2_4 : List UInt8 := [25, 4, 44, 181, 0, 58, 25, 8, 176, 25, 4, 199, 255, 180, 167, 0, 92, 43, 184, 0, 95, 87, 43]
abbrev dktJ21_put_2_4 : List UInt8 := dkwJ21_put_2_4 ++ dktJ21_put_2_5
def dkwJ21_put_2_3 : List UInt8 := [180, 0, 114, 58, 4, 167, 0, 28, 25, 4, 180, 0, 58, 58, 8, 29, 154, 0, 8, 25, 8, 199, 0, 9]
abbrev dktJ21_put_2_3 : List UInt8 := dkwJ21_put_2_3 ++ dktJ21_put_2_4
def dkwJ21_put_2_2 : List UInt8 := [54, 5, 21, 5, 156, 0, 13, 25, 4, 180, 0, 111, 58, 4, 167, 0, 43, 21, 5, 158, 0, 13, 25, 4]
abbrev dktJ21_put_2_2 : List UInt8 := dkwJ21_put_2_2 ++ dktJ21_put_2_3
def dkwJ21_put_2_1 : List UInt8 := [58, 7, 25, 7, 198, 0, 85, 25, 4, 58, 6, 25, 7, 43, 25, 4, 180, 0, 105, 185, 0, 117, 3, 0]
abbrev dktJ21_put_2_1 : List UInt8 := dkwJ21_put_2_1 ++ dktJ21_put_2_2
def dkwJ21_put_2_0 : List UInt8 := [42, 180, 0, 101, 58, 4, 25, 4, 199, 0, 11, 42, 43, 44, 182, 0, 135, 1, 176, 42, 180, 0, 16]
abbrev dktJ21_put_2_0 : List UInt8 := dkwJ21_put_2_0 ++ dktJ21_put_2_1
theorem dksJ21_put_2_0 : cJ21_put_2.data.toList.drop 0 = dktJ21_put_2_0 := by decide +kernel
theorem dksJ21_put_2_1 : cJ21_put_2.data.toList.drop 23 = dktJ21_put_2_1 := dk_seg dksJ21_put_2_0 23 rfl rfl
theorem dksJ21_put_2_2 : cJ21_put_2.data.toList.drop 47 = dktJ21_put_2_2 := dk_seg dksJ21_put_2_1 24 rfl rfl
theorem dksJ21_put_2_3 : cJ21_put_2.data.toList.drop 71 = dktJ21_put_2_3 := dk_seg dksJ21_put_2_2 24 rfl rfl
theorem dksJ21_put_2_4 : cJ21_put_2.data.toList.drop 95 = dktJ21_put_2_4 := dk_seg dksJ21_put_2_3 24 rfl rfl
theorem dksJ21_put_2_5 : cJ21_put_2.data.toList.drop 118 = dktJ21_put_2_5 := dk_seg dksJ21_put_2_4 23 rfl rfl
theorem dksJ21_put_2_6 : cJ21_put_2.data.toList.drop 141 = dktJ21_put_2_6 := dk_seg dksJ21_put_2_5 23 rfl rfl
theorem dksJ21_put_2_7 : cJ21_put_2.data.toList.drop 163 = dktJ21_put_2_7 := dk_seg dksJ21_put_2_6 22 rfl rfl
theorem dksJ21_put_2_8 : cJ21_put_2.data.toList.drop 187 = dktJ21_put_2_8 := dk_seg dksJ21_put_2_7 24 rfl rfl
theorem dksJ21_put_2_9 : cJ21_put_2.data.toList.drop 211 = dktJ21_put_2_9 := dk_seg dksJ21_put_2_8 24 rfl rfl
theorem dJ21_put_2_0 : decode cJ21_put_2 0 = .ok (.aload_n 0, 1) := dk_42 (dk_at dksJ21_put_2_0 0 rfl rfl)
theorem dJ21_put_2_1 : decode cJ21_put_2 1 = .ok (.getfield 101, 3) := dk_180 0 101 (dk_at dksJ21_put_2_0 1 rfl rfl)
theorem dJ21_put_2_4 : decode cJ21_put_2 4 = .ok (.astore 4, 2) := dk_58 4 (dk_at dksJ21_put_2_0 4 rfl rfl)
theorem dJ21_put_2_6 : decode cJ21_put_2 6 = .ok (.aload 4, 2) := dk_25 4 (dk_at dksJ21_put_2_0 6 rfl rfl)
theorem dJ21_put_2_8 : decode cJ21_put_2 8 = .ok (.ifnonnull 11, 3) := dk_199 0 11 (dk_at dksJ21_put_2_0 8 rfl rfl)
theorem dJ21_put_2_11 : decode cJ21_put_2 11 = .ok (.aload_n 0, 1) := dk_42 (dk_at dksJ21_put_2_0 11 rfl rfl)
theorem dJ21_put_2_12 : decode cJ21_put_2 12 = .ok (.aload_n 1, 1) := dk_43 (dk_at dksJ21_put_2_0 12 rfl rfl)
theorem dJ21_put_2_13 : decode cJ21_put_2 13 = .ok (.aload_n 2, 1) := dk_44 (dk_at dksJ21_put_2_0 13 rfl rfl)
theorem dJ21_put_2_14 : decode cJ21_put_2 14 = .ok (.invokevirtual 135, 3) := dk_182 0 135 (dk_at dksJ21_put_2_0 14 rfl rfl)
theorem dJ21_put_2_17 : decode cJ21_put_2 17 = .ok (.aconst_null, 1) := dk_1 (dk_at dksJ21_put_2_0 17 rfl rfl)
theorem dJ21_put_2_18 : decode cJ21_put_2 18 = .ok (.areturn, 1) := dk_176 (dk_at dksJ21_put_2_0 18 rfl rfl)
theorem dJ21_put_2_19 : decode cJ21_put_2 19 = .ok (.aload_n 0, 1) := dk_42 (dk_at dksJ21_put_2_0 19 rfl rfl)
theorem dJ21_put_2_20 : decode cJ21_put_2 20 = .ok (.getfield 16, 3) := dk_180 0 16 (dk_at dksJ21_put_2_0 20 rfl rfl)
theorem dJ21_put_2_23 : decode cJ21_put_2 23 = .ok (.astore 7, 2) := dk_58 7 (dk_at dksJ21_put_2_1 0 rfl rfl)
theorem dJ21_put_2_25 : decode cJ21_put_2 25 = .ok (.aload 7, 2) := dk_25 7 (dk_at dksJ21_put_2_1 2 rfl rfl)
theorem dJ21_put_2_27 : decode cJ21_put_2 27 = .ok (.ifnull 85, 3) := dk_198 0 85 (dk_at dksJ21_put_2_1 4 rfl rfl)
theorem dJ21_put_2_30 : decode cJ21_put_2 30 = .ok (.aload 4, 2) := dk_25 4 (dk_at dksJ21_put_2_1 7 rfl rfl)
theorem dJ21_put_2_32 : decode cJ21_put_2 32 = .ok (.astore 6, 2) := dk_58 6 (dk_at dksJ21_put_2_1 9 rfl rfl)
theorem dJ21_put_2_34 : decode cJ21_put_2 34 = .ok (.aload 7, 2) := dk_25 7 (dk_at dksJ21_put_2_1 11 rfl rfl)
theorem dJ21_put_2_36 : decode cJ21_put_2 36 = .ok (.aload_n 1, 1) := dk_43 (dk_at dksJ21_put_2_1 13 rfl rfl)
theorem dJ21_put_2_37 : decode cJ21_put_2 37 = .ok (.aload 4, 2) := dk_25 4 (dk_at dksJ21_put_2_1 14 rfl rfl)
theorem dJ21_put_2_39 : decode cJ21_put_2 39 = .ok (.getfield 105, 3) := dk_180 0 105 (dk_at dksJ21_put_2_1 16 rfl rfl)
theorem dJ21_put_2_42 : decode cJ21_put_2 42 = .ok (.invokeinterface 117 3, 5) := by decide +kernel
theorem dJ21_put_2_47 : decode cJ21_put_2 47 = .ok (.istore 5, 2) := dk_54 5 (dk_at dksJ21_put_2_2 0 rfl rfl)
theorem dJ21_put_2_49 : decode cJ21_put_2 49 = .ok (.iload 5, 2) := dk_21 5 (dk_at dksJ21_put_2_2 2 rfl rfl)
theorem dJ21_put_2_51 : decode cJ21_put_2 51 = .ok (.ifCond .ge 13, 3) := dk_156 0 13 (dk_at dksJ21_put_2_2 4 rfl rfl)
theorem dJ21_put_2_54 : decode cJ21_put_2 54 = .ok (.aload 4, 2) := dk_25 4 (dk_at dksJ21_put_2_2 7 rfl rfl)
theorem dJ21_put_2_56 : decode cJ21_put_2 56 = .ok (.getfield 111, 3) := dk_180 0 111 (dk_at dksJ21_put_2_2 9 rfl rfl)
theorem dJ21_put_2_59 : decode cJ21_put_2 59 = .ok (.astore 4, 2) := dk_58 4 (dk_at dksJ21_put_2_2 12 rfl rfl)
theorem dJ21_put_2_61 : decode cJ21_put_2 61 = .ok (.goto 43, 3) := dk_167 0 43 (dk_at dksJ21_put_2_2 14 rfl rfl)
theorem dJ21_put_2_64 : decode cJ21_put_2 64 = .ok (.iload 5, 2) := dk_21 5 (dk_at dksJ21_put_2_2 17 rfl rfl)
theorem dJ21_put_2_66 : decode cJ21_put_2 66 = .ok (.ifCond .le 13, 3) := dk_158 0 13 (dk_at dksJ21_put_2_2 19 rfl rfl)
theorem dJ21_put_2_69 : decode cJ21_put_2 69 = .ok (.aload 4, 2) := dk_25 4 (dk_at dksJ21_put_2_2 22 rfl rfl)
theorem dJ21_put_2_71 : decode cJ21_put_2 71 = .ok (.getfield 114, 3) := dk_180 0 114 (dk_at dksJ21_put_2_3 0 rfl rfl)
theorem dJ21_put_2_74 : decode cJ21_put_2 74 = .ok (.astore 4, 2) := dk_58 4 (dk_at dksJ21_put_2_3 3 rfl rfl)
theorem dJ21_put_2_76 : decode cJ21_put_2 76 = .ok (.goto 28, 3) := dk_167 0 28 (dk_at dksJ21_put_2_3 5 rfl rfl)
theorem dJ21_put_2_79 : decode cJ21_put_2 79 = .ok (.aload 4, 2) := dk_25 4 (dk_at dksJ21_put_2_3 8 rfl rfl)
theorem dJ21_put_2_81 : decode cJ21_put_2 81 = .ok (.getfield 58, 3) := dk_180 0 58 (dk_at dksJ21_put_2_3 10 rfl rfl)
theorem dJ21_put_2_84 : decode cJ21_put_2 84 = .ok (.astore 8, 2) := dk_58 8 (dk_at dksJ21_put_2_3 13 rfl rfl)
theorem dJ21_put_2_86 : decode cJ21_put_2 86 = .ok (.iload_n 3, 1) := dk_29 (dk_at dksJ21_put_2_3 15 rfl rfl)
theorem dJ21_put_2_87 : decode cJ21_put_2 87 = .ok (.ifCond .ne 8, 3) := dk_154 0 8 (dk_at dksJ21_put_2_3 16 rfl rfl)
theorem dJ21_put_2_90 : decode cJ21_put_2 90 = .ok (.aload 8, 2) := dk_25 8 (dk_at dksJ21_put_2_3 19 rfl rfl)
theorem dJ21_put_2_92 : decode cJ21_put_2 92 = .ok (.ifnonnull 9, 3) := dk_199 0 9 (dk_at dksJ21_put_2_3 21 rfl rfl)
theorem dJ21_put_2_95 : decode cJ21_put_2 95 = .ok (.aload 4, 2) := dk_25 4 (dk_at dksJ21_put_2_4 0 rfl rfl)
theorem dJ21_put_2_97 : decode cJ21_put_2 97 = .ok (.aload_n 2, 1) := dk_44 (dk_at dksJ21_put_2_4 2 rfl rfl)
theorem dJ21_put_2_98 : decode cJ21_put_2 98 = .ok (.putfield 58, 3) := dk_181 0 58 (dk_at dksJ21_put_2_4 3 rfl rfl)
theorem dJ21_put_2_101 : decode cJ21_put_2 101 = .ok (.aload 8, 2) := dk_25 8 (dk_at dksJ21_put_2_4 6 rfl rfl)
theorem dJ21_put_2_103 : decode cJ21_put_2 103 = .ok (.areturn, 1) := dk_176 (dk_at dksJ21_put_2_4 8 rfl rfl)
theorem dJ21_put_2_104 : decode cJ21_put_2 104 = .ok (.aload 4, 2) := dk_25 4 (dk_at dksJ21_put_2_4 9 rfl rfl)
theorem dJ21_put_2_106 : decode cJ21_put_2 106 = .ok (.ifnonnull (-76), 3) := dk_199 255 180 (dk_at dksJ21_put_2_4 11 rfl rfl)
theorem dJ21_put_2_109 : decode cJ21_put_2 109 = .ok (.goto 92, 3) := dk_167 0 92 (dk_at dksJ21_put_2_4 14 rfl rfl)
theorem dJ21_put_2_112 : decode cJ21_put_2 112 = .ok (.aload_n 1, 1) := dk_43 (dk_at dksJ21_put_2_4 17 rfl rfl)
theorem dJ21_put_2_113 : decode cJ21_put_2 113 = .ok (.invokestatic 95, 3) := dk_184 0 95 (dk_at dksJ21_put_2_4 18 rfl rfl)
theorem dJ21_put_2_116 : decode cJ21_put_2 116 = .ok (.pop, 1) := dk_87 (dk_at dksJ21_put_2_4 21 rfl rfl)
theorem dJ21_put_2_117 : decode cJ21_put_2 117 = .ok (.aload_n 1, 1) := dk_43 (dk_at dksJ21_put_2_4 22 rfl rfl)
theorem dJ21_put_2_118 : decode cJ21_put_2 118 = .ok (.checkcast 99, 3) := dk_192 0 99 (dk_at dksJ21_put_2_5 0 rfl rfl)
theorem dJ21_put_2_121 : decode cJ21_put_2 121 = .ok (.astore 8, 2) := dk_58 8 (dk_at dksJ21_put_2_5 3 rfl rfl)
theorem dJ21_put_2_123 : decode cJ21_put_2 123 = .ok (.aload 4, 2) := dk_25 4 (dk_at dksJ21_put_2_5 5 rfl rfl)
theorem dJ21_put_2_125 : decode cJ21_put_2 125 = .ok (.astore 6, 2) := dk_58 6 (dk_at dksJ21_put_2_5 7 rfl rfl)
theorem dJ21_put_2_127 : decode cJ21_put_2 127 = .ok (.aload 8, 2) := dk_25 8 (dk_at dksJ21_put_2_5 9 rfl rfl)
theorem dJ21_put_2_129 : decode cJ21_put_2 129 = .ok (.aload 4, 2) := dk_25 4 (dk_at dksJ21_put_2_5 11 rfl rfl)
theorem dJ21_put_2_131 : decode cJ21_put_2 131 = .ok (.getfield 105, 3) := dk_180 0 105 (dk_at dksJ21_put_2_5 13 rfl rfl)
theorem dJ21_put_2_134 : decode cJ21_put_2 134 = .ok (.invokeinterface 107 2, 5) := by decide +kernel
theorem dJ21_put_2_139 : decode cJ21_put_2 139 = .ok (.istore 5, 2) := dk_54 5 (dk_at dksJ21_put_2_5 21 rfl rfl)
theorem dJ21_put_2_141 : decode cJ21_put_2 141 = .ok (.iload 5, 2) := dk_21 5 (dk_at dksJ21_put_2_6 0 rfl rfl)
theorem dJ21_put_2_143 : decode cJ21_put_2 143 = .ok (.ifCond .ge 13, 3) := dk_156 0 13 (dk_at dksJ21_put_2_6 2 rfl rfl)
theorem dJ21_put_2_146 : decode cJ21_put_2 146 = .ok (.aload 4, 2) := dk_25 4 (dk_at dksJ21_put_2_6 5 rfl rfl)
theorem dJ21_put_2_148 : decode cJ21_put_2 148 = .ok (.getfield 111, 3) := dk_180 0 111 (dk_at dksJ21_put_2_6 7 rfl rfl)
theorem dJ21_put_2_151 : decode cJ21_put_2 151 = .ok (.astore 4, 2) := dk_58 4 (dk_at dksJ21_put_2_6 10 rfl rfl)
theorem dJ21_put_2_153 : decode cJ21_put_2 153 = .ok (.goto 43, 3) := dk_167 0 43 (dk_at dksJ21_put_2_6 12 rfl rfl)
theorem dJ21_put_2_156 : decode cJ21_put_2 156 = .ok (.iload 5, 2) := dk_21 5 (dk_at dksJ21_put_2_6 15 rfl rfl)
theorem dJ21_put_2_158 : decode cJ21_put_2 158 = .ok (.ifCond .le 13, 3) := dk_158 0 13 (dk_at dksJ21_put_2_6 17 rfl rfl)
theorem dJ21_put_2_161 : decode cJ21_put_2 161 = .ok (.aload 4, 2) := dk_25 4 (dk_at dksJ21_put_2_6 20 rfl rfl)
theorem dJ21_put_2_163 : decode cJ21_put_2 163 = .ok (.getfield 114, 3) := dk_180 0 114 (dk_at dksJ21_put_2_7 0 rfl rfl)
theorem dJ21_put_2_166 : decode cJ21_put_2 166 = .ok (.astore 4, 2) := dk_58 4 (dk_at dksJ21_put_2_7 3 rfl rfl)
theorem dJ21_put_2_168 : decode cJ21_put_2 168 = .ok (.goto 28, 3) := dk_167 0 28 (dk_at dksJ21_put_2_7 5 rfl rfl)
theorem dJ21_put_2_171 : decode cJ21_put_2 171 = .ok (.aload 4, 2) := dk_25 4 (dk_at dksJ21_put_2_7 8 rfl rfl)
theorem dJ21_put_2_173 : decode cJ21_put_2 173 = .ok (.getfield 58, 3) := dk_180 0 58 (dk_at dksJ21_put_2_7 10 rfl rfl)
theorem dJ21_put_2_176 : decode cJ21_put_2 176 = .ok (.astore 9, 2) := dk_58 9 (dk_at dksJ21_put_2_7 13 rfl rfl)
theorem dJ21_put_2_178 : decode cJ21_put_2 178 = .ok (.iload_n 3, 1) := dk_29 (dk_at dksJ21_put_2_7 15 rfl rfl)
theorem dJ21_put_2_179 : decode cJ21_put_2 179 = .ok (.ifCond .ne 8, 3) := dk_154 0 8 (dk_at dksJ21_put_2_7 16 rfl rfl)
theorem dJ21_put_2_182 : decode cJ21_put_2 182 = .ok (.aload 9, 2) := dk_25 9 (dk_at dksJ21_put_2_7 19 rfl rfl)
theorem dJ21_put_2_184 : decode cJ21_put_2 184 = .ok (.ifnonnull 9, 3) := dk_199 0 9 (dk_at dksJ21_put_2_7 21 rfl rfl)
theorem dJ21_put_2_187 : decode cJ21_put_2 187 = .ok (.aload 4, 2) := dk_25 4 (dk_at dksJ21_put_2_8 0 rfl rfl)
theorem dJ21_put_2_189 : decode cJ21_put_2 189 = .ok (.aload_n 2, 1) := dk_44 (dk_at dksJ21_put_2_8 2 rfl rfl)
theorem dJ21_put_2_190 : decode cJ21_put_2 190 = .ok (.putfield 58, 3) := dk_181 0 58 (dk_at dksJ21_put_2_8 3 rfl rfl)
theorem dJ21_put_2_193 : decode cJ21_put_2 193 = .ok (.aload 9, 2) := dk_25 9 (dk_at dksJ21_put_2_8 6 rfl rfl)
theorem dJ21_put_2_195 : decode cJ21_put_2 195 = .ok (.areturn, 1) := dk_176 (dk_at dksJ21_put_2_8 8 rfl rfl)
theorem dJ21_put_2_196 : decode cJ21_put_2 196 = .ok (.aload 4, 2) := dk_25 4 (dk_at dksJ21_put_2_8 9 rfl rfl)
theorem dJ21_put_2_198 : decode cJ21_put_2 198 = .ok (.ifnonnull (-75), 3) := dk_199 255 181 (dk_at dksJ21_put_2_8 11 rfl rfl)
theorem dJ21_put_2_201 : decode cJ21_put_2 201 = .ok (.aload_n 0, 1) := dk_42 (dk_at dksJ21_put_2_8 14 rfl rfl)
theorem dJ21_put_2_202 : decode cJ21_put_2 202 = .ok (.aload_n 1, 1) := dk_43 (dk_at dksJ21_put_2_8 15 rfl rfl)
theorem dJ21_put_2_203 : decode cJ21_put_2 203 = .ok (.aload_n 2, 1) := dk_44 (dk_at dksJ21_put_2_8 16 rfl rfl)
theorem dJ21_put_2_204 : decode cJ21_put_2 204 = .ok (.aload 6, 2) := dk_25 6 (dk_at dksJ21_put_2_8 17 rfl rfl)
theorem dJ21_put_2_206 : decode cJ21_put_2 206 = .ok (.iload 5, 2) := dk_21 5 (dk_at dksJ21_put_2_8 19 rfl rfl)
theorem dJ21_put_2_208 : decode cJ21_put_2 208 = .ok (.ifCond .ge 7, 3) := dk_156 0 7 (dk_at dksJ21_put_2_8 21 rfl rfl)
theorem dJ21_put_2_211 : decode cJ21_put_2 211 = .ok (.iconst 1, 1) := dk_4 (dk_at dksJ21_put_2_9 0 rfl rfl)
theorem dJ21_put_2_212 : decode cJ21_put_2 212 = .ok (.goto 4, 3) := dk_167 0 4 (dk_at dksJ21_put_2_9 1 rfl rfl)
theorem dJ21_put_2_215 : decode cJ21_put_2 215 = .ok (.iconst 0, 1) := dk_3 (dk_at dksJ21_put_2_9 4 rfl rfl)
theorem dJ21_put_2_216 : decode cJ21_put_2 216 = .ok (.invokevirtual 139, 3) := dk_182 0 139 (dk_at dksJ21_put_2_9 5 rfl rfl)
theorem dJ21_put_2_219 : decode cJ21_put_2 219 = .ok (.aconst_null, 1) := dk_1 (dk_at dksJ21_put_2_9 8 rfl rfl)
theorem dJ21_put_2_220 : decode cJ21_put_2 220 = .ok (.areturn, 1) := dk_176 (dk_at dksJ21_put_2_9 9 rfl rfl)
abbrev cJ21_addEntryToEmptyMap : ByteArray := prog_87_method_30_code
def yJ21_addEntryToEmptyMap : MethodName := ⟨RJ21, "addEntryToEmptyMap", "(Ljava/lang/Object;Ljava/lang/Object;)V"⟩
def dkwJ21_addEntryToEmptyMap_1 : List UInt8 := [181, 0, 7, 42, 89, 180, 0, 13, 4, 96, 181, 0, 13, 177]
abbrev dktJ21_addEntryToEmptyMap_1 : List UInt8 := dkwJ21_addEntryToEmptyMap_1 ++ []
def dkwJ21_addEntryToEmptyMap_0 : List UInt8 := [42, 43, 43, 182, 0, 123, 87, 42, 187, 0, 59, 89, 43, 44, 1, 183, 0, 167, 181, 0, 101, 42, 4]
abbrev dktJ21_addEntryToEmptyMap_0 : List UInt8 := dkwJ21_addEntryToEmptyMap_0 ++ dktJ21_addEntryToEmptyMap_1
theorem dksJ21_addEntryToEmptyMap_0 : cJ21_addEntryToEmptyMap.data.toList.drop 0 = dktJ21_addEntryToEmptyMap_0 := by decide +kernel
theorem dksJ21_addEntryToEmptyMap_1 : cJ21_addEntryToEmptyMap.data.toList.drop 23 = dktJ21_addEntryToEmptyMap_1 := dk_seg dksJ21_addEntryToEmptyMap_0 23 rfl rfl
theorem dJ21_addEntryToEmptyMap_0 : decode cJ21_addEntryToEmptyMap 0 = .ok (.aload_n 0, 1) := dk_42 (dk_at dksJ21_addEntryToEmptyMap_0 0 rfl rfl)
theorem dJ21_addEntryToEmptyMap_1 : decode cJ21_addEntryToEmptyMap 1 = .ok (.aload_n 1, 1) := dk_43 (dk_at dksJ21_addEntryToEmptyMap_0 1 rfl rfl)
theorem dJ21_addEntryToEmptyMap_2 : decode cJ21_addEntryToEmptyMap 2 = .ok (.aload_n 1, 1) := dk_43 (dk_at dksJ21_addEntryToEmptyMap_0 2 rfl rfl)
theorem dJ21_addEntryToEmptyMap_3 : decode cJ21_addEntryToEmptyMap 3 = .ok (.invokevirtual 123, 3) := dk_182 0 123 (dk_at dksJ21_addEntryToEmptyMap_0 3 rfl rfl)
theorem dJ21_addEntryToEmptyMap_6 : decode cJ21_addEntryToEmptyMap 6 = .ok (.pop, 1) := dk_87 (dk_at dksJ21_addEntryToEmptyMap_0 6 rfl rfl)
theorem dJ21_addEntryToEmptyMap_7 : decode cJ21_addEntryToEmptyMap 7 = .ok (.aload_n 0, 1) := dk_42 (dk_at dksJ21_addEntryToEmptyMap_0 7 rfl rfl)
theorem dJ21_addEntryToEmptyMap_8 : decode cJ21_addEntryToEmptyMap 8 = .ok (.new 59, 3) := dk_187 0 59 (dk_at dksJ21_addEntryToEmptyMap_0 8 rfl rfl)
theorem dJ21_addEntryToEmptyMap_11 : decode cJ21_addEntryToEmptyMap 11 = .ok (.dup, 1) := dk_89 (dk_at dksJ21_addEntryToEmptyMap_0 11 rfl rfl)
theorem dJ21_addEntryToEmptyMap_12 : decode cJ21_addEntryToEmptyMap 12 = .ok (.aload_n 1, 1) := dk_43 (dk_at dksJ21_addEntryToEmptyMap_0 12 rfl rfl)
theorem dJ21_addEntryToEmptyMap_13 : decode cJ21_addEntryToEmptyMap 13 = .ok (.aload_n 2, 1) := dk_44 (dk_at dksJ21_addEntryToEmptyMap_0 13 rfl rfl)
theorem dJ21_addEntryToEmptyMap_14 : decode cJ21_addEntryToEmptyMap 14 = .ok (.aconst_null, 1) := dk_1 (dk_at dksJ21_addEntryToEmptyMap_0 14 rfl rfl)
theorem dJ21_addEntryToEmptyMap_15 : decode cJ21_addEntryToEmptyMap 15 = .ok (.invokespecial 167, 3) := dk_183 0 167 (dk_at dksJ21_addEntryToEmptyMap_0 15 rfl rfl)
theorem dJ21_addEntryToEmptyMap_18 : decode cJ21_addEntryToEmptyMap 18 = .ok (.putfield 101, 3) := dk_181 0 101 (dk_at dksJ21_addEntryToEmptyMap_0 18 rfl rfl)
theorem dJ21_addEntryToEmptyMap_21 : decode cJ21_addEntryToEmptyMap 21 = .ok (.aload_n 0, 1) := dk_42 (dk_at dksJ21_addEntryToEmptyMap_0 21 rfl rfl)
theorem dJ21_addEntryToEmptyMap_22 : decode cJ21_addEntryToEmptyMap 22 = .ok (.iconst 1, 1) := dk_4 (dk_at dksJ21_addEntryToEmptyMap_0 22 rfl rfl)
theorem dJ21_addEntryToEmptyMap_23 : decode cJ21_addEntryToEmptyMap 23 = .ok (.putfield 7, 3) := dk_181 0 7 (dk_at dksJ21_addEntryToEmptyMap_1 0 rfl rfl)
theorem dJ21_addEntryToEmptyMap_26 : decode cJ21_addEntryToEmptyMap 26 = .ok (.aload_n 0, 1) := dk_42 (dk_at dksJ21_addEntryToEmptyMap_1 3 rfl rfl)
theorem dJ21_addEntryToEmptyMap_27 : decode cJ21_addEntryToEmptyMap 27 = .ok (.dup, 1) := dk_89 (dk_at dksJ21_addEntryToEmptyMap_1 4 rfl rfl)
theorem dJ21_addEntryToEmptyMap_28 : decode cJ21_addEntryToEmptyMap 28 = .ok (.getfield 13, 3) := dk_180 0 13 (dk_at dksJ21_addEntryToEmptyMap_1 5 rfl rfl)
theorem dJ21_addEntryToEmptyMap_31 : decode cJ21_addEntryToEmptyMap 31 = .ok (.iconst 1, 1) := dk_4 (dk_at dksJ21_addEntryToEmptyMap_1 8 rfl rfl)
theorem dJ21_addEntryToEmptyMap_32 : decode cJ21_addEntryToEmptyMap 32 = .ok (.iadd, 1) := dk_96 (dk_at dksJ21_addEntryToEmptyMap_1 9 rfl rfl)
theorem dJ21_addEntryToEmptyMap_33 : decode cJ21_addEntryToEmptyMap 33 = .ok (.putfield 13, 3) := dk_181 0 13 (dk_at dksJ21_addEntryToEmptyMap_1 10 rfl rfl)
theorem dJ21_addEntryToEmptyMap_36 : decode cJ21_addEntryToEmptyMap 36 = .ok (.return_, 1) := dk_177 (dk_at dksJ21_addEntryToEmptyMap_1 13 rfl rfl)
abbrev cJ21_compare : ByteArray := prog_87_method_67_code
def yJ21_compare : MethodName := ⟨RJ21, "compare", "(Ljava/lang/Object;Ljava/lang/Object;)I"⟩
def dkwJ21_compare_1 : List UInt8 := [43, 44, 185, 0, 117, 3, 0, 172]
abbrev dktJ21_compare_1 : List UInt8 := dkwJ21_compare_1 ++ []
def dkwJ21_compare_0 : List UInt8 := [42, 180, 0, 16, 199, 0, 16, 43, 192, 0, 99, 44, 185, 0, 107, 2, 0, 167, 0, 14, 42, 180, 0, 16]
abbrev dktJ21_compare_0 : List UInt8 := dkwJ21_compare_0 ++ dktJ21_compare_1
theorem dksJ21_compare_0 : cJ21_compare.data.toList.drop 0 = dktJ21_compare_0 := by decide +kernel
theorem dksJ21_compare_1 : cJ21_compare.data.toList.drop 24 = dktJ21_compare_1 := dk_seg dksJ21_compare_0 24 rfl rfl
theorem dJ21_compare_0 : decode cJ21_compare 0 = .ok (.aload_n 0, 1) := dk_42 (dk_at dksJ21_compare_0 0 rfl rfl)
theorem dJ21_compare_1 : decode cJ21_compare 1 = .ok (.getfield 16, 3) := dk_180 0 16 (dk_at dksJ21_compare_0 1 rfl rfl)
theorem dJ21_compare_4 : decode cJ21_compare 4 = .ok (.ifnonnull 16, 3) := dk_199 0 16 (dk_at dksJ21_compare_0 4 rfl rfl)
theorem dJ21_compare_7 : decode cJ21_compare 7 = .ok (.aload_n 1, 1) := dk_43 (dk_at dksJ21_compare_0 7 rfl rfl)
theorem dJ21_compare_8 : decode cJ21_compare 8 = .ok (.checkcast 99, 3) := dk_192 0 99 (dk_at dksJ21_compare_0 8 rfl rfl)
theorem dJ21_compare_11 : decode cJ21_compare 11 = .ok (.aload_n 2, 1) := dk_44 (dk_at dksJ21_compare_0 11 rfl rfl)
theorem dJ21_compare_12 : decode cJ21_compare 12 = .ok (.invokeinterface 107 2, 5) := by decide +kernel
theorem dJ21_compare_17 : decode cJ21_compare 17 = .ok (.goto 14, 3) := dk_167 0 14 (dk_at dksJ21_compare_0 17 rfl rfl)
theorem dJ21_compare_20 : decode cJ21_compare 20 = .ok (.aload_n 0, 1) := dk_42 (dk_at dksJ21_compare_0 20 rfl rfl)
theorem dJ21_compare_21 : decode cJ21_compare 21 = .ok (.getfield 16, 3) := dk_180 0 16 (dk_at dksJ21_compare_0 21 rfl rfl)
theorem dJ21_compare_24 : decode cJ21_compare 24 = .ok (.aload_n 1, 1) := dk_43 (dk_at dksJ21_compare_1 0 rfl rfl)
theorem dJ21_compare_25 : decode cJ21_compare 25 = .ok (.aload_n 2, 1) := dk_44 (dk_at dksJ21_compare_1 1 rfl rfl)
theorem dJ21_compare_26 : decode cJ21_compare 26 = .ok (.invokeinterface 117 3, 5) := by decide +kernel
theorem dJ21_compare_31 : decode cJ21_compare 31 = .ok (.ireturn, 1) := dk_172 (dk_at dksJ21_compare_1 7 rfl rfl)
abbrev cJ21_addEntry : ByteArray := prog_87_method_29_code
def yJ21_addEntry : MethodName := ⟨RJ21, "addEntry", "(Ljava/lang/Object;Ljava/lang/Object;Ljava/util/TreeMap$Entry;Z)V"⟩
def dkwJ21_addEntry_2 : List UInt8 := [181, 0, 7, 42, 89, 180, 0, 13, 4, 96, 181, 0, 13, 177]
abbrev dktJ21_addEntry_2 : List UInt8 := dkwJ21_addEntry_2 ++ []
def dkwJ21_addEntry_1 : List UInt8 := [167, 0, 9, 45, 25, 5, 181, 0, 114, 42, 25, 5, 182, 0, 170, 42, 89, 180, 0, 7, 4, 96]
abbrev dktJ21_addEntry_1 : List UInt8 := dkwJ21_addEntry_1 ++ dktJ21_addEntry_2
def dkwJ21_addEntry_0 : List UInt8 := [187, 0, 59, 89, 43, 44, 45, 183, 0, 167, 58, 5, 21, 4, 153, 0, 12, 45, 25, 5, 181, 0, 111]
abbrev dktJ21_addEntry_0 : List UInt8 := dkwJ21_addEntry_0 ++ dktJ21_addEntry_1
theorem dksJ21_addEntry_0 : cJ21_addEntry.data.toList.drop 0 = dktJ21_addEntry_0 := by decide +kernel
theorem dksJ21_addEntry_1 : cJ21_addEntry.data.toList.drop 23 = dktJ21_addEntry_1 := dk_seg dksJ21_addEntry_0 23 rfl rfl
theorem dksJ21_addEntry_2 : cJ21_addEntry.data.toList.drop 45 = dktJ21_addEntry_2 := dk_seg dksJ21_addEntry_1 22 rfl rfl
theorem dJ21_addEntry_0 : decode cJ21_addEntry 0 = .ok (.new 59, 3) := dk_187 0 59 (dk_at dksJ21_addEntry_0 0 rfl rfl)
theorem dJ21_addEntry_3 : decode cJ21_addEntry 3 = .ok (.dup, 1) := dk_89 (dk_at dksJ21_addEntry_0 3 rfl rfl)
theorem dJ21_addEntry_4 : decode cJ21_addEntry 4 = .ok (.aload_n 1, 1) := dk_43 (dk_at dksJ21_addEntry_0 4 rfl rfl)
theorem dJ21_addEntry_5 : decode cJ21_addEntry 5 = .ok (.aload_n 2, 1) := dk_44 (dk_at dksJ21_addEntry_0 5 rfl rfl)
theorem dJ21_addEntry_6 : decode cJ21_addEntry 6 = .ok (.aload_n 3, 1) := dk_45 (dk_at dksJ21_addEntry_0 6 rfl rfl)
theorem dJ21_addEntry_7 : decode cJ21_addEntry 7 = .ok (.invokespecial 167, 3) := dk_183 0 167 (dk_at dksJ21_addEntry_0 7 rfl rfl)
theorem dJ21_addEntry_10 : decode cJ21_addEntry 10 = .ok (.astore 5, 2) := dk_58 5 (dk_at dksJ21_addEntry_0 10 rfl rfl)
theorem dJ21_addEntry_12 : decode cJ21_addEntry 12 = .ok (.iload 4, 2) := dk_21 4 (dk_at dksJ21_addEntry_0 12 rfl rfl)
theorem dJ21_addEntry_14 : decode cJ21_addEntry 14 = .ok (.ifCond .eq 12, 3) := dk_153 0 12 (dk_at dksJ21_addEntry_0 14 rfl rfl)
theorem dJ21_addEntry_17 : decode cJ21_addEntry 17 = .ok (.aload_n 3, 1) := dk_45 (dk_at dksJ21_addEntry_0 17 rfl rfl)
theorem dJ21_addEntry_18 : decode cJ21_addEntry 18 = .ok (.aload 5, 2) := dk_25 5 (dk_at dksJ21_addEntry_0 18 rfl rfl)
theorem dJ21_addEntry_20 : decode cJ21_addEntry 20 = .ok (.putfield 111, 3) := dk_181 0 111 (dk_at dksJ21_addEntry_0 20 rfl rfl)
theorem dJ21_addEntry_23 : decode cJ21_addEntry 23 = .ok (.goto 9, 3) := dk_167 0 9 (dk_at dksJ21_addEntry_1 0 rfl rfl)
theorem dJ21_addEntry_26 : decode cJ21_addEntry 26 = .ok (.aload_n 3, 1) := dk_45 (dk_at dksJ21_addEntry_1 3 rfl rfl)
theorem dJ21_addEntry_27 : decode cJ21_addEntry 27 = .ok (.aload 5, 2) := dk_25 5 (dk_at dksJ21_addEntry_1 4 rfl rfl)
theorem dJ21_addEntry_29 : decode cJ21_addEntry 29 = .ok (.putfield 114, 3) := dk_181 0 114 (dk_at dksJ21_addEntry_1 6 rfl rfl)
theorem dJ21_addEntry_32 : decode cJ21_addEntry 32 = .ok (.aload_n 0, 1) := dk_42 (dk_at dksJ21_addEntry_1 9 rfl rfl)
theorem dJ21_addEntry_33 : decode cJ21_addEntry 33 = .ok (.aload 5, 2) := dk_25 5 (dk_at dksJ21_addEntry_1 10 rfl rfl)
theorem dJ21_addEntry_35 : decode cJ21_addEntry 35 = .ok (.invokevirtual 170, 3) := dk_182 0 170 (dk_at dksJ21_addEntry_1 12 rfl rfl)
theorem dJ21_addEntry_38 : decode cJ21_addEntry 38 = .ok (.aload_n 0, 1) := dk_42 (dk_at dksJ21_addEntry_1 15 rfl rfl)
theorem dJ21_addEntry_39 : decode cJ21_addEntry 39 = .ok (.dup, 1) := dk_89 (dk_at dksJ21_addEntry_1 16 rfl rfl)
theorem dJ21_addEntry_40 : decode cJ21_addEntry 40 = .ok (.getfield 7, 3) := dk_180 0 7 (dk_at dksJ21_addEntry_1 17 rfl rfl)
theorem dJ21_addEntry_43 : decode cJ21_addEntry 43 = .ok (.iconst 1, 1) := dk_4 (dk_at dksJ21_addEntry_1 20 rfl rfl)
theorem dJ21_addEntry_44 : decode cJ21_addEntry 44 = .ok (.iadd, 1) := dk_96 (dk_at dksJ21_addEntry_1 21 rfl rfl)
theorem dJ21_addEntry_45 : decode cJ21_addEntry 45 = .ok (.putfield 7, 3) := dk_181 0 7 (dk_at dksJ21_addEntry_2 0 rfl rfl)
theorem dJ21_addEntry_48 : decode cJ21_addEntry 48 = .ok (.aload_n 0, 1) := dk_42 (dk_at dksJ21_addEntry_2 3 rfl rfl)
theorem dJ21_addEntry_49 : decode cJ21_addEntry 49 = .ok (.dup, 1) := dk_89 (dk_at dksJ21_addEntry_2 4 rfl rfl)
theorem dJ21_addEntry_50 : decode cJ21_addEntry 50 = .ok (.getfield 13, 3) := dk_180 0 13 (dk_at dksJ21_addEntry_2 5 rfl rfl)
theorem dJ21_addEntry_53 : decode cJ21_addEntry 53 = .ok (.iconst 1, 1) := dk_4 (dk_at dksJ21_addEntry_2 8 rfl rfl)
theorem dJ21_addEntry_54 : decode cJ21_addEntry 54 = .ok (.iadd, 1) := dk_96 (dk_at dksJ21_addEntry_2 9 rfl rfl)
theorem dJ21_addEntry_55 : decode cJ21_addEntry 55 = .ok (.putfield 13, 3) := dk_181 0 13 (dk_at dksJ21_addEntry_2 10 rfl rfl)
theorem dJ21_addEntry_58 : decode cJ21_addEntry 58 = .ok (.return_, 1) := dk_177 (dk_at dksJ21_addEntry_2 13 rfl rfl)
abbrev cJ21_fixAfterInsertion : ByteArray := prog_87_method_83_code
def yJ21_fixAfterInsertion : MethodName := ⟨RJ21, "fixAfterInsertion", "(Ljava/util/TreeMap$Entry;)V"⟩
def dkwJ21_fixAfterInsertion_11 : List UInt8 := [42, 180, 0, 101, 4, 181, 1, 34, 177]
abbrev dktJ21_fixAfterInsertion_11 : List UInt8 := dkwJ21_fixAfterInsertion_11 ++ []
def dkwJ21_fixAfterInsertion_10 : List UInt8 := [184, 1, 38, 184, 1, 38, 3, 184, 1, 51, 42, 43, 184, 1, 38, 184, 1, 38, 182, 1, 55, 167, 255, 6]
abbrev dktJ21_fixAfterInsertion_10 : List UInt8 := dkwJ21_fixAfterInsertion_10 ++ dktJ21_fixAfterInsertion_11
def dkwJ21_fixAfterInsertion_9 : List UInt8 := [166, 0, 13, 43, 184, 1, 38, 76, 42, 43, 182, 1, 58, 43, 184, 1, 38, 4, 184, 1, 51, 43]
abbrev dktJ21_fixAfterInsertion_9 : List UInt8 := dkwJ21_fixAfterInsertion_9 ++ dktJ21_fixAfterInsertion_10
def dkwJ21_fixAfterInsertion_8 : List UInt8 := [184, 1, 51, 43, 184, 1, 38, 184, 1, 38, 76, 167, 0, 54, 43, 43, 184, 1, 38, 184, 1, 41]
abbrev dktJ21_fixAfterInsertion_8 : List UInt8 := dkwJ21_fixAfterInsertion_8 ++ dktJ21_fixAfterInsertion_9
def dkwJ21_fixAfterInsertion_7 : List UInt8 := [154, 0, 38, 43, 184, 1, 38, 4, 184, 1, 51, 44, 4, 184, 1, 51, 43, 184, 1, 38, 184, 1, 38, 3]
abbrev dktJ21_fixAfterInsertion_7 : List UInt8 := dkwJ21_fixAfterInsertion_7 ++ dktJ21_fixAfterInsertion_8
def dkwJ21_fixAfterInsertion_6 : List UInt8 := [184, 1, 38, 182, 1, 58, 167, 255, 113, 43, 184, 1, 38, 184, 1, 38, 184, 1, 41, 77, 44, 184, 1, 47]
abbrev dktJ21_fixAfterInsertion_6 : List UInt8 := dkwJ21_fixAfterInsertion_6 ++ dktJ21_fixAfterInsertion_7
def dkwJ21_fixAfterInsertion_5 : List UInt8 := [43, 184, 1, 38, 4, 184, 1, 51, 43, 184, 1, 38, 184, 1, 38, 3, 184, 1, 51, 42, 43, 184, 1, 38]
abbrev dktJ21_fixAfterInsertion_5 : List UInt8 := dkwJ21_fixAfterInsertion_5 ++ dktJ21_fixAfterInsertion_6
def dkwJ21_fixAfterInsertion_4 : List UInt8 := [167, 0, 54, 43, 43, 184, 1, 38, 184, 1, 44, 166, 0, 13, 43, 184, 1, 38, 76, 42, 43, 182, 1, 55]
abbrev dktJ21_fixAfterInsertion_4 : List UInt8 := dkwJ21_fixAfterInsertion_4 ++ dktJ21_fixAfterInsertion_5
def dkwJ21_fixAfterInsertion_3 : List UInt8 := [184, 1, 51, 43, 184, 1, 38, 184, 1, 38, 3, 184, 1, 51, 43, 184, 1, 38, 184, 1, 38, 76]
abbrev dktJ21_fixAfterInsertion_3 : List UInt8 := dkwJ21_fixAfterInsertion_3 ++ dktJ21_fixAfterInsertion_4
def dkwJ21_fixAfterInsertion_2 : List UInt8 := [184, 1, 38, 184, 1, 44, 77, 44, 184, 1, 47, 154, 0, 38, 43, 184, 1, 38, 4, 184, 1, 51, 44, 4]
abbrev dktJ21_fixAfterInsertion_2 : List UInt8 := dkwJ21_fixAfterInsertion_2 ++ dktJ21_fixAfterInsertion_3
def dkwJ21_fixAfterInsertion_1 : List UInt8 := [154, 0, 234, 43, 184, 1, 38, 43, 184, 1, 38, 184, 1, 38, 184, 1, 41, 166, 0, 110, 43, 184, 1, 38]
abbrev dktJ21_fixAfterInsertion_1 : List UInt8 := dkwJ21_fixAfterInsertion_1 ++ dktJ21_fixAfterInsertion_2
def dkwJ21_fixAfterInsertion_0 : List UInt8 := [43, 3, 181, 1, 34, 43, 198, 0, 252, 43, 42, 180, 0, 101, 165, 0, 244, 43, 180, 0, 124, 180, 1, 34]
abbrev dktJ21_fixAfterInsertion_0 : List UInt8 := dkwJ21_fixAfterInsertion_0 ++ dktJ21_fixAfterInsertion_1
theorem dksJ21_fixAfterInsertion_0 : cJ21_fixAfterInsertion.data.toList.drop 0 = dktJ21_fixAfterInsertion_0 := by decide +kernel
theorem dksJ21_fixAfterInsertion_1 : cJ21_fixAfterInsertion.data.toList.drop 24 = dktJ21_fixAfterInsertion_1 := dk_seg dksJ21_fixAfterInsertion_0 24 rfl rfl
theorem dksJ21_fixAfterInsertion_2 : cJ21_fixAfterInsertion.data.toList.drop 48 = dktJ21_fixAfterInsertion_2 := dk_seg dksJ21_fixAfterInsertion_1 24 rfl rfl
theorem dksJ21_fixAfterInsertion_3 : cJ21_fixAfterInsertion.data.toList.drop 72 = dktJ21_fixAfterInsertion_3 := dk_seg dksJ21_fixAfterInsertion_2 24 rfl rfl
theorem dksJ21_fixAfterInsertion_4 : cJ21_fixAfterInsertion.data.toList.drop 94 = dktJ21_fixAfterInsertion_4 := dk_seg dksJ21_fixAfterInsertion_3 22 rfl rfl
theorem dksJ21_fixAfterInsertion_5 : cJ21_fixAfterInsertion.data.toList.drop 118 = dktJ21_fixAfterInsertion_5 := dk_seg dksJ21_fixAfterInsertion_4 24 rfl rfl
theorem dksJ21_fixAfterInsertion_6 : cJ21_fixAfterInsertion.data.toList.drop 142 = dktJ21_fixAfterInsertion_6 := dk_seg dksJ21_fixAfterInsertion_5 24 rfl rfl
theorem dksJ21_fixAfterInsertion_7 : cJ21_fixAfterInsertion.data.toList.drop 166 = dktJ21_fixAfterInsertion_7 := dk_seg dksJ21_fixAfterInsertion_6 24 rfl rfl
theorem dksJ21_fixAfterInsertion_8 : cJ21_fixAfterInsertion.data.toList.drop 190 = dktJ21_fixAfterInsertion_8 := dk_seg dksJ21_fixAfterInsertion_7 24 rfl rfl
theorem dksJ21_fixAfterInsertion_9 : cJ21_fixAfterInsertion.data.toList.drop 212 = dktJ21_fixAfterInsertion_9 := dk_seg dksJ21_fixAfterInsertion_8 22 rfl rfl
theorem dksJ21_fixAfterInsertion_10 : cJ21_fixAfterInsertion.data.toList.drop 234 = dktJ21_fixAfterInsertion_10 := dk_seg dksJ21_fixAfterInsertion_9 22 rfl rfl
theorem dksJ21_fixAfterInsertion_11 : cJ21_fixAfterInsertion.data.toList.drop 258 = dktJ21_fixAfterInsertion_11 := dk_seg dksJ21_fixAfterInsertion_10 24 rfl rfl
theorem dJ21_fixAfterInsertion_0 : decode cJ21_fixAfterInsertion 0 = .ok (.aload_n 1, 1) := dk_43 (dk_at dksJ21_fixAfterInsertion_0 0 rfl rfl)
theorem dJ21_fixAfterInsertion_1 : decode cJ21_fixAfterInsertion 1 = .ok (.iconst 0, 1) := dk_3 (dk_at dksJ21_fixAfterInsertion_0 1 rfl rfl)
theorem dJ21_fixAfterInsertion_2 : decode cJ21_fixAfterInsertion 2 = .ok (.putfield 290, 3) := dk_181 1 34 (dk_at dksJ21_fixAfterInsertion_0 2 rfl rfl)
theorem dJ21_fixAfterInsertion_5 : decode cJ21_fixAfterInsertion 5 = .ok (.aload_n 1, 1) := dk_43 (dk_at dksJ21_fixAfterInsertion_0 5 rfl rfl)
theorem dJ21_fixAfterInsertion_6 : decode cJ21_fixAfterInsertion 6 = .ok (.ifnull 252, 3) := dk_198 0 252 (dk_at dksJ21_fixAfterInsertion_0 6 rfl rfl)
theorem dJ21_fixAfterInsertion_9 : decode cJ21_fixAfterInsertion 9 = .ok (.aload_n 1, 1) := dk_43 (dk_at dksJ21_fixAfterInsertion_0 9 rfl rfl)
theorem dJ21_fixAfterInsertion_10 : decode cJ21_fixAfterInsertion 10 = .ok (.aload_n 0, 1) := dk_42 (dk_at dksJ21_fixAfterInsertion_0 10 rfl rfl)
theorem dJ21_fixAfterInsertion_11 : decode cJ21_fixAfterInsertion 11 = .ok (.getfield 101, 3) := dk_180 0 101 (dk_at dksJ21_fixAfterInsertion_0 11 rfl rfl)
theorem dJ21_fixAfterInsertion_14 : decode cJ21_fixAfterInsertion 14 = .ok (.if_acmp .eq 244, 3) := dk_165 0 244 (dk_at dksJ21_fixAfterInsertion_0 14 rfl rfl)
theorem dJ21_fixAfterInsertion_17 : decode cJ21_fixAfterInsertion 17 = .ok (.aload_n 1, 1) := dk_43 (dk_at dksJ21_fixAfterInsertion_0 17 rfl rfl)
theorem dJ21_fixAfterInsertion_18 : decode cJ21_fixAfterInsertion 18 = .ok (.getfield 124, 3) := dk_180 0 124 (dk_at dksJ21_fixAfterInsertion_0 18 rfl rfl)
theorem dJ21_fixAfterInsertion_21 : decode cJ21_fixAfterInsertion 21 = .ok (.getfield 290, 3) := dk_180 1 34 (dk_at dksJ21_fixAfterInsertion_0 21 rfl rfl)
theorem dJ21_fixAfterInsertion_24 : decode cJ21_fixAfterInsertion 24 = .ok (.ifCond .ne 234, 3) := dk_154 0 234 (dk_at dksJ21_fixAfterInsertion_1 0 rfl rfl)
theorem dJ21_fixAfterInsertion_27 : decode cJ21_fixAfterInsertion 27 = .ok (.aload_n 1, 1) := dk_43 (dk_at dksJ21_fixAfterInsertion_1 3 rfl rfl)
theorem dJ21_fixAfterInsertion_28 : decode cJ21_fixAfterInsertion 28 = .ok (.invokestatic 294, 3) := dk_184 1 38 (dk_at dksJ21_fixAfterInsertion_1 4 rfl rfl)
theorem dJ21_fixAfterInsertion_31 : decode cJ21_fixAfterInsertion 31 = .ok (.aload_n 1, 1) := dk_43 (dk_at dksJ21_fixAfterInsertion_1 7 rfl rfl)
theorem dJ21_fixAfterInsertion_32 : decode cJ21_fixAfterInsertion 32 = .ok (.invokestatic 294, 3) := dk_184 1 38 (dk_at dksJ21_fixAfterInsertion_1 8 rfl rfl)
theorem dJ21_fixAfterInsertion_35 : decode cJ21_fixAfterInsertion 35 = .ok (.invokestatic 294, 3) := dk_184 1 38 (dk_at dksJ21_fixAfterInsertion_1 11 rfl rfl)
theorem dJ21_fixAfterInsertion_38 : decode cJ21_fixAfterInsertion 38 = .ok (.invokestatic 297, 3) := dk_184 1 41 (dk_at dksJ21_fixAfterInsertion_1 14 rfl rfl)
theorem dJ21_fixAfterInsertion_41 : decode cJ21_fixAfterInsertion 41 = .ok (.if_acmp .ne 110, 3) := dk_166 0 110 (dk_at dksJ21_fixAfterInsertion_1 17 rfl rfl)
theorem dJ21_fixAfterInsertion_44 : decode cJ21_fixAfterInsertion 44 = .ok (.aload_n 1, 1) := dk_43 (dk_at dksJ21_fixAfterInsertion_1 20 rfl rfl)
theorem dJ21_fixAfterInsertion_45 : decode cJ21_fixAfterInsertion 45 = .ok (.invokestatic 294, 3) := dk_184 1 38 (dk_at dksJ21_fixAfterInsertion_1 21 rfl rfl)
theorem dJ21_fixAfterInsertion_48 : decode cJ21_fixAfterInsertion 48 = .ok (.invokestatic 294, 3) := dk_184 1 38 (dk_at dksJ21_fixAfterInsertion_2 0 rfl rfl)
theorem dJ21_fixAfterInsertion_51 : decode cJ21_fixAfterInsertion 51 = .ok (.invokestatic 300, 3) := dk_184 1 44 (dk_at dksJ21_fixAfterInsertion_2 3 rfl rfl)
theorem dJ21_fixAfterInsertion_54 : decode cJ21_fixAfterInsertion 54 = .ok (.astore_n 2, 1) := dk_77 (dk_at dksJ21_fixAfterInsertion_2 6 rfl rfl)
theorem dJ21_fixAfterInsertion_55 : decode cJ21_fixAfterInsertion 55 = .ok (.aload_n 2, 1) := dk_44 (dk_at dksJ21_fixAfterInsertion_2 7 rfl rfl)
theorem dJ21_fixAfterInsertion_56 : decode cJ21_fixAfterInsertion 56 = .ok (.invokestatic 303, 3) := dk_184 1 47 (dk_at dksJ21_fixAfterInsertion_2 8 rfl rfl)
theorem dJ21_fixAfterInsertion_59 : decode cJ21_fixAfterInsertion 59 = .ok (.ifCond .ne 38, 3) := dk_154 0 38 (dk_at dksJ21_fixAfterInsertion_2 11 rfl rfl)
theorem dJ21_fixAfterInsertion_62 : decode cJ21_fixAfterInsertion 62 = .ok (.aload_n 1, 1) := dk_43 (dk_at dksJ21_fixAfterInsertion_2 14 rfl rfl)
theorem dJ21_fixAfterInsertion_63 : decode cJ21_fixAfterInsertion 63 = .ok (.invokestatic 294, 3) := dk_184 1 38 (dk_at dksJ21_fixAfterInsertion_2 15 rfl rfl)
theorem dJ21_fixAfterInsertion_66 : decode cJ21_fixAfterInsertion 66 = .ok (.iconst 1, 1) := dk_4 (dk_at dksJ21_fixAfterInsertion_2 18 rfl rfl)
theorem dJ21_fixAfterInsertion_67 : decode cJ21_fixAfterInsertion 67 = .ok (.invokestatic 307, 3) := dk_184 1 51 (dk_at dksJ21_fixAfterInsertion_2 19 rfl rfl)
theorem dJ21_fixAfterInsertion_70 : decode cJ21_fixAfterInsertion 70 = .ok (.aload_n 2, 1) := dk_44 (dk_at dksJ21_fixAfterInsertion_2 22 rfl rfl)
theorem dJ21_fixAfterInsertion_71 : decode cJ21_fixAfterInsertion 71 = .ok (.iconst 1, 1) := dk_4 (dk_at dksJ21_fixAfterInsertion_2 23 rfl rfl)
theorem dJ21_fixAfterInsertion_72 : decode cJ21_fixAfterInsertion 72 = .ok (.invokestatic 307, 3) := dk_184 1 51 (dk_at dksJ21_fixAfterInsertion_3 0 rfl rfl)
theorem dJ21_fixAfterInsertion_75 : decode cJ21_fixAfterInsertion 75 = .ok (.aload_n 1, 1) := dk_43 (dk_at dksJ21_fixAfterInsertion_3 3 rfl rfl)
theorem dJ21_fixAfterInsertion_76 : decode cJ21_fixAfterInsertion 76 = .ok (.invokestatic 294, 3) := dk_184 1 38 (dk_at dksJ21_fixAfterInsertion_3 4 rfl rfl)
theorem dJ21_fixAfterInsertion_79 : decode cJ21_fixAfterInsertion 79 = .ok (.invokestatic 294, 3) := dk_184 1 38 (dk_at dksJ21_fixAfterInsertion_3 7 rfl rfl)
theorem dJ21_fixAfterInsertion_82 : decode cJ21_fixAfterInsertion 82 = .ok (.iconst 0, 1) := dk_3 (dk_at dksJ21_fixAfterInsertion_3 10 rfl rfl)
theorem dJ21_fixAfterInsertion_83 : decode cJ21_fixAfterInsertion 83 = .ok (.invokestatic 307, 3) := dk_184 1 51 (dk_at dksJ21_fixAfterInsertion_3 11 rfl rfl)
theorem dJ21_fixAfterInsertion_86 : decode cJ21_fixAfterInsertion 86 = .ok (.aload_n 1, 1) := dk_43 (dk_at dksJ21_fixAfterInsertion_3 14 rfl rfl)
theorem dJ21_fixAfterInsertion_87 : decode cJ21_fixAfterInsertion 87 = .ok (.invokestatic 294, 3) := dk_184 1 38 (dk_at dksJ21_fixAfterInsertion_3 15 rfl rfl)
theorem dJ21_fixAfterInsertion_90 : decode cJ21_fixAfterInsertion 90 = .ok (.invokestatic 294, 3) := dk_184 1 38 (dk_at dksJ21_fixAfterInsertion_3 18 rfl rfl)
theorem dJ21_fixAfterInsertion_93 : decode cJ21_fixAfterInsertion 93 = .ok (.astore_n 1, 1) := dk_76 (dk_at dksJ21_fixAfterInsertion_3 21 rfl rfl)
theorem dJ21_fixAfterInsertion_94 : decode cJ21_fixAfterInsertion 94 = .ok (.goto 54, 3) := dk_167 0 54 (dk_at dksJ21_fixAfterInsertion_4 0 rfl rfl)
theorem dJ21_fixAfterInsertion_97 : decode cJ21_fixAfterInsertion 97 = .ok (.aload_n 1, 1) := dk_43 (dk_at dksJ21_fixAfterInsertion_4 3 rfl rfl)
theorem dJ21_fixAfterInsertion_98 : decode cJ21_fixAfterInsertion 98 = .ok (.aload_n 1, 1) := dk_43 (dk_at dksJ21_fixAfterInsertion_4 4 rfl rfl)
theorem dJ21_fixAfterInsertion_99 : decode cJ21_fixAfterInsertion 99 = .ok (.invokestatic 294, 3) := dk_184 1 38 (dk_at dksJ21_fixAfterInsertion_4 5 rfl rfl)
theorem dJ21_fixAfterInsertion_102 : decode cJ21_fixAfterInsertion 102 = .ok (.invokestatic 300, 3) := dk_184 1 44 (dk_at dksJ21_fixAfterInsertion_4 8 rfl rfl)
theorem dJ21_fixAfterInsertion_105 : decode cJ21_fixAfterInsertion 105 = .ok (.if_acmp .ne 13, 3) := dk_166 0 13 (dk_at dksJ21_fixAfterInsertion_4 11 rfl rfl)
theorem dJ21_fixAfterInsertion_108 : decode cJ21_fixAfterInsertion 108 = .ok (.aload_n 1, 1) := dk_43 (dk_at dksJ21_fixAfterInsertion_4 14 rfl rfl)
theorem dJ21_fixAfterInsertion_109 : decode cJ21_fixAfterInsertion 109 = .ok (.invokestatic 294, 3) := dk_184 1 38 (dk_at dksJ21_fixAfterInsertion_4 15 rfl rfl)
theorem dJ21_fixAfterInsertion_112 : decode cJ21_fixAfterInsertion 112 = .ok (.astore_n 1, 1) := dk_76 (dk_at dksJ21_fixAfterInsertion_4 18 rfl rfl)
theorem dJ21_fixAfterInsertion_113 : decode cJ21_fixAfterInsertion 113 = .ok (.aload_n 0, 1) := dk_42 (dk_at dksJ21_fixAfterInsertion_4 19 rfl rfl)
theorem dJ21_fixAfterInsertion_114 : decode cJ21_fixAfterInsertion 114 = .ok (.aload_n 1, 1) := dk_43 (dk_at dksJ21_fixAfterInsertion_4 20 rfl rfl)
theorem dJ21_fixAfterInsertion_115 : decode cJ21_fixAfterInsertion 115 = .ok (.invokevirtual 311, 3) := dk_182 1 55 (dk_at dksJ21_fixAfterInsertion_4 21 rfl rfl)
theorem dJ21_fixAfterInsertion_118 : decode cJ21_fixAfterInsertion 118 = .ok (.aload_n 1, 1) := dk_43 (dk_at dksJ21_fixAfterInsertion_5 0 rfl rfl)
theorem dJ21_fixAfterInsertion_119 : decode cJ21_fixAfterInsertion 119 = .ok (.invokestatic 294, 3) := dk_184 1 38 (dk_at dksJ21_fixAfterInsertion_5 1 rfl rfl)
theorem dJ21_fixAfterInsertion_122 : decode cJ21_fixAfterInsertion 122 = .ok (.iconst 1, 1) := dk_4 (dk_at dksJ21_fixAfterInsertion_5 4 rfl rfl)
theorem dJ21_fixAfterInsertion_123 : decode cJ21_fixAfterInsertion 123 = .ok (.invokestatic 307, 3) := dk_184 1 51 (dk_at dksJ21_fixAfterInsertion_5 5 rfl rfl)
theorem dJ21_fixAfterInsertion_126 : decode cJ21_fixAfterInsertion 126 = .ok (.aload_n 1, 1) := dk_43 (dk_at dksJ21_fixAfterInsertion_5 8 rfl rfl)
theorem dJ21_fixAfterInsertion_127 : decode cJ21_fixAfterInsertion 127 = .ok (.invokestatic 294, 3) := dk_184 1 38 (dk_at dksJ21_fixAfterInsertion_5 9 rfl rfl)
theorem dJ21_fixAfterInsertion_130 : decode cJ21_fixAfterInsertion 130 = .ok (.invokestatic 294, 3) := dk_184 1 38 (dk_at dksJ21_fixAfterInsertion_5 12 rfl rfl)
theorem dJ21_fixAfterInsertion_133 : decode cJ21_fixAfterInsertion 133 = .ok (.iconst 0, 1) := dk_3 (dk_at dksJ21_fixAfterInsertion_5 15 rfl rfl)
theorem dJ21_fixAfterInsertion_134 : decode cJ21_fixAfterInsertion 134 = .ok (.invokestatic 307, 3) := dk_184 1 51 (dk_at dksJ21_fixAfterInsertion_5 16 rfl rfl)
theorem dJ21_fixAfterInsertion_137 : decode cJ21_fixAfterInsertion 137 = .ok (.aload_n 0, 1) := dk_42 (dk_at dksJ21_fixAfterInsertion_5 19 rfl rfl)
theorem dJ21_fixAfterInsertion_138 : decode cJ21_fixAfterInsertion 138 = .ok (.aload_n 1, 1) := dk_43 (dk_at dksJ21_fixAfterInsertion_5 20 rfl rfl)
theorem dJ21_fixAfterInsertion_139 : decode cJ21_fixAfterInsertion 139 = .ok (.invokestatic 294, 3) := dk_184 1 38 (dk_at dksJ21_fixAfterInsertion_5 21 rfl rfl)
theorem dJ21_fixAfterInsertion_142 : decode cJ21_fixAfterInsertion 142 = .ok (.invokestatic 294, 3) := dk_184 1 38 (dk_at dksJ21_fixAfterInsertion_6 0 rfl rfl)
theorem dJ21_fixAfterInsertion_145 : decode cJ21_fixAfterInsertion 145 = .ok (.invokevirtual 314, 3) := dk_182 1 58 (dk_at dksJ21_fixAfterInsertion_6 3 rfl rfl)
theorem dJ21_fixAfterInsertion_148 : decode cJ21_fixAfterInsertion 148 = .ok (.goto (-143), 3) := dk_167 255 113 (dk_at dksJ21_fixAfterInsertion_6 6 rfl rfl)
theorem dJ21_fixAfterInsertion_151 : decode cJ21_fixAfterInsertion 151 = .ok (.aload_n 1, 1) := dk_43 (dk_at dksJ21_fixAfterInsertion_6 9 rfl rfl)
theorem dJ21_fixAfterInsertion_152 : decode cJ21_fixAfterInsertion 152 = .ok (.invokestatic 294, 3) := dk_184 1 38 (dk_at dksJ21_fixAfterInsertion_6 10 rfl rfl)
theorem dJ21_fixAfterInsertion_155 : decode cJ21_fixAfterInsertion 155 = .ok (.invokestatic 294, 3) := dk_184 1 38 (dk_at dksJ21_fixAfterInsertion_6 13 rfl rfl)
theorem dJ21_fixAfterInsertion_158 : decode cJ21_fixAfterInsertion 158 = .ok (.invokestatic 297, 3) := dk_184 1 41 (dk_at dksJ21_fixAfterInsertion_6 16 rfl rfl)
theorem dJ21_fixAfterInsertion_161 : decode cJ21_fixAfterInsertion 161 = .ok (.astore_n 2, 1) := dk_77 (dk_at dksJ21_fixAfterInsertion_6 19 rfl rfl)
theorem dJ21_fixAfterInsertion_162 : decode cJ21_fixAfterInsertion 162 = .ok (.aload_n 2, 1) := dk_44 (dk_at dksJ21_fixAfterInsertion_6 20 rfl rfl)
theorem dJ21_fixAfterInsertion_163 : decode cJ21_fixAfterInsertion 163 = .ok (.invokestatic 303, 3) := dk_184 1 47 (dk_at dksJ21_fixAfterInsertion_6 21 rfl rfl)
theorem dJ21_fixAfterInsertion_166 : decode cJ21_fixAfterInsertion 166 = .ok (.ifCond .ne 38, 3) := dk_154 0 38 (dk_at dksJ21_fixAfterInsertion_7 0 rfl rfl)
theorem dJ21_fixAfterInsertion_169 : decode cJ21_fixAfterInsertion 169 = .ok (.aload_n 1, 1) := dk_43 (dk_at dksJ21_fixAfterInsertion_7 3 rfl rfl)
theorem dJ21_fixAfterInsertion_170 : decode cJ21_fixAfterInsertion 170 = .ok (.invokestatic 294, 3) := dk_184 1 38 (dk_at dksJ21_fixAfterInsertion_7 4 rfl rfl)
theorem dJ21_fixAfterInsertion_173 : decode cJ21_fixAfterInsertion 173 = .ok (.iconst 1, 1) := dk_4 (dk_at dksJ21_fixAfterInsertion_7 7 rfl rfl)
theorem dJ21_fixAfterInsertion_174 : decode cJ21_fixAfterInsertion 174 = .ok (.invokestatic 307, 3) := dk_184 1 51 (dk_at dksJ21_fixAfterInsertion_7 8 rfl rfl)
theorem dJ21_fixAfterInsertion_177 : decode cJ21_fixAfterInsertion 177 = .ok (.aload_n 2, 1) := dk_44 (dk_at dksJ21_fixAfterInsertion_7 11 rfl rfl)
theorem dJ21_fixAfterInsertion_178 : decode cJ21_fixAfterInsertion 178 = .ok (.iconst 1, 1) := dk_4 (dk_at dksJ21_fixAfterInsertion_7 12 rfl rfl)
theorem dJ21_fixAfterInsertion_179 : decode cJ21_fixAfterInsertion 179 = .ok (.invokestatic 307, 3) := dk_184 1 51 (dk_at dksJ21_fixAfterInsertion_7 13 rfl rfl)
theorem dJ21_fixAfterInsertion_182 : decode cJ21_fixAfterInsertion 182 = .ok (.aload_n 1, 1) := dk_43 (dk_at dksJ21_fixAfterInsertion_7 16 rfl rfl)
theorem dJ21_fixAfterInsertion_183 : decode cJ21_fixAfterInsertion 183 = .ok (.invokestatic 294, 3) := dk_184 1 38 (dk_at dksJ21_fixAfterInsertion_7 17 rfl rfl)
theorem dJ21_fixAfterInsertion_186 : decode cJ21_fixAfterInsertion 186 = .ok (.invokestatic 294, 3) := dk_184 1 38 (dk_at dksJ21_fixAfterInsertion_7 20 rfl rfl)
theorem dJ21_fixAfterInsertion_189 : decode cJ21_fixAfterInsertion 189 = .ok (.iconst 0, 1) := dk_3 (dk_at dksJ21_fixAfterInsertion_7 23 rfl rfl)
theorem dJ21_fixAfterInsertion_190 : decode cJ21_fixAfterInsertion 190 = .ok (.invokestatic 307, 3) := dk_184 1 51 (dk_at dksJ21_fixAfterInsertion_8 0 rfl rfl)
theorem dJ21_fixAfterInsertion_193 : decode cJ21_fixAfterInsertion 193 = .ok (.aload_n 1, 1) := dk_43 (dk_at dksJ21_fixAfterInsertion_8 3 rfl rfl)
theorem dJ21_fixAfterInsertion_194 : decode cJ21_fixAfterInsertion 194 = .ok (.invokestatic 294, 3) := dk_184 1 38 (dk_at dksJ21_fixAfterInsertion_8 4 rfl rfl)
theorem dJ21_fixAfterInsertion_197 : decode cJ21_fixAfterInsertion 197 = .ok (.invokestatic 294, 3) := dk_184 1 38 (dk_at dksJ21_fixAfterInsertion_8 7 rfl rfl)
theorem dJ21_fixAfterInsertion_200 : decode cJ21_fixAfterInsertion 200 = .ok (.astore_n 1, 1) := dk_76 (dk_at dksJ21_fixAfterInsertion_8 10 rfl rfl)
theorem dJ21_fixAfterInsertion_201 : decode cJ21_fixAfterInsertion 201 = .ok (.goto 54, 3) := dk_167 0 54 (dk_at dksJ21_fixAfterInsertion_8 11 rfl rfl)
theorem dJ21_fixAfterInsertion_204 : decode cJ21_fixAfterInsertion 204 = .ok (.aload_n 1, 1) := dk_43 (dk_at dksJ21_fixAfterInsertion_8 14 rfl rfl)
theorem dJ21_fixAfterInsertion_205 : decode cJ21_fixAfterInsertion 205 = .ok (.aload_n 1, 1) := dk_43 (dk_at dksJ21_fixAfterInsertion_8 15 rfl rfl)
theorem dJ21_fixAfterInsertion_206 : decode cJ21_fixAfterInsertion 206 = .ok (.invokestatic 294, 3) := dk_184 1 38 (dk_at dksJ21_fixAfterInsertion_8 16 rfl rfl)
theorem dJ21_fixAfterInsertion_209 : decode cJ21_fixAfterInsertion 209 = .ok (.invokestatic 297, 3) := dk_184 1 41 (dk_at dksJ21_fixAfterInsertion_8 19 rfl rfl)
theorem dJ21_fixAfterInsertion_212 : decode cJ21_fixAfterInsertion 212 = .ok (.if_acmp .ne 13, 3) := dk_166 0 13 (dk_at dksJ21_fixAfterInsertion_9 0 rfl rfl)
theorem dJ21_fixAfterInsertion_215 : decode cJ21_fixAfterInsertion 215 = .ok (.aload_n 1, 1) := dk_43 (dk_at dksJ21_fixAfterInsertion_9 3 rfl rfl)
theorem dJ21_fixAfterInsertion_216 : decode cJ21_fixAfterInsertion 216 = .ok (.invokestatic 294, 3) := dk_184 1 38 (dk_at dksJ21_fixAfterInsertion_9 4 rfl rfl)
theorem dJ21_fixAfterInsertion_219 : decode cJ21_fixAfterInsertion 219 = .ok (.astore_n 1, 1) := dk_76 (dk_at dksJ21_fixAfterInsertion_9 7 rfl rfl)
theorem dJ21_fixAfterInsertion_220 : decode cJ21_fixAfterInsertion 220 = .ok (.aload_n 0, 1) := dk_42 (dk_at dksJ21_fixAfterInsertion_9 8 rfl rfl)
theorem dJ21_fixAfterInsertion_221 : decode cJ21_fixAfterInsertion 221 = .ok (.aload_n 1, 1) := dk_43 (dk_at dksJ21_fixAfterInsertion_9 9 rfl rfl)
theorem dJ21_fixAfterInsertion_222 : decode cJ21_fixAfterInsertion 222 = .ok (.invokevirtual 314, 3) := dk_182 1 58 (dk_at dksJ21_fixAfterInsertion_9 10 rfl rfl)
theorem dJ21_fixAfterInsertion_225 : decode cJ21_fixAfterInsertion 225 = .ok (.aload_n 1, 1) := dk_43 (dk_at dksJ21_fixAfterInsertion_9 13 rfl rfl)
theorem dJ21_fixAfterInsertion_226 : decode cJ21_fixAfterInsertion 226 = .ok (.invokestatic 294, 3) := dk_184 1 38 (dk_at dksJ21_fixAfterInsertion_9 14 rfl rfl)
theorem dJ21_fixAfterInsertion_229 : decode cJ21_fixAfterInsertion 229 = .ok (.iconst 1, 1) := dk_4 (dk_at dksJ21_fixAfterInsertion_9 17 rfl rfl)
theorem dJ21_fixAfterInsertion_230 : decode cJ21_fixAfterInsertion 230 = .ok (.invokestatic 307, 3) := dk_184 1 51 (dk_at dksJ21_fixAfterInsertion_9 18 rfl rfl)
theorem dJ21_fixAfterInsertion_233 : decode cJ21_fixAfterInsertion 233 = .ok (.aload_n 1, 1) := dk_43 (dk_at dksJ21_fixAfterInsertion_9 21 rfl rfl)
theorem dJ21_fixAfterInsertion_234 : decode cJ21_fixAfterInsertion 234 = .ok (.invokestatic 294, 3) := dk_184 1 38 (dk_at dksJ21_fixAfterInsertion_10 0 rfl rfl)
theorem dJ21_fixAfterInsertion_237 : decode cJ21_fixAfterInsertion 237 = .ok (.invokestatic 294, 3) := dk_184 1 38 (dk_at dksJ21_fixAfterInsertion_10 3 rfl rfl)
theorem dJ21_fixAfterInsertion_240 : decode cJ21_fixAfterInsertion 240 = .ok (.iconst 0, 1) := dk_3 (dk_at dksJ21_fixAfterInsertion_10 6 rfl rfl)
theorem dJ21_fixAfterInsertion_241 : decode cJ21_fixAfterInsertion 241 = .ok (.invokestatic 307, 3) := dk_184 1 51 (dk_at dksJ21_fixAfterInsertion_10 7 rfl rfl)
theorem dJ21_fixAfterInsertion_244 : decode cJ21_fixAfterInsertion 244 = .ok (.aload_n 0, 1) := dk_42 (dk_at dksJ21_fixAfterInsertion_10 10 rfl rfl)
theorem dJ21_fixAfterInsertion_245 : decode cJ21_fixAfterInsertion 245 = .ok (.aload_n 1, 1) := dk_43 (dk_at dksJ21_fixAfterInsertion_10 11 rfl rfl)
theorem dJ21_fixAfterInsertion_246 : decode cJ21_fixAfterInsertion 246 = .ok (.invokestatic 294, 3) := dk_184 1 38 (dk_at dksJ21_fixAfterInsertion_10 12 rfl rfl)
theorem dJ21_fixAfterInsertion_249 : decode cJ21_fixAfterInsertion 249 = .ok (.invokestatic 294, 3) := dk_184 1 38 (dk_at dksJ21_fixAfterInsertion_10 15 rfl rfl)
theorem dJ21_fixAfterInsertion_252 : decode cJ21_fixAfterInsertion 252 = .ok (.invokevirtual 311, 3) := dk_182 1 55 (dk_at dksJ21_fixAfterInsertion_10 18 rfl rfl)
theorem dJ21_fixAfterInsertion_255 : decode cJ21_fixAfterInsertion 255 = .ok (.goto (-250), 3) := dk_167 255 6 (dk_at dksJ21_fixAfterInsertion_10 21 rfl rfl)
theorem dJ21_fixAfterInsertion_258 : decode cJ21_fixAfterInsertion 258 = .ok (.aload_n 0, 1) := dk_42 (dk_at dksJ21_fixAfterInsertion_11 0 rfl rfl)
theorem dJ21_fixAfterInsertion_259 : decode cJ21_fixAfterInsertion 259 = .ok (.getfield 101, 3) := dk_180 0 101 (dk_at dksJ21_fixAfterInsertion_11 1 rfl rfl)
theorem dJ21_fixAfterInsertion_262 : decode cJ21_fixAfterInsertion 262 = .ok (.iconst 1, 1) := dk_4 (dk_at dksJ21_fixAfterInsertion_11 4 rfl rfl)
theorem dJ21_fixAfterInsertion_263 : decode cJ21_fixAfterInsertion 263 = .ok (.putfield 290, 3) := dk_181 1 34 (dk_at dksJ21_fixAfterInsertion_11 5 rfl rfl)
theorem dJ21_fixAfterInsertion_266 : decode cJ21_fixAfterInsertion 266 = .ok (.return_, 1) := dk_177 (dk_at dksJ21_fixAfterInsertion_11 8 rfl rfl)
abbrev cJ21_parentOf : ByteArray := prog_87_method_77_code
def yJ21_parentOf : MethodName := ⟨RJ21, "parentOf", "(Ljava/util/TreeMap$Entry;)Ljava/util/TreeMap$Entry;"⟩
def dkwJ21_parentOf_0 : List UInt8 := [42, 199, 0, 7, 1, 167, 0, 7, 42, 180, 0, 124, 176]
abbrev dktJ21_parentOf_0 : List UInt8 := dkwJ21_parentOf_0 ++ []
theorem dksJ21_parentOf_0 : cJ21_parentOf.data.toList.drop 0 = dktJ21_parentOf_0 := by decide +kernel
theorem dJ21_parentOf_0 : decode cJ21_parentOf 0 = .ok (.aload_n 0, 1) := dk_42 (dk_at dksJ21_parentOf_0 0 rfl rfl)
theorem dJ21_parentOf_1 : decode cJ21_parentOf 1 = .ok (.ifnonnull 7, 3) := dk_199 0 7 (dk_at dksJ21_parentOf_0 1 rfl rfl)
theorem dJ21_parentOf_4 : decode cJ21_parentOf 4 = .ok (.aconst_null, 1) := dk_1 (dk_at dksJ21_parentOf_0 4 rfl rfl)
theorem dJ21_parentOf_5 : decode cJ21_parentOf 5 = .ok (.goto 7, 3) := dk_167 0 7 (dk_at dksJ21_parentOf_0 5 rfl rfl)
theorem dJ21_parentOf_8 : decode cJ21_parentOf 8 = .ok (.aload_n 0, 1) := dk_42 (dk_at dksJ21_parentOf_0 8 rfl rfl)
theorem dJ21_parentOf_9 : decode cJ21_parentOf 9 = .ok (.getfield 124, 3) := dk_180 0 124 (dk_at dksJ21_parentOf_0 9 rfl rfl)
theorem dJ21_parentOf_12 : decode cJ21_parentOf 12 = .ok (.areturn, 1) := dk_176 (dk_at dksJ21_parentOf_0 12 rfl rfl)
abbrev cJ21_leftOf : ByteArray := prog_87_method_79_code
def yJ21_leftOf : MethodName := ⟨RJ21, "leftOf", "(Ljava/util/TreeMap$Entry;)Ljava/util/TreeMap$Entry;"⟩
def dkwJ21_leftOf_0 : List UInt8 := [42, 199, 0, 7, 1, 167, 0, 7, 42, 180, 0, 111, 176]
abbrev dktJ21_leftOf_0 : List UInt8 := dkwJ21_leftOf_0 ++ []
theorem dksJ21_leftOf_0 : cJ21_leftOf.data.toList.drop 0 = dktJ21_leftOf_0 := by decide +kernel
theorem dJ21_leftOf_0 : decode cJ21_leftOf 0 = .ok (.aload_n 0, 1) := dk_42 (dk_at dksJ21_leftOf_0 0 rfl rfl)
theorem dJ21_leftOf_1 : decode cJ21_leftOf 1 = .ok (.ifnonnull 7, 3) := dk_199 0 7 (dk_at dksJ21_leftOf_0 1 rfl rfl)
theorem dJ21_leftOf_4 : decode cJ21_leftOf 4 = .ok (.aconst_null, 1) := dk_1 (dk_at dksJ21_leftOf_0 4 rfl rfl)
theorem dJ21_leftOf_5 : decode cJ21_leftOf 5 = .ok (.goto 7, 3) := dk_167 0 7 (dk_at dksJ21_leftOf_0 5 rfl rfl)
theorem dJ21_leftOf_8 : decode cJ21_leftOf 8 = .ok (.aload_n 0, 1) := dk_42 (dk_at dksJ21_leftOf_0 8 rfl rfl)
theorem dJ21_leftOf_9 : decode cJ21_leftOf 9 = .ok (.getfield 111, 3) := dk_180 0 111 (dk_at dksJ21_leftOf_0 9 rfl rfl)
theorem dJ21_leftOf_12 : decode cJ21_leftOf 12 = .ok (.areturn, 1) := dk_176 (dk_at dksJ21_leftOf_0 12 rfl rfl)
abbrev cJ21_rightOf : ByteArray := prog_87_method_80_code
def yJ21_rightOf : MethodName := ⟨RJ21, "rightOf", "(Ljava/util/TreeMap$Entry;)Ljava/util/TreeMap$Entry;"⟩
def dkwJ21_rightOf_0 : List UInt8 := [42, 199, 0, 7, 1, 167, 0, 7, 42, 180, 0, 114, 176]
abbrev dktJ21_rightOf_0 : List UInt8 := dkwJ21_rightOf_0 ++ []
theorem dksJ21_rightOf_0 : cJ21_rightOf.data.toList.drop 0 = dktJ21_rightOf_0 := by decide +kernel
theorem dJ21_rightOf_0 : decode cJ21_rightOf 0 = .ok (.aload_n 0, 1) := dk_42 (dk_at dksJ21_rightOf_0 0 rfl rfl)
theorem dJ21_rightOf_1 : decode cJ21_rightOf 1 = .ok (.ifnonnull 7, 3) := dk_199 0 7 (dk_at dksJ21_rightOf_0 1 rfl rfl)
theorem dJ21_rightOf_4 : decode cJ21_rightOf 4 = .ok (.aconst_null, 1) := dk_1 (dk_at dksJ21_rightOf_0 4 rfl rfl)
theorem dJ21_rightOf_5 : decode cJ21_rightOf 5 = .ok (.goto 7, 3) := dk_167 0 7 (dk_at dksJ21_rightOf_0 5 rfl rfl)
theorem dJ21_rightOf_8 : decode cJ21_rightOf 8 = .ok (.aload_n 0, 1) := dk_42 (dk_at dksJ21_rightOf_0 8 rfl rfl)
theorem dJ21_rightOf_9 : decode cJ21_rightOf 9 = .ok (.getfield 114, 3) := dk_180 0 114 (dk_at dksJ21_rightOf_0 9 rfl rfl)
theorem dJ21_rightOf_12 : decode cJ21_rightOf 12 = .ok (.areturn, 1) := dk_176 (dk_at dksJ21_rightOf_0 12 rfl rfl)
abbrev cJ21_colorOf : ByteArray := prog_87_method_76_code
def yJ21_colorOf : MethodName := ⟨RJ21, "colorOf", "(Ljava/util/TreeMap$Entry;)Z"⟩
def dkwJ21_colorOf_0 : List UInt8 := [42, 199, 0, 7, 4, 167, 0, 7, 42, 180, 1, 34, 172]
abbrev dktJ21_colorOf_0 : List UInt8 := dkwJ21_colorOf_0 ++ []
theorem dksJ21_colorOf_0 : cJ21_colorOf.data.toList.drop 0 = dktJ21_colorOf_0 := by decide +kernel
theorem dJ21_colorOf_0 : decode cJ21_colorOf 0 = .ok (.aload_n 0, 1) := dk_42 (dk_at dksJ21_colorOf_0 0 rfl rfl)
theorem dJ21_colorOf_1 : decode cJ21_colorOf 1 = .ok (.ifnonnull 7, 3) := dk_199 0 7 (dk_at dksJ21_colorOf_0 1 rfl rfl)
theorem dJ21_colorOf_4 : decode cJ21_colorOf 4 = .ok (.iconst 1, 1) := dk_4 (dk_at dksJ21_colorOf_0 4 rfl rfl)
theorem dJ21_colorOf_5 : decode cJ21_colorOf 5 = .ok (.goto 7, 3) := dk_167 0 7 (dk_at dksJ21_colorOf_0 5 rfl rfl)
theorem dJ21_colorOf_8 : decode cJ21_colorOf 8 = .ok (.aload_n 0, 1) := dk_42 (dk_at dksJ21_colorOf_0 8 rfl rfl)
theorem dJ21_colorOf_9 : decode cJ21_colorOf 9 = .ok (.getfield 290, 3) := dk_180 1 34 (dk_at dksJ21_colorOf_0 9 rfl rfl)
theorem dJ21_colorOf_12 : decode cJ21_colorOf 12 = .ok (.ireturn, 1) := dk_172 (dk_at dksJ21_colorOf_0 12 rfl rfl)
abbrev cJ21_setColor : ByteArray := prog_87_method_78_code
def yJ21_setColor : MethodName := ⟨RJ21, "setColor", "(Ljava/util/TreeMap$Entry;Z)V"⟩
def dkwJ21_setColor_0 : List UInt8 := [42, 198, 0, 8, 42, 27, 181, 1, 34, 177]
abbrev dktJ21_setColor_0 : List UInt8 := dkwJ21_setColor_0 ++ []
theorem dksJ21_setColor_0 : cJ21_setColor.data.toList.drop 0 = dktJ21_setColor_0 := by decide +kernel
theorem dJ21_setColor_0 : decode cJ21_setColor 0 = .ok (.aload_n 0, 1) := dk_42 (dk_at dksJ21_setColor_0 0 rfl rfl)
theorem dJ21_setColor_1 : decode cJ21_setColor 1 = .ok (.ifnull 8, 3) := dk_198 0 8 (dk_at dksJ21_setColor_0 1 rfl rfl)
theorem dJ21_setColor_4 : decode cJ21_setColor 4 = .ok (.aload_n 0, 1) := dk_42 (dk_at dksJ21_setColor_0 4 rfl rfl)
theorem dJ21_setColor_5 : decode cJ21_setColor 5 = .ok (.iload_n 1, 1) := dk_27 (dk_at dksJ21_setColor_0 5 rfl rfl)
theorem dJ21_setColor_6 : decode cJ21_setColor 6 = .ok (.putfield 290, 3) := dk_181 1 34 (dk_at dksJ21_setColor_0 6 rfl rfl)
theorem dJ21_setColor_9 : decode cJ21_setColor 9 = .ok (.return_, 1) := dk_177 (dk_at dksJ21_setColor_0 9 rfl rfl)
abbrev cJ21_rotateLeft : ByteArray := prog_87_method_81_code
def yJ21_rotateLeft : MethodName := ⟨RJ21, "rotateLeft", "(Ljava/util/TreeMap$Entry;)V"⟩
def dkwJ21_rotateLeft_4 : List UInt8 := [177]
abbrev dktJ21_rotateLeft_4 : List UInt8 := dkwJ21_rotateLeft_4 ++ []
def dkwJ21_rotateLeft_3 : List UInt8 := [181, 0, 111, 167, 0, 11, 43, 180, 0, 124, 44, 181, 0, 114, 44, 43, 181, 0, 111, 43, 44, 181, 0, 124]
abbrev dktJ21_rotateLeft_3 : List UInt8 := dkwJ21_rotateLeft_3 ++ dktJ21_rotateLeft_4
def dkwJ21_rotateLeft_2 : List UInt8 := [44, 181, 0, 101, 167, 0, 33, 43, 180, 0, 124, 180, 0, 111, 43, 166, 0, 14, 43, 180, 0, 124, 44]
abbrev dktJ21_rotateLeft_2 : List UInt8 := dkwJ21_rotateLeft_2 ++ dktJ21_rotateLeft_3
def dkwJ21_rotateLeft_1 : List UInt8 := [44, 180, 0, 111, 43, 181, 0, 124, 44, 43, 180, 0, 124, 181, 0, 124, 43, 180, 0, 124, 199, 0, 11, 42]
abbrev dktJ21_rotateLeft_1 : List UInt8 := dkwJ21_rotateLeft_1 ++ dktJ21_rotateLeft_2
def dkwJ21_rotateLeft_0 : List UInt8 := [43, 198, 0, 94, 43, 180, 0, 114, 77, 43, 44, 180, 0, 111, 181, 0, 114, 44, 180, 0, 111, 198, 0, 11]
abbrev dktJ21_rotateLeft_0 : List UInt8 := dkwJ21_rotateLeft_0 ++ dktJ21_rotateLeft_1
theorem dksJ21_rotateLeft_0 : cJ21_rotateLeft.data.toList.drop 0 = dktJ21_rotateLeft_0 := by decide +kernel
theorem dksJ21_rotateLeft_1 : cJ21_rotateLeft.data.toList.drop 24 = dktJ21_rotateLeft_1 := dk_seg dksJ21_rotateLeft_0 24 rfl rfl
theorem dksJ21_rotateLeft_2 : cJ21_rotateLeft.data.toList.drop 48 = dktJ21_rotateLeft_2 := dk_seg dksJ21_rotateLeft_1 24 rfl rfl
theorem dksJ21_rotateLeft_3 : cJ21_rotateLeft.data.toList.drop 71 = dktJ21_rotateLeft_3 := dk_seg dksJ21_rotateLeft_2 23 rfl rfl
theorem dksJ21_rotateLeft_4 : cJ21_rotateLeft.data.toList.drop 95 = dktJ21_rotateLeft_4 := dk_seg dksJ21_rotateLeft_3 24 rfl rfl
theorem dJ21_rotateLeft_0 : decode cJ21_rotateLeft 0 = .ok (.aload_n 1, 1) := dk_43 (dk_at dksJ21_rotateLeft_0 0 rfl rfl)
theorem dJ21_rotateLeft_1 : decode cJ21_rotateLeft 1 = .ok (.ifnull 94, 3) := dk_198 0 94 (dk_at dksJ21_rotateLeft_0 1 rfl rfl)
theorem dJ21_rotateLeft_4 : decode cJ21_rotateLeft 4 = .ok (.aload_n 1, 1) := dk_43 (dk_at dksJ21_rotateLeft_0 4 rfl rfl)
theorem dJ21_rotateLeft_5 : decode cJ21_rotateLeft 5 = .ok (.getfield 114, 3) := dk_180 0 114 (dk_at dksJ21_rotateLeft_0 5 rfl rfl)
theorem dJ21_rotateLeft_8 : decode cJ21_rotateLeft 8 = .ok (.astore_n 2, 1) := dk_77 (dk_at dksJ21_rotateLeft_0 8 rfl rfl)
theorem dJ21_rotateLeft_9 : decode cJ21_rotateLeft 9 = .ok (.aload_n 1, 1) := dk_43 (dk_at dksJ21_rotateLeft_0 9 rfl rfl)
theorem dJ21_rotateLeft_10 : decode cJ21_rotateLeft 10 = .ok (.aload_n 2, 1) := dk_44 (dk_at dksJ21_rotateLeft_0 10 rfl rfl)
theorem dJ21_rotateLeft_11 : decode cJ21_rotateLeft 11 = .ok (.getfield 111, 3) := dk_180 0 111 (dk_at dksJ21_rotateLeft_0 11 rfl rfl)
theorem dJ21_rotateLeft_14 : decode cJ21_rotateLeft 14 = .ok (.putfield 114, 3) := dk_181 0 114 (dk_at dksJ21_rotateLeft_0 14 rfl rfl)
theorem dJ21_rotateLeft_17 : decode cJ21_rotateLeft 17 = .ok (.aload_n 2, 1) := dk_44 (dk_at dksJ21_rotateLeft_0 17 rfl rfl)
theorem dJ21_rotateLeft_18 : decode cJ21_rotateLeft 18 = .ok (.getfield 111, 3) := dk_180 0 111 (dk_at dksJ21_rotateLeft_0 18 rfl rfl)
theorem dJ21_rotateLeft_21 : decode cJ21_rotateLeft 21 = .ok (.ifnull 11, 3) := dk_198 0 11 (dk_at dksJ21_rotateLeft_0 21 rfl rfl)
theorem dJ21_rotateLeft_24 : decode cJ21_rotateLeft 24 = .ok (.aload_n 2, 1) := dk_44 (dk_at dksJ21_rotateLeft_1 0 rfl rfl)
theorem dJ21_rotateLeft_25 : decode cJ21_rotateLeft 25 = .ok (.getfield 111, 3) := dk_180 0 111 (dk_at dksJ21_rotateLeft_1 1 rfl rfl)
theorem dJ21_rotateLeft_28 : decode cJ21_rotateLeft 28 = .ok (.aload_n 1, 1) := dk_43 (dk_at dksJ21_rotateLeft_1 4 rfl rfl)
theorem dJ21_rotateLeft_29 : decode cJ21_rotateLeft 29 = .ok (.putfield 124, 3) := dk_181 0 124 (dk_at dksJ21_rotateLeft_1 5 rfl rfl)
theorem dJ21_rotateLeft_32 : decode cJ21_rotateLeft 32 = .ok (.aload_n 2, 1) := dk_44 (dk_at dksJ21_rotateLeft_1 8 rfl rfl)
theorem dJ21_rotateLeft_33 : decode cJ21_rotateLeft 33 = .ok (.aload_n 1, 1) := dk_43 (dk_at dksJ21_rotateLeft_1 9 rfl rfl)
theorem dJ21_rotateLeft_34 : decode cJ21_rotateLeft 34 = .ok (.getfield 124, 3) := dk_180 0 124 (dk_at dksJ21_rotateLeft_1 10 rfl rfl)
theorem dJ21_rotateLeft_37 : decode cJ21_rotateLeft 37 = .ok (.putfield 124, 3) := dk_181 0 124 (dk_at dksJ21_rotateLeft_1 13 rfl rfl)
theorem dJ21_rotateLeft_40 : decode cJ21_rotateLeft 40 = .ok (.aload_n 1, 1) := dk_43 (dk_at dksJ21_rotateLeft_1 16 rfl rfl)
theorem dJ21_rotateLeft_41 : decode cJ21_rotateLeft 41 = .ok (.getfield 124, 3) := dk_180 0 124 (dk_at dksJ21_rotateLeft_1 17 rfl rfl)
theorem dJ21_rotateLeft_44 : decode cJ21_rotateLeft 44 = .ok (.ifnonnull 11, 3) := dk_199 0 11 (dk_at dksJ21_rotateLeft_1 20 rfl rfl)
theorem dJ21_rotateLeft_47 : decode cJ21_rotateLeft 47 = .ok (.aload_n 0, 1) := dk_42 (dk_at dksJ21_rotateLeft_1 23 rfl rfl)
theorem dJ21_rotateLeft_48 : decode cJ21_rotateLeft 48 = .ok (.aload_n 2, 1) := dk_44 (dk_at dksJ21_rotateLeft_2 0 rfl rfl)
theorem dJ21_rotateLeft_49 : decode cJ21_rotateLeft 49 = .ok (.putfield 101, 3) := dk_181 0 101 (dk_at dksJ21_rotateLeft_2 1 rfl rfl)
theorem dJ21_rotateLeft_52 : decode cJ21_rotateLeft 52 = .ok (.goto 33, 3) := dk_167 0 33 (dk_at dksJ21_rotateLeft_2 4 rfl rfl)
theorem dJ21_rotateLeft_55 : decode cJ21_rotateLeft 55 = .ok (.aload_n 1, 1) := dk_43 (dk_at dksJ21_rotateLeft_2 7 rfl rfl)
theorem dJ21_rotateLeft_56 : decode cJ21_rotateLeft 56 = .ok (.getfield 124, 3) := dk_180 0 124 (dk_at dksJ21_rotateLeft_2 8 rfl rfl)
theorem dJ21_rotateLeft_59 : decode cJ21_rotateLeft 59 = .ok (.getfield 111, 3) := dk_180 0 111 (dk_at dksJ21_rotateLeft_2 11 rfl rfl)
theorem dJ21_rotateLeft_62 : decode cJ21_rotateLeft 62 = .ok (.aload_n 1, 1) := dk_43 (dk_at dksJ21_rotateLeft_2 14 rfl rfl)
theorem dJ21_rotateLeft_63 : decode cJ21_rotateLeft 63 = .ok (.if_acmp .ne 14, 3) := dk_166 0 14 (dk_at dksJ21_rotateLeft_2 15 rfl rfl)
theorem dJ21_rotateLeft_66 : decode cJ21_rotateLeft 66 = .ok (.aload_n 1, 1) := dk_43 (dk_at dksJ21_rotateLeft_2 18 rfl rfl)
theorem dJ21_rotateLeft_67 : decode cJ21_rotateLeft 67 = .ok (.getfield 124, 3) := dk_180 0 124 (dk_at dksJ21_rotateLeft_2 19 rfl rfl)
theorem dJ21_rotateLeft_70 : decode cJ21_rotateLeft 70 = .ok (.aload_n 2, 1) := dk_44 (dk_at dksJ21_rotateLeft_2 22 rfl rfl)
theorem dJ21_rotateLeft_71 : decode cJ21_rotateLeft 71 = .ok (.putfield 111, 3) := dk_181 0 111 (dk_at dksJ21_rotateLeft_3 0 rfl rfl)
theorem dJ21_rotateLeft_74 : decode cJ21_rotateLeft 74 = .ok (.goto 11, 3) := dk_167 0 11 (dk_at dksJ21_rotateLeft_3 3 rfl rfl)
theorem dJ21_rotateLeft_77 : decode cJ21_rotateLeft 77 = .ok (.aload_n 1, 1) := dk_43 (dk_at dksJ21_rotateLeft_3 6 rfl rfl)
theorem dJ21_rotateLeft_78 : decode cJ21_rotateLeft 78 = .ok (.getfield 124, 3) := dk_180 0 124 (dk_at dksJ21_rotateLeft_3 7 rfl rfl)
theorem dJ21_rotateLeft_81 : decode cJ21_rotateLeft 81 = .ok (.aload_n 2, 1) := dk_44 (dk_at dksJ21_rotateLeft_3 10 rfl rfl)
theorem dJ21_rotateLeft_82 : decode cJ21_rotateLeft 82 = .ok (.putfield 114, 3) := dk_181 0 114 (dk_at dksJ21_rotateLeft_3 11 rfl rfl)
theorem dJ21_rotateLeft_85 : decode cJ21_rotateLeft 85 = .ok (.aload_n 2, 1) := dk_44 (dk_at dksJ21_rotateLeft_3 14 rfl rfl)
theorem dJ21_rotateLeft_86 : decode cJ21_rotateLeft 86 = .ok (.aload_n 1, 1) := dk_43 (dk_at dksJ21_rotateLeft_3 15 rfl rfl)
theorem dJ21_rotateLeft_87 : decode cJ21_rotateLeft 87 = .ok (.putfield 111, 3) := dk_181 0 111 (dk_at dksJ21_rotateLeft_3 16 rfl rfl)
theorem dJ21_rotateLeft_90 : decode cJ21_rotateLeft 90 = .ok (.aload_n 1, 1) := dk_43 (dk_at dksJ21_rotateLeft_3 19 rfl rfl)
theorem dJ21_rotateLeft_91 : decode cJ21_rotateLeft 91 = .ok (.aload_n 2, 1) := dk_44 (dk_at dksJ21_rotateLeft_3 20 rfl rfl)
theorem dJ21_rotateLeft_92 : decode cJ21_rotateLeft 92 = .ok (.putfield 124, 3) := dk_181 0 124 (dk_at dksJ21_rotateLeft_3 21 rfl rfl)
theorem dJ21_rotateLeft_95 : decode cJ21_rotateLeft 95 = .ok (.return_, 1) := dk_177 (dk_at dksJ21_rotateLeft_4 0 rfl rfl)
abbrev cJ21_rotateRight : ByteArray := prog_87_method_82_code
def yJ21_rotateRight : MethodName := ⟨RJ21, "rotateRight", "(Ljava/util/TreeMap$Entry;)V"⟩
def dkwJ21_rotateRight_4 : List UInt8 := [177]
abbrev dktJ21_rotateRight_4 : List UInt8 := dkwJ21_rotateRight_4 ++ []
def dkwJ21_rotateRight_3 : List UInt8 := [181, 0, 114, 167, 0, 11, 43, 180, 0, 124, 44, 181, 0, 111, 44, 43, 181, 0, 114, 43, 44, 181, 0, 124]
abbrev dktJ21_rotateRight_3 : List UInt8 := dkwJ21_rotateRight_3 ++ dktJ21_rotateRight_4
def dkwJ21_rotateRight_2 : List UInt8 := [44, 181, 0, 101, 167, 0, 33, 43, 180, 0, 124, 180, 0, 114, 43, 166, 0, 14, 43, 180, 0, 124, 44]
abbrev dktJ21_rotateRight_2 : List UInt8 := dkwJ21_rotateRight_2 ++ dktJ21_rotateRight_3
def dkwJ21_rotateRight_1 : List UInt8 := [44, 180, 0, 114, 43, 181, 0, 124, 44, 43, 180, 0, 124, 181, 0, 124, 43, 180, 0, 124, 199, 0, 11, 42]
abbrev dktJ21_rotateRight_1 : List UInt8 := dkwJ21_rotateRight_1 ++ dktJ21_rotateRight_2
def dkwJ21_rotateRight_0 : List UInt8 := [43, 198, 0, 94, 43, 180, 0, 111, 77, 43, 44, 180, 0, 114, 181, 0, 111, 44, 180, 0, 114, 198, 0, 11]
abbrev dktJ21_rotateRight_0 : List UInt8 := dkwJ21_rotateRight_0 ++ dktJ21_rotateRight_1
theorem dksJ21_rotateRight_0 : cJ21_rotateRight.data.toList.drop 0 = dktJ21_rotateRight_0 := by decide +kernel
theorem dksJ21_rotateRight_1 : cJ21_rotateRight.data.toList.drop 24 = dktJ21_rotateRight_1 := dk_seg dksJ21_rotateRight_0 24 rfl rfl
theorem dksJ21_rotateRight_2 : cJ21_rotateRight.data.toList.drop 48 = dktJ21_rotateRight_2 := dk_seg dksJ21_rotateRight_1 24 rfl rfl
theorem dksJ21_rotateRight_3 : cJ21_rotateRight.data.toList.drop 71 = dktJ21_rotateRight_3 := dk_seg dksJ21_rotateRight_2 23 rfl rfl
theorem dksJ21_rotateRight_4 : cJ21_rotateRight.data.toList.drop 95 = dktJ21_rotateRight_4 := dk_seg dksJ21_rotateRight_3 24 rfl rfl
theorem dJ21_rotateRight_0 : decode cJ21_rotateRight 0 = .ok (.aload_n 1, 1) := dk_43 (dk_at dksJ21_rotateRight_0 0 rfl rfl)
theorem dJ21_rotateRight_1 : decode cJ21_rotateRight 1 = .ok (.ifnull 94, 3) := dk_198 0 94 (dk_at dksJ21_rotateRight_0 1 rfl rfl)
theorem dJ21_rotateRight_4 : decode cJ21_rotateRight 4 = .ok (.aload_n 1, 1) := dk_43 (dk_at dksJ21_rotateRight_0 4 rfl rfl)
theorem dJ21_rotateRight_5 : decode cJ21_rotateRight 5 = .ok (.getfield 111, 3) := dk_180 0 111 (dk_at dksJ21_rotateRight_0 5 rfl rfl)
theorem dJ21_rotateRight_8 : decode cJ21_rotateRight 8 = .ok (.astore_n 2, 1) := dk_77 (dk_at dksJ21_rotateRight_0 8 rfl rfl)
theorem dJ21_rotateRight_9 : decode cJ21_rotateRight 9 = .ok (.aload_n 1, 1) := dk_43 (dk_at dksJ21_rotateRight_0 9 rfl rfl)
theorem dJ21_rotateRight_10 : decode cJ21_rotateRight 10 = .ok (.aload_n 2, 1) := dk_44 (dk_at dksJ21_rotateRight_0 10 rfl rfl)
theorem dJ21_rotateRight_11 : decode cJ21_rotateRight 11 = .ok (.getfield 114, 3) := dk_180 0 114 (dk_at dksJ21_rotateRight_0 11 rfl rfl)
theorem dJ21_rotateRight_14 : decode cJ21_rotateRight 14 = .ok (.putfield 111, 3) := dk_181 0 111 (dk_at dksJ21_rotateRight_0 14 rfl rfl)
theorem dJ21_rotateRight_17 : decode cJ21_rotateRight 17 = .ok (.aload_n 2, 1) := dk_44 (dk_at dksJ21_rotateRight_0 17 rfl rfl)
theorem dJ21_rotateRight_18 : decode cJ21_rotateRight 18 = .ok (.getfield 114, 3) := dk_180 0 114 (dk_at dksJ21_rotateRight_0 18 rfl rfl)
theorem dJ21_rotateRight_21 : decode cJ21_rotateRight 21 = .ok (.ifnull 11, 3) := dk_198 0 11 (dk_at dksJ21_rotateRight_0 21 rfl rfl)
theorem dJ21_rotateRight_24 : decode cJ21_rotateRight 24 = .ok (.aload_n 2, 1) := dk_44 (dk_at dksJ21_rotateRight_1 0 rfl rfl)
theorem dJ21_rotateRight_25 : decode cJ21_rotateRight 25 = .ok (.getfield 114, 3) := dk_180 0 114 (dk_at dksJ21_rotateRight_1 1 rfl rfl)
theorem dJ21_rotateRight_28 : decode cJ21_rotateRight 28 = .ok (.aload_n 1, 1) := dk_43 (dk_at dksJ21_rotateRight_1 4 rfl rfl)
theorem dJ21_rotateRight_29 : decode cJ21_rotateRight 29 = .ok (.putfield 124, 3) := dk_181 0 124 (dk_at dksJ21_rotateRight_1 5 rfl rfl)
theorem dJ21_rotateRight_32 : decode cJ21_rotateRight 32 = .ok (.aload_n 2, 1) := dk_44 (dk_at dksJ21_rotateRight_1 8 rfl rfl)
theorem dJ21_rotateRight_33 : decode cJ21_rotateRight 33 = .ok (.aload_n 1, 1) := dk_43 (dk_at dksJ21_rotateRight_1 9 rfl rfl)
theorem dJ21_rotateRight_34 : decode cJ21_rotateRight 34 = .ok (.getfield 124, 3) := dk_180 0 124 (dk_at dksJ21_rotateRight_1 10 rfl rfl)
theorem dJ21_rotateRight_37 : decode cJ21_rotateRight 37 = .ok (.putfield 124, 3) := dk_181 0 124 (dk_at dksJ21_rotateRight_1 13 rfl rfl)
theorem dJ21_rotateRight_40 : decode cJ21_rotateRight 40 = .ok (.aload_n 1, 1) := dk_43 (dk_at dksJ21_rotateRight_1 16 rfl rfl)
theorem dJ21_rotateRight_41 : decode cJ21_rotateRight 41 = .ok (.getfield 124, 3) := dk_180 0 124 (dk_at dksJ21_rotateRight_1 17 rfl rfl)
theorem dJ21_rotateRight_44 : decode cJ21_rotateRight 44 = .ok (.ifnonnull 11, 3) := dk_199 0 11 (dk_at dksJ21_rotateRight_1 20 rfl rfl)
theorem dJ21_rotateRight_47 : decode cJ21_rotateRight 47 = .ok (.aload_n 0, 1) := dk_42 (dk_at dksJ21_rotateRight_1 23 rfl rfl)
theorem dJ21_rotateRight_48 : decode cJ21_rotateRight 48 = .ok (.aload_n 2, 1) := dk_44 (dk_at dksJ21_rotateRight_2 0 rfl rfl)
theorem dJ21_rotateRight_49 : decode cJ21_rotateRight 49 = .ok (.putfield 101, 3) := dk_181 0 101 (dk_at dksJ21_rotateRight_2 1 rfl rfl)
theorem dJ21_rotateRight_52 : decode cJ21_rotateRight 52 = .ok (.goto 33, 3) := dk_167 0 33 (dk_at dksJ21_rotateRight_2 4 rfl rfl)
theorem dJ21_rotateRight_55 : decode cJ21_rotateRight 55 = .ok (.aload_n 1, 1) := dk_43 (dk_at dksJ21_rotateRight_2 7 rfl rfl)
theorem dJ21_rotateRight_56 : decode cJ21_rotateRight 56 = .ok (.getfield 124, 3) := dk_180 0 124 (dk_at dksJ21_rotateRight_2 8 rfl rfl)
theorem dJ21_rotateRight_59 : decode cJ21_rotateRight 59 = .ok (.getfield 114, 3) := dk_180 0 114 (dk_at dksJ21_rotateRight_2 11 rfl rfl)
theorem dJ21_rotateRight_62 : decode cJ21_rotateRight 62 = .ok (.aload_n 1, 1) := dk_43 (dk_at dksJ21_rotateRight_2 14 rfl rfl)
theorem dJ21_rotateRight_63 : decode cJ21_rotateRight 63 = .ok (.if_acmp .ne 14, 3) := dk_166 0 14 (dk_at dksJ21_rotateRight_2 15 rfl rfl)
theorem dJ21_rotateRight_66 : decode cJ21_rotateRight 66 = .ok (.aload_n 1, 1) := dk_43 (dk_at dksJ21_rotateRight_2 18 rfl rfl)
theorem dJ21_rotateRight_67 : decode cJ21_rotateRight 67 = .ok (.getfield 124, 3) := dk_180 0 124 (dk_at dksJ21_rotateRight_2 19 rfl rfl)
theorem dJ21_rotateRight_70 : decode cJ21_rotateRight 70 = .ok (.aload_n 2, 1) := dk_44 (dk_at dksJ21_rotateRight_2 22 rfl rfl)
theorem dJ21_rotateRight_71 : decode cJ21_rotateRight 71 = .ok (.putfield 114, 3) := dk_181 0 114 (dk_at dksJ21_rotateRight_3 0 rfl rfl)
theorem dJ21_rotateRight_74 : decode cJ21_rotateRight 74 = .ok (.goto 11, 3) := dk_167 0 11 (dk_at dksJ21_rotateRight_3 3 rfl rfl)
theorem dJ21_rotateRight_77 : decode cJ21_rotateRight 77 = .ok (.aload_n 1, 1) := dk_43 (dk_at dksJ21_rotateRight_3 6 rfl rfl)
theorem dJ21_rotateRight_78 : decode cJ21_rotateRight 78 = .ok (.getfield 124, 3) := dk_180 0 124 (dk_at dksJ21_rotateRight_3 7 rfl rfl)
theorem dJ21_rotateRight_81 : decode cJ21_rotateRight 81 = .ok (.aload_n 2, 1) := dk_44 (dk_at dksJ21_rotateRight_3 10 rfl rfl)
theorem dJ21_rotateRight_82 : decode cJ21_rotateRight 82 = .ok (.putfield 111, 3) := dk_181 0 111 (dk_at dksJ21_rotateRight_3 11 rfl rfl)
theorem dJ21_rotateRight_85 : decode cJ21_rotateRight 85 = .ok (.aload_n 2, 1) := dk_44 (dk_at dksJ21_rotateRight_3 14 rfl rfl)
theorem dJ21_rotateRight_86 : decode cJ21_rotateRight 86 = .ok (.aload_n 1, 1) := dk_43 (dk_at dksJ21_rotateRight_3 15 rfl rfl)
theorem dJ21_rotateRight_87 : decode cJ21_rotateRight 87 = .ok (.putfield 114, 3) := dk_181 0 114 (dk_at dksJ21_rotateRight_3 16 rfl rfl)
theorem dJ21_rotateRight_90 : decode cJ21_rotateRight 90 = .ok (.aload_n 1, 1) := dk_43 (dk_at dksJ21_rotateRight_3 19 rfl rfl)
theorem dJ21_rotateRight_91 : decode cJ21_rotateRight 91 = .ok (.aload_n 2, 1) := dk_44 (dk_at dksJ21_rotateRight_3 20 rfl rfl)
theorem dJ21_rotateRight_92 : decode cJ21_rotateRight 92 = .ok (.putfield 124, 3) := dk_181 0 124 (dk_at dksJ21_rotateRight_3 21 rfl rfl)
theorem dJ21_rotateRight_95 : decode cJ21_rotateRight 95 = .ok (.return_, 1) := dk_177 (dk_at dksJ21_rotateRight_4 0 rfl rfl)
abbrev cJ21_keySet : ByteArray := prog_87_method_49_code
def yJ21_keySet : MethodName := ⟨RJ21, "keySet", "()Ljava/util/Set;"⟩
theorem dJ21_keySet_0 : decode cJ21_keySet 0 = .ok (.aload_n 0, 1) := by decide +kernel
theorem dJ21_keySet_1 : decode cJ21_keySet 1 = .ok (.invokevirtual 219, 3) := by decide +kernel
theorem dJ21_keySet_4 : decode cJ21_keySet 4 = .ok (.areturn, 1) := by decide +kernel
theorem q116 : (Jvm.Cond.initialized "java/util/TreeMap") ∈ lw_all := lw_g (lw_at lw_m1 30 rfl) rfl
theorem q737 : (Jvm.Cond.selects "java/util/TreeMap" ({ cls := "java/lang/Object", name := "getClass", desc := "()Ljava/lang/Class;" } : Jvm.MethodName) ({ cls := "java/lang/Object", name := "getClass", desc := "()Ljava/lang/Class;" } : Jvm.MethodName)) ∈ lw_all := lw_g (lw_at lw_m3 171 rfl) rfl
theorem q779 : (Jvm.Cond.castable "java/util/TreeMap" "java/util/NavigableMap") ∈ lw_tbl := lw_at lw_m3 213 rfl
theorem q780 : (Jvm.Cond.selects "java/util/TreeMap" ({ cls := "java/util/Map", name := "size", desc := "()I" } : Jvm.MethodName) ({ cls := "java/util/TreeMap", name := "size", desc := "()I" } : Jvm.MethodName)) ∈ lw_all := lw_g (lw_at lw_m3 214 rfl) rfl
theorem q781 : (Jvm.Cond.unhidden "java/util/TreeMap" "size" "()I") ∈ lw_tbl := lw_at lw_m3 215 rfl
theorem q782 : (Jvm.Cond.instanceMethod ({ cls := "java/util/TreeMap", name := "size", desc := "()I" } : Jvm.MethodName)) ∈ lw_all := lw_g (lw_at lw_m3 216 rfl) rfl
theorem q783 : (Jvm.Cond.publicMethod ({ cls := "java/util/TreeMap", name := "size", desc := "()I" } : Jvm.MethodName)) ∈ lw_tbl := lw_at lw_m3 217 rfl
theorem q784 : (Jvm.Cond.code ({ cls := "java/util/TreeMap", name := "size", desc := "()I" } : Jvm.MethodName) prog_87_method_5_code (1 : Nat) (Option.some Jvm.ClassFile.FieldType.int)) ∈ lw_all := lw_g (lw_at lw_m3 218 rfl) rfl
theorem q871 : (Jvm.Cond.instanceMethod ({ cls := "java/util/TreeMap", name := "keyIterator", desc := "()Ljava/util/Iterator;" } : Jvm.MethodName)) ∈ lw_all := lw_g (lw_at lw_m4 65 rfl) rfl
theorem q872 : (Jvm.Cond.selects "java/util/TreeMap" ({ cls := "java/util/TreeMap", name := "keyIterator", desc := "()Ljava/util/Iterator;" } : Jvm.MethodName) ({ cls := "java/util/TreeMap", name := "keyIterator", desc := "()Ljava/util/Iterator;" } : Jvm.MethodName)) ∈ lw_all := lw_g (lw_at lw_m4 66 rfl) rfl
theorem q873 : (Jvm.Cond.code ({ cls := "java/util/TreeMap", name := "keyIterator", desc := "()Ljava/util/Iterator;" } : Jvm.MethodName) prog_87_method_65_code (1 : Nat) (Option.some (Jvm.ClassFile.FieldType.object "java/util/Iterator"))) ∈ lw_all := lw_g (lw_at lw_m4 67 rfl) rfl
theorem q874 : (Jvm.Cond.classLink "java/util/TreeMap" (269 : Nat) "java/util/TreeMap$KeyIterator") ∈ lw_all := lw_g (lw_at lw_m4 68 rfl) rfl
theorem q876 : (Jvm.Cond.methodLink "java/util/TreeMap" (54 : Nat) ({ cls := "java/util/TreeMap", name := "getFirstEntry", desc := "()Ljava/util/TreeMap$Entry;" } : Jvm.MethodName)) ∈ lw_all := lw_g (lw_at lw_m4 70 rfl) rfl
theorem q877 : (Jvm.Cond.instanceMethod ({ cls := "java/util/TreeMap", name := "getFirstEntry", desc := "()Ljava/util/TreeMap$Entry;" } : Jvm.MethodName)) ∈ lw_all := lw_g (lw_at lw_m4 71 rfl) rfl
theorem q878 : (Jvm.Cond.selects "java/util/TreeMap" ({ cls := "java/util/TreeMap", name := "getFirstEntry", desc := "()Ljava/util/TreeMap$Entry;" } : Jvm.MethodName) ({ cls := "java/util/TreeMap", name := "getFirstEntry", desc := "()Ljava/util/TreeMap$Entry;" } : Jvm.MethodName)) ∈ lw_all := lw_g (lw_at lw_m4 72 rfl) rfl
theorem q879 : (Jvm.Cond.code ({ cls := "java/util/TreeMap", name := "getFirstEntry", desc := "()Ljava/util/TreeMap$Entry;" } : Jvm.MethodName) prog_87_method_72_code (2 : Nat) (Option.some (Jvm.ClassFile.FieldType.object "java/util/TreeMap$Entry"))) ∈ lw_all := lw_g (lw_at lw_m4 73 rfl) rfl
theorem q880 : (Jvm.Cond.methodLink "java/util/TreeMap" (271 : Nat) ({ cls := "java/util/TreeMap$KeyIterator", name := "<init>", desc := "(Ljava/util/TreeMap;Ljava/util/TreeMap$Entry;)V" } : Jvm.MethodName)) ∈ lw_all := lw_g (lw_at lw_m4 74 rfl) rfl
theorem q911 : (Jvm.Cond.selects "java/util/TreeMap" ({ cls := "java/util/NavigableMap", name := "navigableKeySet", desc := "()Ljava/util/NavigableSet;" } : Jvm.MethodName) ({ cls := "java/util/TreeMap", name := "navigableKeySet", desc := "()Ljava/util/NavigableSet;" } : Jvm.MethodName)) ∈ lw_all := lw_g (lw_at lw_m4 105 rfl) rfl
theorem q912 : (Jvm.Cond.unhidden "java/util/TreeMap" "navigableKeySet" "()Ljava/util/NavigableSet;") ∈ lw_tbl := lw_at lw_m4 106 rfl
theorem q913 : (Jvm.Cond.instanceMethod ({ cls := "java/util/TreeMap", name := "navigableKeySet", desc := "()Ljava/util/NavigableSet;" } : Jvm.MethodName)) ∈ lw_all := lw_g (lw_at lw_m4 107 rfl) rfl
theorem q914 : (Jvm.Cond.publicMethod ({ cls := "java/util/TreeMap", name := "navigableKeySet", desc := "()Ljava/util/NavigableSet;" } : Jvm.MethodName)) ∈ lw_tbl := lw_at lw_m4 108 rfl
theorem q915 : (Jvm.Cond.code ({ cls := "java/util/TreeMap", name := "navigableKeySet", desc := "()Ljava/util/NavigableSet;" } : Jvm.MethodName) prog_87_method_50_code (2 : Nat) (Option.some (Jvm.ClassFile.FieldType.object "java/util/NavigableSet"))) ∈ lw_all := lw_g (lw_at lw_m4 109 rfl) rfl
theorem q916 : (Jvm.Cond.classLink "java/util/TreeMap" (222 : Nat) "java/util/TreeMap$KeySet") ∈ lw_all := lw_g (lw_at lw_m4 110 rfl) rfl
theorem q918 : (Jvm.Cond.methodLink "java/util/TreeMap" (224 : Nat) ({ cls := "java/util/TreeMap$KeySet", name := "<init>", desc := "(Ljava/util/NavigableMap;)V" } : Jvm.MethodName)) ∈ lw_all := lw_g (lw_at lw_m4 112 rfl) rfl
theorem q1027 : (Jvm.Cond.static ({ cls := "java/util/TreeMap", name := "successor", desc := "(Ljava/util/TreeMap$Entry;)Ljava/util/TreeMap$Entry;" } : Jvm.MethodName)) ∈ lw_all := lw_g (lw_at lw_m4 221 rfl) rfl
theorem q1028 : (Jvm.Cond.code ({ cls := "java/util/TreeMap", name := "successor", desc := "(Ljava/util/TreeMap$Entry;)Ljava/util/TreeMap$Entry;" } : Jvm.MethodName) prog_87_method_74_code (3 : Nat) (Option.some (Jvm.ClassFile.FieldType.object "java/util/TreeMap$Entry"))) ∈ lw_all := lw_g (lw_at lw_m4 222 rfl) rfl
theorem q2078 : (Jvm.Cond.instantiable "java/util/TreeMap" (9 : Nat)) ∈ lw_all := lw_g (lw_at lw_m9 72 rfl) rfl
theorem q2080 : (Jvm.Cond.instanceMethod ({ cls := "java/util/TreeMap", name := "<init>", desc := "()V" } : Jvm.MethodName)) ∈ lw_all := lw_g (lw_at lw_m9 74 rfl) rfl
theorem q2081 : (Jvm.Cond.code ({ cls := "java/util/TreeMap", name := "<init>", desc := "()V" } : Jvm.MethodName) prog_87_method_1_code (1 : Nat) (Option.none : Option Jvm.ClassFile.FieldType)) ∈ lw_all := lw_g (lw_at lw_m9 75 rfl) rfl
theorem q2082 : (Jvm.Cond.methodLink "java/util/TreeMap" (1 : Nat) ({ cls := "java/util/AbstractMap", name := "<init>", desc := "()V" } : Jvm.MethodName)) ∈ lw_all := lw_g (lw_at lw_m9 76 rfl) rfl
theorem q2086 : (Jvm.Cond.fieldLink "java/util/TreeMap" (16 : Nat) "java/util/TreeMap" "comparator" "Ljava/util/Comparator;") ∈ lw_all := lw_g (lw_at lw_m9 80 rfl) rfl
theorem q2087 : (Jvm.Cond.fieldLink "java/util/TreeMap" (101 : Nat) "java/util/TreeMap" "root" "Ljava/util/TreeMap$Entry;") ∈ lw_all := lw_g (lw_at lw_m9 81 rfl) rfl
theorem q2088 : (Jvm.Cond.fieldLink "java/util/TreeMap" (7 : Nat) "java/util/TreeMap" "size" "I") ∈ lw_all := lw_g (lw_at lw_m9 82 rfl) rfl
theorem q2090 : (Jvm.Cond.fieldLink "java/util/TreeMap" (13 : Nat) "java/util/TreeMap" "modCount" "I") ∈ lw_all := lw_g (lw_at lw_m9 84 rfl) rfl
theorem q2091 : (Jvm.Cond.fieldLink "java/util/TreeMap" (191 : Nat) "java/util/TreeMap" "navigableKeySet" "Ljava/util/TreeMap$KeySet;") ∈ lw_all := lw_g (lw_at lw_m9 85 rfl) rfl
theorem q2092 : (Jvm.Cond.laysFinal "java/util/TreeMap" "java/util/TreeMap" "comparator" "Ljava/util/Comparator;") ∈ lw_all := lw_g (lw_at lw_m9 86 rfl) rfl
theorem q2093 : (Jvm.Cond.soleField "java/util/TreeMap" "comparator") ∈ lw_all := lw_g (lw_at lw_m9 87 rfl) rfl
theorem q2094 : (Jvm.Cond.lays "java/util/TreeMap" "java/util/TreeMap" "root" "Ljava/util/TreeMap$Entry;") ∈ lw_all := lw_g (lw_at lw_m9 88 rfl) rfl
theorem q2095 : (Jvm.Cond.soleField "java/util/TreeMap" "root") ∈ lw_all := lw_g (lw_at lw_m9 89 rfl) rfl
theorem q2096 : (Jvm.Cond.lays "java/util/TreeMap" "java/util/TreeMap" "size" "I") ∈ lw_all := lw_g (lw_at lw_m9 90 rfl) rfl
theorem q2097 : (Jvm.Cond.soleField "java/util/TreeMap" "size") ∈ lw_all := lw_g (lw_at lw_m9 91 rfl) rfl
theorem q2098 : (Jvm.Cond.lays "java/util/TreeMap" "java/util/TreeMap" "modCount" "I") ∈ lw_all := lw_g (lw_at lw_m9 92 rfl) rfl
theorem q2099 : (Jvm.Cond.soleField "java/util/TreeMap" "modCount") ∈ lw_all := lw_g (lw_at lw_m9 93 rfl) rfl
theorem q2100 : (Jvm.Cond.lays "java/util/TreeMap" "java/util/TreeMap" "entrySet" "Ljava/util/TreeMap$EntrySet;") ∈ lw_all := lw_g (lw_at lw_m9 94 rfl) rfl
theorem q2101 : (Jvm.Cond.soleField "java/util/TreeMap" "entrySet") ∈ lw_all := lw_g (lw_at lw_m9 95 rfl) rfl
theorem q2102 : (Jvm.Cond.lays "java/util/TreeMap" "java/util/TreeMap" "navigableKeySet" "Ljava/util/TreeMap$KeySet;") ∈ lw_all := lw_g (lw_at lw_m9 96 rfl) rfl
theorem q2103 : (Jvm.Cond.soleField "java/util/TreeMap" "navigableKeySet") ∈ lw_all := lw_g (lw_at lw_m9 97 rfl) rfl
theorem q2104 : (Jvm.Cond.lays "java/util/TreeMap" "java/util/TreeMap" "descendingMap" "Ljava/util/NavigableMap;") ∈ lw_all := lw_g (lw_at lw_m9 98 rfl) rfl
theorem q2105 : (Jvm.Cond.soleField "java/util/TreeMap" "descendingMap") ∈ lw_all := lw_g (lw_at lw_m9 99 rfl) rfl
theorem q2106 : (Jvm.Cond.lays "java/util/TreeMap" "java/util/AbstractMap" "keySet" "Ljava/util/Set;") ∈ lw_all := lw_g (lw_at lw_m9 100 rfl) rfl
theorem q2108 : (Jvm.Cond.lays "java/util/TreeMap" "java/util/AbstractMap" "values" "Ljava/util/Collection;") ∈ lw_all := lw_g (lw_at lw_m9 102 rfl) rfl
theorem q2110 : (Jvm.Cond.superclass "java/util/TreeMap" "java/util/AbstractMap") ∈ lw_all := lw_g (lw_at lw_m9 104 rfl) rfl
theorem q2499 : (Jvm.Cond.instanceMethod ({ cls := "java/util/TreeMap", name := "get", desc := "(Ljava/lang/Object;)Ljava/lang/Object;" } : Jvm.MethodName)) ∈ lw_all := lw_g (lw_at lw_m11 13 rfl) rfl
theorem q2500 : (Jvm.Cond.selects "java/util/TreeMap" ({ cls := "java/util/TreeMap", name := "get", desc := "(Ljava/lang/Object;)Ljava/lang/Object;" } : Jvm.MethodName) ({ cls := "java/util/TreeMap", name := "get", desc := "(Ljava/lang/Object;)Ljava/lang/Object;" } : Jvm.MethodName)) ∈ lw_all := lw_g (lw_at lw_m11 14 rfl) rfl
theorem q2501 : (Jvm.Cond.code ({ cls := "java/util/TreeMap", name := "get", desc := "(Ljava/lang/Object;)Ljava/lang/Object;" } : Jvm.MethodName) prog_87_method_8_code (3 : Nat) (Option.some (Jvm.ClassFile.FieldType.object "java/lang/Object"))) ∈ lw_all := lw_g (lw_at lw_m11 15 rfl) rfl
theorem q2502 : (Jvm.Cond.methodLink "java/util/TreeMap" (50 : Nat) ({ cls := "java/util/TreeMap", name := "getEntry", desc := "(Ljava/lang/Object;)Ljava/util/TreeMap$Entry;" } : Jvm.MethodName)) ∈ lw_all := lw_g (lw_at lw_m11 16 rfl) rfl
theorem q2503 : (Jvm.Cond.instanceMethod ({ cls := "java/util/TreeMap", name := "getEntry", desc := "(Ljava/lang/Object;)Ljava/util/TreeMap$Entry;" } : Jvm.MethodName)) ∈ lw_all := lw_g (lw_at lw_m11 17 rfl) rfl
theorem q2504 : (Jvm.Cond.selects "java/util/TreeMap" ({ cls := "java/util/TreeMap", name := "getEntry", desc := "(Ljava/lang/Object;)Ljava/util/TreeMap$Entry;" } : Jvm.MethodName) ({ cls := "java/util/TreeMap", name := "getEntry", desc := "(Ljava/lang/Object;)Ljava/util/TreeMap$Entry;" } : Jvm.MethodName)) ∈ lw_all := lw_g (lw_at lw_m11 18 rfl) rfl
theorem q2505 : (Jvm.Cond.code ({ cls := "java/util/TreeMap", name := "getEntry", desc := "(Ljava/lang/Object;)Ljava/util/TreeMap$Entry;" } : Jvm.MethodName) prog_87_method_15_code (5 : Nat) (Option.some (Jvm.ClassFile.FieldType.object "java/util/TreeMap$Entry"))) ∈ lw_all := lw_g (lw_at lw_m11 19 rfl) rfl
theorem q2506 : (Jvm.Cond.methodLink "java/util/TreeMap" (92 : Nat) ({ cls := "java/util/TreeMap", name := "getEntryUsingComparator", desc := "(Ljava/lang/Object;)Ljava/util/TreeMap$Entry;" } : Jvm.MethodName)) ∈ lw_all := lw_g (lw_at lw_m11 20 rfl) rfl
theorem q2507 : (Jvm.Cond.instanceMethod ({ cls := "java/util/TreeMap", name := "getEntryUsingComparator", desc := "(Ljava/lang/Object;)Ljava/util/TreeMap$Entry;" } : Jvm.MethodName)) ∈ lw_all := lw_g (lw_at lw_m11 21 rfl) rfl
theorem q2508 : (Jvm.Cond.selects "java/util/TreeMap" ({ cls := "java/util/TreeMap", name := "getEntryUsingComparator", desc := "(Ljava/lang/Object;)Ljava/util/TreeMap$Entry;" } : Jvm.MethodName) ({ cls := "java/util/TreeMap", name := "getEntryUsingComparator", desc := "(Ljava/lang/Object;)Ljava/util/TreeMap$Entry;" } : Jvm.MethodName)) ∈ lw_all := lw_g (lw_at lw_m11 22 rfl) rfl
theorem q2509 : (Jvm.Cond.code ({ cls := "java/util/TreeMap", name := "getEntryUsingComparator", desc := "(Ljava/lang/Object;)Ljava/util/TreeMap$Entry;" } : Jvm.MethodName) prog_87_method_16_code (6 : Nat) (Option.some (Jvm.ClassFile.FieldType.object "java/util/TreeMap$Entry"))) ∈ lw_all := lw_g (lw_at lw_m11 23 rfl) rfl
theorem q2510 : (Jvm.Cond.interfaceEntry "java/util/TreeMap" (117 : Nat)) ∈ lw_tbl := lw_at lw_m11 24 rfl
theorem q2511 : (Jvm.Cond.methodLink "java/util/TreeMap" (117 : Nat) ({ cls := "java/util/Comparator", name := "compare", desc := "(Ljava/lang/Object;Ljava/lang/Object;)I" } : Jvm.MethodName)) ∈ lw_all := lw_g (lw_at lw_m11 25 rfl) rfl
theorem q2512 : (Jvm.Cond.methodLink "java/util/TreeMap" (95 : Nat) ({ cls := "java/util/Objects", name := "requireNonNull", desc := "(Ljava/lang/Object;)Ljava/lang/Object;" } : Jvm.MethodName)) ∈ lw_all := lw_g (lw_at lw_m11 26 rfl) rfl
theorem q2515 : (Jvm.Cond.classLink "java/util/TreeMap" (99 : Nat) "java/lang/Comparable") ∈ lw_all := lw_g (lw_at lw_m11 29 rfl) rfl
theorem q2516 : (Jvm.Cond.interfaceEntry "java/util/TreeMap" (107 : Nat)) ∈ lw_tbl := lw_at lw_m11 30 rfl
theorem q2517 : (Jvm.Cond.methodLink "java/util/TreeMap" (107 : Nat) ({ cls := "java/lang/Comparable", name := "compareTo", desc := "(Ljava/lang/Object;)I" } : Jvm.MethodName)) ∈ lw_all := lw_g (lw_at lw_m11 31 rfl) rfl
theorem q2524 : (Jvm.Cond.instanceMethod ({ cls := "java/util/TreeMap", name := "put", desc := "(Ljava/lang/Object;Ljava/lang/Object;)Ljava/lang/Object;" } : Jvm.MethodName)) ∈ lw_all := lw_g (lw_at lw_m11 38 rfl) rfl
theorem q2525 : (Jvm.Cond.selects "java/util/TreeMap" ({ cls := "java/util/TreeMap", name := "put", desc := "(Ljava/lang/Object;Ljava/lang/Object;)Ljava/lang/Object;" } : Jvm.MethodName) ({ cls := "java/util/TreeMap", name := "put", desc := "(Ljava/lang/Object;Ljava/lang/Object;)Ljava/lang/Object;" } : Jvm.MethodName)) ∈ lw_all := lw_g (lw_at lw_m11 39 rfl) rfl
theorem q2526 : (Jvm.Cond.code ({ cls := "java/util/TreeMap", name := "put", desc := "(Ljava/lang/Object;Ljava/lang/Object;)Ljava/lang/Object;" } : Jvm.MethodName) prog_87_method_21_code (3 : Nat) (Option.some (Jvm.ClassFile.FieldType.object "java/lang/Object"))) ∈ lw_all := lw_g (lw_at lw_m11 40 rfl) rfl
theorem q2527 : (Jvm.Cond.methodLink "java/util/TreeMap" (127 : Nat) ({ cls := "java/util/TreeMap", name := "put", desc := "(Ljava/lang/Object;Ljava/lang/Object;Z)Ljava/lang/Object;" } : Jvm.MethodName)) ∈ lw_all := lw_g (lw_at lw_m11 41 rfl) rfl
theorem q2528 : (Jvm.Cond.privateMethod ({ cls := "java/util/TreeMap", name := "put", desc := "(Ljava/lang/Object;Ljava/lang/Object;Z)Ljava/lang/Object;" } : Jvm.MethodName)) ∈ lw_tbl := lw_at lw_m11 42 rfl
theorem q2529 : (Jvm.Cond.instanceMethod ({ cls := "java/util/TreeMap", name := "put", desc := "(Ljava/lang/Object;Ljava/lang/Object;Z)Ljava/lang/Object;" } : Jvm.MethodName)) ∈ lw_all := lw_g (lw_at lw_m11 43 rfl) rfl
theorem q2530 : (Jvm.Cond.code ({ cls := "java/util/TreeMap", name := "put", desc := "(Ljava/lang/Object;Ljava/lang/Object;Z)Ljava/lang/Object;" } : Jvm.MethodName) prog_87_method_31_code (10 : Nat) (Option.some (Jvm.ClassFile.FieldType.object "java/lang/Object"))) ∈ lw_all := lw_g (lw_at lw_m11 44 rfl) rfl
theorem q2531 : (Jvm.Cond.methodLink "java/util/TreeMap" (135 : Nat) ({ cls := "java/util/TreeMap", name := "addEntryToEmptyMap", desc := "(Ljava/lang/Object;Ljava/lang/Object;)V" } : Jvm.MethodName)) ∈ lw_all := lw_g (lw_at lw_m11 45 rfl) rfl
theorem q2532 : (Jvm.Cond.privateMethod ({ cls := "java/util/TreeMap", name := "addEntryToEmptyMap", desc := "(Ljava/lang/Object;Ljava/lang/Object;)V" } : Jvm.MethodName)) ∈ lw_tbl := lw_at lw_m11 46 rfl
theorem q2533 : (Jvm.Cond.instanceMethod ({ cls := "java/util/TreeMap", name := "addEntryToEmptyMap", desc := "(Ljava/lang/Object;Ljava/lang/Object;)V" } : Jvm.MethodName)) ∈ lw_all := lw_g (lw_at lw_m11 47 rfl) rfl
theorem q2534 : (Jvm.Cond.code ({ cls := "java/util/TreeMap", name := "addEntryToEmptyMap", desc := "(Ljava/lang/Object;Ljava/lang/Object;)V" } : Jvm.MethodName) prog_87_method_30_code (3 : Nat) (Option.none : Option Jvm.ClassFile.FieldType)) ∈ lw_all := lw_g (lw_at lw_m11 48 rfl) rfl
theorem q2535 : (Jvm.Cond.methodLink "java/util/TreeMap" (123 : Nat) ({ cls := "java/util/TreeMap", name := "compare", desc := "(Ljava/lang/Object;Ljava/lang/Object;)I" } : Jvm.MethodName)) ∈ lw_all := lw_g (lw_at lw_m11 49 rfl) rfl
theorem q2536 : (Jvm.Cond.instanceMethod ({ cls := "java/util/TreeMap", name := "compare", desc := "(Ljava/lang/Object;Ljava/lang/Object;)I" } : Jvm.MethodName)) ∈ lw_all := lw_g (lw_at lw_m11 50 rfl) rfl
theorem q2537 : (Jvm.Cond.selects "java/util/TreeMap" ({ cls := "java/util/TreeMap", name := "compare", desc := "(Ljava/lang/Object;Ljava/lang/Object;)I" } : Jvm.MethodName) ({ cls := "java/util/TreeMap", name := "compare", desc := "(Ljava/lang/Object;Ljava/lang/Object;)I" } : Jvm.MethodName)) ∈ lw_all := lw_g (lw_at lw_m11 51 rfl) rfl
theorem q2538 : (Jvm.Cond.code ({ cls := "java/util/TreeMap", name := "compare", desc := "(Ljava/lang/Object;Ljava/lang/Object;)I" } : Jvm.MethodName) prog_87_method_67_code (3 : Nat) (Option.some Jvm.ClassFile.FieldType.int)) ∈ lw_all := lw_g (lw_at lw_m11 52 rfl) rfl
theorem q2539 : (Jvm.Cond.classLink "java/util/TreeMap" (59 : Nat) "java/util/TreeMap$Entry") ∈ lw_all := lw_g (lw_at lw_m11 53 rfl) rfl
theorem q2541 : (Jvm.Cond.methodLink "java/util/TreeMap" (167 : Nat) ({ cls := "java/util/TreeMap$Entry", name := "<init>", desc := "(Ljava/lang/Object;Ljava/lang/Object;Ljava/util/TreeMap$Entry;)V" } : Jvm.MethodName)) ∈ lw_all := lw_g (lw_at lw_m11 55 rfl) rfl
theorem q2547 : (Jvm.Cond.fieldLink "java/util/TreeMap" (105 : Nat) "java/util/TreeMap$Entry" "key" "Ljava/lang/Object;") ∈ lw_all := lw_g (lw_at lw_m11 61 rfl) rfl
theorem q2549 : (Jvm.Cond.fieldLink "java/util/TreeMap" (58 : Nat) "java/util/TreeMap$Entry" "value" "Ljava/lang/Object;") ∈ lw_all := lw_g (lw_at lw_m11 63 rfl) rfl
theorem q2550 : (Jvm.Cond.fieldLink "java/util/TreeMap" (111 : Nat) "java/util/TreeMap$Entry" "left" "Ljava/util/TreeMap$Entry;") ∈ lw_all := lw_g (lw_at lw_m11 64 rfl) rfl
theorem q2551 : (Jvm.Cond.fieldLink "java/util/TreeMap" (114 : Nat) "java/util/TreeMap$Entry" "right" "Ljava/util/TreeMap$Entry;") ∈ lw_all := lw_g (lw_at lw_m11 65 rfl) rfl
theorem q2553 : (Jvm.Cond.fieldLink "java/util/TreeMap" (124 : Nat) "java/util/TreeMap$Entry" "parent" "Ljava/util/TreeMap$Entry;") ∈ lw_all := lw_g (lw_at lw_m11 67 rfl) rfl
theorem q2555 : (Jvm.Cond.fieldLink "java/util/TreeMap" (290 : Nat) "java/util/TreeMap$Entry" "color" "Z") ∈ lw_all := lw_g (lw_at lw_m11 69 rfl) rfl
theorem q2569 : (Jvm.Cond.methodLink "java/util/TreeMap" (139 : Nat) ({ cls := "java/util/TreeMap", name := "addEntry", desc := "(Ljava/lang/Object;Ljava/lang/Object;Ljava/util/TreeMap$Entry;Z)V" } : Jvm.MethodName)) ∈ lw_all := lw_g (lw_at lw_m11 83 rfl) rfl
theorem q2570 : (Jvm.Cond.privateMethod ({ cls := "java/util/TreeMap", name := "addEntry", desc := "(Ljava/lang/Object;Ljava/lang/Object;Ljava/util/TreeMap$Entry;Z)V" } : Jvm.MethodName)) ∈ lw_tbl := lw_at lw_m11 84 rfl
theorem q2571 : (Jvm.Cond.instanceMethod ({ cls := "java/util/TreeMap", name := "addEntry", desc := "(Ljava/lang/Object;Ljava/lang/Object;Ljava/util/TreeMap$Entry;Z)V" } : Jvm.MethodName)) ∈ lw_all := lw_g (lw_at lw_m11 85 rfl) rfl
theorem q2572 : (Jvm.Cond.code ({ cls := "java/util/TreeMap", name := "addEntry", desc := "(Ljava/lang/Object;Ljava/lang/Object;Ljava/util/TreeMap$Entry;Z)V" } : Jvm.MethodName) prog_87_method_29_code (6 : Nat) (Option.none : Option Jvm.ClassFile.FieldType)) ∈ lw_all := lw_g (lw_at lw_m11 86 rfl) rfl
theorem q2573 : (Jvm.Cond.methodLink "java/util/TreeMap" (170 : Nat) ({ cls := "java/util/TreeMap", name := "fixAfterInsertion", desc := "(Ljava/util/TreeMap$Entry;)V" } : Jvm.MethodName)) ∈ lw_all := lw_g (lw_at lw_m11 87 rfl) rfl
theorem q2574 : (Jvm.Cond.privateMethod ({ cls := "java/util/TreeMap", name := "fixAfterInsertion", desc := "(Ljava/util/TreeMap$Entry;)V" } : Jvm.MethodName)) ∈ lw_tbl := lw_at lw_m11 88 rfl
theorem q2575 : (Jvm.Cond.instanceMethod ({ cls := "java/util/TreeMap", name := "fixAfterInsertion", desc := "(Ljava/util/TreeMap$Entry;)V" } : Jvm.MethodName)) ∈ lw_all := lw_g (lw_at lw_m11 89 rfl) rfl
theorem q2576 : (Jvm.Cond.code ({ cls := "java/util/TreeMap", name := "fixAfterInsertion", desc := "(Ljava/util/TreeMap$Entry;)V" } : Jvm.MethodName) prog_87_method_83_code (3 : Nat) (Option.none : Option Jvm.ClassFile.FieldType)) ∈ lw_all := lw_g (lw_at lw_m11 90 rfl) rfl
theorem q2577 : (Jvm.Cond.methodLink "java/util/TreeMap" (294 : Nat) ({ cls := "java/util/TreeMap", name := "parentOf", desc := "(Ljava/util/TreeMap$Entry;)Ljava/util/TreeMap$Entry;" } : Jvm.MethodName)) ∈ lw_all := lw_g (lw_at lw_m11 91 rfl) rfl
theorem q2578 : (Jvm.Cond.static ({ cls := "java/util/TreeMap", name := "parentOf", desc := "(Ljava/util/TreeMap$Entry;)Ljava/util/TreeMap$Entry;" } : Jvm.MethodName)) ∈ lw_all := lw_g (lw_at lw_m11 92 rfl) rfl
theorem q2579 : (Jvm.Cond.code ({ cls := "java/util/TreeMap", name := "parentOf", desc := "(Ljava/util/TreeMap$Entry;)Ljava/util/TreeMap$Entry;" } : Jvm.MethodName) prog_87_method_77_code (1 : Nat) (Option.some (Jvm.ClassFile.FieldType.object "java/util/TreeMap$Entry"))) ∈ lw_all := lw_g (lw_at lw_m11 93 rfl) rfl
theorem q2580 : (Jvm.Cond.methodLink "java/util/TreeMap" (297 : Nat) ({ cls := "java/util/TreeMap", name := "leftOf", desc := "(Ljava/util/TreeMap$Entry;)Ljava/util/TreeMap$Entry;" } : Jvm.MethodName)) ∈ lw_all := lw_g (lw_at lw_m11 94 rfl) rfl
theorem q2581 : (Jvm.Cond.static ({ cls := "java/util/TreeMap", name := "leftOf", desc := "(Ljava/util/TreeMap$Entry;)Ljava/util/TreeMap$Entry;" } : Jvm.MethodName)) ∈ lw_all := lw_g (lw_at lw_m11 95 rfl) rfl
theorem q2582 : (Jvm.Cond.code ({ cls := "java/util/TreeMap", name := "leftOf", desc := "(Ljava/util/TreeMap$Entry;)Ljava/util/TreeMap$Entry;" } : Jvm.MethodName) prog_87_method_79_code (1 : Nat) (Option.some (Jvm.ClassFile.FieldType.object "java/util/TreeMap$Entry"))) ∈ lw_all := lw_g (lw_at lw_m11 96 rfl) rfl
theorem q2583 : (Jvm.Cond.methodLink "java/util/TreeMap" (300 : Nat) ({ cls := "java/util/TreeMap", name := "rightOf", desc := "(Ljava/util/TreeMap$Entry;)Ljava/util/TreeMap$Entry;" } : Jvm.MethodName)) ∈ lw_all := lw_g (lw_at lw_m11 97 rfl) rfl
theorem q2584 : (Jvm.Cond.static ({ cls := "java/util/TreeMap", name := "rightOf", desc := "(Ljava/util/TreeMap$Entry;)Ljava/util/TreeMap$Entry;" } : Jvm.MethodName)) ∈ lw_all := lw_g (lw_at lw_m11 98 rfl) rfl
theorem q2585 : (Jvm.Cond.code ({ cls := "java/util/TreeMap", name := "rightOf", desc := "(Ljava/util/TreeMap$Entry;)Ljava/util/TreeMap$Entry;" } : Jvm.MethodName) prog_87_method_80_code (1 : Nat) (Option.some (Jvm.ClassFile.FieldType.object "java/util/TreeMap$Entry"))) ∈ lw_all := lw_g (lw_at lw_m11 99 rfl) rfl
theorem q2586 : (Jvm.Cond.methodLink "java/util/TreeMap" (303 : Nat) ({ cls := "java/util/TreeMap", name := "colorOf", desc := "(Ljava/util/TreeMap$Entry;)Z" } : Jvm.MethodName)) ∈ lw_all := lw_g (lw_at lw_m11 100 rfl) rfl
theorem q2587 : (Jvm.Cond.static ({ cls := "java/util/TreeMap", name := "colorOf", desc := "(Ljava/util/TreeMap$Entry;)Z" } : Jvm.MethodName)) ∈ lw_all := lw_g (lw_at lw_m11 101 rfl) rfl
theorem q2588 : (Jvm.Cond.code ({ cls := "java/util/TreeMap", name := "colorOf", desc := "(Ljava/util/TreeMap$Entry;)Z" } : Jvm.MethodName) prog_87_method_76_code (1 : Nat) (Option.some Jvm.ClassFile.FieldType.boolean)) ∈ lw_all := lw_g (lw_at lw_m11 102 rfl) rfl
theorem q2589 : (Jvm.Cond.methodLink "java/util/TreeMap" (307 : Nat) ({ cls := "java/util/TreeMap", name := "setColor", desc := "(Ljava/util/TreeMap$Entry;Z)V" } : Jvm.MethodName)) ∈ lw_all := lw_g (lw_at lw_m11 103 rfl) rfl
theorem q2590 : (Jvm.Cond.static ({ cls := "java/util/TreeMap", name := "setColor", desc := "(Ljava/util/TreeMap$Entry;Z)V" } : Jvm.MethodName)) ∈ lw_all := lw_g (lw_at lw_m11 104 rfl) rfl
theorem q2591 : (Jvm.Cond.code ({ cls := "java/util/TreeMap", name := "setColor", desc := "(Ljava/util/TreeMap$Entry;Z)V" } : Jvm.MethodName) prog_87_method_78_code (2 : Nat) (Option.none : Option Jvm.ClassFile.FieldType)) ∈ lw_all := lw_g (lw_at lw_m11 105 rfl) rfl
theorem q2592 : (Jvm.Cond.methodLink "java/util/TreeMap" (311 : Nat) ({ cls := "java/util/TreeMap", name := "rotateLeft", desc := "(Ljava/util/TreeMap$Entry;)V" } : Jvm.MethodName)) ∈ lw_all := lw_g (lw_at lw_m11 106 rfl) rfl
theorem q2593 : (Jvm.Cond.privateMethod ({ cls := "java/util/TreeMap", name := "rotateLeft", desc := "(Ljava/util/TreeMap$Entry;)V" } : Jvm.MethodName)) ∈ lw_tbl := lw_at lw_m11 107 rfl
theorem q2594 : (Jvm.Cond.instanceMethod ({ cls := "java/util/TreeMap", name := "rotateLeft", desc := "(Ljava/util/TreeMap$Entry;)V" } : Jvm.MethodName)) ∈ lw_all := lw_g (lw_at lw_m11 108 rfl) rfl
theorem q2595 : (Jvm.Cond.code ({ cls := "java/util/TreeMap", name := "rotateLeft", desc := "(Ljava/util/TreeMap$Entry;)V" } : Jvm.MethodName) prog_87_method_81_code (3 : Nat) (Option.none : Option Jvm.ClassFile.FieldType)) ∈ lw_all := lw_g (lw_at lw_m11 109 rfl) rfl
theorem q2596 : (Jvm.Cond.methodLink "java/util/TreeMap" (314 : Nat) ({ cls := "java/util/TreeMap", name := "rotateRight", desc := "(Ljava/util/TreeMap$Entry;)V" } : Jvm.MethodName)) ∈ lw_all := lw_g (lw_at lw_m11 110 rfl) rfl
theorem q2597 : (Jvm.Cond.privateMethod ({ cls := "java/util/TreeMap", name := "rotateRight", desc := "(Ljava/util/TreeMap$Entry;)V" } : Jvm.MethodName)) ∈ lw_tbl := lw_at lw_m11 111 rfl
theorem q2598 : (Jvm.Cond.instanceMethod ({ cls := "java/util/TreeMap", name := "rotateRight", desc := "(Ljava/util/TreeMap$Entry;)V" } : Jvm.MethodName)) ∈ lw_all := lw_g (lw_at lw_m11 112 rfl) rfl
theorem q2599 : (Jvm.Cond.code ({ cls := "java/util/TreeMap", name := "rotateRight", desc := "(Ljava/util/TreeMap$Entry;)V" } : Jvm.MethodName) prog_87_method_82_code (3 : Nat) (Option.none : Option Jvm.ClassFile.FieldType)) ∈ lw_all := lw_g (lw_at lw_m11 113 rfl) rfl
theorem q2689 : (Jvm.Cond.instanceMethod ({ cls := "java/util/TreeMap", name := "keySet", desc := "()Ljava/util/Set;" } : Jvm.MethodName)) ∈ lw_all := lw_g (lw_at lw_m11 203 rfl) rfl
theorem q2690 : (Jvm.Cond.selects "java/util/TreeMap" ({ cls := "java/util/TreeMap", name := "keySet", desc := "()Ljava/util/Set;" } : Jvm.MethodName) ({ cls := "java/util/TreeMap", name := "keySet", desc := "()Ljava/util/Set;" } : Jvm.MethodName)) ∈ lw_all := lw_g (lw_at lw_m11 204 rfl) rfl
theorem q2691 : (Jvm.Cond.code ({ cls := "java/util/TreeMap", name := "keySet", desc := "()Ljava/util/Set;" } : Jvm.MethodName) prog_87_method_49_code (1 : Nat) (Option.some (Jvm.ClassFile.FieldType.object "java/util/Set"))) ∈ lw_all := lw_g (lw_at lw_m11 205 rfl) rfl
theorem q2692 : (Jvm.Cond.methodLink "java/util/TreeMap" (219 : Nat) ({ cls := "java/util/TreeMap", name := "navigableKeySet", desc := "()Ljava/util/NavigableSet;" } : Jvm.MethodName)) ∈ lw_all := lw_g (lw_at lw_m11 206 rfl) rfl
theorem q2821 : (Jvm.Cond.selects "java/util/TreeMap" ({ cls := "java/util/Map", name := "put", desc := "(Ljava/lang/Object;Ljava/lang/Object;)Ljava/lang/Object;" } : Jvm.MethodName) ({ cls := "java/util/TreeMap", name := "put", desc := "(Ljava/lang/Object;Ljava/lang/Object;)Ljava/lang/Object;" } : Jvm.MethodName)) ∈ lw_all := lw_g (lw_at lw_m12 95 rfl) rfl
theorem q2822 : (Jvm.Cond.unhidden "java/util/TreeMap" "put" "(Ljava/lang/Object;Ljava/lang/Object;)Ljava/lang/Object;") ∈ lw_tbl := lw_at lw_m12 96 rfl
theorem q2823 : (Jvm.Cond.publicMethod ({ cls := "java/util/TreeMap", name := "put", desc := "(Ljava/lang/Object;Ljava/lang/Object;)Ljava/lang/Object;" } : Jvm.MethodName)) ∈ lw_tbl := lw_at lw_m12 97 rfl
theorem q3325 : (Jvm.Cond.selects "java/util/TreeMap" ({ cls := "java/util/TreeMap", name := "navigableKeySet", desc := "()Ljava/util/NavigableSet;" } : Jvm.MethodName) ({ cls := "java/util/TreeMap", name := "navigableKeySet", desc := "()Ljava/util/NavigableSet;" } : Jvm.MethodName)) ∈ lw_all := lw_g (lw_at lw_m14 119 rfl) rfl
theorem q3362 : (Jvm.Cond.castable "java/util/TreeMap" "java/lang/Object") ∈ lw_tbl := lw_at lw_m14 156 rfl
theorem in_J21 : ∀ w ∈ wsJ210, w ∈ lw_all := lw_in wsJ210 [2106, 2108, 2092, 2094, 2096, 2098, 2100, 2102, 2104] (by decide +kernel) (by decide +kernel)

end
section
/-! jdk/internal/util/ArraysSupport -/
set_option maxRecDepth 100000
def RJ22 : String := "jdk/internal/util/ArraysSupport"
abbrev cJ22_newLength : ByteArray := prog_97_method_27_code
def yJ22_newLength : MethodName := ⟨RJ22, "newLength", "(III)I"⟩
def dkwJ22_newLength_1 : List UInt8 := [184, 0, 201, 172]
abbrev dktJ22_newLength_1 : List UInt8 := dkwJ22_newLength_1 ++ []
def dkwJ22_newLength_0 : List UInt8 := [26, 27, 28, 184, 0, 194, 96, 62, 3, 29, 162, 0, 11, 29, 18, 200, 163, 0, 5, 29, 172, 26, 27]
abbrev dktJ22_newLength_0 : List UInt8 := dkwJ22_newLength_0 ++ dktJ22_newLength_1
theorem dksJ22_newLength_0 : cJ22_newLength.data.toList.drop 0 = dktJ22_newLength_0 := by decide +kernel
theorem dksJ22_newLength_1 : cJ22_newLength.data.toList.drop 23 = dktJ22_newLength_1 := dk_seg dksJ22_newLength_0 23 rfl rfl
theorem dJ22_newLength_0 : decode cJ22_newLength 0 = .ok (.iload_n 0, 1) := dk_26 (dk_at dksJ22_newLength_0 0 rfl rfl)
theorem dJ22_newLength_1 : decode cJ22_newLength 1 = .ok (.iload_n 1, 1) := dk_27 (dk_at dksJ22_newLength_0 1 rfl rfl)
theorem dJ22_newLength_2 : decode cJ22_newLength 2 = .ok (.iload_n 2, 1) := dk_28 (dk_at dksJ22_newLength_0 2 rfl rfl)
theorem dJ22_newLength_3 : decode cJ22_newLength 3 = .ok (.invokestatic 194, 3) := dk_184 0 194 (dk_at dksJ22_newLength_0 3 rfl rfl)
theorem dJ22_newLength_6 : decode cJ22_newLength 6 = .ok (.iadd, 1) := dk_96 (dk_at dksJ22_newLength_0 6 rfl rfl)
theorem dJ22_newLength_7 : decode cJ22_newLength 7 = .ok (.istore_n 3, 1) := dk_62 (dk_at dksJ22_newLength_0 7 rfl rfl)
theorem dJ22_newLength_8 : decode cJ22_newLength 8 = .ok (.iconst 0, 1) := dk_3 (dk_at dksJ22_newLength_0 8 rfl rfl)
theorem dJ22_newLength_9 : decode cJ22_newLength 9 = .ok (.iload_n 3, 1) := dk_29 (dk_at dksJ22_newLength_0 9 rfl rfl)
theorem dJ22_newLength_10 : decode cJ22_newLength 10 = .ok (.if_icmp .ge 11, 3) := dk_162 0 11 (dk_at dksJ22_newLength_0 10 rfl rfl)
theorem dJ22_newLength_13 : decode cJ22_newLength 13 = .ok (.iload_n 3, 1) := dk_29 (dk_at dksJ22_newLength_0 13 rfl rfl)
theorem dJ22_newLength_14 : decode cJ22_newLength 14 = .ok (.ldc 200, 2) := dk_18 200 (dk_at dksJ22_newLength_0 14 rfl rfl)
theorem dJ22_newLength_16 : decode cJ22_newLength 16 = .ok (.if_icmp .gt 5, 3) := dk_163 0 5 (dk_at dksJ22_newLength_0 16 rfl rfl)
theorem dJ22_newLength_19 : decode cJ22_newLength 19 = .ok (.iload_n 3, 1) := dk_29 (dk_at dksJ22_newLength_0 19 rfl rfl)
theorem dJ22_newLength_20 : decode cJ22_newLength 20 = .ok (.ireturn, 1) := dk_172 (dk_at dksJ22_newLength_0 20 rfl rfl)
theorem dJ22_newLength_21 : decode cJ22_newLength 21 = .ok (.iload_n 0, 1) := dk_26 (dk_at dksJ22_newLength_0 21 rfl rfl)
theorem dJ22_newLength_22 : decode cJ22_newLength 22 = .ok (.iload_n 1, 1) := dk_27 (dk_at dksJ22_newLength_0 22 rfl rfl)
theorem dJ22_newLength_23 : decode cJ22_newLength 23 = .ok (.invokestatic 201, 3) := dk_184 0 201 (dk_at dksJ22_newLength_1 0 rfl rfl)
theorem dJ22_newLength_26 : decode cJ22_newLength 26 = .ok (.ireturn, 1) := dk_172 (dk_at dksJ22_newLength_1 3 rfl rfl)
abbrev cJ22_hugeLength : ByteArray := prog_97_method_28_code
def yJ22_hugeLength : MethodName := ⟨RJ22, "hugeLength", "(II)I"⟩
def dkwJ22_hugeLength_2 : List UInt8 := [191, 28, 18, 200, 163, 0, 6, 18, 200, 172, 28, 172]
abbrev dktJ22_hugeLength_2 : List UInt8 := dkwJ22_hugeLength_2 ++ []
def dkwJ22_hugeLength_1 : List UInt8 := [26, 182, 0, 98, 18, 208, 182, 0, 94, 27, 182, 0, 98, 18, 210, 182, 0, 94, 182, 0, 101, 183, 0, 212]
abbrev dktJ22_hugeLength_1 : List UInt8 := dkwJ22_hugeLength_1 ++ dktJ22_hugeLength_2
def dkwJ22_hugeLength_0 : List UInt8 := [26, 27, 96, 61, 28, 156, 0, 44, 187, 0, 204, 89, 187, 0, 89, 89, 183, 0, 91, 18, 206, 182, 0, 94]
abbrev dktJ22_hugeLength_0 : List UInt8 := dkwJ22_hugeLength_0 ++ dktJ22_hugeLength_1
theorem dksJ22_hugeLength_0 : cJ22_hugeLength.data.toList.drop 0 = dktJ22_hugeLength_0 := by decide +kernel
theorem dksJ22_hugeLength_1 : cJ22_hugeLength.data.toList.drop 24 = dktJ22_hugeLength_1 := dk_seg dksJ22_hugeLength_0 24 rfl rfl
theorem dksJ22_hugeLength_2 : cJ22_hugeLength.data.toList.drop 48 = dktJ22_hugeLength_2 := dk_seg dksJ22_hugeLength_1 24 rfl rfl
theorem dJ22_hugeLength_0 : decode cJ22_hugeLength 0 = .ok (.iload_n 0, 1) := dk_26 (dk_at dksJ22_hugeLength_0 0 rfl rfl)
theorem dJ22_hugeLength_1 : decode cJ22_hugeLength 1 = .ok (.iload_n 1, 1) := dk_27 (dk_at dksJ22_hugeLength_0 1 rfl rfl)
theorem dJ22_hugeLength_2 : decode cJ22_hugeLength 2 = .ok (.iadd, 1) := dk_96 (dk_at dksJ22_hugeLength_0 2 rfl rfl)
theorem dJ22_hugeLength_3 : decode cJ22_hugeLength 3 = .ok (.istore_n 2, 1) := dk_61 (dk_at dksJ22_hugeLength_0 3 rfl rfl)
theorem dJ22_hugeLength_4 : decode cJ22_hugeLength 4 = .ok (.iload_n 2, 1) := dk_28 (dk_at dksJ22_hugeLength_0 4 rfl rfl)
theorem dJ22_hugeLength_5 : decode cJ22_hugeLength 5 = .ok (.ifCond .ge 44, 3) := dk_156 0 44 (dk_at dksJ22_hugeLength_0 5 rfl rfl)
theorem dJ22_hugeLength_8 : decode cJ22_hugeLength 8 = .ok (.new 204, 3) := dk_187 0 204 (dk_at dksJ22_hugeLength_0 8 rfl rfl)
theorem dJ22_hugeLength_11 : decode cJ22_hugeLength 11 = .ok (.dup, 1) := dk_89 (dk_at dksJ22_hugeLength_0 11 rfl rfl)
theorem dJ22_hugeLength_12 : decode cJ22_hugeLength 12 = .ok (.new 89, 3) := dk_187 0 89 (dk_at dksJ22_hugeLength_0 12 rfl rfl)
theorem dJ22_hugeLength_15 : decode cJ22_hugeLength 15 = .ok (.dup, 1) := dk_89 (dk_at dksJ22_hugeLength_0 15 rfl rfl)
theorem dJ22_hugeLength_16 : decode cJ22_hugeLength 16 = .ok (.invokespecial 91, 3) := dk_183 0 91 (dk_at dksJ22_hugeLength_0 16 rfl rfl)
theorem dJ22_hugeLength_19 : decode cJ22_hugeLength 19 = .ok (.ldc 206, 2) := dk_18 206 (dk_at dksJ22_hugeLength_0 19 rfl rfl)
theorem dJ22_hugeLength_21 : decode cJ22_hugeLength 21 = .ok (.invokevirtual 94, 3) := dk_182 0 94 (dk_at dksJ22_hugeLength_0 21 rfl rfl)
theorem dJ22_hugeLength_24 : decode cJ22_hugeLength 24 = .ok (.iload_n 0, 1) := dk_26 (dk_at dksJ22_hugeLength_1 0 rfl rfl)
theorem dJ22_hugeLength_25 : decode cJ22_hugeLength 25 = .ok (.invokevirtual 98, 3) := dk_182 0 98 (dk_at dksJ22_hugeLength_1 1 rfl rfl)
theorem dJ22_hugeLength_28 : decode cJ22_hugeLength 28 = .ok (.ldc 208, 2) := dk_18 208 (dk_at dksJ22_hugeLength_1 4 rfl rfl)
theorem dJ22_hugeLength_30 : decode cJ22_hugeLength 30 = .ok (.invokevirtual 94, 3) := dk_182 0 94 (dk_at dksJ22_hugeLength_1 6 rfl rfl)
theorem dJ22_hugeLength_33 : decode cJ22_hugeLength 33 = .ok (.iload_n 1, 1) := dk_27 (dk_at dksJ22_hugeLength_1 9 rfl rfl)
theorem dJ22_hugeLength_34 : decode cJ22_hugeLength 34 = .ok (.invokevirtual 98, 3) := dk_182 0 98 (dk_at dksJ22_hugeLength_1 10 rfl rfl)
theorem dJ22_hugeLength_37 : decode cJ22_hugeLength 37 = .ok (.ldc 210, 2) := dk_18 210 (dk_at dksJ22_hugeLength_1 13 rfl rfl)
theorem dJ22_hugeLength_39 : decode cJ22_hugeLength 39 = .ok (.invokevirtual 94, 3) := dk_182 0 94 (dk_at dksJ22_hugeLength_1 15 rfl rfl)
theorem dJ22_hugeLength_42 : decode cJ22_hugeLength 42 = .ok (.invokevirtual 101, 3) := dk_182 0 101 (dk_at dksJ22_hugeLength_1 18 rfl rfl)
theorem dJ22_hugeLength_45 : decode cJ22_hugeLength 45 = .ok (.invokespecial 212, 3) := dk_183 0 212 (dk_at dksJ22_hugeLength_1 21 rfl rfl)
theorem dJ22_hugeLength_48 : decode cJ22_hugeLength 48 = .ok (.athrow, 1) := dk_191 (dk_at dksJ22_hugeLength_2 0 rfl rfl)
theorem dJ22_hugeLength_49 : decode cJ22_hugeLength 49 = .ok (.iload_n 2, 1) := dk_28 (dk_at dksJ22_hugeLength_2 1 rfl rfl)
theorem dJ22_hugeLength_50 : decode cJ22_hugeLength 50 = .ok (.ldc 200, 2) := dk_18 200 (dk_at dksJ22_hugeLength_2 2 rfl rfl)
theorem dJ22_hugeLength_52 : decode cJ22_hugeLength 52 = .ok (.if_icmp .gt 6, 3) := dk_163 0 6 (dk_at dksJ22_hugeLength_2 4 rfl rfl)
theorem dJ22_hugeLength_55 : decode cJ22_hugeLength 55 = .ok (.ldc 200, 2) := dk_18 200 (dk_at dksJ22_hugeLength_2 7 rfl rfl)
theorem dJ22_hugeLength_57 : decode cJ22_hugeLength 57 = .ok (.ireturn, 1) := dk_172 (dk_at dksJ22_hugeLength_2 9 rfl rfl)
theorem dJ22_hugeLength_58 : decode cJ22_hugeLength 58 = .ok (.iload_n 2, 1) := dk_28 (dk_at dksJ22_hugeLength_2 10 rfl rfl)
theorem dJ22_hugeLength_59 : decode cJ22_hugeLength 59 = .ok (.ireturn, 1) := dk_172 (dk_at dksJ22_hugeLength_2 11 rfl rfl)
abbrev cJ22_vectorizedHashCode : ByteArray := prog_97_method_4_code
def yJ22_vectorizedHashCode : MethodName := ⟨RJ22, "vectorizedHashCode", "(Ljava/lang/Object;IIII)I"⟩
def dkwJ22_vectorizedHashCode_6 : List UInt8 := [183, 0, 91, 18, 92, 182, 0, 94, 21, 4, 182, 0, 98, 182, 0, 101, 183, 0, 105, 191, 172]
abbrev dktJ22_vectorizedHashCode_6 : List UInt8 := dkwJ22_vectorizedHashCode_6 ++ []
def dkwJ22_vectorizedHashCode_5 : List UInt8 := [167, 0, 44, 29, 42, 192, 0, 82, 27, 28, 184, 0, 84, 167, 0, 31, 187, 0, 87, 89, 187, 0, 89, 89]
abbrev dktJ22_vectorizedHashCode_5 : List UInt8 := dkwJ22_vectorizedHashCode_5 ++ dktJ22_vectorizedHashCode_6
def dkwJ22_vectorizedHashCode_4 : List UInt8 := [29, 42, 192, 0, 60, 27, 28, 184, 0, 75, 167, 0, 57, 29, 42, 192, 0, 77, 27, 28, 184, 0, 79]
abbrev dktJ22_vectorizedHashCode_4 : List UInt8 := dkwJ22_vectorizedHashCode_4 ++ dktJ22_vectorizedHashCode_5
def dkwJ22_vectorizedHashCode_3 : List UInt8 := [192, 0, 60, 27, 28, 184, 0, 66, 167, 0, 83, 29, 42, 192, 0, 69, 27, 28, 184, 0, 71, 167, 0, 70]
abbrev dktJ22_vectorizedHashCode_3 : List UInt8 := dkwJ22_vectorizedHashCode_3 ++ dktJ22_vectorizedHashCode_4
def dkwJ22_vectorizedHashCode_2 : List UInt8 := [29, 42, 192, 0, 60, 27, 28, 184, 0, 62, 167, 0, 103, 42, 193, 0, 60, 153, 0, 16, 29, 42]
abbrev dktJ22_vectorizedHashCode_2 : List UInt8 := dkwJ22_vectorizedHashCode_2 ++ dktJ22_vectorizedHashCode_3
def dkwJ22_vectorizedHashCode_1 : List UInt8 := [170, 0, 0, 0, 0, 127, 0, 0, 0, 4, 0, 0, 0, 10, 0, 0, 0, 42, 0, 0, 0, 55, 0, 0, 0, 127, 0, 0, 0, 127, 0, 0, 0, 88, 0, 0, 0, 101, 0, 0, 0, 114]
abbrev dktJ22_vectorizedHashCode_1 : List UInt8 := dkwJ22_vectorizedHashCode_1 ++ dktJ22_vectorizedHashCode_2
def dkwJ22_vectorizedHashCode_0 : List UInt8 := [21, 4]
abbrev dktJ22_vectorizedHashCode_0 : List UInt8 := dkwJ22_vectorizedHashCode_0 ++ dktJ22_vectorizedHashCode_1
theorem dksJ22_vectorizedHashCode_0 : cJ22_vectorizedHashCode.data.toList.drop 0 = dktJ22_vectorizedHashCode_0 := by decide +kernel
theorem dksJ22_vectorizedHashCode_1 : cJ22_vectorizedHashCode.data.toList.drop 2 = dktJ22_vectorizedHashCode_1 := dk_seg dksJ22_vectorizedHashCode_0 2 rfl rfl
theorem dksJ22_vectorizedHashCode_2 : cJ22_vectorizedHashCode.data.toList.drop 44 = dktJ22_vectorizedHashCode_2 := dk_seg dksJ22_vectorizedHashCode_1 42 rfl rfl
theorem dksJ22_vectorizedHashCode_3 : cJ22_vectorizedHashCode.data.toList.drop 66 = dktJ22_vectorizedHashCode_3 := dk_seg dksJ22_vectorizedHashCode_2 22 rfl rfl
theorem dksJ22_vectorizedHashCode_4 : cJ22_vectorizedHashCode.data.toList.drop 90 = dktJ22_vectorizedHashCode_4 := dk_seg dksJ22_vectorizedHashCode_3 24 rfl rfl
theorem dksJ22_vectorizedHashCode_5 : cJ22_vectorizedHashCode.data.toList.drop 113 = dktJ22_vectorizedHashCode_5 := dk_seg dksJ22_vectorizedHashCode_4 23 rfl rfl
theorem dksJ22_vectorizedHashCode_6 : cJ22_vectorizedHashCode.data.toList.drop 137 = dktJ22_vectorizedHashCode_6 := dk_seg dksJ22_vectorizedHashCode_5 24 rfl rfl
theorem dJ22_vectorizedHashCode_0 : decode cJ22_vectorizedHashCode 0 = .ok (.iload 4, 2) := dk_21 4 (dk_at dksJ22_vectorizedHashCode_0 0 rfl rfl)
theorem dJ22_vectorizedHashCode_2 : decode cJ22_vectorizedHashCode 2 = .ok (.tableswitch 127 4 10 #[42, 55, 127, 127, 88, 101, 114], 42) := by decide +kernel
theorem dJ22_vectorizedHashCode_44 : decode cJ22_vectorizedHashCode 44 = .ok (.iload_n 3, 1) := dk_29 (dk_at dksJ22_vectorizedHashCode_2 0 rfl rfl)
theorem dJ22_vectorizedHashCode_45 : decode cJ22_vectorizedHashCode 45 = .ok (.aload_n 0, 1) := dk_42 (dk_at dksJ22_vectorizedHashCode_2 1 rfl rfl)
theorem dJ22_vectorizedHashCode_46 : decode cJ22_vectorizedHashCode 46 = .ok (.checkcast 60, 3) := dk_192 0 60 (dk_at dksJ22_vectorizedHashCode_2 2 rfl rfl)
theorem dJ22_vectorizedHashCode_49 : decode cJ22_vectorizedHashCode 49 = .ok (.iload_n 1, 1) := dk_27 (dk_at dksJ22_vectorizedHashCode_2 5 rfl rfl)
theorem dJ22_vectorizedHashCode_50 : decode cJ22_vectorizedHashCode 50 = .ok (.iload_n 2, 1) := dk_28 (dk_at dksJ22_vectorizedHashCode_2 6 rfl rfl)
theorem dJ22_vectorizedHashCode_51 : decode cJ22_vectorizedHashCode 51 = .ok (.invokestatic 62, 3) := dk_184 0 62 (dk_at dksJ22_vectorizedHashCode_2 7 rfl rfl)
theorem dJ22_vectorizedHashCode_54 : decode cJ22_vectorizedHashCode 54 = .ok (.goto 103, 3) := dk_167 0 103 (dk_at dksJ22_vectorizedHashCode_2 10 rfl rfl)
theorem dJ22_vectorizedHashCode_57 : decode cJ22_vectorizedHashCode 57 = .ok (.aload_n 0, 1) := dk_42 (dk_at dksJ22_vectorizedHashCode_2 13 rfl rfl)
theorem dJ22_vectorizedHashCode_58 : decode cJ22_vectorizedHashCode 58 = .ok (.instanceof 60, 3) := dk_193 0 60 (dk_at dksJ22_vectorizedHashCode_2 14 rfl rfl)
theorem dJ22_vectorizedHashCode_61 : decode cJ22_vectorizedHashCode 61 = .ok (.ifCond .eq 16, 3) := dk_153 0 16 (dk_at dksJ22_vectorizedHashCode_2 17 rfl rfl)
theorem dJ22_vectorizedHashCode_64 : decode cJ22_vectorizedHashCode 64 = .ok (.iload_n 3, 1) := dk_29 (dk_at dksJ22_vectorizedHashCode_2 20 rfl rfl)
theorem dJ22_vectorizedHashCode_65 : decode cJ22_vectorizedHashCode 65 = .ok (.aload_n 0, 1) := dk_42 (dk_at dksJ22_vectorizedHashCode_2 21 rfl rfl)
theorem dJ22_vectorizedHashCode_66 : decode cJ22_vectorizedHashCode 66 = .ok (.checkcast 60, 3) := dk_192 0 60 (dk_at dksJ22_vectorizedHashCode_3 0 rfl rfl)
theorem dJ22_vectorizedHashCode_69 : decode cJ22_vectorizedHashCode 69 = .ok (.iload_n 1, 1) := dk_27 (dk_at dksJ22_vectorizedHashCode_3 3 rfl rfl)
theorem dJ22_vectorizedHashCode_70 : decode cJ22_vectorizedHashCode 70 = .ok (.iload_n 2, 1) := dk_28 (dk_at dksJ22_vectorizedHashCode_3 4 rfl rfl)
theorem dJ22_vectorizedHashCode_71 : decode cJ22_vectorizedHashCode 71 = .ok (.invokestatic 66, 3) := dk_184 0 66 (dk_at dksJ22_vectorizedHashCode_3 5 rfl rfl)
theorem dJ22_vectorizedHashCode_74 : decode cJ22_vectorizedHashCode 74 = .ok (.goto 83, 3) := dk_167 0 83 (dk_at dksJ22_vectorizedHashCode_3 8 rfl rfl)
theorem dJ22_vectorizedHashCode_77 : decode cJ22_vectorizedHashCode 77 = .ok (.iload_n 3, 1) := dk_29 (dk_at dksJ22_vectorizedHashCode_3 11 rfl rfl)
theorem dJ22_vectorizedHashCode_78 : decode cJ22_vectorizedHashCode 78 = .ok (.aload_n 0, 1) := dk_42 (dk_at dksJ22_vectorizedHashCode_3 12 rfl rfl)
theorem dJ22_vectorizedHashCode_79 : decode cJ22_vectorizedHashCode 79 = .ok (.checkcast 69, 3) := dk_192 0 69 (dk_at dksJ22_vectorizedHashCode_3 13 rfl rfl)
theorem dJ22_vectorizedHashCode_82 : decode cJ22_vectorizedHashCode 82 = .ok (.iload_n 1, 1) := dk_27 (dk_at dksJ22_vectorizedHashCode_3 16 rfl rfl)
theorem dJ22_vectorizedHashCode_83 : decode cJ22_vectorizedHashCode 83 = .ok (.iload_n 2, 1) := dk_28 (dk_at dksJ22_vectorizedHashCode_3 17 rfl rfl)
theorem dJ22_vectorizedHashCode_84 : decode cJ22_vectorizedHashCode 84 = .ok (.invokestatic 71, 3) := dk_184 0 71 (dk_at dksJ22_vectorizedHashCode_3 18 rfl rfl)
theorem dJ22_vectorizedHashCode_87 : decode cJ22_vectorizedHashCode 87 = .ok (.goto 70, 3) := dk_167 0 70 (dk_at dksJ22_vectorizedHashCode_3 21 rfl rfl)
theorem dJ22_vectorizedHashCode_90 : decode cJ22_vectorizedHashCode 90 = .ok (.iload_n 3, 1) := dk_29 (dk_at dksJ22_vectorizedHashCode_4 0 rfl rfl)
theorem dJ22_vectorizedHashCode_91 : decode cJ22_vectorizedHashCode 91 = .ok (.aload_n 0, 1) := dk_42 (dk_at dksJ22_vectorizedHashCode_4 1 rfl rfl)
theorem dJ22_vectorizedHashCode_92 : decode cJ22_vectorizedHashCode 92 = .ok (.checkcast 60, 3) := dk_192 0 60 (dk_at dksJ22_vectorizedHashCode_4 2 rfl rfl)
theorem dJ22_vectorizedHashCode_95 : decode cJ22_vectorizedHashCode 95 = .ok (.iload_n 1, 1) := dk_27 (dk_at dksJ22_vectorizedHashCode_4 5 rfl rfl)
theorem dJ22_vectorizedHashCode_96 : decode cJ22_vectorizedHashCode 96 = .ok (.iload_n 2, 1) := dk_28 (dk_at dksJ22_vectorizedHashCode_4 6 rfl rfl)
theorem dJ22_vectorizedHashCode_97 : decode cJ22_vectorizedHashCode 97 = .ok (.invokestatic 75, 3) := dk_184 0 75 (dk_at dksJ22_vectorizedHashCode_4 7 rfl rfl)
theorem dJ22_vectorizedHashCode_100 : decode cJ22_vectorizedHashCode 100 = .ok (.goto 57, 3) := dk_167 0 57 (dk_at dksJ22_vectorizedHashCode_4 10 rfl rfl)
theorem dJ22_vectorizedHashCode_103 : decode cJ22_vectorizedHashCode 103 = .ok (.iload_n 3, 1) := dk_29 (dk_at dksJ22_vectorizedHashCode_4 13 rfl rfl)
theorem dJ22_vectorizedHashCode_104 : decode cJ22_vectorizedHashCode 104 = .ok (.aload_n 0, 1) := dk_42 (dk_at dksJ22_vectorizedHashCode_4 14 rfl rfl)
theorem dJ22_vectorizedHashCode_105 : decode cJ22_vectorizedHashCode 105 = .ok (.checkcast 77, 3) := dk_192 0 77 (dk_at dksJ22_vectorizedHashCode_4 15 rfl rfl)
theorem dJ22_vectorizedHashCode_108 : decode cJ22_vectorizedHashCode 108 = .ok (.iload_n 1, 1) := dk_27 (dk_at dksJ22_vectorizedHashCode_4 18 rfl rfl)
theorem dJ22_vectorizedHashCode_109 : decode cJ22_vectorizedHashCode 109 = .ok (.iload_n 2, 1) := dk_28 (dk_at dksJ22_vectorizedHashCode_4 19 rfl rfl)
theorem dJ22_vectorizedHashCode_110 : decode cJ22_vectorizedHashCode 110 = .ok (.invokestatic 79, 3) := dk_184 0 79 (dk_at dksJ22_vectorizedHashCode_4 20 rfl rfl)
theorem dJ22_vectorizedHashCode_113 : decode cJ22_vectorizedHashCode 113 = .ok (.goto 44, 3) := dk_167 0 44 (dk_at dksJ22_vectorizedHashCode_5 0 rfl rfl)
theorem dJ22_vectorizedHashCode_116 : decode cJ22_vectorizedHashCode 116 = .ok (.iload_n 3, 1) := dk_29 (dk_at dksJ22_vectorizedHashCode_5 3 rfl rfl)
theorem dJ22_vectorizedHashCode_117 : decode cJ22_vectorizedHashCode 117 = .ok (.aload_n 0, 1) := dk_42 (dk_at dksJ22_vectorizedHashCode_5 4 rfl rfl)
theorem dJ22_vectorizedHashCode_118 : decode cJ22_vectorizedHashCode 118 = .ok (.checkcast 82, 3) := dk_192 0 82 (dk_at dksJ22_vectorizedHashCode_5 5 rfl rfl)
theorem dJ22_vectorizedHashCode_121 : decode cJ22_vectorizedHashCode 121 = .ok (.iload_n 1, 1) := dk_27 (dk_at dksJ22_vectorizedHashCode_5 8 rfl rfl)
theorem dJ22_vectorizedHashCode_122 : decode cJ22_vectorizedHashCode 122 = .ok (.iload_n 2, 1) := dk_28 (dk_at dksJ22_vectorizedHashCode_5 9 rfl rfl)
theorem dJ22_vectorizedHashCode_123 : decode cJ22_vectorizedHashCode 123 = .ok (.invokestatic 84, 3) := dk_184 0 84 (dk_at dksJ22_vectorizedHashCode_5 10 rfl rfl)
theorem dJ22_vectorizedHashCode_126 : decode cJ22_vectorizedHashCode 126 = .ok (.goto 31, 3) := dk_167 0 31 (dk_at dksJ22_vectorizedHashCode_5 13 rfl rfl)
theorem dJ22_vectorizedHashCode_129 : decode cJ22_vectorizedHashCode 129 = .ok (.new 87, 3) := dk_187 0 87 (dk_at dksJ22_vectorizedHashCode_5 16 rfl rfl)
theorem dJ22_vectorizedHashCode_132 : decode cJ22_vectorizedHashCode 132 = .ok (.dup, 1) := dk_89 (dk_at dksJ22_vectorizedHashCode_5 19 rfl rfl)
theorem dJ22_vectorizedHashCode_133 : decode cJ22_vectorizedHashCode 133 = .ok (.new 89, 3) := dk_187 0 89 (dk_at dksJ22_vectorizedHashCode_5 20 rfl rfl)
theorem dJ22_vectorizedHashCode_136 : decode cJ22_vectorizedHashCode 136 = .ok (.dup, 1) := dk_89 (dk_at dksJ22_vectorizedHashCode_5 23 rfl rfl)
theorem dJ22_vectorizedHashCode_137 : decode cJ22_vectorizedHashCode 137 = .ok (.invokespecial 91, 3) := dk_183 0 91 (dk_at dksJ22_vectorizedHashCode_6 0 rfl rfl)
theorem dJ22_vectorizedHashCode_140 : decode cJ22_vectorizedHashCode 140 = .ok (.ldc 92, 2) := dk_18 92 (dk_at dksJ22_vectorizedHashCode_6 3 rfl rfl)
theorem dJ22_vectorizedHashCode_142 : decode cJ22_vectorizedHashCode 142 = .ok (.invokevirtual 94, 3) := dk_182 0 94 (dk_at dksJ22_vectorizedHashCode_6 5 rfl rfl)
theorem dJ22_vectorizedHashCode_145 : decode cJ22_vectorizedHashCode 145 = .ok (.iload 4, 2) := dk_21 4 (dk_at dksJ22_vectorizedHashCode_6 8 rfl rfl)
theorem dJ22_vectorizedHashCode_147 : decode cJ22_vectorizedHashCode 147 = .ok (.invokevirtual 98, 3) := dk_182 0 98 (dk_at dksJ22_vectorizedHashCode_6 10 rfl rfl)
theorem dJ22_vectorizedHashCode_150 : decode cJ22_vectorizedHashCode 150 = .ok (.invokevirtual 101, 3) := dk_182 0 101 (dk_at dksJ22_vectorizedHashCode_6 13 rfl rfl)
theorem dJ22_vectorizedHashCode_153 : decode cJ22_vectorizedHashCode 153 = .ok (.invokespecial 105, 3) := dk_183 0 105 (dk_at dksJ22_vectorizedHashCode_6 16 rfl rfl)
theorem dJ22_vectorizedHashCode_156 : decode cJ22_vectorizedHashCode 156 = .ok (.athrow, 1) := dk_191 (dk_at dksJ22_vectorizedHashCode_6 19 rfl rfl)
theorem dJ22_vectorizedHashCode_157 : decode cJ22_vectorizedHashCode 157 = .ok (.ireturn, 1) := dk_172 (dk_at dksJ22_vectorizedHashCode_6 20 rfl rfl)
abbrev cJ22_signedHashCode : ByteArray := prog_97_method_5_code
def yJ22_signedHashCode : MethodName := ⟨RJ22, "signedHashCode", "(I[BII)I"⟩
def dkwJ22_signedHashCode_1 : List UInt8 := [17, 0, 255, 126, 96, 59, 132, 5, 1, 167, 255, 232, 26, 172]
abbrev dktJ22_signedHashCode_1 : List UInt8 := dkwJ22_signedHashCode_1 ++ []
def dkwJ22_signedHashCode_0 : List UInt8 := [28, 29, 96, 54, 4, 28, 54, 5, 21, 5, 21, 4, 162, 0, 23, 16, 31, 26, 104, 43, 21, 5, 51]
abbrev dktJ22_signedHashCode_0 : List UInt8 := dkwJ22_signedHashCode_0 ++ dktJ22_signedHashCode_1
theorem dksJ22_signedHashCode_0 : cJ22_signedHashCode.data.toList.drop 0 = dktJ22_signedHashCode_0 := by decide +kernel
theorem dksJ22_signedHashCode_1 : cJ22_signedHashCode.data.toList.drop 23 = dktJ22_signedHashCode_1 := dk_seg dksJ22_signedHashCode_0 23 rfl rfl
theorem dJ22_signedHashCode_0 : decode cJ22_signedHashCode 0 = .ok (.iload_n 2, 1) := dk_28 (dk_at dksJ22_signedHashCode_0 0 rfl rfl)
theorem dJ22_signedHashCode_1 : decode cJ22_signedHashCode 1 = .ok (.iload_n 3, 1) := dk_29 (dk_at dksJ22_signedHashCode_0 1 rfl rfl)
theorem dJ22_signedHashCode_2 : decode cJ22_signedHashCode 2 = .ok (.iadd, 1) := dk_96 (dk_at dksJ22_signedHashCode_0 2 rfl rfl)
theorem dJ22_signedHashCode_3 : decode cJ22_signedHashCode 3 = .ok (.istore 4, 2) := dk_54 4 (dk_at dksJ22_signedHashCode_0 3 rfl rfl)
theorem dJ22_signedHashCode_5 : decode cJ22_signedHashCode 5 = .ok (.iload_n 2, 1) := dk_28 (dk_at dksJ22_signedHashCode_0 5 rfl rfl)
theorem dJ22_signedHashCode_6 : decode cJ22_signedHashCode 6 = .ok (.istore 5, 2) := dk_54 5 (dk_at dksJ22_signedHashCode_0 6 rfl rfl)
theorem dJ22_signedHashCode_8 : decode cJ22_signedHashCode 8 = .ok (.iload 5, 2) := dk_21 5 (dk_at dksJ22_signedHashCode_0 8 rfl rfl)
theorem dJ22_signedHashCode_10 : decode cJ22_signedHashCode 10 = .ok (.iload 4, 2) := dk_21 4 (dk_at dksJ22_signedHashCode_0 10 rfl rfl)
theorem dJ22_signedHashCode_12 : decode cJ22_signedHashCode 12 = .ok (.if_icmp .ge 23, 3) := dk_162 0 23 (dk_at dksJ22_signedHashCode_0 12 rfl rfl)
theorem dJ22_signedHashCode_15 : decode cJ22_signedHashCode 15 = .ok (.bipush 31, 2) := dk_16 31 (dk_at dksJ22_signedHashCode_0 15 rfl rfl)
theorem dJ22_signedHashCode_17 : decode cJ22_signedHashCode 17 = .ok (.iload_n 0, 1) := dk_26 (dk_at dksJ22_signedHashCode_0 17 rfl rfl)
theorem dJ22_signedHashCode_18 : decode cJ22_signedHashCode 18 = .ok (.imul, 1) := dk_104 (dk_at dksJ22_signedHashCode_0 18 rfl rfl)
theorem dJ22_signedHashCode_19 : decode cJ22_signedHashCode 19 = .ok (.aload_n 1, 1) := dk_43 (dk_at dksJ22_signedHashCode_0 19 rfl rfl)
theorem dJ22_signedHashCode_20 : decode cJ22_signedHashCode 20 = .ok (.iload 5, 2) := dk_21 5 (dk_at dksJ22_signedHashCode_0 20 rfl rfl)
theorem dJ22_signedHashCode_22 : decode cJ22_signedHashCode 22 = .ok (.baload, 1) := dk_51 (dk_at dksJ22_signedHashCode_0 22 rfl rfl)
theorem dJ22_signedHashCode_23 : decode cJ22_signedHashCode 23 = .ok (.sipush 255, 3) := dk_17 0 255 (dk_at dksJ22_signedHashCode_1 0 rfl rfl)
theorem dJ22_signedHashCode_26 : decode cJ22_signedHashCode 26 = .ok (.iand, 1) := dk_126 (dk_at dksJ22_signedHashCode_1 3 rfl rfl)
theorem dJ22_signedHashCode_27 : decode cJ22_signedHashCode 27 = .ok (.iadd, 1) := dk_96 (dk_at dksJ22_signedHashCode_1 4 rfl rfl)
theorem dJ22_signedHashCode_28 : decode cJ22_signedHashCode 28 = .ok (.istore_n 0, 1) := dk_59 (dk_at dksJ22_signedHashCode_1 5 rfl rfl)
theorem dJ22_signedHashCode_29 : decode cJ22_signedHashCode 29 = .ok (.iinc 5 1, 3) := dk_132 5 1 (dk_at dksJ22_signedHashCode_1 6 rfl rfl)
theorem dJ22_signedHashCode_32 : decode cJ22_signedHashCode 32 = .ok (.goto (-24), 3) := dk_167 255 232 (dk_at dksJ22_signedHashCode_1 9 rfl rfl)
theorem dJ22_signedHashCode_35 : decode cJ22_signedHashCode 35 = .ok (.iload_n 0, 1) := dk_26 (dk_at dksJ22_signedHashCode_1 12 rfl rfl)
theorem dJ22_signedHashCode_36 : decode cJ22_signedHashCode 36 = .ok (.ireturn, 1) := dk_172 (dk_at dksJ22_signedHashCode_1 13 rfl rfl)
abbrev cJ22_utf16hashCode : ByteArray := prog_97_method_10_code
def yJ22_utf16hashCode : MethodName := ⟨RJ22, "utf16hashCode", "(I[BII)I"⟩
def dkwJ22_utf16hashCode_1 : List UInt8 := [21, 5, 185, 0, 110, 3, 0, 96, 59, 132, 5, 1, 167, 255, 229, 26, 172]
abbrev dktJ22_utf16hashCode_1 : List UInt8 := dkwJ22_utf16hashCode_1 ++ []
def dkwJ22_utf16hashCode_0 : List UInt8 := [28, 29, 96, 54, 4, 28, 54, 5, 21, 5, 21, 4, 162, 0, 26, 16, 31, 26, 104, 178, 0, 106, 43]
abbrev dktJ22_utf16hashCode_0 : List UInt8 := dkwJ22_utf16hashCode_0 ++ dktJ22_utf16hashCode_1
theorem dksJ22_utf16hashCode_0 : cJ22_utf16hashCode.data.toList.drop 0 = dktJ22_utf16hashCode_0 := by decide +kernel
theorem dksJ22_utf16hashCode_1 : cJ22_utf16hashCode.data.toList.drop 23 = dktJ22_utf16hashCode_1 := dk_seg dksJ22_utf16hashCode_0 23 rfl rfl
theorem dJ22_utf16hashCode_0 : decode cJ22_utf16hashCode 0 = .ok (.iload_n 2, 1) := dk_28 (dk_at dksJ22_utf16hashCode_0 0 rfl rfl)
theorem dJ22_utf16hashCode_1 : decode cJ22_utf16hashCode 1 = .ok (.iload_n 3, 1) := dk_29 (dk_at dksJ22_utf16hashCode_0 1 rfl rfl)
theorem dJ22_utf16hashCode_2 : decode cJ22_utf16hashCode 2 = .ok (.iadd, 1) := dk_96 (dk_at dksJ22_utf16hashCode_0 2 rfl rfl)
theorem dJ22_utf16hashCode_3 : decode cJ22_utf16hashCode 3 = .ok (.istore 4, 2) := dk_54 4 (dk_at dksJ22_utf16hashCode_0 3 rfl rfl)
theorem dJ22_utf16hashCode_5 : decode cJ22_utf16hashCode 5 = .ok (.iload_n 2, 1) := dk_28 (dk_at dksJ22_utf16hashCode_0 5 rfl rfl)
theorem dJ22_utf16hashCode_6 : decode cJ22_utf16hashCode 6 = .ok (.istore 5, 2) := dk_54 5 (dk_at dksJ22_utf16hashCode_0 6 rfl rfl)
theorem dJ22_utf16hashCode_8 : decode cJ22_utf16hashCode 8 = .ok (.iload 5, 2) := dk_21 5 (dk_at dksJ22_utf16hashCode_0 8 rfl rfl)
theorem dJ22_utf16hashCode_10 : decode cJ22_utf16hashCode 10 = .ok (.iload 4, 2) := dk_21 4 (dk_at dksJ22_utf16hashCode_0 10 rfl rfl)
theorem dJ22_utf16hashCode_12 : decode cJ22_utf16hashCode 12 = .ok (.if_icmp .ge 26, 3) := dk_162 0 26 (dk_at dksJ22_utf16hashCode_0 12 rfl rfl)
theorem dJ22_utf16hashCode_15 : decode cJ22_utf16hashCode 15 = .ok (.bipush 31, 2) := dk_16 31 (dk_at dksJ22_utf16hashCode_0 15 rfl rfl)
theorem dJ22_utf16hashCode_17 : decode cJ22_utf16hashCode 17 = .ok (.iload_n 0, 1) := dk_26 (dk_at dksJ22_utf16hashCode_0 17 rfl rfl)
theorem dJ22_utf16hashCode_18 : decode cJ22_utf16hashCode 18 = .ok (.imul, 1) := dk_104 (dk_at dksJ22_utf16hashCode_0 18 rfl rfl)
theorem dJ22_utf16hashCode_19 : decode cJ22_utf16hashCode 19 = .ok (.getstatic 106, 3) := dk_178 0 106 (dk_at dksJ22_utf16hashCode_0 19 rfl rfl)
theorem dJ22_utf16hashCode_22 : decode cJ22_utf16hashCode 22 = .ok (.aload_n 1, 1) := dk_43 (dk_at dksJ22_utf16hashCode_0 22 rfl rfl)
theorem dJ22_utf16hashCode_23 : decode cJ22_utf16hashCode 23 = .ok (.iload 5, 2) := dk_21 5 (dk_at dksJ22_utf16hashCode_1 0 rfl rfl)
theorem dJ22_utf16hashCode_25 : decode cJ22_utf16hashCode 25 = .ok (.invokeinterface 110 3, 5) := by decide +kernel
theorem dJ22_utf16hashCode_30 : decode cJ22_utf16hashCode 30 = .ok (.iadd, 1) := dk_96 (dk_at dksJ22_utf16hashCode_1 7 rfl rfl)
theorem dJ22_utf16hashCode_31 : decode cJ22_utf16hashCode 31 = .ok (.istore_n 0, 1) := dk_59 (dk_at dksJ22_utf16hashCode_1 8 rfl rfl)
theorem dJ22_utf16hashCode_32 : decode cJ22_utf16hashCode 32 = .ok (.iinc 5 1, 3) := dk_132 5 1 (dk_at dksJ22_utf16hashCode_1 9 rfl rfl)
theorem dJ22_utf16hashCode_35 : decode cJ22_utf16hashCode 35 = .ok (.goto (-27), 3) := dk_167 255 229 (dk_at dksJ22_utf16hashCode_1 12 rfl rfl)
theorem dJ22_utf16hashCode_38 : decode cJ22_utf16hashCode 38 = .ok (.iload_n 0, 1) := dk_26 (dk_at dksJ22_utf16hashCode_1 15 rfl rfl)
theorem dJ22_utf16hashCode_39 : decode cJ22_utf16hashCode 39 = .ok (.ireturn, 1) := dk_172 (dk_at dksJ22_utf16hashCode_1 16 rfl rfl)
abbrev cJ22_hashCode : ByteArray := prog_97_method_7_code
def yJ22_hashCode : MethodName := ⟨RJ22, "hashCode", "(I[CII)I"⟩
def dkwJ22_hashCode_1 : List UInt8 := [59, 132, 5, 1, 167, 255, 236, 26, 172]
abbrev dktJ22_hashCode_1 : List UInt8 := dkwJ22_hashCode_1 ++ []
def dkwJ22_hashCode_0 : List UInt8 := [28, 29, 96, 54, 4, 28, 54, 5, 21, 5, 21, 4, 162, 0, 19, 16, 31, 26, 104, 43, 21, 5, 52, 96]
abbrev dktJ22_hashCode_0 : List UInt8 := dkwJ22_hashCode_0 ++ dktJ22_hashCode_1
theorem dksJ22_hashCode_0 : cJ22_hashCode.data.toList.drop 0 = dktJ22_hashCode_0 := by decide +kernel
theorem dksJ22_hashCode_1 : cJ22_hashCode.data.toList.drop 24 = dktJ22_hashCode_1 := dk_seg dksJ22_hashCode_0 24 rfl rfl
theorem dJ22_hashCode_0 : decode cJ22_hashCode 0 = .ok (.iload_n 2, 1) := dk_28 (dk_at dksJ22_hashCode_0 0 rfl rfl)
theorem dJ22_hashCode_1 : decode cJ22_hashCode 1 = .ok (.iload_n 3, 1) := dk_29 (dk_at dksJ22_hashCode_0 1 rfl rfl)
theorem dJ22_hashCode_2 : decode cJ22_hashCode 2 = .ok (.iadd, 1) := dk_96 (dk_at dksJ22_hashCode_0 2 rfl rfl)
theorem dJ22_hashCode_3 : decode cJ22_hashCode 3 = .ok (.istore 4, 2) := dk_54 4 (dk_at dksJ22_hashCode_0 3 rfl rfl)
theorem dJ22_hashCode_5 : decode cJ22_hashCode 5 = .ok (.iload_n 2, 1) := dk_28 (dk_at dksJ22_hashCode_0 5 rfl rfl)
theorem dJ22_hashCode_6 : decode cJ22_hashCode 6 = .ok (.istore 5, 2) := dk_54 5 (dk_at dksJ22_hashCode_0 6 rfl rfl)
theorem dJ22_hashCode_8 : decode cJ22_hashCode 8 = .ok (.iload 5, 2) := dk_21 5 (dk_at dksJ22_hashCode_0 8 rfl rfl)
theorem dJ22_hashCode_10 : decode cJ22_hashCode 10 = .ok (.iload 4, 2) := dk_21 4 (dk_at dksJ22_hashCode_0 10 rfl rfl)
theorem dJ22_hashCode_12 : decode cJ22_hashCode 12 = .ok (.if_icmp .ge 19, 3) := dk_162 0 19 (dk_at dksJ22_hashCode_0 12 rfl rfl)
theorem dJ22_hashCode_15 : decode cJ22_hashCode 15 = .ok (.bipush 31, 2) := dk_16 31 (dk_at dksJ22_hashCode_0 15 rfl rfl)
theorem dJ22_hashCode_17 : decode cJ22_hashCode 17 = .ok (.iload_n 0, 1) := dk_26 (dk_at dksJ22_hashCode_0 17 rfl rfl)
theorem dJ22_hashCode_18 : decode cJ22_hashCode 18 = .ok (.imul, 1) := dk_104 (dk_at dksJ22_hashCode_0 18 rfl rfl)
theorem dJ22_hashCode_19 : decode cJ22_hashCode 19 = .ok (.aload_n 1, 1) := dk_43 (dk_at dksJ22_hashCode_0 19 rfl rfl)
theorem dJ22_hashCode_20 : decode cJ22_hashCode 20 = .ok (.iload 5, 2) := dk_21 5 (dk_at dksJ22_hashCode_0 20 rfl rfl)
theorem dJ22_hashCode_22 : decode cJ22_hashCode 22 = .ok (.caload, 1) := dk_52 (dk_at dksJ22_hashCode_0 22 rfl rfl)
theorem dJ22_hashCode_23 : decode cJ22_hashCode 23 = .ok (.iadd, 1) := dk_96 (dk_at dksJ22_hashCode_0 23 rfl rfl)
theorem dJ22_hashCode_24 : decode cJ22_hashCode 24 = .ok (.istore_n 0, 1) := dk_59 (dk_at dksJ22_hashCode_1 0 rfl rfl)
theorem dJ22_hashCode_25 : decode cJ22_hashCode 25 = .ok (.iinc 5 1, 3) := dk_132 5 1 (dk_at dksJ22_hashCode_1 1 rfl rfl)
theorem dJ22_hashCode_28 : decode cJ22_hashCode 28 = .ok (.goto (-20), 3) := dk_167 255 236 (dk_at dksJ22_hashCode_1 4 rfl rfl)
theorem dJ22_hashCode_31 : decode cJ22_hashCode 31 = .ok (.iload_n 0, 1) := dk_26 (dk_at dksJ22_hashCode_1 7 rfl rfl)
theorem dJ22_hashCode_32 : decode cJ22_hashCode 32 = .ok (.ireturn, 1) := dk_172 (dk_at dksJ22_hashCode_1 8 rfl rfl)
abbrev cJ22_hashCode_2 : ByteArray := prog_97_method_6_code
def yJ22_hashCode_2 : MethodName := ⟨RJ22, "hashCode", "(I[BII)I"⟩
def dkwJ22_hashCode_2_1 : List UInt8 := [59, 132, 5, 1, 167, 255, 236, 26, 172]
abbrev dktJ22_hashCode_2_1 : List UInt8 := dkwJ22_hashCode_2_1 ++ []
def dkwJ22_hashCode_2_0 : List UInt8 := [28, 29, 96, 54, 4, 28, 54, 5, 21, 5, 21, 4, 162, 0, 19, 16, 31, 26, 104, 43, 21, 5, 51, 96]
abbrev dktJ22_hashCode_2_0 : List UInt8 := dkwJ22_hashCode_2_0 ++ dktJ22_hashCode_2_1
theorem dksJ22_hashCode_2_0 : cJ22_hashCode_2.data.toList.drop 0 = dktJ22_hashCode_2_0 := by decide +kernel
theorem dksJ22_hashCode_2_1 : cJ22_hashCode_2.data.toList.drop 24 = dktJ22_hashCode_2_1 := dk_seg dksJ22_hashCode_2_0 24 rfl rfl
theorem dJ22_hashCode_2_0 : decode cJ22_hashCode_2 0 = .ok (.iload_n 2, 1) := dk_28 (dk_at dksJ22_hashCode_2_0 0 rfl rfl)
theorem dJ22_hashCode_2_1 : decode cJ22_hashCode_2 1 = .ok (.iload_n 3, 1) := dk_29 (dk_at dksJ22_hashCode_2_0 1 rfl rfl)
theorem dJ22_hashCode_2_2 : decode cJ22_hashCode_2 2 = .ok (.iadd, 1) := dk_96 (dk_at dksJ22_hashCode_2_0 2 rfl rfl)
theorem dJ22_hashCode_2_3 : decode cJ22_hashCode_2 3 = .ok (.istore 4, 2) := dk_54 4 (dk_at dksJ22_hashCode_2_0 3 rfl rfl)
theorem dJ22_hashCode_2_5 : decode cJ22_hashCode_2 5 = .ok (.iload_n 2, 1) := dk_28 (dk_at dksJ22_hashCode_2_0 5 rfl rfl)
theorem dJ22_hashCode_2_6 : decode cJ22_hashCode_2 6 = .ok (.istore 5, 2) := dk_54 5 (dk_at dksJ22_hashCode_2_0 6 rfl rfl)
theorem dJ22_hashCode_2_8 : decode cJ22_hashCode_2 8 = .ok (.iload 5, 2) := dk_21 5 (dk_at dksJ22_hashCode_2_0 8 rfl rfl)
theorem dJ22_hashCode_2_10 : decode cJ22_hashCode_2 10 = .ok (.iload 4, 2) := dk_21 4 (dk_at dksJ22_hashCode_2_0 10 rfl rfl)
theorem dJ22_hashCode_2_12 : decode cJ22_hashCode_2 12 = .ok (.if_icmp .ge 19, 3) := dk_162 0 19 (dk_at dksJ22_hashCode_2_0 12 rfl rfl)
theorem dJ22_hashCode_2_15 : decode cJ22_hashCode_2 15 = .ok (.bipush 31, 2) := dk_16 31 (dk_at dksJ22_hashCode_2_0 15 rfl rfl)
theorem dJ22_hashCode_2_17 : decode cJ22_hashCode_2 17 = .ok (.iload_n 0, 1) := dk_26 (dk_at dksJ22_hashCode_2_0 17 rfl rfl)
theorem dJ22_hashCode_2_18 : decode cJ22_hashCode_2 18 = .ok (.imul, 1) := dk_104 (dk_at dksJ22_hashCode_2_0 18 rfl rfl)
theorem dJ22_hashCode_2_19 : decode cJ22_hashCode_2 19 = .ok (.aload_n 1, 1) := dk_43 (dk_at dksJ22_hashCode_2_0 19 rfl rfl)
theorem dJ22_hashCode_2_20 : decode cJ22_hashCode_2 20 = .ok (.iload 5, 2) := dk_21 5 (dk_at dksJ22_hashCode_2_0 20 rfl rfl)
theorem dJ22_hashCode_2_22 : decode cJ22_hashCode_2 22 = .ok (.baload, 1) := dk_51 (dk_at dksJ22_hashCode_2_0 22 rfl rfl)
theorem dJ22_hashCode_2_23 : decode cJ22_hashCode_2 23 = .ok (.iadd, 1) := dk_96 (dk_at dksJ22_hashCode_2_0 23 rfl rfl)
theorem dJ22_hashCode_2_24 : decode cJ22_hashCode_2 24 = .ok (.istore_n 0, 1) := dk_59 (dk_at dksJ22_hashCode_2_1 0 rfl rfl)
theorem dJ22_hashCode_2_25 : decode cJ22_hashCode_2 25 = .ok (.iinc 5 1, 3) := dk_132 5 1 (dk_at dksJ22_hashCode_2_1 1 rfl rfl)
theorem dJ22_hashCode_2_28 : decode cJ22_hashCode_2 28 = .ok (.goto (-20), 3) := dk_167 255 236 (dk_at dksJ22_hashCode_2_1 4 rfl rfl)
theorem dJ22_hashCode_2_31 : decode cJ22_hashCode_2 31 = .ok (.iload_n 0, 1) := dk_26 (dk_at dksJ22_hashCode_2_1 7 rfl rfl)
theorem dJ22_hashCode_2_32 : decode cJ22_hashCode_2 32 = .ok (.ireturn, 1) := dk_172 (dk_at dksJ22_hashCode_2_1 8 rfl rfl)
abbrev cJ22_hashCode_3 : ByteArray := prog_97_method_8_code
def yJ22_hashCode_3 : MethodName := ⟨RJ22, "hashCode", "(I[SII)I"⟩
def dkwJ22_hashCode_3_1 : List UInt8 := [59, 132, 5, 1, 167, 255, 236, 26, 172]
abbrev dktJ22_hashCode_3_1 : List UInt8 := dkwJ22_hashCode_3_1 ++ []
def dkwJ22_hashCode_3_0 : List UInt8 := [28, 29, 96, 54, 4, 28, 54, 5, 21, 5, 21, 4, 162, 0, 19, 16, 31, 26, 104, 43, 21, 5, 53, 96]
abbrev dktJ22_hashCode_3_0 : List UInt8 := dkwJ22_hashCode_3_0 ++ dktJ22_hashCode_3_1
theorem dksJ22_hashCode_3_0 : cJ22_hashCode_3.data.toList.drop 0 = dktJ22_hashCode_3_0 := by decide +kernel
theorem dksJ22_hashCode_3_1 : cJ22_hashCode_3.data.toList.drop 24 = dktJ22_hashCode_3_1 := dk_seg dksJ22_hashCode_3_0 24 rfl rfl
theorem dJ22_hashCode_3_0 : decode cJ22_hashCode_3 0 = .ok (.iload_n 2, 1) := dk_28 (dk_at dksJ22_hashCode_3_0 0 rfl rfl)
theorem dJ22_hashCode_3_1 : decode cJ22_hashCode_3 1 = .ok (.iload_n 3, 1) := dk_29 (dk_at dksJ22_hashCode_3_0 1 rfl rfl)
theorem dJ22_hashCode_3_2 : decode cJ22_hashCode_3 2 = .ok (.iadd, 1) := dk_96 (dk_at dksJ22_hashCode_3_0 2 rfl rfl)
theorem dJ22_hashCode_3_3 : decode cJ22_hashCode_3 3 = .ok (.istore 4, 2) := dk_54 4 (dk_at dksJ22_hashCode_3_0 3 rfl rfl)
theorem dJ22_hashCode_3_5 : decode cJ22_hashCode_3 5 = .ok (.iload_n 2, 1) := dk_28 (dk_at dksJ22_hashCode_3_0 5 rfl rfl)
theorem dJ22_hashCode_3_6 : decode cJ22_hashCode_3 6 = .ok (.istore 5, 2) := dk_54 5 (dk_at dksJ22_hashCode_3_0 6 rfl rfl)
theorem dJ22_hashCode_3_8 : decode cJ22_hashCode_3 8 = .ok (.iload 5, 2) := dk_21 5 (dk_at dksJ22_hashCode_3_0 8 rfl rfl)
theorem dJ22_hashCode_3_10 : decode cJ22_hashCode_3 10 = .ok (.iload 4, 2) := dk_21 4 (dk_at dksJ22_hashCode_3_0 10 rfl rfl)
theorem dJ22_hashCode_3_12 : decode cJ22_hashCode_3 12 = .ok (.if_icmp .ge 19, 3) := dk_162 0 19 (dk_at dksJ22_hashCode_3_0 12 rfl rfl)
theorem dJ22_hashCode_3_15 : decode cJ22_hashCode_3 15 = .ok (.bipush 31, 2) := dk_16 31 (dk_at dksJ22_hashCode_3_0 15 rfl rfl)
theorem dJ22_hashCode_3_17 : decode cJ22_hashCode_3 17 = .ok (.iload_n 0, 1) := dk_26 (dk_at dksJ22_hashCode_3_0 17 rfl rfl)
theorem dJ22_hashCode_3_18 : decode cJ22_hashCode_3 18 = .ok (.imul, 1) := dk_104 (dk_at dksJ22_hashCode_3_0 18 rfl rfl)
theorem dJ22_hashCode_3_19 : decode cJ22_hashCode_3 19 = .ok (.aload_n 1, 1) := dk_43 (dk_at dksJ22_hashCode_3_0 19 rfl rfl)
theorem dJ22_hashCode_3_20 : decode cJ22_hashCode_3 20 = .ok (.iload 5, 2) := dk_21 5 (dk_at dksJ22_hashCode_3_0 20 rfl rfl)
theorem dJ22_hashCode_3_22 : decode cJ22_hashCode_3 22 = .ok (.saload, 1) := dk_53 (dk_at dksJ22_hashCode_3_0 22 rfl rfl)
theorem dJ22_hashCode_3_23 : decode cJ22_hashCode_3 23 = .ok (.iadd, 1) := dk_96 (dk_at dksJ22_hashCode_3_0 23 rfl rfl)
theorem dJ22_hashCode_3_24 : decode cJ22_hashCode_3 24 = .ok (.istore_n 0, 1) := dk_59 (dk_at dksJ22_hashCode_3_1 0 rfl rfl)
theorem dJ22_hashCode_3_25 : decode cJ22_hashCode_3 25 = .ok (.iinc 5 1, 3) := dk_132 5 1 (dk_at dksJ22_hashCode_3_1 1 rfl rfl)
theorem dJ22_hashCode_3_28 : decode cJ22_hashCode_3 28 = .ok (.goto (-20), 3) := dk_167 255 236 (dk_at dksJ22_hashCode_3_1 4 rfl rfl)
theorem dJ22_hashCode_3_31 : decode cJ22_hashCode_3 31 = .ok (.iload_n 0, 1) := dk_26 (dk_at dksJ22_hashCode_3_1 7 rfl rfl)
theorem dJ22_hashCode_3_32 : decode cJ22_hashCode_3 32 = .ok (.ireturn, 1) := dk_172 (dk_at dksJ22_hashCode_3_1 8 rfl rfl)
abbrev cJ22_hashCode_4 : ByteArray := prog_97_method_9_code
def yJ22_hashCode_4 : MethodName := ⟨RJ22, "hashCode", "(I[III)I"⟩
def dkwJ22_hashCode_4_1 : List UInt8 := [59, 132, 5, 1, 167, 255, 236, 26, 172]
abbrev dktJ22_hashCode_4_1 : List UInt8 := dkwJ22_hashCode_4_1 ++ []
def dkwJ22_hashCode_4_0 : List UInt8 := [28, 29, 96, 54, 4, 28, 54, 5, 21, 5, 21, 4, 162, 0, 19, 16, 31, 26, 104, 43, 21, 5, 46, 96]
abbrev dktJ22_hashCode_4_0 : List UInt8 := dkwJ22_hashCode_4_0 ++ dktJ22_hashCode_4_1
theorem dksJ22_hashCode_4_0 : cJ22_hashCode_4.data.toList.drop 0 = dktJ22_hashCode_4_0 := by decide +kernel
theorem dksJ22_hashCode_4_1 : cJ22_hashCode_4.data.toList.drop 24 = dktJ22_hashCode_4_1 := dk_seg dksJ22_hashCode_4_0 24 rfl rfl
theorem dJ22_hashCode_4_0 : decode cJ22_hashCode_4 0 = .ok (.iload_n 2, 1) := dk_28 (dk_at dksJ22_hashCode_4_0 0 rfl rfl)
theorem dJ22_hashCode_4_1 : decode cJ22_hashCode_4 1 = .ok (.iload_n 3, 1) := dk_29 (dk_at dksJ22_hashCode_4_0 1 rfl rfl)
theorem dJ22_hashCode_4_2 : decode cJ22_hashCode_4 2 = .ok (.iadd, 1) := dk_96 (dk_at dksJ22_hashCode_4_0 2 rfl rfl)
theorem dJ22_hashCode_4_3 : decode cJ22_hashCode_4 3 = .ok (.istore 4, 2) := dk_54 4 (dk_at dksJ22_hashCode_4_0 3 rfl rfl)
theorem dJ22_hashCode_4_5 : decode cJ22_hashCode_4 5 = .ok (.iload_n 2, 1) := dk_28 (dk_at dksJ22_hashCode_4_0 5 rfl rfl)
theorem dJ22_hashCode_4_6 : decode cJ22_hashCode_4 6 = .ok (.istore 5, 2) := dk_54 5 (dk_at dksJ22_hashCode_4_0 6 rfl rfl)
theorem dJ22_hashCode_4_8 : decode cJ22_hashCode_4 8 = .ok (.iload 5, 2) := dk_21 5 (dk_at dksJ22_hashCode_4_0 8 rfl rfl)
theorem dJ22_hashCode_4_10 : decode cJ22_hashCode_4 10 = .ok (.iload 4, 2) := dk_21 4 (dk_at dksJ22_hashCode_4_0 10 rfl rfl)
theorem dJ22_hashCode_4_12 : decode cJ22_hashCode_4 12 = .ok (.if_icmp .ge 19, 3) := dk_162 0 19 (dk_at dksJ22_hashCode_4_0 12 rfl rfl)
theorem dJ22_hashCode_4_15 : decode cJ22_hashCode_4 15 = .ok (.bipush 31, 2) := dk_16 31 (dk_at dksJ22_hashCode_4_0 15 rfl rfl)
theorem dJ22_hashCode_4_17 : decode cJ22_hashCode_4 17 = .ok (.iload_n 0, 1) := dk_26 (dk_at dksJ22_hashCode_4_0 17 rfl rfl)
theorem dJ22_hashCode_4_18 : decode cJ22_hashCode_4 18 = .ok (.imul, 1) := dk_104 (dk_at dksJ22_hashCode_4_0 18 rfl rfl)
theorem dJ22_hashCode_4_19 : decode cJ22_hashCode_4 19 = .ok (.aload_n 1, 1) := dk_43 (dk_at dksJ22_hashCode_4_0 19 rfl rfl)
theorem dJ22_hashCode_4_20 : decode cJ22_hashCode_4 20 = .ok (.iload 5, 2) := dk_21 5 (dk_at dksJ22_hashCode_4_0 20 rfl rfl)
theorem dJ22_hashCode_4_22 : decode cJ22_hashCode_4 22 = .ok (.iaload, 1) := dk_46 (dk_at dksJ22_hashCode_4_0 22 rfl rfl)
theorem dJ22_hashCode_4_23 : decode cJ22_hashCode_4 23 = .ok (.iadd, 1) := dk_96 (dk_at dksJ22_hashCode_4_0 23 rfl rfl)
theorem dJ22_hashCode_4_24 : decode cJ22_hashCode_4 24 = .ok (.istore_n 0, 1) := dk_59 (dk_at dksJ22_hashCode_4_1 0 rfl rfl)
theorem dJ22_hashCode_4_25 : decode cJ22_hashCode_4 25 = .ok (.iinc 5 1, 3) := dk_132 5 1 (dk_at dksJ22_hashCode_4_1 1 rfl rfl)
theorem dJ22_hashCode_4_28 : decode cJ22_hashCode_4 28 = .ok (.goto (-20), 3) := dk_167 255 236 (dk_at dksJ22_hashCode_4_1 4 rfl rfl)
theorem dJ22_hashCode_4_31 : decode cJ22_hashCode_4 31 = .ok (.iload_n 0, 1) := dk_26 (dk_at dksJ22_hashCode_4_1 7 rfl rfl)
theorem dJ22_hashCode_4_32 : decode cJ22_hashCode_4 32 = .ok (.ireturn, 1) := dk_172 (dk_at dksJ22_hashCode_4_1 8 rfl rfl)
abbrev cJ22_mismatch : ByteArray := prog_97_method_13_code
def yJ22_mismatch : MethodName := ⟨RJ22, "mismatch", "([B[BI)I"⟩
def dkwJ22_mismatch_3 : List UInt8 := [172]
abbrev dktJ22_mismatch_3 : List UInt8 := dkwJ22_mismatch_3 ++ []
def dkwJ22_mismatch_2 : List UInt8 := [62, 29, 28, 162, 0, 20, 42, 29, 51, 43, 29, 51, 159, 0, 5, 29, 172, 132, 3, 1, 167, 255, 237, 2]
abbrev dktJ22_mismatch_2 : List UInt8 := dkwJ22_mismatch_2 ++ dktJ22_mismatch_3
def dkwJ22_mismatch_1 : List UInt8 := [43, 178, 0, 126, 133, 28, 178, 0, 129, 184, 0, 122, 62, 29, 155, 0, 5, 29, 172, 28, 29, 2, 130, 100]
abbrev dktJ22_mismatch_1 : List UInt8 := dkwJ22_mismatch_1 ++ dktJ22_mismatch_2
def dkwJ22_mismatch_0 : List UInt8 := [3, 62, 28, 16, 7, 164, 0, 44, 42, 3, 51, 43, 3, 51, 159, 0, 5, 3, 172, 42, 178, 0, 126, 133]
abbrev dktJ22_mismatch_0 : List UInt8 := dkwJ22_mismatch_0 ++ dktJ22_mismatch_1
theorem dksJ22_mismatch_0 : cJ22_mismatch.data.toList.drop 0 = dktJ22_mismatch_0 := by decide +kernel
theorem dksJ22_mismatch_1 : cJ22_mismatch.data.toList.drop 24 = dktJ22_mismatch_1 := dk_seg dksJ22_mismatch_0 24 rfl rfl
theorem dksJ22_mismatch_2 : cJ22_mismatch.data.toList.drop 48 = dktJ22_mismatch_2 := dk_seg dksJ22_mismatch_1 24 rfl rfl
theorem dksJ22_mismatch_3 : cJ22_mismatch.data.toList.drop 72 = dktJ22_mismatch_3 := dk_seg dksJ22_mismatch_2 24 rfl rfl
theorem dJ22_mismatch_0 : decode cJ22_mismatch 0 = .ok (.iconst 0, 1) := dk_3 (dk_at dksJ22_mismatch_0 0 rfl rfl)
theorem dJ22_mismatch_1 : decode cJ22_mismatch 1 = .ok (.istore_n 3, 1) := dk_62 (dk_at dksJ22_mismatch_0 1 rfl rfl)
theorem dJ22_mismatch_2 : decode cJ22_mismatch 2 = .ok (.iload_n 2, 1) := dk_28 (dk_at dksJ22_mismatch_0 2 rfl rfl)
theorem dJ22_mismatch_3 : decode cJ22_mismatch 3 = .ok (.bipush 7, 2) := dk_16 7 (dk_at dksJ22_mismatch_0 3 rfl rfl)
theorem dJ22_mismatch_5 : decode cJ22_mismatch 5 = .ok (.if_icmp .le 44, 3) := dk_164 0 44 (dk_at dksJ22_mismatch_0 5 rfl rfl)
theorem dJ22_mismatch_8 : decode cJ22_mismatch 8 = .ok (.aload_n 0, 1) := dk_42 (dk_at dksJ22_mismatch_0 8 rfl rfl)
theorem dJ22_mismatch_9 : decode cJ22_mismatch 9 = .ok (.iconst 0, 1) := dk_3 (dk_at dksJ22_mismatch_0 9 rfl rfl)
theorem dJ22_mismatch_10 : decode cJ22_mismatch 10 = .ok (.baload, 1) := dk_51 (dk_at dksJ22_mismatch_0 10 rfl rfl)
theorem dJ22_mismatch_11 : decode cJ22_mismatch 11 = .ok (.aload_n 1, 1) := dk_43 (dk_at dksJ22_mismatch_0 11 rfl rfl)
theorem dJ22_mismatch_12 : decode cJ22_mismatch 12 = .ok (.iconst 0, 1) := dk_3 (dk_at dksJ22_mismatch_0 12 rfl rfl)
theorem dJ22_mismatch_13 : decode cJ22_mismatch 13 = .ok (.baload, 1) := dk_51 (dk_at dksJ22_mismatch_0 13 rfl rfl)
theorem dJ22_mismatch_14 : decode cJ22_mismatch 14 = .ok (.if_icmp .eq 5, 3) := dk_159 0 5 (dk_at dksJ22_mismatch_0 14 rfl rfl)
theorem dJ22_mismatch_17 : decode cJ22_mismatch 17 = .ok (.iconst 0, 1) := dk_3 (dk_at dksJ22_mismatch_0 17 rfl rfl)
theorem dJ22_mismatch_18 : decode cJ22_mismatch 18 = .ok (.ireturn, 1) := dk_172 (dk_at dksJ22_mismatch_0 18 rfl rfl)
theorem dJ22_mismatch_19 : decode cJ22_mismatch 19 = .ok (.aload_n 0, 1) := dk_42 (dk_at dksJ22_mismatch_0 19 rfl rfl)
theorem dJ22_mismatch_20 : decode cJ22_mismatch 20 = .ok (.getstatic 126, 3) := dk_178 0 126 (dk_at dksJ22_mismatch_0 20 rfl rfl)
theorem dJ22_mismatch_23 : decode cJ22_mismatch 23 = .ok (.i2l, 1) := dk_133 (dk_at dksJ22_mismatch_0 23 rfl rfl)
theorem dJ22_mismatch_24 : decode cJ22_mismatch 24 = .ok (.aload_n 1, 1) := dk_43 (dk_at dksJ22_mismatch_1 0 rfl rfl)
theorem dJ22_mismatch_25 : decode cJ22_mismatch 25 = .ok (.getstatic 126, 3) := dk_178 0 126 (dk_at dksJ22_mismatch_1 1 rfl rfl)
theorem dJ22_mismatch_28 : decode cJ22_mismatch 28 = .ok (.i2l, 1) := dk_133 (dk_at dksJ22_mismatch_1 4 rfl rfl)
theorem dJ22_mismatch_29 : decode cJ22_mismatch 29 = .ok (.iload_n 2, 1) := dk_28 (dk_at dksJ22_mismatch_1 5 rfl rfl)
theorem dJ22_mismatch_30 : decode cJ22_mismatch 30 = .ok (.getstatic 129, 3) := dk_178 0 129 (dk_at dksJ22_mismatch_1 6 rfl rfl)
theorem dJ22_mismatch_33 : decode cJ22_mismatch 33 = .ok (.invokestatic 122, 3) := dk_184 0 122 (dk_at dksJ22_mismatch_1 9 rfl rfl)
theorem dJ22_mismatch_36 : decode cJ22_mismatch 36 = .ok (.istore_n 3, 1) := dk_62 (dk_at dksJ22_mismatch_1 12 rfl rfl)
theorem dJ22_mismatch_37 : decode cJ22_mismatch 37 = .ok (.iload_n 3, 1) := dk_29 (dk_at dksJ22_mismatch_1 13 rfl rfl)
theorem dJ22_mismatch_38 : decode cJ22_mismatch 38 = .ok (.ifCond .lt 5, 3) := dk_155 0 5 (dk_at dksJ22_mismatch_1 14 rfl rfl)
theorem dJ22_mismatch_41 : decode cJ22_mismatch 41 = .ok (.iload_n 3, 1) := dk_29 (dk_at dksJ22_mismatch_1 17 rfl rfl)
theorem dJ22_mismatch_42 : decode cJ22_mismatch 42 = .ok (.ireturn, 1) := dk_172 (dk_at dksJ22_mismatch_1 18 rfl rfl)
theorem dJ22_mismatch_43 : decode cJ22_mismatch 43 = .ok (.iload_n 2, 1) := dk_28 (dk_at dksJ22_mismatch_1 19 rfl rfl)
theorem dJ22_mismatch_44 : decode cJ22_mismatch 44 = .ok (.iload_n 3, 1) := dk_29 (dk_at dksJ22_mismatch_1 20 rfl rfl)
theorem dJ22_mismatch_45 : decode cJ22_mismatch 45 = .ok (.iconst (-1), 1) := dk_2 (dk_at dksJ22_mismatch_1 21 rfl rfl)
theorem dJ22_mismatch_46 : decode cJ22_mismatch 46 = .ok (.ixor, 1) := dk_130 (dk_at dksJ22_mismatch_1 22 rfl rfl)
theorem dJ22_mismatch_47 : decode cJ22_mismatch 47 = .ok (.isub, 1) := dk_100 (dk_at dksJ22_mismatch_1 23 rfl rfl)
theorem dJ22_mismatch_48 : decode cJ22_mismatch 48 = .ok (.istore_n 3, 1) := dk_62 (dk_at dksJ22_mismatch_2 0 rfl rfl)
theorem dJ22_mismatch_49 : decode cJ22_mismatch 49 = .ok (.iload_n 3, 1) := dk_29 (dk_at dksJ22_mismatch_2 1 rfl rfl)
theorem dJ22_mismatch_50 : decode cJ22_mismatch 50 = .ok (.iload_n 2, 1) := dk_28 (dk_at dksJ22_mismatch_2 2 rfl rfl)
theorem dJ22_mismatch_51 : decode cJ22_mismatch 51 = .ok (.if_icmp .ge 20, 3) := dk_162 0 20 (dk_at dksJ22_mismatch_2 3 rfl rfl)
theorem dJ22_mismatch_54 : decode cJ22_mismatch 54 = .ok (.aload_n 0, 1) := dk_42 (dk_at dksJ22_mismatch_2 6 rfl rfl)
theorem dJ22_mismatch_55 : decode cJ22_mismatch 55 = .ok (.iload_n 3, 1) := dk_29 (dk_at dksJ22_mismatch_2 7 rfl rfl)
theorem dJ22_mismatch_56 : decode cJ22_mismatch 56 = .ok (.baload, 1) := dk_51 (dk_at dksJ22_mismatch_2 8 rfl rfl)
theorem dJ22_mismatch_57 : decode cJ22_mismatch 57 = .ok (.aload_n 1, 1) := dk_43 (dk_at dksJ22_mismatch_2 9 rfl rfl)
theorem dJ22_mismatch_58 : decode cJ22_mismatch 58 = .ok (.iload_n 3, 1) := dk_29 (dk_at dksJ22_mismatch_2 10 rfl rfl)
theorem dJ22_mismatch_59 : decode cJ22_mismatch 59 = .ok (.baload, 1) := dk_51 (dk_at dksJ22_mismatch_2 11 rfl rfl)
theorem dJ22_mismatch_60 : decode cJ22_mismatch 60 = .ok (.if_icmp .eq 5, 3) := dk_159 0 5 (dk_at dksJ22_mismatch_2 12 rfl rfl)
theorem dJ22_mismatch_63 : decode cJ22_mismatch 63 = .ok (.iload_n 3, 1) := dk_29 (dk_at dksJ22_mismatch_2 15 rfl rfl)
theorem dJ22_mismatch_64 : decode cJ22_mismatch 64 = .ok (.ireturn, 1) := dk_172 (dk_at dksJ22_mismatch_2 16 rfl rfl)
theorem dJ22_mismatch_65 : decode cJ22_mismatch 65 = .ok (.iinc 3 1, 3) := dk_132 3 1 (dk_at dksJ22_mismatch_2 17 rfl rfl)
theorem dJ22_mismatch_68 : decode cJ22_mismatch 68 = .ok (.goto (-19), 3) := dk_167 255 237 (dk_at dksJ22_mismatch_2 20 rfl rfl)
theorem dJ22_mismatch_71 : decode cJ22_mismatch 71 = .ok (.iconst (-1), 1) := dk_2 (dk_at dksJ22_mismatch_2 23 rfl rfl)
theorem dJ22_mismatch_72 : decode cJ22_mismatch 72 = .ok (.ireturn, 1) := dk_172 (dk_at dksJ22_mismatch_3 0 rfl rfl)
abbrev cJ22_vectorizedMismatch : ByteArray := prog_97_method_3_code
def yJ22_vectorizedMismatch : MethodName := ⟨RJ22, "vectorizedMismatch", "(Ljava/lang/Object;JLjava/lang/Object;JII)I"⟩
def dkwJ22_vectorizedMismatch_11 : List UInt8 := [54, 10, 21, 10, 2, 130, 172, 21, 10, 2, 130, 172]
abbrev dktJ22_vectorizedMismatch_11 : List UInt8 := dkwJ22_vectorizedMismatch_11 ++ []
def dkwJ22_vectorizedMismatch_10 : List UInt8 := [178, 0, 46, 21, 7, 96, 122, 54, 17, 21, 9, 21, 8, 120, 21, 17, 96, 172, 21, 10, 21, 11, 100]
abbrev dktJ22_vectorizedMismatch_10 : List UInt8 := dkwJ22_vectorizedMismatch_10 ++ dktJ22_vectorizedMismatch_11
def dkwJ22_vectorizedMismatch_9 : List UInt8 := [153, 0, 18, 21, 16, 184, 0, 58, 178, 0, 46, 21, 7, 96, 122, 167, 0, 15, 21, 16, 184, 0, 11]
abbrev dktJ22_vectorizedMismatch_9 : List UInt8 := dkwJ22_vectorizedMismatch_9 ++ dktJ22_vectorizedMismatch_10
def dkwJ22_vectorizedMismatch_8 : List UInt8 := [182, 0, 54, 54, 15, 21, 14, 21, 15, 159, 0, 54, 21, 14, 21, 15, 130, 54, 16, 178, 0, 36]
abbrev dktJ22_vectorizedMismatch_8 : List UInt8 := dkwJ22_vectorizedMismatch_8 ++ dktJ22_vectorizedMismatch_9
def dkwJ22_vectorizedMismatch_7 : List UInt8 := [55, 12, 178, 0, 26, 42, 31, 22, 12, 97, 182, 0, 54, 54, 14, 178, 0, 26, 45, 22, 4, 22, 12, 97]
abbrev dktJ22_vectorizedMismatch_7 : List UInt8 := dkwJ22_vectorizedMismatch_7 ++ dktJ22_vectorizedMismatch_8
def dkwJ22_vectorizedMismatch_6 : List UInt8 := [4, 178, 0, 51, 21, 7, 100, 120, 54, 11, 21, 10, 21, 11, 161, 0, 104, 21, 9, 133, 178, 0, 20, 121]
abbrev dktJ22_vectorizedMismatch_6 : List UInt8 := dkwJ22_vectorizedMismatch_6 ++ dktJ22_vectorizedMismatch_7
def dkwJ22_vectorizedMismatch_5 : List UInt8 := [132, 9, 1, 167, 255, 148, 21, 6, 21, 9, 21, 8, 120, 100, 54, 10, 21, 7, 178, 0, 51, 162, 0, 126]
abbrev dktJ22_vectorizedMismatch_5 : List UInt8 := dkwJ22_vectorizedMismatch_5 ++ dktJ22_vectorizedMismatch_6
def dkwJ22_vectorizedMismatch_4 : List UInt8 := [22, 16, 184, 0, 49, 178, 0, 46, 21, 7, 96, 122, 54, 18, 21, 9, 21, 8, 120, 21, 18, 96, 172]
abbrev dktJ22_vectorizedMismatch_4 : List UInt8 := dkwJ22_vectorizedMismatch_4 ++ dktJ22_vectorizedMismatch_5
def dkwJ22_vectorizedMismatch_3 : List UInt8 := [55, 16, 178, 0, 36, 153, 0, 18, 22, 16, 184, 0, 40, 178, 0, 46, 21, 7, 96, 122, 167, 0, 15]
abbrev dktJ22_vectorizedMismatch_3 : List UInt8 := dkwJ22_vectorizedMismatch_3 ++ dktJ22_vectorizedMismatch_4
def dkwJ22_vectorizedMismatch_2 : List UInt8 := [22, 4, 22, 10, 97, 182, 0, 30, 55, 14, 22, 12, 22, 14, 148, 153, 0, 54, 22, 12, 22, 14, 131]
abbrev dktJ22_vectorizedMismatch_2 : List UInt8 := dkwJ22_vectorizedMismatch_2 ++ dktJ22_vectorizedMismatch_3
def dkwJ22_vectorizedMismatch_1 : List UInt8 := [178, 0, 20, 121, 55, 10, 178, 0, 26, 42, 31, 22, 10, 97, 182, 0, 30, 55, 12, 178, 0, 26, 45]
abbrev dktJ22_vectorizedMismatch_1 : List UInt8 := dkwJ22_vectorizedMismatch_1 ++ dktJ22_vectorizedMismatch_2
def dkwJ22_vectorizedMismatch_0 : List UInt8 := [178, 0, 20, 21, 7, 100, 54, 8, 3, 54, 9, 21, 9, 21, 6, 21, 8, 122, 162, 0, 104, 21, 9, 133]
abbrev dktJ22_vectorizedMismatch_0 : List UInt8 := dkwJ22_vectorizedMismatch_0 ++ dktJ22_vectorizedMismatch_1
theorem dksJ22_vectorizedMismatch_0 : cJ22_vectorizedMismatch.data.toList.drop 0 = dktJ22_vectorizedMismatch_0 := by decide +kernel
theorem dksJ22_vectorizedMismatch_1 : cJ22_vectorizedMismatch.data.toList.drop 24 = dktJ22_vectorizedMismatch_1 := dk_seg dksJ22_vectorizedMismatch_0 24 rfl rfl
theorem dksJ22_vectorizedMismatch_2 : cJ22_vectorizedMismatch.data.toList.drop 47 = dktJ22_vectorizedMismatch_2 := dk_seg dksJ22_vectorizedMismatch_1 23 rfl rfl
theorem dksJ22_vectorizedMismatch_3 : cJ22_vectorizedMismatch.data.toList.drop 70 = dktJ22_vectorizedMismatch_3 := dk_seg dksJ22_vectorizedMismatch_2 23 rfl rfl
theorem dksJ22_vectorizedMismatch_4 : cJ22_vectorizedMismatch.data.toList.drop 93 = dktJ22_vectorizedMismatch_4 := dk_seg dksJ22_vectorizedMismatch_3 23 rfl rfl
theorem dksJ22_vectorizedMismatch_5 : cJ22_vectorizedMismatch.data.toList.drop 116 = dktJ22_vectorizedMismatch_5 := dk_seg dksJ22_vectorizedMismatch_4 23 rfl rfl
theorem dksJ22_vectorizedMismatch_6 : cJ22_vectorizedMismatch.data.toList.drop 140 = dktJ22_vectorizedMismatch_6 := dk_seg dksJ22_vectorizedMismatch_5 24 rfl rfl
theorem dksJ22_vectorizedMismatch_7 : cJ22_vectorizedMismatch.data.toList.drop 164 = dktJ22_vectorizedMismatch_7 := dk_seg dksJ22_vectorizedMismatch_6 24 rfl rfl
theorem dksJ22_vectorizedMismatch_8 : cJ22_vectorizedMismatch.data.toList.drop 188 = dktJ22_vectorizedMismatch_8 := dk_seg dksJ22_vectorizedMismatch_7 24 rfl rfl
theorem dksJ22_vectorizedMismatch_9 : cJ22_vectorizedMismatch.data.toList.drop 210 = dktJ22_vectorizedMismatch_9 := dk_seg dksJ22_vectorizedMismatch_8 22 rfl rfl
theorem dksJ22_vectorizedMismatch_10 : cJ22_vectorizedMismatch.data.toList.drop 233 = dktJ22_vectorizedMismatch_10 := dk_seg dksJ22_vectorizedMismatch_9 23 rfl rfl
theorem dksJ22_vectorizedMismatch_11 : cJ22_vectorizedMismatch.data.toList.drop 256 = dktJ22_vectorizedMismatch_11 := dk_seg dksJ22_vectorizedMismatch_10 23 rfl rfl
theorem dJ22_vectorizedMismatch_0 : decode cJ22_vectorizedMismatch 0 = .ok (.getstatic 20, 3) := dk_178 0 20 (dk_at dksJ22_vectorizedMismatch_0 0 rfl rfl)
theorem dJ22_vectorizedMismatch_3 : decode cJ22_vectorizedMismatch 3 = .ok (.iload 7, 2) := dk_21 7 (dk_at dksJ22_vectorizedMismatch_0 3 rfl rfl)
theorem dJ22_vectorizedMismatch_5 : decode cJ22_vectorizedMismatch 5 = .ok (.isub, 1) := dk_100 (dk_at dksJ22_vectorizedMismatch_0 5 rfl rfl)
theorem dJ22_vectorizedMismatch_6 : decode cJ22_vectorizedMismatch 6 = .ok (.istore 8, 2) := dk_54 8 (dk_at dksJ22_vectorizedMismatch_0 6 rfl rfl)
theorem dJ22_vectorizedMismatch_8 : decode cJ22_vectorizedMismatch 8 = .ok (.iconst 0, 1) := dk_3 (dk_at dksJ22_vectorizedMismatch_0 8 rfl rfl)
theorem dJ22_vectorizedMismatch_9 : decode cJ22_vectorizedMismatch 9 = .ok (.istore 9, 2) := dk_54 9 (dk_at dksJ22_vectorizedMismatch_0 9 rfl rfl)
theorem dJ22_vectorizedMismatch_11 : decode cJ22_vectorizedMismatch 11 = .ok (.iload 9, 2) := dk_21 9 (dk_at dksJ22_vectorizedMismatch_0 11 rfl rfl)
theorem dJ22_vectorizedMismatch_13 : decode cJ22_vectorizedMismatch 13 = .ok (.iload 6, 2) := dk_21 6 (dk_at dksJ22_vectorizedMismatch_0 13 rfl rfl)
theorem dJ22_vectorizedMismatch_15 : decode cJ22_vectorizedMismatch 15 = .ok (.iload 8, 2) := dk_21 8 (dk_at dksJ22_vectorizedMismatch_0 15 rfl rfl)
theorem dJ22_vectorizedMismatch_17 : decode cJ22_vectorizedMismatch 17 = .ok (.ishr, 1) := dk_122 (dk_at dksJ22_vectorizedMismatch_0 17 rfl rfl)
theorem dJ22_vectorizedMismatch_18 : decode cJ22_vectorizedMismatch 18 = .ok (.if_icmp .ge 104, 3) := dk_162 0 104 (dk_at dksJ22_vectorizedMismatch_0 18 rfl rfl)
theorem dJ22_vectorizedMismatch_21 : decode cJ22_vectorizedMismatch 21 = .ok (.iload 9, 2) := dk_21 9 (dk_at dksJ22_vectorizedMismatch_0 21 rfl rfl)
theorem dJ22_vectorizedMismatch_23 : decode cJ22_vectorizedMismatch 23 = .ok (.i2l, 1) := dk_133 (dk_at dksJ22_vectorizedMismatch_0 23 rfl rfl)
theorem dJ22_vectorizedMismatch_24 : decode cJ22_vectorizedMismatch 24 = .ok (.getstatic 20, 3) := dk_178 0 20 (dk_at dksJ22_vectorizedMismatch_1 0 rfl rfl)
theorem dJ22_vectorizedMismatch_27 : decode cJ22_vectorizedMismatch 27 = .ok (.lshl, 1) := dk_121 (dk_at dksJ22_vectorizedMismatch_1 3 rfl rfl)
theorem dJ22_vectorizedMismatch_28 : decode cJ22_vectorizedMismatch 28 = .ok (.lstore 10, 2) := dk_55 10 (dk_at dksJ22_vectorizedMismatch_1 4 rfl rfl)
theorem dJ22_vectorizedMismatch_30 : decode cJ22_vectorizedMismatch 30 = .ok (.getstatic 26, 3) := dk_178 0 26 (dk_at dksJ22_vectorizedMismatch_1 6 rfl rfl)
theorem dJ22_vectorizedMismatch_33 : decode cJ22_vectorizedMismatch 33 = .ok (.aload_n 0, 1) := dk_42 (dk_at dksJ22_vectorizedMismatch_1 9 rfl rfl)
theorem dJ22_vectorizedMismatch_34 : decode cJ22_vectorizedMismatch 34 = .ok (.lload_n 1, 1) := dk_31 (dk_at dksJ22_vectorizedMismatch_1 10 rfl rfl)
theorem dJ22_vectorizedMismatch_35 : decode cJ22_vectorizedMismatch 35 = .ok (.lload 10, 2) := dk_22 10 (dk_at dksJ22_vectorizedMismatch_1 11 rfl rfl)
theorem dJ22_vectorizedMismatch_37 : decode cJ22_vectorizedMismatch 37 = .ok (.ladd, 1) := dk_97 (dk_at dksJ22_vectorizedMismatch_1 13 rfl rfl)
theorem dJ22_vectorizedMismatch_38 : decode cJ22_vectorizedMismatch 38 = .ok (.invokevirtual 30, 3) := dk_182 0 30 (dk_at dksJ22_vectorizedMismatch_1 14 rfl rfl)
theorem dJ22_vectorizedMismatch_41 : decode cJ22_vectorizedMismatch 41 = .ok (.lstore 12, 2) := dk_55 12 (dk_at dksJ22_vectorizedMismatch_1 17 rfl rfl)
theorem dJ22_vectorizedMismatch_43 : decode cJ22_vectorizedMismatch 43 = .ok (.getstatic 26, 3) := dk_178 0 26 (dk_at dksJ22_vectorizedMismatch_1 19 rfl rfl)
theorem dJ22_vectorizedMismatch_46 : decode cJ22_vectorizedMismatch 46 = .ok (.aload_n 3, 1) := dk_45 (dk_at dksJ22_vectorizedMismatch_1 22 rfl rfl)
theorem dJ22_vectorizedMismatch_47 : decode cJ22_vectorizedMismatch 47 = .ok (.lload 4, 2) := dk_22 4 (dk_at dksJ22_vectorizedMismatch_2 0 rfl rfl)
theorem dJ22_vectorizedMismatch_49 : decode cJ22_vectorizedMismatch 49 = .ok (.lload 10, 2) := dk_22 10 (dk_at dksJ22_vectorizedMismatch_2 2 rfl rfl)
theorem dJ22_vectorizedMismatch_51 : decode cJ22_vectorizedMismatch 51 = .ok (.ladd, 1) := dk_97 (dk_at dksJ22_vectorizedMismatch_2 4 rfl rfl)
theorem dJ22_vectorizedMismatch_52 : decode cJ22_vectorizedMismatch 52 = .ok (.invokevirtual 30, 3) := dk_182 0 30 (dk_at dksJ22_vectorizedMismatch_2 5 rfl rfl)
theorem dJ22_vectorizedMismatch_55 : decode cJ22_vectorizedMismatch 55 = .ok (.lstore 14, 2) := dk_55 14 (dk_at dksJ22_vectorizedMismatch_2 8 rfl rfl)
theorem dJ22_vectorizedMismatch_57 : decode cJ22_vectorizedMismatch 57 = .ok (.lload 12, 2) := dk_22 12 (dk_at dksJ22_vectorizedMismatch_2 10 rfl rfl)
theorem dJ22_vectorizedMismatch_59 : decode cJ22_vectorizedMismatch 59 = .ok (.lload 14, 2) := dk_22 14 (dk_at dksJ22_vectorizedMismatch_2 12 rfl rfl)
theorem dJ22_vectorizedMismatch_61 : decode cJ22_vectorizedMismatch 61 = .ok (.lcmp, 1) := dk_148 (dk_at dksJ22_vectorizedMismatch_2 14 rfl rfl)
theorem dJ22_vectorizedMismatch_62 : decode cJ22_vectorizedMismatch 62 = .ok (.ifCond .eq 54, 3) := dk_153 0 54 (dk_at dksJ22_vectorizedMismatch_2 15 rfl rfl)
theorem dJ22_vectorizedMismatch_65 : decode cJ22_vectorizedMismatch 65 = .ok (.lload 12, 2) := dk_22 12 (dk_at dksJ22_vectorizedMismatch_2 18 rfl rfl)
theorem dJ22_vectorizedMismatch_67 : decode cJ22_vectorizedMismatch 67 = .ok (.lload 14, 2) := dk_22 14 (dk_at dksJ22_vectorizedMismatch_2 20 rfl rfl)
theorem dJ22_vectorizedMismatch_69 : decode cJ22_vectorizedMismatch 69 = .ok (.lxor, 1) := dk_131 (dk_at dksJ22_vectorizedMismatch_2 22 rfl rfl)
theorem dJ22_vectorizedMismatch_70 : decode cJ22_vectorizedMismatch 70 = .ok (.lstore 16, 2) := dk_55 16 (dk_at dksJ22_vectorizedMismatch_3 0 rfl rfl)
theorem dJ22_vectorizedMismatch_72 : decode cJ22_vectorizedMismatch 72 = .ok (.getstatic 36, 3) := dk_178 0 36 (dk_at dksJ22_vectorizedMismatch_3 2 rfl rfl)
theorem dJ22_vectorizedMismatch_75 : decode cJ22_vectorizedMismatch 75 = .ok (.ifCond .eq 18, 3) := dk_153 0 18 (dk_at dksJ22_vectorizedMismatch_3 5 rfl rfl)
theorem dJ22_vectorizedMismatch_78 : decode cJ22_vectorizedMismatch 78 = .ok (.lload 16, 2) := dk_22 16 (dk_at dksJ22_vectorizedMismatch_3 8 rfl rfl)
theorem dJ22_vectorizedMismatch_80 : decode cJ22_vectorizedMismatch 80 = .ok (.invokestatic 40, 3) := dk_184 0 40 (dk_at dksJ22_vectorizedMismatch_3 10 rfl rfl)
theorem dJ22_vectorizedMismatch_83 : decode cJ22_vectorizedMismatch 83 = .ok (.getstatic 46, 3) := dk_178 0 46 (dk_at dksJ22_vectorizedMismatch_3 13 rfl rfl)
theorem dJ22_vectorizedMismatch_86 : decode cJ22_vectorizedMismatch 86 = .ok (.iload 7, 2) := dk_21 7 (dk_at dksJ22_vectorizedMismatch_3 16 rfl rfl)
theorem dJ22_vectorizedMismatch_88 : decode cJ22_vectorizedMismatch 88 = .ok (.iadd, 1) := dk_96 (dk_at dksJ22_vectorizedMismatch_3 18 rfl rfl)
theorem dJ22_vectorizedMismatch_89 : decode cJ22_vectorizedMismatch 89 = .ok (.ishr, 1) := dk_122 (dk_at dksJ22_vectorizedMismatch_3 19 rfl rfl)
theorem dJ22_vectorizedMismatch_90 : decode cJ22_vectorizedMismatch 90 = .ok (.goto 15, 3) := dk_167 0 15 (dk_at dksJ22_vectorizedMismatch_3 20 rfl rfl)
theorem dJ22_vectorizedMismatch_93 : decode cJ22_vectorizedMismatch 93 = .ok (.lload 16, 2) := dk_22 16 (dk_at dksJ22_vectorizedMismatch_4 0 rfl rfl)
theorem dJ22_vectorizedMismatch_95 : decode cJ22_vectorizedMismatch 95 = .ok (.invokestatic 49, 3) := dk_184 0 49 (dk_at dksJ22_vectorizedMismatch_4 2 rfl rfl)
theorem dJ22_vectorizedMismatch_98 : decode cJ22_vectorizedMismatch 98 = .ok (.getstatic 46, 3) := dk_178 0 46 (dk_at dksJ22_vectorizedMismatch_4 5 rfl rfl)
theorem dJ22_vectorizedMismatch_101 : decode cJ22_vectorizedMismatch 101 = .ok (.iload 7, 2) := dk_21 7 (dk_at dksJ22_vectorizedMismatch_4 8 rfl rfl)
theorem dJ22_vectorizedMismatch_103 : decode cJ22_vectorizedMismatch 103 = .ok (.iadd, 1) := dk_96 (dk_at dksJ22_vectorizedMismatch_4 10 rfl rfl)
theorem dJ22_vectorizedMismatch_104 : decode cJ22_vectorizedMismatch 104 = .ok (.ishr, 1) := dk_122 (dk_at dksJ22_vectorizedMismatch_4 11 rfl rfl)
theorem dJ22_vectorizedMismatch_105 : decode cJ22_vectorizedMismatch 105 = .ok (.istore 18, 2) := dk_54 18 (dk_at dksJ22_vectorizedMismatch_4 12 rfl rfl)
theorem dJ22_vectorizedMismatch_107 : decode cJ22_vectorizedMismatch 107 = .ok (.iload 9, 2) := dk_21 9 (dk_at dksJ22_vectorizedMismatch_4 14 rfl rfl)
theorem dJ22_vectorizedMismatch_109 : decode cJ22_vectorizedMismatch 109 = .ok (.iload 8, 2) := dk_21 8 (dk_at dksJ22_vectorizedMismatch_4 16 rfl rfl)
theorem dJ22_vectorizedMismatch_111 : decode cJ22_vectorizedMismatch 111 = .ok (.ishl, 1) := dk_120 (dk_at dksJ22_vectorizedMismatch_4 18 rfl rfl)
theorem dJ22_vectorizedMismatch_112 : decode cJ22_vectorizedMismatch 112 = .ok (.iload 18, 2) := dk_21 18 (dk_at dksJ22_vectorizedMismatch_4 19 rfl rfl)
theorem dJ22_vectorizedMismatch_114 : decode cJ22_vectorizedMismatch 114 = .ok (.iadd, 1) := dk_96 (dk_at dksJ22_vectorizedMismatch_4 21 rfl rfl)
theorem dJ22_vectorizedMismatch_115 : decode cJ22_vectorizedMismatch 115 = .ok (.ireturn, 1) := dk_172 (dk_at dksJ22_vectorizedMismatch_4 22 rfl rfl)
theorem dJ22_vectorizedMismatch_116 : decode cJ22_vectorizedMismatch 116 = .ok (.iinc 9 1, 3) := dk_132 9 1 (dk_at dksJ22_vectorizedMismatch_5 0 rfl rfl)
theorem dJ22_vectorizedMismatch_119 : decode cJ22_vectorizedMismatch 119 = .ok (.goto (-108), 3) := dk_167 255 148 (dk_at dksJ22_vectorizedMismatch_5 3 rfl rfl)
theorem dJ22_vectorizedMismatch_122 : decode cJ22_vectorizedMismatch 122 = .ok (.iload 6, 2) := dk_21 6 (dk_at dksJ22_vectorizedMismatch_5 6 rfl rfl)
theorem dJ22_vectorizedMismatch_124 : decode cJ22_vectorizedMismatch 124 = .ok (.iload 9, 2) := dk_21 9 (dk_at dksJ22_vectorizedMismatch_5 8 rfl rfl)
theorem dJ22_vectorizedMismatch_126 : decode cJ22_vectorizedMismatch 126 = .ok (.iload 8, 2) := dk_21 8 (dk_at dksJ22_vectorizedMismatch_5 10 rfl rfl)
theorem dJ22_vectorizedMismatch_128 : decode cJ22_vectorizedMismatch 128 = .ok (.ishl, 1) := dk_120 (dk_at dksJ22_vectorizedMismatch_5 12 rfl rfl)
theorem dJ22_vectorizedMismatch_129 : decode cJ22_vectorizedMismatch 129 = .ok (.isub, 1) := dk_100 (dk_at dksJ22_vectorizedMismatch_5 13 rfl rfl)
theorem dJ22_vectorizedMismatch_130 : decode cJ22_vectorizedMismatch 130 = .ok (.istore 10, 2) := dk_54 10 (dk_at dksJ22_vectorizedMismatch_5 14 rfl rfl)
theorem dJ22_vectorizedMismatch_132 : decode cJ22_vectorizedMismatch 132 = .ok (.iload 7, 2) := dk_21 7 (dk_at dksJ22_vectorizedMismatch_5 16 rfl rfl)
theorem dJ22_vectorizedMismatch_134 : decode cJ22_vectorizedMismatch 134 = .ok (.getstatic 51, 3) := dk_178 0 51 (dk_at dksJ22_vectorizedMismatch_5 18 rfl rfl)
theorem dJ22_vectorizedMismatch_137 : decode cJ22_vectorizedMismatch 137 = .ok (.if_icmp .ge 126, 3) := dk_162 0 126 (dk_at dksJ22_vectorizedMismatch_5 21 rfl rfl)
theorem dJ22_vectorizedMismatch_140 : decode cJ22_vectorizedMismatch 140 = .ok (.iconst 1, 1) := dk_4 (dk_at dksJ22_vectorizedMismatch_6 0 rfl rfl)
theorem dJ22_vectorizedMismatch_141 : decode cJ22_vectorizedMismatch 141 = .ok (.getstatic 51, 3) := dk_178 0 51 (dk_at dksJ22_vectorizedMismatch_6 1 rfl rfl)
theorem dJ22_vectorizedMismatch_144 : decode cJ22_vectorizedMismatch 144 = .ok (.iload 7, 2) := dk_21 7 (dk_at dksJ22_vectorizedMismatch_6 4 rfl rfl)
theorem dJ22_vectorizedMismatch_146 : decode cJ22_vectorizedMismatch 146 = .ok (.isub, 1) := dk_100 (dk_at dksJ22_vectorizedMismatch_6 6 rfl rfl)
theorem dJ22_vectorizedMismatch_147 : decode cJ22_vectorizedMismatch 147 = .ok (.ishl, 1) := dk_120 (dk_at dksJ22_vectorizedMismatch_6 7 rfl rfl)
theorem dJ22_vectorizedMismatch_148 : decode cJ22_vectorizedMismatch 148 = .ok (.istore 11, 2) := dk_54 11 (dk_at dksJ22_vectorizedMismatch_6 8 rfl rfl)
theorem dJ22_vectorizedMismatch_150 : decode cJ22_vectorizedMismatch 150 = .ok (.iload 10, 2) := dk_21 10 (dk_at dksJ22_vectorizedMismatch_6 10 rfl rfl)
theorem dJ22_vectorizedMismatch_152 : decode cJ22_vectorizedMismatch 152 = .ok (.iload 11, 2) := dk_21 11 (dk_at dksJ22_vectorizedMismatch_6 12 rfl rfl)
theorem dJ22_vectorizedMismatch_154 : decode cJ22_vectorizedMismatch 154 = .ok (.if_icmp .lt 104, 3) := dk_161 0 104 (dk_at dksJ22_vectorizedMismatch_6 14 rfl rfl)
theorem dJ22_vectorizedMismatch_157 : decode cJ22_vectorizedMismatch 157 = .ok (.iload 9, 2) := dk_21 9 (dk_at dksJ22_vectorizedMismatch_6 17 rfl rfl)
theorem dJ22_vectorizedMismatch_159 : decode cJ22_vectorizedMismatch 159 = .ok (.i2l, 1) := dk_133 (dk_at dksJ22_vectorizedMismatch_6 19 rfl rfl)
theorem dJ22_vectorizedMismatch_160 : decode cJ22_vectorizedMismatch 160 = .ok (.getstatic 20, 3) := dk_178 0 20 (dk_at dksJ22_vectorizedMismatch_6 20 rfl rfl)
theorem dJ22_vectorizedMismatch_163 : decode cJ22_vectorizedMismatch 163 = .ok (.lshl, 1) := dk_121 (dk_at dksJ22_vectorizedMismatch_6 23 rfl rfl)
theorem dJ22_vectorizedMismatch_164 : decode cJ22_vectorizedMismatch 164 = .ok (.lstore 12, 2) := dk_55 12 (dk_at dksJ22_vectorizedMismatch_7 0 rfl rfl)
theorem dJ22_vectorizedMismatch_166 : decode cJ22_vectorizedMismatch 166 = .ok (.getstatic 26, 3) := dk_178 0 26 (dk_at dksJ22_vectorizedMismatch_7 2 rfl rfl)
theorem dJ22_vectorizedMismatch_169 : decode cJ22_vectorizedMismatch 169 = .ok (.aload_n 0, 1) := dk_42 (dk_at dksJ22_vectorizedMismatch_7 5 rfl rfl)
theorem dJ22_vectorizedMismatch_170 : decode cJ22_vectorizedMismatch 170 = .ok (.lload_n 1, 1) := dk_31 (dk_at dksJ22_vectorizedMismatch_7 6 rfl rfl)
theorem dJ22_vectorizedMismatch_171 : decode cJ22_vectorizedMismatch 171 = .ok (.lload 12, 2) := dk_22 12 (dk_at dksJ22_vectorizedMismatch_7 7 rfl rfl)
theorem dJ22_vectorizedMismatch_173 : decode cJ22_vectorizedMismatch 173 = .ok (.ladd, 1) := dk_97 (dk_at dksJ22_vectorizedMismatch_7 9 rfl rfl)
theorem dJ22_vectorizedMismatch_174 : decode cJ22_vectorizedMismatch 174 = .ok (.invokevirtual 54, 3) := dk_182 0 54 (dk_at dksJ22_vectorizedMismatch_7 10 rfl rfl)
theorem dJ22_vectorizedMismatch_177 : decode cJ22_vectorizedMismatch 177 = .ok (.istore 14, 2) := dk_54 14 (dk_at dksJ22_vectorizedMismatch_7 13 rfl rfl)
theorem dJ22_vectorizedMismatch_179 : decode cJ22_vectorizedMismatch 179 = .ok (.getstatic 26, 3) := dk_178 0 26 (dk_at dksJ22_vectorizedMismatch_7 15 rfl rfl)
theorem dJ22_vectorizedMismatch_182 : decode cJ22_vectorizedMismatch 182 = .ok (.aload_n 3, 1) := dk_45 (dk_at dksJ22_vectorizedMismatch_7 18 rfl rfl)
theorem dJ22_vectorizedMismatch_183 : decode cJ22_vectorizedMismatch 183 = .ok (.lload 4, 2) := dk_22 4 (dk_at dksJ22_vectorizedMismatch_7 19 rfl rfl)
theorem dJ22_vectorizedMismatch_185 : decode cJ22_vectorizedMismatch 185 = .ok (.lload 12, 2) := dk_22 12 (dk_at dksJ22_vectorizedMismatch_7 21 rfl rfl)
theorem dJ22_vectorizedMismatch_187 : decode cJ22_vectorizedMismatch 187 = .ok (.ladd, 1) := dk_97 (dk_at dksJ22_vectorizedMismatch_7 23 rfl rfl)
theorem dJ22_vectorizedMismatch_188 : decode cJ22_vectorizedMismatch 188 = .ok (.invokevirtual 54, 3) := dk_182 0 54 (dk_at dksJ22_vectorizedMismatch_8 0 rfl rfl)
theorem dJ22_vectorizedMismatch_191 : decode cJ22_vectorizedMismatch 191 = .ok (.istore 15, 2) := dk_54 15 (dk_at dksJ22_vectorizedMismatch_8 3 rfl rfl)
theorem dJ22_vectorizedMismatch_193 : decode cJ22_vectorizedMismatch 193 = .ok (.iload 14, 2) := dk_21 14 (dk_at dksJ22_vectorizedMismatch_8 5 rfl rfl)
theorem dJ22_vectorizedMismatch_195 : decode cJ22_vectorizedMismatch 195 = .ok (.iload 15, 2) := dk_21 15 (dk_at dksJ22_vectorizedMismatch_8 7 rfl rfl)
theorem dJ22_vectorizedMismatch_197 : decode cJ22_vectorizedMismatch 197 = .ok (.if_icmp .eq 54, 3) := dk_159 0 54 (dk_at dksJ22_vectorizedMismatch_8 9 rfl rfl)
theorem dJ22_vectorizedMismatch_200 : decode cJ22_vectorizedMismatch 200 = .ok (.iload 14, 2) := dk_21 14 (dk_at dksJ22_vectorizedMismatch_8 12 rfl rfl)
theorem dJ22_vectorizedMismatch_202 : decode cJ22_vectorizedMismatch 202 = .ok (.iload 15, 2) := dk_21 15 (dk_at dksJ22_vectorizedMismatch_8 14 rfl rfl)
theorem dJ22_vectorizedMismatch_204 : decode cJ22_vectorizedMismatch 204 = .ok (.ixor, 1) := dk_130 (dk_at dksJ22_vectorizedMismatch_8 16 rfl rfl)
theorem dJ22_vectorizedMismatch_205 : decode cJ22_vectorizedMismatch 205 = .ok (.istore 16, 2) := dk_54 16 (dk_at dksJ22_vectorizedMismatch_8 17 rfl rfl)
theorem dJ22_vectorizedMismatch_207 : decode cJ22_vectorizedMismatch 207 = .ok (.getstatic 36, 3) := dk_178 0 36 (dk_at dksJ22_vectorizedMismatch_8 19 rfl rfl)
theorem dJ22_vectorizedMismatch_210 : decode cJ22_vectorizedMismatch 210 = .ok (.ifCond .eq 18, 3) := dk_153 0 18 (dk_at dksJ22_vectorizedMismatch_9 0 rfl rfl)
theorem dJ22_vectorizedMismatch_213 : decode cJ22_vectorizedMismatch 213 = .ok (.iload 16, 2) := dk_21 16 (dk_at dksJ22_vectorizedMismatch_9 3 rfl rfl)
theorem dJ22_vectorizedMismatch_215 : decode cJ22_vectorizedMismatch 215 = .ok (.invokestatic 58, 3) := dk_184 0 58 (dk_at dksJ22_vectorizedMismatch_9 5 rfl rfl)
theorem dJ22_vectorizedMismatch_218 : decode cJ22_vectorizedMismatch 218 = .ok (.getstatic 46, 3) := dk_178 0 46 (dk_at dksJ22_vectorizedMismatch_9 8 rfl rfl)
theorem dJ22_vectorizedMismatch_221 : decode cJ22_vectorizedMismatch 221 = .ok (.iload 7, 2) := dk_21 7 (dk_at dksJ22_vectorizedMismatch_9 11 rfl rfl)
theorem dJ22_vectorizedMismatch_223 : decode cJ22_vectorizedMismatch 223 = .ok (.iadd, 1) := dk_96 (dk_at dksJ22_vectorizedMismatch_9 13 rfl rfl)
theorem dJ22_vectorizedMismatch_224 : decode cJ22_vectorizedMismatch 224 = .ok (.ishr, 1) := dk_122 (dk_at dksJ22_vectorizedMismatch_9 14 rfl rfl)
theorem dJ22_vectorizedMismatch_225 : decode cJ22_vectorizedMismatch 225 = .ok (.goto 15, 3) := dk_167 0 15 (dk_at dksJ22_vectorizedMismatch_9 15 rfl rfl)
theorem dJ22_vectorizedMismatch_228 : decode cJ22_vectorizedMismatch 228 = .ok (.iload 16, 2) := dk_21 16 (dk_at dksJ22_vectorizedMismatch_9 18 rfl rfl)
theorem dJ22_vectorizedMismatch_230 : decode cJ22_vectorizedMismatch 230 = .ok (.invokestatic 11, 3) := dk_184 0 11 (dk_at dksJ22_vectorizedMismatch_9 20 rfl rfl)
theorem dJ22_vectorizedMismatch_233 : decode cJ22_vectorizedMismatch 233 = .ok (.getstatic 46, 3) := dk_178 0 46 (dk_at dksJ22_vectorizedMismatch_10 0 rfl rfl)
theorem dJ22_vectorizedMismatch_236 : decode cJ22_vectorizedMismatch 236 = .ok (.iload 7, 2) := dk_21 7 (dk_at dksJ22_vectorizedMismatch_10 3 rfl rfl)
theorem dJ22_vectorizedMismatch_238 : decode cJ22_vectorizedMismatch 238 = .ok (.iadd, 1) := dk_96 (dk_at dksJ22_vectorizedMismatch_10 5 rfl rfl)
theorem dJ22_vectorizedMismatch_239 : decode cJ22_vectorizedMismatch 239 = .ok (.ishr, 1) := dk_122 (dk_at dksJ22_vectorizedMismatch_10 6 rfl rfl)
theorem dJ22_vectorizedMismatch_240 : decode cJ22_vectorizedMismatch 240 = .ok (.istore 17, 2) := dk_54 17 (dk_at dksJ22_vectorizedMismatch_10 7 rfl rfl)
theorem dJ22_vectorizedMismatch_242 : decode cJ22_vectorizedMismatch 242 = .ok (.iload 9, 2) := dk_21 9 (dk_at dksJ22_vectorizedMismatch_10 9 rfl rfl)
theorem dJ22_vectorizedMismatch_244 : decode cJ22_vectorizedMismatch 244 = .ok (.iload 8, 2) := dk_21 8 (dk_at dksJ22_vectorizedMismatch_10 11 rfl rfl)
theorem dJ22_vectorizedMismatch_246 : decode cJ22_vectorizedMismatch 246 = .ok (.ishl, 1) := dk_120 (dk_at dksJ22_vectorizedMismatch_10 13 rfl rfl)
theorem dJ22_vectorizedMismatch_247 : decode cJ22_vectorizedMismatch 247 = .ok (.iload 17, 2) := dk_21 17 (dk_at dksJ22_vectorizedMismatch_10 14 rfl rfl)
theorem dJ22_vectorizedMismatch_249 : decode cJ22_vectorizedMismatch 249 = .ok (.iadd, 1) := dk_96 (dk_at dksJ22_vectorizedMismatch_10 16 rfl rfl)
theorem dJ22_vectorizedMismatch_250 : decode cJ22_vectorizedMismatch 250 = .ok (.ireturn, 1) := dk_172 (dk_at dksJ22_vectorizedMismatch_10 17 rfl rfl)
theorem dJ22_vectorizedMismatch_251 : decode cJ22_vectorizedMismatch 251 = .ok (.iload 10, 2) := dk_21 10 (dk_at dksJ22_vectorizedMismatch_10 18 rfl rfl)
theorem dJ22_vectorizedMismatch_253 : decode cJ22_vectorizedMismatch 253 = .ok (.iload 11, 2) := dk_21 11 (dk_at dksJ22_vectorizedMismatch_10 20 rfl rfl)
theorem dJ22_vectorizedMismatch_255 : decode cJ22_vectorizedMismatch 255 = .ok (.isub, 1) := dk_100 (dk_at dksJ22_vectorizedMismatch_10 22 rfl rfl)
theorem dJ22_vectorizedMismatch_256 : decode cJ22_vectorizedMismatch 256 = .ok (.istore 10, 2) := dk_54 10 (dk_at dksJ22_vectorizedMismatch_11 0 rfl rfl)
theorem dJ22_vectorizedMismatch_258 : decode cJ22_vectorizedMismatch 258 = .ok (.iload 10, 2) := dk_21 10 (dk_at dksJ22_vectorizedMismatch_11 2 rfl rfl)
theorem dJ22_vectorizedMismatch_260 : decode cJ22_vectorizedMismatch 260 = .ok (.iconst (-1), 1) := dk_2 (dk_at dksJ22_vectorizedMismatch_11 4 rfl rfl)
theorem dJ22_vectorizedMismatch_261 : decode cJ22_vectorizedMismatch 261 = .ok (.ixor, 1) := dk_130 (dk_at dksJ22_vectorizedMismatch_11 5 rfl rfl)
theorem dJ22_vectorizedMismatch_262 : decode cJ22_vectorizedMismatch 262 = .ok (.ireturn, 1) := dk_172 (dk_at dksJ22_vectorizedMismatch_11 6 rfl rfl)
theorem dJ22_vectorizedMismatch_263 : decode cJ22_vectorizedMismatch 263 = .ok (.iload 10, 2) := dk_21 10 (dk_at dksJ22_vectorizedMismatch_11 7 rfl rfl)
theorem dJ22_vectorizedMismatch_265 : decode cJ22_vectorizedMismatch 265 = .ok (.iconst (-1), 1) := dk_2 (dk_at dksJ22_vectorizedMismatch_11 9 rfl rfl)
theorem dJ22_vectorizedMismatch_266 : decode cJ22_vectorizedMismatch 266 = .ok (.ixor, 1) := dk_130 (dk_at dksJ22_vectorizedMismatch_11 10 rfl rfl)
theorem dJ22_vectorizedMismatch_267 : decode cJ22_vectorizedMismatch 267 = .ok (.ireturn, 1) := dk_172 (dk_at dksJ22_vectorizedMismatch_11 11 rfl rfl)
theorem q117 : (Jvm.Cond.initialized "jdk/internal/util/ArraysSupport") ∈ lw_all := lw_g (lw_at lw_m1 31 rfl) rfl
theorem q1033 : (Jvm.Cond.static ({ cls := "jdk/internal/util/ArraysSupport", name := "newLength", desc := "(III)I" } : Jvm.MethodName)) ∈ lw_all := lw_g (lw_at lw_m4 227 rfl) rfl
theorem q1034 : (Jvm.Cond.code ({ cls := "jdk/internal/util/ArraysSupport", name := "newLength", desc := "(III)I" } : Jvm.MethodName) prog_97_method_27_code (4 : Nat) (Option.some Jvm.ClassFile.FieldType.int)) ∈ lw_all := lw_g (lw_at lw_m4 228 rfl) rfl
theorem q1035 : (Jvm.Cond.methodLink "jdk/internal/util/ArraysSupport" (194 : Nat) ({ cls := "java/lang/Math", name := "max", desc := "(II)I" } : Jvm.MethodName)) ∈ lw_all := lw_g (lw_at lw_m4 229 rfl) rfl
theorem q1038 : (Jvm.Cond.constant "jdk/internal/util/ArraysSupport" (200 : Nat) (2147483639 : Int32)) ∈ lw_all := lw_g (lw_at lw_m4 232 rfl) rfl
theorem q1039 : (Jvm.Cond.methodLink "jdk/internal/util/ArraysSupport" (201 : Nat) ({ cls := "jdk/internal/util/ArraysSupport", name := "hugeLength", desc := "(II)I" } : Jvm.MethodName)) ∈ lw_all := lw_g (lw_at lw_m4 233 rfl) rfl
theorem q1040 : (Jvm.Cond.static ({ cls := "jdk/internal/util/ArraysSupport", name := "hugeLength", desc := "(II)I" } : Jvm.MethodName)) ∈ lw_all := lw_g (lw_at lw_m4 234 rfl) rfl
theorem q1041 : (Jvm.Cond.code ({ cls := "jdk/internal/util/ArraysSupport", name := "hugeLength", desc := "(II)I" } : Jvm.MethodName) prog_97_method_28_code (3 : Nat) (Option.some Jvm.ClassFile.FieldType.int)) ∈ lw_all := lw_g (lw_at lw_m4 235 rfl) rfl
theorem q1921 : (Jvm.Cond.static ({ cls := "jdk/internal/util/ArraysSupport", name := "vectorizedHashCode", desc := "(Ljava/lang/Object;IIII)I" } : Jvm.MethodName)) ∈ lw_all := lw_g (lw_at lw_m8 155 rfl) rfl
theorem q1922 : (Jvm.Cond.code ({ cls := "jdk/internal/util/ArraysSupport", name := "vectorizedHashCode", desc := "(Ljava/lang/Object;IIII)I" } : Jvm.MethodName) prog_97_method_4_code (5 : Nat) (Option.some Jvm.ClassFile.FieldType.int)) ∈ lw_all := lw_g (lw_at lw_m8 156 rfl) rfl
theorem q1923 : (Jvm.Cond.classLink "jdk/internal/util/ArraysSupport" (60 : Nat) "[B") ∈ lw_all := lw_g (lw_at lw_m8 157 rfl) rfl
theorem q1924 : (Jvm.Cond.methodLink "jdk/internal/util/ArraysSupport" (62 : Nat) ({ cls := "jdk/internal/util/ArraysSupport", name := "signedHashCode", desc := "(I[BII)I" } : Jvm.MethodName)) ∈ lw_all := lw_g (lw_at lw_m8 158 rfl) rfl
theorem q1925 : (Jvm.Cond.static ({ cls := "jdk/internal/util/ArraysSupport", name := "signedHashCode", desc := "(I[BII)I" } : Jvm.MethodName)) ∈ lw_all := lw_g (lw_at lw_m8 159 rfl) rfl
theorem q1926 : (Jvm.Cond.code ({ cls := "jdk/internal/util/ArraysSupport", name := "signedHashCode", desc := "(I[BII)I" } : Jvm.MethodName) prog_97_method_5_code (6 : Nat) (Option.some Jvm.ClassFile.FieldType.int)) ∈ lw_all := lw_g (lw_at lw_m8 160 rfl) rfl
theorem q1927 : (Jvm.Cond.methodLink "jdk/internal/util/ArraysSupport" (66 : Nat) ({ cls := "jdk/internal/util/ArraysSupport", name := "utf16hashCode", desc := "(I[BII)I" } : Jvm.MethodName)) ∈ lw_all := lw_g (lw_at lw_m8 161 rfl) rfl
theorem q1928 : (Jvm.Cond.static ({ cls := "jdk/internal/util/ArraysSupport", name := "utf16hashCode", desc := "(I[BII)I" } : Jvm.MethodName)) ∈ lw_all := lw_g (lw_at lw_m8 162 rfl) rfl
theorem q1929 : (Jvm.Cond.code ({ cls := "jdk/internal/util/ArraysSupport", name := "utf16hashCode", desc := "(I[BII)I" } : Jvm.MethodName) prog_97_method_10_code (6 : Nat) (Option.some Jvm.ClassFile.FieldType.int)) ∈ lw_all := lw_g (lw_at lw_m8 163 rfl) rfl
theorem q1930 : (Jvm.Cond.fieldLink "jdk/internal/util/ArraysSupport" (106 : Nat) "jdk/internal/util/ArraysSupport" "JLA" "Ljdk/internal/access/JavaLangAccess;") ∈ lw_all := lw_g (lw_at lw_m8 164 rfl) rfl
theorem q1931 : (Jvm.Cond.laysStatic "jdk/internal/util/ArraysSupport" "JLA" "Ljdk/internal/access/JavaLangAccess;") ∈ lw_tbl := lw_at lw_m8 165 rfl
theorem q1932 : (Jvm.Cond.interfaceEntry "jdk/internal/util/ArraysSupport" (110 : Nat)) ∈ lw_tbl := lw_at lw_m8 166 rfl
theorem q1933 : (Jvm.Cond.methodLink "jdk/internal/util/ArraysSupport" (110 : Nat) ({ cls := "jdk/internal/access/JavaLangAccess", name := "getUTF16Char", desc := "([BI)C" } : Jvm.MethodName)) ∈ lw_all := lw_g (lw_at lw_m8 167 rfl) rfl
theorem q1943 : (Jvm.Cond.classLink "jdk/internal/util/ArraysSupport" (69 : Nat) "[C") ∈ lw_all := lw_g (lw_at lw_m8 177 rfl) rfl
theorem q1944 : (Jvm.Cond.methodLink "jdk/internal/util/ArraysSupport" (71 : Nat) ({ cls := "jdk/internal/util/ArraysSupport", name := "hashCode", desc := "(I[CII)I" } : Jvm.MethodName)) ∈ lw_all := lw_g (lw_at lw_m8 178 rfl) rfl
theorem q1945 : (Jvm.Cond.static ({ cls := "jdk/internal/util/ArraysSupport", name := "hashCode", desc := "(I[CII)I" } : Jvm.MethodName)) ∈ lw_all := lw_g (lw_at lw_m8 179 rfl) rfl
theorem q1946 : (Jvm.Cond.code ({ cls := "jdk/internal/util/ArraysSupport", name := "hashCode", desc := "(I[CII)I" } : Jvm.MethodName) prog_97_method_7_code (6 : Nat) (Option.some Jvm.ClassFile.FieldType.int)) ∈ lw_all := lw_g (lw_at lw_m8 180 rfl) rfl
theorem q1947 : (Jvm.Cond.methodLink "jdk/internal/util/ArraysSupport" (75 : Nat) ({ cls := "jdk/internal/util/ArraysSupport", name := "hashCode", desc := "(I[BII)I" } : Jvm.MethodName)) ∈ lw_all := lw_g (lw_at lw_m8 181 rfl) rfl
theorem q1948 : (Jvm.Cond.static ({ cls := "jdk/internal/util/ArraysSupport", name := "hashCode", desc := "(I[BII)I" } : Jvm.MethodName)) ∈ lw_all := lw_g (lw_at lw_m8 182 rfl) rfl
theorem q1949 : (Jvm.Cond.code ({ cls := "jdk/internal/util/ArraysSupport", name := "hashCode", desc := "(I[BII)I" } : Jvm.MethodName) prog_97_method_6_code (6 : Nat) (Option.some Jvm.ClassFile.FieldType.int)) ∈ lw_all := lw_g (lw_at lw_m8 183 rfl) rfl
theorem q1950 : (Jvm.Cond.classLink "jdk/internal/util/ArraysSupport" (77 : Nat) "[S") ∈ lw_all := lw_g (lw_at lw_m8 184 rfl) rfl
theorem q1951 : (Jvm.Cond.methodLink "jdk/internal/util/ArraysSupport" (79 : Nat) ({ cls := "jdk/internal/util/ArraysSupport", name := "hashCode", desc := "(I[SII)I" } : Jvm.MethodName)) ∈ lw_all := lw_g (lw_at lw_m8 185 rfl) rfl
theorem q1952 : (Jvm.Cond.static ({ cls := "jdk/internal/util/ArraysSupport", name := "hashCode", desc := "(I[SII)I" } : Jvm.MethodName)) ∈ lw_all := lw_g (lw_at lw_m8 186 rfl) rfl
theorem q1953 : (Jvm.Cond.code ({ cls := "jdk/internal/util/ArraysSupport", name := "hashCode", desc := "(I[SII)I" } : Jvm.MethodName) prog_97_method_8_code (6 : Nat) (Option.some Jvm.ClassFile.FieldType.int)) ∈ lw_all := lw_g (lw_at lw_m8 187 rfl) rfl
theorem q1954 : (Jvm.Cond.classLink "jdk/internal/util/ArraysSupport" (82 : Nat) "[I") ∈ lw_all := lw_g (lw_at lw_m8 188 rfl) rfl
theorem q1955 : (Jvm.Cond.methodLink "jdk/internal/util/ArraysSupport" (84 : Nat) ({ cls := "jdk/internal/util/ArraysSupport", name := "hashCode", desc := "(I[III)I" } : Jvm.MethodName)) ∈ lw_all := lw_g (lw_at lw_m8 189 rfl) rfl
theorem q1956 : (Jvm.Cond.static ({ cls := "jdk/internal/util/ArraysSupport", name := "hashCode", desc := "(I[III)I" } : Jvm.MethodName)) ∈ lw_all := lw_g (lw_at lw_m8 190 rfl) rfl
theorem q1957 : (Jvm.Cond.code ({ cls := "jdk/internal/util/ArraysSupport", name := "hashCode", desc := "(I[III)I" } : Jvm.MethodName) prog_97_method_9_code (6 : Nat) (Option.some Jvm.ClassFile.FieldType.int)) ∈ lw_all := lw_g (lw_at lw_m8 191 rfl) rfl
theorem q2264 : (Jvm.Cond.static ({ cls := "jdk/internal/util/ArraysSupport", name := "mismatch", desc := "([B[BI)I" } : Jvm.MethodName)) ∈ lw_all := lw_g (lw_at lw_m10 18 rfl) rfl
theorem q2265 : (Jvm.Cond.code ({ cls := "jdk/internal/util/ArraysSupport", name := "mismatch", desc := "([B[BI)I" } : Jvm.MethodName) prog_97_method_13_code (4 : Nat) (Option.some Jvm.ClassFile.FieldType.int)) ∈ lw_all := lw_g (lw_at lw_m10 19 rfl) rfl
theorem q2266 : (Jvm.Cond.fieldLink "jdk/internal/util/ArraysSupport" (126 : Nat) "jdk/internal/misc/Unsafe" "ARRAY_BYTE_BASE_OFFSET" "I") ∈ lw_all := lw_g (lw_at lw_m10 20 rfl) rfl
theorem q2268 : (Jvm.Cond.fieldLink "jdk/internal/util/ArraysSupport" (129 : Nat) "jdk/internal/util/ArraysSupport" "LOG2_ARRAY_BYTE_INDEX_SCALE" "I") ∈ lw_all := lw_g (lw_at lw_m10 22 rfl) rfl
theorem q2269 : (Jvm.Cond.laysStatic "jdk/internal/util/ArraysSupport" "LOG2_ARRAY_BYTE_INDEX_SCALE" "I") ∈ lw_tbl := lw_at lw_m10 23 rfl
theorem q2270 : (Jvm.Cond.methodLink "jdk/internal/util/ArraysSupport" (122 : Nat) ({ cls := "jdk/internal/util/ArraysSupport", name := "vectorizedMismatch", desc := "(Ljava/lang/Object;JLjava/lang/Object;JII)I" } : Jvm.MethodName)) ∈ lw_all := lw_g (lw_at lw_m10 24 rfl) rfl
theorem q2271 : (Jvm.Cond.static ({ cls := "jdk/internal/util/ArraysSupport", name := "vectorizedMismatch", desc := "(Ljava/lang/Object;JLjava/lang/Object;JII)I" } : Jvm.MethodName)) ∈ lw_all := lw_g (lw_at lw_m10 25 rfl) rfl
theorem q2272 : (Jvm.Cond.code ({ cls := "jdk/internal/util/ArraysSupport", name := "vectorizedMismatch", desc := "(Ljava/lang/Object;JLjava/lang/Object;JII)I" } : Jvm.MethodName) prog_97_method_3_code (19 : Nat) (Option.some Jvm.ClassFile.FieldType.int)) ∈ lw_all := lw_g (lw_at lw_m10 26 rfl) rfl
theorem q2273 : (Jvm.Cond.fieldLink "jdk/internal/util/ArraysSupport" (20 : Nat) "jdk/internal/util/ArraysSupport" "LOG2_ARRAY_LONG_INDEX_SCALE" "I") ∈ lw_all := lw_g (lw_at lw_m10 27 rfl) rfl
theorem q2274 : (Jvm.Cond.laysStatic "jdk/internal/util/ArraysSupport" "LOG2_ARRAY_LONG_INDEX_SCALE" "I") ∈ lw_tbl := lw_at lw_m10 28 rfl
theorem q2275 : (Jvm.Cond.fieldLink "jdk/internal/util/ArraysSupport" (26 : Nat) "jdk/internal/util/ArraysSupport" "U" "Ljdk/internal/misc/Unsafe;") ∈ lw_all := lw_g (lw_at lw_m10 29 rfl) rfl
theorem q2276 : (Jvm.Cond.laysStatic "jdk/internal/util/ArraysSupport" "U" "Ljdk/internal/misc/Unsafe;") ∈ lw_tbl := lw_at lw_m10 30 rfl
theorem q2277 : (Jvm.Cond.methodLink "jdk/internal/util/ArraysSupport" (30 : Nat) ({ cls := "jdk/internal/misc/Unsafe", name := "getLongUnaligned", desc := "(Ljava/lang/Object;J)J" } : Jvm.MethodName)) ∈ lw_all := lw_g (lw_at lw_m10 31 rfl) rfl
theorem q2329 : (Jvm.Cond.fieldLink "jdk/internal/util/ArraysSupport" (36 : Nat) "jdk/internal/util/ArraysSupport" "BIG_ENDIAN" "Z") ∈ lw_all := lw_g (lw_at lw_m10 83 rfl) rfl
theorem q2330 : (Jvm.Cond.laysStatic "jdk/internal/util/ArraysSupport" "BIG_ENDIAN" "Z") ∈ lw_tbl := lw_at lw_m10 84 rfl
theorem q2331 : (Jvm.Cond.methodLink "jdk/internal/util/ArraysSupport" (40 : Nat) ({ cls := "java/lang/Long", name := "numberOfLeadingZeros", desc := "(J)I" } : Jvm.MethodName)) ∈ lw_all := lw_g (lw_at lw_m10 85 rfl) rfl
theorem q2338 : (Jvm.Cond.fieldLink "jdk/internal/util/ArraysSupport" (46 : Nat) "jdk/internal/util/ArraysSupport" "LOG2_BYTE_BIT_SIZE" "I") ∈ lw_all := lw_g (lw_at lw_m10 92 rfl) rfl
theorem q2339 : (Jvm.Cond.laysStatic "jdk/internal/util/ArraysSupport" "LOG2_BYTE_BIT_SIZE" "I") ∈ lw_tbl := lw_at lw_m10 93 rfl
theorem q2340 : (Jvm.Cond.methodLink "jdk/internal/util/ArraysSupport" (49 : Nat) ({ cls := "java/lang/Long", name := "numberOfTrailingZeros", desc := "(J)I" } : Jvm.MethodName)) ∈ lw_all := lw_g (lw_at lw_m10 94 rfl) rfl
theorem q2346 : (Jvm.Cond.fieldLink "jdk/internal/util/ArraysSupport" (51 : Nat) "jdk/internal/util/ArraysSupport" "LOG2_ARRAY_INT_INDEX_SCALE" "I") ∈ lw_all := lw_g (lw_at lw_m10 100 rfl) rfl
theorem q2347 : (Jvm.Cond.laysStatic "jdk/internal/util/ArraysSupport" "LOG2_ARRAY_INT_INDEX_SCALE" "I") ∈ lw_tbl := lw_at lw_m10 101 rfl
theorem q2348 : (Jvm.Cond.methodLink "jdk/internal/util/ArraysSupport" (54 : Nat) ({ cls := "jdk/internal/misc/Unsafe", name := "getIntUnaligned", desc := "(Ljava/lang/Object;J)I" } : Jvm.MethodName)) ∈ lw_all := lw_g (lw_at lw_m10 102 rfl) rfl
theorem q2365 : (Jvm.Cond.methodLink "jdk/internal/util/ArraysSupport" (58 : Nat) ({ cls := "java/lang/Integer", name := "numberOfLeadingZeros", desc := "(I)I" } : Jvm.MethodName)) ∈ lw_all := lw_g (lw_at lw_m10 119 rfl) rfl
theorem q2366 : (Jvm.Cond.methodLink "jdk/internal/util/ArraysSupport" (11 : Nat) ({ cls := "java/lang/Integer", name := "numberOfTrailingZeros", desc := "(I)I" } : Jvm.MethodName)) ∈ lw_all := lw_g (lw_at lw_m10 120 rfl) rfl

end
section
/-! java/util/Objects -/
set_option maxRecDepth 100000
def RJ23 : String := "java/util/Objects"
abbrev cJ23_checkIndex : ByteArray := prog_76_method_17_code
def yJ23_checkIndex : MethodName := ⟨RJ23, "checkIndex", "(II)I"⟩
def dkwJ23_checkIndex_0 : List UInt8 := [26, 27, 1, 184, 0, 105, 172]
abbrev dktJ23_checkIndex_0 : List UInt8 := dkwJ23_checkIndex_0 ++ []
theorem dksJ23_checkIndex_0 : cJ23_checkIndex.data.toList.drop 0 = dktJ23_checkIndex_0 := by decide +kernel
theorem dJ23_checkIndex_0 : decode cJ23_checkIndex 0 = .ok (.iload_n 0, 1) := dk_26 (dk_at dksJ23_checkIndex_0 0 rfl rfl)
theorem dJ23_checkIndex_1 : decode cJ23_checkIndex 1 = .ok (.iload_n 1, 1) := dk_27 (dk_at dksJ23_checkIndex_0 1 rfl rfl)
theorem dJ23_checkIndex_2 : decode cJ23_checkIndex 2 = .ok (.aconst_null, 1) := dk_1 (dk_at dksJ23_checkIndex_0 2 rfl rfl)
theorem dJ23_checkIndex_3 : decode cJ23_checkIndex 3 = .ok (.invokestatic 105, 3) := dk_184 0 105 (dk_at dksJ23_checkIndex_0 3 rfl rfl)
theorem dJ23_checkIndex_6 : decode cJ23_checkIndex 6 = .ok (.ireturn, 1) := dk_172 (dk_at dksJ23_checkIndex_0 6 rfl rfl)
abbrev cJ23_requireNonNull : ByteArray := prog_76_method_10_code
def yJ23_requireNonNull : MethodName := ⟨RJ23, "requireNonNull", "(Ljava/lang/Object;)Ljava/lang/Object;"⟩
def dkwJ23_requireNonNull_0 : List UInt8 := [42, 199, 0, 11, 187, 0, 84, 89, 183, 0, 86, 191, 42, 176]
abbrev dktJ23_requireNonNull_0 : List UInt8 := dkwJ23_requireNonNull_0 ++ []
theorem dksJ23_requireNonNull_0 : cJ23_requireNonNull.data.toList.drop 0 = dktJ23_requireNonNull_0 := by decide +kernel
theorem dJ23_requireNonNull_0 : decode cJ23_requireNonNull 0 = .ok (.aload_n 0, 1) := dk_42 (dk_at dksJ23_requireNonNull_0 0 rfl rfl)
theorem dJ23_requireNonNull_1 : decode cJ23_requireNonNull 1 = .ok (.ifnonnull 11, 3) := dk_199 0 11 (dk_at dksJ23_requireNonNull_0 1 rfl rfl)
theorem dJ23_requireNonNull_4 : decode cJ23_requireNonNull 4 = .ok (.new 84, 3) := dk_187 0 84 (dk_at dksJ23_requireNonNull_0 4 rfl rfl)
theorem dJ23_requireNonNull_7 : decode cJ23_requireNonNull 7 = .ok (.dup, 1) := dk_89 (dk_at dksJ23_requireNonNull_0 7 rfl rfl)
theorem dJ23_requireNonNull_8 : decode cJ23_requireNonNull 8 = .ok (.invokespecial 86, 3) := dk_183 0 86 (dk_at dksJ23_requireNonNull_0 8 rfl rfl)
theorem dJ23_requireNonNull_11 : decode cJ23_requireNonNull 11 = .ok (.athrow, 1) := dk_191 (dk_at dksJ23_requireNonNull_0 11 rfl rfl)
theorem dJ23_requireNonNull_12 : decode cJ23_requireNonNull 12 = .ok (.aload_n 0, 1) := dk_42 (dk_at dksJ23_requireNonNull_0 12 rfl rfl)
theorem dJ23_requireNonNull_13 : decode cJ23_requireNonNull 13 = .ok (.areturn, 1) := dk_176 (dk_at dksJ23_requireNonNull_0 13 rfl rfl)
theorem q121 : (Jvm.Cond.initialized "java/util/Objects") ∈ lw_all := lw_g (lw_at lw_m1 35 rfl) rfl
theorem q1168 : (Jvm.Cond.static ({ cls := "java/util/Objects", name := "checkIndex", desc := "(II)I" } : Jvm.MethodName)) ∈ lw_all := lw_g (lw_at lw_m5 122 rfl) rfl
theorem q1169 : (Jvm.Cond.code ({ cls := "java/util/Objects", name := "checkIndex", desc := "(II)I" } : Jvm.MethodName) prog_76_method_17_code (2 : Nat) (Option.some Jvm.ClassFile.FieldType.int)) ∈ lw_all := lw_g (lw_at lw_m5 123 rfl) rfl
theorem q1170 : (Jvm.Cond.methodLink "java/util/Objects" (105 : Nat) ({ cls := "jdk/internal/util/Preconditions", name := "checkIndex", desc := "(IILjava/util/function/BiFunction;)I" } : Jvm.MethodName)) ∈ lw_all := lw_g (lw_at lw_m5 124 rfl) rfl
theorem q2513 : (Jvm.Cond.static ({ cls := "java/util/Objects", name := "requireNonNull", desc := "(Ljava/lang/Object;)Ljava/lang/Object;" } : Jvm.MethodName)) ∈ lw_all := lw_g (lw_at lw_m11 27 rfl) rfl
theorem q2514 : (Jvm.Cond.code ({ cls := "java/util/Objects", name := "requireNonNull", desc := "(Ljava/lang/Object;)Ljava/lang/Object;" } : Jvm.MethodName) prog_76_method_10_code (1 : Nat) (Option.some (Jvm.ClassFile.FieldType.object "java/lang/Object"))) ∈ lw_all := lw_g (lw_at lw_m11 28 rfl) rfl

end
section
/-! jdk/internal/util/Preconditions -/
set_option maxRecDepth 100000
def RJ24 : String := "jdk/internal/util/Preconditions"
abbrev cJ24_checkIndex : ByteArray := prog_98_method_11_code
def yJ24_checkIndex : MethodName := ⟨RJ24, "checkIndex", "(IILjava/util/function/BiFunction;)I"⟩
def dkwJ24_checkIndex_0 : List UInt8 := [26, 155, 0, 8, 26, 27, 161, 0, 10, 44, 26, 27, 184, 0, 95, 191, 26, 172]
abbrev dktJ24_checkIndex_0 : List UInt8 := dkwJ24_checkIndex_0 ++ []
theorem dksJ24_checkIndex_0 : cJ24_checkIndex.data.toList.drop 0 = dktJ24_checkIndex_0 := by decide +kernel
theorem dJ24_checkIndex_0 : decode cJ24_checkIndex 0 = .ok (.iload_n 0, 1) := dk_26 (dk_at dksJ24_checkIndex_0 0 rfl rfl)
theorem dJ24_checkIndex_1 : decode cJ24_checkIndex 1 = .ok (.ifCond .lt 8, 3) := dk_155 0 8 (dk_at dksJ24_checkIndex_0 1 rfl rfl)
theorem dJ24_checkIndex_4 : decode cJ24_checkIndex 4 = .ok (.iload_n 0, 1) := dk_26 (dk_at dksJ24_checkIndex_0 4 rfl rfl)
theorem dJ24_checkIndex_5 : decode cJ24_checkIndex 5 = .ok (.iload_n 1, 1) := dk_27 (dk_at dksJ24_checkIndex_0 5 rfl rfl)
theorem dJ24_checkIndex_6 : decode cJ24_checkIndex 6 = .ok (.if_icmp .lt 10, 3) := dk_161 0 10 (dk_at dksJ24_checkIndex_0 6 rfl rfl)
theorem dJ24_checkIndex_9 : decode cJ24_checkIndex 9 = .ok (.aload_n 2, 1) := dk_44 (dk_at dksJ24_checkIndex_0 9 rfl rfl)
theorem dJ24_checkIndex_10 : decode cJ24_checkIndex 10 = .ok (.iload_n 0, 1) := dk_26 (dk_at dksJ24_checkIndex_0 10 rfl rfl)
theorem dJ24_checkIndex_11 : decode cJ24_checkIndex 11 = .ok (.iload_n 1, 1) := dk_27 (dk_at dksJ24_checkIndex_0 11 rfl rfl)
theorem dJ24_checkIndex_12 : decode cJ24_checkIndex 12 = .ok (.invokestatic 95, 3) := dk_184 0 95 (dk_at dksJ24_checkIndex_0 12 rfl rfl)
theorem dJ24_checkIndex_15 : decode cJ24_checkIndex 15 = .ok (.athrow, 1) := dk_191 (dk_at dksJ24_checkIndex_0 15 rfl rfl)
theorem dJ24_checkIndex_16 : decode cJ24_checkIndex 16 = .ok (.iload_n 0, 1) := dk_26 (dk_at dksJ24_checkIndex_0 16 rfl rfl)
theorem dJ24_checkIndex_17 : decode cJ24_checkIndex 17 = .ok (.ireturn, 1) := dk_172 (dk_at dksJ24_checkIndex_0 17 rfl rfl)
abbrev cJ24_checkFromIndexSize : ByteArray := prog_98_method_13_code
def yJ24_checkFromIndexSize : MethodName := ⟨RJ24, "checkFromIndexSize", "(IIILjava/util/function/BiFunction;)I"⟩
def dkwJ24_checkFromIndexSize_1 : List UInt8 := [172]
abbrev dktJ24_checkFromIndexSize_1 : List UInt8 := dkwJ24_checkFromIndexSize_1 ++ []
def dkwJ24_checkFromIndexSize_0 : List UInt8 := [28, 26, 128, 27, 128, 155, 0, 10, 27, 28, 26, 100, 164, 0, 11, 45, 26, 27, 28, 184, 0, 103, 191, 26]
abbrev dktJ24_checkFromIndexSize_0 : List UInt8 := dkwJ24_checkFromIndexSize_0 ++ dktJ24_checkFromIndexSize_1
theorem dksJ24_checkFromIndexSize_0 : cJ24_checkFromIndexSize.data.toList.drop 0 = dktJ24_checkFromIndexSize_0 := by decide +kernel
theorem dksJ24_checkFromIndexSize_1 : cJ24_checkFromIndexSize.data.toList.drop 24 = dktJ24_checkFromIndexSize_1 := dk_seg dksJ24_checkFromIndexSize_0 24 rfl rfl
theorem dJ24_checkFromIndexSize_0 : decode cJ24_checkFromIndexSize 0 = .ok (.iload_n 2, 1) := dk_28 (dk_at dksJ24_checkFromIndexSize_0 0 rfl rfl)
theorem dJ24_checkFromIndexSize_1 : decode cJ24_checkFromIndexSize 1 = .ok (.iload_n 0, 1) := dk_26 (dk_at dksJ24_checkFromIndexSize_0 1 rfl rfl)
theorem dJ24_checkFromIndexSize_2 : decode cJ24_checkFromIndexSize 2 = .ok (.ior, 1) := dk_128 (dk_at dksJ24_checkFromIndexSize_0 2 rfl rfl)
theorem dJ24_checkFromIndexSize_3 : decode cJ24_checkFromIndexSize 3 = .ok (.iload_n 1, 1) := dk_27 (dk_at dksJ24_checkFromIndexSize_0 3 rfl rfl)
theorem dJ24_checkFromIndexSize_4 : decode cJ24_checkFromIndexSize 4 = .ok (.ior, 1) := dk_128 (dk_at dksJ24_checkFromIndexSize_0 4 rfl rfl)
theorem dJ24_checkFromIndexSize_5 : decode cJ24_checkFromIndexSize 5 = .ok (.ifCond .lt 10, 3) := dk_155 0 10 (dk_at dksJ24_checkFromIndexSize_0 5 rfl rfl)
theorem dJ24_checkFromIndexSize_8 : decode cJ24_checkFromIndexSize 8 = .ok (.iload_n 1, 1) := dk_27 (dk_at dksJ24_checkFromIndexSize_0 8 rfl rfl)
theorem dJ24_checkFromIndexSize_9 : decode cJ24_checkFromIndexSize 9 = .ok (.iload_n 2, 1) := dk_28 (dk_at dksJ24_checkFromIndexSize_0 9 rfl rfl)
theorem dJ24_checkFromIndexSize_10 : decode cJ24_checkFromIndexSize 10 = .ok (.iload_n 0, 1) := dk_26 (dk_at dksJ24_checkFromIndexSize_0 10 rfl rfl)
theorem dJ24_checkFromIndexSize_11 : decode cJ24_checkFromIndexSize 11 = .ok (.isub, 1) := dk_100 (dk_at dksJ24_checkFromIndexSize_0 11 rfl rfl)
theorem dJ24_checkFromIndexSize_12 : decode cJ24_checkFromIndexSize 12 = .ok (.if_icmp .le 11, 3) := dk_164 0 11 (dk_at dksJ24_checkFromIndexSize_0 12 rfl rfl)
theorem dJ24_checkFromIndexSize_15 : decode cJ24_checkFromIndexSize 15 = .ok (.aload_n 3, 1) := dk_45 (dk_at dksJ24_checkFromIndexSize_0 15 rfl rfl)
theorem dJ24_checkFromIndexSize_16 : decode cJ24_checkFromIndexSize 16 = .ok (.iload_n 0, 1) := dk_26 (dk_at dksJ24_checkFromIndexSize_0 16 rfl rfl)
theorem dJ24_checkFromIndexSize_17 : decode cJ24_checkFromIndexSize 17 = .ok (.iload_n 1, 1) := dk_27 (dk_at dksJ24_checkFromIndexSize_0 17 rfl rfl)
theorem dJ24_checkFromIndexSize_18 : decode cJ24_checkFromIndexSize 18 = .ok (.iload_n 2, 1) := dk_28 (dk_at dksJ24_checkFromIndexSize_0 18 rfl rfl)
theorem dJ24_checkFromIndexSize_19 : decode cJ24_checkFromIndexSize 19 = .ok (.invokestatic 103, 3) := dk_184 0 103 (dk_at dksJ24_checkFromIndexSize_0 19 rfl rfl)
theorem dJ24_checkFromIndexSize_22 : decode cJ24_checkFromIndexSize 22 = .ok (.athrow, 1) := dk_191 (dk_at dksJ24_checkFromIndexSize_0 22 rfl rfl)
theorem dJ24_checkFromIndexSize_23 : decode cJ24_checkFromIndexSize 23 = .ok (.iload_n 0, 1) := dk_26 (dk_at dksJ24_checkFromIndexSize_0 23 rfl rfl)
theorem dJ24_checkFromIndexSize_24 : decode cJ24_checkFromIndexSize 24 = .ok (.ireturn, 1) := dk_172 (dk_at dksJ24_checkFromIndexSize_1 0 rfl rfl)
abbrev cJ24_checkFromToIndex : ByteArray := prog_98_method_12_code
def yJ24_checkFromToIndex : MethodName := ⟨RJ24, "checkFromToIndex", "(IIILjava/util/function/BiFunction;)I"⟩
def dkwJ24_checkFromToIndex_0 : List UInt8 := [26, 155, 0, 13, 26, 27, 163, 0, 8, 27, 28, 164, 0, 11, 45, 26, 27, 28, 184, 0, 99, 191, 26, 172]
abbrev dktJ24_checkFromToIndex_0 : List UInt8 := dkwJ24_checkFromToIndex_0 ++ []
theorem dksJ24_checkFromToIndex_0 : cJ24_checkFromToIndex.data.toList.drop 0 = dktJ24_checkFromToIndex_0 := by decide +kernel
theorem dJ24_checkFromToIndex_0 : decode cJ24_checkFromToIndex 0 = .ok (.iload_n 0, 1) := dk_26 (dk_at dksJ24_checkFromToIndex_0 0 rfl rfl)
theorem dJ24_checkFromToIndex_1 : decode cJ24_checkFromToIndex 1 = .ok (.ifCond .lt 13, 3) := dk_155 0 13 (dk_at dksJ24_checkFromToIndex_0 1 rfl rfl)
theorem dJ24_checkFromToIndex_4 : decode cJ24_checkFromToIndex 4 = .ok (.iload_n 0, 1) := dk_26 (dk_at dksJ24_checkFromToIndex_0 4 rfl rfl)
theorem dJ24_checkFromToIndex_5 : decode cJ24_checkFromToIndex 5 = .ok (.iload_n 1, 1) := dk_27 (dk_at dksJ24_checkFromToIndex_0 5 rfl rfl)
theorem dJ24_checkFromToIndex_6 : decode cJ24_checkFromToIndex 6 = .ok (.if_icmp .gt 8, 3) := dk_163 0 8 (dk_at dksJ24_checkFromToIndex_0 6 rfl rfl)
theorem dJ24_checkFromToIndex_9 : decode cJ24_checkFromToIndex 9 = .ok (.iload_n 1, 1) := dk_27 (dk_at dksJ24_checkFromToIndex_0 9 rfl rfl)
theorem dJ24_checkFromToIndex_10 : decode cJ24_checkFromToIndex 10 = .ok (.iload_n 2, 1) := dk_28 (dk_at dksJ24_checkFromToIndex_0 10 rfl rfl)
theorem dJ24_checkFromToIndex_11 : decode cJ24_checkFromToIndex 11 = .ok (.if_icmp .le 11, 3) := dk_164 0 11 (dk_at dksJ24_checkFromToIndex_0 11 rfl rfl)
theorem dJ24_checkFromToIndex_14 : decode cJ24_checkFromToIndex 14 = .ok (.aload_n 3, 1) := dk_45 (dk_at dksJ24_checkFromToIndex_0 14 rfl rfl)
theorem dJ24_checkFromToIndex_15 : decode cJ24_checkFromToIndex 15 = .ok (.iload_n 0, 1) := dk_26 (dk_at dksJ24_checkFromToIndex_0 15 rfl rfl)
theorem dJ24_checkFromToIndex_16 : decode cJ24_checkFromToIndex 16 = .ok (.iload_n 1, 1) := dk_27 (dk_at dksJ24_checkFromToIndex_0 16 rfl rfl)
theorem dJ24_checkFromToIndex_17 : decode cJ24_checkFromToIndex 17 = .ok (.iload_n 2, 1) := dk_28 (dk_at dksJ24_checkFromToIndex_0 17 rfl rfl)
theorem dJ24_checkFromToIndex_18 : decode cJ24_checkFromToIndex 18 = .ok (.invokestatic 99, 3) := dk_184 0 99 (dk_at dksJ24_checkFromToIndex_0 18 rfl rfl)
theorem dJ24_checkFromToIndex_21 : decode cJ24_checkFromToIndex 21 = .ok (.athrow, 1) := dk_191 (dk_at dksJ24_checkFromToIndex_0 21 rfl rfl)
theorem dJ24_checkFromToIndex_22 : decode cJ24_checkFromToIndex 22 = .ok (.iload_n 0, 1) := dk_26 (dk_at dksJ24_checkFromToIndex_0 22 rfl rfl)
theorem dJ24_checkFromToIndex_23 : decode cJ24_checkFromToIndex 23 = .ok (.ireturn, 1) := dk_172 (dk_at dksJ24_checkFromToIndex_0 23 rfl rfl)
theorem q122 : (Jvm.Cond.initialized "jdk/internal/util/Preconditions") ∈ lw_all := lw_g (lw_at lw_m1 36 rfl) rfl
theorem q1171 : (Jvm.Cond.static ({ cls := "jdk/internal/util/Preconditions", name := "checkIndex", desc := "(IILjava/util/function/BiFunction;)I" } : Jvm.MethodName)) ∈ lw_all := lw_g (lw_at lw_m5 125 rfl) rfl
theorem q1172 : (Jvm.Cond.code ({ cls := "jdk/internal/util/Preconditions", name := "checkIndex", desc := "(IILjava/util/function/BiFunction;)I" } : Jvm.MethodName) prog_98_method_11_code (3 : Nat) (Option.some Jvm.ClassFile.FieldType.int)) ∈ lw_all := lw_g (lw_at lw_m5 126 rfl) rfl
theorem q1673 : (Jvm.Cond.laysStatic "jdk/internal/util/Preconditions" "SIOOBE_FORMATTER" "Ljava/util/function/BiFunction;") ∈ lw_tbl := lw_at lw_m7 147 rfl
theorem q1675 : (Jvm.Cond.static ({ cls := "jdk/internal/util/Preconditions", name := "checkFromIndexSize", desc := "(IIILjava/util/function/BiFunction;)I" } : Jvm.MethodName)) ∈ lw_all := lw_g (lw_at lw_m7 149 rfl) rfl
theorem q1676 : (Jvm.Cond.code ({ cls := "jdk/internal/util/Preconditions", name := "checkFromIndexSize", desc := "(IIILjava/util/function/BiFunction;)I" } : Jvm.MethodName) prog_98_method_13_code (4 : Nat) (Option.some Jvm.ClassFile.FieldType.int)) ∈ lw_all := lw_g (lw_at lw_m7 150 rfl) rfl
theorem q2417 : (Jvm.Cond.static ({ cls := "jdk/internal/util/Preconditions", name := "checkFromToIndex", desc := "(IIILjava/util/function/BiFunction;)I" } : Jvm.MethodName)) ∈ lw_all := lw_g (lw_at lw_m10 171 rfl) rfl
theorem q2418 : (Jvm.Cond.code ({ cls := "jdk/internal/util/Preconditions", name := "checkFromToIndex", desc := "(IIILjava/util/function/BiFunction;)I" } : Jvm.MethodName) prog_98_method_12_code (4 : Nat) (Option.some Jvm.ClassFile.FieldType.int)) ∈ lw_all := lw_g (lw_at lw_m10 172 rfl) rfl

end
section
/-! java/lang/StringLatin1 -/
set_option maxRecDepth 100000
def RJ25 : String := "java/lang/StringLatin1"
abbrev cJ25_canEncode : ByteArray := prog_50_method_3_code
def yJ25_canEncode : MethodName := ⟨RJ25, "canEncode", "(C)Z"⟩
def dkwJ25_canEncode_0 : List UInt8 := [26, 17, 0, 255, 163, 0, 7, 4, 167, 0, 4, 3, 172]
abbrev dktJ25_canEncode_0 : List UInt8 := dkwJ25_canEncode_0 ++ []
theorem dksJ25_canEncode_0 : cJ25_canEncode.data.toList.drop 0 = dktJ25_canEncode_0 := by decide +kernel
theorem dJ25_canEncode_0 : decode cJ25_canEncode 0 = .ok (.iload_n 0, 1) := dk_26 (dk_at dksJ25_canEncode_0 0 rfl rfl)
theorem dJ25_canEncode_1 : decode cJ25_canEncode 1 = .ok (.sipush 255, 3) := dk_17 0 255 (dk_at dksJ25_canEncode_0 1 rfl rfl)
theorem dJ25_canEncode_4 : decode cJ25_canEncode 4 = .ok (.if_icmp .gt 7, 3) := dk_163 0 7 (dk_at dksJ25_canEncode_0 4 rfl rfl)
theorem dJ25_canEncode_7 : decode cJ25_canEncode 7 = .ok (.iconst 1, 1) := dk_4 (dk_at dksJ25_canEncode_0 7 rfl rfl)
theorem dJ25_canEncode_8 : decode cJ25_canEncode 8 = .ok (.goto 4, 3) := dk_167 0 4 (dk_at dksJ25_canEncode_0 8 rfl rfl)
theorem dJ25_canEncode_11 : decode cJ25_canEncode 11 = .ok (.iconst 0, 1) := dk_3 (dk_at dksJ25_canEncode_0 11 rfl rfl)
theorem dJ25_canEncode_12 : decode cJ25_canEncode 12 = .ok (.ireturn, 1) := dk_172 (dk_at dksJ25_canEncode_0 12 rfl rfl)
abbrev cJ25_inflate : ByteArray := prog_50_method_50_code
def yJ25_inflate : MethodName := ⟨RJ25, "inflate", "([BI[BII)V"⟩
def dkwJ25_inflate_0 : List UInt8 := [42, 27, 44, 29, 21, 4, 184, 0, 240, 177]
abbrev dktJ25_inflate_0 : List UInt8 := dkwJ25_inflate_0 ++ []
theorem dksJ25_inflate_0 : cJ25_inflate.data.toList.drop 0 = dktJ25_inflate_0 := by decide +kernel
theorem dJ25_inflate_0 : decode cJ25_inflate 0 = .ok (.aload_n 0, 1) := dk_42 (dk_at dksJ25_inflate_0 0 rfl rfl)
theorem dJ25_inflate_1 : decode cJ25_inflate 1 = .ok (.iload_n 1, 1) := dk_27 (dk_at dksJ25_inflate_0 1 rfl rfl)
theorem dJ25_inflate_2 : decode cJ25_inflate 2 = .ok (.aload_n 2, 1) := dk_44 (dk_at dksJ25_inflate_0 2 rfl rfl)
theorem dJ25_inflate_3 : decode cJ25_inflate 3 = .ok (.iload_n 3, 1) := dk_29 (dk_at dksJ25_inflate_0 3 rfl rfl)
theorem dJ25_inflate_4 : decode cJ25_inflate 4 = .ok (.iload 4, 2) := dk_21 4 (dk_at dksJ25_inflate_0 4 rfl rfl)
theorem dJ25_inflate_6 : decode cJ25_inflate 6 = .ok (.invokestatic 240, 3) := dk_184 0 240 (dk_at dksJ25_inflate_0 6 rfl rfl)
theorem dJ25_inflate_9 : decode cJ25_inflate 9 = .ok (.return_, 1) := dk_177 (dk_at dksJ25_inflate_0 9 rfl rfl)
abbrev cJ25_fillNull : ByteArray := prog_50_method_48_code
def yJ25_fillNull : MethodName := ⟨RJ25, "fillNull", "([BII)V"⟩
def dkwJ25_fillNull_0 : List UInt8 := [42, 27, 28, 3, 184, 0, 236, 177]
abbrev dktJ25_fillNull_0 : List UInt8 := dkwJ25_fillNull_0 ++ []
theorem dksJ25_fillNull_0 : cJ25_fillNull.data.toList.drop 0 = dktJ25_fillNull_0 := by decide +kernel
theorem dJ25_fillNull_0 : decode cJ25_fillNull 0 = .ok (.aload_n 0, 1) := dk_42 (dk_at dksJ25_fillNull_0 0 rfl rfl)
theorem dJ25_fillNull_1 : decode cJ25_fillNull 1 = .ok (.iload_n 1, 1) := dk_27 (dk_at dksJ25_fillNull_0 1 rfl rfl)
theorem dJ25_fillNull_2 : decode cJ25_fillNull 2 = .ok (.iload_n 2, 1) := dk_28 (dk_at dksJ25_fillNull_0 2 rfl rfl)
theorem dJ25_fillNull_3 : decode cJ25_fillNull 3 = .ok (.iconst 0, 1) := dk_3 (dk_at dksJ25_fillNull_0 3 rfl rfl)
theorem dJ25_fillNull_4 : decode cJ25_fillNull 4 = .ok (.invokestatic 236, 3) := dk_184 0 236 (dk_at dksJ25_fillNull_0 4 rfl rfl)
theorem dJ25_fillNull_7 : decode cJ25_fillNull 7 = .ok (.return_, 1) := dk_177 (dk_at dksJ25_fillNull_0 7 rfl rfl)
abbrev cJ25_charAt : ByteArray := prog_50_method_2_code
def yJ25_charAt : MethodName := ⟨RJ25, "charAt", "([BI)C"⟩
def dkwJ25_charAt_0 : List UInt8 := [27, 42, 190, 184, 0, 9, 42, 27, 51, 17, 0, 255, 126, 146, 172]
abbrev dktJ25_charAt_0 : List UInt8 := dkwJ25_charAt_0 ++ []
theorem dksJ25_charAt_0 : cJ25_charAt.data.toList.drop 0 = dktJ25_charAt_0 := by decide +kernel
theorem dJ25_charAt_0 : decode cJ25_charAt 0 = .ok (.iload_n 1, 1) := dk_27 (dk_at dksJ25_charAt_0 0 rfl rfl)
theorem dJ25_charAt_1 : decode cJ25_charAt 1 = .ok (.aload_n 0, 1) := dk_42 (dk_at dksJ25_charAt_0 1 rfl rfl)
theorem dJ25_charAt_2 : decode cJ25_charAt 2 = .ok (.arraylength, 1) := dk_190 (dk_at dksJ25_charAt_0 2 rfl rfl)
theorem dJ25_charAt_3 : decode cJ25_charAt 3 = .ok (.invokestatic 9, 3) := dk_184 0 9 (dk_at dksJ25_charAt_0 3 rfl rfl)
theorem dJ25_charAt_6 : decode cJ25_charAt 6 = .ok (.aload_n 0, 1) := dk_42 (dk_at dksJ25_charAt_0 6 rfl rfl)
theorem dJ25_charAt_7 : decode cJ25_charAt 7 = .ok (.iload_n 1, 1) := dk_27 (dk_at dksJ25_charAt_0 7 rfl rfl)
theorem dJ25_charAt_8 : decode cJ25_charAt 8 = .ok (.baload, 1) := dk_51 (dk_at dksJ25_charAt_0 8 rfl rfl)
theorem dJ25_charAt_9 : decode cJ25_charAt 9 = .ok (.sipush 255, 3) := dk_17 0 255 (dk_at dksJ25_charAt_0 9 rfl rfl)
theorem dJ25_charAt_12 : decode cJ25_charAt 12 = .ok (.iand, 1) := dk_126 (dk_at dksJ25_charAt_0 12 rfl rfl)
theorem dJ25_charAt_13 : decode cJ25_charAt 13 = .ok (.i2c, 1) := dk_146 (dk_at dksJ25_charAt_0 13 rfl rfl)
theorem dJ25_charAt_14 : decode cJ25_charAt 14 = .ok (.ireturn, 1) := dk_172 (dk_at dksJ25_charAt_0 14 rfl rfl)
abbrev cJ25_equals : ByteArray := prog_50_method_13_code
def yJ25_equals : MethodName := ⟨RJ25, "equals", "([B[B)Z"⟩
def dkwJ25_equals_1 : List UInt8 := [3, 172, 132, 2, 1, 167, 255, 236, 4, 172, 3, 172]
abbrev dktJ25_equals_1 : List UInt8 := dkwJ25_equals_1 ++ []
def dkwJ25_equals_0 : List UInt8 := [42, 190, 43, 190, 160, 0, 30, 3, 61, 28, 42, 190, 162, 0, 20, 42, 28, 51, 43, 28, 51, 159, 0, 5]
abbrev dktJ25_equals_0 : List UInt8 := dkwJ25_equals_0 ++ dktJ25_equals_1
theorem dksJ25_equals_0 : cJ25_equals.data.toList.drop 0 = dktJ25_equals_0 := by decide +kernel
theorem dksJ25_equals_1 : cJ25_equals.data.toList.drop 24 = dktJ25_equals_1 := dk_seg dksJ25_equals_0 24 rfl rfl
theorem dJ25_equals_0 : decode cJ25_equals 0 = .ok (.aload_n 0, 1) := dk_42 (dk_at dksJ25_equals_0 0 rfl rfl)
theorem dJ25_equals_1 : decode cJ25_equals 1 = .ok (.arraylength, 1) := dk_190 (dk_at dksJ25_equals_0 1 rfl rfl)
theorem dJ25_equals_2 : decode cJ25_equals 2 = .ok (.aload_n 1, 1) := dk_43 (dk_at dksJ25_equals_0 2 rfl rfl)
theorem dJ25_equals_3 : decode cJ25_equals 3 = .ok (.arraylength, 1) := dk_190 (dk_at dksJ25_equals_0 3 rfl rfl)
theorem dJ25_equals_4 : decode cJ25_equals 4 = .ok (.if_icmp .ne 30, 3) := dk_160 0 30 (dk_at dksJ25_equals_0 4 rfl rfl)
theorem dJ25_equals_7 : decode cJ25_equals 7 = .ok (.iconst 0, 1) := dk_3 (dk_at dksJ25_equals_0 7 rfl rfl)
theorem dJ25_equals_8 : decode cJ25_equals 8 = .ok (.istore_n 2, 1) := dk_61 (dk_at dksJ25_equals_0 8 rfl rfl)
theorem dJ25_equals_9 : decode cJ25_equals 9 = .ok (.iload_n 2, 1) := dk_28 (dk_at dksJ25_equals_0 9 rfl rfl)
theorem dJ25_equals_10 : decode cJ25_equals 10 = .ok (.aload_n 0, 1) := dk_42 (dk_at dksJ25_equals_0 10 rfl rfl)
theorem dJ25_equals_11 : decode cJ25_equals 11 = .ok (.arraylength, 1) := dk_190 (dk_at dksJ25_equals_0 11 rfl rfl)
theorem dJ25_equals_12 : decode cJ25_equals 12 = .ok (.if_icmp .ge 20, 3) := dk_162 0 20 (dk_at dksJ25_equals_0 12 rfl rfl)
theorem dJ25_equals_15 : decode cJ25_equals 15 = .ok (.aload_n 0, 1) := dk_42 (dk_at dksJ25_equals_0 15 rfl rfl)
theorem dJ25_equals_16 : decode cJ25_equals 16 = .ok (.iload_n 2, 1) := dk_28 (dk_at dksJ25_equals_0 16 rfl rfl)
theorem dJ25_equals_17 : decode cJ25_equals 17 = .ok (.baload, 1) := dk_51 (dk_at dksJ25_equals_0 17 rfl rfl)
theorem dJ25_equals_18 : decode cJ25_equals 18 = .ok (.aload_n 1, 1) := dk_43 (dk_at dksJ25_equals_0 18 rfl rfl)
theorem dJ25_equals_19 : decode cJ25_equals 19 = .ok (.iload_n 2, 1) := dk_28 (dk_at dksJ25_equals_0 19 rfl rfl)
theorem dJ25_equals_20 : decode cJ25_equals 20 = .ok (.baload, 1) := dk_51 (dk_at dksJ25_equals_0 20 rfl rfl)
theorem dJ25_equals_21 : decode cJ25_equals 21 = .ok (.if_icmp .eq 5, 3) := dk_159 0 5 (dk_at dksJ25_equals_0 21 rfl rfl)
theorem dJ25_equals_24 : decode cJ25_equals 24 = .ok (.iconst 0, 1) := dk_3 (dk_at dksJ25_equals_1 0 rfl rfl)
theorem dJ25_equals_25 : decode cJ25_equals 25 = .ok (.ireturn, 1) := dk_172 (dk_at dksJ25_equals_1 1 rfl rfl)
theorem dJ25_equals_26 : decode cJ25_equals 26 = .ok (.iinc 2 1, 3) := dk_132 2 1 (dk_at dksJ25_equals_1 2 rfl rfl)
theorem dJ25_equals_29 : decode cJ25_equals 29 = .ok (.goto (-20), 3) := dk_167 255 236 (dk_at dksJ25_equals_1 5 rfl rfl)
theorem dJ25_equals_32 : decode cJ25_equals 32 = .ok (.iconst 1, 1) := dk_4 (dk_at dksJ25_equals_1 8 rfl rfl)
theorem dJ25_equals_33 : decode cJ25_equals 33 = .ok (.ireturn, 1) := dk_172 (dk_at dksJ25_equals_1 9 rfl rfl)
theorem dJ25_equals_34 : decode cJ25_equals 34 = .ok (.iconst 0, 1) := dk_3 (dk_at dksJ25_equals_1 10 rfl rfl)
theorem dJ25_equals_35 : decode cJ25_equals 35 = .ok (.ireturn, 1) := dk_172 (dk_at dksJ25_equals_1 11 rfl rfl)
abbrev cJ25_hashCode : ByteArray := prog_50_method_21_code
def yJ25_hashCode : MethodName := ⟨RJ25, "hashCode", "([B)I"⟩
def dkwJ25_hashCode_2 : List UInt8 := [3, 167, 0, 22, 42, 3, 51, 17, 0, 255, 126, 167, 0, 12, 42, 3, 42, 190, 3, 7, 184, 0, 84, 172]
abbrev dktJ25_hashCode_2 : List UInt8 := dkwJ25_hashCode_2 ++ []
def dkwJ25_hashCode_1 : List UInt8 := [171, 0, 0, 0, 0, 40, 0, 0, 0, 2, 0, 0, 0, 0, 0, 0, 0, 26, 0, 0, 0, 1, 0, 0, 0, 30]
abbrev dktJ25_hashCode_1 : List UInt8 := dkwJ25_hashCode_1 ++ dktJ25_hashCode_2
def dkwJ25_hashCode_0 : List UInt8 := [42, 190]
abbrev dktJ25_hashCode_0 : List UInt8 := dkwJ25_hashCode_0 ++ dktJ25_hashCode_1
theorem dksJ25_hashCode_0 : cJ25_hashCode.data.toList.drop 0 = dktJ25_hashCode_0 := by decide +kernel
theorem dksJ25_hashCode_1 : cJ25_hashCode.data.toList.drop 2 = dktJ25_hashCode_1 := dk_seg dksJ25_hashCode_0 2 rfl rfl
theorem dksJ25_hashCode_2 : cJ25_hashCode.data.toList.drop 28 = dktJ25_hashCode_2 := dk_seg dksJ25_hashCode_1 26 rfl rfl
theorem dJ25_hashCode_0 : decode cJ25_hashCode 0 = .ok (.aload_n 0, 1) := dk_42 (dk_at dksJ25_hashCode_0 0 rfl rfl)
theorem dJ25_hashCode_1 : decode cJ25_hashCode 1 = .ok (.arraylength, 1) := dk_190 (dk_at dksJ25_hashCode_0 1 rfl rfl)
theorem dJ25_hashCode_2 : decode cJ25_hashCode 2 = .ok (.lookupswitch 40 #[(0, 26), (1, 30)], 26) := by decide +kernel
theorem dJ25_hashCode_28 : decode cJ25_hashCode 28 = .ok (.iconst 0, 1) := dk_3 (dk_at dksJ25_hashCode_2 0 rfl rfl)
theorem dJ25_hashCode_29 : decode cJ25_hashCode 29 = .ok (.goto 22, 3) := dk_167 0 22 (dk_at dksJ25_hashCode_2 1 rfl rfl)
theorem dJ25_hashCode_32 : decode cJ25_hashCode 32 = .ok (.aload_n 0, 1) := dk_42 (dk_at dksJ25_hashCode_2 4 rfl rfl)
theorem dJ25_hashCode_33 : decode cJ25_hashCode 33 = .ok (.iconst 0, 1) := dk_3 (dk_at dksJ25_hashCode_2 5 rfl rfl)
theorem dJ25_hashCode_34 : decode cJ25_hashCode 34 = .ok (.baload, 1) := dk_51 (dk_at dksJ25_hashCode_2 6 rfl rfl)
theorem dJ25_hashCode_35 : decode cJ25_hashCode 35 = .ok (.sipush 255, 3) := dk_17 0 255 (dk_at dksJ25_hashCode_2 7 rfl rfl)
theorem dJ25_hashCode_38 : decode cJ25_hashCode 38 = .ok (.iand, 1) := dk_126 (dk_at dksJ25_hashCode_2 10 rfl rfl)
theorem dJ25_hashCode_39 : decode cJ25_hashCode 39 = .ok (.goto 12, 3) := dk_167 0 12 (dk_at dksJ25_hashCode_2 11 rfl rfl)
theorem dJ25_hashCode_42 : decode cJ25_hashCode 42 = .ok (.aload_n 0, 1) := dk_42 (dk_at dksJ25_hashCode_2 14 rfl rfl)
theorem dJ25_hashCode_43 : decode cJ25_hashCode 43 = .ok (.iconst 0, 1) := dk_3 (dk_at dksJ25_hashCode_2 15 rfl rfl)
theorem dJ25_hashCode_44 : decode cJ25_hashCode 44 = .ok (.aload_n 0, 1) := dk_42 (dk_at dksJ25_hashCode_2 16 rfl rfl)
theorem dJ25_hashCode_45 : decode cJ25_hashCode 45 = .ok (.arraylength, 1) := dk_190 (dk_at dksJ25_hashCode_2 17 rfl rfl)
theorem dJ25_hashCode_46 : decode cJ25_hashCode 46 = .ok (.iconst 0, 1) := dk_3 (dk_at dksJ25_hashCode_2 18 rfl rfl)
theorem dJ25_hashCode_47 : decode cJ25_hashCode 47 = .ok (.iconst 4, 1) := dk_7 (dk_at dksJ25_hashCode_2 19 rfl rfl)
theorem dJ25_hashCode_48 : decode cJ25_hashCode 48 = .ok (.invokestatic 84, 3) := dk_184 0 84 (dk_at dksJ25_hashCode_2 20 rfl rfl)
theorem dJ25_hashCode_51 : decode cJ25_hashCode 51 = .ok (.ireturn, 1) := dk_172 (dk_at dksJ25_hashCode_2 23 rfl rfl)
abbrev cJ25_compareTo : ByteArray := prog_50_method_14_code
def yJ25_compareTo : MethodName := ⟨RJ25, "compareTo", "([B[B)I"⟩
def dkwJ25_compareTo_0 : List UInt8 := [42, 190, 61, 43, 190, 62, 42, 43, 28, 29, 184, 0, 34, 172]
abbrev dktJ25_compareTo_0 : List UInt8 := dkwJ25_compareTo_0 ++ []
theorem dksJ25_compareTo_0 : cJ25_compareTo.data.toList.drop 0 = dktJ25_compareTo_0 := by decide +kernel
theorem dJ25_compareTo_0 : decode cJ25_compareTo 0 = .ok (.aload_n 0, 1) := dk_42 (dk_at dksJ25_compareTo_0 0 rfl rfl)
theorem dJ25_compareTo_1 : decode cJ25_compareTo 1 = .ok (.arraylength, 1) := dk_190 (dk_at dksJ25_compareTo_0 1 rfl rfl)
theorem dJ25_compareTo_2 : decode cJ25_compareTo 2 = .ok (.istore_n 2, 1) := dk_61 (dk_at dksJ25_compareTo_0 2 rfl rfl)
theorem dJ25_compareTo_3 : decode cJ25_compareTo 3 = .ok (.aload_n 1, 1) := dk_43 (dk_at dksJ25_compareTo_0 3 rfl rfl)
theorem dJ25_compareTo_4 : decode cJ25_compareTo 4 = .ok (.arraylength, 1) := dk_190 (dk_at dksJ25_compareTo_0 4 rfl rfl)
theorem dJ25_compareTo_5 : decode cJ25_compareTo 5 = .ok (.istore_n 3, 1) := dk_62 (dk_at dksJ25_compareTo_0 5 rfl rfl)
theorem dJ25_compareTo_6 : decode cJ25_compareTo 6 = .ok (.aload_n 0, 1) := dk_42 (dk_at dksJ25_compareTo_0 6 rfl rfl)
theorem dJ25_compareTo_7 : decode cJ25_compareTo 7 = .ok (.aload_n 1, 1) := dk_43 (dk_at dksJ25_compareTo_0 7 rfl rfl)
theorem dJ25_compareTo_8 : decode cJ25_compareTo 8 = .ok (.iload_n 2, 1) := dk_28 (dk_at dksJ25_compareTo_0 8 rfl rfl)
theorem dJ25_compareTo_9 : decode cJ25_compareTo 9 = .ok (.iload_n 3, 1) := dk_29 (dk_at dksJ25_compareTo_0 9 rfl rfl)
theorem dJ25_compareTo_10 : decode cJ25_compareTo 10 = .ok (.invokestatic 34, 3) := dk_184 0 34 (dk_at dksJ25_compareTo_0 10 rfl rfl)
theorem dJ25_compareTo_13 : decode cJ25_compareTo 13 = .ok (.ireturn, 1) := dk_172 (dk_at dksJ25_compareTo_0 13 rfl rfl)
abbrev cJ25_compareTo_2 : ByteArray := prog_50_method_15_code
def yJ25_compareTo_2 : MethodName := ⟨RJ25, "compareTo", "([B[BII)I"⟩
def dkwJ25_compareTo_2_1 : List UInt8 := [167, 0, 16, 42, 21, 5, 184, 0, 50, 43, 21, 5, 184, 0, 50, 100, 172]
abbrev dktJ25_compareTo_2_1 : List UInt8 := dkwJ25_compareTo_2_1 ++ []
def dkwJ25_compareTo_2_0 : List UInt8 := [28, 29, 184, 0, 38, 54, 4, 42, 43, 21, 4, 184, 0, 44, 54, 5, 21, 5, 156, 0, 9, 28, 29, 100]
abbrev dktJ25_compareTo_2_0 : List UInt8 := dkwJ25_compareTo_2_0 ++ dktJ25_compareTo_2_1
theorem dksJ25_compareTo_2_0 : cJ25_compareTo_2.data.toList.drop 0 = dktJ25_compareTo_2_0 := by decide +kernel
theorem dksJ25_compareTo_2_1 : cJ25_compareTo_2.data.toList.drop 24 = dktJ25_compareTo_2_1 := dk_seg dksJ25_compareTo_2_0 24 rfl rfl
theorem dJ25_compareTo_2_0 : decode cJ25_compareTo_2 0 = .ok (.iload_n 2, 1) := dk_28 (dk_at dksJ25_compareTo_2_0 0 rfl rfl)
theorem dJ25_compareTo_2_1 : decode cJ25_compareTo_2 1 = .ok (.iload_n 3, 1) := dk_29 (dk_at dksJ25_compareTo_2_0 1 rfl rfl)
theorem dJ25_compareTo_2_2 : decode cJ25_compareTo_2 2 = .ok (.invokestatic 38, 3) := dk_184 0 38 (dk_at dksJ25_compareTo_2_0 2 rfl rfl)
theorem dJ25_compareTo_2_5 : decode cJ25_compareTo_2 5 = .ok (.istore 4, 2) := dk_54 4 (dk_at dksJ25_compareTo_2_0 5 rfl rfl)
theorem dJ25_compareTo_2_7 : decode cJ25_compareTo_2 7 = .ok (.aload_n 0, 1) := dk_42 (dk_at dksJ25_compareTo_2_0 7 rfl rfl)
theorem dJ25_compareTo_2_8 : decode cJ25_compareTo_2 8 = .ok (.aload_n 1, 1) := dk_43 (dk_at dksJ25_compareTo_2_0 8 rfl rfl)
theorem dJ25_compareTo_2_9 : decode cJ25_compareTo_2 9 = .ok (.iload 4, 2) := dk_21 4 (dk_at dksJ25_compareTo_2_0 9 rfl rfl)
theorem dJ25_compareTo_2_11 : decode cJ25_compareTo_2 11 = .ok (.invokestatic 44, 3) := dk_184 0 44 (dk_at dksJ25_compareTo_2_0 11 rfl rfl)
theorem dJ25_compareTo_2_14 : decode cJ25_compareTo_2 14 = .ok (.istore 5, 2) := dk_54 5 (dk_at dksJ25_compareTo_2_0 14 rfl rfl)
theorem dJ25_compareTo_2_16 : decode cJ25_compareTo_2 16 = .ok (.iload 5, 2) := dk_21 5 (dk_at dksJ25_compareTo_2_0 16 rfl rfl)
theorem dJ25_compareTo_2_18 : decode cJ25_compareTo_2 18 = .ok (.ifCond .ge 9, 3) := dk_156 0 9 (dk_at dksJ25_compareTo_2_0 18 rfl rfl)
theorem dJ25_compareTo_2_21 : decode cJ25_compareTo_2 21 = .ok (.iload_n 2, 1) := dk_28 (dk_at dksJ25_compareTo_2_0 21 rfl rfl)
theorem dJ25_compareTo_2_22 : decode cJ25_compareTo_2 22 = .ok (.iload_n 3, 1) := dk_29 (dk_at dksJ25_compareTo_2_0 22 rfl rfl)
theorem dJ25_compareTo_2_23 : decode cJ25_compareTo_2 23 = .ok (.isub, 1) := dk_100 (dk_at dksJ25_compareTo_2_0 23 rfl rfl)
theorem dJ25_compareTo_2_24 : decode cJ25_compareTo_2 24 = .ok (.goto 16, 3) := dk_167 0 16 (dk_at dksJ25_compareTo_2_1 0 rfl rfl)
theorem dJ25_compareTo_2_27 : decode cJ25_compareTo_2 27 = .ok (.aload_n 0, 1) := dk_42 (dk_at dksJ25_compareTo_2_1 3 rfl rfl)
theorem dJ25_compareTo_2_28 : decode cJ25_compareTo_2 28 = .ok (.iload 5, 2) := dk_21 5 (dk_at dksJ25_compareTo_2_1 4 rfl rfl)
theorem dJ25_compareTo_2_30 : decode cJ25_compareTo_2 30 = .ok (.invokestatic 50, 3) := dk_184 0 50 (dk_at dksJ25_compareTo_2_1 6 rfl rfl)
theorem dJ25_compareTo_2_33 : decode cJ25_compareTo_2 33 = .ok (.aload_n 1, 1) := dk_43 (dk_at dksJ25_compareTo_2_1 9 rfl rfl)
theorem dJ25_compareTo_2_34 : decode cJ25_compareTo_2 34 = .ok (.iload 5, 2) := dk_21 5 (dk_at dksJ25_compareTo_2_1 10 rfl rfl)
theorem dJ25_compareTo_2_36 : decode cJ25_compareTo_2 36 = .ok (.invokestatic 50, 3) := dk_184 0 50 (dk_at dksJ25_compareTo_2_1 12 rfl rfl)
theorem dJ25_compareTo_2_39 : decode cJ25_compareTo_2 39 = .ok (.isub, 1) := dk_100 (dk_at dksJ25_compareTo_2_1 15 rfl rfl)
theorem dJ25_compareTo_2_40 : decode cJ25_compareTo_2 40 = .ok (.ireturn, 1) := dk_172 (dk_at dksJ25_compareTo_2_1 16 rfl rfl)
abbrev cJ25_getChar : ByteArray := prog_50_method_44_code
def yJ25_getChar : MethodName := ⟨RJ25, "getChar", "([BI)C"⟩
def dkwJ25_getChar_0 : List UInt8 := [42, 27, 51, 17, 0, 255, 126, 146, 172]
abbrev dktJ25_getChar_0 : List UInt8 := dkwJ25_getChar_0 ++ []
theorem dksJ25_getChar_0 : cJ25_getChar.data.toList.drop 0 = dktJ25_getChar_0 := by decide +kernel
theorem dJ25_getChar_0 : decode cJ25_getChar 0 = .ok (.aload_n 0, 1) := dk_42 (dk_at dksJ25_getChar_0 0 rfl rfl)
theorem dJ25_getChar_1 : decode cJ25_getChar 1 = .ok (.iload_n 1, 1) := dk_27 (dk_at dksJ25_getChar_0 1 rfl rfl)
theorem dJ25_getChar_2 : decode cJ25_getChar 2 = .ok (.baload, 1) := dk_51 (dk_at dksJ25_getChar_0 2 rfl rfl)
theorem dJ25_getChar_3 : decode cJ25_getChar 3 = .ok (.sipush 255, 3) := dk_17 0 255 (dk_at dksJ25_getChar_0 3 rfl rfl)
theorem dJ25_getChar_6 : decode cJ25_getChar 6 = .ok (.iand, 1) := dk_126 (dk_at dksJ25_getChar_0 6 rfl rfl)
theorem dJ25_getChar_7 : decode cJ25_getChar 7 = .ok (.i2c, 1) := dk_146 (dk_at dksJ25_getChar_0 7 rfl rfl)
theorem dJ25_getChar_8 : decode cJ25_getChar 8 = .ok (.ireturn, 1) := dk_172 (dk_at dksJ25_getChar_0 8 rfl rfl)
abbrev cJ25_compareToUTF16 : ByteArray := prog_50_method_16_code
def yJ25_compareToUTF16 : MethodName := ⟨RJ25, "compareToUTF16", "([B[B)I"⟩
def dkwJ25_compareToUTF16_0 : List UInt8 := [42, 184, 0, 54, 61, 43, 184, 0, 58, 62, 42, 43, 28, 29, 184, 0, 59, 172]
abbrev dktJ25_compareToUTF16_0 : List UInt8 := dkwJ25_compareToUTF16_0 ++ []
theorem dksJ25_compareToUTF16_0 : cJ25_compareToUTF16.data.toList.drop 0 = dktJ25_compareToUTF16_0 := by decide +kernel
theorem dJ25_compareToUTF16_0 : decode cJ25_compareToUTF16 0 = .ok (.aload_n 0, 1) := dk_42 (dk_at dksJ25_compareToUTF16_0 0 rfl rfl)
theorem dJ25_compareToUTF16_1 : decode cJ25_compareToUTF16 1 = .ok (.invokestatic 54, 3) := dk_184 0 54 (dk_at dksJ25_compareToUTF16_0 1 rfl rfl)
theorem dJ25_compareToUTF16_4 : decode cJ25_compareToUTF16 4 = .ok (.istore_n 2, 1) := dk_61 (dk_at dksJ25_compareToUTF16_0 4 rfl rfl)
theorem dJ25_compareToUTF16_5 : decode cJ25_compareToUTF16 5 = .ok (.aload_n 1, 1) := dk_43 (dk_at dksJ25_compareToUTF16_0 5 rfl rfl)
theorem dJ25_compareToUTF16_6 : decode cJ25_compareToUTF16 6 = .ok (.invokestatic 58, 3) := dk_184 0 58 (dk_at dksJ25_compareToUTF16_0 6 rfl rfl)
theorem dJ25_compareToUTF16_9 : decode cJ25_compareToUTF16 9 = .ok (.istore_n 3, 1) := dk_62 (dk_at dksJ25_compareToUTF16_0 9 rfl rfl)
theorem dJ25_compareToUTF16_10 : decode cJ25_compareToUTF16 10 = .ok (.aload_n 0, 1) := dk_42 (dk_at dksJ25_compareToUTF16_0 10 rfl rfl)
theorem dJ25_compareToUTF16_11 : decode cJ25_compareToUTF16 11 = .ok (.aload_n 1, 1) := dk_43 (dk_at dksJ25_compareToUTF16_0 11 rfl rfl)
theorem dJ25_compareToUTF16_12 : decode cJ25_compareToUTF16 12 = .ok (.iload_n 2, 1) := dk_28 (dk_at dksJ25_compareToUTF16_0 12 rfl rfl)
theorem dJ25_compareToUTF16_13 : decode cJ25_compareToUTF16 13 = .ok (.iload_n 3, 1) := dk_29 (dk_at dksJ25_compareToUTF16_0 13 rfl rfl)
theorem dJ25_compareToUTF16_14 : decode cJ25_compareToUTF16 14 = .ok (.invokestatic 59, 3) := dk_184 0 59 (dk_at dksJ25_compareToUTF16_0 14 rfl rfl)
theorem dJ25_compareToUTF16_17 : decode cJ25_compareToUTF16 17 = .ok (.ireturn, 1) := dk_172 (dk_at dksJ25_compareToUTF16_0 17 rfl rfl)
abbrev cJ25_length : ByteArray := prog_50_method_5_code
def yJ25_length : MethodName := ⟨RJ25, "length", "([B)I"⟩
theorem dJ25_length_0 : decode cJ25_length 0 = .ok (.aload_n 0, 1) := by decide +kernel
theorem dJ25_length_1 : decode cJ25_length 1 = .ok (.arraylength, 1) := by decide +kernel
theorem dJ25_length_2 : decode cJ25_length 2 = .ok (.ireturn, 1) := by decide +kernel
abbrev cJ25_compareToUTF16Values : ByteArray := prog_50_method_18_code
def yJ25_compareToUTF16Values : MethodName := ⟨RJ25, "compareToUTF16Values", "([B[BII)I"⟩
def dkwJ25_compareToUTF16Values_2 : List UInt8 := [132, 5, 1, 167, 255, 217, 28, 29, 100, 172]
abbrev dktJ25_compareToUTF16Values_2 : List UInt8 := dkwJ25_compareToUTF16Values_2 ++ []
def dkwJ25_compareToUTF16Values_1 : List UInt8 := [54, 6, 43, 21, 5, 184, 0, 65, 54, 7, 21, 6, 21, 7, 159, 0, 9, 21, 6, 21, 7, 100, 172]
abbrev dktJ25_compareToUTF16Values_1 : List UInt8 := dkwJ25_compareToUTF16Values_1 ++ dktJ25_compareToUTF16Values_2
def dkwJ25_compareToUTF16Values_0 : List UInt8 := [28, 29, 184, 0, 38, 54, 4, 3, 54, 5, 21, 5, 21, 4, 162, 0, 38, 42, 21, 5, 184, 0, 50]
abbrev dktJ25_compareToUTF16Values_0 : List UInt8 := dkwJ25_compareToUTF16Values_0 ++ dktJ25_compareToUTF16Values_1
theorem dksJ25_compareToUTF16Values_0 : cJ25_compareToUTF16Values.data.toList.drop 0 = dktJ25_compareToUTF16Values_0 := by decide +kernel
theorem dksJ25_compareToUTF16Values_1 : cJ25_compareToUTF16Values.data.toList.drop 23 = dktJ25_compareToUTF16Values_1 := dk_seg dksJ25_compareToUTF16Values_0 23 rfl rfl
theorem dksJ25_compareToUTF16Values_2 : cJ25_compareToUTF16Values.data.toList.drop 46 = dktJ25_compareToUTF16Values_2 := dk_seg dksJ25_compareToUTF16Values_1 23 rfl rfl
theorem dJ25_compareToUTF16Values_0 : decode cJ25_compareToUTF16Values 0 = .ok (.iload_n 2, 1) := dk_28 (dk_at dksJ25_compareToUTF16Values_0 0 rfl rfl)
theorem dJ25_compareToUTF16Values_1 : decode cJ25_compareToUTF16Values 1 = .ok (.iload_n 3, 1) := dk_29 (dk_at dksJ25_compareToUTF16Values_0 1 rfl rfl)
theorem dJ25_compareToUTF16Values_2 : decode cJ25_compareToUTF16Values 2 = .ok (.invokestatic 38, 3) := dk_184 0 38 (dk_at dksJ25_compareToUTF16Values_0 2 rfl rfl)
theorem dJ25_compareToUTF16Values_5 : decode cJ25_compareToUTF16Values 5 = .ok (.istore 4, 2) := dk_54 4 (dk_at dksJ25_compareToUTF16Values_0 5 rfl rfl)
theorem dJ25_compareToUTF16Values_7 : decode cJ25_compareToUTF16Values 7 = .ok (.iconst 0, 1) := dk_3 (dk_at dksJ25_compareToUTF16Values_0 7 rfl rfl)
theorem dJ25_compareToUTF16Values_8 : decode cJ25_compareToUTF16Values 8 = .ok (.istore 5, 2) := dk_54 5 (dk_at dksJ25_compareToUTF16Values_0 8 rfl rfl)
theorem dJ25_compareToUTF16Values_10 : decode cJ25_compareToUTF16Values 10 = .ok (.iload 5, 2) := dk_21 5 (dk_at dksJ25_compareToUTF16Values_0 10 rfl rfl)
theorem dJ25_compareToUTF16Values_12 : decode cJ25_compareToUTF16Values 12 = .ok (.iload 4, 2) := dk_21 4 (dk_at dksJ25_compareToUTF16Values_0 12 rfl rfl)
theorem dJ25_compareToUTF16Values_14 : decode cJ25_compareToUTF16Values 14 = .ok (.if_icmp .ge 38, 3) := dk_162 0 38 (dk_at dksJ25_compareToUTF16Values_0 14 rfl rfl)
theorem dJ25_compareToUTF16Values_17 : decode cJ25_compareToUTF16Values 17 = .ok (.aload_n 0, 1) := dk_42 (dk_at dksJ25_compareToUTF16Values_0 17 rfl rfl)
theorem dJ25_compareToUTF16Values_18 : decode cJ25_compareToUTF16Values 18 = .ok (.iload 5, 2) := dk_21 5 (dk_at dksJ25_compareToUTF16Values_0 18 rfl rfl)
theorem dJ25_compareToUTF16Values_20 : decode cJ25_compareToUTF16Values 20 = .ok (.invokestatic 50, 3) := dk_184 0 50 (dk_at dksJ25_compareToUTF16Values_0 20 rfl rfl)
theorem dJ25_compareToUTF16Values_23 : decode cJ25_compareToUTF16Values 23 = .ok (.istore 6, 2) := dk_54 6 (dk_at dksJ25_compareToUTF16Values_1 0 rfl rfl)
theorem dJ25_compareToUTF16Values_25 : decode cJ25_compareToUTF16Values 25 = .ok (.aload_n 1, 1) := dk_43 (dk_at dksJ25_compareToUTF16Values_1 2 rfl rfl)
theorem dJ25_compareToUTF16Values_26 : decode cJ25_compareToUTF16Values 26 = .ok (.iload 5, 2) := dk_21 5 (dk_at dksJ25_compareToUTF16Values_1 3 rfl rfl)
theorem dJ25_compareToUTF16Values_28 : decode cJ25_compareToUTF16Values 28 = .ok (.invokestatic 65, 3) := dk_184 0 65 (dk_at dksJ25_compareToUTF16Values_1 5 rfl rfl)
theorem dJ25_compareToUTF16Values_31 : decode cJ25_compareToUTF16Values 31 = .ok (.istore 7, 2) := dk_54 7 (dk_at dksJ25_compareToUTF16Values_1 8 rfl rfl)
theorem dJ25_compareToUTF16Values_33 : decode cJ25_compareToUTF16Values 33 = .ok (.iload 6, 2) := dk_21 6 (dk_at dksJ25_compareToUTF16Values_1 10 rfl rfl)
theorem dJ25_compareToUTF16Values_35 : decode cJ25_compareToUTF16Values 35 = .ok (.iload 7, 2) := dk_21 7 (dk_at dksJ25_compareToUTF16Values_1 12 rfl rfl)
theorem dJ25_compareToUTF16Values_37 : decode cJ25_compareToUTF16Values 37 = .ok (.if_icmp .eq 9, 3) := dk_159 0 9 (dk_at dksJ25_compareToUTF16Values_1 14 rfl rfl)
theorem dJ25_compareToUTF16Values_40 : decode cJ25_compareToUTF16Values 40 = .ok (.iload 6, 2) := dk_21 6 (dk_at dksJ25_compareToUTF16Values_1 17 rfl rfl)
theorem dJ25_compareToUTF16Values_42 : decode cJ25_compareToUTF16Values 42 = .ok (.iload 7, 2) := dk_21 7 (dk_at dksJ25_compareToUTF16Values_1 19 rfl rfl)
theorem dJ25_compareToUTF16Values_44 : decode cJ25_compareToUTF16Values 44 = .ok (.isub, 1) := dk_100 (dk_at dksJ25_compareToUTF16Values_1 21 rfl rfl)
theorem dJ25_compareToUTF16Values_45 : decode cJ25_compareToUTF16Values 45 = .ok (.ireturn, 1) := dk_172 (dk_at dksJ25_compareToUTF16Values_1 22 rfl rfl)
theorem dJ25_compareToUTF16Values_46 : decode cJ25_compareToUTF16Values 46 = .ok (.iinc 5 1, 3) := dk_132 5 1 (dk_at dksJ25_compareToUTF16Values_2 0 rfl rfl)
theorem dJ25_compareToUTF16Values_49 : decode cJ25_compareToUTF16Values 49 = .ok (.goto (-39), 3) := dk_167 255 217 (dk_at dksJ25_compareToUTF16Values_2 3 rfl rfl)
theorem dJ25_compareToUTF16Values_52 : decode cJ25_compareToUTF16Values 52 = .ok (.iload_n 2, 1) := dk_28 (dk_at dksJ25_compareToUTF16Values_2 6 rfl rfl)
theorem dJ25_compareToUTF16Values_53 : decode cJ25_compareToUTF16Values 53 = .ok (.iload_n 3, 1) := dk_29 (dk_at dksJ25_compareToUTF16Values_2 7 rfl rfl)
theorem dJ25_compareToUTF16Values_54 : decode cJ25_compareToUTF16Values 54 = .ok (.isub, 1) := dk_100 (dk_at dksJ25_compareToUTF16Values_2 8 rfl rfl)
theorem dJ25_compareToUTF16Values_55 : decode cJ25_compareToUTF16Values 55 = .ok (.ireturn, 1) := dk_172 (dk_at dksJ25_compareToUTF16Values_2 9 rfl rfl)
abbrev cJ25_compareToUTF16_2 : ByteArray := prog_50_method_17_code
def yJ25_compareToUTF16_2 : MethodName := ⟨RJ25, "compareToUTF16", "([B[BII)I"⟩
def dkwJ25_compareToUTF16_2_0 : List UInt8 := [28, 42, 184, 0, 54, 184, 0, 62, 29, 43, 184, 0, 58, 184, 0, 62, 42, 43, 28, 29, 184, 0, 59, 172]
abbrev dktJ25_compareToUTF16_2_0 : List UInt8 := dkwJ25_compareToUTF16_2_0 ++ []
theorem dksJ25_compareToUTF16_2_0 : cJ25_compareToUTF16_2.data.toList.drop 0 = dktJ25_compareToUTF16_2_0 := by decide +kernel
theorem dJ25_compareToUTF16_2_0 : decode cJ25_compareToUTF16_2 0 = .ok (.iload_n 2, 1) := dk_28 (dk_at dksJ25_compareToUTF16_2_0 0 rfl rfl)
theorem dJ25_compareToUTF16_2_1 : decode cJ25_compareToUTF16_2 1 = .ok (.aload_n 0, 1) := dk_42 (dk_at dksJ25_compareToUTF16_2_0 1 rfl rfl)
theorem dJ25_compareToUTF16_2_2 : decode cJ25_compareToUTF16_2 2 = .ok (.invokestatic 54, 3) := dk_184 0 54 (dk_at dksJ25_compareToUTF16_2_0 2 rfl rfl)
theorem dJ25_compareToUTF16_2_5 : decode cJ25_compareToUTF16_2 5 = .ok (.invokestatic 62, 3) := dk_184 0 62 (dk_at dksJ25_compareToUTF16_2_0 5 rfl rfl)
theorem dJ25_compareToUTF16_2_8 : decode cJ25_compareToUTF16_2 8 = .ok (.iload_n 3, 1) := dk_29 (dk_at dksJ25_compareToUTF16_2_0 8 rfl rfl)
theorem dJ25_compareToUTF16_2_9 : decode cJ25_compareToUTF16_2 9 = .ok (.aload_n 1, 1) := dk_43 (dk_at dksJ25_compareToUTF16_2_0 9 rfl rfl)
theorem dJ25_compareToUTF16_2_10 : decode cJ25_compareToUTF16_2 10 = .ok (.invokestatic 58, 3) := dk_184 0 58 (dk_at dksJ25_compareToUTF16_2_0 10 rfl rfl)
theorem dJ25_compareToUTF16_2_13 : decode cJ25_compareToUTF16_2 13 = .ok (.invokestatic 62, 3) := dk_184 0 62 (dk_at dksJ25_compareToUTF16_2_0 13 rfl rfl)
theorem dJ25_compareToUTF16_2_16 : decode cJ25_compareToUTF16_2 16 = .ok (.aload_n 0, 1) := dk_42 (dk_at dksJ25_compareToUTF16_2_0 16 rfl rfl)
theorem dJ25_compareToUTF16_2_17 : decode cJ25_compareToUTF16_2 17 = .ok (.aload_n 1, 1) := dk_43 (dk_at dksJ25_compareToUTF16_2_0 17 rfl rfl)
theorem dJ25_compareToUTF16_2_18 : decode cJ25_compareToUTF16_2 18 = .ok (.iload_n 2, 1) := dk_28 (dk_at dksJ25_compareToUTF16_2_0 18 rfl rfl)
theorem dJ25_compareToUTF16_2_19 : decode cJ25_compareToUTF16_2 19 = .ok (.iload_n 3, 1) := dk_29 (dk_at dksJ25_compareToUTF16_2_0 19 rfl rfl)
theorem dJ25_compareToUTF16_2_20 : decode cJ25_compareToUTF16_2 20 = .ok (.invokestatic 59, 3) := dk_184 0 59 (dk_at dksJ25_compareToUTF16_2_0 20 rfl rfl)
theorem dJ25_compareToUTF16_2_23 : decode cJ25_compareToUTF16_2 23 = .ok (.ireturn, 1) := dk_172 (dk_at dksJ25_compareToUTF16_2_0 23 rfl rfl)
theorem q138 : (Jvm.Cond.initialized "java/lang/StringLatin1") ∈ lw_all := lw_g (lw_at lw_m1 52 rfl) rfl
theorem q1651 : (Jvm.Cond.static ({ cls := "java/lang/StringLatin1", name := "canEncode", desc := "(C)Z" } : Jvm.MethodName)) ∈ lw_all := lw_g (lw_at lw_m7 125 rfl) rfl
theorem q1652 : (Jvm.Cond.code ({ cls := "java/lang/StringLatin1", name := "canEncode", desc := "(C)Z" } : Jvm.MethodName) prog_50_method_3_code (1 : Nat) (Option.some Jvm.ClassFile.FieldType.boolean)) ∈ lw_all := lw_g (lw_at lw_m7 126 rfl) rfl
theorem q1658 : (Jvm.Cond.static ({ cls := "java/lang/StringLatin1", name := "inflate", desc := "([BI[BII)V" } : Jvm.MethodName)) ∈ lw_all := lw_g (lw_at lw_m7 132 rfl) rfl
theorem q1659 : (Jvm.Cond.code ({ cls := "java/lang/StringLatin1", name := "inflate", desc := "([BI[BII)V" } : Jvm.MethodName) prog_50_method_50_code (5 : Nat) (Option.none : Option Jvm.ClassFile.FieldType)) ∈ lw_all := lw_g (lw_at lw_m7 133 rfl) rfl
theorem q1660 : (Jvm.Cond.methodLink "java/lang/StringLatin1" (240 : Nat) ({ cls := "java/lang/StringUTF16", name := "inflate", desc := "([BI[BII)V" } : Jvm.MethodName)) ∈ lw_all := lw_g (lw_at lw_m7 134 rfl) rfl
theorem q1708 : (Jvm.Cond.static ({ cls := "java/lang/StringLatin1", name := "fillNull", desc := "([BII)V" } : Jvm.MethodName)) ∈ lw_all := lw_g (lw_at lw_m7 182 rfl) rfl
theorem q1709 : (Jvm.Cond.code ({ cls := "java/lang/StringLatin1", name := "fillNull", desc := "([BII)V" } : Jvm.MethodName) prog_50_method_48_code (3 : Nat) (Option.none : Option Jvm.ClassFile.FieldType)) ∈ lw_all := lw_g (lw_at lw_m7 183 rfl) rfl
theorem q1710 : (Jvm.Cond.methodLink "java/lang/StringLatin1" (236 : Nat) ({ cls := "java/util/Arrays", name := "fill", desc := "([BIIB)V" } : Jvm.MethodName)) ∈ lw_all := lw_g (lw_at lw_m7 184 rfl) rfl
theorem q1813 : (Jvm.Cond.static ({ cls := "java/lang/StringLatin1", name := "charAt", desc := "([BI)C" } : Jvm.MethodName)) ∈ lw_all := lw_g (lw_at lw_m8 47 rfl) rfl
theorem q1814 : (Jvm.Cond.code ({ cls := "java/lang/StringLatin1", name := "charAt", desc := "([BI)C" } : Jvm.MethodName) prog_50_method_2_code (2 : Nat) (Option.some Jvm.ClassFile.FieldType.char)) ∈ lw_all := lw_g (lw_at lw_m8 48 rfl) rfl
theorem q1815 : (Jvm.Cond.methodLink "java/lang/StringLatin1" (9 : Nat) ({ cls := "java/lang/String", name := "checkIndex", desc := "(II)V" } : Jvm.MethodName)) ∈ lw_all := lw_g (lw_at lw_m8 49 rfl) rfl
theorem q1891 : (Jvm.Cond.static ({ cls := "java/lang/StringLatin1", name := "equals", desc := "([B[B)Z" } : Jvm.MethodName)) ∈ lw_all := lw_g (lw_at lw_m8 125 rfl) rfl
theorem q1892 : (Jvm.Cond.code ({ cls := "java/lang/StringLatin1", name := "equals", desc := "([B[B)Z" } : Jvm.MethodName) prog_50_method_13_code (3 : Nat) (Option.some Jvm.ClassFile.FieldType.boolean)) ∈ lw_all := lw_g (lw_at lw_m8 126 rfl) rfl
theorem q1918 : (Jvm.Cond.static ({ cls := "java/lang/StringLatin1", name := "hashCode", desc := "([B)I" } : Jvm.MethodName)) ∈ lw_all := lw_g (lw_at lw_m8 152 rfl) rfl
theorem q1919 : (Jvm.Cond.code ({ cls := "java/lang/StringLatin1", name := "hashCode", desc := "([B)I" } : Jvm.MethodName) prog_50_method_21_code (1 : Nat) (Option.some Jvm.ClassFile.FieldType.int)) ∈ lw_all := lw_g (lw_at lw_m8 153 rfl) rfl
theorem q1920 : (Jvm.Cond.methodLink "java/lang/StringLatin1" (84 : Nat) ({ cls := "jdk/internal/util/ArraysSupport", name := "vectorizedHashCode", desc := "(Ljava/lang/Object;IIII)I" } : Jvm.MethodName)) ∈ lw_all := lw_g (lw_at lw_m8 154 rfl) rfl
theorem q2257 : (Jvm.Cond.static ({ cls := "java/lang/StringLatin1", name := "compareTo", desc := "([B[B)I" } : Jvm.MethodName)) ∈ lw_all := lw_g (lw_at lw_m10 11 rfl) rfl
theorem q2258 : (Jvm.Cond.code ({ cls := "java/lang/StringLatin1", name := "compareTo", desc := "([B[B)I" } : Jvm.MethodName) prog_50_method_14_code (4 : Nat) (Option.some Jvm.ClassFile.FieldType.int)) ∈ lw_all := lw_g (lw_at lw_m10 12 rfl) rfl
theorem q2259 : (Jvm.Cond.methodLink "java/lang/StringLatin1" (34 : Nat) ({ cls := "java/lang/StringLatin1", name := "compareTo", desc := "([B[BII)I" } : Jvm.MethodName)) ∈ lw_all := lw_g (lw_at lw_m10 13 rfl) rfl
theorem q2260 : (Jvm.Cond.static ({ cls := "java/lang/StringLatin1", name := "compareTo", desc := "([B[BII)I" } : Jvm.MethodName)) ∈ lw_all := lw_g (lw_at lw_m10 14 rfl) rfl
theorem q2261 : (Jvm.Cond.code ({ cls := "java/lang/StringLatin1", name := "compareTo", desc := "([B[BII)I" } : Jvm.MethodName) prog_50_method_15_code (6 : Nat) (Option.some Jvm.ClassFile.FieldType.int)) ∈ lw_all := lw_g (lw_at lw_m10 15 rfl) rfl
theorem q2262 : (Jvm.Cond.methodLink "java/lang/StringLatin1" (38 : Nat) ({ cls := "java/lang/Math", name := "min", desc := "(II)I" } : Jvm.MethodName)) ∈ lw_all := lw_g (lw_at lw_m10 16 rfl) rfl
theorem q2263 : (Jvm.Cond.methodLink "java/lang/StringLatin1" (44 : Nat) ({ cls := "jdk/internal/util/ArraysSupport", name := "mismatch", desc := "([B[BI)I" } : Jvm.MethodName)) ∈ lw_all := lw_g (lw_at lw_m10 17 rfl) rfl
theorem q2367 : (Jvm.Cond.methodLink "java/lang/StringLatin1" (50 : Nat) ({ cls := "java/lang/StringLatin1", name := "getChar", desc := "([BI)C" } : Jvm.MethodName)) ∈ lw_all := lw_g (lw_at lw_m10 121 rfl) rfl
theorem q2368 : (Jvm.Cond.static ({ cls := "java/lang/StringLatin1", name := "getChar", desc := "([BI)C" } : Jvm.MethodName)) ∈ lw_all := lw_g (lw_at lw_m10 122 rfl) rfl
theorem q2369 : (Jvm.Cond.code ({ cls := "java/lang/StringLatin1", name := "getChar", desc := "([BI)C" } : Jvm.MethodName) prog_50_method_44_code (2 : Nat) (Option.some Jvm.ClassFile.FieldType.char)) ∈ lw_all := lw_g (lw_at lw_m10 123 rfl) rfl
theorem q2378 : (Jvm.Cond.static ({ cls := "java/lang/StringLatin1", name := "compareToUTF16", desc := "([B[B)I" } : Jvm.MethodName)) ∈ lw_all := lw_g (lw_at lw_m10 132 rfl) rfl
theorem q2379 : (Jvm.Cond.code ({ cls := "java/lang/StringLatin1", name := "compareToUTF16", desc := "([B[B)I" } : Jvm.MethodName) prog_50_method_16_code (4 : Nat) (Option.some Jvm.ClassFile.FieldType.int)) ∈ lw_all := lw_g (lw_at lw_m10 133 rfl) rfl
theorem q2380 : (Jvm.Cond.methodLink "java/lang/StringLatin1" (54 : Nat) ({ cls := "java/lang/StringLatin1", name := "length", desc := "([B)I" } : Jvm.MethodName)) ∈ lw_all := lw_g (lw_at lw_m10 134 rfl) rfl
theorem q2381 : (Jvm.Cond.static ({ cls := "java/lang/StringLatin1", name := "length", desc := "([B)I" } : Jvm.MethodName)) ∈ lw_all := lw_g (lw_at lw_m10 135 rfl) rfl
theorem q2382 : (Jvm.Cond.code ({ cls := "java/lang/StringLatin1", name := "length", desc := "([B)I" } : Jvm.MethodName) prog_50_method_5_code (1 : Nat) (Option.some Jvm.ClassFile.FieldType.int)) ∈ lw_all := lw_g (lw_at lw_m10 136 rfl) rfl
theorem q2383 : (Jvm.Cond.methodLink "java/lang/StringLatin1" (58 : Nat) ({ cls := "java/lang/StringUTF16", name := "length", desc := "([B)I" } : Jvm.MethodName)) ∈ lw_all := lw_g (lw_at lw_m10 137 rfl) rfl
theorem q2384 : (Jvm.Cond.methodLink "java/lang/StringLatin1" (59 : Nat) ({ cls := "java/lang/StringLatin1", name := "compareToUTF16Values", desc := "([B[BII)I" } : Jvm.MethodName)) ∈ lw_all := lw_g (lw_at lw_m10 138 rfl) rfl
theorem q2385 : (Jvm.Cond.static ({ cls := "java/lang/StringLatin1", name := "compareToUTF16Values", desc := "([B[BII)I" } : Jvm.MethodName)) ∈ lw_all := lw_g (lw_at lw_m10 139 rfl) rfl
theorem q2386 : (Jvm.Cond.code ({ cls := "java/lang/StringLatin1", name := "compareToUTF16Values", desc := "([B[BII)I" } : Jvm.MethodName) prog_50_method_18_code (8 : Nat) (Option.some Jvm.ClassFile.FieldType.int)) ∈ lw_all := lw_g (lw_at lw_m10 140 rfl) rfl
theorem q2387 : (Jvm.Cond.methodLink "java/lang/StringLatin1" (65 : Nat) ({ cls := "java/lang/StringUTF16", name := "getChar", desc := "([BI)C" } : Jvm.MethodName)) ∈ lw_all := lw_g (lw_at lw_m10 141 rfl) rfl
theorem q2420 : (Jvm.Cond.static ({ cls := "java/lang/StringLatin1", name := "compareToUTF16", desc := "([B[BII)I" } : Jvm.MethodName)) ∈ lw_all := lw_g (lw_at lw_m10 174 rfl) rfl
theorem q2421 : (Jvm.Cond.code ({ cls := "java/lang/StringLatin1", name := "compareToUTF16", desc := "([B[BII)I" } : Jvm.MethodName) prog_50_method_17_code (4 : Nat) (Option.some Jvm.ClassFile.FieldType.int)) ∈ lw_all := lw_g (lw_at lw_m10 175 rfl) rfl
theorem q2422 : (Jvm.Cond.methodLink "java/lang/StringLatin1" (62 : Nat) ({ cls := "java/lang/String", name := "checkOffset", desc := "(II)V" } : Jvm.MethodName)) ∈ lw_all := lw_g (lw_at lw_m10 176 rfl) rfl

end
section
/-! java/lang/Throwable -/
set_option maxRecDepth 100000
def RJ26 : String := "java/lang/Throwable"
def TJ26 : u_T := fun k => match k with
  | 0 => ("java/lang/Throwable", "cause", "Ljava/lang/Throwable;", false)
  | 1 => ("java/lang/Throwable", "stackTrace", "[Ljava/lang/StackTraceElement;", false)
  | 2 => ("java/lang/Throwable", "suppressedExceptions", "Ljava/util/List;", false)
  | 3 => ("java/lang/Throwable", "detailMessage", "Ljava/lang/String;", false)
  | _ => ("java/lang/Throwable", "backtrace", "Ljava/lang/Object;", false)
def tyJ26 : Nat → FieldType := fun k => match k with
  | 0 => .object "java/lang/Throwable"
  | 1 => .array (.object "java/lang/StackTraceElement")
  | 2 => .object "java/util/List"
  | 3 => .object "java/lang/String"
  | _ => .object "java/lang/Object"
abbrev wsJ260 : List Cond := u_ws RJ26 TJ26 5
theorem nmJ26 : ∀ a, a < 5 → ∀ b, b < 5 → a ≠ b → (TJ26 a).2.1 ≠ (TJ26 b).2.1 := by decide +kernel
theorem tyJ26_ok : ∀ k, k < 5 → parseFieldDescriptor (TJ26 k).2.2.1 = some (tyJ26 k) := by decide +kernel
abbrev cJ26_init : ByteArray := prog_54_method_1_code
def yJ26_init : MethodName := ⟨RJ26, "<init>", "()V"⟩
def dkwJ26_init_1 : List UInt8 := [182, 0, 27, 87, 177]
abbrev dktJ26_init_1 : List UInt8 := dkwJ26_init_1 ++ []
def dkwJ26_init_0 : List UInt8 := [42, 183, 0, 1, 42, 42, 181, 0, 7, 42, 178, 0, 13, 181, 0, 17, 42, 178, 0, 20, 181, 0, 24, 42]
abbrev dktJ26_init_0 : List UInt8 := dkwJ26_init_0 ++ dktJ26_init_1
theorem dksJ26_init_0 : cJ26_init.data.toList.drop 0 = dktJ26_init_0 := by decide +kernel
theorem dksJ26_init_1 : cJ26_init.data.toList.drop 24 = dktJ26_init_1 := dk_seg dksJ26_init_0 24 rfl rfl
theorem dJ26_init_0 : decode cJ26_init 0 = .ok (.aload_n 0, 1) := dk_42 (dk_at dksJ26_init_0 0 rfl rfl)
theorem dJ26_init_1 : decode cJ26_init 1 = .ok (.invokespecial 1, 3) := dk_183 0 1 (dk_at dksJ26_init_0 1 rfl rfl)
theorem dJ26_init_4 : decode cJ26_init 4 = .ok (.aload_n 0, 1) := dk_42 (dk_at dksJ26_init_0 4 rfl rfl)
theorem dJ26_init_5 : decode cJ26_init 5 = .ok (.aload_n 0, 1) := dk_42 (dk_at dksJ26_init_0 5 rfl rfl)
theorem dJ26_init_6 : decode cJ26_init 6 = .ok (.putfield 7, 3) := dk_181 0 7 (dk_at dksJ26_init_0 6 rfl rfl)
theorem dJ26_init_9 : decode cJ26_init 9 = .ok (.aload_n 0, 1) := dk_42 (dk_at dksJ26_init_0 9 rfl rfl)
theorem dJ26_init_10 : decode cJ26_init 10 = .ok (.getstatic 13, 3) := dk_178 0 13 (dk_at dksJ26_init_0 10 rfl rfl)
theorem dJ26_init_13 : decode cJ26_init 13 = .ok (.putfield 17, 3) := dk_181 0 17 (dk_at dksJ26_init_0 13 rfl rfl)
theorem dJ26_init_16 : decode cJ26_init 16 = .ok (.aload_n 0, 1) := dk_42 (dk_at dksJ26_init_0 16 rfl rfl)
theorem dJ26_init_17 : decode cJ26_init 17 = .ok (.getstatic 20, 3) := dk_178 0 20 (dk_at dksJ26_init_0 17 rfl rfl)
theorem dJ26_init_20 : decode cJ26_init 20 = .ok (.putfield 24, 3) := dk_181 0 24 (dk_at dksJ26_init_0 20 rfl rfl)
theorem dJ26_init_23 : decode cJ26_init 23 = .ok (.aload_n 0, 1) := dk_42 (dk_at dksJ26_init_0 23 rfl rfl)
theorem dJ26_init_24 : decode cJ26_init 24 = .ok (.invokevirtual 27, 3) := dk_182 0 27 (dk_at dksJ26_init_1 0 rfl rfl)
theorem dJ26_init_27 : decode cJ26_init 27 = .ok (.pop, 1) := dk_87 (dk_at dksJ26_init_1 3 rfl rfl)
theorem dJ26_init_28 : decode cJ26_init 28 = .ok (.return_, 1) := dk_177 (dk_at dksJ26_init_1 4 rfl rfl)
abbrev cJ26_init_2 : ByteArray := prog_54_method_5_code
def yJ26_init_2 : MethodName := ⟨RJ26, "<init>", "(Ljava/lang/String;Ljava/lang/Throwable;ZZ)V"⟩
def dkwJ26_init_2_2 : List UInt8 := [44, 181, 0, 7, 29, 154, 0, 8, 42, 1, 181, 0, 24, 177]
abbrev dktJ26_init_2_2 : List UInt8 := dkwJ26_init_2_2 ++ []
def dkwJ26_init_2_1 : List UInt8 := [21, 4, 153, 0, 11, 42, 182, 0, 27, 87, 167, 0, 8, 42, 1, 181, 0, 17, 42, 43, 181, 0, 31, 42]
abbrev dktJ26_init_2_1 : List UInt8 := dkwJ26_init_2_1 ++ dktJ26_init_2_2
def dkwJ26_init_2_0 : List UInt8 := [42, 183, 0, 1, 42, 42, 181, 0, 7, 42, 178, 0, 13, 181, 0, 17, 42, 178, 0, 20, 181, 0, 24]
abbrev dktJ26_init_2_0 : List UInt8 := dkwJ26_init_2_0 ++ dktJ26_init_2_1
theorem dksJ26_init_2_0 : cJ26_init_2.data.toList.drop 0 = dktJ26_init_2_0 := by decide +kernel
theorem dksJ26_init_2_1 : cJ26_init_2.data.toList.drop 23 = dktJ26_init_2_1 := dk_seg dksJ26_init_2_0 23 rfl rfl
theorem dksJ26_init_2_2 : cJ26_init_2.data.toList.drop 47 = dktJ26_init_2_2 := dk_seg dksJ26_init_2_1 24 rfl rfl
theorem dJ26_init_2_0 : decode cJ26_init_2 0 = .ok (.aload_n 0, 1) := dk_42 (dk_at dksJ26_init_2_0 0 rfl rfl)
theorem dJ26_init_2_1 : decode cJ26_init_2 1 = .ok (.invokespecial 1, 3) := dk_183 0 1 (dk_at dksJ26_init_2_0 1 rfl rfl)
theorem dJ26_init_2_4 : decode cJ26_init_2 4 = .ok (.aload_n 0, 1) := dk_42 (dk_at dksJ26_init_2_0 4 rfl rfl)
theorem dJ26_init_2_5 : decode cJ26_init_2 5 = .ok (.aload_n 0, 1) := dk_42 (dk_at dksJ26_init_2_0 5 rfl rfl)
theorem dJ26_init_2_6 : decode cJ26_init_2 6 = .ok (.putfield 7, 3) := dk_181 0 7 (dk_at dksJ26_init_2_0 6 rfl rfl)
theorem dJ26_init_2_9 : decode cJ26_init_2 9 = .ok (.aload_n 0, 1) := dk_42 (dk_at dksJ26_init_2_0 9 rfl rfl)
theorem dJ26_init_2_10 : decode cJ26_init_2 10 = .ok (.getstatic 13, 3) := dk_178 0 13 (dk_at dksJ26_init_2_0 10 rfl rfl)
theorem dJ26_init_2_13 : decode cJ26_init_2 13 = .ok (.putfield 17, 3) := dk_181 0 17 (dk_at dksJ26_init_2_0 13 rfl rfl)
theorem dJ26_init_2_16 : decode cJ26_init_2 16 = .ok (.aload_n 0, 1) := dk_42 (dk_at dksJ26_init_2_0 16 rfl rfl)
theorem dJ26_init_2_17 : decode cJ26_init_2 17 = .ok (.getstatic 20, 3) := dk_178 0 20 (dk_at dksJ26_init_2_0 17 rfl rfl)
theorem dJ26_init_2_20 : decode cJ26_init_2 20 = .ok (.putfield 24, 3) := dk_181 0 24 (dk_at dksJ26_init_2_0 20 rfl rfl)
theorem dJ26_init_2_23 : decode cJ26_init_2 23 = .ok (.iload 4, 2) := dk_21 4 (dk_at dksJ26_init_2_1 0 rfl rfl)
theorem dJ26_init_2_25 : decode cJ26_init_2 25 = .ok (.ifCond .eq 11, 3) := dk_153 0 11 (dk_at dksJ26_init_2_1 2 rfl rfl)
theorem dJ26_init_2_28 : decode cJ26_init_2 28 = .ok (.aload_n 0, 1) := dk_42 (dk_at dksJ26_init_2_1 5 rfl rfl)
theorem dJ26_init_2_29 : decode cJ26_init_2 29 = .ok (.invokevirtual 27, 3) := dk_182 0 27 (dk_at dksJ26_init_2_1 6 rfl rfl)
theorem dJ26_init_2_32 : decode cJ26_init_2 32 = .ok (.pop, 1) := dk_87 (dk_at dksJ26_init_2_1 9 rfl rfl)
theorem dJ26_init_2_33 : decode cJ26_init_2 33 = .ok (.goto 8, 3) := dk_167 0 8 (dk_at dksJ26_init_2_1 10 rfl rfl)
theorem dJ26_init_2_36 : decode cJ26_init_2 36 = .ok (.aload_n 0, 1) := dk_42 (dk_at dksJ26_init_2_1 13 rfl rfl)
theorem dJ26_init_2_37 : decode cJ26_init_2 37 = .ok (.aconst_null, 1) := dk_1 (dk_at dksJ26_init_2_1 14 rfl rfl)
theorem dJ26_init_2_38 : decode cJ26_init_2 38 = .ok (.putfield 17, 3) := dk_181 0 17 (dk_at dksJ26_init_2_1 15 rfl rfl)
theorem dJ26_init_2_41 : decode cJ26_init_2 41 = .ok (.aload_n 0, 1) := dk_42 (dk_at dksJ26_init_2_1 18 rfl rfl)
theorem dJ26_init_2_42 : decode cJ26_init_2 42 = .ok (.aload_n 1, 1) := dk_43 (dk_at dksJ26_init_2_1 19 rfl rfl)
theorem dJ26_init_2_43 : decode cJ26_init_2 43 = .ok (.putfield 31, 3) := dk_181 0 31 (dk_at dksJ26_init_2_1 20 rfl rfl)
theorem dJ26_init_2_46 : decode cJ26_init_2 46 = .ok (.aload_n 0, 1) := dk_42 (dk_at dksJ26_init_2_1 23 rfl rfl)
theorem dJ26_init_2_47 : decode cJ26_init_2 47 = .ok (.aload_n 2, 1) := dk_44 (dk_at dksJ26_init_2_2 0 rfl rfl)
theorem dJ26_init_2_48 : decode cJ26_init_2 48 = .ok (.putfield 7, 3) := dk_181 0 7 (dk_at dksJ26_init_2_2 1 rfl rfl)
theorem dJ26_init_2_51 : decode cJ26_init_2 51 = .ok (.iload_n 3, 1) := dk_29 (dk_at dksJ26_init_2_2 4 rfl rfl)
theorem dJ26_init_2_52 : decode cJ26_init_2 52 = .ok (.ifCond .ne 8, 3) := dk_154 0 8 (dk_at dksJ26_init_2_2 5 rfl rfl)
theorem dJ26_init_2_55 : decode cJ26_init_2 55 = .ok (.aload_n 0, 1) := dk_42 (dk_at dksJ26_init_2_2 8 rfl rfl)
theorem dJ26_init_2_56 : decode cJ26_init_2 56 = .ok (.aconst_null, 1) := dk_1 (dk_at dksJ26_init_2_2 9 rfl rfl)
theorem dJ26_init_2_57 : decode cJ26_init_2 57 = .ok (.putfield 24, 3) := dk_181 0 24 (dk_at dksJ26_init_2_2 10 rfl rfl)
theorem dJ26_init_2_60 : decode cJ26_init_2 60 = .ok (.return_, 1) := dk_177 (dk_at dksJ26_init_2_2 13 rfl rfl)
theorem q140 : (Jvm.Cond.initialized "java/lang/Throwable") ∈ lw_all := lw_g (lw_at lw_m1 54 rfl) rfl
theorem q1825 : (Jvm.Cond.declares ({ cls := "java/lang/Throwable", name := "<init>", desc := "()V" } : Jvm.MethodName)) ∈ lw_tbl := lw_at lw_m8 59 rfl
theorem q1826 : (Jvm.Cond.declares ({ cls := "java/lang/Throwable", name := "<init>", desc := "(Ljava/lang/String;)V" } : Jvm.MethodName)) ∈ lw_tbl := lw_at lw_m8 60 rfl
theorem q1830 : (Jvm.Cond.lays "java/lang/Throwable" "java/lang/Throwable" "cause" "Ljava/lang/Throwable;") ∈ lw_all := lw_g (lw_at lw_m8 64 rfl) rfl
theorem q1832 : (Jvm.Cond.lays "java/lang/Throwable" "java/lang/Throwable" "stackTrace" "[Ljava/lang/StackTraceElement;") ∈ lw_all := lw_g (lw_at lw_m8 66 rfl) rfl
theorem q1834 : (Jvm.Cond.lays "java/lang/Throwable" "java/lang/Throwable" "suppressedExceptions" "Ljava/util/List;") ∈ lw_all := lw_g (lw_at lw_m8 68 rfl) rfl
theorem q1836 : (Jvm.Cond.lays "java/lang/Throwable" "java/lang/Throwable" "detailMessage" "Ljava/lang/String;") ∈ lw_all := lw_g (lw_at lw_m8 70 rfl) rfl
theorem q1838 : (Jvm.Cond.lays "java/lang/Throwable" "java/lang/Throwable" "backtrace" "Ljava/lang/Object;") ∈ lw_all := lw_g (lw_at lw_m8 72 rfl) rfl
theorem q1839 : (Jvm.Cond.fieldLink "java/lang/Throwable" (198 : Nat) "java/lang/Throwable" "backtrace" "Ljava/lang/Object;") ∈ lw_all := lw_g (lw_at lw_m8 73 rfl) rfl
theorem q1840 : (Jvm.Cond.superclass "java/lang/Throwable" "java/lang/Object") ∈ lw_all := lw_g (lw_at lw_m8 74 rfl) rfl
theorem q1841 : (Jvm.Cond.instanceMethod ({ cls := "java/lang/Throwable", name := "<init>", desc := "()V" } : Jvm.MethodName)) ∈ lw_all := lw_g (lw_at lw_m8 75 rfl) rfl
theorem q1842 : (Jvm.Cond.code ({ cls := "java/lang/Throwable", name := "<init>", desc := "()V" } : Jvm.MethodName) prog_54_method_1_code (1 : Nat) (Option.none : Option Jvm.ClassFile.FieldType)) ∈ lw_all := lw_g (lw_at lw_m8 76 rfl) rfl
theorem q1843 : (Jvm.Cond.methodLink "java/lang/Throwable" (1 : Nat) ({ cls := "java/lang/Object", name := "<init>", desc := "()V" } : Jvm.MethodName)) ∈ lw_all := lw_g (lw_at lw_m8 77 rfl) rfl
theorem q1844 : (Jvm.Cond.fieldLink "java/lang/Throwable" (13 : Nat) "java/lang/Throwable" "UNASSIGNED_STACK" "[Ljava/lang/StackTraceElement;") ∈ lw_all := lw_g (lw_at lw_m8 78 rfl) rfl
theorem q1845 : (Jvm.Cond.laysStatic "java/lang/Throwable" "UNASSIGNED_STACK" "[Ljava/lang/StackTraceElement;") ∈ lw_tbl := lw_at lw_m8 79 rfl
theorem q1846 : (Jvm.Cond.fieldLink "java/lang/Throwable" (20 : Nat) "java/lang/Throwable" "SUPPRESSED_SENTINEL" "Ljava/util/List;") ∈ lw_all := lw_g (lw_at lw_m8 80 rfl) rfl
theorem q1847 : (Jvm.Cond.laysStatic "java/lang/Throwable" "SUPPRESSED_SENTINEL" "Ljava/util/List;") ∈ lw_tbl := lw_at lw_m8 81 rfl
theorem q1848 : (Jvm.Cond.methodLink "java/lang/Throwable" (27 : Nat) ({ cls := "java/lang/Throwable", name := "fillInStackTrace", desc := "()Ljava/lang/Throwable;" } : Jvm.MethodName)) ∈ lw_all := lw_g (lw_at lw_m8 82 rfl) rfl
theorem q1849 : (Jvm.Cond.instanceMethod ({ cls := "java/lang/Throwable", name := "fillInStackTrace", desc := "()Ljava/lang/Throwable;" } : Jvm.MethodName)) ∈ lw_all := lw_g (lw_at lw_m8 83 rfl) rfl
theorem q1850 : (Jvm.Cond.sameMethod "java/lang/Throwable" "java/lang/Throwable" "fillInStackTrace" "()Ljava/lang/Throwable;") ∈ lw_all := lw_g (lw_at lw_m8 84 rfl) rfl
theorem q1851 : (Jvm.Cond.codeSync ({ cls := "java/lang/Throwable", name := "fillInStackTrace", desc := "()Ljava/lang/Throwable;" } : Jvm.MethodName) prog_54_method_18_code (1 : Nat) (Option.some (Jvm.ClassFile.FieldType.object "java/lang/Throwable"))) ∈ lw_all := lw_g (lw_at lw_m8 85 rfl) rfl
theorem q1852 : (Jvm.Cond.methodLink "java/lang/Throwable" (202 : Nat) ({ cls := "java/lang/Throwable", name := "fillInStackTrace", desc := "(I)Ljava/lang/Throwable;" } : Jvm.MethodName)) ∈ lw_all := lw_g (lw_at lw_m8 86 rfl) rfl
theorem q1853 : (Jvm.Cond.privateMethod ({ cls := "java/lang/Throwable", name := "fillInStackTrace", desc := "(I)Ljava/lang/Throwable;" } : Jvm.MethodName)) ∈ lw_tbl := lw_at lw_m8 87 rfl
theorem q1854 : (Jvm.Cond.instanceMethod ({ cls := "java/lang/Throwable", name := "fillInStackTrace", desc := "(I)Ljava/lang/Throwable;" } : Jvm.MethodName)) ∈ lw_all := lw_g (lw_at lw_m8 88 rfl) rfl
theorem q1855 : (Jvm.Cond.instantiable "java/lang/Throwable" (6 : Nat)) ∈ lw_all := lw_g (lw_at lw_m8 89 rfl) rfl
theorem q1856 : (Jvm.Cond.native ({ cls := "java/lang/Throwable", name := "fillInStackTrace", desc := "(I)Ljava/lang/Throwable;" } : Jvm.MethodName)) ∈ lw_all := lw_g (lw_at lw_m8 90 rfl) rfl
theorem q1864 : (Jvm.Cond.instanceMethod ({ cls := "java/lang/Throwable", name := "<init>", desc := "(Ljava/lang/String;Ljava/lang/Throwable;ZZ)V" } : Jvm.MethodName)) ∈ lw_all := lw_g (lw_at lw_m8 98 rfl) rfl
theorem q1865 : (Jvm.Cond.code ({ cls := "java/lang/Throwable", name := "<init>", desc := "(Ljava/lang/String;Ljava/lang/Throwable;ZZ)V" } : Jvm.MethodName) prog_54_method_5_code (5 : Nat) (Option.none : Option Jvm.ClassFile.FieldType)) ∈ lw_all := lw_g (lw_at lw_m8 99 rfl) rfl
theorem q1868 : (Jvm.Cond.fieldLink "java/lang/Throwable" (198 : Nat) "java/lang/Throwable" "backtrace" "Ljava/lang/Object;") ∈ lw_all := lw_g (lw_at lw_m8 102 rfl) rfl
theorem q1869 : (Jvm.Cond.fieldLink "java/lang/Throwable" (31 : Nat) "java/lang/Throwable" "detailMessage" "Ljava/lang/String;") ∈ lw_all := lw_g (lw_at lw_m8 103 rfl) rfl
theorem q1870 : (Jvm.Cond.fieldLink "java/lang/Throwable" (7 : Nat) "java/lang/Throwable" "cause" "Ljava/lang/Throwable;") ∈ lw_all := lw_g (lw_at lw_m8 104 rfl) rfl
theorem q1871 : (Jvm.Cond.fieldLink "java/lang/Throwable" (17 : Nat) "java/lang/Throwable" "stackTrace" "[Ljava/lang/StackTraceElement;") ∈ lw_all := lw_g (lw_at lw_m8 105 rfl) rfl
theorem q1872 : (Jvm.Cond.fieldLink "java/lang/Throwable" (24 : Nat) "java/lang/Throwable" "suppressedExceptions" "Ljava/util/List;") ∈ lw_all := lw_g (lw_at lw_m8 106 rfl) rfl
theorem q1875 : (Jvm.Cond.soleField "java/lang/Throwable" "backtrace") ∈ lw_all := lw_g (lw_at lw_m8 109 rfl) rfl
theorem q1876 : (Jvm.Cond.soleField "java/lang/Throwable" "detailMessage") ∈ lw_all := lw_g (lw_at lw_m8 110 rfl) rfl
theorem q1877 : (Jvm.Cond.soleField "java/lang/Throwable" "cause") ∈ lw_all := lw_g (lw_at lw_m8 111 rfl) rfl
theorem q1878 : (Jvm.Cond.soleField "java/lang/Throwable" "stackTrace") ∈ lw_all := lw_g (lw_at lw_m8 112 rfl) rfl
theorem q1880 : (Jvm.Cond.soleField "java/lang/Throwable" "depth") ∈ lw_all := lw_g (lw_at lw_m8 114 rfl) rfl
theorem q1881 : (Jvm.Cond.soleField "java/lang/Throwable" "suppressedExceptions") ∈ lw_all := lw_g (lw_at lw_m8 115 rfl) rfl
theorem q3323 : (Jvm.Cond.sameMethod "java/lang/Throwable" "java/lang/Throwable" "fillInStackTrace" "(I)Ljava/lang/Throwable;") ∈ lw_all := lw_g (lw_at lw_m14 117 rfl) rfl
theorem q3376 : (Jvm.Cond.castable "java/lang/Throwable" "java/lang/Object") ∈ lw_tbl := lw_at lw_m14 170 rfl
theorem in_J26 : ∀ w ∈ wsJ260, w ∈ lw_all := lw_in wsJ260 [1830, 1832, 1834, 1836, 1838] (by decide +kernel) (by decide +kernel)

end
section
/-! java/lang/Exception -/
set_option maxRecDepth 100000
def RJ27 : String := "java/lang/Exception"
abbrev cJ27_init : ByteArray := prog_40_method_5_code
def yJ27_init : MethodName := ⟨RJ27, "<init>", "(Ljava/lang/String;Ljava/lang/Throwable;ZZ)V"⟩
def dkwJ27_init_0 : List UInt8 := [42, 43, 44, 29, 21, 4, 183, 0, 16, 177]
abbrev dktJ27_init_0 : List UInt8 := dkwJ27_init_0 ++ []
theorem dksJ27_init_0 : cJ27_init.data.toList.drop 0 = dktJ27_init_0 := by decide +kernel
theorem dJ27_init_0 : decode cJ27_init 0 = .ok (.aload_n 0, 1) := dk_42 (dk_at dksJ27_init_0 0 rfl rfl)
theorem dJ27_init_1 : decode cJ27_init 1 = .ok (.aload_n 1, 1) := dk_43 (dk_at dksJ27_init_0 1 rfl rfl)
theorem dJ27_init_2 : decode cJ27_init 2 = .ok (.aload_n 2, 1) := dk_44 (dk_at dksJ27_init_0 2 rfl rfl)
theorem dJ27_init_3 : decode cJ27_init 3 = .ok (.iload_n 3, 1) := dk_29 (dk_at dksJ27_init_0 3 rfl rfl)
theorem dJ27_init_4 : decode cJ27_init 4 = .ok (.iload 4, 2) := dk_21 4 (dk_at dksJ27_init_0 4 rfl rfl)
theorem dJ27_init_6 : decode cJ27_init 6 = .ok (.invokespecial 16, 3) := dk_183 0 16 (dk_at dksJ27_init_0 6 rfl rfl)
theorem dJ27_init_9 : decode cJ27_init 9 = .ok (.return_, 1) := dk_177 (dk_at dksJ27_init_0 9 rfl rfl)
theorem q141 : (Jvm.Cond.initialized "java/lang/Exception") ∈ lw_all := lw_g (lw_at lw_m1 55 rfl) rfl
theorem q1823 : (Jvm.Cond.declares ({ cls := "java/lang/Exception", name := "<init>", desc := "()V" } : Jvm.MethodName)) ∈ lw_tbl := lw_at lw_m8 57 rfl
theorem q1824 : (Jvm.Cond.declares ({ cls := "java/lang/Exception", name := "<init>", desc := "(Ljava/lang/String;)V" } : Jvm.MethodName)) ∈ lw_tbl := lw_at lw_m8 58 rfl
theorem q1861 : (Jvm.Cond.instanceMethod ({ cls := "java/lang/Exception", name := "<init>", desc := "(Ljava/lang/String;Ljava/lang/Throwable;ZZ)V" } : Jvm.MethodName)) ∈ lw_all := lw_g (lw_at lw_m8 95 rfl) rfl
theorem q1862 : (Jvm.Cond.code ({ cls := "java/lang/Exception", name := "<init>", desc := "(Ljava/lang/String;Ljava/lang/Throwable;ZZ)V" } : Jvm.MethodName) prog_40_method_5_code (5 : Nat) (Option.none : Option Jvm.ClassFile.FieldType)) ∈ lw_all := lw_g (lw_at lw_m8 96 rfl) rfl
theorem q1863 : (Jvm.Cond.methodLink "java/lang/Exception" (16 : Nat) ({ cls := "java/lang/Throwable", name := "<init>", desc := "(Ljava/lang/String;Ljava/lang/Throwable;ZZ)V" } : Jvm.MethodName)) ∈ lw_all := lw_g (lw_at lw_m8 97 rfl) rfl

end
section
/-! java/util/AbstractQueue -/
set_option maxRecDepth 100000
def RJ28 : String := "java/util/AbstractQueue"
abbrev cJ28_init : ByteArray := prog_60_method_1_code
def yJ28_init : MethodName := ⟨RJ28, "<init>", "()V"⟩
theorem dJ28_init_0 : decode cJ28_init 0 = .ok (.aload_n 0, 1) := by decide +kernel
theorem dJ28_init_1 : decode cJ28_init 1 = .ok (.invokespecial 1, 3) := by decide +kernel
theorem dJ28_init_4 : decode cJ28_init 4 = .ok (.return_, 1) := by decide +kernel
theorem q144 : (Jvm.Cond.initialized "java/util/AbstractQueue") ∈ lw_all := lw_g (lw_at lw_m1 58 rfl) rfl
theorem q2126 : (Jvm.Cond.instanceMethod ({ cls := "java/util/AbstractQueue", name := "<init>", desc := "()V" } : Jvm.MethodName)) ∈ lw_all := lw_g (lw_at lw_m9 120 rfl) rfl
theorem q2127 : (Jvm.Cond.code ({ cls := "java/util/AbstractQueue", name := "<init>", desc := "()V" } : Jvm.MethodName) prog_60_method_1_code (1 : Nat) (Option.none : Option Jvm.ClassFile.FieldType)) ∈ lw_all := lw_g (lw_at lw_m9 121 rfl) rfl
theorem q2128 : (Jvm.Cond.methodLink "java/util/AbstractQueue" (1 : Nat) ({ cls := "java/util/AbstractCollection", name := "<init>", desc := "()V" } : Jvm.MethodName)) ∈ lw_all := lw_g (lw_at lw_m9 122 rfl) rfl

end
section
/-! java/util/PriorityQueue -/
set_option maxRecDepth 100000
def RJ29 : String := "java/util/PriorityQueue"
def TJ29 : u_T := fun k => match k with
  | 0 => ("java/util/PriorityQueue", "queue", "[Ljava/lang/Object;", false)
  | 1 => ("java/util/PriorityQueue", "size", "I", false)
  | 2 => ("java/util/PriorityQueue", "comparator", "Ljava/util/Comparator;", true)
  | _ => ("java/util/PriorityQueue", "modCount", "I", false)
def tyJ29 : Nat → FieldType := fun k => match k with
  | 0 => .array (.object "java/lang/Object")
  | 1 => .int
  | 2 => .object "java/util/Comparator"
  | _ => .int
abbrev wsJ290 : List Cond := u_ws RJ29 TJ29 4
theorem nmJ29 : ∀ a, a < 4 → ∀ b, b < 4 → a ≠ b → (TJ29 a).2.1 ≠ (TJ29 b).2.1 := by decide +kernel
theorem tyJ29_ok : ∀ k, k < 4 → parseFieldDescriptor (TJ29 k).2.2.1 = some (tyJ29 k) := by decide +kernel
abbrev cJ29_toArray : ByteArray := prog_77_method_20_code
def yJ29_toArray : MethodName := ⟨RJ29, "toArray", "()[Ljava/lang/Object;"⟩
def dkwJ29_toArray_0 : List UInt8 := [42, 180, 0, 17, 42, 180, 0, 58, 184, 0, 86, 176]
abbrev dktJ29_toArray_0 : List UInt8 := dkwJ29_toArray_0 ++ []
theorem dksJ29_toArray_0 : cJ29_toArray.data.toList.drop 0 = dktJ29_toArray_0 := by decide +kernel
theorem dJ29_toArray_0 : decode cJ29_toArray 0 = .ok (.aload_n 0, 1) := dk_42 (dk_at dksJ29_toArray_0 0 rfl rfl)
theorem dJ29_toArray_1 : decode cJ29_toArray 1 = .ok (.getfield 17, 3) := dk_180 0 17 (dk_at dksJ29_toArray_0 1 rfl rfl)
theorem dJ29_toArray_4 : decode cJ29_toArray 4 = .ok (.aload_n 0, 1) := dk_42 (dk_at dksJ29_toArray_0 4 rfl rfl)
theorem dJ29_toArray_5 : decode cJ29_toArray 5 = .ok (.getfield 58, 3) := dk_180 0 58 (dk_at dksJ29_toArray_0 5 rfl rfl)
theorem dJ29_toArray_8 : decode cJ29_toArray 8 = .ok (.invokestatic 86, 3) := dk_184 0 86 (dk_at dksJ29_toArray_0 8 rfl rfl)
theorem dJ29_toArray_11 : decode cJ29_toArray 11 = .ok (.areturn, 1) := dk_176 (dk_at dksJ29_toArray_0 11 rfl rfl)
abbrev cJ29_size : ByteArray := prog_77_method_23_code
def yJ29_size : MethodName := ⟨RJ29, "size", "()I"⟩
theorem dJ29_size_0 : decode cJ29_size 0 = .ok (.aload_n 0, 1) := by decide +kernel
theorem dJ29_size_1 : decode cJ29_size 1 = .ok (.getfield 58, 3) := by decide +kernel
theorem dJ29_size_4 : decode cJ29_size 4 = .ok (.ireturn, 1) := by decide +kernel
abbrev cJ29_iterator : ByteArray := prog_77_method_22_code
def yJ29_iterator : MethodName := ⟨RJ29, "iterator", "()Ljava/util/Iterator;"⟩
def dkwJ29_iterator_0 : List UInt8 := [187, 0, 121, 89, 42, 183, 0, 123, 176]
abbrev dktJ29_iterator_0 : List UInt8 := dkwJ29_iterator_0 ++ []
theorem dksJ29_iterator_0 : cJ29_iterator.data.toList.drop 0 = dktJ29_iterator_0 := by decide +kernel
theorem dJ29_iterator_0 : decode cJ29_iterator 0 = .ok (.new 121, 3) := dk_187 0 121 (dk_at dksJ29_iterator_0 0 rfl rfl)
theorem dJ29_iterator_3 : decode cJ29_iterator 3 = .ok (.dup, 1) := dk_89 (dk_at dksJ29_iterator_0 3 rfl rfl)
theorem dJ29_iterator_4 : decode cJ29_iterator 4 = .ok (.aload_n 0, 1) := dk_42 (dk_at dksJ29_iterator_0 4 rfl rfl)
theorem dJ29_iterator_5 : decode cJ29_iterator 5 = .ok (.invokespecial 123, 3) := dk_183 0 123 (dk_at dksJ29_iterator_0 5 rfl rfl)
theorem dJ29_iterator_8 : decode cJ29_iterator 8 = .ok (.areturn, 1) := dk_176 (dk_at dksJ29_iterator_0 8 rfl rfl)
abbrev cJ29_init : ByteArray := prog_77_method_4_code
def yJ29_init : MethodName := ⟨RJ29, "<init>", "(ILjava/util/Comparator;)V"⟩
def dkwJ29_init_1 : List UInt8 := [181, 0, 17, 42, 44, 181, 0, 21, 177]
abbrev dktJ29_init_1 : List UInt8 := dkwJ29_init_1 ++ []
def dkwJ29_init_0 : List UInt8 := [42, 183, 0, 7, 27, 4, 162, 0, 11, 187, 0, 12, 89, 183, 0, 14, 191, 42, 27, 189, 0, 15]
abbrev dktJ29_init_0 : List UInt8 := dkwJ29_init_0 ++ dktJ29_init_1
theorem dksJ29_init_0 : cJ29_init.data.toList.drop 0 = dktJ29_init_0 := by decide +kernel
theorem dksJ29_init_1 : cJ29_init.data.toList.drop 22 = dktJ29_init_1 := dk_seg dksJ29_init_0 22 rfl rfl
theorem dJ29_init_0 : decode cJ29_init 0 = .ok (.aload_n 0, 1) := dk_42 (dk_at dksJ29_init_0 0 rfl rfl)
theorem dJ29_init_1 : decode cJ29_init 1 = .ok (.invokespecial 7, 3) := dk_183 0 7 (dk_at dksJ29_init_0 1 rfl rfl)
theorem dJ29_init_4 : decode cJ29_init 4 = .ok (.iload_n 1, 1) := dk_27 (dk_at dksJ29_init_0 4 rfl rfl)
theorem dJ29_init_5 : decode cJ29_init 5 = .ok (.iconst 1, 1) := dk_4 (dk_at dksJ29_init_0 5 rfl rfl)
theorem dJ29_init_6 : decode cJ29_init 6 = .ok (.if_icmp .ge 11, 3) := dk_162 0 11 (dk_at dksJ29_init_0 6 rfl rfl)
theorem dJ29_init_9 : decode cJ29_init 9 = .ok (.new 12, 3) := dk_187 0 12 (dk_at dksJ29_init_0 9 rfl rfl)
theorem dJ29_init_12 : decode cJ29_init 12 = .ok (.dup, 1) := dk_89 (dk_at dksJ29_init_0 12 rfl rfl)
theorem dJ29_init_13 : decode cJ29_init 13 = .ok (.invokespecial 14, 3) := dk_183 0 14 (dk_at dksJ29_init_0 13 rfl rfl)
theorem dJ29_init_16 : decode cJ29_init 16 = .ok (.athrow, 1) := dk_191 (dk_at dksJ29_init_0 16 rfl rfl)
theorem dJ29_init_17 : decode cJ29_init 17 = .ok (.aload_n 0, 1) := dk_42 (dk_at dksJ29_init_0 17 rfl rfl)
theorem dJ29_init_18 : decode cJ29_init 18 = .ok (.iload_n 1, 1) := dk_27 (dk_at dksJ29_init_0 18 rfl rfl)
theorem dJ29_init_19 : decode cJ29_init 19 = .ok (.anewarray 15, 3) := dk_189 0 15 (dk_at dksJ29_init_0 19 rfl rfl)
theorem dJ29_init_22 : decode cJ29_init 22 = .ok (.putfield 17, 3) := dk_181 0 17 (dk_at dksJ29_init_1 0 rfl rfl)
theorem dJ29_init_25 : decode cJ29_init 25 = .ok (.aload_n 0, 1) := dk_42 (dk_at dksJ29_init_1 3 rfl rfl)
theorem dJ29_init_26 : decode cJ29_init 26 = .ok (.aload_n 2, 1) := dk_44 (dk_at dksJ29_init_1 4 rfl rfl)
theorem dJ29_init_27 : decode cJ29_init 27 = .ok (.putfield 21, 3) := dk_181 0 21 (dk_at dksJ29_init_1 5 rfl rfl)
theorem dJ29_init_30 : decode cJ29_init 30 = .ok (.return_, 1) := dk_177 (dk_at dksJ29_init_1 8 rfl rfl)
abbrev cJ29_add : ByteArray := prog_77_method_13_code
def yJ29_add : MethodName := ⟨RJ29, "add", "(Ljava/lang/Object;)Z"⟩
def dkwJ29_add_0 : List UInt8 := [42, 43, 182, 0, 89, 172]
abbrev dktJ29_add_0 : List UInt8 := dkwJ29_add_0 ++ []
theorem dksJ29_add_0 : cJ29_add.data.toList.drop 0 = dktJ29_add_0 := by decide +kernel
theorem dJ29_add_0 : decode cJ29_add 0 = .ok (.aload_n 0, 1) := dk_42 (dk_at dksJ29_add_0 0 rfl rfl)
theorem dJ29_add_1 : decode cJ29_add 1 = .ok (.aload_n 1, 1) := dk_43 (dk_at dksJ29_add_0 1 rfl rfl)
theorem dJ29_add_2 : decode cJ29_add 2 = .ok (.invokevirtual 89, 3) := dk_182 0 89 (dk_at dksJ29_add_0 2 rfl rfl)
theorem dJ29_add_5 : decode cJ29_add 5 = .ok (.ireturn, 1) := dk_172 (dk_at dksJ29_add_0 5 rfl rfl)
abbrev cJ29_offer : ByteArray := prog_77_method_14_code
def yJ29_offer : MethodName := ⟨RJ29, "offer", "(Ljava/lang/Object;)Z"⟩
def dkwJ29_offer_2 : List UInt8 := [182, 0, 100, 42, 28, 4, 96, 181, 0, 58, 4, 172]
abbrev dktJ29_offer_2 : List UInt8 := dkwJ29_offer_2 ++ []
def dkwJ29_offer_1 : List UInt8 := [180, 0, 58, 61, 28, 42, 180, 0, 17, 190, 161, 0, 10, 42, 28, 4, 96, 182, 0, 96, 42, 28, 43]
abbrev dktJ29_offer_1 : List UInt8 := dkwJ29_offer_1 ++ dktJ29_offer_2
def dkwJ29_offer_0 : List UInt8 := [43, 199, 0, 11, 187, 0, 74, 89, 183, 0, 76, 191, 42, 89, 180, 0, 93, 4, 96, 181, 0, 93, 42]
abbrev dktJ29_offer_0 : List UInt8 := dkwJ29_offer_0 ++ dktJ29_offer_1
theorem dksJ29_offer_0 : cJ29_offer.data.toList.drop 0 = dktJ29_offer_0 := by decide +kernel
theorem dksJ29_offer_1 : cJ29_offer.data.toList.drop 23 = dktJ29_offer_1 := dk_seg dksJ29_offer_0 23 rfl rfl
theorem dksJ29_offer_2 : cJ29_offer.data.toList.drop 46 = dktJ29_offer_2 := dk_seg dksJ29_offer_1 23 rfl rfl
theorem dJ29_offer_0 : decode cJ29_offer 0 = .ok (.aload_n 1, 1) := dk_43 (dk_at dksJ29_offer_0 0 rfl rfl)
theorem dJ29_offer_1 : decode cJ29_offer 1 = .ok (.ifnonnull 11, 3) := dk_199 0 11 (dk_at dksJ29_offer_0 1 rfl rfl)
theorem dJ29_offer_4 : decode cJ29_offer 4 = .ok (.new 74, 3) := dk_187 0 74 (dk_at dksJ29_offer_0 4 rfl rfl)
theorem dJ29_offer_7 : decode cJ29_offer 7 = .ok (.dup, 1) := dk_89 (dk_at dksJ29_offer_0 7 rfl rfl)
theorem dJ29_offer_8 : decode cJ29_offer 8 = .ok (.invokespecial 76, 3) := dk_183 0 76 (dk_at dksJ29_offer_0 8 rfl rfl)
theorem dJ29_offer_11 : decode cJ29_offer 11 = .ok (.athrow, 1) := dk_191 (dk_at dksJ29_offer_0 11 rfl rfl)
theorem dJ29_offer_12 : decode cJ29_offer 12 = .ok (.aload_n 0, 1) := dk_42 (dk_at dksJ29_offer_0 12 rfl rfl)
theorem dJ29_offer_13 : decode cJ29_offer 13 = .ok (.dup, 1) := dk_89 (dk_at dksJ29_offer_0 13 rfl rfl)
theorem dJ29_offer_14 : decode cJ29_offer 14 = .ok (.getfield 93, 3) := dk_180 0 93 (dk_at dksJ29_offer_0 14 rfl rfl)
theorem dJ29_offer_17 : decode cJ29_offer 17 = .ok (.iconst 1, 1) := dk_4 (dk_at dksJ29_offer_0 17 rfl rfl)
theorem dJ29_offer_18 : decode cJ29_offer 18 = .ok (.iadd, 1) := dk_96 (dk_at dksJ29_offer_0 18 rfl rfl)
theorem dJ29_offer_19 : decode cJ29_offer 19 = .ok (.putfield 93, 3) := dk_181 0 93 (dk_at dksJ29_offer_0 19 rfl rfl)
theorem dJ29_offer_22 : decode cJ29_offer 22 = .ok (.aload_n 0, 1) := dk_42 (dk_at dksJ29_offer_0 22 rfl rfl)
theorem dJ29_offer_23 : decode cJ29_offer 23 = .ok (.getfield 58, 3) := dk_180 0 58 (dk_at dksJ29_offer_1 0 rfl rfl)
theorem dJ29_offer_26 : decode cJ29_offer 26 = .ok (.istore_n 2, 1) := dk_61 (dk_at dksJ29_offer_1 3 rfl rfl)
theorem dJ29_offer_27 : decode cJ29_offer 27 = .ok (.iload_n 2, 1) := dk_28 (dk_at dksJ29_offer_1 4 rfl rfl)
theorem dJ29_offer_28 : decode cJ29_offer 28 = .ok (.aload_n 0, 1) := dk_42 (dk_at dksJ29_offer_1 5 rfl rfl)
theorem dJ29_offer_29 : decode cJ29_offer 29 = .ok (.getfield 17, 3) := dk_180 0 17 (dk_at dksJ29_offer_1 6 rfl rfl)
theorem dJ29_offer_32 : decode cJ29_offer 32 = .ok (.arraylength, 1) := dk_190 (dk_at dksJ29_offer_1 9 rfl rfl)
theorem dJ29_offer_33 : decode cJ29_offer 33 = .ok (.if_icmp .lt 10, 3) := dk_161 0 10 (dk_at dksJ29_offer_1 10 rfl rfl)
theorem dJ29_offer_36 : decode cJ29_offer 36 = .ok (.aload_n 0, 1) := dk_42 (dk_at dksJ29_offer_1 13 rfl rfl)
theorem dJ29_offer_37 : decode cJ29_offer 37 = .ok (.iload_n 2, 1) := dk_28 (dk_at dksJ29_offer_1 14 rfl rfl)
theorem dJ29_offer_38 : decode cJ29_offer 38 = .ok (.iconst 1, 1) := dk_4 (dk_at dksJ29_offer_1 15 rfl rfl)
theorem dJ29_offer_39 : decode cJ29_offer 39 = .ok (.iadd, 1) := dk_96 (dk_at dksJ29_offer_1 16 rfl rfl)
theorem dJ29_offer_40 : decode cJ29_offer 40 = .ok (.invokevirtual 96, 3) := dk_182 0 96 (dk_at dksJ29_offer_1 17 rfl rfl)
theorem dJ29_offer_43 : decode cJ29_offer 43 = .ok (.aload_n 0, 1) := dk_42 (dk_at dksJ29_offer_1 20 rfl rfl)
theorem dJ29_offer_44 : decode cJ29_offer 44 = .ok (.iload_n 2, 1) := dk_28 (dk_at dksJ29_offer_1 21 rfl rfl)
theorem dJ29_offer_45 : decode cJ29_offer 45 = .ok (.aload_n 1, 1) := dk_43 (dk_at dksJ29_offer_1 22 rfl rfl)
theorem dJ29_offer_46 : decode cJ29_offer 46 = .ok (.invokevirtual 100, 3) := dk_182 0 100 (dk_at dksJ29_offer_2 0 rfl rfl)
theorem dJ29_offer_49 : decode cJ29_offer 49 = .ok (.aload_n 0, 1) := dk_42 (dk_at dksJ29_offer_2 3 rfl rfl)
theorem dJ29_offer_50 : decode cJ29_offer 50 = .ok (.iload_n 2, 1) := dk_28 (dk_at dksJ29_offer_2 4 rfl rfl)
theorem dJ29_offer_51 : decode cJ29_offer 51 = .ok (.iconst 1, 1) := dk_4 (dk_at dksJ29_offer_2 5 rfl rfl)
theorem dJ29_offer_52 : decode cJ29_offer 52 = .ok (.iadd, 1) := dk_96 (dk_at dksJ29_offer_2 6 rfl rfl)
theorem dJ29_offer_53 : decode cJ29_offer 53 = .ok (.putfield 58, 3) := dk_181 0 58 (dk_at dksJ29_offer_2 7 rfl rfl)
theorem dJ29_offer_56 : decode cJ29_offer 56 = .ok (.iconst 1, 1) := dk_4 (dk_at dksJ29_offer_2 10 rfl rfl)
theorem dJ29_offer_57 : decode cJ29_offer 57 = .ok (.ireturn, 1) := dk_172 (dk_at dksJ29_offer_2 11 rfl rfl)
abbrev cJ29_grow : ByteArray := prog_77_method_12_code
def yJ29_grow : MethodName := ⟨RJ29, "grow", "(I)V"⟩
def dkwJ29_grow_1 : List UInt8 := [122, 184, 0, 80, 62, 42, 42, 180, 0, 17, 29, 184, 0, 86, 181, 0, 17, 177]
abbrev dktJ29_grow_1 : List UInt8 := dkwJ29_grow_1 ++ []
def dkwJ29_grow_0 : List UInt8 := [42, 180, 0, 17, 190, 61, 28, 27, 28, 100, 28, 16, 64, 162, 0, 9, 28, 5, 96, 167, 0, 6, 28, 4]
abbrev dktJ29_grow_0 : List UInt8 := dkwJ29_grow_0 ++ dktJ29_grow_1
theorem dksJ29_grow_0 : cJ29_grow.data.toList.drop 0 = dktJ29_grow_0 := by decide +kernel
theorem dksJ29_grow_1 : cJ29_grow.data.toList.drop 24 = dktJ29_grow_1 := dk_seg dksJ29_grow_0 24 rfl rfl
theorem dJ29_grow_0 : decode cJ29_grow 0 = .ok (.aload_n 0, 1) := dk_42 (dk_at dksJ29_grow_0 0 rfl rfl)
theorem dJ29_grow_1 : decode cJ29_grow 1 = .ok (.getfield 17, 3) := dk_180 0 17 (dk_at dksJ29_grow_0 1 rfl rfl)
theorem dJ29_grow_4 : decode cJ29_grow 4 = .ok (.arraylength, 1) := dk_190 (dk_at dksJ29_grow_0 4 rfl rfl)
theorem dJ29_grow_5 : decode cJ29_grow 5 = .ok (.istore_n 2, 1) := dk_61 (dk_at dksJ29_grow_0 5 rfl rfl)
theorem dJ29_grow_6 : decode cJ29_grow 6 = .ok (.iload_n 2, 1) := dk_28 (dk_at dksJ29_grow_0 6 rfl rfl)
theorem dJ29_grow_7 : decode cJ29_grow 7 = .ok (.iload_n 1, 1) := dk_27 (dk_at dksJ29_grow_0 7 rfl rfl)
theorem dJ29_grow_8 : decode cJ29_grow 8 = .ok (.iload_n 2, 1) := dk_28 (dk_at dksJ29_grow_0 8 rfl rfl)
theorem dJ29_grow_9 : decode cJ29_grow 9 = .ok (.isub, 1) := dk_100 (dk_at dksJ29_grow_0 9 rfl rfl)
theorem dJ29_grow_10 : decode cJ29_grow 10 = .ok (.iload_n 2, 1) := dk_28 (dk_at dksJ29_grow_0 10 rfl rfl)
theorem dJ29_grow_11 : decode cJ29_grow 11 = .ok (.bipush 64, 2) := dk_16 64 (dk_at dksJ29_grow_0 11 rfl rfl)
theorem dJ29_grow_13 : decode cJ29_grow 13 = .ok (.if_icmp .ge 9, 3) := dk_162 0 9 (dk_at dksJ29_grow_0 13 rfl rfl)
theorem dJ29_grow_16 : decode cJ29_grow 16 = .ok (.iload_n 2, 1) := dk_28 (dk_at dksJ29_grow_0 16 rfl rfl)
theorem dJ29_grow_17 : decode cJ29_grow 17 = .ok (.iconst 2, 1) := dk_5 (dk_at dksJ29_grow_0 17 rfl rfl)
theorem dJ29_grow_18 : decode cJ29_grow 18 = .ok (.iadd, 1) := dk_96 (dk_at dksJ29_grow_0 18 rfl rfl)
theorem dJ29_grow_19 : decode cJ29_grow 19 = .ok (.goto 6, 3) := dk_167 0 6 (dk_at dksJ29_grow_0 19 rfl rfl)
theorem dJ29_grow_22 : decode cJ29_grow 22 = .ok (.iload_n 2, 1) := dk_28 (dk_at dksJ29_grow_0 22 rfl rfl)
theorem dJ29_grow_23 : decode cJ29_grow 23 = .ok (.iconst 1, 1) := dk_4 (dk_at dksJ29_grow_0 23 rfl rfl)
theorem dJ29_grow_24 : decode cJ29_grow 24 = .ok (.ishr, 1) := dk_122 (dk_at dksJ29_grow_1 0 rfl rfl)
theorem dJ29_grow_25 : decode cJ29_grow 25 = .ok (.invokestatic 80, 3) := dk_184 0 80 (dk_at dksJ29_grow_1 1 rfl rfl)
theorem dJ29_grow_28 : decode cJ29_grow 28 = .ok (.istore_n 3, 1) := dk_62 (dk_at dksJ29_grow_1 4 rfl rfl)
theorem dJ29_grow_29 : decode cJ29_grow 29 = .ok (.aload_n 0, 1) := dk_42 (dk_at dksJ29_grow_1 5 rfl rfl)
theorem dJ29_grow_30 : decode cJ29_grow 30 = .ok (.aload_n 0, 1) := dk_42 (dk_at dksJ29_grow_1 6 rfl rfl)
theorem dJ29_grow_31 : decode cJ29_grow 31 = .ok (.getfield 17, 3) := dk_180 0 17 (dk_at dksJ29_grow_1 7 rfl rfl)
theorem dJ29_grow_34 : decode cJ29_grow 34 = .ok (.iload_n 3, 1) := dk_29 (dk_at dksJ29_grow_1 10 rfl rfl)
theorem dJ29_grow_35 : decode cJ29_grow 35 = .ok (.invokestatic 86, 3) := dk_184 0 86 (dk_at dksJ29_grow_1 11 rfl rfl)
theorem dJ29_grow_38 : decode cJ29_grow 38 = .ok (.putfield 17, 3) := dk_181 0 17 (dk_at dksJ29_grow_1 14 rfl rfl)
theorem dJ29_grow_41 : decode cJ29_grow 41 = .ok (.return_, 1) := dk_177 (dk_at dksJ29_grow_1 17 rfl rfl)
abbrev cJ29_siftUp : ByteArray := prog_77_method_27_code
def yJ29_siftUp : MethodName := ⟨RJ29, "siftUp", "(ILjava/lang/Object;)V"⟩
def dkwJ29_siftUp_1 : List UInt8 := [44, 42, 180, 0, 17, 184, 0, 140, 177]
abbrev dktJ29_siftUp_1 : List UInt8 := dkwJ29_siftUp_1 ++ []
def dkwJ29_siftUp_0 : List UInt8 := [42, 180, 0, 21, 198, 0, 19, 27, 44, 42, 180, 0, 17, 42, 180, 0, 21, 184, 0, 136, 167, 0, 12, 27]
abbrev dktJ29_siftUp_0 : List UInt8 := dkwJ29_siftUp_0 ++ dktJ29_siftUp_1
theorem dksJ29_siftUp_0 : cJ29_siftUp.data.toList.drop 0 = dktJ29_siftUp_0 := by decide +kernel
theorem dksJ29_siftUp_1 : cJ29_siftUp.data.toList.drop 24 = dktJ29_siftUp_1 := dk_seg dksJ29_siftUp_0 24 rfl rfl
theorem dJ29_siftUp_0 : decode cJ29_siftUp 0 = .ok (.aload_n 0, 1) := dk_42 (dk_at dksJ29_siftUp_0 0 rfl rfl)
theorem dJ29_siftUp_1 : decode cJ29_siftUp 1 = .ok (.getfield 21, 3) := dk_180 0 21 (dk_at dksJ29_siftUp_0 1 rfl rfl)
theorem dJ29_siftUp_4 : decode cJ29_siftUp 4 = .ok (.ifnull 19, 3) := dk_198 0 19 (dk_at dksJ29_siftUp_0 4 rfl rfl)
theorem dJ29_siftUp_7 : decode cJ29_siftUp 7 = .ok (.iload_n 1, 1) := dk_27 (dk_at dksJ29_siftUp_0 7 rfl rfl)
theorem dJ29_siftUp_8 : decode cJ29_siftUp 8 = .ok (.aload_n 2, 1) := dk_44 (dk_at dksJ29_siftUp_0 8 rfl rfl)
theorem dJ29_siftUp_9 : decode cJ29_siftUp 9 = .ok (.aload_n 0, 1) := dk_42 (dk_at dksJ29_siftUp_0 9 rfl rfl)
theorem dJ29_siftUp_10 : decode cJ29_siftUp 10 = .ok (.getfield 17, 3) := dk_180 0 17 (dk_at dksJ29_siftUp_0 10 rfl rfl)
theorem dJ29_siftUp_13 : decode cJ29_siftUp 13 = .ok (.aload_n 0, 1) := dk_42 (dk_at dksJ29_siftUp_0 13 rfl rfl)
theorem dJ29_siftUp_14 : decode cJ29_siftUp 14 = .ok (.getfield 21, 3) := dk_180 0 21 (dk_at dksJ29_siftUp_0 14 rfl rfl)
theorem dJ29_siftUp_17 : decode cJ29_siftUp 17 = .ok (.invokestatic 136, 3) := dk_184 0 136 (dk_at dksJ29_siftUp_0 17 rfl rfl)
theorem dJ29_siftUp_20 : decode cJ29_siftUp 20 = .ok (.goto 12, 3) := dk_167 0 12 (dk_at dksJ29_siftUp_0 20 rfl rfl)
theorem dJ29_siftUp_23 : decode cJ29_siftUp 23 = .ok (.iload_n 1, 1) := dk_27 (dk_at dksJ29_siftUp_0 23 rfl rfl)
theorem dJ29_siftUp_24 : decode cJ29_siftUp 24 = .ok (.aload_n 2, 1) := dk_44 (dk_at dksJ29_siftUp_1 0 rfl rfl)
theorem dJ29_siftUp_25 : decode cJ29_siftUp 25 = .ok (.aload_n 0, 1) := dk_42 (dk_at dksJ29_siftUp_1 1 rfl rfl)
theorem dJ29_siftUp_26 : decode cJ29_siftUp 26 = .ok (.getfield 17, 3) := dk_180 0 17 (dk_at dksJ29_siftUp_1 2 rfl rfl)
theorem dJ29_siftUp_29 : decode cJ29_siftUp 29 = .ok (.invokestatic 140, 3) := dk_184 0 140 (dk_at dksJ29_siftUp_1 5 rfl rfl)
theorem dJ29_siftUp_32 : decode cJ29_siftUp 32 = .ok (.return_, 1) := dk_177 (dk_at dksJ29_siftUp_1 8 rfl rfl)
abbrev cJ29_siftUpUsingComparator : ByteArray := prog_77_method_29_code
def yJ29_siftUpUsingComparator : MethodName := ⟨RJ29, "siftUpUsingComparator", "(ILjava/lang/Object;[Ljava/lang/Object;Ljava/util/Comparator;)V"⟩
def dkwJ29_siftUpUsingComparator_2 : List UInt8 := [43, 83, 177]
abbrev dktJ29_siftUpUsingComparator_2 : List UInt8 := dkwJ29_siftUpUsingComparator_2 ++ []
def dkwJ29_siftUpUsingComparator_1 : List UInt8 := [185, 0, 149, 3, 0, 155, 0, 6, 167, 0, 14, 44, 26, 25, 5, 83, 21, 4, 59, 167, 255, 216, 44, 26]
abbrev dktJ29_siftUpUsingComparator_1 : List UInt8 := dkwJ29_siftUpUsingComparator_1 ++ dktJ29_siftUpUsingComparator_2
def dkwJ29_siftUpUsingComparator_0 : List UInt8 := [26, 158, 0, 42, 26, 4, 100, 4, 124, 54, 4, 44, 21, 4, 50, 58, 5, 45, 43, 25, 5]
abbrev dktJ29_siftUpUsingComparator_0 : List UInt8 := dkwJ29_siftUpUsingComparator_0 ++ dktJ29_siftUpUsingComparator_1
theorem dksJ29_siftUpUsingComparator_0 : cJ29_siftUpUsingComparator.data.toList.drop 0 = dktJ29_siftUpUsingComparator_0 := by decide +kernel
theorem dksJ29_siftUpUsingComparator_1 : cJ29_siftUpUsingComparator.data.toList.drop 21 = dktJ29_siftUpUsingComparator_1 := dk_seg dksJ29_siftUpUsingComparator_0 21 rfl rfl
theorem dksJ29_siftUpUsingComparator_2 : cJ29_siftUpUsingComparator.data.toList.drop 45 = dktJ29_siftUpUsingComparator_2 := dk_seg dksJ29_siftUpUsingComparator_1 24 rfl rfl
theorem dJ29_siftUpUsingComparator_0 : decode cJ29_siftUpUsingComparator 0 = .ok (.iload_n 0, 1) := dk_26 (dk_at dksJ29_siftUpUsingComparator_0 0 rfl rfl)
theorem dJ29_siftUpUsingComparator_1 : decode cJ29_siftUpUsingComparator 1 = .ok (.ifCond .le 42, 3) := dk_158 0 42 (dk_at dksJ29_siftUpUsingComparator_0 1 rfl rfl)
theorem dJ29_siftUpUsingComparator_4 : decode cJ29_siftUpUsingComparator 4 = .ok (.iload_n 0, 1) := dk_26 (dk_at dksJ29_siftUpUsingComparator_0 4 rfl rfl)
theorem dJ29_siftUpUsingComparator_5 : decode cJ29_siftUpUsingComparator 5 = .ok (.iconst 1, 1) := dk_4 (dk_at dksJ29_siftUpUsingComparator_0 5 rfl rfl)
theorem dJ29_siftUpUsingComparator_6 : decode cJ29_siftUpUsingComparator 6 = .ok (.isub, 1) := dk_100 (dk_at dksJ29_siftUpUsingComparator_0 6 rfl rfl)
theorem dJ29_siftUpUsingComparator_7 : decode cJ29_siftUpUsingComparator 7 = .ok (.iconst 1, 1) := dk_4 (dk_at dksJ29_siftUpUsingComparator_0 7 rfl rfl)
theorem dJ29_siftUpUsingComparator_8 : decode cJ29_siftUpUsingComparator 8 = .ok (.iushr, 1) := dk_124 (dk_at dksJ29_siftUpUsingComparator_0 8 rfl rfl)
theorem dJ29_siftUpUsingComparator_9 : decode cJ29_siftUpUsingComparator 9 = .ok (.istore 4, 2) := dk_54 4 (dk_at dksJ29_siftUpUsingComparator_0 9 rfl rfl)
theorem dJ29_siftUpUsingComparator_11 : decode cJ29_siftUpUsingComparator 11 = .ok (.aload_n 2, 1) := dk_44 (dk_at dksJ29_siftUpUsingComparator_0 11 rfl rfl)
theorem dJ29_siftUpUsingComparator_12 : decode cJ29_siftUpUsingComparator 12 = .ok (.iload 4, 2) := dk_21 4 (dk_at dksJ29_siftUpUsingComparator_0 12 rfl rfl)
theorem dJ29_siftUpUsingComparator_14 : decode cJ29_siftUpUsingComparator 14 = .ok (.aaload, 1) := dk_50 (dk_at dksJ29_siftUpUsingComparator_0 14 rfl rfl)
theorem dJ29_siftUpUsingComparator_15 : decode cJ29_siftUpUsingComparator 15 = .ok (.astore 5, 2) := dk_58 5 (dk_at dksJ29_siftUpUsingComparator_0 15 rfl rfl)
theorem dJ29_siftUpUsingComparator_17 : decode cJ29_siftUpUsingComparator 17 = .ok (.aload_n 3, 1) := dk_45 (dk_at dksJ29_siftUpUsingComparator_0 17 rfl rfl)
theorem dJ29_siftUpUsingComparator_18 : decode cJ29_siftUpUsingComparator 18 = .ok (.aload_n 1, 1) := dk_43 (dk_at dksJ29_siftUpUsingComparator_0 18 rfl rfl)
theorem dJ29_siftUpUsingComparator_19 : decode cJ29_siftUpUsingComparator 19 = .ok (.aload 5, 2) := dk_25 5 (dk_at dksJ29_siftUpUsingComparator_0 19 rfl rfl)
theorem dJ29_siftUpUsingComparator_21 : decode cJ29_siftUpUsingComparator 21 = .ok (.invokeinterface 149 3, 5) := by decide +kernel
theorem dJ29_siftUpUsingComparator_26 : decode cJ29_siftUpUsingComparator 26 = .ok (.ifCond .lt 6, 3) := dk_155 0 6 (dk_at dksJ29_siftUpUsingComparator_1 5 rfl rfl)
theorem dJ29_siftUpUsingComparator_29 : decode cJ29_siftUpUsingComparator 29 = .ok (.goto 14, 3) := dk_167 0 14 (dk_at dksJ29_siftUpUsingComparator_1 8 rfl rfl)
theorem dJ29_siftUpUsingComparator_32 : decode cJ29_siftUpUsingComparator 32 = .ok (.aload_n 2, 1) := dk_44 (dk_at dksJ29_siftUpUsingComparator_1 11 rfl rfl)
theorem dJ29_siftUpUsingComparator_33 : decode cJ29_siftUpUsingComparator 33 = .ok (.iload_n 0, 1) := dk_26 (dk_at dksJ29_siftUpUsingComparator_1 12 rfl rfl)
theorem dJ29_siftUpUsingComparator_34 : decode cJ29_siftUpUsingComparator 34 = .ok (.aload 5, 2) := dk_25 5 (dk_at dksJ29_siftUpUsingComparator_1 13 rfl rfl)
theorem dJ29_siftUpUsingComparator_36 : decode cJ29_siftUpUsingComparator 36 = .ok (.aastore, 1) := dk_83 (dk_at dksJ29_siftUpUsingComparator_1 15 rfl rfl)
theorem dJ29_siftUpUsingComparator_37 : decode cJ29_siftUpUsingComparator 37 = .ok (.iload 4, 2) := dk_21 4 (dk_at dksJ29_siftUpUsingComparator_1 16 rfl rfl)
theorem dJ29_siftUpUsingComparator_39 : decode cJ29_siftUpUsingComparator 39 = .ok (.istore_n 0, 1) := dk_59 (dk_at dksJ29_siftUpUsingComparator_1 18 rfl rfl)
theorem dJ29_siftUpUsingComparator_40 : decode cJ29_siftUpUsingComparator 40 = .ok (.goto (-40), 3) := dk_167 255 216 (dk_at dksJ29_siftUpUsingComparator_1 19 rfl rfl)
theorem dJ29_siftUpUsingComparator_43 : decode cJ29_siftUpUsingComparator 43 = .ok (.aload_n 2, 1) := dk_44 (dk_at dksJ29_siftUpUsingComparator_1 22 rfl rfl)
theorem dJ29_siftUpUsingComparator_44 : decode cJ29_siftUpUsingComparator 44 = .ok (.iload_n 0, 1) := dk_26 (dk_at dksJ29_siftUpUsingComparator_1 23 rfl rfl)
theorem dJ29_siftUpUsingComparator_45 : decode cJ29_siftUpUsingComparator 45 = .ok (.aload_n 1, 1) := dk_43 (dk_at dksJ29_siftUpUsingComparator_2 0 rfl rfl)
theorem dJ29_siftUpUsingComparator_46 : decode cJ29_siftUpUsingComparator 46 = .ok (.aastore, 1) := dk_83 (dk_at dksJ29_siftUpUsingComparator_2 1 rfl rfl)
theorem dJ29_siftUpUsingComparator_47 : decode cJ29_siftUpUsingComparator 47 = .ok (.return_, 1) := dk_177 (dk_at dksJ29_siftUpUsingComparator_2 2 rfl rfl)
abbrev cJ29_siftUpComparable : ByteArray := prog_77_method_28_code
def yJ29_siftUpComparable : MethodName := ⟨RJ29, "siftUpComparable", "(ILjava/lang/Object;[Ljava/lang/Object;)V"⟩
def dkwJ29_siftUpComparable_2 : List UInt8 := [44, 26, 45, 83, 177]
abbrev dktJ29_siftUpComparable_2 : List UInt8 := dkwJ29_siftUpComparable_2 ++ []
def dkwJ29_siftUpComparable_1 : List UInt8 := [25, 5, 185, 0, 146, 2, 0, 155, 0, 6, 167, 0, 14, 44, 26, 25, 5, 83, 21, 4, 59, 167, 255, 217]
abbrev dktJ29_siftUpComparable_1 : List UInt8 := dkwJ29_siftUpComparable_1 ++ dktJ29_siftUpComparable_2
def dkwJ29_siftUpComparable_0 : List UInt8 := [43, 192, 0, 144, 78, 26, 158, 0, 41, 26, 4, 100, 4, 124, 54, 4, 44, 21, 4, 50, 58, 5, 45]
abbrev dktJ29_siftUpComparable_0 : List UInt8 := dkwJ29_siftUpComparable_0 ++ dktJ29_siftUpComparable_1
theorem dksJ29_siftUpComparable_0 : cJ29_siftUpComparable.data.toList.drop 0 = dktJ29_siftUpComparable_0 := by decide +kernel
theorem dksJ29_siftUpComparable_1 : cJ29_siftUpComparable.data.toList.drop 23 = dktJ29_siftUpComparable_1 := dk_seg dksJ29_siftUpComparable_0 23 rfl rfl
theorem dksJ29_siftUpComparable_2 : cJ29_siftUpComparable.data.toList.drop 47 = dktJ29_siftUpComparable_2 := dk_seg dksJ29_siftUpComparable_1 24 rfl rfl
theorem dJ29_siftUpComparable_0 : decode cJ29_siftUpComparable 0 = .ok (.aload_n 1, 1) := dk_43 (dk_at dksJ29_siftUpComparable_0 0 rfl rfl)
theorem dJ29_siftUpComparable_1 : decode cJ29_siftUpComparable 1 = .ok (.checkcast 144, 3) := dk_192 0 144 (dk_at dksJ29_siftUpComparable_0 1 rfl rfl)
theorem dJ29_siftUpComparable_4 : decode cJ29_siftUpComparable 4 = .ok (.astore_n 3, 1) := dk_78 (dk_at dksJ29_siftUpComparable_0 4 rfl rfl)
theorem dJ29_siftUpComparable_5 : decode cJ29_siftUpComparable 5 = .ok (.iload_n 0, 1) := dk_26 (dk_at dksJ29_siftUpComparable_0 5 rfl rfl)
theorem dJ29_siftUpComparable_6 : decode cJ29_siftUpComparable 6 = .ok (.ifCond .le 41, 3) := dk_158 0 41 (dk_at dksJ29_siftUpComparable_0 6 rfl rfl)
theorem dJ29_siftUpComparable_9 : decode cJ29_siftUpComparable 9 = .ok (.iload_n 0, 1) := dk_26 (dk_at dksJ29_siftUpComparable_0 9 rfl rfl)
theorem dJ29_siftUpComparable_10 : decode cJ29_siftUpComparable 10 = .ok (.iconst 1, 1) := dk_4 (dk_at dksJ29_siftUpComparable_0 10 rfl rfl)
theorem dJ29_siftUpComparable_11 : decode cJ29_siftUpComparable 11 = .ok (.isub, 1) := dk_100 (dk_at dksJ29_siftUpComparable_0 11 rfl rfl)
theorem dJ29_siftUpComparable_12 : decode cJ29_siftUpComparable 12 = .ok (.iconst 1, 1) := dk_4 (dk_at dksJ29_siftUpComparable_0 12 rfl rfl)
theorem dJ29_siftUpComparable_13 : decode cJ29_siftUpComparable 13 = .ok (.iushr, 1) := dk_124 (dk_at dksJ29_siftUpComparable_0 13 rfl rfl)
theorem dJ29_siftUpComparable_14 : decode cJ29_siftUpComparable 14 = .ok (.istore 4, 2) := dk_54 4 (dk_at dksJ29_siftUpComparable_0 14 rfl rfl)
theorem dJ29_siftUpComparable_16 : decode cJ29_siftUpComparable 16 = .ok (.aload_n 2, 1) := dk_44 (dk_at dksJ29_siftUpComparable_0 16 rfl rfl)
theorem dJ29_siftUpComparable_17 : decode cJ29_siftUpComparable 17 = .ok (.iload 4, 2) := dk_21 4 (dk_at dksJ29_siftUpComparable_0 17 rfl rfl)
theorem dJ29_siftUpComparable_19 : decode cJ29_siftUpComparable 19 = .ok (.aaload, 1) := dk_50 (dk_at dksJ29_siftUpComparable_0 19 rfl rfl)
theorem dJ29_siftUpComparable_20 : decode cJ29_siftUpComparable 20 = .ok (.astore 5, 2) := dk_58 5 (dk_at dksJ29_siftUpComparable_0 20 rfl rfl)
theorem dJ29_siftUpComparable_22 : decode cJ29_siftUpComparable 22 = .ok (.aload_n 3, 1) := dk_45 (dk_at dksJ29_siftUpComparable_0 22 rfl rfl)
theorem dJ29_siftUpComparable_23 : decode cJ29_siftUpComparable 23 = .ok (.aload 5, 2) := dk_25 5 (dk_at dksJ29_siftUpComparable_1 0 rfl rfl)
theorem dJ29_siftUpComparable_25 : decode cJ29_siftUpComparable 25 = .ok (.invokeinterface 146 2, 5) := by decide +kernel
theorem dJ29_siftUpComparable_30 : decode cJ29_siftUpComparable 30 = .ok (.ifCond .lt 6, 3) := dk_155 0 6 (dk_at dksJ29_siftUpComparable_1 7 rfl rfl)
theorem dJ29_siftUpComparable_33 : decode cJ29_siftUpComparable 33 = .ok (.goto 14, 3) := dk_167 0 14 (dk_at dksJ29_siftUpComparable_1 10 rfl rfl)
theorem dJ29_siftUpComparable_36 : decode cJ29_siftUpComparable 36 = .ok (.aload_n 2, 1) := dk_44 (dk_at dksJ29_siftUpComparable_1 13 rfl rfl)
theorem dJ29_siftUpComparable_37 : decode cJ29_siftUpComparable 37 = .ok (.iload_n 0, 1) := dk_26 (dk_at dksJ29_siftUpComparable_1 14 rfl rfl)
theorem dJ29_siftUpComparable_38 : decode cJ29_siftUpComparable 38 = .ok (.aload 5, 2) := dk_25 5 (dk_at dksJ29_siftUpComparable_1 15 rfl rfl)
theorem dJ29_siftUpComparable_40 : decode cJ29_siftUpComparable 40 = .ok (.aastore, 1) := dk_83 (dk_at dksJ29_siftUpComparable_1 17 rfl rfl)
theorem dJ29_siftUpComparable_41 : decode cJ29_siftUpComparable 41 = .ok (.iload 4, 2) := dk_21 4 (dk_at dksJ29_siftUpComparable_1 18 rfl rfl)
theorem dJ29_siftUpComparable_43 : decode cJ29_siftUpComparable 43 = .ok (.istore_n 0, 1) := dk_59 (dk_at dksJ29_siftUpComparable_1 20 rfl rfl)
theorem dJ29_siftUpComparable_44 : decode cJ29_siftUpComparable 44 = .ok (.goto (-39), 3) := dk_167 255 217 (dk_at dksJ29_siftUpComparable_1 21 rfl rfl)
theorem dJ29_siftUpComparable_47 : decode cJ29_siftUpComparable 47 = .ok (.aload_n 2, 1) := dk_44 (dk_at dksJ29_siftUpComparable_2 0 rfl rfl)
theorem dJ29_siftUpComparable_48 : decode cJ29_siftUpComparable 48 = .ok (.iload_n 0, 1) := dk_26 (dk_at dksJ29_siftUpComparable_2 1 rfl rfl)
theorem dJ29_siftUpComparable_49 : decode cJ29_siftUpComparable 49 = .ok (.aload_n 3, 1) := dk_45 (dk_at dksJ29_siftUpComparable_2 2 rfl rfl)
theorem dJ29_siftUpComparable_50 : decode cJ29_siftUpComparable 50 = .ok (.aastore, 1) := dk_83 (dk_at dksJ29_siftUpComparable_2 3 rfl rfl)
theorem dJ29_siftUpComparable_51 : decode cJ29_siftUpComparable 51 = .ok (.return_, 1) := dk_177 (dk_at dksJ29_siftUpComparable_2 4 rfl rfl)
abbrev cJ29_poll : ByteArray := prog_77_method_25_code
def yJ29_poll : MethodName := ⟨RJ29, "poll", "()Ljava/lang/Object;"⟩
def dkwJ29_poll_3 : List UInt8 := [43, 29, 25, 5, 184, 0, 129, 44, 176]
abbrev dktJ29_poll_3 : List UInt8 := dkwJ29_poll_3 ++ []
def dkwJ29_poll_2 : List UInt8 := [42, 180, 0, 21, 89, 58, 5, 199, 0, 14, 3, 25, 4, 43, 29, 184, 0, 125, 167, 0, 13, 3, 25, 4]
abbrev dktJ29_poll_2 : List UInt8 := dkwJ29_poll_2 ++ dktJ29_poll_3
def dkwJ29_poll_1 : List UInt8 := [42, 89, 180, 0, 58, 4, 100, 90, 181, 0, 58, 89, 62, 50, 58, 4, 43, 29, 1, 83, 29, 158, 0, 34]
abbrev dktJ29_poll_1 : List UInt8 := dkwJ29_poll_1 ++ dktJ29_poll_2
def dkwJ29_poll_0 : List UInt8 := [42, 180, 0, 17, 89, 76, 3, 50, 89, 77, 198, 0, 69, 42, 89, 180, 0, 93, 4, 96, 181, 0, 93, 43]
abbrev dktJ29_poll_0 : List UInt8 := dkwJ29_poll_0 ++ dktJ29_poll_1
theorem dksJ29_poll_0 : cJ29_poll.data.toList.drop 0 = dktJ29_poll_0 := by decide +kernel
theorem dksJ29_poll_1 : cJ29_poll.data.toList.drop 24 = dktJ29_poll_1 := dk_seg dksJ29_poll_0 24 rfl rfl
theorem dksJ29_poll_2 : cJ29_poll.data.toList.drop 48 = dktJ29_poll_2 := dk_seg dksJ29_poll_1 24 rfl rfl
theorem dksJ29_poll_3 : cJ29_poll.data.toList.drop 72 = dktJ29_poll_3 := dk_seg dksJ29_poll_2 24 rfl rfl
theorem dJ29_poll_0 : decode cJ29_poll 0 = .ok (.aload_n 0, 1) := dk_42 (dk_at dksJ29_poll_0 0 rfl rfl)
theorem dJ29_poll_1 : decode cJ29_poll 1 = .ok (.getfield 17, 3) := dk_180 0 17 (dk_at dksJ29_poll_0 1 rfl rfl)
theorem dJ29_poll_4 : decode cJ29_poll 4 = .ok (.dup, 1) := dk_89 (dk_at dksJ29_poll_0 4 rfl rfl)
theorem dJ29_poll_5 : decode cJ29_poll 5 = .ok (.astore_n 1, 1) := dk_76 (dk_at dksJ29_poll_0 5 rfl rfl)
theorem dJ29_poll_6 : decode cJ29_poll 6 = .ok (.iconst 0, 1) := dk_3 (dk_at dksJ29_poll_0 6 rfl rfl)
theorem dJ29_poll_7 : decode cJ29_poll 7 = .ok (.aaload, 1) := dk_50 (dk_at dksJ29_poll_0 7 rfl rfl)
theorem dJ29_poll_8 : decode cJ29_poll 8 = .ok (.dup, 1) := dk_89 (dk_at dksJ29_poll_0 8 rfl rfl)
theorem dJ29_poll_9 : decode cJ29_poll 9 = .ok (.astore_n 2, 1) := dk_77 (dk_at dksJ29_poll_0 9 rfl rfl)
theorem dJ29_poll_10 : decode cJ29_poll 10 = .ok (.ifnull 69, 3) := dk_198 0 69 (dk_at dksJ29_poll_0 10 rfl rfl)
theorem dJ29_poll_13 : decode cJ29_poll 13 = .ok (.aload_n 0, 1) := dk_42 (dk_at dksJ29_poll_0 13 rfl rfl)
theorem dJ29_poll_14 : decode cJ29_poll 14 = .ok (.dup, 1) := dk_89 (dk_at dksJ29_poll_0 14 rfl rfl)
theorem dJ29_poll_15 : decode cJ29_poll 15 = .ok (.getfield 93, 3) := dk_180 0 93 (dk_at dksJ29_poll_0 15 rfl rfl)
theorem dJ29_poll_18 : decode cJ29_poll 18 = .ok (.iconst 1, 1) := dk_4 (dk_at dksJ29_poll_0 18 rfl rfl)
theorem dJ29_poll_19 : decode cJ29_poll 19 = .ok (.iadd, 1) := dk_96 (dk_at dksJ29_poll_0 19 rfl rfl)
theorem dJ29_poll_20 : decode cJ29_poll 20 = .ok (.putfield 93, 3) := dk_181 0 93 (dk_at dksJ29_poll_0 20 rfl rfl)
theorem dJ29_poll_23 : decode cJ29_poll 23 = .ok (.aload_n 1, 1) := dk_43 (dk_at dksJ29_poll_0 23 rfl rfl)
theorem dJ29_poll_24 : decode cJ29_poll 24 = .ok (.aload_n 0, 1) := dk_42 (dk_at dksJ29_poll_1 0 rfl rfl)
theorem dJ29_poll_25 : decode cJ29_poll 25 = .ok (.dup, 1) := dk_89 (dk_at dksJ29_poll_1 1 rfl rfl)
theorem dJ29_poll_26 : decode cJ29_poll 26 = .ok (.getfield 58, 3) := dk_180 0 58 (dk_at dksJ29_poll_1 2 rfl rfl)
theorem dJ29_poll_29 : decode cJ29_poll 29 = .ok (.iconst 1, 1) := dk_4 (dk_at dksJ29_poll_1 5 rfl rfl)
theorem dJ29_poll_30 : decode cJ29_poll 30 = .ok (.isub, 1) := dk_100 (dk_at dksJ29_poll_1 6 rfl rfl)
theorem dJ29_poll_31 : decode cJ29_poll 31 = .ok (.dup_x1, 1) := dk_90 (dk_at dksJ29_poll_1 7 rfl rfl)
theorem dJ29_poll_32 : decode cJ29_poll 32 = .ok (.putfield 58, 3) := dk_181 0 58 (dk_at dksJ29_poll_1 8 rfl rfl)
theorem dJ29_poll_35 : decode cJ29_poll 35 = .ok (.dup, 1) := dk_89 (dk_at dksJ29_poll_1 11 rfl rfl)
theorem dJ29_poll_36 : decode cJ29_poll 36 = .ok (.istore_n 3, 1) := dk_62 (dk_at dksJ29_poll_1 12 rfl rfl)
theorem dJ29_poll_37 : decode cJ29_poll 37 = .ok (.aaload, 1) := dk_50 (dk_at dksJ29_poll_1 13 rfl rfl)
theorem dJ29_poll_38 : decode cJ29_poll 38 = .ok (.astore 4, 2) := dk_58 4 (dk_at dksJ29_poll_1 14 rfl rfl)
theorem dJ29_poll_40 : decode cJ29_poll 40 = .ok (.aload_n 1, 1) := dk_43 (dk_at dksJ29_poll_1 16 rfl rfl)
theorem dJ29_poll_41 : decode cJ29_poll 41 = .ok (.iload_n 3, 1) := dk_29 (dk_at dksJ29_poll_1 17 rfl rfl)
theorem dJ29_poll_42 : decode cJ29_poll 42 = .ok (.aconst_null, 1) := dk_1 (dk_at dksJ29_poll_1 18 rfl rfl)
theorem dJ29_poll_43 : decode cJ29_poll 43 = .ok (.aastore, 1) := dk_83 (dk_at dksJ29_poll_1 19 rfl rfl)
theorem dJ29_poll_44 : decode cJ29_poll 44 = .ok (.iload_n 3, 1) := dk_29 (dk_at dksJ29_poll_1 20 rfl rfl)
theorem dJ29_poll_45 : decode cJ29_poll 45 = .ok (.ifCond .le 34, 3) := dk_158 0 34 (dk_at dksJ29_poll_1 21 rfl rfl)
theorem dJ29_poll_48 : decode cJ29_poll 48 = .ok (.aload_n 0, 1) := dk_42 (dk_at dksJ29_poll_2 0 rfl rfl)
theorem dJ29_poll_49 : decode cJ29_poll 49 = .ok (.getfield 21, 3) := dk_180 0 21 (dk_at dksJ29_poll_2 1 rfl rfl)
theorem dJ29_poll_52 : decode cJ29_poll 52 = .ok (.dup, 1) := dk_89 (dk_at dksJ29_poll_2 4 rfl rfl)
theorem dJ29_poll_53 : decode cJ29_poll 53 = .ok (.astore 5, 2) := dk_58 5 (dk_at dksJ29_poll_2 5 rfl rfl)
theorem dJ29_poll_55 : decode cJ29_poll 55 = .ok (.ifnonnull 14, 3) := dk_199 0 14 (dk_at dksJ29_poll_2 7 rfl rfl)
theorem dJ29_poll_58 : decode cJ29_poll 58 = .ok (.iconst 0, 1) := dk_3 (dk_at dksJ29_poll_2 10 rfl rfl)
theorem dJ29_poll_59 : decode cJ29_poll 59 = .ok (.aload 4, 2) := dk_25 4 (dk_at dksJ29_poll_2 11 rfl rfl)
theorem dJ29_poll_61 : decode cJ29_poll 61 = .ok (.aload_n 1, 1) := dk_43 (dk_at dksJ29_poll_2 13 rfl rfl)
theorem dJ29_poll_62 : decode cJ29_poll 62 = .ok (.iload_n 3, 1) := dk_29 (dk_at dksJ29_poll_2 14 rfl rfl)
theorem dJ29_poll_63 : decode cJ29_poll 63 = .ok (.invokestatic 125, 3) := dk_184 0 125 (dk_at dksJ29_poll_2 15 rfl rfl)
theorem dJ29_poll_66 : decode cJ29_poll 66 = .ok (.goto 13, 3) := dk_167 0 13 (dk_at dksJ29_poll_2 18 rfl rfl)
theorem dJ29_poll_69 : decode cJ29_poll 69 = .ok (.iconst 0, 1) := dk_3 (dk_at dksJ29_poll_2 21 rfl rfl)
theorem dJ29_poll_70 : decode cJ29_poll 70 = .ok (.aload 4, 2) := dk_25 4 (dk_at dksJ29_poll_2 22 rfl rfl)
theorem dJ29_poll_72 : decode cJ29_poll 72 = .ok (.aload_n 1, 1) := dk_43 (dk_at dksJ29_poll_3 0 rfl rfl)
theorem dJ29_poll_73 : decode cJ29_poll 73 = .ok (.iload_n 3, 1) := dk_29 (dk_at dksJ29_poll_3 1 rfl rfl)
theorem dJ29_poll_74 : decode cJ29_poll 74 = .ok (.aload 5, 2) := dk_25 5 (dk_at dksJ29_poll_3 2 rfl rfl)
theorem dJ29_poll_76 : decode cJ29_poll 76 = .ok (.invokestatic 129, 3) := dk_184 0 129 (dk_at dksJ29_poll_3 4 rfl rfl)
theorem dJ29_poll_79 : decode cJ29_poll 79 = .ok (.aload_n 2, 1) := dk_44 (dk_at dksJ29_poll_3 7 rfl rfl)
theorem dJ29_poll_80 : decode cJ29_poll 80 = .ok (.areturn, 1) := dk_176 (dk_at dksJ29_poll_3 8 rfl rfl)
abbrev cJ29_siftDownComparable : ByteArray := prog_77_method_31_code
def yJ29_siftDownComparable : MethodName := ⟨RJ29, "siftDownComparable", "(ILjava/lang/Object;[Ljava/lang/Object;I)V"⟩
def dkwJ29_siftDownComparable_4 : List UInt8 := [25, 4, 83, 177]
abbrev dktJ29_siftDownComparable_4 : List UInt8 := dkwJ29_siftDownComparable_4 ++ []
def dkwJ29_siftDownComparable_3 : List UInt8 := [185, 0, 146, 2, 0, 157, 0, 6, 167, 0, 14, 44, 26, 25, 7, 83, 21, 6, 59, 167, 255, 176, 44, 26]
abbrev dktJ29_siftDownComparable_3 : List UInt8 := dkwJ29_siftDownComparable_3 ++ dktJ29_siftDownComparable_4
def dkwJ29_siftDownComparable_2 : List UInt8 := [21, 8, 50, 185, 0, 146, 2, 0, 158, 0, 12, 44, 21, 8, 89, 54, 6, 50, 58, 7, 25, 4, 25, 7]
abbrev dktJ29_siftDownComparable_2 : List UInt8 := dkwJ29_siftDownComparable_2 ++ dktJ29_siftDownComparable_3
def dkwJ29_siftDownComparable_1 : List UInt8 := [44, 21, 6, 50, 58, 7, 21, 6, 4, 96, 54, 8, 21, 8, 29, 162, 0, 29, 25, 7, 192, 0, 144, 44]
abbrev dktJ29_siftDownComparable_1 : List UInt8 := dkwJ29_siftDownComparable_1 ++ dktJ29_siftDownComparable_2
def dkwJ29_siftDownComparable_0 : List UInt8 := [43, 192, 0, 144, 58, 4, 29, 4, 124, 54, 5, 26, 21, 5, 162, 0, 80, 26, 4, 120, 4, 96, 54, 6]
abbrev dktJ29_siftDownComparable_0 : List UInt8 := dkwJ29_siftDownComparable_0 ++ dktJ29_siftDownComparable_1
theorem dksJ29_siftDownComparable_0 : cJ29_siftDownComparable.data.toList.drop 0 = dktJ29_siftDownComparable_0 := by decide +kernel
theorem dksJ29_siftDownComparable_1 : cJ29_siftDownComparable.data.toList.drop 24 = dktJ29_siftDownComparable_1 := dk_seg dksJ29_siftDownComparable_0 24 rfl rfl
theorem dksJ29_siftDownComparable_2 : cJ29_siftDownComparable.data.toList.drop 48 = dktJ29_siftDownComparable_2 := dk_seg dksJ29_siftDownComparable_1 24 rfl rfl
theorem dksJ29_siftDownComparable_3 : cJ29_siftDownComparable.data.toList.drop 72 = dktJ29_siftDownComparable_3 := dk_seg dksJ29_siftDownComparable_2 24 rfl rfl
theorem dksJ29_siftDownComparable_4 : cJ29_siftDownComparable.data.toList.drop 96 = dktJ29_siftDownComparable_4 := dk_seg dksJ29_siftDownComparable_3 24 rfl rfl
theorem dJ29_siftDownComparable_0 : decode cJ29_siftDownComparable 0 = .ok (.aload_n 1, 1) := dk_43 (dk_at dksJ29_siftDownComparable_0 0 rfl rfl)
theorem dJ29_siftDownComparable_1 : decode cJ29_siftDownComparable 1 = .ok (.checkcast 144, 3) := dk_192 0 144 (dk_at dksJ29_siftDownComparable_0 1 rfl rfl)
theorem dJ29_siftDownComparable_4 : decode cJ29_siftDownComparable 4 = .ok (.astore 4, 2) := dk_58 4 (dk_at dksJ29_siftDownComparable_0 4 rfl rfl)
theorem dJ29_siftDownComparable_6 : decode cJ29_siftDownComparable 6 = .ok (.iload_n 3, 1) := dk_29 (dk_at dksJ29_siftDownComparable_0 6 rfl rfl)
theorem dJ29_siftDownComparable_7 : decode cJ29_siftDownComparable 7 = .ok (.iconst 1, 1) := dk_4 (dk_at dksJ29_siftDownComparable_0 7 rfl rfl)
theorem dJ29_siftDownComparable_8 : decode cJ29_siftDownComparable 8 = .ok (.iushr, 1) := dk_124 (dk_at dksJ29_siftDownComparable_0 8 rfl rfl)
theorem dJ29_siftDownComparable_9 : decode cJ29_siftDownComparable 9 = .ok (.istore 5, 2) := dk_54 5 (dk_at dksJ29_siftDownComparable_0 9 rfl rfl)
theorem dJ29_siftDownComparable_11 : decode cJ29_siftDownComparable 11 = .ok (.iload_n 0, 1) := dk_26 (dk_at dksJ29_siftDownComparable_0 11 rfl rfl)
theorem dJ29_siftDownComparable_12 : decode cJ29_siftDownComparable 12 = .ok (.iload 5, 2) := dk_21 5 (dk_at dksJ29_siftDownComparable_0 12 rfl rfl)
theorem dJ29_siftDownComparable_14 : decode cJ29_siftDownComparable 14 = .ok (.if_icmp .ge 80, 3) := dk_162 0 80 (dk_at dksJ29_siftDownComparable_0 14 rfl rfl)
theorem dJ29_siftDownComparable_17 : decode cJ29_siftDownComparable 17 = .ok (.iload_n 0, 1) := dk_26 (dk_at dksJ29_siftDownComparable_0 17 rfl rfl)
theorem dJ29_siftDownComparable_18 : decode cJ29_siftDownComparable 18 = .ok (.iconst 1, 1) := dk_4 (dk_at dksJ29_siftDownComparable_0 18 rfl rfl)
theorem dJ29_siftDownComparable_19 : decode cJ29_siftDownComparable 19 = .ok (.ishl, 1) := dk_120 (dk_at dksJ29_siftDownComparable_0 19 rfl rfl)
theorem dJ29_siftDownComparable_20 : decode cJ29_siftDownComparable 20 = .ok (.iconst 1, 1) := dk_4 (dk_at dksJ29_siftDownComparable_0 20 rfl rfl)
theorem dJ29_siftDownComparable_21 : decode cJ29_siftDownComparable 21 = .ok (.iadd, 1) := dk_96 (dk_at dksJ29_siftDownComparable_0 21 rfl rfl)
theorem dJ29_siftDownComparable_22 : decode cJ29_siftDownComparable 22 = .ok (.istore 6, 2) := dk_54 6 (dk_at dksJ29_siftDownComparable_0 22 rfl rfl)
theorem dJ29_siftDownComparable_24 : decode cJ29_siftDownComparable 24 = .ok (.aload_n 2, 1) := dk_44 (dk_at dksJ29_siftDownComparable_1 0 rfl rfl)
theorem dJ29_siftDownComparable_25 : decode cJ29_siftDownComparable 25 = .ok (.iload 6, 2) := dk_21 6 (dk_at dksJ29_siftDownComparable_1 1 rfl rfl)
theorem dJ29_siftDownComparable_27 : decode cJ29_siftDownComparable 27 = .ok (.aaload, 1) := dk_50 (dk_at dksJ29_siftDownComparable_1 3 rfl rfl)
theorem dJ29_siftDownComparable_28 : decode cJ29_siftDownComparable 28 = .ok (.astore 7, 2) := dk_58 7 (dk_at dksJ29_siftDownComparable_1 4 rfl rfl)
theorem dJ29_siftDownComparable_30 : decode cJ29_siftDownComparable 30 = .ok (.iload 6, 2) := dk_21 6 (dk_at dksJ29_siftDownComparable_1 6 rfl rfl)
theorem dJ29_siftDownComparable_32 : decode cJ29_siftDownComparable 32 = .ok (.iconst 1, 1) := dk_4 (dk_at dksJ29_siftDownComparable_1 8 rfl rfl)
theorem dJ29_siftDownComparable_33 : decode cJ29_siftDownComparable 33 = .ok (.iadd, 1) := dk_96 (dk_at dksJ29_siftDownComparable_1 9 rfl rfl)
theorem dJ29_siftDownComparable_34 : decode cJ29_siftDownComparable 34 = .ok (.istore 8, 2) := dk_54 8 (dk_at dksJ29_siftDownComparable_1 10 rfl rfl)
theorem dJ29_siftDownComparable_36 : decode cJ29_siftDownComparable 36 = .ok (.iload 8, 2) := dk_21 8 (dk_at dksJ29_siftDownComparable_1 12 rfl rfl)
theorem dJ29_siftDownComparable_38 : decode cJ29_siftDownComparable 38 = .ok (.iload_n 3, 1) := dk_29 (dk_at dksJ29_siftDownComparable_1 14 rfl rfl)
theorem dJ29_siftDownComparable_39 : decode cJ29_siftDownComparable 39 = .ok (.if_icmp .ge 29, 3) := dk_162 0 29 (dk_at dksJ29_siftDownComparable_1 15 rfl rfl)
theorem dJ29_siftDownComparable_42 : decode cJ29_siftDownComparable 42 = .ok (.aload 7, 2) := dk_25 7 (dk_at dksJ29_siftDownComparable_1 18 rfl rfl)
theorem dJ29_siftDownComparable_44 : decode cJ29_siftDownComparable 44 = .ok (.checkcast 144, 3) := dk_192 0 144 (dk_at dksJ29_siftDownComparable_1 20 rfl rfl)
theorem dJ29_siftDownComparable_47 : decode cJ29_siftDownComparable 47 = .ok (.aload_n 2, 1) := dk_44 (dk_at dksJ29_siftDownComparable_1 23 rfl rfl)
theorem dJ29_siftDownComparable_48 : decode cJ29_siftDownComparable 48 = .ok (.iload 8, 2) := dk_21 8 (dk_at dksJ29_siftDownComparable_2 0 rfl rfl)
theorem dJ29_siftDownComparable_50 : decode cJ29_siftDownComparable 50 = .ok (.aaload, 1) := dk_50 (dk_at dksJ29_siftDownComparable_2 2 rfl rfl)
theorem dJ29_siftDownComparable_51 : decode cJ29_siftDownComparable 51 = .ok (.invokeinterface 146 2, 5) := by decide +kernel
theorem dJ29_siftDownComparable_56 : decode cJ29_siftDownComparable 56 = .ok (.ifCond .le 12, 3) := dk_158 0 12 (dk_at dksJ29_siftDownComparable_2 8 rfl rfl)
theorem dJ29_siftDownComparable_59 : decode cJ29_siftDownComparable 59 = .ok (.aload_n 2, 1) := dk_44 (dk_at dksJ29_siftDownComparable_2 11 rfl rfl)
theorem dJ29_siftDownComparable_60 : decode cJ29_siftDownComparable 60 = .ok (.iload 8, 2) := dk_21 8 (dk_at dksJ29_siftDownComparable_2 12 rfl rfl)
theorem dJ29_siftDownComparable_62 : decode cJ29_siftDownComparable 62 = .ok (.dup, 1) := dk_89 (dk_at dksJ29_siftDownComparable_2 14 rfl rfl)
theorem dJ29_siftDownComparable_63 : decode cJ29_siftDownComparable 63 = .ok (.istore 6, 2) := dk_54 6 (dk_at dksJ29_siftDownComparable_2 15 rfl rfl)
theorem dJ29_siftDownComparable_65 : decode cJ29_siftDownComparable 65 = .ok (.aaload, 1) := dk_50 (dk_at dksJ29_siftDownComparable_2 17 rfl rfl)
theorem dJ29_siftDownComparable_66 : decode cJ29_siftDownComparable 66 = .ok (.astore 7, 2) := dk_58 7 (dk_at dksJ29_siftDownComparable_2 18 rfl rfl)
theorem dJ29_siftDownComparable_68 : decode cJ29_siftDownComparable 68 = .ok (.aload 4, 2) := dk_25 4 (dk_at dksJ29_siftDownComparable_2 20 rfl rfl)
theorem dJ29_siftDownComparable_70 : decode cJ29_siftDownComparable 70 = .ok (.aload 7, 2) := dk_25 7 (dk_at dksJ29_siftDownComparable_2 22 rfl rfl)
theorem dJ29_siftDownComparable_72 : decode cJ29_siftDownComparable 72 = .ok (.invokeinterface 146 2, 5) := by decide +kernel
theorem dJ29_siftDownComparable_77 : decode cJ29_siftDownComparable 77 = .ok (.ifCond .gt 6, 3) := dk_157 0 6 (dk_at dksJ29_siftDownComparable_3 5 rfl rfl)
theorem dJ29_siftDownComparable_80 : decode cJ29_siftDownComparable 80 = .ok (.goto 14, 3) := dk_167 0 14 (dk_at dksJ29_siftDownComparable_3 8 rfl rfl)
theorem dJ29_siftDownComparable_83 : decode cJ29_siftDownComparable 83 = .ok (.aload_n 2, 1) := dk_44 (dk_at dksJ29_siftDownComparable_3 11 rfl rfl)
theorem dJ29_siftDownComparable_84 : decode cJ29_siftDownComparable 84 = .ok (.iload_n 0, 1) := dk_26 (dk_at dksJ29_siftDownComparable_3 12 rfl rfl)
theorem dJ29_siftDownComparable_85 : decode cJ29_siftDownComparable 85 = .ok (.aload 7, 2) := dk_25 7 (dk_at dksJ29_siftDownComparable_3 13 rfl rfl)
theorem dJ29_siftDownComparable_87 : decode cJ29_siftDownComparable 87 = .ok (.aastore, 1) := dk_83 (dk_at dksJ29_siftDownComparable_3 15 rfl rfl)
theorem dJ29_siftDownComparable_88 : decode cJ29_siftDownComparable 88 = .ok (.iload 6, 2) := dk_21 6 (dk_at dksJ29_siftDownComparable_3 16 rfl rfl)
theorem dJ29_siftDownComparable_90 : decode cJ29_siftDownComparable 90 = .ok (.istore_n 0, 1) := dk_59 (dk_at dksJ29_siftDownComparable_3 18 rfl rfl)
theorem dJ29_siftDownComparable_91 : decode cJ29_siftDownComparable 91 = .ok (.goto (-80), 3) := dk_167 255 176 (dk_at dksJ29_siftDownComparable_3 19 rfl rfl)
theorem dJ29_siftDownComparable_94 : decode cJ29_siftDownComparable 94 = .ok (.aload_n 2, 1) := dk_44 (dk_at dksJ29_siftDownComparable_3 22 rfl rfl)
theorem dJ29_siftDownComparable_95 : decode cJ29_siftDownComparable 95 = .ok (.iload_n 0, 1) := dk_26 (dk_at dksJ29_siftDownComparable_3 23 rfl rfl)
theorem dJ29_siftDownComparable_96 : decode cJ29_siftDownComparable 96 = .ok (.aload 4, 2) := dk_25 4 (dk_at dksJ29_siftDownComparable_4 0 rfl rfl)
theorem dJ29_siftDownComparable_98 : decode cJ29_siftDownComparable 98 = .ok (.aastore, 1) := dk_83 (dk_at dksJ29_siftDownComparable_4 2 rfl rfl)
theorem dJ29_siftDownComparable_99 : decode cJ29_siftDownComparable 99 = .ok (.return_, 1) := dk_177 (dk_at dksJ29_siftDownComparable_4 3 rfl rfl)
abbrev cJ29_siftDownUsingComparator : ByteArray := prog_77_method_32_code
def yJ29_siftDownUsingComparator : MethodName := ⟨RJ29, "siftDownUsingComparator", "(ILjava/lang/Object;[Ljava/lang/Object;ILjava/util/Comparator;)V"⟩
def dkwJ29_siftDownUsingComparator_4 : List UInt8 := [43, 83, 177]
abbrev dktJ29_siftDownUsingComparator_4 : List UInt8 := dkwJ29_siftDownUsingComparator_4 ++ []
def dkwJ29_siftDownUsingComparator_3 : List UInt8 := [185, 0, 149, 3, 0, 157, 0, 6, 167, 0, 14, 44, 26, 25, 7, 83, 21, 6, 59, 167, 255, 176, 44, 26]
abbrev dktJ29_siftDownUsingComparator_3 : List UInt8 := dkwJ29_siftDownUsingComparator_3 ++ dktJ29_siftDownUsingComparator_4
def dkwJ29_siftDownUsingComparator_2 : List UInt8 := [185, 0, 149, 3, 0, 158, 0, 12, 44, 21, 8, 89, 54, 6, 50, 58, 7, 25, 4, 43, 25, 7]
abbrev dktJ29_siftDownUsingComparator_2 : List UInt8 := dkwJ29_siftDownUsingComparator_2 ++ dktJ29_siftDownUsingComparator_3
def dkwJ29_siftDownUsingComparator_1 : List UInt8 := [21, 6, 4, 96, 54, 8, 21, 8, 29, 162, 0, 28, 25, 4, 25, 7, 44, 21, 8, 50]
abbrev dktJ29_siftDownUsingComparator_1 : List UInt8 := dkwJ29_siftDownUsingComparator_1 ++ dktJ29_siftDownUsingComparator_2
def dkwJ29_siftDownUsingComparator_0 : List UInt8 := [29, 4, 124, 54, 5, 26, 21, 5, 162, 0, 80, 26, 4, 120, 4, 96, 54, 6, 44, 21, 6, 50, 58, 7]
abbrev dktJ29_siftDownUsingComparator_0 : List UInt8 := dkwJ29_siftDownUsingComparator_0 ++ dktJ29_siftDownUsingComparator_1
theorem dksJ29_siftDownUsingComparator_0 : cJ29_siftDownUsingComparator.data.toList.drop 0 = dktJ29_siftDownUsingComparator_0 := by decide +kernel
theorem dksJ29_siftDownUsingComparator_1 : cJ29_siftDownUsingComparator.data.toList.drop 24 = dktJ29_siftDownUsingComparator_1 := dk_seg dksJ29_siftDownUsingComparator_0 24 rfl rfl
theorem dksJ29_siftDownUsingComparator_2 : cJ29_siftDownUsingComparator.data.toList.drop 44 = dktJ29_siftDownUsingComparator_2 := dk_seg dksJ29_siftDownUsingComparator_1 20 rfl rfl
theorem dksJ29_siftDownUsingComparator_3 : cJ29_siftDownUsingComparator.data.toList.drop 66 = dktJ29_siftDownUsingComparator_3 := dk_seg dksJ29_siftDownUsingComparator_2 22 rfl rfl
theorem dksJ29_siftDownUsingComparator_4 : cJ29_siftDownUsingComparator.data.toList.drop 90 = dktJ29_siftDownUsingComparator_4 := dk_seg dksJ29_siftDownUsingComparator_3 24 rfl rfl
theorem dJ29_siftDownUsingComparator_0 : decode cJ29_siftDownUsingComparator 0 = .ok (.iload_n 3, 1) := dk_29 (dk_at dksJ29_siftDownUsingComparator_0 0 rfl rfl)
theorem dJ29_siftDownUsingComparator_1 : decode cJ29_siftDownUsingComparator 1 = .ok (.iconst 1, 1) := dk_4 (dk_at dksJ29_siftDownUsingComparator_0 1 rfl rfl)
theorem dJ29_siftDownUsingComparator_2 : decode cJ29_siftDownUsingComparator 2 = .ok (.iushr, 1) := dk_124 (dk_at dksJ29_siftDownUsingComparator_0 2 rfl rfl)
theorem dJ29_siftDownUsingComparator_3 : decode cJ29_siftDownUsingComparator 3 = .ok (.istore 5, 2) := dk_54 5 (dk_at dksJ29_siftDownUsingComparator_0 3 rfl rfl)
theorem dJ29_siftDownUsingComparator_5 : decode cJ29_siftDownUsingComparator 5 = .ok (.iload_n 0, 1) := dk_26 (dk_at dksJ29_siftDownUsingComparator_0 5 rfl rfl)
theorem dJ29_siftDownUsingComparator_6 : decode cJ29_siftDownUsingComparator 6 = .ok (.iload 5, 2) := dk_21 5 (dk_at dksJ29_siftDownUsingComparator_0 6 rfl rfl)
theorem dJ29_siftDownUsingComparator_8 : decode cJ29_siftDownUsingComparator 8 = .ok (.if_icmp .ge 80, 3) := dk_162 0 80 (dk_at dksJ29_siftDownUsingComparator_0 8 rfl rfl)
theorem dJ29_siftDownUsingComparator_11 : decode cJ29_siftDownUsingComparator 11 = .ok (.iload_n 0, 1) := dk_26 (dk_at dksJ29_siftDownUsingComparator_0 11 rfl rfl)
theorem dJ29_siftDownUsingComparator_12 : decode cJ29_siftDownUsingComparator 12 = .ok (.iconst 1, 1) := dk_4 (dk_at dksJ29_siftDownUsingComparator_0 12 rfl rfl)
theorem dJ29_siftDownUsingComparator_13 : decode cJ29_siftDownUsingComparator 13 = .ok (.ishl, 1) := dk_120 (dk_at dksJ29_siftDownUsingComparator_0 13 rfl rfl)
theorem dJ29_siftDownUsingComparator_14 : decode cJ29_siftDownUsingComparator 14 = .ok (.iconst 1, 1) := dk_4 (dk_at dksJ29_siftDownUsingComparator_0 14 rfl rfl)
theorem dJ29_siftDownUsingComparator_15 : decode cJ29_siftDownUsingComparator 15 = .ok (.iadd, 1) := dk_96 (dk_at dksJ29_siftDownUsingComparator_0 15 rfl rfl)
theorem dJ29_siftDownUsingComparator_16 : decode cJ29_siftDownUsingComparator 16 = .ok (.istore 6, 2) := dk_54 6 (dk_at dksJ29_siftDownUsingComparator_0 16 rfl rfl)
theorem dJ29_siftDownUsingComparator_18 : decode cJ29_siftDownUsingComparator 18 = .ok (.aload_n 2, 1) := dk_44 (dk_at dksJ29_siftDownUsingComparator_0 18 rfl rfl)
theorem dJ29_siftDownUsingComparator_19 : decode cJ29_siftDownUsingComparator 19 = .ok (.iload 6, 2) := dk_21 6 (dk_at dksJ29_siftDownUsingComparator_0 19 rfl rfl)
theorem dJ29_siftDownUsingComparator_21 : decode cJ29_siftDownUsingComparator 21 = .ok (.aaload, 1) := dk_50 (dk_at dksJ29_siftDownUsingComparator_0 21 rfl rfl)
theorem dJ29_siftDownUsingComparator_22 : decode cJ29_siftDownUsingComparator 22 = .ok (.astore 7, 2) := dk_58 7 (dk_at dksJ29_siftDownUsingComparator_0 22 rfl rfl)
theorem dJ29_siftDownUsingComparator_24 : decode cJ29_siftDownUsingComparator 24 = .ok (.iload 6, 2) := dk_21 6 (dk_at dksJ29_siftDownUsingComparator_1 0 rfl rfl)
theorem dJ29_siftDownUsingComparator_26 : decode cJ29_siftDownUsingComparator 26 = .ok (.iconst 1, 1) := dk_4 (dk_at dksJ29_siftDownUsingComparator_1 2 rfl rfl)
theorem dJ29_siftDownUsingComparator_27 : decode cJ29_siftDownUsingComparator 27 = .ok (.iadd, 1) := dk_96 (dk_at dksJ29_siftDownUsingComparator_1 3 rfl rfl)
theorem dJ29_siftDownUsingComparator_28 : decode cJ29_siftDownUsingComparator 28 = .ok (.istore 8, 2) := dk_54 8 (dk_at dksJ29_siftDownUsingComparator_1 4 rfl rfl)
theorem dJ29_siftDownUsingComparator_30 : decode cJ29_siftDownUsingComparator 30 = .ok (.iload 8, 2) := dk_21 8 (dk_at dksJ29_siftDownUsingComparator_1 6 rfl rfl)
theorem dJ29_siftDownUsingComparator_32 : decode cJ29_siftDownUsingComparator 32 = .ok (.iload_n 3, 1) := dk_29 (dk_at dksJ29_siftDownUsingComparator_1 8 rfl rfl)
theorem dJ29_siftDownUsingComparator_33 : decode cJ29_siftDownUsingComparator 33 = .ok (.if_icmp .ge 28, 3) := dk_162 0 28 (dk_at dksJ29_siftDownUsingComparator_1 9 rfl rfl)
theorem dJ29_siftDownUsingComparator_36 : decode cJ29_siftDownUsingComparator 36 = .ok (.aload 4, 2) := dk_25 4 (dk_at dksJ29_siftDownUsingComparator_1 12 rfl rfl)
theorem dJ29_siftDownUsingComparator_38 : decode cJ29_siftDownUsingComparator 38 = .ok (.aload 7, 2) := dk_25 7 (dk_at dksJ29_siftDownUsingComparator_1 14 rfl rfl)
theorem dJ29_siftDownUsingComparator_40 : decode cJ29_siftDownUsingComparator 40 = .ok (.aload_n 2, 1) := dk_44 (dk_at dksJ29_siftDownUsingComparator_1 16 rfl rfl)
theorem dJ29_siftDownUsingComparator_41 : decode cJ29_siftDownUsingComparator 41 = .ok (.iload 8, 2) := dk_21 8 (dk_at dksJ29_siftDownUsingComparator_1 17 rfl rfl)
theorem dJ29_siftDownUsingComparator_43 : decode cJ29_siftDownUsingComparator 43 = .ok (.aaload, 1) := dk_50 (dk_at dksJ29_siftDownUsingComparator_1 19 rfl rfl)
theorem dJ29_siftDownUsingComparator_44 : decode cJ29_siftDownUsingComparator 44 = .ok (.invokeinterface 149 3, 5) := by decide +kernel
theorem dJ29_siftDownUsingComparator_49 : decode cJ29_siftDownUsingComparator 49 = .ok (.ifCond .le 12, 3) := dk_158 0 12 (dk_at dksJ29_siftDownUsingComparator_2 5 rfl rfl)
theorem dJ29_siftDownUsingComparator_52 : decode cJ29_siftDownUsingComparator 52 = .ok (.aload_n 2, 1) := dk_44 (dk_at dksJ29_siftDownUsingComparator_2 8 rfl rfl)
theorem dJ29_siftDownUsingComparator_53 : decode cJ29_siftDownUsingComparator 53 = .ok (.iload 8, 2) := dk_21 8 (dk_at dksJ29_siftDownUsingComparator_2 9 rfl rfl)
theorem dJ29_siftDownUsingComparator_55 : decode cJ29_siftDownUsingComparator 55 = .ok (.dup, 1) := dk_89 (dk_at dksJ29_siftDownUsingComparator_2 11 rfl rfl)
theorem dJ29_siftDownUsingComparator_56 : decode cJ29_siftDownUsingComparator 56 = .ok (.istore 6, 2) := dk_54 6 (dk_at dksJ29_siftDownUsingComparator_2 12 rfl rfl)
theorem dJ29_siftDownUsingComparator_58 : decode cJ29_siftDownUsingComparator 58 = .ok (.aaload, 1) := dk_50 (dk_at dksJ29_siftDownUsingComparator_2 14 rfl rfl)
theorem dJ29_siftDownUsingComparator_59 : decode cJ29_siftDownUsingComparator 59 = .ok (.astore 7, 2) := dk_58 7 (dk_at dksJ29_siftDownUsingComparator_2 15 rfl rfl)
theorem dJ29_siftDownUsingComparator_61 : decode cJ29_siftDownUsingComparator 61 = .ok (.aload 4, 2) := dk_25 4 (dk_at dksJ29_siftDownUsingComparator_2 17 rfl rfl)
theorem dJ29_siftDownUsingComparator_63 : decode cJ29_siftDownUsingComparator 63 = .ok (.aload_n 1, 1) := dk_43 (dk_at dksJ29_siftDownUsingComparator_2 19 rfl rfl)
theorem dJ29_siftDownUsingComparator_64 : decode cJ29_siftDownUsingComparator 64 = .ok (.aload 7, 2) := dk_25 7 (dk_at dksJ29_siftDownUsingComparator_2 20 rfl rfl)
theorem dJ29_siftDownUsingComparator_66 : decode cJ29_siftDownUsingComparator 66 = .ok (.invokeinterface 149 3, 5) := by decide +kernel
theorem dJ29_siftDownUsingComparator_71 : decode cJ29_siftDownUsingComparator 71 = .ok (.ifCond .gt 6, 3) := dk_157 0 6 (dk_at dksJ29_siftDownUsingComparator_3 5 rfl rfl)
theorem dJ29_siftDownUsingComparator_74 : decode cJ29_siftDownUsingComparator 74 = .ok (.goto 14, 3) := dk_167 0 14 (dk_at dksJ29_siftDownUsingComparator_3 8 rfl rfl)
theorem dJ29_siftDownUsingComparator_77 : decode cJ29_siftDownUsingComparator 77 = .ok (.aload_n 2, 1) := dk_44 (dk_at dksJ29_siftDownUsingComparator_3 11 rfl rfl)
theorem dJ29_siftDownUsingComparator_78 : decode cJ29_siftDownUsingComparator 78 = .ok (.iload_n 0, 1) := dk_26 (dk_at dksJ29_siftDownUsingComparator_3 12 rfl rfl)
theorem dJ29_siftDownUsingComparator_79 : decode cJ29_siftDownUsingComparator 79 = .ok (.aload 7, 2) := dk_25 7 (dk_at dksJ29_siftDownUsingComparator_3 13 rfl rfl)
theorem dJ29_siftDownUsingComparator_81 : decode cJ29_siftDownUsingComparator 81 = .ok (.aastore, 1) := dk_83 (dk_at dksJ29_siftDownUsingComparator_3 15 rfl rfl)
theorem dJ29_siftDownUsingComparator_82 : decode cJ29_siftDownUsingComparator 82 = .ok (.iload 6, 2) := dk_21 6 (dk_at dksJ29_siftDownUsingComparator_3 16 rfl rfl)
theorem dJ29_siftDownUsingComparator_84 : decode cJ29_siftDownUsingComparator 84 = .ok (.istore_n 0, 1) := dk_59 (dk_at dksJ29_siftDownUsingComparator_3 18 rfl rfl)
theorem dJ29_siftDownUsingComparator_85 : decode cJ29_siftDownUsingComparator 85 = .ok (.goto (-80), 3) := dk_167 255 176 (dk_at dksJ29_siftDownUsingComparator_3 19 rfl rfl)
theorem dJ29_siftDownUsingComparator_88 : decode cJ29_siftDownUsingComparator 88 = .ok (.aload_n 2, 1) := dk_44 (dk_at dksJ29_siftDownUsingComparator_3 22 rfl rfl)
theorem dJ29_siftDownUsingComparator_89 : decode cJ29_siftDownUsingComparator 89 = .ok (.iload_n 0, 1) := dk_26 (dk_at dksJ29_siftDownUsingComparator_3 23 rfl rfl)
theorem dJ29_siftDownUsingComparator_90 : decode cJ29_siftDownUsingComparator 90 = .ok (.aload_n 1, 1) := dk_43 (dk_at dksJ29_siftDownUsingComparator_4 0 rfl rfl)
theorem dJ29_siftDownUsingComparator_91 : decode cJ29_siftDownUsingComparator 91 = .ok (.aastore, 1) := dk_83 (dk_at dksJ29_siftDownUsingComparator_4 1 rfl rfl)
theorem dJ29_siftDownUsingComparator_92 : decode cJ29_siftDownUsingComparator 92 = .ok (.return_, 1) := dk_177 (dk_at dksJ29_siftDownUsingComparator_4 2 rfl rfl)
theorem q145 : (Jvm.Cond.initialized "java/util/PriorityQueue") ∈ lw_all := lw_g (lw_at lw_m1 59 rfl) rfl
theorem q735 : (Jvm.Cond.selects "java/util/PriorityQueue" ({ cls := "java/lang/Object", name := "getClass", desc := "()Ljava/lang/Class;" } : Jvm.MethodName) ({ cls := "java/lang/Object", name := "getClass", desc := "()Ljava/lang/Class;" } : Jvm.MethodName)) ∈ lw_all := lw_g (lw_at lw_m3 169 rfl) rfl
theorem q747 : (Jvm.Cond.castable "java/util/PriorityQueue" "java/util/Collection") ∈ lw_tbl := lw_at lw_m3 181 rfl
theorem q748 : (Jvm.Cond.selects "java/util/PriorityQueue" ({ cls := "java/util/Collection", name := "toArray", desc := "()[Ljava/lang/Object;" } : Jvm.MethodName) ({ cls := "java/util/PriorityQueue", name := "toArray", desc := "()[Ljava/lang/Object;" } : Jvm.MethodName)) ∈ lw_all := lw_g (lw_at lw_m3 182 rfl) rfl
theorem q749 : (Jvm.Cond.unhidden "java/util/PriorityQueue" "toArray" "()[Ljava/lang/Object;") ∈ lw_tbl := lw_at lw_m3 183 rfl
theorem q750 : (Jvm.Cond.instanceMethod ({ cls := "java/util/PriorityQueue", name := "toArray", desc := "()[Ljava/lang/Object;" } : Jvm.MethodName)) ∈ lw_all := lw_g (lw_at lw_m3 184 rfl) rfl
theorem q751 : (Jvm.Cond.publicMethod ({ cls := "java/util/PriorityQueue", name := "toArray", desc := "()[Ljava/lang/Object;" } : Jvm.MethodName)) ∈ lw_tbl := lw_at lw_m3 185 rfl
theorem q752 : (Jvm.Cond.code ({ cls := "java/util/PriorityQueue", name := "toArray", desc := "()[Ljava/lang/Object;" } : Jvm.MethodName) prog_77_method_20_code (1 : Nat) (Option.some (Jvm.ClassFile.FieldType.array (Jvm.ClassFile.FieldType.object "java/lang/Object")))) ∈ lw_all := lw_g (lw_at lw_m3 186 rfl) rfl
theorem q753 : (Jvm.Cond.methodLink "java/util/PriorityQueue" (86 : Nat) ({ cls := "java/util/Arrays", name := "copyOf", desc := "([Ljava/lang/Object;I)[Ljava/lang/Object;" } : Jvm.MethodName)) ∈ lw_all := lw_g (lw_at lw_m3 187 rfl) rfl
theorem q770 : (Jvm.Cond.selects "java/util/PriorityQueue" ({ cls := "java/util/AbstractCollection", name := "size", desc := "()I" } : Jvm.MethodName) ({ cls := "java/util/PriorityQueue", name := "size", desc := "()I" } : Jvm.MethodName)) ∈ lw_all := lw_g (lw_at lw_m3 204 rfl) rfl
theorem q771 : (Jvm.Cond.instanceMethod ({ cls := "java/util/PriorityQueue", name := "size", desc := "()I" } : Jvm.MethodName)) ∈ lw_all := lw_g (lw_at lw_m3 205 rfl) rfl
theorem q772 : (Jvm.Cond.code ({ cls := "java/util/PriorityQueue", name := "size", desc := "()I" } : Jvm.MethodName) prog_77_method_23_code (1 : Nat) (Option.some Jvm.ClassFile.FieldType.int)) ∈ lw_all := lw_g (lw_at lw_m3 206 rfl) rfl
theorem q838 : (Jvm.Cond.selects "java/util/PriorityQueue" ({ cls := "java/util/AbstractCollection", name := "iterator", desc := "()Ljava/util/Iterator;" } : Jvm.MethodName) ({ cls := "java/util/PriorityQueue", name := "iterator", desc := "()Ljava/util/Iterator;" } : Jvm.MethodName)) ∈ lw_all := lw_g (lw_at lw_m4 32 rfl) rfl
theorem q839 : (Jvm.Cond.instanceMethod ({ cls := "java/util/PriorityQueue", name := "iterator", desc := "()Ljava/util/Iterator;" } : Jvm.MethodName)) ∈ lw_all := lw_g (lw_at lw_m4 33 rfl) rfl
theorem q840 : (Jvm.Cond.code ({ cls := "java/util/PriorityQueue", name := "iterator", desc := "()Ljava/util/Iterator;" } : Jvm.MethodName) prog_77_method_22_code (1 : Nat) (Option.some (Jvm.ClassFile.FieldType.object "java/util/Iterator"))) ∈ lw_all := lw_g (lw_at lw_m4 34 rfl) rfl
theorem q841 : (Jvm.Cond.classLink "java/util/PriorityQueue" (121 : Nat) "java/util/PriorityQueue$Itr") ∈ lw_all := lw_g (lw_at lw_m4 35 rfl) rfl
theorem q843 : (Jvm.Cond.methodLink "java/util/PriorityQueue" (123 : Nat) ({ cls := "java/util/PriorityQueue$Itr", name := "<init>", desc := "(Ljava/util/PriorityQueue;)V" } : Jvm.MethodName)) ∈ lw_all := lw_g (lw_at lw_m4 37 rfl) rfl
theorem q2114 : (Jvm.Cond.instantiable "java/util/PriorityQueue" (4 : Nat)) ∈ lw_all := lw_g (lw_at lw_m9 108 rfl) rfl
theorem q2123 : (Jvm.Cond.instanceMethod ({ cls := "java/util/PriorityQueue", name := "<init>", desc := "(ILjava/util/Comparator;)V" } : Jvm.MethodName)) ∈ lw_all := lw_g (lw_at lw_m9 117 rfl) rfl
theorem q2124 : (Jvm.Cond.code ({ cls := "java/util/PriorityQueue", name := "<init>", desc := "(ILjava/util/Comparator;)V" } : Jvm.MethodName) prog_77_method_4_code (3 : Nat) (Option.none : Option Jvm.ClassFile.FieldType)) ∈ lw_all := lw_g (lw_at lw_m9 118 rfl) rfl
theorem q2125 : (Jvm.Cond.methodLink "java/util/PriorityQueue" (7 : Nat) ({ cls := "java/util/AbstractQueue", name := "<init>", desc := "()V" } : Jvm.MethodName)) ∈ lw_all := lw_g (lw_at lw_m9 119 rfl) rfl
theorem q2129 : (Jvm.Cond.classLink "java/util/PriorityQueue" (15 : Nat) "java/lang/Object") ∈ lw_all := lw_g (lw_at lw_m9 123 rfl) rfl
theorem q2131 : (Jvm.Cond.fieldLink "java/util/PriorityQueue" (17 : Nat) "java/util/PriorityQueue" "queue" "[Ljava/lang/Object;") ∈ lw_all := lw_g (lw_at lw_m9 125 rfl) rfl
theorem q2133 : (Jvm.Cond.fieldLink "java/util/PriorityQueue" (58 : Nat) "java/util/PriorityQueue" "size" "I") ∈ lw_all := lw_g (lw_at lw_m9 127 rfl) rfl
theorem q2134 : (Jvm.Cond.fieldLink "java/util/PriorityQueue" (21 : Nat) "java/util/PriorityQueue" "comparator" "Ljava/util/Comparator;") ∈ lw_all := lw_g (lw_at lw_m9 128 rfl) rfl
theorem q2136 : (Jvm.Cond.fieldLink "java/util/PriorityQueue" (93 : Nat) "java/util/PriorityQueue" "modCount" "I") ∈ lw_all := lw_g (lw_at lw_m9 130 rfl) rfl
theorem q2137 : (Jvm.Cond.lays "java/util/PriorityQueue" "java/util/PriorityQueue" "queue" "[Ljava/lang/Object;") ∈ lw_all := lw_g (lw_at lw_m9 131 rfl) rfl
theorem q2138 : (Jvm.Cond.soleField "java/util/PriorityQueue" "queue") ∈ lw_all := lw_g (lw_at lw_m9 132 rfl) rfl
theorem q2139 : (Jvm.Cond.lays "java/util/PriorityQueue" "java/util/PriorityQueue" "size" "I") ∈ lw_all := lw_g (lw_at lw_m9 133 rfl) rfl
theorem q2140 : (Jvm.Cond.soleField "java/util/PriorityQueue" "size") ∈ lw_all := lw_g (lw_at lw_m9 134 rfl) rfl
theorem q2141 : (Jvm.Cond.laysFinal "java/util/PriorityQueue" "java/util/PriorityQueue" "comparator" "Ljava/util/Comparator;") ∈ lw_all := lw_g (lw_at lw_m9 135 rfl) rfl
theorem q2142 : (Jvm.Cond.soleField "java/util/PriorityQueue" "comparator") ∈ lw_all := lw_g (lw_at lw_m9 136 rfl) rfl
theorem q2143 : (Jvm.Cond.lays "java/util/PriorityQueue" "java/util/PriorityQueue" "modCount" "I") ∈ lw_all := lw_g (lw_at lw_m9 137 rfl) rfl
theorem q2144 : (Jvm.Cond.soleField "java/util/PriorityQueue" "modCount") ∈ lw_all := lw_g (lw_at lw_m9 138 rfl) rfl
theorem q2145 : (Jvm.Cond.superclass "java/util/PriorityQueue" "java/util/AbstractQueue") ∈ lw_all := lw_g (lw_at lw_m9 139 rfl) rfl
theorem q2163 : (Jvm.Cond.instanceMethod ({ cls := "java/util/PriorityQueue", name := "add", desc := "(Ljava/lang/Object;)Z" } : Jvm.MethodName)) ∈ lw_all := lw_g (lw_at lw_m9 157 rfl) rfl
theorem q2164 : (Jvm.Cond.selects "java/util/PriorityQueue" ({ cls := "java/util/PriorityQueue", name := "add", desc := "(Ljava/lang/Object;)Z" } : Jvm.MethodName) ({ cls := "java/util/PriorityQueue", name := "add", desc := "(Ljava/lang/Object;)Z" } : Jvm.MethodName)) ∈ lw_all := lw_g (lw_at lw_m9 158 rfl) rfl
theorem q2165 : (Jvm.Cond.code ({ cls := "java/util/PriorityQueue", name := "add", desc := "(Ljava/lang/Object;)Z" } : Jvm.MethodName) prog_77_method_13_code (2 : Nat) (Option.some Jvm.ClassFile.FieldType.boolean)) ∈ lw_all := lw_g (lw_at lw_m9 159 rfl) rfl
theorem q2166 : (Jvm.Cond.methodLink "java/util/PriorityQueue" (89 : Nat) ({ cls := "java/util/PriorityQueue", name := "offer", desc := "(Ljava/lang/Object;)Z" } : Jvm.MethodName)) ∈ lw_all := lw_g (lw_at lw_m9 160 rfl) rfl
theorem q2167 : (Jvm.Cond.instanceMethod ({ cls := "java/util/PriorityQueue", name := "offer", desc := "(Ljava/lang/Object;)Z" } : Jvm.MethodName)) ∈ lw_all := lw_g (lw_at lw_m9 161 rfl) rfl
theorem q2168 : (Jvm.Cond.selects "java/util/PriorityQueue" ({ cls := "java/util/PriorityQueue", name := "offer", desc := "(Ljava/lang/Object;)Z" } : Jvm.MethodName) ({ cls := "java/util/PriorityQueue", name := "offer", desc := "(Ljava/lang/Object;)Z" } : Jvm.MethodName)) ∈ lw_all := lw_g (lw_at lw_m9 162 rfl) rfl
theorem q2169 : (Jvm.Cond.code ({ cls := "java/util/PriorityQueue", name := "offer", desc := "(Ljava/lang/Object;)Z" } : Jvm.MethodName) prog_77_method_14_code (3 : Nat) (Option.some Jvm.ClassFile.FieldType.boolean)) ∈ lw_all := lw_g (lw_at lw_m9 163 rfl) rfl
theorem q2170 : (Jvm.Cond.methodLink "java/util/PriorityQueue" (96 : Nat) ({ cls := "java/util/PriorityQueue", name := "grow", desc := "(I)V" } : Jvm.MethodName)) ∈ lw_all := lw_g (lw_at lw_m9 164 rfl) rfl
theorem q2171 : (Jvm.Cond.privateMethod ({ cls := "java/util/PriorityQueue", name := "grow", desc := "(I)V" } : Jvm.MethodName)) ∈ lw_tbl := lw_at lw_m9 165 rfl
theorem q2172 : (Jvm.Cond.instanceMethod ({ cls := "java/util/PriorityQueue", name := "grow", desc := "(I)V" } : Jvm.MethodName)) ∈ lw_all := lw_g (lw_at lw_m9 166 rfl) rfl
theorem q2173 : (Jvm.Cond.code ({ cls := "java/util/PriorityQueue", name := "grow", desc := "(I)V" } : Jvm.MethodName) prog_77_method_12_code (4 : Nat) (Option.none : Option Jvm.ClassFile.FieldType)) ∈ lw_all := lw_g (lw_at lw_m9 167 rfl) rfl
theorem q2174 : (Jvm.Cond.methodLink "java/util/PriorityQueue" (80 : Nat) ({ cls := "jdk/internal/util/ArraysSupport", name := "newLength", desc := "(III)I" } : Jvm.MethodName)) ∈ lw_all := lw_g (lw_at lw_m9 168 rfl) rfl
theorem q2175 : (Jvm.Cond.methodLink "java/util/PriorityQueue" (100 : Nat) ({ cls := "java/util/PriorityQueue", name := "siftUp", desc := "(ILjava/lang/Object;)V" } : Jvm.MethodName)) ∈ lw_all := lw_g (lw_at lw_m9 169 rfl) rfl
theorem q2176 : (Jvm.Cond.privateMethod ({ cls := "java/util/PriorityQueue", name := "siftUp", desc := "(ILjava/lang/Object;)V" } : Jvm.MethodName)) ∈ lw_tbl := lw_at lw_m9 170 rfl
theorem q2177 : (Jvm.Cond.instanceMethod ({ cls := "java/util/PriorityQueue", name := "siftUp", desc := "(ILjava/lang/Object;)V" } : Jvm.MethodName)) ∈ lw_all := lw_g (lw_at lw_m9 171 rfl) rfl
theorem q2178 : (Jvm.Cond.code ({ cls := "java/util/PriorityQueue", name := "siftUp", desc := "(ILjava/lang/Object;)V" } : Jvm.MethodName) prog_77_method_27_code (3 : Nat) (Option.none : Option Jvm.ClassFile.FieldType)) ∈ lw_all := lw_g (lw_at lw_m9 172 rfl) rfl
theorem q2179 : (Jvm.Cond.methodLink "java/util/PriorityQueue" (136 : Nat) ({ cls := "java/util/PriorityQueue", name := "siftUpUsingComparator", desc := "(ILjava/lang/Object;[Ljava/lang/Object;Ljava/util/Comparator;)V" } : Jvm.MethodName)) ∈ lw_all := lw_g (lw_at lw_m9 173 rfl) rfl
theorem q2180 : (Jvm.Cond.static ({ cls := "java/util/PriorityQueue", name := "siftUpUsingComparator", desc := "(ILjava/lang/Object;[Ljava/lang/Object;Ljava/util/Comparator;)V" } : Jvm.MethodName)) ∈ lw_all := lw_g (lw_at lw_m9 174 rfl) rfl
theorem q2181 : (Jvm.Cond.code ({ cls := "java/util/PriorityQueue", name := "siftUpUsingComparator", desc := "(ILjava/lang/Object;[Ljava/lang/Object;Ljava/util/Comparator;)V" } : Jvm.MethodName) prog_77_method_29_code (6 : Nat) (Option.none : Option Jvm.ClassFile.FieldType)) ∈ lw_all := lw_g (lw_at lw_m9 175 rfl) rfl
theorem q2182 : (Jvm.Cond.interfaceEntry "java/util/PriorityQueue" (149 : Nat)) ∈ lw_tbl := lw_at lw_m9 176 rfl
theorem q2183 : (Jvm.Cond.methodLink "java/util/PriorityQueue" (149 : Nat) ({ cls := "java/util/Comparator", name := "compare", desc := "(Ljava/lang/Object;Ljava/lang/Object;)I" } : Jvm.MethodName)) ∈ lw_all := lw_g (lw_at lw_m9 177 rfl) rfl
theorem q2213 : (Jvm.Cond.methodLink "java/util/PriorityQueue" (140 : Nat) ({ cls := "java/util/PriorityQueue", name := "siftUpComparable", desc := "(ILjava/lang/Object;[Ljava/lang/Object;)V" } : Jvm.MethodName)) ∈ lw_all := lw_g (lw_at lw_m9 207 rfl) rfl
theorem q2214 : (Jvm.Cond.static ({ cls := "java/util/PriorityQueue", name := "siftUpComparable", desc := "(ILjava/lang/Object;[Ljava/lang/Object;)V" } : Jvm.MethodName)) ∈ lw_all := lw_g (lw_at lw_m9 208 rfl) rfl
theorem q2215 : (Jvm.Cond.code ({ cls := "java/util/PriorityQueue", name := "siftUpComparable", desc := "(ILjava/lang/Object;[Ljava/lang/Object;)V" } : Jvm.MethodName) prog_77_method_28_code (6 : Nat) (Option.none : Option Jvm.ClassFile.FieldType)) ∈ lw_all := lw_g (lw_at lw_m9 209 rfl) rfl
theorem q2216 : (Jvm.Cond.classLink "java/util/PriorityQueue" (144 : Nat) "java/lang/Comparable") ∈ lw_all := lw_g (lw_at lw_m9 210 rfl) rfl
theorem q2217 : (Jvm.Cond.interfaceEntry "java/util/PriorityQueue" (146 : Nat)) ∈ lw_tbl := lw_at lw_m9 211 rfl
theorem q2218 : (Jvm.Cond.methodLink "java/util/PriorityQueue" (146 : Nat) ({ cls := "java/lang/Comparable", name := "compareTo", desc := "(Ljava/lang/Object;)I" } : Jvm.MethodName)) ∈ lw_all := lw_g (lw_at lw_m9 212 rfl) rfl
theorem q2428 : (Jvm.Cond.sameMethod "java/util/PriorityQueue" "java/util/AbstractCollection" "isEmpty" "()Z") ∈ lw_all := lw_g (lw_at lw_m10 182 rfl) rfl
theorem q2430 : (Jvm.Cond.selects "java/util/PriorityQueue" ({ cls := "java/util/PriorityQueue", name := "isEmpty", desc := "()Z" } : Jvm.MethodName) ({ cls := "java/util/AbstractCollection", name := "isEmpty", desc := "()Z" } : Jvm.MethodName)) ∈ lw_all := lw_g (lw_at lw_m10 184 rfl) rfl
theorem q2434 : (Jvm.Cond.instanceMethod ({ cls := "java/util/PriorityQueue", name := "poll", desc := "()Ljava/lang/Object;" } : Jvm.MethodName)) ∈ lw_all := lw_g (lw_at lw_m10 188 rfl) rfl
theorem q2435 : (Jvm.Cond.selects "java/util/PriorityQueue" ({ cls := "java/util/PriorityQueue", name := "poll", desc := "()Ljava/lang/Object;" } : Jvm.MethodName) ({ cls := "java/util/PriorityQueue", name := "poll", desc := "()Ljava/lang/Object;" } : Jvm.MethodName)) ∈ lw_all := lw_g (lw_at lw_m10 189 rfl) rfl
theorem q2436 : (Jvm.Cond.code ({ cls := "java/util/PriorityQueue", name := "poll", desc := "()Ljava/lang/Object;" } : Jvm.MethodName) prog_77_method_25_code (6 : Nat) (Option.some (Jvm.ClassFile.FieldType.object "java/lang/Object"))) ∈ lw_all := lw_g (lw_at lw_m10 190 rfl) rfl
theorem q2437 : (Jvm.Cond.methodLink "java/util/PriorityQueue" (125 : Nat) ({ cls := "java/util/PriorityQueue", name := "siftDownComparable", desc := "(ILjava/lang/Object;[Ljava/lang/Object;I)V" } : Jvm.MethodName)) ∈ lw_all := lw_g (lw_at lw_m10 191 rfl) rfl
theorem q2438 : (Jvm.Cond.static ({ cls := "java/util/PriorityQueue", name := "siftDownComparable", desc := "(ILjava/lang/Object;[Ljava/lang/Object;I)V" } : Jvm.MethodName)) ∈ lw_all := lw_g (lw_at lw_m10 192 rfl) rfl
theorem q2439 : (Jvm.Cond.code ({ cls := "java/util/PriorityQueue", name := "siftDownComparable", desc := "(ILjava/lang/Object;[Ljava/lang/Object;I)V" } : Jvm.MethodName) prog_77_method_31_code (9 : Nat) (Option.none : Option Jvm.ClassFile.FieldType)) ∈ lw_all := lw_g (lw_at lw_m10 193 rfl) rfl
theorem q2440 : (Jvm.Cond.methodLink "java/util/PriorityQueue" (129 : Nat) ({ cls := "java/util/PriorityQueue", name := "siftDownUsingComparator", desc := "(ILjava/lang/Object;[Ljava/lang/Object;ILjava/util/Comparator;)V" } : Jvm.MethodName)) ∈ lw_all := lw_g (lw_at lw_m10 194 rfl) rfl
theorem q2441 : (Jvm.Cond.static ({ cls := "java/util/PriorityQueue", name := "siftDownUsingComparator", desc := "(ILjava/lang/Object;[Ljava/lang/Object;ILjava/util/Comparator;)V" } : Jvm.MethodName)) ∈ lw_all := lw_g (lw_at lw_m10 195 rfl) rfl
theorem q2442 : (Jvm.Cond.code ({ cls := "java/util/PriorityQueue", name := "siftDownUsingComparator", desc := "(ILjava/lang/Object;[Ljava/lang/Object;ILjava/util/Comparator;)V" } : Jvm.MethodName) prog_77_method_32_code (9 : Nat) (Option.none : Option Jvm.ClassFile.FieldType)) ∈ lw_all := lw_g (lw_at lw_m10 196 rfl) rfl
theorem q3363 : (Jvm.Cond.castable "java/util/PriorityQueue" "java/lang/Object") ∈ lw_tbl := lw_at lw_m14 157 rfl
theorem in_J29 : ∀ w ∈ wsJ290, w ∈ lw_all := lw_in wsJ290 [2137, 2139, 2141, 2143] (by decide +kernel) (by decide +kernel)

end
section
/-! jdk/internal/misc/Unsafe -/
set_option maxRecDepth 100000
def RJ30 : String := "jdk/internal/misc/Unsafe"
abbrev cJ30_getLongUnaligned : ByteArray := prog_95_method_334_code
def yJ30_getLongUnaligned : MethodName := ⟨RJ30, "getLongUnaligned", "(Ljava/lang/Object;J)J"⟩
def dkwJ30_getLongUnaligned_7 : List UInt8 := [182, 0, 39, 184, 2, 197, 173]
abbrev dktJ30_getLongUnaligned_7 : List UInt8 := dkwJ30_getLongUnaligned_7 ++ []
def dkwJ30_getLongUnaligned_6 : List UInt8 := [20, 2, 195, 97, 182, 0, 39, 42, 43, 32, 20, 2, 190, 97, 182, 0, 39, 42, 43, 32, 20, 2, 184, 97]
abbrev dktJ30_getLongUnaligned_6 : List UInt8 := dkwJ30_getLongUnaligned_6 ++ dktJ30_getLongUnaligned_7
def dkwJ30_getLongUnaligned_5 : List UInt8 := [43, 32, 20, 1, 93, 97, 182, 0, 39, 42, 43, 32, 20, 0, 205, 97, 182, 0, 39, 42, 43, 32]
abbrev dktJ30_getLongUnaligned_5 : List UInt8 := dkwJ30_getLongUnaligned_5 ++ dktJ30_getLongUnaligned_6
def dkwJ30_getLongUnaligned_4 : List UInt8 := [43, 32, 182, 0, 39, 42, 43, 32, 10, 97, 182, 0, 39, 42, 43, 32, 20, 0, 203, 97, 182, 0, 39, 42]
abbrev dktJ30_getLongUnaligned_4 : List UInt8 := dkwJ30_getLongUnaligned_4 ++ dktJ30_getLongUnaligned_5
def dkwJ30_getLongUnaligned_3 : List UInt8 := [43, 32, 20, 0, 205, 97, 182, 0, 47, 42, 43, 32, 20, 2, 190, 97, 182, 0, 47, 184, 2, 192, 173, 42]
abbrev dktJ30_getLongUnaligned_3 : List UInt8 := dkwJ30_getLongUnaligned_3 ++ dktJ30_getLongUnaligned_4
def dkwJ30_getLongUnaligned_2 : List UInt8 := [10, 127, 9, 148, 154, 0, 43, 42, 43, 32, 182, 0, 47, 42, 43, 32, 20, 0, 203, 97, 182, 0, 47, 42]
abbrev dktJ30_getLongUnaligned_2 : List UInt8 := dkwJ30_getLongUnaligned_2 ++ dktJ30_getLongUnaligned_3
def dkwJ30_getLongUnaligned_1 : List UInt8 := [154, 0, 23, 42, 43, 32, 182, 0, 17, 42, 43, 32, 20, 0, 205, 97, 182, 0, 17, 184, 2, 186, 173, 32]
abbrev dktJ30_getLongUnaligned_1 : List UInt8 := dkwJ30_getLongUnaligned_1 ++ dktJ30_getLongUnaligned_2
def dkwJ30_getLongUnaligned_0 : List UInt8 := [32, 20, 2, 184, 127, 9, 148, 154, 0, 10, 42, 43, 32, 182, 0, 27, 173, 32, 20, 1, 93, 127, 9, 148]
abbrev dktJ30_getLongUnaligned_0 : List UInt8 := dkwJ30_getLongUnaligned_0 ++ dktJ30_getLongUnaligned_1
theorem dksJ30_getLongUnaligned_0 : cJ30_getLongUnaligned.data.toList.drop 0 = dktJ30_getLongUnaligned_0 := by decide +kernel
theorem dksJ30_getLongUnaligned_1 : cJ30_getLongUnaligned.data.toList.drop 24 = dktJ30_getLongUnaligned_1 := dk_seg dksJ30_getLongUnaligned_0 24 rfl rfl
theorem dksJ30_getLongUnaligned_2 : cJ30_getLongUnaligned.data.toList.drop 48 = dktJ30_getLongUnaligned_2 := dk_seg dksJ30_getLongUnaligned_1 24 rfl rfl
theorem dksJ30_getLongUnaligned_3 : cJ30_getLongUnaligned.data.toList.drop 72 = dktJ30_getLongUnaligned_3 := dk_seg dksJ30_getLongUnaligned_2 24 rfl rfl
theorem dksJ30_getLongUnaligned_4 : cJ30_getLongUnaligned.data.toList.drop 96 = dktJ30_getLongUnaligned_4 := dk_seg dksJ30_getLongUnaligned_3 24 rfl rfl
theorem dksJ30_getLongUnaligned_5 : cJ30_getLongUnaligned.data.toList.drop 120 = dktJ30_getLongUnaligned_5 := dk_seg dksJ30_getLongUnaligned_4 24 rfl rfl
theorem dksJ30_getLongUnaligned_6 : cJ30_getLongUnaligned.data.toList.drop 142 = dktJ30_getLongUnaligned_6 := dk_seg dksJ30_getLongUnaligned_5 22 rfl rfl
theorem dksJ30_getLongUnaligned_7 : cJ30_getLongUnaligned.data.toList.drop 166 = dktJ30_getLongUnaligned_7 := dk_seg dksJ30_getLongUnaligned_6 24 rfl rfl
theorem dJ30_getLongUnaligned_0 : decode cJ30_getLongUnaligned 0 = .ok (.lload_n 2, 1) := dk_32 (dk_at dksJ30_getLongUnaligned_0 0 rfl rfl)
theorem dJ30_getLongUnaligned_1 : decode cJ30_getLongUnaligned 1 = .ok (.ldc2_w 696, 3) := dk_20 2 184 (dk_at dksJ30_getLongUnaligned_0 1 rfl rfl)
theorem dJ30_getLongUnaligned_4 : decode cJ30_getLongUnaligned 4 = .ok (.land, 1) := dk_127 (dk_at dksJ30_getLongUnaligned_0 4 rfl rfl)
theorem dJ30_getLongUnaligned_5 : decode cJ30_getLongUnaligned 5 = .ok (.lconst 0, 1) := dk_9 (dk_at dksJ30_getLongUnaligned_0 5 rfl rfl)
theorem dJ30_getLongUnaligned_6 : decode cJ30_getLongUnaligned 6 = .ok (.lcmp, 1) := dk_148 (dk_at dksJ30_getLongUnaligned_0 6 rfl rfl)
theorem dJ30_getLongUnaligned_7 : decode cJ30_getLongUnaligned 7 = .ok (.ifCond .ne 10, 3) := dk_154 0 10 (dk_at dksJ30_getLongUnaligned_0 7 rfl rfl)
theorem dJ30_getLongUnaligned_10 : decode cJ30_getLongUnaligned 10 = .ok (.aload_n 0, 1) := dk_42 (dk_at dksJ30_getLongUnaligned_0 10 rfl rfl)
theorem dJ30_getLongUnaligned_11 : decode cJ30_getLongUnaligned 11 = .ok (.aload_n 1, 1) := dk_43 (dk_at dksJ30_getLongUnaligned_0 11 rfl rfl)
theorem dJ30_getLongUnaligned_12 : decode cJ30_getLongUnaligned 12 = .ok (.lload_n 2, 1) := dk_32 (dk_at dksJ30_getLongUnaligned_0 12 rfl rfl)
theorem dJ30_getLongUnaligned_13 : decode cJ30_getLongUnaligned 13 = .ok (.invokevirtual 27, 3) := dk_182 0 27 (dk_at dksJ30_getLongUnaligned_0 13 rfl rfl)
theorem dJ30_getLongUnaligned_16 : decode cJ30_getLongUnaligned 16 = .ok (.lreturn, 1) := dk_173 (dk_at dksJ30_getLongUnaligned_0 16 rfl rfl)
theorem dJ30_getLongUnaligned_17 : decode cJ30_getLongUnaligned 17 = .ok (.lload_n 2, 1) := dk_32 (dk_at dksJ30_getLongUnaligned_0 17 rfl rfl)
theorem dJ30_getLongUnaligned_18 : decode cJ30_getLongUnaligned 18 = .ok (.ldc2_w 349, 3) := dk_20 1 93 (dk_at dksJ30_getLongUnaligned_0 18 rfl rfl)
theorem dJ30_getLongUnaligned_21 : decode cJ30_getLongUnaligned 21 = .ok (.land, 1) := dk_127 (dk_at dksJ30_getLongUnaligned_0 21 rfl rfl)
theorem dJ30_getLongUnaligned_22 : decode cJ30_getLongUnaligned 22 = .ok (.lconst 0, 1) := dk_9 (dk_at dksJ30_getLongUnaligned_0 22 rfl rfl)
theorem dJ30_getLongUnaligned_23 : decode cJ30_getLongUnaligned 23 = .ok (.lcmp, 1) := dk_148 (dk_at dksJ30_getLongUnaligned_0 23 rfl rfl)
theorem dJ30_getLongUnaligned_24 : decode cJ30_getLongUnaligned 24 = .ok (.ifCond .ne 23, 3) := dk_154 0 23 (dk_at dksJ30_getLongUnaligned_1 0 rfl rfl)
theorem dJ30_getLongUnaligned_27 : decode cJ30_getLongUnaligned 27 = .ok (.aload_n 0, 1) := dk_42 (dk_at dksJ30_getLongUnaligned_1 3 rfl rfl)
theorem dJ30_getLongUnaligned_28 : decode cJ30_getLongUnaligned 28 = .ok (.aload_n 1, 1) := dk_43 (dk_at dksJ30_getLongUnaligned_1 4 rfl rfl)
theorem dJ30_getLongUnaligned_29 : decode cJ30_getLongUnaligned 29 = .ok (.lload_n 2, 1) := dk_32 (dk_at dksJ30_getLongUnaligned_1 5 rfl rfl)
theorem dJ30_getLongUnaligned_30 : decode cJ30_getLongUnaligned 30 = .ok (.invokevirtual 17, 3) := dk_182 0 17 (dk_at dksJ30_getLongUnaligned_1 6 rfl rfl)
theorem dJ30_getLongUnaligned_33 : decode cJ30_getLongUnaligned 33 = .ok (.aload_n 0, 1) := dk_42 (dk_at dksJ30_getLongUnaligned_1 9 rfl rfl)
theorem dJ30_getLongUnaligned_34 : decode cJ30_getLongUnaligned 34 = .ok (.aload_n 1, 1) := dk_43 (dk_at dksJ30_getLongUnaligned_1 10 rfl rfl)
theorem dJ30_getLongUnaligned_35 : decode cJ30_getLongUnaligned 35 = .ok (.lload_n 2, 1) := dk_32 (dk_at dksJ30_getLongUnaligned_1 11 rfl rfl)
theorem dJ30_getLongUnaligned_36 : decode cJ30_getLongUnaligned 36 = .ok (.ldc2_w 205, 3) := dk_20 0 205 (dk_at dksJ30_getLongUnaligned_1 12 rfl rfl)
theorem dJ30_getLongUnaligned_39 : decode cJ30_getLongUnaligned 39 = .ok (.ladd, 1) := dk_97 (dk_at dksJ30_getLongUnaligned_1 15 rfl rfl)
theorem dJ30_getLongUnaligned_40 : decode cJ30_getLongUnaligned 40 = .ok (.invokevirtual 17, 3) := dk_182 0 17 (dk_at dksJ30_getLongUnaligned_1 16 rfl rfl)
theorem dJ30_getLongUnaligned_43 : decode cJ30_getLongUnaligned 43 = .ok (.invokestatic 698, 3) := dk_184 2 186 (dk_at dksJ30_getLongUnaligned_1 19 rfl rfl)
theorem dJ30_getLongUnaligned_46 : decode cJ30_getLongUnaligned 46 = .ok (.lreturn, 1) := dk_173 (dk_at dksJ30_getLongUnaligned_1 22 rfl rfl)
theorem dJ30_getLongUnaligned_47 : decode cJ30_getLongUnaligned 47 = .ok (.lload_n 2, 1) := dk_32 (dk_at dksJ30_getLongUnaligned_1 23 rfl rfl)
theorem dJ30_getLongUnaligned_48 : decode cJ30_getLongUnaligned 48 = .ok (.lconst 1, 1) := dk_10 (dk_at dksJ30_getLongUnaligned_2 0 rfl rfl)
theorem dJ30_getLongUnaligned_49 : decode cJ30_getLongUnaligned 49 = .ok (.land, 1) := dk_127 (dk_at dksJ30_getLongUnaligned_2 1 rfl rfl)
theorem dJ30_getLongUnaligned_50 : decode cJ30_getLongUnaligned 50 = .ok (.lconst 0, 1) := dk_9 (dk_at dksJ30_getLongUnaligned_2 2 rfl rfl)
theorem dJ30_getLongUnaligned_51 : decode cJ30_getLongUnaligned 51 = .ok (.lcmp, 1) := dk_148 (dk_at dksJ30_getLongUnaligned_2 3 rfl rfl)
theorem dJ30_getLongUnaligned_52 : decode cJ30_getLongUnaligned 52 = .ok (.ifCond .ne 43, 3) := dk_154 0 43 (dk_at dksJ30_getLongUnaligned_2 4 rfl rfl)
theorem dJ30_getLongUnaligned_55 : decode cJ30_getLongUnaligned 55 = .ok (.aload_n 0, 1) := dk_42 (dk_at dksJ30_getLongUnaligned_2 7 rfl rfl)
theorem dJ30_getLongUnaligned_56 : decode cJ30_getLongUnaligned 56 = .ok (.aload_n 1, 1) := dk_43 (dk_at dksJ30_getLongUnaligned_2 8 rfl rfl)
theorem dJ30_getLongUnaligned_57 : decode cJ30_getLongUnaligned 57 = .ok (.lload_n 2, 1) := dk_32 (dk_at dksJ30_getLongUnaligned_2 9 rfl rfl)
theorem dJ30_getLongUnaligned_58 : decode cJ30_getLongUnaligned 58 = .ok (.invokevirtual 47, 3) := dk_182 0 47 (dk_at dksJ30_getLongUnaligned_2 10 rfl rfl)
theorem dJ30_getLongUnaligned_61 : decode cJ30_getLongUnaligned 61 = .ok (.aload_n 0, 1) := dk_42 (dk_at dksJ30_getLongUnaligned_2 13 rfl rfl)
theorem dJ30_getLongUnaligned_62 : decode cJ30_getLongUnaligned 62 = .ok (.aload_n 1, 1) := dk_43 (dk_at dksJ30_getLongUnaligned_2 14 rfl rfl)
theorem dJ30_getLongUnaligned_63 : decode cJ30_getLongUnaligned 63 = .ok (.lload_n 2, 1) := dk_32 (dk_at dksJ30_getLongUnaligned_2 15 rfl rfl)
theorem dJ30_getLongUnaligned_64 : decode cJ30_getLongUnaligned 64 = .ok (.ldc2_w 203, 3) := dk_20 0 203 (dk_at dksJ30_getLongUnaligned_2 16 rfl rfl)
theorem dJ30_getLongUnaligned_67 : decode cJ30_getLongUnaligned 67 = .ok (.ladd, 1) := dk_97 (dk_at dksJ30_getLongUnaligned_2 19 rfl rfl)
theorem dJ30_getLongUnaligned_68 : decode cJ30_getLongUnaligned 68 = .ok (.invokevirtual 47, 3) := dk_182 0 47 (dk_at dksJ30_getLongUnaligned_2 20 rfl rfl)
theorem dJ30_getLongUnaligned_71 : decode cJ30_getLongUnaligned 71 = .ok (.aload_n 0, 1) := dk_42 (dk_at dksJ30_getLongUnaligned_2 23 rfl rfl)
theorem dJ30_getLongUnaligned_72 : decode cJ30_getLongUnaligned 72 = .ok (.aload_n 1, 1) := dk_43 (dk_at dksJ30_getLongUnaligned_3 0 rfl rfl)
theorem dJ30_getLongUnaligned_73 : decode cJ30_getLongUnaligned 73 = .ok (.lload_n 2, 1) := dk_32 (dk_at dksJ30_getLongUnaligned_3 1 rfl rfl)
theorem dJ30_getLongUnaligned_74 : decode cJ30_getLongUnaligned 74 = .ok (.ldc2_w 205, 3) := dk_20 0 205 (dk_at dksJ30_getLongUnaligned_3 2 rfl rfl)
theorem dJ30_getLongUnaligned_77 : decode cJ30_getLongUnaligned 77 = .ok (.ladd, 1) := dk_97 (dk_at dksJ30_getLongUnaligned_3 5 rfl rfl)
theorem dJ30_getLongUnaligned_78 : decode cJ30_getLongUnaligned 78 = .ok (.invokevirtual 47, 3) := dk_182 0 47 (dk_at dksJ30_getLongUnaligned_3 6 rfl rfl)
theorem dJ30_getLongUnaligned_81 : decode cJ30_getLongUnaligned 81 = .ok (.aload_n 0, 1) := dk_42 (dk_at dksJ30_getLongUnaligned_3 9 rfl rfl)
theorem dJ30_getLongUnaligned_82 : decode cJ30_getLongUnaligned 82 = .ok (.aload_n 1, 1) := dk_43 (dk_at dksJ30_getLongUnaligned_3 10 rfl rfl)
theorem dJ30_getLongUnaligned_83 : decode cJ30_getLongUnaligned 83 = .ok (.lload_n 2, 1) := dk_32 (dk_at dksJ30_getLongUnaligned_3 11 rfl rfl)
theorem dJ30_getLongUnaligned_84 : decode cJ30_getLongUnaligned 84 = .ok (.ldc2_w 702, 3) := dk_20 2 190 (dk_at dksJ30_getLongUnaligned_3 12 rfl rfl)
theorem dJ30_getLongUnaligned_87 : decode cJ30_getLongUnaligned 87 = .ok (.ladd, 1) := dk_97 (dk_at dksJ30_getLongUnaligned_3 15 rfl rfl)
theorem dJ30_getLongUnaligned_88 : decode cJ30_getLongUnaligned 88 = .ok (.invokevirtual 47, 3) := dk_182 0 47 (dk_at dksJ30_getLongUnaligned_3 16 rfl rfl)
theorem dJ30_getLongUnaligned_91 : decode cJ30_getLongUnaligned 91 = .ok (.invokestatic 704, 3) := dk_184 2 192 (dk_at dksJ30_getLongUnaligned_3 19 rfl rfl)
theorem dJ30_getLongUnaligned_94 : decode cJ30_getLongUnaligned 94 = .ok (.lreturn, 1) := dk_173 (dk_at dksJ30_getLongUnaligned_3 22 rfl rfl)
theorem dJ30_getLongUnaligned_95 : decode cJ30_getLongUnaligned 95 = .ok (.aload_n 0, 1) := dk_42 (dk_at dksJ30_getLongUnaligned_3 23 rfl rfl)
theorem dJ30_getLongUnaligned_96 : decode cJ30_getLongUnaligned 96 = .ok (.aload_n 1, 1) := dk_43 (dk_at dksJ30_getLongUnaligned_4 0 rfl rfl)
theorem dJ30_getLongUnaligned_97 : decode cJ30_getLongUnaligned 97 = .ok (.lload_n 2, 1) := dk_32 (dk_at dksJ30_getLongUnaligned_4 1 rfl rfl)
theorem dJ30_getLongUnaligned_98 : decode cJ30_getLongUnaligned 98 = .ok (.invokevirtual 39, 3) := dk_182 0 39 (dk_at dksJ30_getLongUnaligned_4 2 rfl rfl)
theorem dJ30_getLongUnaligned_101 : decode cJ30_getLongUnaligned 101 = .ok (.aload_n 0, 1) := dk_42 (dk_at dksJ30_getLongUnaligned_4 5 rfl rfl)
theorem dJ30_getLongUnaligned_102 : decode cJ30_getLongUnaligned 102 = .ok (.aload_n 1, 1) := dk_43 (dk_at dksJ30_getLongUnaligned_4 6 rfl rfl)
theorem dJ30_getLongUnaligned_103 : decode cJ30_getLongUnaligned 103 = .ok (.lload_n 2, 1) := dk_32 (dk_at dksJ30_getLongUnaligned_4 7 rfl rfl)
theorem dJ30_getLongUnaligned_104 : decode cJ30_getLongUnaligned 104 = .ok (.lconst 1, 1) := dk_10 (dk_at dksJ30_getLongUnaligned_4 8 rfl rfl)
theorem dJ30_getLongUnaligned_105 : decode cJ30_getLongUnaligned 105 = .ok (.ladd, 1) := dk_97 (dk_at dksJ30_getLongUnaligned_4 9 rfl rfl)
theorem dJ30_getLongUnaligned_106 : decode cJ30_getLongUnaligned 106 = .ok (.invokevirtual 39, 3) := dk_182 0 39 (dk_at dksJ30_getLongUnaligned_4 10 rfl rfl)
theorem dJ30_getLongUnaligned_109 : decode cJ30_getLongUnaligned 109 = .ok (.aload_n 0, 1) := dk_42 (dk_at dksJ30_getLongUnaligned_4 13 rfl rfl)
theorem dJ30_getLongUnaligned_110 : decode cJ30_getLongUnaligned 110 = .ok (.aload_n 1, 1) := dk_43 (dk_at dksJ30_getLongUnaligned_4 14 rfl rfl)
theorem dJ30_getLongUnaligned_111 : decode cJ30_getLongUnaligned 111 = .ok (.lload_n 2, 1) := dk_32 (dk_at dksJ30_getLongUnaligned_4 15 rfl rfl)
theorem dJ30_getLongUnaligned_112 : decode cJ30_getLongUnaligned 112 = .ok (.ldc2_w 203, 3) := dk_20 0 203 (dk_at dksJ30_getLongUnaligned_4 16 rfl rfl)
theorem dJ30_getLongUnaligned_115 : decode cJ30_getLongUnaligned 115 = .ok (.ladd, 1) := dk_97 (dk_at dksJ30_getLongUnaligned_4 19 rfl rfl)
theorem dJ30_getLongUnaligned_116 : decode cJ30_getLongUnaligned 116 = .ok (.invokevirtual 39, 3) := dk_182 0 39 (dk_at dksJ30_getLongUnaligned_4 20 rfl rfl)
theorem dJ30_getLongUnaligned_119 : decode cJ30_getLongUnaligned 119 = .ok (.aload_n 0, 1) := dk_42 (dk_at dksJ30_getLongUnaligned_4 23 rfl rfl)
theorem dJ30_getLongUnaligned_120 : decode cJ30_getLongUnaligned 120 = .ok (.aload_n 1, 1) := dk_43 (dk_at dksJ30_getLongUnaligned_5 0 rfl rfl)
theorem dJ30_getLongUnaligned_121 : decode cJ30_getLongUnaligned 121 = .ok (.lload_n 2, 1) := dk_32 (dk_at dksJ30_getLongUnaligned_5 1 rfl rfl)
theorem dJ30_getLongUnaligned_122 : decode cJ30_getLongUnaligned 122 = .ok (.ldc2_w 349, 3) := dk_20 1 93 (dk_at dksJ30_getLongUnaligned_5 2 rfl rfl)
theorem dJ30_getLongUnaligned_125 : decode cJ30_getLongUnaligned 125 = .ok (.ladd, 1) := dk_97 (dk_at dksJ30_getLongUnaligned_5 5 rfl rfl)
theorem dJ30_getLongUnaligned_126 : decode cJ30_getLongUnaligned 126 = .ok (.invokevirtual 39, 3) := dk_182 0 39 (dk_at dksJ30_getLongUnaligned_5 6 rfl rfl)
theorem dJ30_getLongUnaligned_129 : decode cJ30_getLongUnaligned 129 = .ok (.aload_n 0, 1) := dk_42 (dk_at dksJ30_getLongUnaligned_5 9 rfl rfl)
theorem dJ30_getLongUnaligned_130 : decode cJ30_getLongUnaligned 130 = .ok (.aload_n 1, 1) := dk_43 (dk_at dksJ30_getLongUnaligned_5 10 rfl rfl)
theorem dJ30_getLongUnaligned_131 : decode cJ30_getLongUnaligned 131 = .ok (.lload_n 2, 1) := dk_32 (dk_at dksJ30_getLongUnaligned_5 11 rfl rfl)
theorem dJ30_getLongUnaligned_132 : decode cJ30_getLongUnaligned 132 = .ok (.ldc2_w 205, 3) := dk_20 0 205 (dk_at dksJ30_getLongUnaligned_5 12 rfl rfl)
theorem dJ30_getLongUnaligned_135 : decode cJ30_getLongUnaligned 135 = .ok (.ladd, 1) := dk_97 (dk_at dksJ30_getLongUnaligned_5 15 rfl rfl)
theorem dJ30_getLongUnaligned_136 : decode cJ30_getLongUnaligned 136 = .ok (.invokevirtual 39, 3) := dk_182 0 39 (dk_at dksJ30_getLongUnaligned_5 16 rfl rfl)
theorem dJ30_getLongUnaligned_139 : decode cJ30_getLongUnaligned 139 = .ok (.aload_n 0, 1) := dk_42 (dk_at dksJ30_getLongUnaligned_5 19 rfl rfl)
theorem dJ30_getLongUnaligned_140 : decode cJ30_getLongUnaligned 140 = .ok (.aload_n 1, 1) := dk_43 (dk_at dksJ30_getLongUnaligned_5 20 rfl rfl)
theorem dJ30_getLongUnaligned_141 : decode cJ30_getLongUnaligned 141 = .ok (.lload_n 2, 1) := dk_32 (dk_at dksJ30_getLongUnaligned_5 21 rfl rfl)
theorem dJ30_getLongUnaligned_142 : decode cJ30_getLongUnaligned 142 = .ok (.ldc2_w 707, 3) := dk_20 2 195 (dk_at dksJ30_getLongUnaligned_6 0 rfl rfl)
theorem dJ30_getLongUnaligned_145 : decode cJ30_getLongUnaligned 145 = .ok (.ladd, 1) := dk_97 (dk_at dksJ30_getLongUnaligned_6 3 rfl rfl)
theorem dJ30_getLongUnaligned_146 : decode cJ30_getLongUnaligned 146 = .ok (.invokevirtual 39, 3) := dk_182 0 39 (dk_at dksJ30_getLongUnaligned_6 4 rfl rfl)
theorem dJ30_getLongUnaligned_149 : decode cJ30_getLongUnaligned 149 = .ok (.aload_n 0, 1) := dk_42 (dk_at dksJ30_getLongUnaligned_6 7 rfl rfl)
theorem dJ30_getLongUnaligned_150 : decode cJ30_getLongUnaligned 150 = .ok (.aload_n 1, 1) := dk_43 (dk_at dksJ30_getLongUnaligned_6 8 rfl rfl)
theorem dJ30_getLongUnaligned_151 : decode cJ30_getLongUnaligned 151 = .ok (.lload_n 2, 1) := dk_32 (dk_at dksJ30_getLongUnaligned_6 9 rfl rfl)
theorem dJ30_getLongUnaligned_152 : decode cJ30_getLongUnaligned 152 = .ok (.ldc2_w 702, 3) := dk_20 2 190 (dk_at dksJ30_getLongUnaligned_6 10 rfl rfl)
theorem dJ30_getLongUnaligned_155 : decode cJ30_getLongUnaligned 155 = .ok (.ladd, 1) := dk_97 (dk_at dksJ30_getLongUnaligned_6 13 rfl rfl)
theorem dJ30_getLongUnaligned_156 : decode cJ30_getLongUnaligned 156 = .ok (.invokevirtual 39, 3) := dk_182 0 39 (dk_at dksJ30_getLongUnaligned_6 14 rfl rfl)
theorem dJ30_getLongUnaligned_159 : decode cJ30_getLongUnaligned 159 = .ok (.aload_n 0, 1) := dk_42 (dk_at dksJ30_getLongUnaligned_6 17 rfl rfl)
theorem dJ30_getLongUnaligned_160 : decode cJ30_getLongUnaligned 160 = .ok (.aload_n 1, 1) := dk_43 (dk_at dksJ30_getLongUnaligned_6 18 rfl rfl)
theorem dJ30_getLongUnaligned_161 : decode cJ30_getLongUnaligned 161 = .ok (.lload_n 2, 1) := dk_32 (dk_at dksJ30_getLongUnaligned_6 19 rfl rfl)
theorem dJ30_getLongUnaligned_162 : decode cJ30_getLongUnaligned 162 = .ok (.ldc2_w 696, 3) := dk_20 2 184 (dk_at dksJ30_getLongUnaligned_6 20 rfl rfl)
theorem dJ30_getLongUnaligned_165 : decode cJ30_getLongUnaligned 165 = .ok (.ladd, 1) := dk_97 (dk_at dksJ30_getLongUnaligned_6 23 rfl rfl)
theorem dJ30_getLongUnaligned_166 : decode cJ30_getLongUnaligned 166 = .ok (.invokevirtual 39, 3) := dk_182 0 39 (dk_at dksJ30_getLongUnaligned_7 0 rfl rfl)
theorem dJ30_getLongUnaligned_169 : decode cJ30_getLongUnaligned 169 = .ok (.invokestatic 709, 3) := dk_184 2 197 (dk_at dksJ30_getLongUnaligned_7 3 rfl rfl)
theorem dJ30_getLongUnaligned_172 : decode cJ30_getLongUnaligned 172 = .ok (.lreturn, 1) := dk_173 (dk_at dksJ30_getLongUnaligned_7 6 rfl rfl)
abbrev cJ30_makeLong : ByteArray := prog_95_method_353_code
def yJ30_makeLong : MethodName := ⟨RJ30, "makeLong", "(II)J"⟩
def dkwJ30_makeLong_1 : List UInt8 := [173]
abbrev dktJ30_makeLong_1 : List UInt8 := dkwJ30_makeLong_1 ++ []
def dkwJ30_makeLong_0 : List UInt8 := [26, 184, 3, 23, 16, 32, 3, 184, 3, 16, 121, 27, 184, 3, 23, 16, 32, 16, 32, 184, 3, 16, 121, 129]
abbrev dktJ30_makeLong_0 : List UInt8 := dkwJ30_makeLong_0 ++ dktJ30_makeLong_1
theorem dksJ30_makeLong_0 : cJ30_makeLong.data.toList.drop 0 = dktJ30_makeLong_0 := by decide +kernel
theorem dksJ30_makeLong_1 : cJ30_makeLong.data.toList.drop 24 = dktJ30_makeLong_1 := dk_seg dksJ30_makeLong_0 24 rfl rfl
theorem dJ30_makeLong_0 : decode cJ30_makeLong 0 = .ok (.iload_n 0, 1) := dk_26 (dk_at dksJ30_makeLong_0 0 rfl rfl)
theorem dJ30_makeLong_1 : decode cJ30_makeLong 1 = .ok (.invokestatic 791, 3) := dk_184 3 23 (dk_at dksJ30_makeLong_0 1 rfl rfl)
theorem dJ30_makeLong_4 : decode cJ30_makeLong 4 = .ok (.bipush 32, 2) := dk_16 32 (dk_at dksJ30_makeLong_0 4 rfl rfl)
theorem dJ30_makeLong_6 : decode cJ30_makeLong 6 = .ok (.iconst 0, 1) := dk_3 (dk_at dksJ30_makeLong_0 6 rfl rfl)
theorem dJ30_makeLong_7 : decode cJ30_makeLong 7 = .ok (.invokestatic 784, 3) := dk_184 3 16 (dk_at dksJ30_makeLong_0 7 rfl rfl)
theorem dJ30_makeLong_10 : decode cJ30_makeLong 10 = .ok (.lshl, 1) := dk_121 (dk_at dksJ30_makeLong_0 10 rfl rfl)
theorem dJ30_makeLong_11 : decode cJ30_makeLong 11 = .ok (.iload_n 1, 1) := dk_27 (dk_at dksJ30_makeLong_0 11 rfl rfl)
theorem dJ30_makeLong_12 : decode cJ30_makeLong 12 = .ok (.invokestatic 791, 3) := dk_184 3 23 (dk_at dksJ30_makeLong_0 12 rfl rfl)
theorem dJ30_makeLong_15 : decode cJ30_makeLong 15 = .ok (.bipush 32, 2) := dk_16 32 (dk_at dksJ30_makeLong_0 15 rfl rfl)
theorem dJ30_makeLong_17 : decode cJ30_makeLong 17 = .ok (.bipush 32, 2) := dk_16 32 (dk_at dksJ30_makeLong_0 17 rfl rfl)
theorem dJ30_makeLong_19 : decode cJ30_makeLong 19 = .ok (.invokestatic 784, 3) := dk_184 3 16 (dk_at dksJ30_makeLong_0 19 rfl rfl)
theorem dJ30_makeLong_22 : decode cJ30_makeLong 22 = .ok (.lshl, 1) := dk_121 (dk_at dksJ30_makeLong_0 22 rfl rfl)
theorem dJ30_makeLong_23 : decode cJ30_makeLong 23 = .ok (.lor, 1) := dk_129 (dk_at dksJ30_makeLong_0 23 rfl rfl)
theorem dJ30_makeLong_24 : decode cJ30_makeLong 24 = .ok (.lreturn, 1) := dk_173 (dk_at dksJ30_makeLong_1 0 rfl rfl)
abbrev cJ30_toUnsignedLong : ByteArray := prog_95_method_370_code
def yJ30_toUnsignedLong : MethodName := ⟨RJ30, "toUnsignedLong", "(I)J"⟩
def dkwJ30_toUnsignedLong_0 : List UInt8 := [26, 133, 20, 3, 44, 127, 173]
abbrev dktJ30_toUnsignedLong_0 : List UInt8 := dkwJ30_toUnsignedLong_0 ++ []
theorem dksJ30_toUnsignedLong_0 : cJ30_toUnsignedLong.data.toList.drop 0 = dktJ30_toUnsignedLong_0 := by decide +kernel
theorem dJ30_toUnsignedLong_0 : decode cJ30_toUnsignedLong 0 = .ok (.iload_n 0, 1) := dk_26 (dk_at dksJ30_toUnsignedLong_0 0 rfl rfl)
theorem dJ30_toUnsignedLong_1 : decode cJ30_toUnsignedLong 1 = .ok (.i2l, 1) := dk_133 (dk_at dksJ30_toUnsignedLong_0 1 rfl rfl)
theorem dJ30_toUnsignedLong_2 : decode cJ30_toUnsignedLong 2 = .ok (.ldc2_w 812, 3) := dk_20 3 44 (dk_at dksJ30_toUnsignedLong_0 2 rfl rfl)
theorem dJ30_toUnsignedLong_5 : decode cJ30_toUnsignedLong 5 = .ok (.land, 1) := dk_127 (dk_at dksJ30_toUnsignedLong_0 5 rfl rfl)
theorem dJ30_toUnsignedLong_6 : decode cJ30_toUnsignedLong 6 = .ok (.lreturn, 1) := dk_173 (dk_at dksJ30_toUnsignedLong_0 6 rfl rfl)
abbrev cJ30_pickPos : ByteArray := prog_95_method_350_code
def yJ30_pickPos : MethodName := ⟨RJ30, "pickPos", "(II)I"⟩
def dkwJ30_pickPos_0 : List UInt8 := [178, 1, 95, 153, 0, 9, 26, 27, 100, 167, 0, 4, 27, 172]
abbrev dktJ30_pickPos_0 : List UInt8 := dkwJ30_pickPos_0 ++ []
theorem dksJ30_pickPos_0 : cJ30_pickPos.data.toList.drop 0 = dktJ30_pickPos_0 := by decide +kernel
theorem dJ30_pickPos_0 : decode cJ30_pickPos 0 = .ok (.getstatic 351, 3) := dk_178 1 95 (dk_at dksJ30_pickPos_0 0 rfl rfl)
theorem dJ30_pickPos_3 : decode cJ30_pickPos 3 = .ok (.ifCond .eq 9, 3) := dk_153 0 9 (dk_at dksJ30_pickPos_0 3 rfl rfl)
theorem dJ30_pickPos_6 : decode cJ30_pickPos 6 = .ok (.iload_n 0, 1) := dk_26 (dk_at dksJ30_pickPos_0 6 rfl rfl)
theorem dJ30_pickPos_7 : decode cJ30_pickPos 7 = .ok (.iload_n 1, 1) := dk_27 (dk_at dksJ30_pickPos_0 7 rfl rfl)
theorem dJ30_pickPos_8 : decode cJ30_pickPos 8 = .ok (.isub, 1) := dk_100 (dk_at dksJ30_pickPos_0 8 rfl rfl)
theorem dJ30_pickPos_9 : decode cJ30_pickPos 9 = .ok (.goto 4, 3) := dk_167 0 4 (dk_at dksJ30_pickPos_0 9 rfl rfl)
theorem dJ30_pickPos_12 : decode cJ30_pickPos 12 = .ok (.iload_n 1, 1) := dk_27 (dk_at dksJ30_pickPos_0 12 rfl rfl)
theorem dJ30_pickPos_13 : decode cJ30_pickPos 13 = .ok (.ireturn, 1) := dk_172 (dk_at dksJ30_pickPos_0 13 rfl rfl)
abbrev cJ30_makeLong_2 : ByteArray := prog_95_method_352_code
def yJ30_makeLong_2 : MethodName := ⟨RJ30, "makeLong", "(SSSS)J"⟩
def dkwJ30_makeLong_2_2 : List UInt8 := [121, 129, 173]
abbrev dktJ30_makeLong_2_2 : List UInt8 := dkwJ30_makeLong_2_2 ++ []
def dkwJ30_makeLong_2_1 : List UInt8 := [28, 184, 3, 20, 16, 48, 16, 32, 184, 3, 16, 121, 129, 29, 184, 3, 20, 16, 48, 16, 48, 184, 3, 16]
abbrev dktJ30_makeLong_2_1 : List UInt8 := dkwJ30_makeLong_2_1 ++ dktJ30_makeLong_2_2
def dkwJ30_makeLong_2_0 : List UInt8 := [26, 184, 3, 20, 16, 48, 3, 184, 3, 16, 121, 27, 184, 3, 20, 16, 48, 16, 16, 184, 3, 16, 121, 129]
abbrev dktJ30_makeLong_2_0 : List UInt8 := dkwJ30_makeLong_2_0 ++ dktJ30_makeLong_2_1
theorem dksJ30_makeLong_2_0 : cJ30_makeLong_2.data.toList.drop 0 = dktJ30_makeLong_2_0 := by decide +kernel
theorem dksJ30_makeLong_2_1 : cJ30_makeLong_2.data.toList.drop 24 = dktJ30_makeLong_2_1 := dk_seg dksJ30_makeLong_2_0 24 rfl rfl
theorem dksJ30_makeLong_2_2 : cJ30_makeLong_2.data.toList.drop 48 = dktJ30_makeLong_2_2 := dk_seg dksJ30_makeLong_2_1 24 rfl rfl
theorem dJ30_makeLong_2_0 : decode cJ30_makeLong_2 0 = .ok (.iload_n 0, 1) := dk_26 (dk_at dksJ30_makeLong_2_0 0 rfl rfl)
theorem dJ30_makeLong_2_1 : decode cJ30_makeLong_2 1 = .ok (.invokestatic 788, 3) := dk_184 3 20 (dk_at dksJ30_makeLong_2_0 1 rfl rfl)
theorem dJ30_makeLong_2_4 : decode cJ30_makeLong_2 4 = .ok (.bipush 48, 2) := dk_16 48 (dk_at dksJ30_makeLong_2_0 4 rfl rfl)
theorem dJ30_makeLong_2_6 : decode cJ30_makeLong_2 6 = .ok (.iconst 0, 1) := dk_3 (dk_at dksJ30_makeLong_2_0 6 rfl rfl)
theorem dJ30_makeLong_2_7 : decode cJ30_makeLong_2 7 = .ok (.invokestatic 784, 3) := dk_184 3 16 (dk_at dksJ30_makeLong_2_0 7 rfl rfl)
theorem dJ30_makeLong_2_10 : decode cJ30_makeLong_2 10 = .ok (.lshl, 1) := dk_121 (dk_at dksJ30_makeLong_2_0 10 rfl rfl)
theorem dJ30_makeLong_2_11 : decode cJ30_makeLong_2 11 = .ok (.iload_n 1, 1) := dk_27 (dk_at dksJ30_makeLong_2_0 11 rfl rfl)
theorem dJ30_makeLong_2_12 : decode cJ30_makeLong_2 12 = .ok (.invokestatic 788, 3) := dk_184 3 20 (dk_at dksJ30_makeLong_2_0 12 rfl rfl)
theorem dJ30_makeLong_2_15 : decode cJ30_makeLong_2 15 = .ok (.bipush 48, 2) := dk_16 48 (dk_at dksJ30_makeLong_2_0 15 rfl rfl)
theorem dJ30_makeLong_2_17 : decode cJ30_makeLong_2 17 = .ok (.bipush 16, 2) := dk_16 16 (dk_at dksJ30_makeLong_2_0 17 rfl rfl)
theorem dJ30_makeLong_2_19 : decode cJ30_makeLong_2 19 = .ok (.invokestatic 784, 3) := dk_184 3 16 (dk_at dksJ30_makeLong_2_0 19 rfl rfl)
theorem dJ30_makeLong_2_22 : decode cJ30_makeLong_2 22 = .ok (.lshl, 1) := dk_121 (dk_at dksJ30_makeLong_2_0 22 rfl rfl)
theorem dJ30_makeLong_2_23 : decode cJ30_makeLong_2 23 = .ok (.lor, 1) := dk_129 (dk_at dksJ30_makeLong_2_0 23 rfl rfl)
theorem dJ30_makeLong_2_24 : decode cJ30_makeLong_2 24 = .ok (.iload_n 2, 1) := dk_28 (dk_at dksJ30_makeLong_2_1 0 rfl rfl)
theorem dJ30_makeLong_2_25 : decode cJ30_makeLong_2 25 = .ok (.invokestatic 788, 3) := dk_184 3 20 (dk_at dksJ30_makeLong_2_1 1 rfl rfl)
theorem dJ30_makeLong_2_28 : decode cJ30_makeLong_2 28 = .ok (.bipush 48, 2) := dk_16 48 (dk_at dksJ30_makeLong_2_1 4 rfl rfl)
theorem dJ30_makeLong_2_30 : decode cJ30_makeLong_2 30 = .ok (.bipush 32, 2) := dk_16 32 (dk_at dksJ30_makeLong_2_1 6 rfl rfl)
theorem dJ30_makeLong_2_32 : decode cJ30_makeLong_2 32 = .ok (.invokestatic 784, 3) := dk_184 3 16 (dk_at dksJ30_makeLong_2_1 8 rfl rfl)
theorem dJ30_makeLong_2_35 : decode cJ30_makeLong_2 35 = .ok (.lshl, 1) := dk_121 (dk_at dksJ30_makeLong_2_1 11 rfl rfl)
theorem dJ30_makeLong_2_36 : decode cJ30_makeLong_2 36 = .ok (.lor, 1) := dk_129 (dk_at dksJ30_makeLong_2_1 12 rfl rfl)
theorem dJ30_makeLong_2_37 : decode cJ30_makeLong_2 37 = .ok (.iload_n 3, 1) := dk_29 (dk_at dksJ30_makeLong_2_1 13 rfl rfl)
theorem dJ30_makeLong_2_38 : decode cJ30_makeLong_2 38 = .ok (.invokestatic 788, 3) := dk_184 3 20 (dk_at dksJ30_makeLong_2_1 14 rfl rfl)
theorem dJ30_makeLong_2_41 : decode cJ30_makeLong_2 41 = .ok (.bipush 48, 2) := dk_16 48 (dk_at dksJ30_makeLong_2_1 17 rfl rfl)
theorem dJ30_makeLong_2_43 : decode cJ30_makeLong_2 43 = .ok (.bipush 48, 2) := dk_16 48 (dk_at dksJ30_makeLong_2_1 19 rfl rfl)
theorem dJ30_makeLong_2_45 : decode cJ30_makeLong_2 45 = .ok (.invokestatic 784, 3) := dk_184 3 16 (dk_at dksJ30_makeLong_2_1 21 rfl rfl)
theorem dJ30_makeLong_2_48 : decode cJ30_makeLong_2 48 = .ok (.lshl, 1) := dk_121 (dk_at dksJ30_makeLong_2_2 0 rfl rfl)
theorem dJ30_makeLong_2_49 : decode cJ30_makeLong_2 49 = .ok (.lor, 1) := dk_129 (dk_at dksJ30_makeLong_2_2 1 rfl rfl)
theorem dJ30_makeLong_2_50 : decode cJ30_makeLong_2 50 = .ok (.lreturn, 1) := dk_173 (dk_at dksJ30_makeLong_2_2 2 rfl rfl)
abbrev cJ30_toUnsignedLong_2 : ByteArray := prog_95_method_369_code
def yJ30_toUnsignedLong_2 : MethodName := ⟨RJ30, "toUnsignedLong", "(S)J"⟩
def dkwJ30_toUnsignedLong_2_0 : List UInt8 := [26, 133, 20, 3, 42, 127, 173]
abbrev dktJ30_toUnsignedLong_2_0 : List UInt8 := dkwJ30_toUnsignedLong_2_0 ++ []
theorem dksJ30_toUnsignedLong_2_0 : cJ30_toUnsignedLong_2.data.toList.drop 0 = dktJ30_toUnsignedLong_2_0 := by decide +kernel
theorem dJ30_toUnsignedLong_2_0 : decode cJ30_toUnsignedLong_2 0 = .ok (.iload_n 0, 1) := dk_26 (dk_at dksJ30_toUnsignedLong_2_0 0 rfl rfl)
theorem dJ30_toUnsignedLong_2_1 : decode cJ30_toUnsignedLong_2 1 = .ok (.i2l, 1) := dk_133 (dk_at dksJ30_toUnsignedLong_2_0 1 rfl rfl)
theorem dJ30_toUnsignedLong_2_2 : decode cJ30_toUnsignedLong_2 2 = .ok (.ldc2_w 810, 3) := dk_20 3 42 (dk_at dksJ30_toUnsignedLong_2_0 2 rfl rfl)
theorem dJ30_toUnsignedLong_2_5 : decode cJ30_toUnsignedLong_2 5 = .ok (.land, 1) := dk_127 (dk_at dksJ30_toUnsignedLong_2_0 5 rfl rfl)
theorem dJ30_toUnsignedLong_2_6 : decode cJ30_toUnsignedLong_2 6 = .ok (.lreturn, 1) := dk_173 (dk_at dksJ30_toUnsignedLong_2_0 6 rfl rfl)
abbrev cJ30_makeLong_3 : ByteArray := prog_95_method_351_code
def yJ30_makeLong_3 : MethodName := ⟨RJ30, "makeLong", "(BBBBBBBB)J"⟩
def dkwJ30_makeLong_3_4 : List UInt8 := [184, 3, 13, 16, 56, 16, 56, 184, 3, 16, 121, 129, 173]
abbrev dktJ30_makeLong_3_4 : List UInt8 := dkwJ30_makeLong_3_4 ++ []
def dkwJ30_makeLong_3_3 : List UInt8 := [16, 40, 184, 3, 16, 121, 129, 21, 6, 184, 3, 13, 16, 56, 16, 48, 184, 3, 16, 121, 129, 21, 7]
abbrev dktJ30_makeLong_3_3 : List UInt8 := dkwJ30_makeLong_3_3 ++ dktJ30_makeLong_3_4
def dkwJ30_makeLong_3_2 : List UInt8 := [121, 129, 21, 4, 184, 3, 13, 16, 56, 16, 32, 184, 3, 16, 121, 129, 21, 5, 184, 3, 13, 16, 56]
abbrev dktJ30_makeLong_3_2 : List UInt8 := dkwJ30_makeLong_3_2 ++ dktJ30_makeLong_3_3
def dkwJ30_makeLong_3_1 : List UInt8 := [28, 184, 3, 13, 16, 56, 16, 16, 184, 3, 16, 121, 129, 29, 184, 3, 13, 16, 56, 16, 24, 184, 3, 16]
abbrev dktJ30_makeLong_3_1 : List UInt8 := dkwJ30_makeLong_3_1 ++ dktJ30_makeLong_3_2
def dkwJ30_makeLong_3_0 : List UInt8 := [26, 184, 3, 13, 16, 56, 3, 184, 3, 16, 121, 27, 184, 3, 13, 16, 56, 16, 8, 184, 3, 16, 121, 129]
abbrev dktJ30_makeLong_3_0 : List UInt8 := dkwJ30_makeLong_3_0 ++ dktJ30_makeLong_3_1
theorem dksJ30_makeLong_3_0 : cJ30_makeLong_3.data.toList.drop 0 = dktJ30_makeLong_3_0 := by decide +kernel
theorem dksJ30_makeLong_3_1 : cJ30_makeLong_3.data.toList.drop 24 = dktJ30_makeLong_3_1 := dk_seg dksJ30_makeLong_3_0 24 rfl rfl
theorem dksJ30_makeLong_3_2 : cJ30_makeLong_3.data.toList.drop 48 = dktJ30_makeLong_3_2 := dk_seg dksJ30_makeLong_3_1 24 rfl rfl
theorem dksJ30_makeLong_3_3 : cJ30_makeLong_3.data.toList.drop 71 = dktJ30_makeLong_3_3 := dk_seg dksJ30_makeLong_3_2 23 rfl rfl
theorem dksJ30_makeLong_3_4 : cJ30_makeLong_3.data.toList.drop 94 = dktJ30_makeLong_3_4 := dk_seg dksJ30_makeLong_3_3 23 rfl rfl
theorem dJ30_makeLong_3_0 : decode cJ30_makeLong_3 0 = .ok (.iload_n 0, 1) := dk_26 (dk_at dksJ30_makeLong_3_0 0 rfl rfl)
theorem dJ30_makeLong_3_1 : decode cJ30_makeLong_3 1 = .ok (.invokestatic 781, 3) := dk_184 3 13 (dk_at dksJ30_makeLong_3_0 1 rfl rfl)
theorem dJ30_makeLong_3_4 : decode cJ30_makeLong_3 4 = .ok (.bipush 56, 2) := dk_16 56 (dk_at dksJ30_makeLong_3_0 4 rfl rfl)
theorem dJ30_makeLong_3_6 : decode cJ30_makeLong_3 6 = .ok (.iconst 0, 1) := dk_3 (dk_at dksJ30_makeLong_3_0 6 rfl rfl)
theorem dJ30_makeLong_3_7 : decode cJ30_makeLong_3 7 = .ok (.invokestatic 784, 3) := dk_184 3 16 (dk_at dksJ30_makeLong_3_0 7 rfl rfl)
theorem dJ30_makeLong_3_10 : decode cJ30_makeLong_3 10 = .ok (.lshl, 1) := dk_121 (dk_at dksJ30_makeLong_3_0 10 rfl rfl)
theorem dJ30_makeLong_3_11 : decode cJ30_makeLong_3 11 = .ok (.iload_n 1, 1) := dk_27 (dk_at dksJ30_makeLong_3_0 11 rfl rfl)
theorem dJ30_makeLong_3_12 : decode cJ30_makeLong_3 12 = .ok (.invokestatic 781, 3) := dk_184 3 13 (dk_at dksJ30_makeLong_3_0 12 rfl rfl)
theorem dJ30_makeLong_3_15 : decode cJ30_makeLong_3 15 = .ok (.bipush 56, 2) := dk_16 56 (dk_at dksJ30_makeLong_3_0 15 rfl rfl)
theorem dJ30_makeLong_3_17 : decode cJ30_makeLong_3 17 = .ok (.bipush 8, 2) := dk_16 8 (dk_at dksJ30_makeLong_3_0 17 rfl rfl)
theorem dJ30_makeLong_3_19 : decode cJ30_makeLong_3 19 = .ok (.invokestatic 784, 3) := dk_184 3 16 (dk_at dksJ30_makeLong_3_0 19 rfl rfl)
theorem dJ30_makeLong_3_22 : decode cJ30_makeLong_3 22 = .ok (.lshl, 1) := dk_121 (dk_at dksJ30_makeLong_3_0 22 rfl rfl)
theorem dJ30_makeLong_3_23 : decode cJ30_makeLong_3 23 = .ok (.lor, 1) := dk_129 (dk_at dksJ30_makeLong_3_0 23 rfl rfl)
theorem dJ30_makeLong_3_24 : decode cJ30_makeLong_3 24 = .ok (.iload_n 2, 1) := dk_28 (dk_at dksJ30_makeLong_3_1 0 rfl rfl)
theorem dJ30_makeLong_3_25 : decode cJ30_makeLong_3 25 = .ok (.invokestatic 781, 3) := dk_184 3 13 (dk_at dksJ30_makeLong_3_1 1 rfl rfl)
theorem dJ30_makeLong_3_28 : decode cJ30_makeLong_3 28 = .ok (.bipush 56, 2) := dk_16 56 (dk_at dksJ30_makeLong_3_1 4 rfl rfl)
theorem dJ30_makeLong_3_30 : decode cJ30_makeLong_3 30 = .ok (.bipush 16, 2) := dk_16 16 (dk_at dksJ30_makeLong_3_1 6 rfl rfl)
theorem dJ30_makeLong_3_32 : decode cJ30_makeLong_3 32 = .ok (.invokestatic 784, 3) := dk_184 3 16 (dk_at dksJ30_makeLong_3_1 8 rfl rfl)
theorem dJ30_makeLong_3_35 : decode cJ30_makeLong_3 35 = .ok (.lshl, 1) := dk_121 (dk_at dksJ30_makeLong_3_1 11 rfl rfl)
theorem dJ30_makeLong_3_36 : decode cJ30_makeLong_3 36 = .ok (.lor, 1) := dk_129 (dk_at dksJ30_makeLong_3_1 12 rfl rfl)
theorem dJ30_makeLong_3_37 : decode cJ30_makeLong_3 37 = .ok (.iload_n 3, 1) := dk_29 (dk_at dksJ30_makeLong_3_1 13 rfl rfl)
theorem dJ30_makeLong_3_38 : decode cJ30_makeLong_3 38 = .ok (.invokestatic 781, 3) := dk_184 3 13 (dk_at dksJ30_makeLong_3_1 14 rfl rfl)
theorem dJ30_makeLong_3_41 : decode cJ30_makeLong_3 41 = .ok (.bipush 56, 2) := dk_16 56 (dk_at dksJ30_makeLong_3_1 17 rfl rfl)
theorem dJ30_makeLong_3_43 : decode cJ30_makeLong_3 43 = .ok (.bipush 24, 2) := dk_16 24 (dk_at dksJ30_makeLong_3_1 19 rfl rfl)
theorem dJ30_makeLong_3_45 : decode cJ30_makeLong_3 45 = .ok (.invokestatic 784, 3) := dk_184 3 16 (dk_at dksJ30_makeLong_3_1 21 rfl rfl)
theorem dJ30_makeLong_3_48 : decode cJ30_makeLong_3 48 = .ok (.lshl, 1) := dk_121 (dk_at dksJ30_makeLong_3_2 0 rfl rfl)
theorem dJ30_makeLong_3_49 : decode cJ30_makeLong_3 49 = .ok (.lor, 1) := dk_129 (dk_at dksJ30_makeLong_3_2 1 rfl rfl)
theorem dJ30_makeLong_3_50 : decode cJ30_makeLong_3 50 = .ok (.iload 4, 2) := dk_21 4 (dk_at dksJ30_makeLong_3_2 2 rfl rfl)
theorem dJ30_makeLong_3_52 : decode cJ30_makeLong_3 52 = .ok (.invokestatic 781, 3) := dk_184 3 13 (dk_at dksJ30_makeLong_3_2 4 rfl rfl)
theorem dJ30_makeLong_3_55 : decode cJ30_makeLong_3 55 = .ok (.bipush 56, 2) := dk_16 56 (dk_at dksJ30_makeLong_3_2 7 rfl rfl)
theorem dJ30_makeLong_3_57 : decode cJ30_makeLong_3 57 = .ok (.bipush 32, 2) := dk_16 32 (dk_at dksJ30_makeLong_3_2 9 rfl rfl)
theorem dJ30_makeLong_3_59 : decode cJ30_makeLong_3 59 = .ok (.invokestatic 784, 3) := dk_184 3 16 (dk_at dksJ30_makeLong_3_2 11 rfl rfl)
theorem dJ30_makeLong_3_62 : decode cJ30_makeLong_3 62 = .ok (.lshl, 1) := dk_121 (dk_at dksJ30_makeLong_3_2 14 rfl rfl)
theorem dJ30_makeLong_3_63 : decode cJ30_makeLong_3 63 = .ok (.lor, 1) := dk_129 (dk_at dksJ30_makeLong_3_2 15 rfl rfl)
theorem dJ30_makeLong_3_64 : decode cJ30_makeLong_3 64 = .ok (.iload 5, 2) := dk_21 5 (dk_at dksJ30_makeLong_3_2 16 rfl rfl)
theorem dJ30_makeLong_3_66 : decode cJ30_makeLong_3 66 = .ok (.invokestatic 781, 3) := dk_184 3 13 (dk_at dksJ30_makeLong_3_2 18 rfl rfl)
theorem dJ30_makeLong_3_69 : decode cJ30_makeLong_3 69 = .ok (.bipush 56, 2) := dk_16 56 (dk_at dksJ30_makeLong_3_2 21 rfl rfl)
theorem dJ30_makeLong_3_71 : decode cJ30_makeLong_3 71 = .ok (.bipush 40, 2) := dk_16 40 (dk_at dksJ30_makeLong_3_3 0 rfl rfl)
theorem dJ30_makeLong_3_73 : decode cJ30_makeLong_3 73 = .ok (.invokestatic 784, 3) := dk_184 3 16 (dk_at dksJ30_makeLong_3_3 2 rfl rfl)
theorem dJ30_makeLong_3_76 : decode cJ30_makeLong_3 76 = .ok (.lshl, 1) := dk_121 (dk_at dksJ30_makeLong_3_3 5 rfl rfl)
theorem dJ30_makeLong_3_77 : decode cJ30_makeLong_3 77 = .ok (.lor, 1) := dk_129 (dk_at dksJ30_makeLong_3_3 6 rfl rfl)
theorem dJ30_makeLong_3_78 : decode cJ30_makeLong_3 78 = .ok (.iload 6, 2) := dk_21 6 (dk_at dksJ30_makeLong_3_3 7 rfl rfl)
theorem dJ30_makeLong_3_80 : decode cJ30_makeLong_3 80 = .ok (.invokestatic 781, 3) := dk_184 3 13 (dk_at dksJ30_makeLong_3_3 9 rfl rfl)
theorem dJ30_makeLong_3_83 : decode cJ30_makeLong_3 83 = .ok (.bipush 56, 2) := dk_16 56 (dk_at dksJ30_makeLong_3_3 12 rfl rfl)
theorem dJ30_makeLong_3_85 : decode cJ30_makeLong_3 85 = .ok (.bipush 48, 2) := dk_16 48 (dk_at dksJ30_makeLong_3_3 14 rfl rfl)
theorem dJ30_makeLong_3_87 : decode cJ30_makeLong_3 87 = .ok (.invokestatic 784, 3) := dk_184 3 16 (dk_at dksJ30_makeLong_3_3 16 rfl rfl)
theorem dJ30_makeLong_3_90 : decode cJ30_makeLong_3 90 = .ok (.lshl, 1) := dk_121 (dk_at dksJ30_makeLong_3_3 19 rfl rfl)
theorem dJ30_makeLong_3_91 : decode cJ30_makeLong_3 91 = .ok (.lor, 1) := dk_129 (dk_at dksJ30_makeLong_3_3 20 rfl rfl)
theorem dJ30_makeLong_3_92 : decode cJ30_makeLong_3 92 = .ok (.iload 7, 2) := dk_21 7 (dk_at dksJ30_makeLong_3_3 21 rfl rfl)
theorem dJ30_makeLong_3_94 : decode cJ30_makeLong_3 94 = .ok (.invokestatic 781, 3) := dk_184 3 13 (dk_at dksJ30_makeLong_3_4 0 rfl rfl)
theorem dJ30_makeLong_3_97 : decode cJ30_makeLong_3 97 = .ok (.bipush 56, 2) := dk_16 56 (dk_at dksJ30_makeLong_3_4 3 rfl rfl)
theorem dJ30_makeLong_3_99 : decode cJ30_makeLong_3 99 = .ok (.bipush 56, 2) := dk_16 56 (dk_at dksJ30_makeLong_3_4 5 rfl rfl)
theorem dJ30_makeLong_3_101 : decode cJ30_makeLong_3 101 = .ok (.invokestatic 784, 3) := dk_184 3 16 (dk_at dksJ30_makeLong_3_4 7 rfl rfl)
theorem dJ30_makeLong_3_104 : decode cJ30_makeLong_3 104 = .ok (.lshl, 1) := dk_121 (dk_at dksJ30_makeLong_3_4 10 rfl rfl)
theorem dJ30_makeLong_3_105 : decode cJ30_makeLong_3 105 = .ok (.lor, 1) := dk_129 (dk_at dksJ30_makeLong_3_4 11 rfl rfl)
theorem dJ30_makeLong_3_106 : decode cJ30_makeLong_3 106 = .ok (.lreturn, 1) := dk_173 (dk_at dksJ30_makeLong_3_4 12 rfl rfl)
abbrev cJ30_toUnsignedLong_3 : ByteArray := prog_95_method_368_code
def yJ30_toUnsignedLong_3 : MethodName := ⟨RJ30, "toUnsignedLong", "(B)J"⟩
def dkwJ30_toUnsignedLong_3_0 : List UInt8 := [26, 133, 20, 3, 40, 127, 173]
abbrev dktJ30_toUnsignedLong_3_0 : List UInt8 := dkwJ30_toUnsignedLong_3_0 ++ []
theorem dksJ30_toUnsignedLong_3_0 : cJ30_toUnsignedLong_3.data.toList.drop 0 = dktJ30_toUnsignedLong_3_0 := by decide +kernel
theorem dJ30_toUnsignedLong_3_0 : decode cJ30_toUnsignedLong_3 0 = .ok (.iload_n 0, 1) := dk_26 (dk_at dksJ30_toUnsignedLong_3_0 0 rfl rfl)
theorem dJ30_toUnsignedLong_3_1 : decode cJ30_toUnsignedLong_3 1 = .ok (.i2l, 1) := dk_133 (dk_at dksJ30_toUnsignedLong_3_0 1 rfl rfl)
theorem dJ30_toUnsignedLong_3_2 : decode cJ30_toUnsignedLong_3 2 = .ok (.ldc2_w 808, 3) := dk_20 3 40 (dk_at dksJ30_toUnsignedLong_3_0 2 rfl rfl)
theorem dJ30_toUnsignedLong_3_5 : decode cJ30_toUnsignedLong_3 5 = .ok (.land, 1) := dk_127 (dk_at dksJ30_toUnsignedLong_3_0 5 rfl rfl)
theorem dJ30_toUnsignedLong_3_6 : decode cJ30_toUnsignedLong_3 6 = .ok (.lreturn, 1) := dk_173 (dk_at dksJ30_toUnsignedLong_3_0 6 rfl rfl)
abbrev cJ30_getIntUnaligned : ByteArray := prog_95_method_336_code
def yJ30_getIntUnaligned : MethodName := ⟨RJ30, "getIntUnaligned", "(Ljava/lang/Object;J)I"⟩
def dkwJ30_getIntUnaligned_3 : List UInt8 := [43, 32, 20, 1, 93, 97, 182, 0, 39, 184, 2, 211, 172]
abbrev dktJ30_getIntUnaligned_3 : List UInt8 := dkwJ30_getIntUnaligned_3 ++ []
def dkwJ30_getIntUnaligned_2 : List UInt8 := [43, 32, 182, 0, 39, 42, 43, 32, 10, 97, 182, 0, 39, 42, 43, 32, 20, 0, 203, 97, 182, 0, 39, 42]
abbrev dktJ30_getIntUnaligned_2 : List UInt8 := dkwJ30_getIntUnaligned_2 ++ dktJ30_getIntUnaligned_3
def dkwJ30_getIntUnaligned_1 : List UInt8 := [154, 0, 23, 42, 43, 32, 182, 0, 47, 42, 43, 32, 20, 0, 203, 97, 182, 0, 47, 184, 2, 207, 172, 42]
abbrev dktJ30_getIntUnaligned_1 : List UInt8 := dkwJ30_getIntUnaligned_1 ++ dktJ30_getIntUnaligned_2
def dkwJ30_getIntUnaligned_0 : List UInt8 := [32, 20, 1, 93, 127, 9, 148, 154, 0, 10, 42, 43, 32, 182, 0, 17, 172, 32, 10, 127, 9, 148]
abbrev dktJ30_getIntUnaligned_0 : List UInt8 := dkwJ30_getIntUnaligned_0 ++ dktJ30_getIntUnaligned_1
theorem dksJ30_getIntUnaligned_0 : cJ30_getIntUnaligned.data.toList.drop 0 = dktJ30_getIntUnaligned_0 := by decide +kernel
theorem dksJ30_getIntUnaligned_1 : cJ30_getIntUnaligned.data.toList.drop 22 = dktJ30_getIntUnaligned_1 := dk_seg dksJ30_getIntUnaligned_0 22 rfl rfl
theorem dksJ30_getIntUnaligned_2 : cJ30_getIntUnaligned.data.toList.drop 46 = dktJ30_getIntUnaligned_2 := dk_seg dksJ30_getIntUnaligned_1 24 rfl rfl
theorem dksJ30_getIntUnaligned_3 : cJ30_getIntUnaligned.data.toList.drop 70 = dktJ30_getIntUnaligned_3 := dk_seg dksJ30_getIntUnaligned_2 24 rfl rfl
theorem dJ30_getIntUnaligned_0 : decode cJ30_getIntUnaligned 0 = .ok (.lload_n 2, 1) := dk_32 (dk_at dksJ30_getIntUnaligned_0 0 rfl rfl)
theorem dJ30_getIntUnaligned_1 : decode cJ30_getIntUnaligned 1 = .ok (.ldc2_w 349, 3) := dk_20 1 93 (dk_at dksJ30_getIntUnaligned_0 1 rfl rfl)
theorem dJ30_getIntUnaligned_4 : decode cJ30_getIntUnaligned 4 = .ok (.land, 1) := dk_127 (dk_at dksJ30_getIntUnaligned_0 4 rfl rfl)
theorem dJ30_getIntUnaligned_5 : decode cJ30_getIntUnaligned 5 = .ok (.lconst 0, 1) := dk_9 (dk_at dksJ30_getIntUnaligned_0 5 rfl rfl)
theorem dJ30_getIntUnaligned_6 : decode cJ30_getIntUnaligned 6 = .ok (.lcmp, 1) := dk_148 (dk_at dksJ30_getIntUnaligned_0 6 rfl rfl)
theorem dJ30_getIntUnaligned_7 : decode cJ30_getIntUnaligned 7 = .ok (.ifCond .ne 10, 3) := dk_154 0 10 (dk_at dksJ30_getIntUnaligned_0 7 rfl rfl)
theorem dJ30_getIntUnaligned_10 : decode cJ30_getIntUnaligned 10 = .ok (.aload_n 0, 1) := dk_42 (dk_at dksJ30_getIntUnaligned_0 10 rfl rfl)
theorem dJ30_getIntUnaligned_11 : decode cJ30_getIntUnaligned 11 = .ok (.aload_n 1, 1) := dk_43 (dk_at dksJ30_getIntUnaligned_0 11 rfl rfl)
theorem dJ30_getIntUnaligned_12 : decode cJ30_getIntUnaligned 12 = .ok (.lload_n 2, 1) := dk_32 (dk_at dksJ30_getIntUnaligned_0 12 rfl rfl)
theorem dJ30_getIntUnaligned_13 : decode cJ30_getIntUnaligned 13 = .ok (.invokevirtual 17, 3) := dk_182 0 17 (dk_at dksJ30_getIntUnaligned_0 13 rfl rfl)
theorem dJ30_getIntUnaligned_16 : decode cJ30_getIntUnaligned 16 = .ok (.ireturn, 1) := dk_172 (dk_at dksJ30_getIntUnaligned_0 16 rfl rfl)
theorem dJ30_getIntUnaligned_17 : decode cJ30_getIntUnaligned 17 = .ok (.lload_n 2, 1) := dk_32 (dk_at dksJ30_getIntUnaligned_0 17 rfl rfl)
theorem dJ30_getIntUnaligned_18 : decode cJ30_getIntUnaligned 18 = .ok (.lconst 1, 1) := dk_10 (dk_at dksJ30_getIntUnaligned_0 18 rfl rfl)
theorem dJ30_getIntUnaligned_19 : decode cJ30_getIntUnaligned 19 = .ok (.land, 1) := dk_127 (dk_at dksJ30_getIntUnaligned_0 19 rfl rfl)
theorem dJ30_getIntUnaligned_20 : decode cJ30_getIntUnaligned 20 = .ok (.lconst 0, 1) := dk_9 (dk_at dksJ30_getIntUnaligned_0 20 rfl rfl)
theorem dJ30_getIntUnaligned_21 : decode cJ30_getIntUnaligned 21 = .ok (.lcmp, 1) := dk_148 (dk_at dksJ30_getIntUnaligned_0 21 rfl rfl)
theorem dJ30_getIntUnaligned_22 : decode cJ30_getIntUnaligned 22 = .ok (.ifCond .ne 23, 3) := dk_154 0 23 (dk_at dksJ30_getIntUnaligned_1 0 rfl rfl)
theorem dJ30_getIntUnaligned_25 : decode cJ30_getIntUnaligned 25 = .ok (.aload_n 0, 1) := dk_42 (dk_at dksJ30_getIntUnaligned_1 3 rfl rfl)
theorem dJ30_getIntUnaligned_26 : decode cJ30_getIntUnaligned 26 = .ok (.aload_n 1, 1) := dk_43 (dk_at dksJ30_getIntUnaligned_1 4 rfl rfl)
theorem dJ30_getIntUnaligned_27 : decode cJ30_getIntUnaligned 27 = .ok (.lload_n 2, 1) := dk_32 (dk_at dksJ30_getIntUnaligned_1 5 rfl rfl)
theorem dJ30_getIntUnaligned_28 : decode cJ30_getIntUnaligned 28 = .ok (.invokevirtual 47, 3) := dk_182 0 47 (dk_at dksJ30_getIntUnaligned_1 6 rfl rfl)
theorem dJ30_getIntUnaligned_31 : decode cJ30_getIntUnaligned 31 = .ok (.aload_n 0, 1) := dk_42 (dk_at dksJ30_getIntUnaligned_1 9 rfl rfl)
theorem dJ30_getIntUnaligned_32 : decode cJ30_getIntUnaligned 32 = .ok (.aload_n 1, 1) := dk_43 (dk_at dksJ30_getIntUnaligned_1 10 rfl rfl)
theorem dJ30_getIntUnaligned_33 : decode cJ30_getIntUnaligned 33 = .ok (.lload_n 2, 1) := dk_32 (dk_at dksJ30_getIntUnaligned_1 11 rfl rfl)
theorem dJ30_getIntUnaligned_34 : decode cJ30_getIntUnaligned 34 = .ok (.ldc2_w 203, 3) := dk_20 0 203 (dk_at dksJ30_getIntUnaligned_1 12 rfl rfl)
theorem dJ30_getIntUnaligned_37 : decode cJ30_getIntUnaligned 37 = .ok (.ladd, 1) := dk_97 (dk_at dksJ30_getIntUnaligned_1 15 rfl rfl)
theorem dJ30_getIntUnaligned_38 : decode cJ30_getIntUnaligned 38 = .ok (.invokevirtual 47, 3) := dk_182 0 47 (dk_at dksJ30_getIntUnaligned_1 16 rfl rfl)
theorem dJ30_getIntUnaligned_41 : decode cJ30_getIntUnaligned 41 = .ok (.invokestatic 719, 3) := dk_184 2 207 (dk_at dksJ30_getIntUnaligned_1 19 rfl rfl)
theorem dJ30_getIntUnaligned_44 : decode cJ30_getIntUnaligned 44 = .ok (.ireturn, 1) := dk_172 (dk_at dksJ30_getIntUnaligned_1 22 rfl rfl)
theorem dJ30_getIntUnaligned_45 : decode cJ30_getIntUnaligned 45 = .ok (.aload_n 0, 1) := dk_42 (dk_at dksJ30_getIntUnaligned_1 23 rfl rfl)
theorem dJ30_getIntUnaligned_46 : decode cJ30_getIntUnaligned 46 = .ok (.aload_n 1, 1) := dk_43 (dk_at dksJ30_getIntUnaligned_2 0 rfl rfl)
theorem dJ30_getIntUnaligned_47 : decode cJ30_getIntUnaligned 47 = .ok (.lload_n 2, 1) := dk_32 (dk_at dksJ30_getIntUnaligned_2 1 rfl rfl)
theorem dJ30_getIntUnaligned_48 : decode cJ30_getIntUnaligned 48 = .ok (.invokevirtual 39, 3) := dk_182 0 39 (dk_at dksJ30_getIntUnaligned_2 2 rfl rfl)
theorem dJ30_getIntUnaligned_51 : decode cJ30_getIntUnaligned 51 = .ok (.aload_n 0, 1) := dk_42 (dk_at dksJ30_getIntUnaligned_2 5 rfl rfl)
theorem dJ30_getIntUnaligned_52 : decode cJ30_getIntUnaligned 52 = .ok (.aload_n 1, 1) := dk_43 (dk_at dksJ30_getIntUnaligned_2 6 rfl rfl)
theorem dJ30_getIntUnaligned_53 : decode cJ30_getIntUnaligned 53 = .ok (.lload_n 2, 1) := dk_32 (dk_at dksJ30_getIntUnaligned_2 7 rfl rfl)
theorem dJ30_getIntUnaligned_54 : decode cJ30_getIntUnaligned 54 = .ok (.lconst 1, 1) := dk_10 (dk_at dksJ30_getIntUnaligned_2 8 rfl rfl)
theorem dJ30_getIntUnaligned_55 : decode cJ30_getIntUnaligned 55 = .ok (.ladd, 1) := dk_97 (dk_at dksJ30_getIntUnaligned_2 9 rfl rfl)
theorem dJ30_getIntUnaligned_56 : decode cJ30_getIntUnaligned 56 = .ok (.invokevirtual 39, 3) := dk_182 0 39 (dk_at dksJ30_getIntUnaligned_2 10 rfl rfl)
theorem dJ30_getIntUnaligned_59 : decode cJ30_getIntUnaligned 59 = .ok (.aload_n 0, 1) := dk_42 (dk_at dksJ30_getIntUnaligned_2 13 rfl rfl)
theorem dJ30_getIntUnaligned_60 : decode cJ30_getIntUnaligned 60 = .ok (.aload_n 1, 1) := dk_43 (dk_at dksJ30_getIntUnaligned_2 14 rfl rfl)
theorem dJ30_getIntUnaligned_61 : decode cJ30_getIntUnaligned 61 = .ok (.lload_n 2, 1) := dk_32 (dk_at dksJ30_getIntUnaligned_2 15 rfl rfl)
theorem dJ30_getIntUnaligned_62 : decode cJ30_getIntUnaligned 62 = .ok (.ldc2_w 203, 3) := dk_20 0 203 (dk_at dksJ30_getIntUnaligned_2 16 rfl rfl)
theorem dJ30_getIntUnaligned_65 : decode cJ30_getIntUnaligned 65 = .ok (.ladd, 1) := dk_97 (dk_at dksJ30_getIntUnaligned_2 19 rfl rfl)
theorem dJ30_getIntUnaligned_66 : decode cJ30_getIntUnaligned 66 = .ok (.invokevirtual 39, 3) := dk_182 0 39 (dk_at dksJ30_getIntUnaligned_2 20 rfl rfl)
theorem dJ30_getIntUnaligned_69 : decode cJ30_getIntUnaligned 69 = .ok (.aload_n 0, 1) := dk_42 (dk_at dksJ30_getIntUnaligned_2 23 rfl rfl)
theorem dJ30_getIntUnaligned_70 : decode cJ30_getIntUnaligned 70 = .ok (.aload_n 1, 1) := dk_43 (dk_at dksJ30_getIntUnaligned_3 0 rfl rfl)
theorem dJ30_getIntUnaligned_71 : decode cJ30_getIntUnaligned 71 = .ok (.lload_n 2, 1) := dk_32 (dk_at dksJ30_getIntUnaligned_3 1 rfl rfl)
theorem dJ30_getIntUnaligned_72 : decode cJ30_getIntUnaligned 72 = .ok (.ldc2_w 349, 3) := dk_20 1 93 (dk_at dksJ30_getIntUnaligned_3 2 rfl rfl)
theorem dJ30_getIntUnaligned_75 : decode cJ30_getIntUnaligned 75 = .ok (.ladd, 1) := dk_97 (dk_at dksJ30_getIntUnaligned_3 5 rfl rfl)
theorem dJ30_getIntUnaligned_76 : decode cJ30_getIntUnaligned 76 = .ok (.invokevirtual 39, 3) := dk_182 0 39 (dk_at dksJ30_getIntUnaligned_3 6 rfl rfl)
theorem dJ30_getIntUnaligned_79 : decode cJ30_getIntUnaligned 79 = .ok (.invokestatic 723, 3) := dk_184 2 211 (dk_at dksJ30_getIntUnaligned_3 9 rfl rfl)
theorem dJ30_getIntUnaligned_82 : decode cJ30_getIntUnaligned 82 = .ok (.ireturn, 1) := dk_172 (dk_at dksJ30_getIntUnaligned_3 12 rfl rfl)
abbrev cJ30_makeInt : ByteArray := prog_95_method_354_code
def yJ30_makeInt : MethodName := ⟨RJ30, "makeInt", "(SS)I"⟩
def dkwJ30_makeInt_1 : List UInt8 := [172]
abbrev dktJ30_makeInt_1 : List UInt8 := dkwJ30_makeInt_1 ++ []
def dkwJ30_makeInt_0 : List UInt8 := [26, 184, 3, 24, 16, 16, 3, 184, 3, 16, 120, 27, 184, 3, 24, 16, 16, 16, 16, 184, 3, 16, 120, 128]
abbrev dktJ30_makeInt_0 : List UInt8 := dkwJ30_makeInt_0 ++ dktJ30_makeInt_1
theorem dksJ30_makeInt_0 : cJ30_makeInt.data.toList.drop 0 = dktJ30_makeInt_0 := by decide +kernel
theorem dksJ30_makeInt_1 : cJ30_makeInt.data.toList.drop 24 = dktJ30_makeInt_1 := dk_seg dksJ30_makeInt_0 24 rfl rfl
theorem dJ30_makeInt_0 : decode cJ30_makeInt 0 = .ok (.iload_n 0, 1) := dk_26 (dk_at dksJ30_makeInt_0 0 rfl rfl)
theorem dJ30_makeInt_1 : decode cJ30_makeInt 1 = .ok (.invokestatic 792, 3) := dk_184 3 24 (dk_at dksJ30_makeInt_0 1 rfl rfl)
theorem dJ30_makeInt_4 : decode cJ30_makeInt 4 = .ok (.bipush 16, 2) := dk_16 16 (dk_at dksJ30_makeInt_0 4 rfl rfl)
theorem dJ30_makeInt_6 : decode cJ30_makeInt 6 = .ok (.iconst 0, 1) := dk_3 (dk_at dksJ30_makeInt_0 6 rfl rfl)
theorem dJ30_makeInt_7 : decode cJ30_makeInt 7 = .ok (.invokestatic 784, 3) := dk_184 3 16 (dk_at dksJ30_makeInt_0 7 rfl rfl)
theorem dJ30_makeInt_10 : decode cJ30_makeInt 10 = .ok (.ishl, 1) := dk_120 (dk_at dksJ30_makeInt_0 10 rfl rfl)
theorem dJ30_makeInt_11 : decode cJ30_makeInt 11 = .ok (.iload_n 1, 1) := dk_27 (dk_at dksJ30_makeInt_0 11 rfl rfl)
theorem dJ30_makeInt_12 : decode cJ30_makeInt 12 = .ok (.invokestatic 792, 3) := dk_184 3 24 (dk_at dksJ30_makeInt_0 12 rfl rfl)
theorem dJ30_makeInt_15 : decode cJ30_makeInt 15 = .ok (.bipush 16, 2) := dk_16 16 (dk_at dksJ30_makeInt_0 15 rfl rfl)
theorem dJ30_makeInt_17 : decode cJ30_makeInt 17 = .ok (.bipush 16, 2) := dk_16 16 (dk_at dksJ30_makeInt_0 17 rfl rfl)
theorem dJ30_makeInt_19 : decode cJ30_makeInt 19 = .ok (.invokestatic 784, 3) := dk_184 3 16 (dk_at dksJ30_makeInt_0 19 rfl rfl)
theorem dJ30_makeInt_22 : decode cJ30_makeInt 22 = .ok (.ishl, 1) := dk_120 (dk_at dksJ30_makeInt_0 22 rfl rfl)
theorem dJ30_makeInt_23 : decode cJ30_makeInt 23 = .ok (.ior, 1) := dk_128 (dk_at dksJ30_makeInt_0 23 rfl rfl)
theorem dJ30_makeInt_24 : decode cJ30_makeInt 24 = .ok (.ireturn, 1) := dk_172 (dk_at dksJ30_makeInt_1 0 rfl rfl)
abbrev cJ30_toUnsignedInt : ByteArray := prog_95_method_367_code
def yJ30_toUnsignedInt : MethodName := ⟨RJ30, "toUnsignedInt", "(S)I"⟩
def dkwJ30_toUnsignedInt_0 : List UInt8 := [26, 19, 1, 118, 126, 172]
abbrev dktJ30_toUnsignedInt_0 : List UInt8 := dkwJ30_toUnsignedInt_0 ++ []
theorem dksJ30_toUnsignedInt_0 : cJ30_toUnsignedInt.data.toList.drop 0 = dktJ30_toUnsignedInt_0 := by decide +kernel
theorem dJ30_toUnsignedInt_0 : decode cJ30_toUnsignedInt 0 = .ok (.iload_n 0, 1) := dk_26 (dk_at dksJ30_toUnsignedInt_0 0 rfl rfl)
theorem dJ30_toUnsignedInt_1 : decode cJ30_toUnsignedInt 1 = .ok (.ldc_w 374, 3) := dk_19 1 118 (dk_at dksJ30_toUnsignedInt_0 1 rfl rfl)
theorem dJ30_toUnsignedInt_4 : decode cJ30_toUnsignedInt 4 = .ok (.iand, 1) := dk_126 (dk_at dksJ30_toUnsignedInt_0 4 rfl rfl)
theorem dJ30_toUnsignedInt_5 : decode cJ30_toUnsignedInt 5 = .ok (.ireturn, 1) := dk_172 (dk_at dksJ30_toUnsignedInt_0 5 rfl rfl)
abbrev cJ30_makeInt_2 : ByteArray := prog_95_method_355_code
def yJ30_makeInt_2 : MethodName := ⟨RJ30, "makeInt", "(BBBB)I"⟩
def dkwJ30_makeInt_2_2 : List UInt8 := [120, 128, 172]
abbrev dktJ30_makeInt_2_2 : List UInt8 := dkwJ30_makeInt_2_2 ++ []
def dkwJ30_makeInt_2_1 : List UInt8 := [28, 184, 3, 28, 16, 24, 16, 16, 184, 3, 16, 120, 128, 29, 184, 3, 28, 16, 24, 16, 24, 184, 3, 16]
abbrev dktJ30_makeInt_2_1 : List UInt8 := dkwJ30_makeInt_2_1 ++ dktJ30_makeInt_2_2
def dkwJ30_makeInt_2_0 : List UInt8 := [26, 184, 3, 28, 16, 24, 3, 184, 3, 16, 120, 27, 184, 3, 28, 16, 24, 16, 8, 184, 3, 16, 120, 128]
abbrev dktJ30_makeInt_2_0 : List UInt8 := dkwJ30_makeInt_2_0 ++ dktJ30_makeInt_2_1
theorem dksJ30_makeInt_2_0 : cJ30_makeInt_2.data.toList.drop 0 = dktJ30_makeInt_2_0 := by decide +kernel
theorem dksJ30_makeInt_2_1 : cJ30_makeInt_2.data.toList.drop 24 = dktJ30_makeInt_2_1 := dk_seg dksJ30_makeInt_2_0 24 rfl rfl
theorem dksJ30_makeInt_2_2 : cJ30_makeInt_2.data.toList.drop 48 = dktJ30_makeInt_2_2 := dk_seg dksJ30_makeInt_2_1 24 rfl rfl
theorem dJ30_makeInt_2_0 : decode cJ30_makeInt_2 0 = .ok (.iload_n 0, 1) := dk_26 (dk_at dksJ30_makeInt_2_0 0 rfl rfl)
theorem dJ30_makeInt_2_1 : decode cJ30_makeInt_2 1 = .ok (.invokestatic 796, 3) := dk_184 3 28 (dk_at dksJ30_makeInt_2_0 1 rfl rfl)
theorem dJ30_makeInt_2_4 : decode cJ30_makeInt_2 4 = .ok (.bipush 24, 2) := dk_16 24 (dk_at dksJ30_makeInt_2_0 4 rfl rfl)
theorem dJ30_makeInt_2_6 : decode cJ30_makeInt_2 6 = .ok (.iconst 0, 1) := dk_3 (dk_at dksJ30_makeInt_2_0 6 rfl rfl)
theorem dJ30_makeInt_2_7 : decode cJ30_makeInt_2 7 = .ok (.invokestatic 784, 3) := dk_184 3 16 (dk_at dksJ30_makeInt_2_0 7 rfl rfl)
theorem dJ30_makeInt_2_10 : decode cJ30_makeInt_2 10 = .ok (.ishl, 1) := dk_120 (dk_at dksJ30_makeInt_2_0 10 rfl rfl)
theorem dJ30_makeInt_2_11 : decode cJ30_makeInt_2 11 = .ok (.iload_n 1, 1) := dk_27 (dk_at dksJ30_makeInt_2_0 11 rfl rfl)
theorem dJ30_makeInt_2_12 : decode cJ30_makeInt_2 12 = .ok (.invokestatic 796, 3) := dk_184 3 28 (dk_at dksJ30_makeInt_2_0 12 rfl rfl)
theorem dJ30_makeInt_2_15 : decode cJ30_makeInt_2 15 = .ok (.bipush 24, 2) := dk_16 24 (dk_at dksJ30_makeInt_2_0 15 rfl rfl)
theorem dJ30_makeInt_2_17 : decode cJ30_makeInt_2 17 = .ok (.bipush 8, 2) := dk_16 8 (dk_at dksJ30_makeInt_2_0 17 rfl rfl)
theorem dJ30_makeInt_2_19 : decode cJ30_makeInt_2 19 = .ok (.invokestatic 784, 3) := dk_184 3 16 (dk_at dksJ30_makeInt_2_0 19 rfl rfl)
theorem dJ30_makeInt_2_22 : decode cJ30_makeInt_2 22 = .ok (.ishl, 1) := dk_120 (dk_at dksJ30_makeInt_2_0 22 rfl rfl)
theorem dJ30_makeInt_2_23 : decode cJ30_makeInt_2 23 = .ok (.ior, 1) := dk_128 (dk_at dksJ30_makeInt_2_0 23 rfl rfl)
theorem dJ30_makeInt_2_24 : decode cJ30_makeInt_2 24 = .ok (.iload_n 2, 1) := dk_28 (dk_at dksJ30_makeInt_2_1 0 rfl rfl)
theorem dJ30_makeInt_2_25 : decode cJ30_makeInt_2 25 = .ok (.invokestatic 796, 3) := dk_184 3 28 (dk_at dksJ30_makeInt_2_1 1 rfl rfl)
theorem dJ30_makeInt_2_28 : decode cJ30_makeInt_2 28 = .ok (.bipush 24, 2) := dk_16 24 (dk_at dksJ30_makeInt_2_1 4 rfl rfl)
theorem dJ30_makeInt_2_30 : decode cJ30_makeInt_2 30 = .ok (.bipush 16, 2) := dk_16 16 (dk_at dksJ30_makeInt_2_1 6 rfl rfl)
theorem dJ30_makeInt_2_32 : decode cJ30_makeInt_2 32 = .ok (.invokestatic 784, 3) := dk_184 3 16 (dk_at dksJ30_makeInt_2_1 8 rfl rfl)
theorem dJ30_makeInt_2_35 : decode cJ30_makeInt_2 35 = .ok (.ishl, 1) := dk_120 (dk_at dksJ30_makeInt_2_1 11 rfl rfl)
theorem dJ30_makeInt_2_36 : decode cJ30_makeInt_2 36 = .ok (.ior, 1) := dk_128 (dk_at dksJ30_makeInt_2_1 12 rfl rfl)
theorem dJ30_makeInt_2_37 : decode cJ30_makeInt_2 37 = .ok (.iload_n 3, 1) := dk_29 (dk_at dksJ30_makeInt_2_1 13 rfl rfl)
theorem dJ30_makeInt_2_38 : decode cJ30_makeInt_2 38 = .ok (.invokestatic 796, 3) := dk_184 3 28 (dk_at dksJ30_makeInt_2_1 14 rfl rfl)
theorem dJ30_makeInt_2_41 : decode cJ30_makeInt_2 41 = .ok (.bipush 24, 2) := dk_16 24 (dk_at dksJ30_makeInt_2_1 17 rfl rfl)
theorem dJ30_makeInt_2_43 : decode cJ30_makeInt_2 43 = .ok (.bipush 24, 2) := dk_16 24 (dk_at dksJ30_makeInt_2_1 19 rfl rfl)
theorem dJ30_makeInt_2_45 : decode cJ30_makeInt_2 45 = .ok (.invokestatic 784, 3) := dk_184 3 16 (dk_at dksJ30_makeInt_2_1 21 rfl rfl)
theorem dJ30_makeInt_2_48 : decode cJ30_makeInt_2 48 = .ok (.ishl, 1) := dk_120 (dk_at dksJ30_makeInt_2_2 0 rfl rfl)
theorem dJ30_makeInt_2_49 : decode cJ30_makeInt_2 49 = .ok (.ior, 1) := dk_128 (dk_at dksJ30_makeInt_2_2 1 rfl rfl)
theorem dJ30_makeInt_2_50 : decode cJ30_makeInt_2 50 = .ok (.ireturn, 1) := dk_172 (dk_at dksJ30_makeInt_2_2 2 rfl rfl)
abbrev cJ30_toUnsignedInt_2 : ByteArray := prog_95_method_366_code
def yJ30_toUnsignedInt_2 : MethodName := ⟨RJ30, "toUnsignedInt", "(B)I"⟩
def dkwJ30_toUnsignedInt_2_0 : List UInt8 := [26, 17, 0, 255, 126, 172]
abbrev dktJ30_toUnsignedInt_2_0 : List UInt8 := dkwJ30_toUnsignedInt_2_0 ++ []
theorem dksJ30_toUnsignedInt_2_0 : cJ30_toUnsignedInt_2.data.toList.drop 0 = dktJ30_toUnsignedInt_2_0 := by decide +kernel
theorem dJ30_toUnsignedInt_2_0 : decode cJ30_toUnsignedInt_2 0 = .ok (.iload_n 0, 1) := dk_26 (dk_at dksJ30_toUnsignedInt_2_0 0 rfl rfl)
theorem dJ30_toUnsignedInt_2_1 : decode cJ30_toUnsignedInt_2 1 = .ok (.sipush 255, 3) := dk_17 0 255 (dk_at dksJ30_toUnsignedInt_2_0 1 rfl rfl)
theorem dJ30_toUnsignedInt_2_4 : decode cJ30_toUnsignedInt_2 4 = .ok (.iand, 1) := dk_126 (dk_at dksJ30_toUnsignedInt_2_0 4 rfl rfl)
theorem dJ30_toUnsignedInt_2_5 : decode cJ30_toUnsignedInt_2 5 = .ok (.ireturn, 1) := dk_172 (dk_at dksJ30_toUnsignedInt_2_0 5 rfl rfl)
theorem q148 : (Jvm.Cond.initialized "jdk/internal/misc/Unsafe") ∈ lw_all := lw_g (lw_at lw_m1 62 rfl) rfl
theorem q742 : (Jvm.Cond.selects "jdk/internal/misc/Unsafe" ({ cls := "java/lang/Object", name := "getClass", desc := "()Ljava/lang/Class;" } : Jvm.MethodName) ({ cls := "java/lang/Object", name := "getClass", desc := "()Ljava/lang/Class;" } : Jvm.MethodName)) ∈ lw_all := lw_g (lw_at lw_m3 176 rfl) rfl
theorem q2267 : (Jvm.Cond.laysStatic "jdk/internal/misc/Unsafe" "ARRAY_BYTE_BASE_OFFSET" "I") ∈ lw_tbl := lw_at lw_m10 21 rfl
theorem q2278 : (Jvm.Cond.instanceMethod ({ cls := "jdk/internal/misc/Unsafe", name := "getLongUnaligned", desc := "(Ljava/lang/Object;J)J" } : Jvm.MethodName)) ∈ lw_all := lw_g (lw_at lw_m10 32 rfl) rfl
theorem q2279 : (Jvm.Cond.selects "jdk/internal/misc/Unsafe" ({ cls := "jdk/internal/misc/Unsafe", name := "getLongUnaligned", desc := "(Ljava/lang/Object;J)J" } : Jvm.MethodName) ({ cls := "jdk/internal/misc/Unsafe", name := "getLongUnaligned", desc := "(Ljava/lang/Object;J)J" } : Jvm.MethodName)) ∈ lw_all := lw_g (lw_at lw_m10 33 rfl) rfl
theorem q2280 : (Jvm.Cond.code ({ cls := "jdk/internal/misc/Unsafe", name := "getLongUnaligned", desc := "(Ljava/lang/Object;J)J" } : Jvm.MethodName) prog_95_method_334_code (4 : Nat) (Option.some Jvm.ClassFile.FieldType.long)) ∈ lw_all := lw_g (lw_at lw_m10 34 rfl) rfl
theorem q2281 : (Jvm.Cond.constantLong "jdk/internal/misc/Unsafe" (696 : Nat) (7 : Int64)) ∈ lw_all := lw_g (lw_at lw_m10 35 rfl) rfl
theorem q2282 : (Jvm.Cond.methodLink "jdk/internal/misc/Unsafe" (27 : Nat) ({ cls := "jdk/internal/misc/Unsafe", name := "getLong", desc := "(Ljava/lang/Object;J)J" } : Jvm.MethodName)) ∈ lw_all := lw_g (lw_at lw_m10 36 rfl) rfl
theorem q2283 : (Jvm.Cond.instanceMethod ({ cls := "jdk/internal/misc/Unsafe", name := "getLong", desc := "(Ljava/lang/Object;J)J" } : Jvm.MethodName)) ∈ lw_all := lw_g (lw_at lw_m10 37 rfl) rfl
theorem q2284 : (Jvm.Cond.selects "jdk/internal/misc/Unsafe" ({ cls := "jdk/internal/misc/Unsafe", name := "getLong", desc := "(Ljava/lang/Object;J)J" } : Jvm.MethodName) ({ cls := "jdk/internal/misc/Unsafe", name := "getLong", desc := "(Ljava/lang/Object;J)J" } : Jvm.MethodName)) ∈ lw_all := lw_g (lw_at lw_m10 38 rfl) rfl
theorem q2285 : (Jvm.Cond.native ({ cls := "jdk/internal/misc/Unsafe", name := "getLong", desc := "(Ljava/lang/Object;J)J" } : Jvm.MethodName)) ∈ lw_all := lw_g (lw_at lw_m10 39 rfl) rfl
theorem q2286 : (Jvm.Cond.constantLong "jdk/internal/misc/Unsafe" (349 : Nat) (3 : Int64)) ∈ lw_all := lw_g (lw_at lw_m10 40 rfl) rfl
theorem q2287 : (Jvm.Cond.methodLink "jdk/internal/misc/Unsafe" (17 : Nat) ({ cls := "jdk/internal/misc/Unsafe", name := "getInt", desc := "(Ljava/lang/Object;J)I" } : Jvm.MethodName)) ∈ lw_all := lw_g (lw_at lw_m10 41 rfl) rfl
theorem q2288 : (Jvm.Cond.instanceMethod ({ cls := "jdk/internal/misc/Unsafe", name := "getInt", desc := "(Ljava/lang/Object;J)I" } : Jvm.MethodName)) ∈ lw_all := lw_g (lw_at lw_m10 42 rfl) rfl
theorem q2289 : (Jvm.Cond.selects "jdk/internal/misc/Unsafe" ({ cls := "jdk/internal/misc/Unsafe", name := "getInt", desc := "(Ljava/lang/Object;J)I" } : Jvm.MethodName) ({ cls := "jdk/internal/misc/Unsafe", name := "getInt", desc := "(Ljava/lang/Object;J)I" } : Jvm.MethodName)) ∈ lw_all := lw_g (lw_at lw_m10 43 rfl) rfl
theorem q2290 : (Jvm.Cond.native ({ cls := "jdk/internal/misc/Unsafe", name := "getInt", desc := "(Ljava/lang/Object;J)I" } : Jvm.MethodName)) ∈ lw_all := lw_g (lw_at lw_m10 44 rfl) rfl
theorem q2291 : (Jvm.Cond.constantLong "jdk/internal/misc/Unsafe" (205 : Nat) (4 : Int64)) ∈ lw_all := lw_g (lw_at lw_m10 45 rfl) rfl
theorem q2292 : (Jvm.Cond.methodLink "jdk/internal/misc/Unsafe" (698 : Nat) ({ cls := "jdk/internal/misc/Unsafe", name := "makeLong", desc := "(II)J" } : Jvm.MethodName)) ∈ lw_all := lw_g (lw_at lw_m10 46 rfl) rfl
theorem q2293 : (Jvm.Cond.static ({ cls := "jdk/internal/misc/Unsafe", name := "makeLong", desc := "(II)J" } : Jvm.MethodName)) ∈ lw_all := lw_g (lw_at lw_m10 47 rfl) rfl
theorem q2294 : (Jvm.Cond.code ({ cls := "jdk/internal/misc/Unsafe", name := "makeLong", desc := "(II)J" } : Jvm.MethodName) prog_95_method_353_code (2 : Nat) (Option.some Jvm.ClassFile.FieldType.long)) ∈ lw_all := lw_g (lw_at lw_m10 48 rfl) rfl
theorem q2295 : (Jvm.Cond.methodLink "jdk/internal/misc/Unsafe" (791 : Nat) ({ cls := "jdk/internal/misc/Unsafe", name := "toUnsignedLong", desc := "(I)J" } : Jvm.MethodName)) ∈ lw_all := lw_g (lw_at lw_m10 49 rfl) rfl
theorem q2296 : (Jvm.Cond.static ({ cls := "jdk/internal/misc/Unsafe", name := "toUnsignedLong", desc := "(I)J" } : Jvm.MethodName)) ∈ lw_all := lw_g (lw_at lw_m10 50 rfl) rfl
theorem q2297 : (Jvm.Cond.code ({ cls := "jdk/internal/misc/Unsafe", name := "toUnsignedLong", desc := "(I)J" } : Jvm.MethodName) prog_95_method_370_code (1 : Nat) (Option.some Jvm.ClassFile.FieldType.long)) ∈ lw_all := lw_g (lw_at lw_m10 51 rfl) rfl
theorem q2298 : (Jvm.Cond.constantLong "jdk/internal/misc/Unsafe" (812 : Nat) (4294967295 : Int64)) ∈ lw_all := lw_g (lw_at lw_m10 52 rfl) rfl
theorem q2299 : (Jvm.Cond.methodLink "jdk/internal/misc/Unsafe" (784 : Nat) ({ cls := "jdk/internal/misc/Unsafe", name := "pickPos", desc := "(II)I" } : Jvm.MethodName)) ∈ lw_all := lw_g (lw_at lw_m10 53 rfl) rfl
theorem q2300 : (Jvm.Cond.static ({ cls := "jdk/internal/misc/Unsafe", name := "pickPos", desc := "(II)I" } : Jvm.MethodName)) ∈ lw_all := lw_g (lw_at lw_m10 54 rfl) rfl
theorem q2301 : (Jvm.Cond.code ({ cls := "jdk/internal/misc/Unsafe", name := "pickPos", desc := "(II)I" } : Jvm.MethodName) prog_95_method_350_code (2 : Nat) (Option.some Jvm.ClassFile.FieldType.int)) ∈ lw_all := lw_g (lw_at lw_m10 55 rfl) rfl
theorem q2302 : (Jvm.Cond.fieldLink "jdk/internal/misc/Unsafe" (351 : Nat) "jdk/internal/misc/UnsafeConstants" "BIG_ENDIAN" "Z") ∈ lw_all := lw_g (lw_at lw_m10 56 rfl) rfl
theorem q2304 : (Jvm.Cond.methodLink "jdk/internal/misc/Unsafe" (47 : Nat) ({ cls := "jdk/internal/misc/Unsafe", name := "getShort", desc := "(Ljava/lang/Object;J)S" } : Jvm.MethodName)) ∈ lw_all := lw_g (lw_at lw_m10 58 rfl) rfl
theorem q2305 : (Jvm.Cond.instanceMethod ({ cls := "jdk/internal/misc/Unsafe", name := "getShort", desc := "(Ljava/lang/Object;J)S" } : Jvm.MethodName)) ∈ lw_all := lw_g (lw_at lw_m10 59 rfl) rfl
theorem q2306 : (Jvm.Cond.selects "jdk/internal/misc/Unsafe" ({ cls := "jdk/internal/misc/Unsafe", name := "getShort", desc := "(Ljava/lang/Object;J)S" } : Jvm.MethodName) ({ cls := "jdk/internal/misc/Unsafe", name := "getShort", desc := "(Ljava/lang/Object;J)S" } : Jvm.MethodName)) ∈ lw_all := lw_g (lw_at lw_m10 60 rfl) rfl
theorem q2307 : (Jvm.Cond.native ({ cls := "jdk/internal/misc/Unsafe", name := "getShort", desc := "(Ljava/lang/Object;J)S" } : Jvm.MethodName)) ∈ lw_all := lw_g (lw_at lw_m10 61 rfl) rfl
theorem q2308 : (Jvm.Cond.constantLong "jdk/internal/misc/Unsafe" (203 : Nat) (2 : Int64)) ∈ lw_all := lw_g (lw_at lw_m10 62 rfl) rfl
theorem q2309 : (Jvm.Cond.constantLong "jdk/internal/misc/Unsafe" (702 : Nat) (6 : Int64)) ∈ lw_all := lw_g (lw_at lw_m10 63 rfl) rfl
theorem q2310 : (Jvm.Cond.methodLink "jdk/internal/misc/Unsafe" (704 : Nat) ({ cls := "jdk/internal/misc/Unsafe", name := "makeLong", desc := "(SSSS)J" } : Jvm.MethodName)) ∈ lw_all := lw_g (lw_at lw_m10 64 rfl) rfl
theorem q2311 : (Jvm.Cond.static ({ cls := "jdk/internal/misc/Unsafe", name := "makeLong", desc := "(SSSS)J" } : Jvm.MethodName)) ∈ lw_all := lw_g (lw_at lw_m10 65 rfl) rfl
theorem q2312 : (Jvm.Cond.code ({ cls := "jdk/internal/misc/Unsafe", name := "makeLong", desc := "(SSSS)J" } : Jvm.MethodName) prog_95_method_352_code (4 : Nat) (Option.some Jvm.ClassFile.FieldType.long)) ∈ lw_all := lw_g (lw_at lw_m10 66 rfl) rfl
theorem q2313 : (Jvm.Cond.methodLink "jdk/internal/misc/Unsafe" (788 : Nat) ({ cls := "jdk/internal/misc/Unsafe", name := "toUnsignedLong", desc := "(S)J" } : Jvm.MethodName)) ∈ lw_all := lw_g (lw_at lw_m10 67 rfl) rfl
theorem q2314 : (Jvm.Cond.static ({ cls := "jdk/internal/misc/Unsafe", name := "toUnsignedLong", desc := "(S)J" } : Jvm.MethodName)) ∈ lw_all := lw_g (lw_at lw_m10 68 rfl) rfl
theorem q2315 : (Jvm.Cond.code ({ cls := "jdk/internal/misc/Unsafe", name := "toUnsignedLong", desc := "(S)J" } : Jvm.MethodName) prog_95_method_369_code (1 : Nat) (Option.some Jvm.ClassFile.FieldType.long)) ∈ lw_all := lw_g (lw_at lw_m10 69 rfl) rfl
theorem q2316 : (Jvm.Cond.constantLong "jdk/internal/misc/Unsafe" (810 : Nat) (65535 : Int64)) ∈ lw_all := lw_g (lw_at lw_m10 70 rfl) rfl
theorem q2317 : (Jvm.Cond.methodLink "jdk/internal/misc/Unsafe" (39 : Nat) ({ cls := "jdk/internal/misc/Unsafe", name := "getByte", desc := "(Ljava/lang/Object;J)B" } : Jvm.MethodName)) ∈ lw_all := lw_g (lw_at lw_m10 71 rfl) rfl
theorem q2318 : (Jvm.Cond.instanceMethod ({ cls := "jdk/internal/misc/Unsafe", name := "getByte", desc := "(Ljava/lang/Object;J)B" } : Jvm.MethodName)) ∈ lw_all := lw_g (lw_at lw_m10 72 rfl) rfl
theorem q2319 : (Jvm.Cond.selects "jdk/internal/misc/Unsafe" ({ cls := "jdk/internal/misc/Unsafe", name := "getByte", desc := "(Ljava/lang/Object;J)B" } : Jvm.MethodName) ({ cls := "jdk/internal/misc/Unsafe", name := "getByte", desc := "(Ljava/lang/Object;J)B" } : Jvm.MethodName)) ∈ lw_all := lw_g (lw_at lw_m10 73 rfl) rfl
theorem q2320 : (Jvm.Cond.native ({ cls := "jdk/internal/misc/Unsafe", name := "getByte", desc := "(Ljava/lang/Object;J)B" } : Jvm.MethodName)) ∈ lw_all := lw_g (lw_at lw_m10 74 rfl) rfl
theorem q2321 : (Jvm.Cond.constantLong "jdk/internal/misc/Unsafe" (707 : Nat) (5 : Int64)) ∈ lw_all := lw_g (lw_at lw_m10 75 rfl) rfl
theorem q2322 : (Jvm.Cond.methodLink "jdk/internal/misc/Unsafe" (709 : Nat) ({ cls := "jdk/internal/misc/Unsafe", name := "makeLong", desc := "(BBBBBBBB)J" } : Jvm.MethodName)) ∈ lw_all := lw_g (lw_at lw_m10 76 rfl) rfl
theorem q2323 : (Jvm.Cond.static ({ cls := "jdk/internal/misc/Unsafe", name := "makeLong", desc := "(BBBBBBBB)J" } : Jvm.MethodName)) ∈ lw_all := lw_g (lw_at lw_m10 77 rfl) rfl
theorem q2324 : (Jvm.Cond.code ({ cls := "jdk/internal/misc/Unsafe", name := "makeLong", desc := "(BBBBBBBB)J" } : Jvm.MethodName) prog_95_method_351_code (8 : Nat) (Option.some Jvm.ClassFile.FieldType.long)) ∈ lw_all := lw_g (lw_at lw_m10 78 rfl) rfl
theorem q2325 : (Jvm.Cond.methodLink "jdk/internal/misc/Unsafe" (781 : Nat) ({ cls := "jdk/internal/misc/Unsafe", name := "toUnsignedLong", desc := "(B)J" } : Jvm.MethodName)) ∈ lw_all := lw_g (lw_at lw_m10 79 rfl) rfl
theorem q2326 : (Jvm.Cond.static ({ cls := "jdk/internal/misc/Unsafe", name := "toUnsignedLong", desc := "(B)J" } : Jvm.MethodName)) ∈ lw_all := lw_g (lw_at lw_m10 80 rfl) rfl
theorem q2327 : (Jvm.Cond.code ({ cls := "jdk/internal/misc/Unsafe", name := "toUnsignedLong", desc := "(B)J" } : Jvm.MethodName) prog_95_method_368_code (1 : Nat) (Option.some Jvm.ClassFile.FieldType.long)) ∈ lw_all := lw_g (lw_at lw_m10 81 rfl) rfl
theorem q2328 : (Jvm.Cond.constantLong "jdk/internal/misc/Unsafe" (808 : Nat) (255 : Int64)) ∈ lw_all := lw_g (lw_at lw_m10 82 rfl) rfl
theorem q2349 : (Jvm.Cond.instanceMethod ({ cls := "jdk/internal/misc/Unsafe", name := "getIntUnaligned", desc := "(Ljava/lang/Object;J)I" } : Jvm.MethodName)) ∈ lw_all := lw_g (lw_at lw_m10 103 rfl) rfl
theorem q2350 : (Jvm.Cond.selects "jdk/internal/misc/Unsafe" ({ cls := "jdk/internal/misc/Unsafe", name := "getIntUnaligned", desc := "(Ljava/lang/Object;J)I" } : Jvm.MethodName) ({ cls := "jdk/internal/misc/Unsafe", name := "getIntUnaligned", desc := "(Ljava/lang/Object;J)I" } : Jvm.MethodName)) ∈ lw_all := lw_g (lw_at lw_m10 104 rfl) rfl
theorem q2351 : (Jvm.Cond.code ({ cls := "jdk/internal/misc/Unsafe", name := "getIntUnaligned", desc := "(Ljava/lang/Object;J)I" } : Jvm.MethodName) prog_95_method_336_code (4 : Nat) (Option.some Jvm.ClassFile.FieldType.int)) ∈ lw_all := lw_g (lw_at lw_m10 105 rfl) rfl
theorem q2352 : (Jvm.Cond.methodLink "jdk/internal/misc/Unsafe" (719 : Nat) ({ cls := "jdk/internal/misc/Unsafe", name := "makeInt", desc := "(SS)I" } : Jvm.MethodName)) ∈ lw_all := lw_g (lw_at lw_m10 106 rfl) rfl
theorem q2353 : (Jvm.Cond.static ({ cls := "jdk/internal/misc/Unsafe", name := "makeInt", desc := "(SS)I" } : Jvm.MethodName)) ∈ lw_all := lw_g (lw_at lw_m10 107 rfl) rfl
theorem q2354 : (Jvm.Cond.code ({ cls := "jdk/internal/misc/Unsafe", name := "makeInt", desc := "(SS)I" } : Jvm.MethodName) prog_95_method_354_code (2 : Nat) (Option.some Jvm.ClassFile.FieldType.int)) ∈ lw_all := lw_g (lw_at lw_m10 108 rfl) rfl
theorem q2355 : (Jvm.Cond.methodLink "jdk/internal/misc/Unsafe" (792 : Nat) ({ cls := "jdk/internal/misc/Unsafe", name := "toUnsignedInt", desc := "(S)I" } : Jvm.MethodName)) ∈ lw_all := lw_g (lw_at lw_m10 109 rfl) rfl
theorem q2356 : (Jvm.Cond.static ({ cls := "jdk/internal/misc/Unsafe", name := "toUnsignedInt", desc := "(S)I" } : Jvm.MethodName)) ∈ lw_all := lw_g (lw_at lw_m10 110 rfl) rfl
theorem q2357 : (Jvm.Cond.code ({ cls := "jdk/internal/misc/Unsafe", name := "toUnsignedInt", desc := "(S)I" } : Jvm.MethodName) prog_95_method_367_code (1 : Nat) (Option.some Jvm.ClassFile.FieldType.int)) ∈ lw_all := lw_g (lw_at lw_m10 111 rfl) rfl
theorem q2358 : (Jvm.Cond.constant "jdk/internal/misc/Unsafe" (374 : Nat) (65535 : Int32)) ∈ lw_all := lw_g (lw_at lw_m10 112 rfl) rfl
theorem q2359 : (Jvm.Cond.methodLink "jdk/internal/misc/Unsafe" (723 : Nat) ({ cls := "jdk/internal/misc/Unsafe", name := "makeInt", desc := "(BBBB)I" } : Jvm.MethodName)) ∈ lw_all := lw_g (lw_at lw_m10 113 rfl) rfl
theorem q2360 : (Jvm.Cond.static ({ cls := "jdk/internal/misc/Unsafe", name := "makeInt", desc := "(BBBB)I" } : Jvm.MethodName)) ∈ lw_all := lw_g (lw_at lw_m10 114 rfl) rfl
theorem q2361 : (Jvm.Cond.code ({ cls := "jdk/internal/misc/Unsafe", name := "makeInt", desc := "(BBBB)I" } : Jvm.MethodName) prog_95_method_355_code (4 : Nat) (Option.some Jvm.ClassFile.FieldType.int)) ∈ lw_all := lw_g (lw_at lw_m10 115 rfl) rfl
theorem q2362 : (Jvm.Cond.methodLink "jdk/internal/misc/Unsafe" (796 : Nat) ({ cls := "jdk/internal/misc/Unsafe", name := "toUnsignedInt", desc := "(B)I" } : Jvm.MethodName)) ∈ lw_all := lw_g (lw_at lw_m10 116 rfl) rfl
theorem q2363 : (Jvm.Cond.static ({ cls := "jdk/internal/misc/Unsafe", name := "toUnsignedInt", desc := "(B)I" } : Jvm.MethodName)) ∈ lw_all := lw_g (lw_at lw_m10 117 rfl) rfl
theorem q2364 : (Jvm.Cond.code ({ cls := "jdk/internal/misc/Unsafe", name := "toUnsignedInt", desc := "(B)I" } : Jvm.MethodName) prog_95_method_366_code (1 : Nat) (Option.some Jvm.ClassFile.FieldType.int)) ∈ lw_all := lw_g (lw_at lw_m10 118 rfl) rfl
theorem q3366 : (Jvm.Cond.castable "jdk/internal/misc/Unsafe" "java/lang/Object") ∈ lw_tbl := lw_at lw_m14 160 rfl

end
section
/-! java/lang/Long -/
set_option maxRecDepth 100000
def RJ31 : String := "java/lang/Long"
abbrev cJ31_numberOfLeadingZeros : ByteArray := prog_44_method_48_code
def yJ31_numberOfLeadingZeros : MethodName := ⟨RJ31, "numberOfLeadingZeros", "(J)I"⟩
def dkwJ31_numberOfLeadingZeros_1 : List UInt8 := [184, 1, 52, 172]
abbrev dktJ31_numberOfLeadingZeros_1 : List UInt8 := dkwJ31_numberOfLeadingZeros_1 ++ []
def dkwJ31_numberOfLeadingZeros_0 : List UInt8 := [30, 16, 32, 125, 136, 61, 28, 154, 0, 14, 16, 32, 30, 136, 184, 1, 52, 96, 167, 0, 7, 28]
abbrev dktJ31_numberOfLeadingZeros_0 : List UInt8 := dkwJ31_numberOfLeadingZeros_0 ++ dktJ31_numberOfLeadingZeros_1
theorem dksJ31_numberOfLeadingZeros_0 : cJ31_numberOfLeadingZeros.data.toList.drop 0 = dktJ31_numberOfLeadingZeros_0 := by decide +kernel
theorem dksJ31_numberOfLeadingZeros_1 : cJ31_numberOfLeadingZeros.data.toList.drop 22 = dktJ31_numberOfLeadingZeros_1 := dk_seg dksJ31_numberOfLeadingZeros_0 22 rfl rfl
theorem dJ31_numberOfLeadingZeros_0 : decode cJ31_numberOfLeadingZeros 0 = .ok (.lload_n 0, 1) := dk_30 (dk_at dksJ31_numberOfLeadingZeros_0 0 rfl rfl)
theorem dJ31_numberOfLeadingZeros_1 : decode cJ31_numberOfLeadingZeros 1 = .ok (.bipush 32, 2) := dk_16 32 (dk_at dksJ31_numberOfLeadingZeros_0 1 rfl rfl)
theorem dJ31_numberOfLeadingZeros_3 : decode cJ31_numberOfLeadingZeros 3 = .ok (.lushr, 1) := dk_125 (dk_at dksJ31_numberOfLeadingZeros_0 3 rfl rfl)
theorem dJ31_numberOfLeadingZeros_4 : decode cJ31_numberOfLeadingZeros 4 = .ok (.l2i, 1) := dk_136 (dk_at dksJ31_numberOfLeadingZeros_0 4 rfl rfl)
theorem dJ31_numberOfLeadingZeros_5 : decode cJ31_numberOfLeadingZeros 5 = .ok (.istore_n 2, 1) := dk_61 (dk_at dksJ31_numberOfLeadingZeros_0 5 rfl rfl)
theorem dJ31_numberOfLeadingZeros_6 : decode cJ31_numberOfLeadingZeros 6 = .ok (.iload_n 2, 1) := dk_28 (dk_at dksJ31_numberOfLeadingZeros_0 6 rfl rfl)
theorem dJ31_numberOfLeadingZeros_7 : decode cJ31_numberOfLeadingZeros 7 = .ok (.ifCond .ne 14, 3) := dk_154 0 14 (dk_at dksJ31_numberOfLeadingZeros_0 7 rfl rfl)
theorem dJ31_numberOfLeadingZeros_10 : decode cJ31_numberOfLeadingZeros 10 = .ok (.bipush 32, 2) := dk_16 32 (dk_at dksJ31_numberOfLeadingZeros_0 10 rfl rfl)
theorem dJ31_numberOfLeadingZeros_12 : decode cJ31_numberOfLeadingZeros 12 = .ok (.lload_n 0, 1) := dk_30 (dk_at dksJ31_numberOfLeadingZeros_0 12 rfl rfl)
theorem dJ31_numberOfLeadingZeros_13 : decode cJ31_numberOfLeadingZeros 13 = .ok (.l2i, 1) := dk_136 (dk_at dksJ31_numberOfLeadingZeros_0 13 rfl rfl)
theorem dJ31_numberOfLeadingZeros_14 : decode cJ31_numberOfLeadingZeros 14 = .ok (.invokestatic 308, 3) := dk_184 1 52 (dk_at dksJ31_numberOfLeadingZeros_0 14 rfl rfl)
theorem dJ31_numberOfLeadingZeros_17 : decode cJ31_numberOfLeadingZeros 17 = .ok (.iadd, 1) := dk_96 (dk_at dksJ31_numberOfLeadingZeros_0 17 rfl rfl)
theorem dJ31_numberOfLeadingZeros_18 : decode cJ31_numberOfLeadingZeros 18 = .ok (.goto 7, 3) := dk_167 0 7 (dk_at dksJ31_numberOfLeadingZeros_0 18 rfl rfl)
theorem dJ31_numberOfLeadingZeros_21 : decode cJ31_numberOfLeadingZeros 21 = .ok (.iload_n 2, 1) := dk_28 (dk_at dksJ31_numberOfLeadingZeros_0 21 rfl rfl)
theorem dJ31_numberOfLeadingZeros_22 : decode cJ31_numberOfLeadingZeros 22 = .ok (.invokestatic 308, 3) := dk_184 1 52 (dk_at dksJ31_numberOfLeadingZeros_1 0 rfl rfl)
theorem dJ31_numberOfLeadingZeros_25 : decode cJ31_numberOfLeadingZeros 25 = .ok (.ireturn, 1) := dk_172 (dk_at dksJ31_numberOfLeadingZeros_1 3 rfl rfl)
abbrev cJ31_numberOfTrailingZeros : ByteArray := prog_44_method_49_code
def yJ31_numberOfTrailingZeros : MethodName := ⟨RJ31, "numberOfTrailingZeros", "(J)I"⟩
def dkwJ31_numberOfTrailingZeros_1 : List UInt8 := [184, 1, 55, 172]
abbrev dktJ31_numberOfTrailingZeros_1 : List UInt8 := dkwJ31_numberOfTrailingZeros_1 ++ []
def dkwJ31_numberOfTrailingZeros_0 : List UInt8 := [30, 136, 61, 28, 154, 0, 17, 16, 32, 30, 16, 32, 125, 136, 184, 1, 55, 96, 167, 0, 7, 28]
abbrev dktJ31_numberOfTrailingZeros_0 : List UInt8 := dkwJ31_numberOfTrailingZeros_0 ++ dktJ31_numberOfTrailingZeros_1
theorem dksJ31_numberOfTrailingZeros_0 : cJ31_numberOfTrailingZeros.data.toList.drop 0 = dktJ31_numberOfTrailingZeros_0 := by decide +kernel
theorem dksJ31_numberOfTrailingZeros_1 : cJ31_numberOfTrailingZeros.data.toList.drop 22 = dktJ31_numberOfTrailingZeros_1 := dk_seg dksJ31_numberOfTrailingZeros_0 22 rfl rfl
theorem dJ31_numberOfTrailingZeros_0 : decode cJ31_numberOfTrailingZeros 0 = .ok (.lload_n 0, 1) := dk_30 (dk_at dksJ31_numberOfTrailingZeros_0 0 rfl rfl)
theorem dJ31_numberOfTrailingZeros_1 : decode cJ31_numberOfTrailingZeros 1 = .ok (.l2i, 1) := dk_136 (dk_at dksJ31_numberOfTrailingZeros_0 1 rfl rfl)
theorem dJ31_numberOfTrailingZeros_2 : decode cJ31_numberOfTrailingZeros 2 = .ok (.istore_n 2, 1) := dk_61 (dk_at dksJ31_numberOfTrailingZeros_0 2 rfl rfl)
theorem dJ31_numberOfTrailingZeros_3 : decode cJ31_numberOfTrailingZeros 3 = .ok (.iload_n 2, 1) := dk_28 (dk_at dksJ31_numberOfTrailingZeros_0 3 rfl rfl)
theorem dJ31_numberOfTrailingZeros_4 : decode cJ31_numberOfTrailingZeros 4 = .ok (.ifCond .ne 17, 3) := dk_154 0 17 (dk_at dksJ31_numberOfTrailingZeros_0 4 rfl rfl)
theorem dJ31_numberOfTrailingZeros_7 : decode cJ31_numberOfTrailingZeros 7 = .ok (.bipush 32, 2) := dk_16 32 (dk_at dksJ31_numberOfTrailingZeros_0 7 rfl rfl)
theorem dJ31_numberOfTrailingZeros_9 : decode cJ31_numberOfTrailingZeros 9 = .ok (.lload_n 0, 1) := dk_30 (dk_at dksJ31_numberOfTrailingZeros_0 9 rfl rfl)
theorem dJ31_numberOfTrailingZeros_10 : decode cJ31_numberOfTrailingZeros 10 = .ok (.bipush 32, 2) := dk_16 32 (dk_at dksJ31_numberOfTrailingZeros_0 10 rfl rfl)
theorem dJ31_numberOfTrailingZeros_12 : decode cJ31_numberOfTrailingZeros 12 = .ok (.lushr, 1) := dk_125 (dk_at dksJ31_numberOfTrailingZeros_0 12 rfl rfl)
theorem dJ31_numberOfTrailingZeros_13 : decode cJ31_numberOfTrailingZeros 13 = .ok (.l2i, 1) := dk_136 (dk_at dksJ31_numberOfTrailingZeros_0 13 rfl rfl)
theorem dJ31_numberOfTrailingZeros_14 : decode cJ31_numberOfTrailingZeros 14 = .ok (.invokestatic 311, 3) := dk_184 1 55 (dk_at dksJ31_numberOfTrailingZeros_0 14 rfl rfl)
theorem dJ31_numberOfTrailingZeros_17 : decode cJ31_numberOfTrailingZeros 17 = .ok (.iadd, 1) := dk_96 (dk_at dksJ31_numberOfTrailingZeros_0 17 rfl rfl)
theorem dJ31_numberOfTrailingZeros_18 : decode cJ31_numberOfTrailingZeros 18 = .ok (.goto 7, 3) := dk_167 0 7 (dk_at dksJ31_numberOfTrailingZeros_0 18 rfl rfl)
theorem dJ31_numberOfTrailingZeros_21 : decode cJ31_numberOfTrailingZeros 21 = .ok (.iload_n 2, 1) := dk_28 (dk_at dksJ31_numberOfTrailingZeros_0 21 rfl rfl)
theorem dJ31_numberOfTrailingZeros_22 : decode cJ31_numberOfTrailingZeros 22 = .ok (.invokestatic 311, 3) := dk_184 1 55 (dk_at dksJ31_numberOfTrailingZeros_1 0 rfl rfl)
theorem dJ31_numberOfTrailingZeros_25 : decode cJ31_numberOfTrailingZeros 25 = .ok (.ireturn, 1) := dk_172 (dk_at dksJ31_numberOfTrailingZeros_1 3 rfl rfl)
theorem q150 : (Jvm.Cond.initialized "java/lang/Long") ∈ lw_all := lw_g (lw_at lw_m1 64 rfl) rfl
theorem q2332 : (Jvm.Cond.static ({ cls := "java/lang/Long", name := "numberOfLeadingZeros", desc := "(J)I" } : Jvm.MethodName)) ∈ lw_all := lw_g (lw_at lw_m10 86 rfl) rfl
theorem q2333 : (Jvm.Cond.code ({ cls := "java/lang/Long", name := "numberOfLeadingZeros", desc := "(J)I" } : Jvm.MethodName) prog_44_method_48_code (3 : Nat) (Option.some Jvm.ClassFile.FieldType.int)) ∈ lw_all := lw_g (lw_at lw_m10 87 rfl) rfl
theorem q2334 : (Jvm.Cond.methodLink "java/lang/Long" (308 : Nat) ({ cls := "java/lang/Integer", name := "numberOfLeadingZeros", desc := "(I)I" } : Jvm.MethodName)) ∈ lw_all := lw_g (lw_at lw_m10 88 rfl) rfl
theorem q2341 : (Jvm.Cond.static ({ cls := "java/lang/Long", name := "numberOfTrailingZeros", desc := "(J)I" } : Jvm.MethodName)) ∈ lw_all := lw_g (lw_at lw_m10 95 rfl) rfl
theorem q2342 : (Jvm.Cond.code ({ cls := "java/lang/Long", name := "numberOfTrailingZeros", desc := "(J)I" } : Jvm.MethodName) prog_44_method_49_code (3 : Nat) (Option.some Jvm.ClassFile.FieldType.int)) ∈ lw_all := lw_g (lw_at lw_m10 96 rfl) rfl
theorem q2343 : (Jvm.Cond.methodLink "java/lang/Long" (311 : Nat) ({ cls := "java/lang/Integer", name := "numberOfTrailingZeros", desc := "(I)I" } : Jvm.MethodName)) ∈ lw_all := lw_g (lw_at lw_m10 97 rfl) rfl

end
section
/-! java/util/TreeMap$Entry -/
set_option maxRecDepth 100000
def RJ32 : String := "java/util/TreeMap$Entry"
def TJ32 : u_T := fun k => match k with
  | 0 => ("java/util/TreeMap$Entry", "key", "Ljava/lang/Object;", false)
  | 1 => ("java/util/TreeMap$Entry", "value", "Ljava/lang/Object;", false)
  | 2 => ("java/util/TreeMap$Entry", "left", "Ljava/util/TreeMap$Entry;", false)
  | 3 => ("java/util/TreeMap$Entry", "right", "Ljava/util/TreeMap$Entry;", false)
  | 4 => ("java/util/TreeMap$Entry", "parent", "Ljava/util/TreeMap$Entry;", false)
  | _ => ("java/util/TreeMap$Entry", "color", "Z", false)
def tyJ32 : Nat → FieldType := fun k => match k with
  | 0 => .object "java/lang/Object"
  | 1 => .object "java/lang/Object"
  | 2 => .object "java/util/TreeMap$Entry"
  | 3 => .object "java/util/TreeMap$Entry"
  | 4 => .object "java/util/TreeMap$Entry"
  | _ => .boolean
abbrev wsJ320 : List Cond := u_ws RJ32 TJ32 6
theorem nmJ32 : ∀ a, a < 6 → ∀ b, b < 6 → a ≠ b → (TJ32 a).2.1 ≠ (TJ32 b).2.1 := by decide +kernel
theorem tyJ32_ok : ∀ k, k < 6 → parseFieldDescriptor (TJ32 k).2.2.1 = some (tyJ32 k) := by decide +kernel
abbrev cJ32_init : ByteArray := prog_88_method_1_code
def yJ32_init : MethodName := ⟨RJ32, "<init>", "(Ljava/lang/Object;Ljava/lang/Object;Ljava/util/TreeMap$Entry;)V"⟩
def dkwJ32_init_1 : List UInt8 := [177]
abbrev dktJ32_init_1 : List UInt8 := dkwJ32_init_1 ++ []
def dkwJ32_init_0 : List UInt8 := [42, 183, 0, 3, 42, 4, 181, 0, 9, 42, 43, 181, 0, 15, 42, 44, 181, 0, 19, 42, 45, 181, 0, 22]
abbrev dktJ32_init_0 : List UInt8 := dkwJ32_init_0 ++ dktJ32_init_1
theorem dksJ32_init_0 : cJ32_init.data.toList.drop 0 = dktJ32_init_0 := by decide +kernel
theorem dksJ32_init_1 : cJ32_init.data.toList.drop 24 = dktJ32_init_1 := dk_seg dksJ32_init_0 24 rfl rfl
theorem dJ32_init_0 : decode cJ32_init 0 = .ok (.aload_n 0, 1) := dk_42 (dk_at dksJ32_init_0 0 rfl rfl)
theorem dJ32_init_1 : decode cJ32_init 1 = .ok (.invokespecial 3, 3) := dk_183 0 3 (dk_at dksJ32_init_0 1 rfl rfl)
theorem dJ32_init_4 : decode cJ32_init 4 = .ok (.aload_n 0, 1) := dk_42 (dk_at dksJ32_init_0 4 rfl rfl)
theorem dJ32_init_5 : decode cJ32_init 5 = .ok (.iconst 1, 1) := dk_4 (dk_at dksJ32_init_0 5 rfl rfl)
theorem dJ32_init_6 : decode cJ32_init 6 = .ok (.putfield 9, 3) := dk_181 0 9 (dk_at dksJ32_init_0 6 rfl rfl)
theorem dJ32_init_9 : decode cJ32_init 9 = .ok (.aload_n 0, 1) := dk_42 (dk_at dksJ32_init_0 9 rfl rfl)
theorem dJ32_init_10 : decode cJ32_init 10 = .ok (.aload_n 1, 1) := dk_43 (dk_at dksJ32_init_0 10 rfl rfl)
theorem dJ32_init_11 : decode cJ32_init 11 = .ok (.putfield 15, 3) := dk_181 0 15 (dk_at dksJ32_init_0 11 rfl rfl)
theorem dJ32_init_14 : decode cJ32_init 14 = .ok (.aload_n 0, 1) := dk_42 (dk_at dksJ32_init_0 14 rfl rfl)
theorem dJ32_init_15 : decode cJ32_init 15 = .ok (.aload_n 2, 1) := dk_44 (dk_at dksJ32_init_0 15 rfl rfl)
theorem dJ32_init_16 : decode cJ32_init 16 = .ok (.putfield 19, 3) := dk_181 0 19 (dk_at dksJ32_init_0 16 rfl rfl)
theorem dJ32_init_19 : decode cJ32_init 19 = .ok (.aload_n 0, 1) := dk_42 (dk_at dksJ32_init_0 19 rfl rfl)
theorem dJ32_init_20 : decode cJ32_init 20 = .ok (.aload_n 3, 1) := dk_45 (dk_at dksJ32_init_0 20 rfl rfl)
theorem dJ32_init_21 : decode cJ32_init 21 = .ok (.putfield 22, 3) := dk_181 0 22 (dk_at dksJ32_init_0 21 rfl rfl)
theorem dJ32_init_24 : decode cJ32_init 24 = .ok (.return_, 1) := dk_177 (dk_at dksJ32_init_1 0 rfl rfl)
theorem q152 : (Jvm.Cond.initialized "java/util/TreeMap$Entry") ∈ lw_all := lw_g (lw_at lw_m1 66 rfl) rfl
theorem q738 : (Jvm.Cond.selects "java/util/TreeMap$Entry" ({ cls := "java/lang/Object", name := "getClass", desc := "()Ljava/lang/Class;" } : Jvm.MethodName) ({ cls := "java/lang/Object", name := "getClass", desc := "()Ljava/lang/Class;" } : Jvm.MethodName)) ∈ lw_all := lw_g (lw_at lw_m3 172 rfl) rfl
theorem q2540 : (Jvm.Cond.instantiable "java/util/TreeMap$Entry" (6 : Nat)) ∈ lw_all := lw_g (lw_at lw_m11 54 rfl) rfl
theorem q2542 : (Jvm.Cond.instanceMethod ({ cls := "java/util/TreeMap$Entry", name := "<init>", desc := "(Ljava/lang/Object;Ljava/lang/Object;Ljava/util/TreeMap$Entry;)V" } : Jvm.MethodName)) ∈ lw_all := lw_g (lw_at lw_m11 56 rfl) rfl
theorem q2543 : (Jvm.Cond.code ({ cls := "java/util/TreeMap$Entry", name := "<init>", desc := "(Ljava/lang/Object;Ljava/lang/Object;Ljava/util/TreeMap$Entry;)V" } : Jvm.MethodName) prog_88_method_1_code (4 : Nat) (Option.none : Option Jvm.ClassFile.FieldType)) ∈ lw_all := lw_g (lw_at lw_m11 57 rfl) rfl
theorem q2544 : (Jvm.Cond.methodLink "java/util/TreeMap$Entry" (3 : Nat) ({ cls := "java/lang/Object", name := "<init>", desc := "()V" } : Jvm.MethodName)) ∈ lw_all := lw_g (lw_at lw_m11 58 rfl) rfl
theorem q2545 : (Jvm.Cond.fieldLink "java/util/TreeMap$Entry" (15 : Nat) "java/util/TreeMap$Entry" "key" "Ljava/lang/Object;") ∈ lw_all := lw_g (lw_at lw_m11 59 rfl) rfl
theorem q2548 : (Jvm.Cond.fieldLink "java/util/TreeMap$Entry" (19 : Nat) "java/util/TreeMap$Entry" "value" "Ljava/lang/Object;") ∈ lw_all := lw_g (lw_at lw_m11 62 rfl) rfl
theorem q2552 : (Jvm.Cond.fieldLink "java/util/TreeMap$Entry" (22 : Nat) "java/util/TreeMap$Entry" "parent" "Ljava/util/TreeMap$Entry;") ∈ lw_all := lw_g (lw_at lw_m11 66 rfl) rfl
theorem q2554 : (Jvm.Cond.fieldLink "java/util/TreeMap$Entry" (9 : Nat) "java/util/TreeMap$Entry" "color" "Z") ∈ lw_all := lw_g (lw_at lw_m11 68 rfl) rfl
theorem q2556 : (Jvm.Cond.lays "java/util/TreeMap$Entry" "java/util/TreeMap$Entry" "key" "Ljava/lang/Object;") ∈ lw_all := lw_g (lw_at lw_m11 70 rfl) rfl
theorem q2557 : (Jvm.Cond.soleField "java/util/TreeMap$Entry" "key") ∈ lw_all := lw_g (lw_at lw_m11 71 rfl) rfl
theorem q2558 : (Jvm.Cond.lays "java/util/TreeMap$Entry" "java/util/TreeMap$Entry" "value" "Ljava/lang/Object;") ∈ lw_all := lw_g (lw_at lw_m11 72 rfl) rfl
theorem q2559 : (Jvm.Cond.soleField "java/util/TreeMap$Entry" "value") ∈ lw_all := lw_g (lw_at lw_m11 73 rfl) rfl
theorem q2560 : (Jvm.Cond.lays "java/util/TreeMap$Entry" "java/util/TreeMap$Entry" "left" "Ljava/util/TreeMap$Entry;") ∈ lw_all := lw_g (lw_at lw_m11 74 rfl) rfl
theorem q2561 : (Jvm.Cond.soleField "java/util/TreeMap$Entry" "left") ∈ lw_all := lw_g (lw_at lw_m11 75 rfl) rfl
theorem q2562 : (Jvm.Cond.lays "java/util/TreeMap$Entry" "java/util/TreeMap$Entry" "right" "Ljava/util/TreeMap$Entry;") ∈ lw_all := lw_g (lw_at lw_m11 76 rfl) rfl
theorem q2563 : (Jvm.Cond.soleField "java/util/TreeMap$Entry" "right") ∈ lw_all := lw_g (lw_at lw_m11 77 rfl) rfl
theorem q2564 : (Jvm.Cond.lays "java/util/TreeMap$Entry" "java/util/TreeMap$Entry" "parent" "Ljava/util/TreeMap$Entry;") ∈ lw_all := lw_g (lw_at lw_m11 78 rfl) rfl
theorem q2565 : (Jvm.Cond.soleField "java/util/TreeMap$Entry" "parent") ∈ lw_all := lw_g (lw_at lw_m11 79 rfl) rfl
theorem q2566 : (Jvm.Cond.lays "java/util/TreeMap$Entry" "java/util/TreeMap$Entry" "color" "Z") ∈ lw_all := lw_g (lw_at lw_m11 80 rfl) rfl
theorem q2567 : (Jvm.Cond.soleField "java/util/TreeMap$Entry" "color") ∈ lw_all := lw_g (lw_at lw_m11 81 rfl) rfl
theorem q2568 : (Jvm.Cond.superclass "java/util/TreeMap$Entry" "java/lang/Object") ∈ lw_all := lw_g (lw_at lw_m11 82 rfl) rfl
theorem q3368 : (Jvm.Cond.castable "java/util/TreeMap$Entry" "java/lang/Object") ∈ lw_tbl := lw_at lw_m14 162 rfl
theorem in_J32 : ∀ w ∈ wsJ320, w ∈ lw_all := lw_in wsJ320 [2556, 2558, 2560, 2562, 2564, 2566] (by decide +kernel) (by decide +kernel)

end
section
/-! java/util/TreeSet -/
set_option maxRecDepth 100000
def RJ33 : String := "java/util/TreeSet"
def TJ33 : u_T := fun k => match k with
  | _ => ("java/util/TreeSet", "m", "Ljava/util/NavigableMap;", false)
def tyJ33 : Nat → FieldType := fun k => match k with
  | _ => .object "java/util/NavigableMap"
abbrev wsJ330 : List Cond := u_ws RJ33 TJ33 1
theorem nmJ33 : ∀ a, a < 1 → ∀ b, b < 1 → a ≠ b → (TJ33 a).2.1 ≠ (TJ33 b).2.1 := by decide +kernel
theorem tyJ33_ok : ∀ k, k < 1 → parseFieldDescriptor (TJ33 k).2.2.1 = some (tyJ33 k) := by decide +kernel
abbrev cJ33_size : ByteArray := prog_93_method_9_code
def yJ33_size : MethodName := ⟨RJ33, "size", "()I"⟩
def dkwJ33_size_0 : List UInt8 := [42, 180, 0, 7, 185, 0, 53, 1, 0, 172]
abbrev dktJ33_size_0 : List UInt8 := dkwJ33_size_0 ++ []
theorem dksJ33_size_0 : cJ33_size.data.toList.drop 0 = dktJ33_size_0 := by decide +kernel
theorem dJ33_size_0 : decode cJ33_size 0 = .ok (.aload_n 0, 1) := dk_42 (dk_at dksJ33_size_0 0 rfl rfl)
theorem dJ33_size_1 : decode cJ33_size 1 = .ok (.getfield 7, 3) := dk_180 0 7 (dk_at dksJ33_size_0 1 rfl rfl)
theorem dJ33_size_4 : decode cJ33_size 4 = .ok (.invokeinterface 53 1, 5) := by decide +kernel
theorem dJ33_size_9 : decode cJ33_size 9 = .ok (.ireturn, 1) := dk_172 (dk_at dksJ33_size_0 9 rfl rfl)
abbrev cJ33_iterator : ByteArray := prog_93_method_6_code
def yJ33_iterator : MethodName := ⟨RJ33, "iterator", "()Ljava/util/Iterator;"⟩
def dkwJ33_iterator_0 : List UInt8 := [42, 180, 0, 7, 185, 0, 34, 1, 0, 185, 0, 40, 1, 0, 176]
abbrev dktJ33_iterator_0 : List UInt8 := dkwJ33_iterator_0 ++ []
theorem dksJ33_iterator_0 : cJ33_iterator.data.toList.drop 0 = dktJ33_iterator_0 := by decide +kernel
theorem dJ33_iterator_0 : decode cJ33_iterator 0 = .ok (.aload_n 0, 1) := dk_42 (dk_at dksJ33_iterator_0 0 rfl rfl)
theorem dJ33_iterator_1 : decode cJ33_iterator 1 = .ok (.getfield 7, 3) := dk_180 0 7 (dk_at dksJ33_iterator_0 1 rfl rfl)
theorem dJ33_iterator_4 : decode cJ33_iterator 4 = .ok (.invokeinterface 34 1, 5) := by decide +kernel
theorem dJ33_iterator_9 : decode cJ33_iterator 9 = .ok (.invokeinterface 40 1, 5) := by decide +kernel
theorem dJ33_iterator_14 : decode cJ33_iterator 14 = .ok (.areturn, 1) := dk_176 (dk_at dksJ33_iterator_0 14 rfl rfl)
abbrev cJ33_init : ByteArray := prog_93_method_2_code
def yJ33_init : MethodName := ⟨RJ33, "<init>", "()V"⟩
def dkwJ33_init_0 : List UInt8 := [42, 187, 0, 13, 89, 183, 0, 15, 183, 0, 16, 177]
abbrev dktJ33_init_0 : List UInt8 := dkwJ33_init_0 ++ []
theorem dksJ33_init_0 : cJ33_init.data.toList.drop 0 = dktJ33_init_0 := by decide +kernel
theorem dJ33_init_0 : decode cJ33_init 0 = .ok (.aload_n 0, 1) := dk_42 (dk_at dksJ33_init_0 0 rfl rfl)
theorem dJ33_init_1 : decode cJ33_init 1 = .ok (.new 13, 3) := dk_187 0 13 (dk_at dksJ33_init_0 1 rfl rfl)
theorem dJ33_init_4 : decode cJ33_init 4 = .ok (.dup, 1) := dk_89 (dk_at dksJ33_init_0 4 rfl rfl)
theorem dJ33_init_5 : decode cJ33_init 5 = .ok (.invokespecial 15, 3) := dk_183 0 15 (dk_at dksJ33_init_0 5 rfl rfl)
theorem dJ33_init_8 : decode cJ33_init 8 = .ok (.invokespecial 16, 3) := dk_183 0 16 (dk_at dksJ33_init_0 8 rfl rfl)
theorem dJ33_init_11 : decode cJ33_init 11 = .ok (.return_, 1) := dk_177 (dk_at dksJ33_init_0 11 rfl rfl)
abbrev cJ33_init_2 : ByteArray := prog_93_method_1_code
def yJ33_init_2 : MethodName := ⟨RJ33, "<init>", "(Ljava/util/NavigableMap;)V"⟩
def dkwJ33_init_2_0 : List UInt8 := [42, 183, 0, 1, 42, 43, 181, 0, 7, 177]
abbrev dktJ33_init_2_0 : List UInt8 := dkwJ33_init_2_0 ++ []
theorem dksJ33_init_2_0 : cJ33_init_2.data.toList.drop 0 = dktJ33_init_2_0 := by decide +kernel
theorem dJ33_init_2_0 : decode cJ33_init_2 0 = .ok (.aload_n 0, 1) := dk_42 (dk_at dksJ33_init_2_0 0 rfl rfl)
theorem dJ33_init_2_1 : decode cJ33_init_2 1 = .ok (.invokespecial 1, 3) := dk_183 0 1 (dk_at dksJ33_init_2_0 1 rfl rfl)
theorem dJ33_init_2_4 : decode cJ33_init_2 4 = .ok (.aload_n 0, 1) := dk_42 (dk_at dksJ33_init_2_0 4 rfl rfl)
theorem dJ33_init_2_5 : decode cJ33_init_2 5 = .ok (.aload_n 1, 1) := dk_43 (dk_at dksJ33_init_2_0 5 rfl rfl)
theorem dJ33_init_2_6 : decode cJ33_init_2 6 = .ok (.putfield 7, 3) := dk_181 0 7 (dk_at dksJ33_init_2_0 6 rfl rfl)
theorem dJ33_init_2_9 : decode cJ33_init_2 9 = .ok (.return_, 1) := dk_177 (dk_at dksJ33_init_2_0 9 rfl rfl)
abbrev cJ33_add : ByteArray := prog_93_method_12_code
def yJ33_add : MethodName := ⟨RJ33, "add", "(Ljava/lang/Object;)Z"⟩
def dkwJ33_add_0 : List UInt8 := [42, 180, 0, 7, 43, 178, 0, 65, 185, 0, 69, 3, 0, 199, 0, 7, 4, 167, 0, 4, 3, 172]
abbrev dktJ33_add_0 : List UInt8 := dkwJ33_add_0 ++ []
theorem dksJ33_add_0 : cJ33_add.data.toList.drop 0 = dktJ33_add_0 := by decide +kernel
theorem dJ33_add_0 : decode cJ33_add 0 = .ok (.aload_n 0, 1) := dk_42 (dk_at dksJ33_add_0 0 rfl rfl)
theorem dJ33_add_1 : decode cJ33_add 1 = .ok (.getfield 7, 3) := dk_180 0 7 (dk_at dksJ33_add_0 1 rfl rfl)
theorem dJ33_add_4 : decode cJ33_add 4 = .ok (.aload_n 1, 1) := dk_43 (dk_at dksJ33_add_0 4 rfl rfl)
theorem dJ33_add_5 : decode cJ33_add 5 = .ok (.getstatic 65, 3) := dk_178 0 65 (dk_at dksJ33_add_0 5 rfl rfl)
theorem dJ33_add_8 : decode cJ33_add 8 = .ok (.invokeinterface 69 3, 5) := by decide +kernel
theorem dJ33_add_13 : decode cJ33_add 13 = .ok (.ifnonnull 7, 3) := dk_199 0 7 (dk_at dksJ33_add_0 13 rfl rfl)
theorem dJ33_add_16 : decode cJ33_add 16 = .ok (.iconst 1, 1) := dk_4 (dk_at dksJ33_add_0 16 rfl rfl)
theorem dJ33_add_17 : decode cJ33_add 17 = .ok (.goto 4, 3) := dk_167 0 4 (dk_at dksJ33_add_0 17 rfl rfl)
theorem dJ33_add_20 : decode cJ33_add 20 = .ok (.iconst 0, 1) := dk_3 (dk_at dksJ33_add_0 20 rfl rfl)
theorem dJ33_add_21 : decode cJ33_add 21 = .ok (.ireturn, 1) := dk_172 (dk_at dksJ33_add_0 21 rfl rfl)
theorem q153 : (Jvm.Cond.initialized "java/util/TreeSet") ∈ lw_all := lw_g (lw_at lw_m1 67 rfl) rfl
theorem q741 : (Jvm.Cond.selects "java/util/TreeSet" ({ cls := "java/lang/Object", name := "getClass", desc := "()Ljava/lang/Class;" } : Jvm.MethodName) ({ cls := "java/lang/Object", name := "getClass", desc := "()Ljava/lang/Class;" } : Jvm.MethodName)) ∈ lw_all := lw_g (lw_at lw_m3 175 rfl) rfl
theorem q785 : (Jvm.Cond.selects "java/util/TreeSet" ({ cls := "java/util/AbstractCollection", name := "size", desc := "()I" } : Jvm.MethodName) ({ cls := "java/util/TreeSet", name := "size", desc := "()I" } : Jvm.MethodName)) ∈ lw_all := lw_g (lw_at lw_m3 219 rfl) rfl
theorem q786 : (Jvm.Cond.instanceMethod ({ cls := "java/util/TreeSet", name := "size", desc := "()I" } : Jvm.MethodName)) ∈ lw_all := lw_g (lw_at lw_m3 220 rfl) rfl
theorem q787 : (Jvm.Cond.code ({ cls := "java/util/TreeSet", name := "size", desc := "()I" } : Jvm.MethodName) prog_93_method_9_code (1 : Nat) (Option.some Jvm.ClassFile.FieldType.int)) ∈ lw_all := lw_g (lw_at lw_m3 221 rfl) rfl
theorem q788 : (Jvm.Cond.interfaceEntry "java/util/TreeSet" (53 : Nat)) ∈ lw_tbl := lw_at lw_m3 222 rfl
theorem q904 : (Jvm.Cond.selects "java/util/TreeSet" ({ cls := "java/util/AbstractCollection", name := "iterator", desc := "()Ljava/util/Iterator;" } : Jvm.MethodName) ({ cls := "java/util/TreeSet", name := "iterator", desc := "()Ljava/util/Iterator;" } : Jvm.MethodName)) ∈ lw_all := lw_g (lw_at lw_m4 98 rfl) rfl
theorem q905 : (Jvm.Cond.instanceMethod ({ cls := "java/util/TreeSet", name := "iterator", desc := "()Ljava/util/Iterator;" } : Jvm.MethodName)) ∈ lw_all := lw_g (lw_at lw_m4 99 rfl) rfl
theorem q906 : (Jvm.Cond.code ({ cls := "java/util/TreeSet", name := "iterator", desc := "()Ljava/util/Iterator;" } : Jvm.MethodName) prog_93_method_6_code (1 : Nat) (Option.some (Jvm.ClassFile.FieldType.object "java/util/Iterator"))) ∈ lw_all := lw_g (lw_at lw_m4 100 rfl) rfl
theorem q907 : (Jvm.Cond.interfaceEntry "java/util/TreeSet" (34 : Nat)) ∈ lw_tbl := lw_at lw_m4 101 rfl
theorem q908 : (Jvm.Cond.methodLink "java/util/TreeSet" (34 : Nat) ({ cls := "java/util/NavigableMap", name := "navigableKeySet", desc := "()Ljava/util/NavigableSet;" } : Jvm.MethodName)) ∈ lw_all := lw_g (lw_at lw_m4 102 rfl) rfl
theorem q929 : (Jvm.Cond.interfaceEntry "java/util/TreeSet" (40 : Nat)) ∈ lw_tbl := lw_at lw_m4 123 rfl
theorem q930 : (Jvm.Cond.methodLink "java/util/TreeSet" (40 : Nat) ({ cls := "java/util/NavigableSet", name := "iterator", desc := "()Ljava/util/Iterator;" } : Jvm.MethodName)) ∈ lw_all := lw_g (lw_at lw_m4 124 rfl) rfl
theorem q937 : (Jvm.Cond.castable "java/util/TreeSet" "java/util/NavigableSet") ∈ lw_tbl := lw_at lw_m4 131 rfl
theorem q938 : (Jvm.Cond.selects "java/util/TreeSet" ({ cls := "java/util/NavigableSet", name := "iterator", desc := "()Ljava/util/Iterator;" } : Jvm.MethodName) ({ cls := "java/util/TreeSet", name := "iterator", desc := "()Ljava/util/Iterator;" } : Jvm.MethodName)) ∈ lw_all := lw_g (lw_at lw_m4 132 rfl) rfl
theorem q939 : (Jvm.Cond.unhidden "java/util/TreeSet" "iterator" "()Ljava/util/Iterator;") ∈ lw_tbl := lw_at lw_m4 133 rfl
theorem q940 : (Jvm.Cond.publicMethod ({ cls := "java/util/TreeSet", name := "iterator", desc := "()Ljava/util/Iterator;" } : Jvm.MethodName)) ∈ lw_tbl := lw_at lw_m4 134 rfl
theorem q1042 : (Jvm.Cond.castable "java/util/TreeSet" "java/util/Collection") ∈ lw_tbl := lw_at lw_m4 236 rfl
theorem q1043 : (Jvm.Cond.selects "java/util/TreeSet" ({ cls := "java/util/Collection", name := "toArray", desc := "()[Ljava/lang/Object;" } : Jvm.MethodName) ({ cls := "java/util/AbstractCollection", name := "toArray", desc := "()[Ljava/lang/Object;" } : Jvm.MethodName)) ∈ lw_all := lw_g (lw_at lw_m4 237 rfl) rfl
theorem q1044 : (Jvm.Cond.unhidden "java/util/TreeSet" "toArray" "()[Ljava/lang/Object;") ∈ lw_tbl := lw_at lw_m4 238 rfl
theorem q2699 : (Jvm.Cond.castable "java/util/TreeSet" "java/util/Set") ∈ lw_tbl := lw_at lw_m11 213 rfl
theorem q2700 : (Jvm.Cond.selects "java/util/TreeSet" ({ cls := "java/util/Set", name := "iterator", desc := "()Ljava/util/Iterator;" } : Jvm.MethodName) ({ cls := "java/util/TreeSet", name := "iterator", desc := "()Ljava/util/Iterator;" } : Jvm.MethodName)) ∈ lw_all := lw_g (lw_at lw_m11 214 rfl) rfl
theorem q2773 : (Jvm.Cond.instantiable "java/util/TreeSet" (1 : Nat)) ∈ lw_all := lw_g (lw_at lw_m12 47 rfl) rfl
theorem q2775 : (Jvm.Cond.instanceMethod ({ cls := "java/util/TreeSet", name := "<init>", desc := "()V" } : Jvm.MethodName)) ∈ lw_all := lw_g (lw_at lw_m12 49 rfl) rfl
theorem q2776 : (Jvm.Cond.code ({ cls := "java/util/TreeSet", name := "<init>", desc := "()V" } : Jvm.MethodName) prog_93_method_2_code (1 : Nat) (Option.none : Option Jvm.ClassFile.FieldType)) ∈ lw_all := lw_g (lw_at lw_m12 50 rfl) rfl
theorem q2777 : (Jvm.Cond.classLink "java/util/TreeSet" (13 : Nat) "java/util/TreeMap") ∈ lw_all := lw_g (lw_at lw_m12 51 rfl) rfl
theorem q2778 : (Jvm.Cond.methodLink "java/util/TreeSet" (15 : Nat) ({ cls := "java/util/TreeMap", name := "<init>", desc := "()V" } : Jvm.MethodName)) ∈ lw_all := lw_g (lw_at lw_m12 52 rfl) rfl
theorem q2779 : (Jvm.Cond.methodLink "java/util/TreeSet" (16 : Nat) ({ cls := "java/util/TreeSet", name := "<init>", desc := "(Ljava/util/NavigableMap;)V" } : Jvm.MethodName)) ∈ lw_all := lw_g (lw_at lw_m12 53 rfl) rfl
theorem q2780 : (Jvm.Cond.instanceMethod ({ cls := "java/util/TreeSet", name := "<init>", desc := "(Ljava/util/NavigableMap;)V" } : Jvm.MethodName)) ∈ lw_all := lw_g (lw_at lw_m12 54 rfl) rfl
theorem q2781 : (Jvm.Cond.code ({ cls := "java/util/TreeSet", name := "<init>", desc := "(Ljava/util/NavigableMap;)V" } : Jvm.MethodName) prog_93_method_1_code (2 : Nat) (Option.none : Option Jvm.ClassFile.FieldType)) ∈ lw_all := lw_g (lw_at lw_m12 55 rfl) rfl
theorem q2782 : (Jvm.Cond.methodLink "java/util/TreeSet" (1 : Nat) ({ cls := "java/util/AbstractSet", name := "<init>", desc := "()V" } : Jvm.MethodName)) ∈ lw_all := lw_g (lw_at lw_m12 56 rfl) rfl
theorem q2783 : (Jvm.Cond.fieldLink "java/util/TreeSet" (7 : Nat) "java/util/TreeSet" "m" "Ljava/util/NavigableMap;") ∈ lw_all := lw_g (lw_at lw_m12 57 rfl) rfl
theorem q2784 : (Jvm.Cond.lays "java/util/TreeSet" "java/util/TreeSet" "m" "Ljava/util/NavigableMap;") ∈ lw_all := lw_g (lw_at lw_m12 58 rfl) rfl
theorem q2785 : (Jvm.Cond.soleField "java/util/TreeSet" "m") ∈ lw_all := lw_g (lw_at lw_m12 59 rfl) rfl
theorem q2786 : (Jvm.Cond.superclass "java/util/TreeSet" "java/util/AbstractSet") ∈ lw_all := lw_g (lw_at lw_m12 60 rfl) rfl
theorem q2813 : (Jvm.Cond.instanceMethod ({ cls := "java/util/TreeSet", name := "add", desc := "(Ljava/lang/Object;)Z" } : Jvm.MethodName)) ∈ lw_all := lw_g (lw_at lw_m12 87 rfl) rfl
theorem q2814 : (Jvm.Cond.selects "java/util/TreeSet" ({ cls := "java/util/TreeSet", name := "add", desc := "(Ljava/lang/Object;)Z" } : Jvm.MethodName) ({ cls := "java/util/TreeSet", name := "add", desc := "(Ljava/lang/Object;)Z" } : Jvm.MethodName)) ∈ lw_all := lw_g (lw_at lw_m12 88 rfl) rfl
theorem q2815 : (Jvm.Cond.code ({ cls := "java/util/TreeSet", name := "add", desc := "(Ljava/lang/Object;)Z" } : Jvm.MethodName) prog_93_method_12_code (2 : Nat) (Option.some Jvm.ClassFile.FieldType.boolean)) ∈ lw_all := lw_g (lw_at lw_m12 89 rfl) rfl
theorem q2816 : (Jvm.Cond.fieldLink "java/util/TreeSet" (65 : Nat) "java/util/TreeSet" "PRESENT" "Ljava/lang/Object;") ∈ lw_all := lw_g (lw_at lw_m12 90 rfl) rfl
theorem q2817 : (Jvm.Cond.laysStatic "java/util/TreeSet" "PRESENT" "Ljava/lang/Object;") ∈ lw_tbl := lw_at lw_m12 91 rfl
theorem q2818 : (Jvm.Cond.interfaceEntry "java/util/TreeSet" (69 : Nat)) ∈ lw_tbl := lw_at lw_m12 92 rfl
theorem q3327 : (Jvm.Cond.selects "java/util/TreeSet" ({ cls := "java/util/TreeSet", name := "iterator", desc := "()Ljava/util/Iterator;" } : Jvm.MethodName) ({ cls := "java/util/TreeSet", name := "iterator", desc := "()Ljava/util/Iterator;" } : Jvm.MethodName)) ∈ lw_all := lw_g (lw_at lw_m14 121 rfl) rfl
theorem q3372 : (Jvm.Cond.castable "java/util/TreeSet" "java/lang/Object") ∈ lw_tbl := lw_at lw_m14 166 rfl
theorem in_J33 : ∀ w ∈ wsJ330, w ∈ lw_all := lw_in wsJ330 [2784] (by decide +kernel) (by decide +kernel)

end
section
/-! java/lang/Object -/
set_option maxRecDepth 100000
def RJ34 : String := "java/lang/Object"
abbrev cJ34_init : ByteArray := object_method_1_code
def yJ34_init : MethodName := ⟨RJ34, "<init>", "()V"⟩
theorem dJ34_init_0 : decode cJ34_init 0 = .ok (.return_, 1) := by decide +kernel
theorem q161 : (Jvm.Cond.instanceMethod ({ cls := "java/lang/Object", name := "<init>", desc := "()V" } : Jvm.MethodName)) ∈ lw_all := lw_g (lw_at lw_m1 75 rfl) rfl
theorem q162 : (Jvm.Cond.code ({ cls := "java/lang/Object", name := "<init>", desc := "()V" } : Jvm.MethodName) object_method_1_code (1 : Nat) (Option.none : Option Jvm.ClassFile.FieldType)) ∈ lw_all := lw_g (lw_at lw_m1 76 rfl) rfl
theorem q695 : (Jvm.Cond.instanceMethod ({ cls := "java/lang/Object", name := "getClass", desc := "()Ljava/lang/Class;" } : Jvm.MethodName)) ∈ lw_all := lw_g (lw_at lw_m3 129 rfl) rfl
theorem q696 : (Jvm.Cond.sameMethod "java/lang/Object" "java/lang/Object" "getClass" "()Ljava/lang/Class;") ∈ lw_all := lw_g (lw_at lw_m3 130 rfl) rfl
theorem q743 : (Jvm.Cond.native ({ cls := "java/lang/Object", name := "getClass", desc := "()Ljava/lang/Class;" } : Jvm.MethodName)) ∈ lw_all := lw_g (lw_at lw_m3 177 rfl) rfl
theorem q1640 : (Jvm.Cond.native ({ cls := "java/lang/Object", name := "clone", desc := "()Ljava/lang/Object;" } : Jvm.MethodName)) ∈ lw_all := lw_g (lw_at lw_m7 114 rfl) rfl
theorem q1641 : (Jvm.Cond.instanceMethod ({ cls := "java/lang/Object", name := "clone", desc := "()Ljava/lang/Object;" } : Jvm.MethodName)) ∈ lw_all := lw_g (lw_at lw_m7 115 rfl) rfl
theorem q3328 : (Jvm.Cond.initialized "java/lang/Object") ∈ lw_all := lw_g (lw_at lw_m14 122 rfl) rfl
theorem q3379 : (Jvm.Cond.declares ({ cls := "java/lang/Object", name := "getClass", desc := "()Ljava/lang/Class;" } : Jvm.MethodName)) ∈ lw_tbl := lw_at lw_m14 173 rfl

end
section
/-! java/lang/System$2 -/
set_option maxRecDepth 100000
def RJ35 : String := "java/lang/System$2"
abbrev cJ35_getUTF16Char : ByteArray := prog_53_method_45_code
def yJ35_getUTF16Char : MethodName := ⟨RJ35, "getUTF16Char", "([BI)C"⟩
def dkwJ35_getUTF16Char_0 : List UInt8 := [43, 28, 184, 0, 185, 172]
abbrev dktJ35_getUTF16Char_0 : List UInt8 := dkwJ35_getUTF16Char_0 ++ []
theorem dksJ35_getUTF16Char_0 : cJ35_getUTF16Char.data.toList.drop 0 = dktJ35_getUTF16Char_0 := by decide +kernel
theorem dJ35_getUTF16Char_0 : decode cJ35_getUTF16Char 0 = .ok (.aload_n 1, 1) := dk_43 (dk_at dksJ35_getUTF16Char_0 0 rfl rfl)
theorem dJ35_getUTF16Char_1 : decode cJ35_getUTF16Char 1 = .ok (.iload_n 2, 1) := dk_28 (dk_at dksJ35_getUTF16Char_0 1 rfl rfl)
theorem dJ35_getUTF16Char_2 : decode cJ35_getUTF16Char 2 = .ok (.invokestatic 185, 3) := dk_184 0 185 (dk_at dksJ35_getUTF16Char_0 2 rfl rfl)
theorem dJ35_getUTF16Char_5 : decode cJ35_getUTF16Char 5 = .ok (.ireturn, 1) := dk_172 (dk_at dksJ35_getUTF16Char_0 5 rfl rfl)
theorem q730 : (Jvm.Cond.selects "java/lang/System$2" ({ cls := "java/lang/Object", name := "getClass", desc := "()Ljava/lang/Class;" } : Jvm.MethodName) ({ cls := "java/lang/Object", name := "getClass", desc := "()Ljava/lang/Class;" } : Jvm.MethodName)) ∈ lw_all := lw_g (lw_at lw_m3 164 rfl) rfl
theorem q1936 : (Jvm.Cond.castable "java/lang/System$2" "jdk/internal/access/JavaLangAccess") ∈ lw_tbl := lw_at lw_m8 170 rfl
theorem q1937 : (Jvm.Cond.selects "java/lang/System$2" ({ cls := "jdk/internal/access/JavaLangAccess", name := "getUTF16Char", desc := "([BI)C" } : Jvm.MethodName) ({ cls := "java/lang/System$2", name := "getUTF16Char", desc := "([BI)C" } : Jvm.MethodName)) ∈ lw_all := lw_g (lw_at lw_m8 171 rfl) rfl
theorem q1938 : (Jvm.Cond.unhidden "java/lang/System$2" "getUTF16Char" "([BI)C") ∈ lw_tbl := lw_at lw_m8 172 rfl
theorem q1939 : (Jvm.Cond.instanceMethod ({ cls := "java/lang/System$2", name := "getUTF16Char", desc := "([BI)C" } : Jvm.MethodName)) ∈ lw_all := lw_g (lw_at lw_m8 173 rfl) rfl
theorem q1940 : (Jvm.Cond.publicMethod ({ cls := "java/lang/System$2", name := "getUTF16Char", desc := "([BI)C" } : Jvm.MethodName)) ∈ lw_tbl := lw_at lw_m8 174 rfl
theorem q1941 : (Jvm.Cond.code ({ cls := "java/lang/System$2", name := "getUTF16Char", desc := "([BI)C" } : Jvm.MethodName) prog_53_method_45_code (3 : Nat) (Option.some Jvm.ClassFile.FieldType.char)) ∈ lw_all := lw_g (lw_at lw_m8 175 rfl) rfl
theorem q1942 : (Jvm.Cond.methodLink "java/lang/System$2" (185 : Nat) ({ cls := "java/lang/StringUTF16", name := "getChar", desc := "([BI)C" } : Jvm.MethodName)) ∈ lw_all := lw_g (lw_at lw_m8 176 rfl) rfl
theorem q3356 : (Jvm.Cond.castable "java/lang/System$2" "java/lang/Object") ∈ lw_tbl := lw_at lw_m14 150 rfl

end