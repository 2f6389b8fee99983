section
/-! CribBooklet -/
set_option maxRecDepth 100000
def RX0 : String := "CribBooklet"
def TX0 : u_T := fun k => match k with
  | 0 => ("CribBooklet", "desk", "LCribBooklet$Desk;", false)
  | 1 => ("CribBooklet", "history", "Ljava/util/ArrayDeque;", true)
  | _ => ("CribBooklet", "text", "Ljava/lang/StringBuilder;", true)
def tyX0 : Nat → FieldType := fun k => match k with
  | 0 => .object "CribBooklet$Desk"
  | 1 => .object "java/util/ArrayDeque"
  | _ => .object "java/lang/StringBuilder"
abbrev wsX00 : List Cond := u_ws RX0 TX0 3
theorem nmX0 : ∀ a, a < 3 → ∀ b, b < 3 → a ≠ b → (TX0 a).2.1 ≠ (TX0 b).2.1 := by decide +kernel
theorem tyX0_ok : ∀ k, k < 3 → parseFieldDescriptor (TX0 k).2.2.1 = some (tyX0 k) := by decide +kernel
abbrev cX0_init : ByteArray := prog_1_method_1_code
def yX0_init : MethodName := ⟨RX0, "<init>", "()V"⟩
def dkwX0_init_1 : List UInt8 := [181, 0, 19, 42, 187, 0, 23, 89, 183, 0, 25, 181, 0, 26, 177]
abbrev dktX0_init_1 : List UInt8 := dkwX0_init_1 ++ []
def dkwX0_init_0 : List UInt8 := [42, 183, 0, 1, 42, 187, 0, 7, 89, 183, 0, 9, 181, 0, 10, 42, 187, 0, 16, 89, 183, 0, 18]
abbrev dktX0_init_0 : List UInt8 := dkwX0_init_0 ++ dktX0_init_1
theorem dksX0_init_0 : cX0_init.data.toList.drop 0 = dktX0_init_0 := by decide +kernel
theorem dksX0_init_1 : cX0_init.data.toList.drop 23 = dktX0_init_1 := dk_seg dksX0_init_0 23 rfl rfl
theorem dX0_init_0 : decode cX0_init 0 = .ok (.aload_n 0, 1) := dk_42 (dk_at dksX0_init_0 0 rfl rfl)
theorem dX0_init_1 : decode cX0_init 1 = .ok (.invokespecial 1, 3) := dk_183 0 1 (dk_at dksX0_init_0 1 rfl rfl)
theorem dX0_init_4 : decode cX0_init 4 = .ok (.aload_n 0, 1) := dk_42 (dk_at dksX0_init_0 4 rfl rfl)
theorem dX0_init_5 : decode cX0_init 5 = .ok (.new 7, 3) := dk_187 0 7 (dk_at dksX0_init_0 5 rfl rfl)
theorem dX0_init_8 : decode cX0_init 8 = .ok (.dup, 1) := dk_89 (dk_at dksX0_init_0 8 rfl rfl)
theorem dX0_init_9 : decode cX0_init 9 = .ok (.invokespecial 9, 3) := dk_183 0 9 (dk_at dksX0_init_0 9 rfl rfl)
theorem dX0_init_12 : decode cX0_init 12 = .ok (.putfield 10, 3) := dk_181 0 10 (dk_at dksX0_init_0 12 rfl rfl)
theorem dX0_init_15 : decode cX0_init 15 = .ok (.aload_n 0, 1) := dk_42 (dk_at dksX0_init_0 15 rfl rfl)
theorem dX0_init_16 : decode cX0_init 16 = .ok (.new 16, 3) := dk_187 0 16 (dk_at dksX0_init_0 16 rfl rfl)
theorem dX0_init_19 : decode cX0_init 19 = .ok (.dup, 1) := dk_89 (dk_at dksX0_init_0 19 rfl rfl)
theorem dX0_init_20 : decode cX0_init 20 = .ok (.invokespecial 18, 3) := dk_183 0 18 (dk_at dksX0_init_0 20 rfl rfl)
theorem dX0_init_23 : decode cX0_init 23 = .ok (.putfield 19, 3) := dk_181 0 19 (dk_at dksX0_init_1 0 rfl rfl)
theorem dX0_init_26 : decode cX0_init 26 = .ok (.aload_n 0, 1) := dk_42 (dk_at dksX0_init_1 3 rfl rfl)
theorem dX0_init_27 : decode cX0_init 27 = .ok (.new 23, 3) := dk_187 0 23 (dk_at dksX0_init_1 4 rfl rfl)
theorem dX0_init_30 : decode cX0_init 30 = .ok (.dup, 1) := dk_89 (dk_at dksX0_init_1 7 rfl rfl)
theorem dX0_init_31 : decode cX0_init 31 = .ok (.invokespecial 25, 3) := dk_183 0 25 (dk_at dksX0_init_1 8 rfl rfl)
theorem dX0_init_34 : decode cX0_init 34 = .ok (.putfield 26, 3) := dk_181 0 26 (dk_at dksX0_init_1 11 rfl rfl)
theorem dX0_init_37 : decode cX0_init 37 = .ok (.return_, 1) := dk_177 (dk_at dksX0_init_1 14 rfl rfl)
abbrev cX0_setSheet : ByteArray := prog_1_method_7_code
def yX0_setSheet : MethodName := ⟨RX0, "setSheet", "(II)I"⟩
def dkwX0_setSheet_0 : List UInt8 := [42, 187, 0, 67, 89, 27, 28, 183, 0, 69, 182, 0, 72, 172]
abbrev dktX0_setSheet_0 : List UInt8 := dkwX0_setSheet_0 ++ []
theorem dksX0_setSheet_0 : cX0_setSheet.data.toList.drop 0 = dktX0_setSheet_0 := by decide +kernel
theorem dX0_setSheet_0 : decode cX0_setSheet 0 = .ok (.aload_n 0, 1) := dk_42 (dk_at dksX0_setSheet_0 0 rfl rfl)
theorem dX0_setSheet_1 : decode cX0_setSheet 1 = .ok (.new 67, 3) := dk_187 0 67 (dk_at dksX0_setSheet_0 1 rfl rfl)
theorem dX0_setSheet_4 : decode cX0_setSheet 4 = .ok (.dup, 1) := dk_89 (dk_at dksX0_setSheet_0 4 rfl rfl)
theorem dX0_setSheet_5 : decode cX0_setSheet 5 = .ok (.iload_n 1, 1) := dk_27 (dk_at dksX0_setSheet_0 5 rfl rfl)
theorem dX0_setSheet_6 : decode cX0_setSheet 6 = .ok (.iload_n 2, 1) := dk_28 (dk_at dksX0_setSheet_0 6 rfl rfl)
theorem dX0_setSheet_7 : decode cX0_setSheet 7 = .ok (.invokespecial 69, 3) := dk_183 0 69 (dk_at dksX0_setSheet_0 7 rfl rfl)
theorem dX0_setSheet_10 : decode cX0_setSheet 10 = .ok (.invokevirtual 72, 3) := dk_182 0 72 (dk_at dksX0_setSheet_0 10 rfl rfl)
theorem dX0_setSheet_13 : decode cX0_setSheet 13 = .ok (.ireturn, 1) := dk_172 (dk_at dksX0_setSheet_0 13 rfl rfl)
abbrev cX0_perform : ByteArray := prog_1_method_6_code
def yX0_perform : MethodName := ⟨RX0, "perform", "(LCribBooklet$Command;)I"⟩
def dkwX0_perform_1 : List UInt8 := [180, 0, 10, 182, 0, 56, 182, 0, 60, 43, 42, 180, 0, 10, 180, 0, 46, 185, 0, 64, 2, 0, 172]
abbrev dktX0_perform_1 : List UInt8 := dkwX0_perform_1 ++ []
def dkwX0_perform_0 : List UInt8 := [43, 42, 180, 0, 10, 180, 0, 46, 185, 0, 50, 2, 0, 61, 28, 156, 0, 5, 28, 172, 42, 42]
abbrev dktX0_perform_0 : List UInt8 := dkwX0_perform_0 ++ dktX0_perform_1
theorem dksX0_perform_0 : cX0_perform.data.toList.drop 0 = dktX0_perform_0 := by decide +kernel
theorem dksX0_perform_1 : cX0_perform.data.toList.drop 22 = dktX0_perform_1 := dk_seg dksX0_perform_0 22 rfl rfl
theorem dX0_perform_0 : decode cX0_perform 0 = .ok (.aload_n 1, 1) := dk_43 (dk_at dksX0_perform_0 0 rfl rfl)
theorem dX0_perform_1 : decode cX0_perform 1 = .ok (.aload_n 0, 1) := dk_42 (dk_at dksX0_perform_0 1 rfl rfl)
theorem dX0_perform_2 : decode cX0_perform 2 = .ok (.getfield 10, 3) := dk_180 0 10 (dk_at dksX0_perform_0 2 rfl rfl)
theorem dX0_perform_5 : decode cX0_perform 5 = .ok (.getfield 46, 3) := dk_180 0 46 (dk_at dksX0_perform_0 5 rfl rfl)
theorem dX0_perform_8 : decode cX0_perform 8 = .ok (.invokeinterface 50 2, 5) := by decide +kernel
theorem dX0_perform_13 : decode cX0_perform 13 = .ok (.istore_n 2, 1) := dk_61 (dk_at dksX0_perform_0 13 rfl rfl)
theorem dX0_perform_14 : decode cX0_perform 14 = .ok (.iload_n 2, 1) := dk_28 (dk_at dksX0_perform_0 14 rfl rfl)
theorem dX0_perform_15 : decode cX0_perform 15 = .ok (.ifCond .ge 5, 3) := dk_156 0 5 (dk_at dksX0_perform_0 15 rfl rfl)
theorem dX0_perform_18 : decode cX0_perform 18 = .ok (.iload_n 2, 1) := dk_28 (dk_at dksX0_perform_0 18 rfl rfl)
theorem dX0_perform_19 : decode cX0_perform 19 = .ok (.ireturn, 1) := dk_172 (dk_at dksX0_perform_0 19 rfl rfl)
theorem dX0_perform_20 : decode cX0_perform 20 = .ok (.aload_n 0, 1) := dk_42 (dk_at dksX0_perform_0 20 rfl rfl)
theorem dX0_perform_21 : decode cX0_perform 21 = .ok (.aload_n 0, 1) := dk_42 (dk_at dksX0_perform_0 21 rfl rfl)
theorem dX0_perform_22 : decode cX0_perform 22 = .ok (.getfield 10, 3) := dk_180 0 10 (dk_at dksX0_perform_1 0 rfl rfl)
theorem dX0_perform_25 : decode cX0_perform 25 = .ok (.invokevirtual 56, 3) := dk_182 0 56 (dk_at dksX0_perform_1 3 rfl rfl)
theorem dX0_perform_28 : decode cX0_perform 28 = .ok (.invokevirtual 60, 3) := dk_182 0 60 (dk_at dksX0_perform_1 6 rfl rfl)
theorem dX0_perform_31 : decode cX0_perform 31 = .ok (.aload_n 1, 1) := dk_43 (dk_at dksX0_perform_1 9 rfl rfl)
theorem dX0_perform_32 : decode cX0_perform 32 = .ok (.aload_n 0, 1) := dk_42 (dk_at dksX0_perform_1 10 rfl rfl)
theorem dX0_perform_33 : decode cX0_perform 33 = .ok (.getfield 10, 3) := dk_180 0 10 (dk_at dksX0_perform_1 11 rfl rfl)
theorem dX0_perform_36 : decode cX0_perform 36 = .ok (.getfield 46, 3) := dk_180 0 46 (dk_at dksX0_perform_1 14 rfl rfl)
theorem dX0_perform_39 : decode cX0_perform 39 = .ok (.invokeinterface 64 2, 5) := by decide +kernel
theorem dX0_perform_44 : decode cX0_perform 44 = .ok (.ireturn, 1) := dk_172 (dk_at dksX0_perform_1 22 rfl rfl)
abbrev cX0_isIn : ByteArray := prog_1_method_2_code
def yX0_isIn : MethodName := ⟨RX0, "isIn", "(III)Z"⟩
def dkwX0_isIn_0 : List UInt8 := [26, 27, 161, 0, 12, 26, 28, 163, 0, 7, 4, 167, 0, 4, 3, 172]
abbrev dktX0_isIn_0 : List UInt8 := dkwX0_isIn_0 ++ []
theorem dksX0_isIn_0 : cX0_isIn.data.toList.drop 0 = dktX0_isIn_0 := by decide +kernel
theorem dX0_isIn_0 : decode cX0_isIn 0 = .ok (.iload_n 0, 1) := dk_26 (dk_at dksX0_isIn_0 0 rfl rfl)
theorem dX0_isIn_1 : decode cX0_isIn 1 = .ok (.iload_n 1, 1) := dk_27 (dk_at dksX0_isIn_0 1 rfl rfl)
theorem dX0_isIn_2 : decode cX0_isIn 2 = .ok (.if_icmp .lt 12, 3) := dk_161 0 12 (dk_at dksX0_isIn_0 2 rfl rfl)
theorem dX0_isIn_5 : decode cX0_isIn 5 = .ok (.iload_n 0, 1) := dk_26 (dk_at dksX0_isIn_0 5 rfl rfl)
theorem dX0_isIn_6 : decode cX0_isIn 6 = .ok (.iload_n 2, 1) := dk_28 (dk_at dksX0_isIn_0 6 rfl rfl)
theorem dX0_isIn_7 : decode cX0_isIn 7 = .ok (.if_icmp .gt 7, 3) := dk_163 0 7 (dk_at dksX0_isIn_0 7 rfl rfl)
theorem dX0_isIn_10 : decode cX0_isIn 10 = .ok (.iconst 1, 1) := dk_4 (dk_at dksX0_isIn_0 10 rfl rfl)
theorem dX0_isIn_11 : decode cX0_isIn 11 = .ok (.goto 4, 3) := dk_167 0 4 (dk_at dksX0_isIn_0 11 rfl rfl)
theorem dX0_isIn_14 : decode cX0_isIn 14 = .ok (.iconst 0, 1) := dk_3 (dk_at dksX0_isIn_0 14 rfl rfl)
theorem dX0_isIn_15 : decode cX0_isIn 15 = .ok (.ireturn, 1) := dk_172 (dk_at dksX0_isIn_0 15 rfl rfl)
abbrev cX0_isBit : ByteArray := prog_1_method_3_code
def yX0_isBit : MethodName := ⟨RX0, "isBit", "(I)Z"⟩
def dkwX0_isBit_0 : List UInt8 := [26, 3, 4, 184, 0, 30, 172]
abbrev dktX0_isBit_0 : List UInt8 := dkwX0_isBit_0 ++ []
theorem dksX0_isBit_0 : cX0_isBit.data.toList.drop 0 = dktX0_isBit_0 := by decide +kernel
theorem dX0_isBit_0 : decode cX0_isBit 0 = .ok (.iload_n 0, 1) := dk_26 (dk_at dksX0_isBit_0 0 rfl rfl)
theorem dX0_isBit_1 : decode cX0_isBit 1 = .ok (.iconst 0, 1) := dk_3 (dk_at dksX0_isBit_0 1 rfl rfl)
theorem dX0_isBit_2 : decode cX0_isBit 2 = .ok (.iconst 1, 1) := dk_4 (dk_at dksX0_isBit_0 2 rfl rfl)
theorem dX0_isBit_3 : decode cX0_isBit 3 = .ok (.invokestatic 30, 3) := dk_184 0 30 (dk_at dksX0_isBit_0 3 rfl rfl)
theorem dX0_isBit_6 : decode cX0_isBit 6 = .ok (.ireturn, 1) := dk_172 (dk_at dksX0_isBit_0 6 rfl rfl)
abbrev cX0_has : ByteArray := prog_1_method_4_code
def yX0_has : MethodName := ⟨RX0, "has", "(II)Z"⟩
def dkwX0_has_0 : List UInt8 := [26, 27, 122, 4, 126, 4, 160, 0, 7, 4, 167, 0, 4, 3, 172]
abbrev dktX0_has_0 : List UInt8 := dkwX0_has_0 ++ []
theorem dksX0_has_0 : cX0_has.data.toList.drop 0 = dktX0_has_0 := by decide +kernel
theorem dX0_has_0 : decode cX0_has 0 = .ok (.iload_n 0, 1) := dk_26 (dk_at dksX0_has_0 0 rfl rfl)
theorem dX0_has_1 : decode cX0_has 1 = .ok (.iload_n 1, 1) := dk_27 (dk_at dksX0_has_0 1 rfl rfl)
theorem dX0_has_2 : decode cX0_has 2 = .ok (.ishr, 1) := dk_122 (dk_at dksX0_has_0 2 rfl rfl)
theorem dX0_has_3 : decode cX0_has 3 = .ok (.iconst 1, 1) := dk_4 (dk_at dksX0_has_0 3 rfl rfl)
theorem dX0_has_4 : decode cX0_has 4 = .ok (.iand, 1) := dk_126 (dk_at dksX0_has_0 4 rfl rfl)
theorem dX0_has_5 : decode cX0_has 5 = .ok (.iconst 1, 1) := dk_4 (dk_at dksX0_has_0 5 rfl rfl)
theorem dX0_has_6 : decode cX0_has 6 = .ok (.if_icmp .ne 7, 3) := dk_160 0 7 (dk_at dksX0_has_0 6 rfl rfl)
theorem dX0_has_9 : decode cX0_has 9 = .ok (.iconst 1, 1) := dk_4 (dk_at dksX0_has_0 9 rfl rfl)
theorem dX0_has_10 : decode cX0_has 10 = .ok (.goto 4, 3) := dk_167 0 4 (dk_at dksX0_has_0 10 rfl rfl)
theorem dX0_has_13 : decode cX0_has 13 = .ok (.iconst 0, 1) := dk_3 (dk_at dksX0_has_0 13 rfl rfl)
theorem dX0_has_14 : decode cX0_has 14 = .ok (.ireturn, 1) := dk_172 (dk_at dksX0_has_0 14 rfl rfl)
abbrev cX0_remember : ByteArray := prog_1_method_5_code
def yX0_remember : MethodName := ⟨RX0, "remember", "(LCribBooklet$Desk;)V"⟩
def dkwX0_remember_1 : List UInt8 := [182, 0, 42, 177]
abbrev dktX0_remember_1 : List UInt8 := dkwX0_remember_1 ++ []
def dkwX0_remember_0 : List UInt8 := [42, 180, 0, 19, 182, 0, 34, 8, 160, 0, 11, 42, 180, 0, 19, 182, 0, 38, 87, 42, 180, 0, 19, 43]
abbrev dktX0_remember_0 : List UInt8 := dkwX0_remember_0 ++ dktX0_remember_1
theorem dksX0_remember_0 : cX0_remember.data.toList.drop 0 = dktX0_remember_0 := by decide +kernel
theorem dksX0_remember_1 : cX0_remember.data.toList.drop 24 = dktX0_remember_1 := dk_seg dksX0_remember_0 24 rfl rfl
theorem dX0_remember_0 : decode cX0_remember 0 = .ok (.aload_n 0, 1) := dk_42 (dk_at dksX0_remember_0 0 rfl rfl)
theorem dX0_remember_1 : decode cX0_remember 1 = .ok (.getfield 19, 3) := dk_180 0 19 (dk_at dksX0_remember_0 1 rfl rfl)
theorem dX0_remember_4 : decode cX0_remember 4 = .ok (.invokevirtual 34, 3) := dk_182 0 34 (dk_at dksX0_remember_0 4 rfl rfl)
theorem dX0_remember_7 : decode cX0_remember 7 = .ok (.iconst 5, 1) := dk_8 (dk_at dksX0_remember_0 7 rfl rfl)
theorem dX0_remember_8 : decode cX0_remember 8 = .ok (.if_icmp .ne 11, 3) := dk_160 0 11 (dk_at dksX0_remember_0 8 rfl rfl)
theorem dX0_remember_11 : decode cX0_remember 11 = .ok (.aload_n 0, 1) := dk_42 (dk_at dksX0_remember_0 11 rfl rfl)
theorem dX0_remember_12 : decode cX0_remember 12 = .ok (.getfield 19, 3) := dk_180 0 19 (dk_at dksX0_remember_0 12 rfl rfl)
theorem dX0_remember_15 : decode cX0_remember 15 = .ok (.invokevirtual 38, 3) := dk_182 0 38 (dk_at dksX0_remember_0 15 rfl rfl)
theorem dX0_remember_18 : decode cX0_remember 18 = .ok (.pop, 1) := dk_87 (dk_at dksX0_remember_0 18 rfl rfl)
theorem dX0_remember_19 : decode cX0_remember 19 = .ok (.aload_n 0, 1) := dk_42 (dk_at dksX0_remember_0 19 rfl rfl)
theorem dX0_remember_20 : decode cX0_remember 20 = .ok (.getfield 19, 3) := dk_180 0 19 (dk_at dksX0_remember_0 20 rfl rfl)
theorem dX0_remember_23 : decode cX0_remember 23 = .ok (.aload_n 1, 1) := dk_43 (dk_at dksX0_remember_0 23 rfl rfl)
theorem dX0_remember_24 : decode cX0_remember 24 = .ok (.invokevirtual 42, 3) := dk_182 0 42 (dk_at dksX0_remember_1 0 rfl rfl)
theorem dX0_remember_27 : decode cX0_remember 27 = .ok (.return_, 1) := dk_177 (dk_at dksX0_remember_1 3 rfl rfl)
abbrev cX0_fold : ByteArray := prog_1_method_8_code
def yX0_fold : MethodName := ⟨RX0, "fold", "(I)I"⟩
def dkwX0_fold_0 : List UInt8 := [42, 187, 0, 76, 89, 27, 183, 0, 78, 182, 0, 72, 172]
abbrev dktX0_fold_0 : List UInt8 := dkwX0_fold_0 ++ []
theorem dksX0_fold_0 : cX0_fold.data.toList.drop 0 = dktX0_fold_0 := by decide +kernel
theorem dX0_fold_0 : decode cX0_fold 0 = .ok (.aload_n 0, 1) := dk_42 (dk_at dksX0_fold_0 0 rfl rfl)
theorem dX0_fold_1 : decode cX0_fold 1 = .ok (.new 76, 3) := dk_187 0 76 (dk_at dksX0_fold_0 1 rfl rfl)
theorem dX0_fold_4 : decode cX0_fold 4 = .ok (.dup, 1) := dk_89 (dk_at dksX0_fold_0 4 rfl rfl)
theorem dX0_fold_5 : decode cX0_fold 5 = .ok (.iload_n 1, 1) := dk_27 (dk_at dksX0_fold_0 5 rfl rfl)
theorem dX0_fold_6 : decode cX0_fold 6 = .ok (.invokespecial 78, 3) := dk_183 0 78 (dk_at dksX0_fold_0 6 rfl rfl)
theorem dX0_fold_9 : decode cX0_fold 9 = .ok (.invokevirtual 72, 3) := dk_182 0 72 (dk_at dksX0_fold_0 9 rfl rfl)
theorem dX0_fold_12 : decode cX0_fold 12 = .ok (.ireturn, 1) := dk_172 (dk_at dksX0_fold_0 12 rfl rfl)
abbrev cX0_unfold : ByteArray := prog_1_method_9_code
def yX0_unfold : MethodName := ⟨RX0, "unfold", "()I"⟩
def dkwX0_unfold_0 : List UInt8 := [42, 187, 0, 81, 89, 183, 0, 83, 182, 0, 72, 172]
abbrev dktX0_unfold_0 : List UInt8 := dkwX0_unfold_0 ++ []
theorem dksX0_unfold_0 : cX0_unfold.data.toList.drop 0 = dktX0_unfold_0 := by decide +kernel
theorem dX0_unfold_0 : decode cX0_unfold 0 = .ok (.aload_n 0, 1) := dk_42 (dk_at dksX0_unfold_0 0 rfl rfl)
theorem dX0_unfold_1 : decode cX0_unfold 1 = .ok (.new 81, 3) := dk_187 0 81 (dk_at dksX0_unfold_0 1 rfl rfl)
theorem dX0_unfold_4 : decode cX0_unfold 4 = .ok (.dup, 1) := dk_89 (dk_at dksX0_unfold_0 4 rfl rfl)
theorem dX0_unfold_5 : decode cX0_unfold 5 = .ok (.invokespecial 83, 3) := dk_183 0 83 (dk_at dksX0_unfold_0 5 rfl rfl)
theorem dX0_unfold_8 : decode cX0_unfold 8 = .ok (.invokevirtual 72, 3) := dk_182 0 72 (dk_at dksX0_unfold_0 8 rfl rfl)
theorem dX0_unfold_11 : decode cX0_unfold 11 = .ok (.ireturn, 1) := dk_172 (dk_at dksX0_unfold_0 11 rfl rfl)
abbrev cX0_setSpine : ByteArray := prog_1_method_10_code
def yX0_setSpine : MethodName := ⟨RX0, "setSpine", "(I)I"⟩
def dkwX0_setSpine_0 : List UInt8 := [42, 187, 0, 84, 89, 27, 183, 0, 86, 182, 0, 72, 172]
abbrev dktX0_setSpine_0 : List UInt8 := dkwX0_setSpine_0 ++ []
theorem dksX0_setSpine_0 : cX0_setSpine.data.toList.drop 0 = dktX0_setSpine_0 := by decide +kernel
theorem dX0_setSpine_0 : decode cX0_setSpine 0 = .ok (.aload_n 0, 1) := dk_42 (dk_at dksX0_setSpine_0 0 rfl rfl)
theorem dX0_setSpine_1 : decode cX0_setSpine 1 = .ok (.new 84, 3) := dk_187 0 84 (dk_at dksX0_setSpine_0 1 rfl rfl)
theorem dX0_setSpine_4 : decode cX0_setSpine 4 = .ok (.dup, 1) := dk_89 (dk_at dksX0_setSpine_0 4 rfl rfl)
theorem dX0_setSpine_5 : decode cX0_setSpine 5 = .ok (.iload_n 1, 1) := dk_27 (dk_at dksX0_setSpine_0 5 rfl rfl)
theorem dX0_setSpine_6 : decode cX0_setSpine 6 = .ok (.invokespecial 86, 3) := dk_183 0 86 (dk_at dksX0_setSpine_0 6 rfl rfl)
theorem dX0_setSpine_9 : decode cX0_setSpine 9 = .ok (.invokevirtual 72, 3) := dk_182 0 72 (dk_at dksX0_setSpine_0 9 rfl rfl)
theorem dX0_setSpine_12 : decode cX0_setSpine 12 = .ok (.ireturn, 1) := dk_172 (dk_at dksX0_setSpine_0 12 rfl rfl)
abbrev cX0_print : ByteArray := prog_1_method_11_code
def yX0_print : MethodName := ⟨RX0, "print", "(IIIII)I"⟩
def dkwX0_print_0 : List UInt8 := [42, 187, 0, 87, 89, 27, 28, 29, 21, 4, 21, 5, 183, 0, 89, 182, 0, 72, 172]
abbrev dktX0_print_0 : List UInt8 := dkwX0_print_0 ++ []
theorem dksX0_print_0 : cX0_print.data.toList.drop 0 = dktX0_print_0 := by decide +kernel
theorem dX0_print_0 : decode cX0_print 0 = .ok (.aload_n 0, 1) := dk_42 (dk_at dksX0_print_0 0 rfl rfl)
theorem dX0_print_1 : decode cX0_print 1 = .ok (.new 87, 3) := dk_187 0 87 (dk_at dksX0_print_0 1 rfl rfl)
theorem dX0_print_4 : decode cX0_print 4 = .ok (.dup, 1) := dk_89 (dk_at dksX0_print_0 4 rfl rfl)
theorem dX0_print_5 : decode cX0_print 5 = .ok (.iload_n 1, 1) := dk_27 (dk_at dksX0_print_0 5 rfl rfl)
theorem dX0_print_6 : decode cX0_print 6 = .ok (.iload_n 2, 1) := dk_28 (dk_at dksX0_print_0 6 rfl rfl)
theorem dX0_print_7 : decode cX0_print 7 = .ok (.iload_n 3, 1) := dk_29 (dk_at dksX0_print_0 7 rfl rfl)
theorem dX0_print_8 : decode cX0_print 8 = .ok (.iload 4, 2) := dk_21 4 (dk_at dksX0_print_0 8 rfl rfl)
theorem dX0_print_10 : decode cX0_print 10 = .ok (.iload 5, 2) := dk_21 5 (dk_at dksX0_print_0 10 rfl rfl)
theorem dX0_print_12 : decode cX0_print 12 = .ok (.invokespecial 89, 3) := dk_183 0 89 (dk_at dksX0_print_0 12 rfl rfl)
theorem dX0_print_15 : decode cX0_print 15 = .ok (.invokevirtual 72, 3) := dk_182 0 72 (dk_at dksX0_print_0 15 rfl rfl)
theorem dX0_print_18 : decode cX0_print 18 = .ok (.ireturn, 1) := dk_172 (dk_at dksX0_print_0 18 rfl rfl)
abbrev cX0_printAll : ByteArray := prog_1_method_12_code
def yX0_printAll : MethodName := ⟨RX0, "printAll", "(I)I"⟩
def dkwX0_printAll_0 : List UInt8 := [42, 187, 0, 92, 89, 27, 183, 0, 94, 182, 0, 72, 172]
abbrev dktX0_printAll_0 : List UInt8 := dkwX0_printAll_0 ++ []
theorem dksX0_printAll_0 : cX0_printAll.data.toList.drop 0 = dktX0_printAll_0 := by decide +kernel
theorem dX0_printAll_0 : decode cX0_printAll 0 = .ok (.aload_n 0, 1) := dk_42 (dk_at dksX0_printAll_0 0 rfl rfl)
theorem dX0_printAll_1 : decode cX0_printAll 1 = .ok (.new 92, 3) := dk_187 0 92 (dk_at dksX0_printAll_0 1 rfl rfl)
theorem dX0_printAll_4 : decode cX0_printAll 4 = .ok (.dup, 1) := dk_89 (dk_at dksX0_printAll_0 4 rfl rfl)
theorem dX0_printAll_5 : decode cX0_printAll 5 = .ok (.iload_n 1, 1) := dk_27 (dk_at dksX0_printAll_0 5 rfl rfl)
theorem dX0_printAll_6 : decode cX0_printAll 6 = .ok (.invokespecial 94, 3) := dk_183 0 94 (dk_at dksX0_printAll_0 6 rfl rfl)
theorem dX0_printAll_9 : decode cX0_printAll 9 = .ok (.invokevirtual 72, 3) := dk_182 0 72 (dk_at dksX0_printAll_0 9 rfl rfl)
theorem dX0_printAll_12 : decode cX0_printAll 12 = .ok (.ireturn, 1) := dk_172 (dk_at dksX0_printAll_0 12 rfl rfl)
abbrev cX0_cut : ByteArray := prog_1_method_13_code
def yX0_cut : MethodName := ⟨RX0, "cut", "(I)I"⟩
def dkwX0_cut_0 : List UInt8 := [42, 187, 0, 95, 89, 27, 183, 0, 97, 182, 0, 72, 172]
abbrev dktX0_cut_0 : List UInt8 := dkwX0_cut_0 ++ []
theorem dksX0_cut_0 : cX0_cut.data.toList.drop 0 = dktX0_cut_0 := by decide +kernel
theorem dX0_cut_0 : decode cX0_cut 0 = .ok (.aload_n 0, 1) := dk_42 (dk_at dksX0_cut_0 0 rfl rfl)
theorem dX0_cut_1 : decode cX0_cut 1 = .ok (.new 95, 3) := dk_187 0 95 (dk_at dksX0_cut_0 1 rfl rfl)
theorem dX0_cut_4 : decode cX0_cut 4 = .ok (.dup, 1) := dk_89 (dk_at dksX0_cut_0 4 rfl rfl)
theorem dX0_cut_5 : decode cX0_cut 5 = .ok (.iload_n 1, 1) := dk_27 (dk_at dksX0_cut_0 5 rfl rfl)
theorem dX0_cut_6 : decode cX0_cut 6 = .ok (.invokespecial 97, 3) := dk_183 0 97 (dk_at dksX0_cut_0 6 rfl rfl)
theorem dX0_cut_9 : decode cX0_cut 9 = .ok (.invokevirtual 72, 3) := dk_182 0 72 (dk_at dksX0_cut_0 9 rfl rfl)
theorem dX0_cut_12 : decode cX0_cut 12 = .ok (.ireturn, 1) := dk_172 (dk_at dksX0_cut_0 12 rfl rfl)
abbrev cX0_staple : ByteArray := prog_1_method_14_code
def yX0_staple : MethodName := ⟨RX0, "staple", "(I)I"⟩
def dkwX0_staple_0 : List UInt8 := [42, 187, 0, 98, 89, 27, 183, 0, 100, 182, 0, 72, 172]
abbrev dktX0_staple_0 : List UInt8 := dkwX0_staple_0 ++ []
theorem dksX0_staple_0 : cX0_staple.data.toList.drop 0 = dktX0_staple_0 := by decide +kernel
theorem dX0_staple_0 : decode cX0_staple 0 = .ok (.aload_n 0, 1) := dk_42 (dk_at dksX0_staple_0 0 rfl rfl)
theorem dX0_staple_1 : decode cX0_staple 1 = .ok (.new 98, 3) := dk_187 0 98 (dk_at dksX0_staple_0 1 rfl rfl)
theorem dX0_staple_4 : decode cX0_staple 4 = .ok (.dup, 1) := dk_89 (dk_at dksX0_staple_0 4 rfl rfl)
theorem dX0_staple_5 : decode cX0_staple 5 = .ok (.iload_n 1, 1) := dk_27 (dk_at dksX0_staple_0 5 rfl rfl)
theorem dX0_staple_6 : decode cX0_staple 6 = .ok (.invokespecial 100, 3) := dk_183 0 100 (dk_at dksX0_staple_0 6 rfl rfl)
theorem dX0_staple_9 : decode cX0_staple 9 = .ok (.invokevirtual 72, 3) := dk_182 0 72 (dk_at dksX0_staple_0 9 rfl rfl)
theorem dX0_staple_12 : decode cX0_staple 12 = .ok (.ireturn, 1) := dk_172 (dk_at dksX0_staple_0 12 rfl rfl)
abbrev cX0_unstaple : ByteArray := prog_1_method_15_code
def yX0_unstaple : MethodName := ⟨RX0, "unstaple", "(I)I"⟩
def dkwX0_unstaple_0 : List UInt8 := [42, 187, 0, 101, 89, 27, 183, 0, 103, 182, 0, 72, 172]
abbrev dktX0_unstaple_0 : List UInt8 := dkwX0_unstaple_0 ++ []
theorem dksX0_unstaple_0 : cX0_unstaple.data.toList.drop 0 = dktX0_unstaple_0 := by decide +kernel
theorem dX0_unstaple_0 : decode cX0_unstaple 0 = .ok (.aload_n 0, 1) := dk_42 (dk_at dksX0_unstaple_0 0 rfl rfl)
theorem dX0_unstaple_1 : decode cX0_unstaple 1 = .ok (.new 101, 3) := dk_187 0 101 (dk_at dksX0_unstaple_0 1 rfl rfl)
theorem dX0_unstaple_4 : decode cX0_unstaple 4 = .ok (.dup, 1) := dk_89 (dk_at dksX0_unstaple_0 4 rfl rfl)
theorem dX0_unstaple_5 : decode cX0_unstaple 5 = .ok (.iload_n 1, 1) := dk_27 (dk_at dksX0_unstaple_0 5 rfl rfl)
theorem dX0_unstaple_6 : decode cX0_unstaple 6 = .ok (.invokespecial 103, 3) := dk_183 0 103 (dk_at dksX0_unstaple_0 6 rfl rfl)
theorem dX0_unstaple_9 : decode cX0_unstaple 9 = .ok (.invokevirtual 72, 3) := dk_182 0 72 (dk_at dksX0_unstaple_0 9 rfl rfl)
theorem dX0_unstaple_12 : decode cX0_unstaple 12 = .ok (.ireturn, 1) := dk_172 (dk_at dksX0_unstaple_0 12 rfl rfl)
abbrev cX0_setLegs : ByteArray := prog_1_method_16_code
def yX0_setLegs : MethodName := ⟨RX0, "setLegs", "(I)I"⟩
def dkwX0_setLegs_0 : List UInt8 := [42, 187, 0, 104, 89, 27, 183, 0, 106, 182, 0, 72, 172]
abbrev dktX0_setLegs_0 : List UInt8 := dkwX0_setLegs_0 ++ []
theorem dksX0_setLegs_0 : cX0_setLegs.data.toList.drop 0 = dktX0_setLegs_0 := by decide +kernel
theorem dX0_setLegs_0 : decode cX0_setLegs 0 = .ok (.aload_n 0, 1) := dk_42 (dk_at dksX0_setLegs_0 0 rfl rfl)
theorem dX0_setLegs_1 : decode cX0_setLegs 1 = .ok (.new 104, 3) := dk_187 0 104 (dk_at dksX0_setLegs_0 1 rfl rfl)
theorem dX0_setLegs_4 : decode cX0_setLegs 4 = .ok (.dup, 1) := dk_89 (dk_at dksX0_setLegs_0 4 rfl rfl)
theorem dX0_setLegs_5 : decode cX0_setLegs 5 = .ok (.iload_n 1, 1) := dk_27 (dk_at dksX0_setLegs_0 5 rfl rfl)
theorem dX0_setLegs_6 : decode cX0_setLegs 6 = .ok (.invokespecial 106, 3) := dk_183 0 106 (dk_at dksX0_setLegs_0 6 rfl rfl)
theorem dX0_setLegs_9 : decode cX0_setLegs 9 = .ok (.invokevirtual 72, 3) := dk_182 0 72 (dk_at dksX0_setLegs_0 9 rfl rfl)
theorem dX0_setLegs_12 : decode cX0_setLegs 12 = .ok (.ireturn, 1) := dk_172 (dk_at dksX0_setLegs_0 12 rfl rfl)
abbrev cX0_see : ByteArray := prog_1_method_17_code
def yX0_see : MethodName := ⟨RX0, "see", "(III)I"⟩
def dkwX0_see_0 : List UInt8 := [42, 187, 0, 107, 89, 27, 28, 29, 183, 0, 109, 182, 0, 72, 172]
abbrev dktX0_see_0 : List UInt8 := dkwX0_see_0 ++ []
theorem dksX0_see_0 : cX0_see.data.toList.drop 0 = dktX0_see_0 := by decide +kernel
theorem dX0_see_0 : decode cX0_see 0 = .ok (.aload_n 0, 1) := dk_42 (dk_at dksX0_see_0 0 rfl rfl)
theorem dX0_see_1 : decode cX0_see 1 = .ok (.new 107, 3) := dk_187 0 107 (dk_at dksX0_see_0 1 rfl rfl)
theorem dX0_see_4 : decode cX0_see 4 = .ok (.dup, 1) := dk_89 (dk_at dksX0_see_0 4 rfl rfl)
theorem dX0_see_5 : decode cX0_see 5 = .ok (.iload_n 1, 1) := dk_27 (dk_at dksX0_see_0 5 rfl rfl)
theorem dX0_see_6 : decode cX0_see 6 = .ok (.iload_n 2, 1) := dk_28 (dk_at dksX0_see_0 6 rfl rfl)
theorem dX0_see_7 : decode cX0_see 7 = .ok (.iload_n 3, 1) := dk_29 (dk_at dksX0_see_0 7 rfl rfl)
theorem dX0_see_8 : decode cX0_see 8 = .ok (.invokespecial 109, 3) := dk_183 0 109 (dk_at dksX0_see_0 8 rfl rfl)
theorem dX0_see_11 : decode cX0_see 11 = .ok (.invokevirtual 72, 3) := dk_182 0 72 (dk_at dksX0_see_0 11 rfl rfl)
theorem dX0_see_14 : decode cX0_see 14 = .ok (.ireturn, 1) := dk_172 (dk_at dksX0_see_0 14 rfl rfl)
abbrev cX0_forget : ByteArray := prog_1_method_18_code
def yX0_forget : MethodName := ⟨RX0, "forget", "()I"⟩
def dkwX0_forget_0 : List UInt8 := [42, 187, 0, 112, 89, 183, 0, 114, 182, 0, 72, 172]
abbrev dktX0_forget_0 : List UInt8 := dkwX0_forget_0 ++ []
theorem dksX0_forget_0 : cX0_forget.data.toList.drop 0 = dktX0_forget_0 := by decide +kernel
theorem dX0_forget_0 : decode cX0_forget 0 = .ok (.aload_n 0, 1) := dk_42 (dk_at dksX0_forget_0 0 rfl rfl)
theorem dX0_forget_1 : decode cX0_forget 1 = .ok (.new 112, 3) := dk_187 0 112 (dk_at dksX0_forget_0 1 rfl rfl)
theorem dX0_forget_4 : decode cX0_forget 4 = .ok (.dup, 1) := dk_89 (dk_at dksX0_forget_0 4 rfl rfl)
theorem dX0_forget_5 : decode cX0_forget 5 = .ok (.invokespecial 114, 3) := dk_183 0 114 (dk_at dksX0_forget_0 5 rfl rfl)
theorem dX0_forget_8 : decode cX0_forget 8 = .ok (.invokevirtual 72, 3) := dk_182 0 72 (dk_at dksX0_forget_0 8 rfl rfl)
theorem dX0_forget_11 : decode cX0_forget 11 = .ok (.ireturn, 1) := dk_172 (dk_at dksX0_forget_0 11 rfl rfl)
abbrev cX0_addNote : ByteArray := prog_1_method_19_code
def yX0_addNote : MethodName := ⟨RX0, "addNote", "(IIII)I"⟩
def dkwX0_addNote_0 : List UInt8 := [42, 187, 0, 115, 89, 27, 28, 29, 21, 4, 183, 0, 117, 182, 0, 72, 172]
abbrev dktX0_addNote_0 : List UInt8 := dkwX0_addNote_0 ++ []
theorem dksX0_addNote_0 : cX0_addNote.data.toList.drop 0 = dktX0_addNote_0 := by decide +kernel
theorem dX0_addNote_0 : decode cX0_addNote 0 = .ok (.aload_n 0, 1) := dk_42 (dk_at dksX0_addNote_0 0 rfl rfl)
theorem dX0_addNote_1 : decode cX0_addNote 1 = .ok (.new 115, 3) := dk_187 0 115 (dk_at dksX0_addNote_0 1 rfl rfl)
theorem dX0_addNote_4 : decode cX0_addNote 4 = .ok (.dup, 1) := dk_89 (dk_at dksX0_addNote_0 4 rfl rfl)
theorem dX0_addNote_5 : decode cX0_addNote 5 = .ok (.iload_n 1, 1) := dk_27 (dk_at dksX0_addNote_0 5 rfl rfl)
theorem dX0_addNote_6 : decode cX0_addNote 6 = .ok (.iload_n 2, 1) := dk_28 (dk_at dksX0_addNote_0 6 rfl rfl)
theorem dX0_addNote_7 : decode cX0_addNote 7 = .ok (.iload_n 3, 1) := dk_29 (dk_at dksX0_addNote_0 7 rfl rfl)
theorem dX0_addNote_8 : decode cX0_addNote 8 = .ok (.iload 4, 2) := dk_21 4 (dk_at dksX0_addNote_0 8 rfl rfl)
theorem dX0_addNote_10 : decode cX0_addNote 10 = .ok (.invokespecial 117, 3) := dk_183 0 117 (dk_at dksX0_addNote_0 10 rfl rfl)
theorem dX0_addNote_13 : decode cX0_addNote 13 = .ok (.invokevirtual 72, 3) := dk_182 0 72 (dk_at dksX0_addNote_0 13 rfl rfl)
theorem dX0_addNote_16 : decode cX0_addNote 16 = .ok (.ireturn, 1) := dk_172 (dk_at dksX0_addNote_0 16 rfl rfl)
abbrev cX0_removeNote : ByteArray := prog_1_method_20_code
def yX0_removeNote : MethodName := ⟨RX0, "removeNote", "(I)I"⟩
def dkwX0_removeNote_0 : List UInt8 := [42, 187, 0, 120, 89, 27, 183, 0, 122, 182, 0, 72, 172]
abbrev dktX0_removeNote_0 : List UInt8 := dkwX0_removeNote_0 ++ []
theorem dksX0_removeNote_0 : cX0_removeNote.data.toList.drop 0 = dktX0_removeNote_0 := by decide +kernel
theorem dX0_removeNote_0 : decode cX0_removeNote 0 = .ok (.aload_n 0, 1) := dk_42 (dk_at dksX0_removeNote_0 0 rfl rfl)
theorem dX0_removeNote_1 : decode cX0_removeNote 1 = .ok (.new 120, 3) := dk_187 0 120 (dk_at dksX0_removeNote_0 1 rfl rfl)
theorem dX0_removeNote_4 : decode cX0_removeNote 4 = .ok (.dup, 1) := dk_89 (dk_at dksX0_removeNote_0 4 rfl rfl)
theorem dX0_removeNote_5 : decode cX0_removeNote 5 = .ok (.iload_n 1, 1) := dk_27 (dk_at dksX0_removeNote_0 5 rfl rfl)
theorem dX0_removeNote_6 : decode cX0_removeNote 6 = .ok (.invokespecial 122, 3) := dk_183 0 122 (dk_at dksX0_removeNote_0 6 rfl rfl)
theorem dX0_removeNote_9 : decode cX0_removeNote 9 = .ok (.invokevirtual 72, 3) := dk_182 0 72 (dk_at dksX0_removeNote_0 9 rfl rfl)
theorem dX0_removeNote_12 : decode cX0_removeNote 12 = .ok (.ireturn, 1) := dk_172 (dk_at dksX0_removeNote_0 12 rfl rfl)
abbrev cX0_setLines : ByteArray := prog_1_method_21_code
def yX0_setLines : MethodName := ⟨RX0, "setLines", "(I)I"⟩
def dkwX0_setLines_0 : List UInt8 := [42, 187, 0, 123, 89, 27, 183, 0, 125, 182, 0, 72, 172]
abbrev dktX0_setLines_0 : List UInt8 := dkwX0_setLines_0 ++ []
theorem dksX0_setLines_0 : cX0_setLines.data.toList.drop 0 = dktX0_setLines_0 := by decide +kernel
theorem dX0_setLines_0 : decode cX0_setLines 0 = .ok (.aload_n 0, 1) := dk_42 (dk_at dksX0_setLines_0 0 rfl rfl)
theorem dX0_setLines_1 : decode cX0_setLines 1 = .ok (.new 123, 3) := dk_187 0 123 (dk_at dksX0_setLines_0 1 rfl rfl)
theorem dX0_setLines_4 : decode cX0_setLines 4 = .ok (.dup, 1) := dk_89 (dk_at dksX0_setLines_0 4 rfl rfl)
theorem dX0_setLines_5 : decode cX0_setLines 5 = .ok (.iload_n 1, 1) := dk_27 (dk_at dksX0_setLines_0 5 rfl rfl)
theorem dX0_setLines_6 : decode cX0_setLines 6 = .ok (.invokespecial 125, 3) := dk_183 0 125 (dk_at dksX0_setLines_0 6 rfl rfl)
theorem dX0_setLines_9 : decode cX0_setLines 9 = .ok (.invokevirtual 72, 3) := dk_182 0 72 (dk_at dksX0_setLines_0 9 rfl rfl)
theorem dX0_setLines_12 : decode cX0_setLines 12 = .ok (.ireturn, 1) := dk_172 (dk_at dksX0_setLines_0 12 rfl rfl)
abbrev cX0_take : ByteArray := prog_1_method_22_code
def yX0_take : MethodName := ⟨RX0, "take", "(I)I"⟩
def dkwX0_take_2 : List UInt8 := [180, 0, 139, 172]
abbrev dktX0_take_2 : List UInt8 := dkwX0_take_2 ++ []
def dkwX0_take_1 : List UInt8 := [180, 0, 130, 27, 42, 180, 0, 10, 180, 0, 46, 182, 0, 134, 83, 42, 180, 0, 10, 180, 0, 46]
abbrev dktX0_take_1 : List UInt8 := dkwX0_take_1 ++ dktX0_take_2
def dkwX0_take_0 : List UInt8 := [27, 184, 0, 126, 154, 0, 5, 2, 172, 42, 42, 180, 0, 10, 182, 0, 56, 182, 0, 60, 42, 180, 0, 10]
abbrev dktX0_take_0 : List UInt8 := dkwX0_take_0 ++ dktX0_take_1
theorem dksX0_take_0 : cX0_take.data.toList.drop 0 = dktX0_take_0 := by decide +kernel
theorem dksX0_take_1 : cX0_take.data.toList.drop 24 = dktX0_take_1 := dk_seg dksX0_take_0 24 rfl rfl
theorem dksX0_take_2 : cX0_take.data.toList.drop 46 = dktX0_take_2 := dk_seg dksX0_take_1 22 rfl rfl
theorem dX0_take_0 : decode cX0_take 0 = .ok (.iload_n 1, 1) := dk_27 (dk_at dksX0_take_0 0 rfl rfl)
theorem dX0_take_1 : decode cX0_take 1 = .ok (.invokestatic 126, 3) := dk_184 0 126 (dk_at dksX0_take_0 1 rfl rfl)
theorem dX0_take_4 : decode cX0_take 4 = .ok (.ifCond .ne 5, 3) := dk_154 0 5 (dk_at dksX0_take_0 4 rfl rfl)
theorem dX0_take_7 : decode cX0_take 7 = .ok (.iconst (-1), 1) := dk_2 (dk_at dksX0_take_0 7 rfl rfl)
theorem dX0_take_8 : decode cX0_take 8 = .ok (.ireturn, 1) := dk_172 (dk_at dksX0_take_0 8 rfl rfl)
theorem dX0_take_9 : decode cX0_take 9 = .ok (.aload_n 0, 1) := dk_42 (dk_at dksX0_take_0 9 rfl rfl)
theorem dX0_take_10 : decode cX0_take 10 = .ok (.aload_n 0, 1) := dk_42 (dk_at dksX0_take_0 10 rfl rfl)
theorem dX0_take_11 : decode cX0_take 11 = .ok (.getfield 10, 3) := dk_180 0 10 (dk_at dksX0_take_0 11 rfl rfl)
theorem dX0_take_14 : decode cX0_take 14 = .ok (.invokevirtual 56, 3) := dk_182 0 56 (dk_at dksX0_take_0 14 rfl rfl)
theorem dX0_take_17 : decode cX0_take 17 = .ok (.invokevirtual 60, 3) := dk_182 0 60 (dk_at dksX0_take_0 17 rfl rfl)
theorem dX0_take_20 : decode cX0_take 20 = .ok (.aload_n 0, 1) := dk_42 (dk_at dksX0_take_0 20 rfl rfl)
theorem dX0_take_21 : decode cX0_take 21 = .ok (.getfield 10, 3) := dk_180 0 10 (dk_at dksX0_take_0 21 rfl rfl)
theorem dX0_take_24 : decode cX0_take 24 = .ok (.getfield 130, 3) := dk_180 0 130 (dk_at dksX0_take_1 0 rfl rfl)
theorem dX0_take_27 : decode cX0_take 27 = .ok (.iload_n 1, 1) := dk_27 (dk_at dksX0_take_1 3 rfl rfl)
theorem dX0_take_28 : decode cX0_take 28 = .ok (.aload_n 0, 1) := dk_42 (dk_at dksX0_take_1 4 rfl rfl)
theorem dX0_take_29 : decode cX0_take 29 = .ok (.getfield 10, 3) := dk_180 0 10 (dk_at dksX0_take_1 5 rfl rfl)
theorem dX0_take_32 : decode cX0_take 32 = .ok (.getfield 46, 3) := dk_180 0 46 (dk_at dksX0_take_1 8 rfl rfl)
theorem dX0_take_35 : decode cX0_take 35 = .ok (.invokevirtual 134, 3) := dk_182 0 134 (dk_at dksX0_take_1 11 rfl rfl)
theorem dX0_take_38 : decode cX0_take 38 = .ok (.aastore, 1) := dk_83 (dk_at dksX0_take_1 14 rfl rfl)
theorem dX0_take_39 : decode cX0_take 39 = .ok (.aload_n 0, 1) := dk_42 (dk_at dksX0_take_1 15 rfl rfl)
theorem dX0_take_40 : decode cX0_take 40 = .ok (.getfield 10, 3) := dk_180 0 10 (dk_at dksX0_take_1 16 rfl rfl)
theorem dX0_take_43 : decode cX0_take 43 = .ok (.getfield 46, 3) := dk_180 0 46 (dk_at dksX0_take_1 19 rfl rfl)
theorem dX0_take_46 : decode cX0_take 46 = .ok (.getfield 139, 3) := dk_180 0 139 (dk_at dksX0_take_2 0 rfl rfl)
theorem dX0_take_49 : decode cX0_take 49 = .ok (.ireturn, 1) := dk_172 (dk_at dksX0_take_2 3 rfl rfl)
abbrev cX0_restore : ByteArray := prog_1_method_23_code
def yX0_restore : MethodName := ⟨RX0, "restore", "(I)I"⟩
def dkwX0_restore_2 : List UInt8 := [182, 0, 134, 181, 0, 46, 42, 180, 0, 10, 180, 0, 46, 180, 0, 139, 172]
abbrev dktX0_restore_2 : List UInt8 := dkwX0_restore_2 ++ []
def dkwX0_restore_1 : List UInt8 := [42, 42, 180, 0, 10, 182, 0, 56, 182, 0, 60, 42, 180, 0, 10, 42, 180, 0, 10, 180, 0, 130, 27, 50]
abbrev dktX0_restore_1 : List UInt8 := dkwX0_restore_1 ++ dktX0_restore_2
def dkwX0_restore_0 : List UInt8 := [27, 184, 0, 126, 154, 0, 5, 2, 172, 42, 180, 0, 10, 180, 0, 130, 27, 50, 199, 0, 6, 16, 254, 172]
abbrev dktX0_restore_0 : List UInt8 := dkwX0_restore_0 ++ dktX0_restore_1
theorem dksX0_restore_0 : cX0_restore.data.toList.drop 0 = dktX0_restore_0 := by decide +kernel
theorem dksX0_restore_1 : cX0_restore.data.toList.drop 24 = dktX0_restore_1 := dk_seg dksX0_restore_0 24 rfl rfl
theorem dksX0_restore_2 : cX0_restore.data.toList.drop 48 = dktX0_restore_2 := dk_seg dksX0_restore_1 24 rfl rfl
theorem dX0_restore_0 : decode cX0_restore 0 = .ok (.iload_n 1, 1) := dk_27 (dk_at dksX0_restore_0 0 rfl rfl)
theorem dX0_restore_1 : decode cX0_restore 1 = .ok (.invokestatic 126, 3) := dk_184 0 126 (dk_at dksX0_restore_0 1 rfl rfl)
theorem dX0_restore_4 : decode cX0_restore 4 = .ok (.ifCond .ne 5, 3) := dk_154 0 5 (dk_at dksX0_restore_0 4 rfl rfl)
theorem dX0_restore_7 : decode cX0_restore 7 = .ok (.iconst (-1), 1) := dk_2 (dk_at dksX0_restore_0 7 rfl rfl)
theorem dX0_restore_8 : decode cX0_restore 8 = .ok (.ireturn, 1) := dk_172 (dk_at dksX0_restore_0 8 rfl rfl)
theorem dX0_restore_9 : decode cX0_restore 9 = .ok (.aload_n 0, 1) := dk_42 (dk_at dksX0_restore_0 9 rfl rfl)
theorem dX0_restore_10 : decode cX0_restore 10 = .ok (.getfield 10, 3) := dk_180 0 10 (dk_at dksX0_restore_0 10 rfl rfl)
theorem dX0_restore_13 : decode cX0_restore 13 = .ok (.getfield 130, 3) := dk_180 0 130 (dk_at dksX0_restore_0 13 rfl rfl)
theorem dX0_restore_16 : decode cX0_restore 16 = .ok (.iload_n 1, 1) := dk_27 (dk_at dksX0_restore_0 16 rfl rfl)
theorem dX0_restore_17 : decode cX0_restore 17 = .ok (.aaload, 1) := dk_50 (dk_at dksX0_restore_0 17 rfl rfl)
theorem dX0_restore_18 : decode cX0_restore 18 = .ok (.ifnonnull 6, 3) := dk_199 0 6 (dk_at dksX0_restore_0 18 rfl rfl)
theorem dX0_restore_21 : decode cX0_restore 21 = .ok (.bipush (-2), 2) := dk_16 254 (dk_at dksX0_restore_0 21 rfl rfl)
theorem dX0_restore_23 : decode cX0_restore 23 = .ok (.ireturn, 1) := dk_172 (dk_at dksX0_restore_0 23 rfl rfl)
theorem dX0_restore_24 : decode cX0_restore 24 = .ok (.aload_n 0, 1) := dk_42 (dk_at dksX0_restore_1 0 rfl rfl)
theorem dX0_restore_25 : decode cX0_restore 25 = .ok (.aload_n 0, 1) := dk_42 (dk_at dksX0_restore_1 1 rfl rfl)
theorem dX0_restore_26 : decode cX0_restore 26 = .ok (.getfield 10, 3) := dk_180 0 10 (dk_at dksX0_restore_1 2 rfl rfl)
theorem dX0_restore_29 : decode cX0_restore 29 = .ok (.invokevirtual 56, 3) := dk_182 0 56 (dk_at dksX0_restore_1 5 rfl rfl)
theorem dX0_restore_32 : decode cX0_restore 32 = .ok (.invokevirtual 60, 3) := dk_182 0 60 (dk_at dksX0_restore_1 8 rfl rfl)
theorem dX0_restore_35 : decode cX0_restore 35 = .ok (.aload_n 0, 1) := dk_42 (dk_at dksX0_restore_1 11 rfl rfl)
theorem dX0_restore_36 : decode cX0_restore 36 = .ok (.getfield 10, 3) := dk_180 0 10 (dk_at dksX0_restore_1 12 rfl rfl)
theorem dX0_restore_39 : decode cX0_restore 39 = .ok (.aload_n 0, 1) := dk_42 (dk_at dksX0_restore_1 15 rfl rfl)
theorem dX0_restore_40 : decode cX0_restore 40 = .ok (.getfield 10, 3) := dk_180 0 10 (dk_at dksX0_restore_1 16 rfl rfl)
theorem dX0_restore_43 : decode cX0_restore 43 = .ok (.getfield 130, 3) := dk_180 0 130 (dk_at dksX0_restore_1 19 rfl rfl)
theorem dX0_restore_46 : decode cX0_restore 46 = .ok (.iload_n 1, 1) := dk_27 (dk_at dksX0_restore_1 22 rfl rfl)
theorem dX0_restore_47 : decode cX0_restore 47 = .ok (.aaload, 1) := dk_50 (dk_at dksX0_restore_1 23 rfl rfl)
theorem dX0_restore_48 : decode cX0_restore 48 = .ok (.invokevirtual 134, 3) := dk_182 0 134 (dk_at dksX0_restore_2 0 rfl rfl)
theorem dX0_restore_51 : decode cX0_restore 51 = .ok (.putfield 46, 3) := dk_181 0 46 (dk_at dksX0_restore_2 3 rfl rfl)
theorem dX0_restore_54 : decode cX0_restore 54 = .ok (.aload_n 0, 1) := dk_42 (dk_at dksX0_restore_2 6 rfl rfl)
theorem dX0_restore_55 : decode cX0_restore 55 = .ok (.getfield 10, 3) := dk_180 0 10 (dk_at dksX0_restore_2 7 rfl rfl)
theorem dX0_restore_58 : decode cX0_restore 58 = .ok (.getfield 46, 3) := dk_180 0 46 (dk_at dksX0_restore_2 10 rfl rfl)
theorem dX0_restore_61 : decode cX0_restore 61 = .ok (.getfield 139, 3) := dk_180 0 139 (dk_at dksX0_restore_2 13 rfl rfl)
theorem dX0_restore_64 : decode cX0_restore 64 = .ok (.ireturn, 1) := dk_172 (dk_at dksX0_restore_2 16 rfl rfl)
abbrev cX0_undo : ByteArray := prog_1_method_24_code
def yX0_undo : MethodName := ⟨RX0, "undo", "()I"⟩
def dkwX0_undo_1 : List UInt8 := [181, 0, 10, 42, 180, 0, 19, 182, 0, 34, 172]
abbrev dktX0_undo_1 : List UInt8 := dkwX0_undo_1 ++ []
def dkwX0_undo_0 : List UInt8 := [42, 180, 0, 19, 182, 0, 143, 153, 0, 6, 16, 254, 172, 42, 42, 180, 0, 19, 182, 0, 147, 192, 0, 7]
abbrev dktX0_undo_0 : List UInt8 := dkwX0_undo_0 ++ dktX0_undo_1
theorem dksX0_undo_0 : cX0_undo.data.toList.drop 0 = dktX0_undo_0 := by decide +kernel
theorem dksX0_undo_1 : cX0_undo.data.toList.drop 24 = dktX0_undo_1 := dk_seg dksX0_undo_0 24 rfl rfl
theorem dX0_undo_0 : decode cX0_undo 0 = .ok (.aload_n 0, 1) := dk_42 (dk_at dksX0_undo_0 0 rfl rfl)
theorem dX0_undo_1 : decode cX0_undo 1 = .ok (.getfield 19, 3) := dk_180 0 19 (dk_at dksX0_undo_0 1 rfl rfl)
theorem dX0_undo_4 : decode cX0_undo 4 = .ok (.invokevirtual 143, 3) := dk_182 0 143 (dk_at dksX0_undo_0 4 rfl rfl)
theorem dX0_undo_7 : decode cX0_undo 7 = .ok (.ifCond .eq 6, 3) := dk_153 0 6 (dk_at dksX0_undo_0 7 rfl rfl)
theorem dX0_undo_10 : decode cX0_undo 10 = .ok (.bipush (-2), 2) := dk_16 254 (dk_at dksX0_undo_0 10 rfl rfl)
theorem dX0_undo_12 : decode cX0_undo 12 = .ok (.ireturn, 1) := dk_172 (dk_at dksX0_undo_0 12 rfl rfl)
theorem dX0_undo_13 : decode cX0_undo 13 = .ok (.aload_n 0, 1) := dk_42 (dk_at dksX0_undo_0 13 rfl rfl)
theorem dX0_undo_14 : decode cX0_undo 14 = .ok (.aload_n 0, 1) := dk_42 (dk_at dksX0_undo_0 14 rfl rfl)
theorem dX0_undo_15 : decode cX0_undo 15 = .ok (.getfield 19, 3) := dk_180 0 19 (dk_at dksX0_undo_0 15 rfl rfl)
theorem dX0_undo_18 : decode cX0_undo 18 = .ok (.invokevirtual 147, 3) := dk_182 0 147 (dk_at dksX0_undo_0 18 rfl rfl)
theorem dX0_undo_21 : decode cX0_undo 21 = .ok (.checkcast 7, 3) := dk_192 0 7 (dk_at dksX0_undo_0 21 rfl rfl)
theorem dX0_undo_24 : decode cX0_undo 24 = .ok (.putfield 10, 3) := dk_181 0 10 (dk_at dksX0_undo_1 0 rfl rfl)
theorem dX0_undo_27 : decode cX0_undo 27 = .ok (.aload_n 0, 1) := dk_42 (dk_at dksX0_undo_1 3 rfl rfl)
theorem dX0_undo_28 : decode cX0_undo 28 = .ok (.getfield 19, 3) := dk_180 0 19 (dk_at dksX0_undo_1 4 rfl rfl)
theorem dX0_undo_31 : decode cX0_undo 31 = .ok (.invokevirtual 34, 3) := dk_182 0 34 (dk_at dksX0_undo_1 7 rfl rfl)
theorem dX0_undo_34 : decode cX0_undo 34 = .ok (.ireturn, 1) := dk_172 (dk_at dksX0_undo_1 10 rfl rfl)
abbrev cX0_append : ByteArray := prog_1_method_25_code
def yX0_append : MethodName := ⟨RX0, "append", "(I)I"⟩
def dkwX0_append_1 : List UInt8 := [160, 0, 6, 16, 253, 172, 42, 180, 0, 26, 27, 146, 182, 0, 153, 87, 42, 180, 0, 26, 182, 0, 150, 172]
abbrev dktX0_append_1 : List UInt8 := dkwX0_append_1 ++ []
def dkwX0_append_0 : List UInt8 := [27, 4, 17, 0, 255, 184, 0, 30, 154, 0, 5, 2, 172, 42, 180, 0, 26, 182, 0, 150, 16, 120]
abbrev dktX0_append_0 : List UInt8 := dkwX0_append_0 ++ dktX0_append_1
theorem dksX0_append_0 : cX0_append.data.toList.drop 0 = dktX0_append_0 := by decide +kernel
theorem dksX0_append_1 : cX0_append.data.toList.drop 22 = dktX0_append_1 := dk_seg dksX0_append_0 22 rfl rfl
theorem dX0_append_0 : decode cX0_append 0 = .ok (.iload_n 1, 1) := dk_27 (dk_at dksX0_append_0 0 rfl rfl)
theorem dX0_append_1 : decode cX0_append 1 = .ok (.iconst 1, 1) := dk_4 (dk_at dksX0_append_0 1 rfl rfl)
theorem dX0_append_2 : decode cX0_append 2 = .ok (.sipush 255, 3) := dk_17 0 255 (dk_at dksX0_append_0 2 rfl rfl)
theorem dX0_append_5 : decode cX0_append 5 = .ok (.invokestatic 30, 3) := dk_184 0 30 (dk_at dksX0_append_0 5 rfl rfl)
theorem dX0_append_8 : decode cX0_append 8 = .ok (.ifCond .ne 5, 3) := dk_154 0 5 (dk_at dksX0_append_0 8 rfl rfl)
theorem dX0_append_11 : decode cX0_append 11 = .ok (.iconst (-1), 1) := dk_2 (dk_at dksX0_append_0 11 rfl rfl)
theorem dX0_append_12 : decode cX0_append 12 = .ok (.ireturn, 1) := dk_172 (dk_at dksX0_append_0 12 rfl rfl)
theorem dX0_append_13 : decode cX0_append 13 = .ok (.aload_n 0, 1) := dk_42 (dk_at dksX0_append_0 13 rfl rfl)
theorem dX0_append_14 : decode cX0_append 14 = .ok (.getfield 26, 3) := dk_180 0 26 (dk_at dksX0_append_0 14 rfl rfl)
theorem dX0_append_17 : decode cX0_append 17 = .ok (.invokevirtual 150, 3) := dk_182 0 150 (dk_at dksX0_append_0 17 rfl rfl)
theorem dX0_append_20 : decode cX0_append 20 = .ok (.bipush 120, 2) := dk_16 120 (dk_at dksX0_append_0 20 rfl rfl)
theorem dX0_append_22 : decode cX0_append 22 = .ok (.if_icmp .ne 6, 3) := dk_160 0 6 (dk_at dksX0_append_1 0 rfl rfl)
theorem dX0_append_25 : decode cX0_append 25 = .ok (.bipush (-3), 2) := dk_16 253 (dk_at dksX0_append_1 3 rfl rfl)
theorem dX0_append_27 : decode cX0_append 27 = .ok (.ireturn, 1) := dk_172 (dk_at dksX0_append_1 5 rfl rfl)
theorem dX0_append_28 : decode cX0_append 28 = .ok (.aload_n 0, 1) := dk_42 (dk_at dksX0_append_1 6 rfl rfl)
theorem dX0_append_29 : decode cX0_append 29 = .ok (.getfield 26, 3) := dk_180 0 26 (dk_at dksX0_append_1 7 rfl rfl)
theorem dX0_append_32 : decode cX0_append 32 = .ok (.iload_n 1, 1) := dk_27 (dk_at dksX0_append_1 10 rfl rfl)
theorem dX0_append_33 : decode cX0_append 33 = .ok (.i2c, 1) := dk_146 (dk_at dksX0_append_1 11 rfl rfl)
theorem dX0_append_34 : decode cX0_append 34 = .ok (.invokevirtual 153, 3) := dk_182 0 153 (dk_at dksX0_append_1 12 rfl rfl)
theorem dX0_append_37 : decode cX0_append 37 = .ok (.pop, 1) := dk_87 (dk_at dksX0_append_1 15 rfl rfl)
theorem dX0_append_38 : decode cX0_append 38 = .ok (.aload_n 0, 1) := dk_42 (dk_at dksX0_append_1 16 rfl rfl)
theorem dX0_append_39 : decode cX0_append 39 = .ok (.getfield 26, 3) := dk_180 0 26 (dk_at dksX0_append_1 17 rfl rfl)
theorem dX0_append_42 : decode cX0_append 42 = .ok (.invokevirtual 150, 3) := dk_182 0 150 (dk_at dksX0_append_1 20 rfl rfl)
theorem dX0_append_45 : decode cX0_append 45 = .ok (.ireturn, 1) := dk_172 (dk_at dksX0_append_1 23 rfl rfl)
abbrev cX0_clearText : ByteArray := prog_1_method_26_code
def yX0_clearText : MethodName := ⟨RX0, "clearText", "()I"⟩
def dkwX0_clearText_0 : List UInt8 := [42, 180, 0, 26, 182, 0, 150, 60, 42, 180, 0, 26, 3, 182, 0, 157, 27, 172]
abbrev dktX0_clearText_0 : List UInt8 := dkwX0_clearText_0 ++ []
theorem dksX0_clearText_0 : cX0_clearText.data.toList.drop 0 = dktX0_clearText_0 := by decide +kernel
theorem dX0_clearText_0 : decode cX0_clearText 0 = .ok (.aload_n 0, 1) := dk_42 (dk_at dksX0_clearText_0 0 rfl rfl)
theorem dX0_clearText_1 : decode cX0_clearText 1 = .ok (.getfield 26, 3) := dk_180 0 26 (dk_at dksX0_clearText_0 1 rfl rfl)
theorem dX0_clearText_4 : decode cX0_clearText 4 = .ok (.invokevirtual 150, 3) := dk_182 0 150 (dk_at dksX0_clearText_0 4 rfl rfl)
theorem dX0_clearText_7 : decode cX0_clearText 7 = .ok (.istore_n 1, 1) := dk_60 (dk_at dksX0_clearText_0 7 rfl rfl)
theorem dX0_clearText_8 : decode cX0_clearText 8 = .ok (.aload_n 0, 1) := dk_42 (dk_at dksX0_clearText_0 8 rfl rfl)
theorem dX0_clearText_9 : decode cX0_clearText 9 = .ok (.getfield 26, 3) := dk_180 0 26 (dk_at dksX0_clearText_0 9 rfl rfl)
theorem dX0_clearText_12 : decode cX0_clearText 12 = .ok (.iconst 0, 1) := dk_3 (dk_at dksX0_clearText_0 12 rfl rfl)
theorem dX0_clearText_13 : decode cX0_clearText 13 = .ok (.invokevirtual 157, 3) := dk_182 0 157 (dk_at dksX0_clearText_0 13 rfl rfl)
theorem dX0_clearText_16 : decode cX0_clearText 16 = .ok (.iload_n 1, 1) := dk_27 (dk_at dksX0_clearText_0 16 rfl rfl)
theorem dX0_clearText_17 : decode cX0_clearText 17 = .ok (.ireturn, 1) := dk_172 (dk_at dksX0_clearText_0 17 rfl rfl)
abbrev cX0_run : ByteArray := prog_1_method_27_code
def yX0_run : MethodName := ⟨RX0, "run", "()I"⟩
def dkwX0_run_2 : List UInt8 := [43, 181, 0, 10, 17, 252, 24, 44, 180, 0, 170, 100, 172]
abbrev dktX0_run_2 : List UInt8 := dkwX0_run_2 ++ []
def dkwX0_run_1 : List UInt8 := [183, 0, 162, 182, 0, 165, 61, 42, 43, 182, 0, 60, 42, 180, 0, 26, 3, 182, 0, 157, 28, 172, 77, 42]
abbrev dktX0_run_1 : List UInt8 := dkwX0_run_1 ++ dktX0_run_2
def dkwX0_run_0 : List UInt8 := [42, 180, 0, 10, 182, 0, 56, 76, 187, 0, 160, 89, 42, 180, 0, 26, 42, 180, 0, 10, 180, 0, 46]
abbrev dktX0_run_0 : List UInt8 := dkwX0_run_0 ++ dktX0_run_1
theorem dksX0_run_0 : cX0_run.data.toList.drop 0 = dktX0_run_0 := by decide +kernel
theorem dksX0_run_1 : cX0_run.data.toList.drop 23 = dktX0_run_1 := dk_seg dksX0_run_0 23 rfl rfl
theorem dksX0_run_2 : cX0_run.data.toList.drop 47 = dktX0_run_2 := dk_seg dksX0_run_1 24 rfl rfl
theorem dX0_run_0 : decode cX0_run 0 = .ok (.aload_n 0, 1) := dk_42 (dk_at dksX0_run_0 0 rfl rfl)
theorem dX0_run_1 : decode cX0_run 1 = .ok (.getfield 10, 3) := dk_180 0 10 (dk_at dksX0_run_0 1 rfl rfl)
theorem dX0_run_4 : decode cX0_run 4 = .ok (.invokevirtual 56, 3) := dk_182 0 56 (dk_at dksX0_run_0 4 rfl rfl)
theorem dX0_run_7 : decode cX0_run 7 = .ok (.astore_n 1, 1) := dk_76 (dk_at dksX0_run_0 7 rfl rfl)
theorem dX0_run_8 : decode cX0_run 8 = .ok (.new 160, 3) := dk_187 0 160 (dk_at dksX0_run_0 8 rfl rfl)
theorem dX0_run_11 : decode cX0_run 11 = .ok (.dup, 1) := dk_89 (dk_at dksX0_run_0 11 rfl rfl)
theorem dX0_run_12 : decode cX0_run 12 = .ok (.aload_n 0, 1) := dk_42 (dk_at dksX0_run_0 12 rfl rfl)
theorem dX0_run_13 : decode cX0_run 13 = .ok (.getfield 26, 3) := dk_180 0 26 (dk_at dksX0_run_0 13 rfl rfl)
theorem dX0_run_16 : decode cX0_run 16 = .ok (.aload_n 0, 1) := dk_42 (dk_at dksX0_run_0 16 rfl rfl)
theorem dX0_run_17 : decode cX0_run 17 = .ok (.getfield 10, 3) := dk_180 0 10 (dk_at dksX0_run_0 17 rfl rfl)
theorem dX0_run_20 : decode cX0_run 20 = .ok (.getfield 46, 3) := dk_180 0 46 (dk_at dksX0_run_0 20 rfl rfl)
theorem dX0_run_23 : decode cX0_run 23 = .ok (.invokespecial 162, 3) := dk_183 0 162 (dk_at dksX0_run_1 0 rfl rfl)
theorem dX0_run_26 : decode cX0_run 26 = .ok (.invokevirtual 165, 3) := dk_182 0 165 (dk_at dksX0_run_1 3 rfl rfl)
theorem dX0_run_29 : decode cX0_run 29 = .ok (.istore_n 2, 1) := dk_61 (dk_at dksX0_run_1 6 rfl rfl)
theorem dX0_run_30 : decode cX0_run 30 = .ok (.aload_n 0, 1) := dk_42 (dk_at dksX0_run_1 7 rfl rfl)
theorem dX0_run_31 : decode cX0_run 31 = .ok (.aload_n 1, 1) := dk_43 (dk_at dksX0_run_1 8 rfl rfl)
theorem dX0_run_32 : decode cX0_run 32 = .ok (.invokevirtual 60, 3) := dk_182 0 60 (dk_at dksX0_run_1 9 rfl rfl)
theorem dX0_run_35 : decode cX0_run 35 = .ok (.aload_n 0, 1) := dk_42 (dk_at dksX0_run_1 12 rfl rfl)
theorem dX0_run_36 : decode cX0_run 36 = .ok (.getfield 26, 3) := dk_180 0 26 (dk_at dksX0_run_1 13 rfl rfl)
theorem dX0_run_39 : decode cX0_run 39 = .ok (.iconst 0, 1) := dk_3 (dk_at dksX0_run_1 16 rfl rfl)
theorem dX0_run_40 : decode cX0_run 40 = .ok (.invokevirtual 157, 3) := dk_182 0 157 (dk_at dksX0_run_1 17 rfl rfl)
theorem dX0_run_43 : decode cX0_run 43 = .ok (.iload_n 2, 1) := dk_28 (dk_at dksX0_run_1 20 rfl rfl)
theorem dX0_run_44 : decode cX0_run 44 = .ok (.ireturn, 1) := dk_172 (dk_at dksX0_run_1 21 rfl rfl)
theorem dX0_run_45 : decode cX0_run 45 = .ok (.astore_n 2, 1) := dk_77 (dk_at dksX0_run_1 22 rfl rfl)
theorem dX0_run_46 : decode cX0_run 46 = .ok (.aload_n 0, 1) := dk_42 (dk_at dksX0_run_1 23 rfl rfl)
theorem dX0_run_47 : decode cX0_run 47 = .ok (.aload_n 1, 1) := dk_43 (dk_at dksX0_run_2 0 rfl rfl)
theorem dX0_run_48 : decode cX0_run 48 = .ok (.putfield 10, 3) := dk_181 0 10 (dk_at dksX0_run_2 1 rfl rfl)
theorem dX0_run_51 : decode cX0_run 51 = .ok (.sipush (-1000), 3) := dk_17 252 24 (dk_at dksX0_run_2 4 rfl rfl)
theorem dX0_run_54 : decode cX0_run 54 = .ok (.aload_n 2, 1) := dk_44 (dk_at dksX0_run_2 7 rfl rfl)
theorem dX0_run_55 : decode cX0_run 55 = .ok (.getfield 170, 3) := dk_180 0 170 (dk_at dksX0_run_2 8 rfl rfl)
theorem dX0_run_58 : decode cX0_run 58 = .ok (.isub, 1) := dk_100 (dk_at dksX0_run_2 11 rfl rfl)
theorem dX0_run_59 : decode cX0_run 59 = .ok (.ireturn, 1) := dk_172 (dk_at dksX0_run_2 12 rfl rfl)
abbrev cX0_count : ByteArray := prog_1_method_28_code
def yX0_count : MethodName := ⟨RX0, "count", "(I)I"⟩
def dkwX0_count_6 : List UInt8 := [172, 44, 180, 0, 216, 172, 44, 180, 0, 219, 172, 2, 172]
abbrev dktX0_count_6 : List UInt8 := dkwX0_count_6 ++ []
def dkwX0_count_5 : List UInt8 := [182, 0, 210, 172, 42, 180, 0, 19, 182, 0, 34, 172, 42, 180, 0, 26, 182, 0, 150, 172, 44, 180, 0, 213]
abbrev dktX0_count_5 : List UInt8 := dkwX0_count_5 ++ dktX0_count_6
def dkwX0_count_4 : List UInt8 := [184, 0, 194, 172, 44, 180, 0, 200, 182, 0, 204, 172, 44, 180, 0, 207, 182, 0, 204, 172, 42, 180, 0, 10]
abbrev dktX0_count_4 : List UInt8 := dkwX0_count_4 ++ dktX0_count_5
def dkwX0_count_3 : List UInt8 := [172, 44, 182, 0, 185, 153, 0, 7, 4, 167, 0, 4, 3, 172, 44, 180, 0, 188, 172, 44, 180, 0, 191]
abbrev dktX0_count_3 : List UInt8 := dkwX0_count_3 ++ dktX0_count_4
def dkwX0_count_2 : List UInt8 := [44, 180, 0, 173, 172, 44, 180, 0, 176, 172, 44, 180, 0, 139, 172, 44, 182, 0, 179, 172, 44, 182, 0, 182]
abbrev dktX0_count_2 : List UInt8 := dkwX0_count_2 ++ dktX0_count_3
def dkwX0_count_1 : List UInt8 := [170, 0, 0, 0, 0, 0, 185, 0, 0, 0, 0, 0, 0, 0, 15, 0, 0, 0, 79, 0, 0, 0, 84, 0, 0, 0, 89, 0, 0, 0, 94, 0, 0, 0, 99, 0, 0, 0, 104, 0, 0, 0, 117, 0, 0, 0, 122, 0, 0, 0, 130, 0, 0, 0, 138, 0, 0, 0, 146, 0, 0, 0, 154, 0, 0, 0, 162, 0, 0, 0, 170, 0, 0, 0, 175, 0, 0, 0, 180]
abbrev dktX0_count_1 : List UInt8 := dkwX0_count_1 ++ dktX0_count_2
def dkwX0_count_0 : List UInt8 := [42, 180, 0, 10, 180, 0, 46, 77, 27]
abbrev dktX0_count_0 : List UInt8 := dkwX0_count_0 ++ dktX0_count_1
theorem dksX0_count_0 : cX0_count.data.toList.drop 0 = dktX0_count_0 := by decide +kernel
theorem dksX0_count_1 : cX0_count.data.toList.drop 9 = dktX0_count_1 := dk_seg dksX0_count_0 9 rfl rfl
theorem dksX0_count_2 : cX0_count.data.toList.drop 88 = dktX0_count_2 := dk_seg dksX0_count_1 79 rfl rfl
theorem dksX0_count_3 : cX0_count.data.toList.drop 112 = dktX0_count_3 := dk_seg dksX0_count_2 24 rfl rfl
theorem dksX0_count_4 : cX0_count.data.toList.drop 135 = dktX0_count_4 := dk_seg dksX0_count_3 23 rfl rfl
theorem dksX0_count_5 : cX0_count.data.toList.drop 159 = dktX0_count_5 := dk_seg dksX0_count_4 24 rfl rfl
theorem dksX0_count_6 : cX0_count.data.toList.drop 183 = dktX0_count_6 := dk_seg dksX0_count_5 24 rfl rfl
theorem dX0_count_0 : decode cX0_count 0 = .ok (.aload_n 0, 1) := dk_42 (dk_at dksX0_count_0 0 rfl rfl)
theorem dX0_count_1 : decode cX0_count 1 = .ok (.getfield 10, 3) := dk_180 0 10 (dk_at dksX0_count_0 1 rfl rfl)
theorem dX0_count_4 : decode cX0_count 4 = .ok (.getfield 46, 3) := dk_180 0 46 (dk_at dksX0_count_0 4 rfl rfl)
theorem dX0_count_7 : decode cX0_count 7 = .ok (.astore_n 2, 1) := dk_77 (dk_at dksX0_count_0 7 rfl rfl)
theorem dX0_count_8 : decode cX0_count 8 = .ok (.iload_n 1, 1) := dk_27 (dk_at dksX0_count_0 8 rfl rfl)
theorem dX0_count_9 : decode cX0_count 9 = .ok (.tableswitch 185 0 15 #[79, 84, 89, 94, 99, 104, 117, 122, 130, 138, 146, 154, 162, 170, 175, 180], 79) := by decide +kernel
theorem dX0_count_88 : decode cX0_count 88 = .ok (.aload_n 2, 1) := dk_44 (dk_at dksX0_count_2 0 rfl rfl)
theorem dX0_count_89 : decode cX0_count 89 = .ok (.getfield 173, 3) := dk_180 0 173 (dk_at dksX0_count_2 1 rfl rfl)
theorem dX0_count_92 : decode cX0_count 92 = .ok (.ireturn, 1) := dk_172 (dk_at dksX0_count_2 4 rfl rfl)
theorem dX0_count_93 : decode cX0_count 93 = .ok (.aload_n 2, 1) := dk_44 (dk_at dksX0_count_2 5 rfl rfl)
theorem dX0_count_94 : decode cX0_count 94 = .ok (.getfield 176, 3) := dk_180 0 176 (dk_at dksX0_count_2 6 rfl rfl)
theorem dX0_count_97 : decode cX0_count 97 = .ok (.ireturn, 1) := dk_172 (dk_at dksX0_count_2 9 rfl rfl)
theorem dX0_count_98 : decode cX0_count 98 = .ok (.aload_n 2, 1) := dk_44 (dk_at dksX0_count_2 10 rfl rfl)
theorem dX0_count_99 : decode cX0_count 99 = .ok (.getfield 139, 3) := dk_180 0 139 (dk_at dksX0_count_2 11 rfl rfl)
theorem dX0_count_102 : decode cX0_count 102 = .ok (.ireturn, 1) := dk_172 (dk_at dksX0_count_2 14 rfl rfl)
theorem dX0_count_103 : decode cX0_count 103 = .ok (.aload_n 2, 1) := dk_44 (dk_at dksX0_count_2 15 rfl rfl)
theorem dX0_count_104 : decode cX0_count 104 = .ok (.invokevirtual 179, 3) := dk_182 0 179 (dk_at dksX0_count_2 16 rfl rfl)
theorem dX0_count_107 : decode cX0_count 107 = .ok (.ireturn, 1) := dk_172 (dk_at dksX0_count_2 19 rfl rfl)
theorem dX0_count_108 : decode cX0_count 108 = .ok (.aload_n 2, 1) := dk_44 (dk_at dksX0_count_2 20 rfl rfl)
theorem dX0_count_109 : decode cX0_count 109 = .ok (.invokevirtual 182, 3) := dk_182 0 182 (dk_at dksX0_count_2 21 rfl rfl)
theorem dX0_count_112 : decode cX0_count 112 = .ok (.ireturn, 1) := dk_172 (dk_at dksX0_count_3 0 rfl rfl)
theorem dX0_count_113 : decode cX0_count 113 = .ok (.aload_n 2, 1) := dk_44 (dk_at dksX0_count_3 1 rfl rfl)
theorem dX0_count_114 : decode cX0_count 114 = .ok (.invokevirtual 185, 3) := dk_182 0 185 (dk_at dksX0_count_3 2 rfl rfl)
theorem dX0_count_117 : decode cX0_count 117 = .ok (.ifCond .eq 7, 3) := dk_153 0 7 (dk_at dksX0_count_3 5 rfl rfl)
theorem dX0_count_120 : decode cX0_count 120 = .ok (.iconst 1, 1) := dk_4 (dk_at dksX0_count_3 8 rfl rfl)
theorem dX0_count_121 : decode cX0_count 121 = .ok (.goto 4, 3) := dk_167 0 4 (dk_at dksX0_count_3 9 rfl rfl)
theorem dX0_count_124 : decode cX0_count 124 = .ok (.iconst 0, 1) := dk_3 (dk_at dksX0_count_3 12 rfl rfl)
theorem dX0_count_125 : decode cX0_count 125 = .ok (.ireturn, 1) := dk_172 (dk_at dksX0_count_3 13 rfl rfl)
theorem dX0_count_126 : decode cX0_count 126 = .ok (.aload_n 2, 1) := dk_44 (dk_at dksX0_count_3 14 rfl rfl)
theorem dX0_count_127 : decode cX0_count 127 = .ok (.getfield 188, 3) := dk_180 0 188 (dk_at dksX0_count_3 15 rfl rfl)
theorem dX0_count_130 : decode cX0_count 130 = .ok (.ireturn, 1) := dk_172 (dk_at dksX0_count_3 18 rfl rfl)
theorem dX0_count_131 : decode cX0_count 131 = .ok (.aload_n 2, 1) := dk_44 (dk_at dksX0_count_3 19 rfl rfl)
theorem dX0_count_132 : decode cX0_count 132 = .ok (.getfield 191, 3) := dk_180 0 191 (dk_at dksX0_count_3 20 rfl rfl)
theorem dX0_count_135 : decode cX0_count 135 = .ok (.invokestatic 194, 3) := dk_184 0 194 (dk_at dksX0_count_4 0 rfl rfl)
theorem dX0_count_138 : decode cX0_count 138 = .ok (.ireturn, 1) := dk_172 (dk_at dksX0_count_4 3 rfl rfl)
theorem dX0_count_139 : decode cX0_count 139 = .ok (.aload_n 2, 1) := dk_44 (dk_at dksX0_count_4 4 rfl rfl)
theorem dX0_count_140 : decode cX0_count 140 = .ok (.getfield 200, 3) := dk_180 0 200 (dk_at dksX0_count_4 5 rfl rfl)
theorem dX0_count_143 : decode cX0_count 143 = .ok (.invokevirtual 204, 3) := dk_182 0 204 (dk_at dksX0_count_4 8 rfl rfl)
theorem dX0_count_146 : decode cX0_count 146 = .ok (.ireturn, 1) := dk_172 (dk_at dksX0_count_4 11 rfl rfl)
theorem dX0_count_147 : decode cX0_count 147 = .ok (.aload_n 2, 1) := dk_44 (dk_at dksX0_count_4 12 rfl rfl)
theorem dX0_count_148 : decode cX0_count 148 = .ok (.getfield 207, 3) := dk_180 0 207 (dk_at dksX0_count_4 13 rfl rfl)
theorem dX0_count_151 : decode cX0_count 151 = .ok (.invokevirtual 204, 3) := dk_182 0 204 (dk_at dksX0_count_4 16 rfl rfl)
theorem dX0_count_154 : decode cX0_count 154 = .ok (.ireturn, 1) := dk_172 (dk_at dksX0_count_4 19 rfl rfl)
theorem dX0_count_155 : decode cX0_count 155 = .ok (.aload_n 0, 1) := dk_42 (dk_at dksX0_count_4 20 rfl rfl)
theorem dX0_count_156 : decode cX0_count 156 = .ok (.getfield 10, 3) := dk_180 0 10 (dk_at dksX0_count_4 21 rfl rfl)
theorem dX0_count_159 : decode cX0_count 159 = .ok (.invokevirtual 210, 3) := dk_182 0 210 (dk_at dksX0_count_5 0 rfl rfl)
theorem dX0_count_162 : decode cX0_count 162 = .ok (.ireturn, 1) := dk_172 (dk_at dksX0_count_5 3 rfl rfl)
theorem dX0_count_163 : decode cX0_count 163 = .ok (.aload_n 0, 1) := dk_42 (dk_at dksX0_count_5 4 rfl rfl)
theorem dX0_count_164 : decode cX0_count 164 = .ok (.getfield 19, 3) := dk_180 0 19 (dk_at dksX0_count_5 5 rfl rfl)
theorem dX0_count_167 : decode cX0_count 167 = .ok (.invokevirtual 34, 3) := dk_182 0 34 (dk_at dksX0_count_5 8 rfl rfl)
theorem dX0_count_170 : decode cX0_count 170 = .ok (.ireturn, 1) := dk_172 (dk_at dksX0_count_5 11 rfl rfl)
theorem dX0_count_171 : decode cX0_count 171 = .ok (.aload_n 0, 1) := dk_42 (dk_at dksX0_count_5 12 rfl rfl)
theorem dX0_count_172 : decode cX0_count 172 = .ok (.getfield 26, 3) := dk_180 0 26 (dk_at dksX0_count_5 13 rfl rfl)
theorem dX0_count_175 : decode cX0_count 175 = .ok (.invokevirtual 150, 3) := dk_182 0 150 (dk_at dksX0_count_5 16 rfl rfl)
theorem dX0_count_178 : decode cX0_count 178 = .ok (.ireturn, 1) := dk_172 (dk_at dksX0_count_5 19 rfl rfl)
theorem dX0_count_179 : decode cX0_count 179 = .ok (.aload_n 2, 1) := dk_44 (dk_at dksX0_count_5 20 rfl rfl)
theorem dX0_count_180 : decode cX0_count 180 = .ok (.getfield 213, 3) := dk_180 0 213 (dk_at dksX0_count_5 21 rfl rfl)
theorem dX0_count_183 : decode cX0_count 183 = .ok (.ireturn, 1) := dk_172 (dk_at dksX0_count_6 0 rfl rfl)
theorem dX0_count_184 : decode cX0_count 184 = .ok (.aload_n 2, 1) := dk_44 (dk_at dksX0_count_6 1 rfl rfl)
theorem dX0_count_185 : decode cX0_count 185 = .ok (.getfield 216, 3) := dk_180 0 216 (dk_at dksX0_count_6 2 rfl rfl)
theorem dX0_count_188 : decode cX0_count 188 = .ok (.ireturn, 1) := dk_172 (dk_at dksX0_count_6 5 rfl rfl)
theorem dX0_count_189 : decode cX0_count 189 = .ok (.aload_n 2, 1) := dk_44 (dk_at dksX0_count_6 6 rfl rfl)
theorem dX0_count_190 : decode cX0_count 190 = .ok (.getfield 219, 3) := dk_180 0 219 (dk_at dksX0_count_6 7 rfl rfl)
theorem dX0_count_193 : decode cX0_count 193 = .ok (.ireturn, 1) := dk_172 (dk_at dksX0_count_6 10 rfl rfl)
theorem dX0_count_194 : decode cX0_count 194 = .ok (.iconst (-1), 1) := dk_2 (dk_at dksX0_count_6 11 rfl rfl)
theorem dX0_count_195 : decode cX0_count 195 = .ok (.ireturn, 1) := dk_172 (dk_at dksX0_count_6 12 rfl rfl)
abbrev cX0_side : ByteArray := prog_1_method_29_code
def yX0_side : MethodName := ⟨RX0, "side", "(IIII)I"⟩
def dkwX0_side_3 : List UInt8 := [153, 0, 7, 4, 167, 0, 4, 3, 172]
abbrev dktX0_side_3 : List UInt8 := dkwX0_side_3 ++ []
def dkwX0_side_2 : List UInt8 := [21, 4, 154, 0, 14, 25, 5, 180, 0, 230, 21, 6, 46, 167, 0, 19, 25, 5, 180, 0, 234, 21, 6, 51]
abbrev dktX0_side_2 : List UInt8 := dkwX0_side_2 ++ dktX0_side_3
def dkwX0_side_1 : List UInt8 := [153, 0, 11, 21, 4, 184, 0, 126, 154, 0, 5, 2, 172, 25, 5, 27, 28, 29, 182, 0, 226, 54, 6]
abbrev dktX0_side_1 : List UInt8 := dkwX0_side_1 ++ dktX0_side_2
def dkwX0_side_0 : List UInt8 := [42, 180, 0, 10, 180, 0, 46, 58, 5, 25, 5, 27, 28, 182, 0, 222, 153, 0, 18, 29, 184, 0, 126]
abbrev dktX0_side_0 : List UInt8 := dkwX0_side_0 ++ dktX0_side_1
theorem dksX0_side_0 : cX0_side.data.toList.drop 0 = dktX0_side_0 := by decide +kernel
theorem dksX0_side_1 : cX0_side.data.toList.drop 23 = dktX0_side_1 := dk_seg dksX0_side_0 23 rfl rfl
theorem dksX0_side_2 : cX0_side.data.toList.drop 46 = dktX0_side_2 := dk_seg dksX0_side_1 23 rfl rfl
theorem dksX0_side_3 : cX0_side.data.toList.drop 70 = dktX0_side_3 := dk_seg dksX0_side_2 24 rfl rfl
theorem dX0_side_0 : decode cX0_side 0 = .ok (.aload_n 0, 1) := dk_42 (dk_at dksX0_side_0 0 rfl rfl)
theorem dX0_side_1 : decode cX0_side 1 = .ok (.getfield 10, 3) := dk_180 0 10 (dk_at dksX0_side_0 1 rfl rfl)
theorem dX0_side_4 : decode cX0_side 4 = .ok (.getfield 46, 3) := dk_180 0 46 (dk_at dksX0_side_0 4 rfl rfl)
theorem dX0_side_7 : decode cX0_side 7 = .ok (.astore 5, 2) := dk_58 5 (dk_at dksX0_side_0 7 rfl rfl)
theorem dX0_side_9 : decode cX0_side 9 = .ok (.aload 5, 2) := dk_25 5 (dk_at dksX0_side_0 9 rfl rfl)
theorem dX0_side_11 : decode cX0_side 11 = .ok (.iload_n 1, 1) := dk_27 (dk_at dksX0_side_0 11 rfl rfl)
theorem dX0_side_12 : decode cX0_side 12 = .ok (.iload_n 2, 1) := dk_28 (dk_at dksX0_side_0 12 rfl rfl)
theorem dX0_side_13 : decode cX0_side 13 = .ok (.invokevirtual 222, 3) := dk_182 0 222 (dk_at dksX0_side_0 13 rfl rfl)
theorem dX0_side_16 : decode cX0_side 16 = .ok (.ifCond .eq 18, 3) := dk_153 0 18 (dk_at dksX0_side_0 16 rfl rfl)
theorem dX0_side_19 : decode cX0_side 19 = .ok (.iload_n 3, 1) := dk_29 (dk_at dksX0_side_0 19 rfl rfl)
theorem dX0_side_20 : decode cX0_side 20 = .ok (.invokestatic 126, 3) := dk_184 0 126 (dk_at dksX0_side_0 20 rfl rfl)
theorem dX0_side_23 : decode cX0_side 23 = .ok (.ifCond .eq 11, 3) := dk_153 0 11 (dk_at dksX0_side_1 0 rfl rfl)
theorem dX0_side_26 : decode cX0_side 26 = .ok (.iload 4, 2) := dk_21 4 (dk_at dksX0_side_1 3 rfl rfl)
theorem dX0_side_28 : decode cX0_side 28 = .ok (.invokestatic 126, 3) := dk_184 0 126 (dk_at dksX0_side_1 5 rfl rfl)
theorem dX0_side_31 : decode cX0_side 31 = .ok (.ifCond .ne 5, 3) := dk_154 0 5 (dk_at dksX0_side_1 8 rfl rfl)
theorem dX0_side_34 : decode cX0_side 34 = .ok (.iconst (-1), 1) := dk_2 (dk_at dksX0_side_1 11 rfl rfl)
theorem dX0_side_35 : decode cX0_side 35 = .ok (.ireturn, 1) := dk_172 (dk_at dksX0_side_1 12 rfl rfl)
theorem dX0_side_36 : decode cX0_side 36 = .ok (.aload 5, 2) := dk_25 5 (dk_at dksX0_side_1 13 rfl rfl)
theorem dX0_side_38 : decode cX0_side 38 = .ok (.iload_n 1, 1) := dk_27 (dk_at dksX0_side_1 15 rfl rfl)
theorem dX0_side_39 : decode cX0_side 39 = .ok (.iload_n 2, 1) := dk_28 (dk_at dksX0_side_1 16 rfl rfl)
theorem dX0_side_40 : decode cX0_side 40 = .ok (.iload_n 3, 1) := dk_29 (dk_at dksX0_side_1 17 rfl rfl)
theorem dX0_side_41 : decode cX0_side 41 = .ok (.invokevirtual 226, 3) := dk_182 0 226 (dk_at dksX0_side_1 18 rfl rfl)
theorem dX0_side_44 : decode cX0_side 44 = .ok (.istore 6, 2) := dk_54 6 (dk_at dksX0_side_1 21 rfl rfl)
theorem dX0_side_46 : decode cX0_side 46 = .ok (.iload 4, 2) := dk_21 4 (dk_at dksX0_side_2 0 rfl rfl)
theorem dX0_side_48 : decode cX0_side 48 = .ok (.ifCond .ne 14, 3) := dk_154 0 14 (dk_at dksX0_side_2 2 rfl rfl)
theorem dX0_side_51 : decode cX0_side 51 = .ok (.aload 5, 2) := dk_25 5 (dk_at dksX0_side_2 5 rfl rfl)
theorem dX0_side_53 : decode cX0_side 53 = .ok (.getfield 230, 3) := dk_180 0 230 (dk_at dksX0_side_2 7 rfl rfl)
theorem dX0_side_56 : decode cX0_side 56 = .ok (.iload 6, 2) := dk_21 6 (dk_at dksX0_side_2 10 rfl rfl)
theorem dX0_side_58 : decode cX0_side 58 = .ok (.iaload, 1) := dk_46 (dk_at dksX0_side_2 12 rfl rfl)
theorem dX0_side_59 : decode cX0_side 59 = .ok (.goto 19, 3) := dk_167 0 19 (dk_at dksX0_side_2 13 rfl rfl)
theorem dX0_side_62 : decode cX0_side 62 = .ok (.aload 5, 2) := dk_25 5 (dk_at dksX0_side_2 16 rfl rfl)
theorem dX0_side_64 : decode cX0_side 64 = .ok (.getfield 234, 3) := dk_180 0 234 (dk_at dksX0_side_2 18 rfl rfl)
theorem dX0_side_67 : decode cX0_side 67 = .ok (.iload 6, 2) := dk_21 6 (dk_at dksX0_side_2 21 rfl rfl)
theorem dX0_side_69 : decode cX0_side 69 = .ok (.baload, 1) := dk_51 (dk_at dksX0_side_2 23 rfl rfl)
theorem dX0_side_70 : decode cX0_side 70 = .ok (.ifCond .eq 7, 3) := dk_153 0 7 (dk_at dksX0_side_3 0 rfl rfl)
theorem dX0_side_73 : decode cX0_side 73 = .ok (.iconst 1, 1) := dk_4 (dk_at dksX0_side_3 3 rfl rfl)
theorem dX0_side_74 : decode cX0_side 74 = .ok (.goto 4, 3) := dk_167 0 4 (dk_at dksX0_side_3 4 rfl rfl)
theorem dX0_side_77 : decode cX0_side 77 = .ok (.iconst 0, 1) := dk_3 (dk_at dksX0_side_3 7 rfl rfl)
theorem dX0_side_78 : decode cX0_side 78 = .ok (.ireturn, 1) := dk_172 (dk_at dksX0_side_3 8 rfl rfl)
abbrev cX0_layer : ByteArray := prog_1_method_30_code
def yX0_layer : MethodName := ⟨RX0, "layer", "(III)I"⟩
def dkwX0_layer_3 : List UInt8 := [182, 0, 248, 172]
abbrev dktX0_layer_3 : List UInt8 := dkwX0_layer_3 ++ []
def dkwX0_layer_2 : List UInt8 := [153, 0, 12, 29, 3, 7, 184, 0, 30, 154, 0, 5, 2, 172, 25, 4, 180, 0, 242, 27, 50, 28, 50, 29]
abbrev dktX0_layer_2 : List UInt8 := dkwX0_layer_2 ++ dktX0_layer_3
def dkwX0_layer_1 : List UInt8 := [184, 0, 30, 153, 0, 32, 28, 3, 42, 180, 0, 10, 180, 0, 46, 182, 0, 179, 4, 100, 184, 0, 30]
abbrev dktX0_layer_1 : List UInt8 := dkwX0_layer_1 ++ dktX0_layer_2
def dkwX0_layer_0 : List UInt8 := [42, 180, 0, 10, 180, 0, 46, 182, 0, 238, 58, 4, 27, 3, 25, 4, 180, 0, 242, 190, 4, 100]
abbrev dktX0_layer_0 : List UInt8 := dkwX0_layer_0 ++ dktX0_layer_1
theorem dksX0_layer_0 : cX0_layer.data.toList.drop 0 = dktX0_layer_0 := by decide +kernel
theorem dksX0_layer_1 : cX0_layer.data.toList.drop 22 = dktX0_layer_1 := dk_seg dksX0_layer_0 22 rfl rfl
theorem dksX0_layer_2 : cX0_layer.data.toList.drop 45 = dktX0_layer_2 := dk_seg dksX0_layer_1 23 rfl rfl
theorem dksX0_layer_3 : cX0_layer.data.toList.drop 69 = dktX0_layer_3 := dk_seg dksX0_layer_2 24 rfl rfl
theorem dX0_layer_0 : decode cX0_layer 0 = .ok (.aload_n 0, 1) := dk_42 (dk_at dksX0_layer_0 0 rfl rfl)
theorem dX0_layer_1 : decode cX0_layer 1 = .ok (.getfield 10, 3) := dk_180 0 10 (dk_at dksX0_layer_0 1 rfl rfl)
theorem dX0_layer_4 : decode cX0_layer 4 = .ok (.getfield 46, 3) := dk_180 0 46 (dk_at dksX0_layer_0 4 rfl rfl)
theorem dX0_layer_7 : decode cX0_layer 7 = .ok (.invokevirtual 238, 3) := dk_182 0 238 (dk_at dksX0_layer_0 7 rfl rfl)
theorem dX0_layer_10 : decode cX0_layer 10 = .ok (.astore 4, 2) := dk_58 4 (dk_at dksX0_layer_0 10 rfl rfl)
theorem dX0_layer_12 : decode cX0_layer 12 = .ok (.iload_n 1, 1) := dk_27 (dk_at dksX0_layer_0 12 rfl rfl)
theorem dX0_layer_13 : decode cX0_layer 13 = .ok (.iconst 0, 1) := dk_3 (dk_at dksX0_layer_0 13 rfl rfl)
theorem dX0_layer_14 : decode cX0_layer 14 = .ok (.aload 4, 2) := dk_25 4 (dk_at dksX0_layer_0 14 rfl rfl)
theorem dX0_layer_16 : decode cX0_layer 16 = .ok (.getfield 242, 3) := dk_180 0 242 (dk_at dksX0_layer_0 16 rfl rfl)
theorem dX0_layer_19 : decode cX0_layer 19 = .ok (.arraylength, 1) := dk_190 (dk_at dksX0_layer_0 19 rfl rfl)
theorem dX0_layer_20 : decode cX0_layer 20 = .ok (.iconst 1, 1) := dk_4 (dk_at dksX0_layer_0 20 rfl rfl)
theorem dX0_layer_21 : decode cX0_layer 21 = .ok (.isub, 1) := dk_100 (dk_at dksX0_layer_0 21 rfl rfl)
theorem dX0_layer_22 : decode cX0_layer 22 = .ok (.invokestatic 30, 3) := dk_184 0 30 (dk_at dksX0_layer_1 0 rfl rfl)
theorem dX0_layer_25 : decode cX0_layer 25 = .ok (.ifCond .eq 32, 3) := dk_153 0 32 (dk_at dksX0_layer_1 3 rfl rfl)
theorem dX0_layer_28 : decode cX0_layer 28 = .ok (.iload_n 2, 1) := dk_28 (dk_at dksX0_layer_1 6 rfl rfl)
theorem dX0_layer_29 : decode cX0_layer 29 = .ok (.iconst 0, 1) := dk_3 (dk_at dksX0_layer_1 7 rfl rfl)
theorem dX0_layer_30 : decode cX0_layer 30 = .ok (.aload_n 0, 1) := dk_42 (dk_at dksX0_layer_1 8 rfl rfl)
theorem dX0_layer_31 : decode cX0_layer 31 = .ok (.getfield 10, 3) := dk_180 0 10 (dk_at dksX0_layer_1 9 rfl rfl)
theorem dX0_layer_34 : decode cX0_layer 34 = .ok (.getfield 46, 3) := dk_180 0 46 (dk_at dksX0_layer_1 12 rfl rfl)
theorem dX0_layer_37 : decode cX0_layer 37 = .ok (.invokevirtual 179, 3) := dk_182 0 179 (dk_at dksX0_layer_1 15 rfl rfl)
theorem dX0_layer_40 : decode cX0_layer 40 = .ok (.iconst 1, 1) := dk_4 (dk_at dksX0_layer_1 18 rfl rfl)
theorem dX0_layer_41 : decode cX0_layer 41 = .ok (.isub, 1) := dk_100 (dk_at dksX0_layer_1 19 rfl rfl)
theorem dX0_layer_42 : decode cX0_layer 42 = .ok (.invokestatic 30, 3) := dk_184 0 30 (dk_at dksX0_layer_1 20 rfl rfl)
theorem dX0_layer_45 : decode cX0_layer 45 = .ok (.ifCond .eq 12, 3) := dk_153 0 12 (dk_at dksX0_layer_2 0 rfl rfl)
theorem dX0_layer_48 : decode cX0_layer 48 = .ok (.iload_n 3, 1) := dk_29 (dk_at dksX0_layer_2 3 rfl rfl)
theorem dX0_layer_49 : decode cX0_layer 49 = .ok (.iconst 0, 1) := dk_3 (dk_at dksX0_layer_2 4 rfl rfl)
theorem dX0_layer_50 : decode cX0_layer 50 = .ok (.iconst 4, 1) := dk_7 (dk_at dksX0_layer_2 5 rfl rfl)
theorem dX0_layer_51 : decode cX0_layer 51 = .ok (.invokestatic 30, 3) := dk_184 0 30 (dk_at dksX0_layer_2 6 rfl rfl)
theorem dX0_layer_54 : decode cX0_layer 54 = .ok (.ifCond .ne 5, 3) := dk_154 0 5 (dk_at dksX0_layer_2 9 rfl rfl)
theorem dX0_layer_57 : decode cX0_layer 57 = .ok (.iconst (-1), 1) := dk_2 (dk_at dksX0_layer_2 12 rfl rfl)
theorem dX0_layer_58 : decode cX0_layer 58 = .ok (.ireturn, 1) := dk_172 (dk_at dksX0_layer_2 13 rfl rfl)
theorem dX0_layer_59 : decode cX0_layer 59 = .ok (.aload 4, 2) := dk_25 4 (dk_at dksX0_layer_2 14 rfl rfl)
theorem dX0_layer_61 : decode cX0_layer 61 = .ok (.getfield 242, 3) := dk_180 0 242 (dk_at dksX0_layer_2 16 rfl rfl)
theorem dX0_layer_64 : decode cX0_layer 64 = .ok (.iload_n 1, 1) := dk_27 (dk_at dksX0_layer_2 19 rfl rfl)
theorem dX0_layer_65 : decode cX0_layer 65 = .ok (.aaload, 1) := dk_50 (dk_at dksX0_layer_2 20 rfl rfl)
theorem dX0_layer_66 : decode cX0_layer 66 = .ok (.iload_n 2, 1) := dk_28 (dk_at dksX0_layer_2 21 rfl rfl)
theorem dX0_layer_67 : decode cX0_layer 67 = .ok (.aaload, 1) := dk_50 (dk_at dksX0_layer_2 22 rfl rfl)
theorem dX0_layer_68 : decode cX0_layer 68 = .ok (.iload_n 3, 1) := dk_29 (dk_at dksX0_layer_2 23 rfl rfl)
theorem dX0_layer_69 : decode cX0_layer 69 = .ok (.invokevirtual 248, 3) := dk_182 0 248 (dk_at dksX0_layer_3 0 rfl rfl)
theorem dX0_layer_72 : decode cX0_layer 72 = .ok (.ireturn, 1) := dk_172 (dk_at dksX0_layer_3 3 rfl rfl)
abbrev cX0_page : ByteArray := prog_1_method_31_code
def yX0_page : MethodName := ⟨RX0, "page", "(II)I"⟩
def dkwX0_page_8 : List UInt8 := [27, 182, 1, 26, 172, 45, 180, 1, 29, 27, 5, 108, 50, 28, 182, 0, 248, 172]
abbrev dktX0_page_8 : List UInt8 := dkwX0_page_8 ++ []
def dkwX0_page_7 : List UInt8 := [3, 172, 45, 27, 182, 1, 18, 154, 0, 7, 4, 167, 0, 4, 3, 172, 187, 1, 21, 89, 45, 183, 1, 23]
abbrev dktX0_page_7 : List UInt8 := dkwX0_page_7 ++ dktX0_page_8
def dkwX0_page_6 : List UInt8 := [182, 1, 12, 153, 0, 7, 4, 167, 0, 4, 3, 172, 45, 27, 182, 1, 15, 153, 0, 7, 4, 167, 0, 4]
abbrev dktX0_page_6 : List UInt8 := dkwX0_page_6 ++ dktX0_page_7
def dkwX0_page_5 : List UInt8 := [45, 27, 182, 1, 9, 172, 45, 27, 182, 1, 6, 172, 21, 4, 153, 0, 8, 16, 247, 167, 0, 16, 45, 27]
abbrev dktX0_page_5 : List UInt8 := dkwX0_page_5 ++ dktX0_page_6
def dkwX0_page_4 : List UInt8 := [170, 0, 0, 0, 114, 0, 0, 0, 2, 0, 0, 0, 7, 0, 0, 0, 37, 0, 0, 0, 43, 0, 0, 0, 49, 0, 0, 0, 73, 0, 0, 0, 87, 0, 0, 0, 101]
abbrev dktX0_page_4 : List UInt8 := dkwX0_page_4 ++ dktX0_page_5
def dkwX0_page_3 : List UInt8 := [54, 4, 28]
abbrev dktX0_page_3 : List UInt8 := dkwX0_page_3 ++ dktX0_page_4
def dkwX0_page_2 : List UInt8 := [184, 0, 30, 154, 0, 5, 2, 172, 45, 27, 182, 1, 6, 16, 247, 160, 0, 7, 4, 167, 0, 4, 3]
abbrev dktX0_page_2 : List UInt8 := dkwX0_page_2 ++ dktX0_page_3
def dkwX0_page_1 : List UInt8 := [182, 0, 253, 78, 27, 3, 45, 182, 1, 1, 4, 100, 184, 0, 30, 153, 0, 13, 28, 3, 16, 7]
abbrev dktX0_page_1 : List UInt8 := dkwX0_page_1 ++ dktX0_page_2
def dkwX0_page_0 : List UInt8 := [42, 180, 0, 10, 180, 0, 46, 182, 0, 185, 154, 0, 6, 16, 254, 172, 42, 180, 0, 10, 180, 0, 46]
abbrev dktX0_page_0 : List UInt8 := dkwX0_page_0 ++ dktX0_page_1
theorem dksX0_page_0 : cX0_page.data.toList.drop 0 = dktX0_page_0 := by decide +kernel
theorem dksX0_page_1 : cX0_page.data.toList.drop 23 = dktX0_page_1 := dk_seg dksX0_page_0 23 rfl rfl
theorem dksX0_page_2 : cX0_page.data.toList.drop 45 = dktX0_page_2 := dk_seg dksX0_page_1 22 rfl rfl
theorem dksX0_page_3 : cX0_page.data.toList.drop 68 = dktX0_page_3 := dk_seg dksX0_page_2 23 rfl rfl
theorem dksX0_page_4 : cX0_page.data.toList.drop 71 = dktX0_page_4 := dk_seg dksX0_page_3 3 rfl rfl
theorem dksX0_page_5 : cX0_page.data.toList.drop 108 = dktX0_page_5 := dk_seg dksX0_page_4 37 rfl rfl
theorem dksX0_page_6 : cX0_page.data.toList.drop 132 = dktX0_page_6 := dk_seg dksX0_page_5 24 rfl rfl
theorem dksX0_page_7 : cX0_page.data.toList.drop 156 = dktX0_page_7 := dk_seg dksX0_page_6 24 rfl rfl
theorem dksX0_page_8 : cX0_page.data.toList.drop 180 = dktX0_page_8 := dk_seg dksX0_page_7 24 rfl rfl
theorem dX0_page_0 : decode cX0_page 0 = .ok (.aload_n 0, 1) := dk_42 (dk_at dksX0_page_0 0 rfl rfl)
theorem dX0_page_1 : decode cX0_page 1 = .ok (.getfield 10, 3) := dk_180 0 10 (dk_at dksX0_page_0 1 rfl rfl)
theorem dX0_page_4 : decode cX0_page 4 = .ok (.getfield 46, 3) := dk_180 0 46 (dk_at dksX0_page_0 4 rfl rfl)
theorem dX0_page_7 : decode cX0_page 7 = .ok (.invokevirtual 185, 3) := dk_182 0 185 (dk_at dksX0_page_0 7 rfl rfl)
theorem dX0_page_10 : decode cX0_page 10 = .ok (.ifCond .ne 6, 3) := dk_154 0 6 (dk_at dksX0_page_0 10 rfl rfl)
theorem dX0_page_13 : decode cX0_page 13 = .ok (.bipush (-2), 2) := dk_16 254 (dk_at dksX0_page_0 13 rfl rfl)
theorem dX0_page_15 : decode cX0_page 15 = .ok (.ireturn, 1) := dk_172 (dk_at dksX0_page_0 15 rfl rfl)
theorem dX0_page_16 : decode cX0_page 16 = .ok (.aload_n 0, 1) := dk_42 (dk_at dksX0_page_0 16 rfl rfl)
theorem dX0_page_17 : decode cX0_page 17 = .ok (.getfield 10, 3) := dk_180 0 10 (dk_at dksX0_page_0 17 rfl rfl)
theorem dX0_page_20 : decode cX0_page 20 = .ok (.getfield 46, 3) := dk_180 0 46 (dk_at dksX0_page_0 20 rfl rfl)
theorem dX0_page_23 : decode cX0_page 23 = .ok (.invokevirtual 253, 3) := dk_182 0 253 (dk_at dksX0_page_1 0 rfl rfl)
theorem dX0_page_26 : decode cX0_page 26 = .ok (.astore_n 3, 1) := dk_78 (dk_at dksX0_page_1 3 rfl rfl)
theorem dX0_page_27 : decode cX0_page 27 = .ok (.iload_n 1, 1) := dk_27 (dk_at dksX0_page_1 4 rfl rfl)
theorem dX0_page_28 : decode cX0_page 28 = .ok (.iconst 0, 1) := dk_3 (dk_at dksX0_page_1 5 rfl rfl)
theorem dX0_page_29 : decode cX0_page 29 = .ok (.aload_n 3, 1) := dk_45 (dk_at dksX0_page_1 6 rfl rfl)
theorem dX0_page_30 : decode cX0_page 30 = .ok (.invokevirtual 257, 3) := dk_182 1 1 (dk_at dksX0_page_1 7 rfl rfl)
theorem dX0_page_33 : decode cX0_page 33 = .ok (.iconst 1, 1) := dk_4 (dk_at dksX0_page_1 10 rfl rfl)
theorem dX0_page_34 : decode cX0_page 34 = .ok (.isub, 1) := dk_100 (dk_at dksX0_page_1 11 rfl rfl)
theorem dX0_page_35 : decode cX0_page 35 = .ok (.invokestatic 30, 3) := dk_184 0 30 (dk_at dksX0_page_1 12 rfl rfl)
theorem dX0_page_38 : decode cX0_page 38 = .ok (.ifCond .eq 13, 3) := dk_153 0 13 (dk_at dksX0_page_1 15 rfl rfl)
theorem dX0_page_41 : decode cX0_page 41 = .ok (.iload_n 2, 1) := dk_28 (dk_at dksX0_page_1 18 rfl rfl)
theorem dX0_page_42 : decode cX0_page 42 = .ok (.iconst 0, 1) := dk_3 (dk_at dksX0_page_1 19 rfl rfl)
theorem dX0_page_43 : decode cX0_page 43 = .ok (.bipush 7, 2) := dk_16 7 (dk_at dksX0_page_1 20 rfl rfl)
theorem dX0_page_45 : decode cX0_page 45 = .ok (.invokestatic 30, 3) := dk_184 0 30 (dk_at dksX0_page_2 0 rfl rfl)
theorem dX0_page_48 : decode cX0_page 48 = .ok (.ifCond .ne 5, 3) := dk_154 0 5 (dk_at dksX0_page_2 3 rfl rfl)
theorem dX0_page_51 : decode cX0_page 51 = .ok (.iconst (-1), 1) := dk_2 (dk_at dksX0_page_2 6 rfl rfl)
theorem dX0_page_52 : decode cX0_page 52 = .ok (.ireturn, 1) := dk_172 (dk_at dksX0_page_2 7 rfl rfl)
theorem dX0_page_53 : decode cX0_page 53 = .ok (.aload_n 3, 1) := dk_45 (dk_at dksX0_page_2 8 rfl rfl)
theorem dX0_page_54 : decode cX0_page 54 = .ok (.iload_n 1, 1) := dk_27 (dk_at dksX0_page_2 9 rfl rfl)
theorem dX0_page_55 : decode cX0_page 55 = .ok (.invokevirtual 262, 3) := dk_182 1 6 (dk_at dksX0_page_2 10 rfl rfl)
theorem dX0_page_58 : decode cX0_page 58 = .ok (.bipush (-9), 2) := dk_16 247 (dk_at dksX0_page_2 13 rfl rfl)
theorem dX0_page_60 : decode cX0_page 60 = .ok (.if_icmp .ne 7, 3) := dk_160 0 7 (dk_at dksX0_page_2 15 rfl rfl)
theorem dX0_page_63 : decode cX0_page 63 = .ok (.iconst 1, 1) := dk_4 (dk_at dksX0_page_2 18 rfl rfl)
theorem dX0_page_64 : decode cX0_page 64 = .ok (.goto 4, 3) := dk_167 0 4 (dk_at dksX0_page_2 19 rfl rfl)
theorem dX0_page_67 : decode cX0_page 67 = .ok (.iconst 0, 1) := dk_3 (dk_at dksX0_page_2 22 rfl rfl)
theorem dX0_page_68 : decode cX0_page 68 = .ok (.istore 4, 2) := dk_54 4 (dk_at dksX0_page_3 0 rfl rfl)
theorem dX0_page_70 : decode cX0_page 70 = .ok (.iload_n 2, 1) := dk_28 (dk_at dksX0_page_3 2 rfl rfl)
theorem dX0_page_71 : decode cX0_page 71 = .ok (.tableswitch 114 2 7 #[37, 43, 49, 73, 87, 101], 37) := by decide +kernel
theorem dX0_page_108 : decode cX0_page 108 = .ok (.aload_n 3, 1) := dk_45 (dk_at dksX0_page_5 0 rfl rfl)
theorem dX0_page_109 : decode cX0_page 109 = .ok (.iload_n 1, 1) := dk_27 (dk_at dksX0_page_5 1 rfl rfl)
theorem dX0_page_110 : decode cX0_page 110 = .ok (.invokevirtual 265, 3) := dk_182 1 9 (dk_at dksX0_page_5 2 rfl rfl)
theorem dX0_page_113 : decode cX0_page 113 = .ok (.ireturn, 1) := dk_172 (dk_at dksX0_page_5 5 rfl rfl)
theorem dX0_page_114 : decode cX0_page 114 = .ok (.aload_n 3, 1) := dk_45 (dk_at dksX0_page_5 6 rfl rfl)
theorem dX0_page_115 : decode cX0_page 115 = .ok (.iload_n 1, 1) := dk_27 (dk_at dksX0_page_5 7 rfl rfl)
theorem dX0_page_116 : decode cX0_page 116 = .ok (.invokevirtual 262, 3) := dk_182 1 6 (dk_at dksX0_page_5 8 rfl rfl)
theorem dX0_page_119 : decode cX0_page 119 = .ok (.ireturn, 1) := dk_172 (dk_at dksX0_page_5 11 rfl rfl)
theorem dX0_page_120 : decode cX0_page 120 = .ok (.iload 4, 2) := dk_21 4 (dk_at dksX0_page_5 12 rfl rfl)
theorem dX0_page_122 : decode cX0_page 122 = .ok (.ifCond .eq 8, 3) := dk_153 0 8 (dk_at dksX0_page_5 14 rfl rfl)
theorem dX0_page_125 : decode cX0_page 125 = .ok (.bipush (-9), 2) := dk_16 247 (dk_at dksX0_page_5 17 rfl rfl)
theorem dX0_page_127 : decode cX0_page 127 = .ok (.goto 16, 3) := dk_167 0 16 (dk_at dksX0_page_5 19 rfl rfl)
theorem dX0_page_130 : decode cX0_page 130 = .ok (.aload_n 3, 1) := dk_45 (dk_at dksX0_page_5 22 rfl rfl)
theorem dX0_page_131 : decode cX0_page 131 = .ok (.iload_n 1, 1) := dk_27 (dk_at dksX0_page_5 23 rfl rfl)
theorem dX0_page_132 : decode cX0_page 132 = .ok (.invokevirtual 268, 3) := dk_182 1 12 (dk_at dksX0_page_6 0 rfl rfl)
theorem dX0_page_135 : decode cX0_page 135 = .ok (.ifCond .eq 7, 3) := dk_153 0 7 (dk_at dksX0_page_6 3 rfl rfl)
theorem dX0_page_138 : decode cX0_page 138 = .ok (.iconst 1, 1) := dk_4 (dk_at dksX0_page_6 6 rfl rfl)
theorem dX0_page_139 : decode cX0_page 139 = .ok (.goto 4, 3) := dk_167 0 4 (dk_at dksX0_page_6 7 rfl rfl)
theorem dX0_page_142 : decode cX0_page 142 = .ok (.iconst 0, 1) := dk_3 (dk_at dksX0_page_6 10 rfl rfl)
theorem dX0_page_143 : decode cX0_page 143 = .ok (.ireturn, 1) := dk_172 (dk_at dksX0_page_6 11 rfl rfl)
theorem dX0_page_144 : decode cX0_page 144 = .ok (.aload_n 3, 1) := dk_45 (dk_at dksX0_page_6 12 rfl rfl)
theorem dX0_page_145 : decode cX0_page 145 = .ok (.iload_n 1, 1) := dk_27 (dk_at dksX0_page_6 13 rfl rfl)
theorem dX0_page_146 : decode cX0_page 146 = .ok (.invokevirtual 271, 3) := dk_182 1 15 (dk_at dksX0_page_6 14 rfl rfl)
theorem dX0_page_149 : decode cX0_page 149 = .ok (.ifCond .eq 7, 3) := dk_153 0 7 (dk_at dksX0_page_6 17 rfl rfl)
theorem dX0_page_152 : decode cX0_page 152 = .ok (.iconst 1, 1) := dk_4 (dk_at dksX0_page_6 20 rfl rfl)
theorem dX0_page_153 : decode cX0_page 153 = .ok (.goto 4, 3) := dk_167 0 4 (dk_at dksX0_page_6 21 rfl rfl)
theorem dX0_page_156 : decode cX0_page 156 = .ok (.iconst 0, 1) := dk_3 (dk_at dksX0_page_7 0 rfl rfl)
theorem dX0_page_157 : decode cX0_page 157 = .ok (.ireturn, 1) := dk_172 (dk_at dksX0_page_7 1 rfl rfl)
theorem dX0_page_158 : decode cX0_page 158 = .ok (.aload_n 3, 1) := dk_45 (dk_at dksX0_page_7 2 rfl rfl)
theorem dX0_page_159 : decode cX0_page 159 = .ok (.iload_n 1, 1) := dk_27 (dk_at dksX0_page_7 3 rfl rfl)
theorem dX0_page_160 : decode cX0_page 160 = .ok (.invokevirtual 274, 3) := dk_182 1 18 (dk_at dksX0_page_7 4 rfl rfl)
theorem dX0_page_163 : decode cX0_page 163 = .ok (.ifCond .ne 7, 3) := dk_154 0 7 (dk_at dksX0_page_7 7 rfl rfl)
theorem dX0_page_166 : decode cX0_page 166 = .ok (.iconst 1, 1) := dk_4 (dk_at dksX0_page_7 10 rfl rfl)
theorem dX0_page_167 : decode cX0_page 167 = .ok (.goto 4, 3) := dk_167 0 4 (dk_at dksX0_page_7 11 rfl rfl)
theorem dX0_page_170 : decode cX0_page 170 = .ok (.iconst 0, 1) := dk_3 (dk_at dksX0_page_7 14 rfl rfl)
theorem dX0_page_171 : decode cX0_page 171 = .ok (.ireturn, 1) := dk_172 (dk_at dksX0_page_7 15 rfl rfl)
theorem dX0_page_172 : decode cX0_page 172 = .ok (.new 277, 3) := dk_187 1 21 (dk_at dksX0_page_7 16 rfl rfl)
theorem dX0_page_175 : decode cX0_page 175 = .ok (.dup, 1) := dk_89 (dk_at dksX0_page_7 19 rfl rfl)
theorem dX0_page_176 : decode cX0_page 176 = .ok (.aload_n 3, 1) := dk_45 (dk_at dksX0_page_7 20 rfl rfl)
theorem dX0_page_177 : decode cX0_page 177 = .ok (.invokespecial 279, 3) := dk_183 1 23 (dk_at dksX0_page_7 21 rfl rfl)
theorem dX0_page_180 : decode cX0_page 180 = .ok (.iload_n 1, 1) := dk_27 (dk_at dksX0_page_8 0 rfl rfl)
theorem dX0_page_181 : decode cX0_page 181 = .ok (.invokevirtual 282, 3) := dk_182 1 26 (dk_at dksX0_page_8 1 rfl rfl)
theorem dX0_page_184 : decode cX0_page 184 = .ok (.ireturn, 1) := dk_172 (dk_at dksX0_page_8 4 rfl rfl)
theorem dX0_page_185 : decode cX0_page 185 = .ok (.aload_n 3, 1) := dk_45 (dk_at dksX0_page_8 5 rfl rfl)
theorem dX0_page_186 : decode cX0_page 186 = .ok (.getfield 285, 3) := dk_180 1 29 (dk_at dksX0_page_8 6 rfl rfl)
theorem dX0_page_189 : decode cX0_page 189 = .ok (.iload_n 1, 1) := dk_27 (dk_at dksX0_page_8 9 rfl rfl)
theorem dX0_page_190 : decode cX0_page 190 = .ok (.iconst 2, 1) := dk_5 (dk_at dksX0_page_8 10 rfl rfl)
theorem dX0_page_191 : decode cX0_page 191 = .ok (.idiv, 1) := dk_108 (dk_at dksX0_page_8 11 rfl rfl)
theorem dX0_page_192 : decode cX0_page 192 = .ok (.aaload, 1) := dk_50 (dk_at dksX0_page_8 12 rfl rfl)
theorem dX0_page_193 : decode cX0_page 193 = .ok (.iload_n 2, 1) := dk_28 (dk_at dksX0_page_8 13 rfl rfl)
theorem dX0_page_194 : decode cX0_page 194 = .ok (.invokevirtual 248, 3) := dk_182 0 248 (dk_at dksX0_page_8 14 rfl rfl)
theorem dX0_page_197 : decode cX0_page 197 = .ok (.ireturn, 1) := dk_172 (dk_at dksX0_page_8 17 rfl rfl)
abbrev cX0_opening : ByteArray := prog_1_method_32_code
def yX0_opening : MethodName := ⟨RX0, "opening", "(II)I"⟩
def dkwX0_opening_5 : List UInt8 := [180, 0, 46, 180, 0, 213, 104, 167, 0, 4, 3, 172]
abbrev dktX0_opening_5 : List UInt8 := dkwX0_opening_5 ++ []
def dkwX0_opening_4 : List UInt8 := [21, 4, 160, 0, 7, 4, 167, 0, 4, 5, 54, 6, 21, 5, 154, 0, 19, 21, 6, 42, 180, 0, 10]
abbrev dktX0_opening_4 : List UInt8 := dkwX0_opening_4 ++ dktX0_opening_5
def dkwX0_opening_3 : List UInt8 := [160, 0, 8, 21, 5, 167, 0, 13, 21, 5, 154, 0, 7, 3, 167, 0, 4, 4, 172, 27, 153, 0, 9, 27]
abbrev dktX0_opening_3 : List UInt8 := dkwX0_opening_3 ++ dktX0_opening_4
def dkwX0_opening_2 : List UInt8 := [184, 0, 30, 154, 0, 5, 2, 172, 45, 180, 1, 33, 27, 46, 54, 5, 28, 5, 162, 0, 24, 28, 4]
abbrev dktX0_opening_2 : List UInt8 := dkwX0_opening_2 ++ dktX0_opening_3
def dkwX0_opening_1 : List UInt8 := [182, 0, 253, 78, 45, 180, 1, 29, 190, 54, 4, 27, 3, 21, 4, 184, 0, 30, 153, 0, 12, 28, 3, 5]
abbrev dktX0_opening_1 : List UInt8 := dkwX0_opening_1 ++ dktX0_opening_2
def dkwX0_opening_0 : List UInt8 := [42, 180, 0, 10, 180, 0, 46, 182, 0, 185, 154, 0, 6, 16, 254, 172, 42, 180, 0, 10, 180, 0, 46]
abbrev dktX0_opening_0 : List UInt8 := dkwX0_opening_0 ++ dktX0_opening_1
theorem dksX0_opening_0 : cX0_opening.data.toList.drop 0 = dktX0_opening_0 := by decide +kernel
theorem dksX0_opening_1 : cX0_opening.data.toList.drop 23 = dktX0_opening_1 := dk_seg dksX0_opening_0 23 rfl rfl
theorem dksX0_opening_2 : cX0_opening.data.toList.drop 47 = dktX0_opening_2 := dk_seg dksX0_opening_1 24 rfl rfl
theorem dksX0_opening_3 : cX0_opening.data.toList.drop 70 = dktX0_opening_3 := dk_seg dksX0_opening_2 23 rfl rfl
theorem dksX0_opening_4 : cX0_opening.data.toList.drop 94 = dktX0_opening_4 := dk_seg dksX0_opening_3 24 rfl rfl
theorem dksX0_opening_5 : cX0_opening.data.toList.drop 117 = dktX0_opening_5 := dk_seg dksX0_opening_4 23 rfl rfl
theorem dX0_opening_0 : decode cX0_opening 0 = .ok (.aload_n 0, 1) := dk_42 (dk_at dksX0_opening_0 0 rfl rfl)
theorem dX0_opening_1 : decode cX0_opening 1 = .ok (.getfield 10, 3) := dk_180 0 10 (dk_at dksX0_opening_0 1 rfl rfl)
theorem dX0_opening_4 : decode cX0_opening 4 = .ok (.getfield 46, 3) := dk_180 0 46 (dk_at dksX0_opening_0 4 rfl rfl)
theorem dX0_opening_7 : decode cX0_opening 7 = .ok (.invokevirtual 185, 3) := dk_182 0 185 (dk_at dksX0_opening_0 7 rfl rfl)
theorem dX0_opening_10 : decode cX0_opening 10 = .ok (.ifCond .ne 6, 3) := dk_154 0 6 (dk_at dksX0_opening_0 10 rfl rfl)
theorem dX0_opening_13 : decode cX0_opening 13 = .ok (.bipush (-2), 2) := dk_16 254 (dk_at dksX0_opening_0 13 rfl rfl)
theorem dX0_opening_15 : decode cX0_opening 15 = .ok (.ireturn, 1) := dk_172 (dk_at dksX0_opening_0 15 rfl rfl)
theorem dX0_opening_16 : decode cX0_opening 16 = .ok (.aload_n 0, 1) := dk_42 (dk_at dksX0_opening_0 16 rfl rfl)
theorem dX0_opening_17 : decode cX0_opening 17 = .ok (.getfield 10, 3) := dk_180 0 10 (dk_at dksX0_opening_0 17 rfl rfl)
theorem dX0_opening_20 : decode cX0_opening 20 = .ok (.getfield 46, 3) := dk_180 0 46 (dk_at dksX0_opening_0 20 rfl rfl)
theorem dX0_opening_23 : decode cX0_opening 23 = .ok (.invokevirtual 253, 3) := dk_182 0 253 (dk_at dksX0_opening_1 0 rfl rfl)
theorem dX0_opening_26 : decode cX0_opening 26 = .ok (.astore_n 3, 1) := dk_78 (dk_at dksX0_opening_1 3 rfl rfl)
theorem dX0_opening_27 : decode cX0_opening 27 = .ok (.aload_n 3, 1) := dk_45 (dk_at dksX0_opening_1 4 rfl rfl)
theorem dX0_opening_28 : decode cX0_opening 28 = .ok (.getfield 285, 3) := dk_180 1 29 (dk_at dksX0_opening_1 5 rfl rfl)
theorem dX0_opening_31 : decode cX0_opening 31 = .ok (.arraylength, 1) := dk_190 (dk_at dksX0_opening_1 8 rfl rfl)
theorem dX0_opening_32 : decode cX0_opening 32 = .ok (.istore 4, 2) := dk_54 4 (dk_at dksX0_opening_1 9 rfl rfl)
theorem dX0_opening_34 : decode cX0_opening 34 = .ok (.iload_n 1, 1) := dk_27 (dk_at dksX0_opening_1 11 rfl rfl)
theorem dX0_opening_35 : decode cX0_opening 35 = .ok (.iconst 0, 1) := dk_3 (dk_at dksX0_opening_1 12 rfl rfl)
theorem dX0_opening_36 : decode cX0_opening 36 = .ok (.iload 4, 2) := dk_21 4 (dk_at dksX0_opening_1 13 rfl rfl)
theorem dX0_opening_38 : decode cX0_opening 38 = .ok (.invokestatic 30, 3) := dk_184 0 30 (dk_at dksX0_opening_1 15 rfl rfl)
theorem dX0_opening_41 : decode cX0_opening 41 = .ok (.ifCond .eq 12, 3) := dk_153 0 12 (dk_at dksX0_opening_1 18 rfl rfl)
theorem dX0_opening_44 : decode cX0_opening 44 = .ok (.iload_n 2, 1) := dk_28 (dk_at dksX0_opening_1 21 rfl rfl)
theorem dX0_opening_45 : decode cX0_opening 45 = .ok (.iconst 0, 1) := dk_3 (dk_at dksX0_opening_1 22 rfl rfl)
theorem dX0_opening_46 : decode cX0_opening 46 = .ok (.iconst 2, 1) := dk_5 (dk_at dksX0_opening_1 23 rfl rfl)
theorem dX0_opening_47 : decode cX0_opening 47 = .ok (.invokestatic 30, 3) := dk_184 0 30 (dk_at dksX0_opening_2 0 rfl rfl)
theorem dX0_opening_50 : decode cX0_opening 50 = .ok (.ifCond .ne 5, 3) := dk_154 0 5 (dk_at dksX0_opening_2 3 rfl rfl)
theorem dX0_opening_53 : decode cX0_opening 53 = .ok (.iconst (-1), 1) := dk_2 (dk_at dksX0_opening_2 6 rfl rfl)
theorem dX0_opening_54 : decode cX0_opening 54 = .ok (.ireturn, 1) := dk_172 (dk_at dksX0_opening_2 7 rfl rfl)
theorem dX0_opening_55 : decode cX0_opening 55 = .ok (.aload_n 3, 1) := dk_45 (dk_at dksX0_opening_2 8 rfl rfl)
theorem dX0_opening_56 : decode cX0_opening 56 = .ok (.getfield 289, 3) := dk_180 1 33 (dk_at dksX0_opening_2 9 rfl rfl)
theorem dX0_opening_59 : decode cX0_opening 59 = .ok (.iload_n 1, 1) := dk_27 (dk_at dksX0_opening_2 12 rfl rfl)
theorem dX0_opening_60 : decode cX0_opening 60 = .ok (.iaload, 1) := dk_46 (dk_at dksX0_opening_2 13 rfl rfl)
theorem dX0_opening_61 : decode cX0_opening 61 = .ok (.istore 5, 2) := dk_54 5 (dk_at dksX0_opening_2 14 rfl rfl)
theorem dX0_opening_63 : decode cX0_opening 63 = .ok (.iload_n 2, 1) := dk_28 (dk_at dksX0_opening_2 16 rfl rfl)
theorem dX0_opening_64 : decode cX0_opening 64 = .ok (.iconst 2, 1) := dk_5 (dk_at dksX0_opening_2 17 rfl rfl)
theorem dX0_opening_65 : decode cX0_opening 65 = .ok (.if_icmp .ge 24, 3) := dk_162 0 24 (dk_at dksX0_opening_2 18 rfl rfl)
theorem dX0_opening_68 : decode cX0_opening 68 = .ok (.iload_n 2, 1) := dk_28 (dk_at dksX0_opening_2 21 rfl rfl)
theorem dX0_opening_69 : decode cX0_opening 69 = .ok (.iconst 1, 1) := dk_4 (dk_at dksX0_opening_2 22 rfl rfl)
theorem dX0_opening_70 : decode cX0_opening 70 = .ok (.if_icmp .ne 8, 3) := dk_160 0 8 (dk_at dksX0_opening_3 0 rfl rfl)
theorem dX0_opening_73 : decode cX0_opening 73 = .ok (.iload 5, 2) := dk_21 5 (dk_at dksX0_opening_3 3 rfl rfl)
theorem dX0_opening_75 : decode cX0_opening 75 = .ok (.goto 13, 3) := dk_167 0 13 (dk_at dksX0_opening_3 5 rfl rfl)
theorem dX0_opening_78 : decode cX0_opening 78 = .ok (.iload 5, 2) := dk_21 5 (dk_at dksX0_opening_3 8 rfl rfl)
theorem dX0_opening_80 : decode cX0_opening 80 = .ok (.ifCond .ne 7, 3) := dk_154 0 7 (dk_at dksX0_opening_3 10 rfl rfl)
theorem dX0_opening_83 : decode cX0_opening 83 = .ok (.iconst 0, 1) := dk_3 (dk_at dksX0_opening_3 13 rfl rfl)
theorem dX0_opening_84 : decode cX0_opening 84 = .ok (.goto 4, 3) := dk_167 0 4 (dk_at dksX0_opening_3 14 rfl rfl)
theorem dX0_opening_87 : decode cX0_opening 87 = .ok (.iconst 1, 1) := dk_4 (dk_at dksX0_opening_3 17 rfl rfl)
theorem dX0_opening_88 : decode cX0_opening 88 = .ok (.ireturn, 1) := dk_172 (dk_at dksX0_opening_3 18 rfl rfl)
theorem dX0_opening_89 : decode cX0_opening 89 = .ok (.iload_n 1, 1) := dk_27 (dk_at dksX0_opening_3 19 rfl rfl)
theorem dX0_opening_90 : decode cX0_opening 90 = .ok (.ifCond .eq 9, 3) := dk_153 0 9 (dk_at dksX0_opening_3 20 rfl rfl)
theorem dX0_opening_93 : decode cX0_opening 93 = .ok (.iload_n 1, 1) := dk_27 (dk_at dksX0_opening_3 23 rfl rfl)
theorem dX0_opening_94 : decode cX0_opening 94 = .ok (.iload 4, 2) := dk_21 4 (dk_at dksX0_opening_4 0 rfl rfl)
theorem dX0_opening_96 : decode cX0_opening 96 = .ok (.if_icmp .ne 7, 3) := dk_160 0 7 (dk_at dksX0_opening_4 2 rfl rfl)
theorem dX0_opening_99 : decode cX0_opening 99 = .ok (.iconst 1, 1) := dk_4 (dk_at dksX0_opening_4 5 rfl rfl)
theorem dX0_opening_100 : decode cX0_opening 100 = .ok (.goto 4, 3) := dk_167 0 4 (dk_at dksX0_opening_4 6 rfl rfl)
theorem dX0_opening_103 : decode cX0_opening 103 = .ok (.iconst 2, 1) := dk_5 (dk_at dksX0_opening_4 9 rfl rfl)
theorem dX0_opening_104 : decode cX0_opening 104 = .ok (.istore 6, 2) := dk_54 6 (dk_at dksX0_opening_4 10 rfl rfl)
theorem dX0_opening_106 : decode cX0_opening 106 = .ok (.iload 5, 2) := dk_21 5 (dk_at dksX0_opening_4 12 rfl rfl)
theorem dX0_opening_108 : decode cX0_opening 108 = .ok (.ifCond .ne 19, 3) := dk_154 0 19 (dk_at dksX0_opening_4 14 rfl rfl)
theorem dX0_opening_111 : decode cX0_opening 111 = .ok (.iload 6, 2) := dk_21 6 (dk_at dksX0_opening_4 17 rfl rfl)
theorem dX0_opening_113 : decode cX0_opening 113 = .ok (.aload_n 0, 1) := dk_42 (dk_at dksX0_opening_4 19 rfl rfl)
theorem dX0_opening_114 : decode cX0_opening 114 = .ok (.getfield 10, 3) := dk_180 0 10 (dk_at dksX0_opening_4 20 rfl rfl)
theorem dX0_opening_117 : decode cX0_opening 117 = .ok (.getfield 46, 3) := dk_180 0 46 (dk_at dksX0_opening_5 0 rfl rfl)
theorem dX0_opening_120 : decode cX0_opening 120 = .ok (.getfield 213, 3) := dk_180 0 213 (dk_at dksX0_opening_5 3 rfl rfl)
theorem dX0_opening_123 : decode cX0_opening 123 = .ok (.imul, 1) := dk_104 (dk_at dksX0_opening_5 6 rfl rfl)
theorem dX0_opening_124 : decode cX0_opening 124 = .ok (.goto 4, 3) := dk_167 0 4 (dk_at dksX0_opening_5 7 rfl rfl)
theorem dX0_opening_127 : decode cX0_opening 127 = .ok (.iconst 0, 1) := dk_3 (dk_at dksX0_opening_5 10 rfl rfl)
theorem dX0_opening_128 : decode cX0_opening 128 = .ok (.ireturn, 1) := dk_172 (dk_at dksX0_opening_5 11 rfl rfl)
abbrev cX0_hanging : ByteArray := prog_1_method_33_code
def yX0_hanging : MethodName := ⟨RX0, "hanging", "(I)I"⟩
def dkwX0_hanging_1 : List UInt8 := [153, 0, 20, 42, 180, 0, 10, 180, 0, 46, 182, 0, 253, 27, 182, 1, 36, 167, 0, 4, 2, 172]
abbrev dktX0_hanging_1 : List UInt8 := dkwX0_hanging_1 ++ []
def dkwX0_hanging_0 : List UInt8 := [42, 180, 0, 10, 180, 0, 46, 182, 0, 185, 154, 0, 6, 16, 254, 172, 27, 3, 6, 184, 0, 30]
abbrev dktX0_hanging_0 : List UInt8 := dkwX0_hanging_0 ++ dktX0_hanging_1
theorem dksX0_hanging_0 : cX0_hanging.data.toList.drop 0 = dktX0_hanging_0 := by decide +kernel
theorem dksX0_hanging_1 : cX0_hanging.data.toList.drop 22 = dktX0_hanging_1 := dk_seg dksX0_hanging_0 22 rfl rfl
theorem dX0_hanging_0 : decode cX0_hanging 0 = .ok (.aload_n 0, 1) := dk_42 (dk_at dksX0_hanging_0 0 rfl rfl)
theorem dX0_hanging_1 : decode cX0_hanging 1 = .ok (.getfield 10, 3) := dk_180 0 10 (dk_at dksX0_hanging_0 1 rfl rfl)
theorem dX0_hanging_4 : decode cX0_hanging 4 = .ok (.getfield 46, 3) := dk_180 0 46 (dk_at dksX0_hanging_0 4 rfl rfl)
theorem dX0_hanging_7 : decode cX0_hanging 7 = .ok (.invokevirtual 185, 3) := dk_182 0 185 (dk_at dksX0_hanging_0 7 rfl rfl)
theorem dX0_hanging_10 : decode cX0_hanging 10 = .ok (.ifCond .ne 6, 3) := dk_154 0 6 (dk_at dksX0_hanging_0 10 rfl rfl)
theorem dX0_hanging_13 : decode cX0_hanging 13 = .ok (.bipush (-2), 2) := dk_16 254 (dk_at dksX0_hanging_0 13 rfl rfl)
theorem dX0_hanging_15 : decode cX0_hanging 15 = .ok (.ireturn, 1) := dk_172 (dk_at dksX0_hanging_0 15 rfl rfl)
theorem dX0_hanging_16 : decode cX0_hanging 16 = .ok (.iload_n 1, 1) := dk_27 (dk_at dksX0_hanging_0 16 rfl rfl)
theorem dX0_hanging_17 : decode cX0_hanging 17 = .ok (.iconst 0, 1) := dk_3 (dk_at dksX0_hanging_0 17 rfl rfl)
theorem dX0_hanging_18 : decode cX0_hanging 18 = .ok (.iconst 3, 1) := dk_6 (dk_at dksX0_hanging_0 18 rfl rfl)
theorem dX0_hanging_19 : decode cX0_hanging 19 = .ok (.invokestatic 30, 3) := dk_184 0 30 (dk_at dksX0_hanging_0 19 rfl rfl)
theorem dX0_hanging_22 : decode cX0_hanging 22 = .ok (.ifCond .eq 20, 3) := dk_153 0 20 (dk_at dksX0_hanging_1 0 rfl rfl)
theorem dX0_hanging_25 : decode cX0_hanging 25 = .ok (.aload_n 0, 1) := dk_42 (dk_at dksX0_hanging_1 3 rfl rfl)
theorem dX0_hanging_26 : decode cX0_hanging 26 = .ok (.getfield 10, 3) := dk_180 0 10 (dk_at dksX0_hanging_1 4 rfl rfl)
theorem dX0_hanging_29 : decode cX0_hanging 29 = .ok (.getfield 46, 3) := dk_180 0 46 (dk_at dksX0_hanging_1 7 rfl rfl)
theorem dX0_hanging_32 : decode cX0_hanging 32 = .ok (.invokevirtual 253, 3) := dk_182 0 253 (dk_at dksX0_hanging_1 10 rfl rfl)
theorem dX0_hanging_35 : decode cX0_hanging 35 = .ok (.iload_n 1, 1) := dk_27 (dk_at dksX0_hanging_1 13 rfl rfl)
theorem dX0_hanging_36 : decode cX0_hanging 36 = .ok (.invokevirtual 292, 3) := dk_182 1 36 (dk_at dksX0_hanging_1 14 rfl rfl)
theorem dX0_hanging_39 : decode cX0_hanging 39 = .ok (.goto 4, 3) := dk_167 0 4 (dk_at dksX0_hanging_1 17 rfl rfl)
theorem dX0_hanging_42 : decode cX0_hanging 42 = .ok (.iconst (-1), 1) := dk_2 (dk_at dksX0_hanging_1 20 rfl rfl)
theorem dX0_hanging_43 : decode cX0_hanging 43 = .ok (.ireturn, 1) := dk_172 (dk_at dksX0_hanging_1 21 rfl rfl)
abbrev cX0_together : ByteArray := prog_1_method_34_code
def yX0_together : MethodName := ⟨RX0, "together", "(II)I"⟩
def dkwX0_together_2 : List UInt8 := [27, 28, 160, 0, 5, 2, 172, 42, 180, 0, 10, 180, 0, 46, 182, 0, 253, 27, 28, 182, 1, 42, 172]
abbrev dktX0_together_2 : List UInt8 := dkwX0_together_2 ++ []
def dkwX0_together_1 : List UInt8 := [182, 1, 39, 4, 100, 62, 27, 3, 29, 184, 0, 30, 153, 0, 17, 28, 3, 29, 184, 0, 30, 153, 0, 8]
abbrev dktX0_together_1 : List UInt8 := dkwX0_together_1 ++ dktX0_together_2
def dkwX0_together_0 : List UInt8 := [42, 180, 0, 10, 180, 0, 46, 182, 0, 185, 154, 0, 6, 16, 254, 172, 42, 180, 0, 10, 180, 0, 46]
abbrev dktX0_together_0 : List UInt8 := dkwX0_together_0 ++ dktX0_together_1
theorem dksX0_together_0 : cX0_together.data.toList.drop 0 = dktX0_together_0 := by decide +kernel
theorem dksX0_together_1 : cX0_together.data.toList.drop 23 = dktX0_together_1 := dk_seg dksX0_together_0 23 rfl rfl
theorem dksX0_together_2 : cX0_together.data.toList.drop 47 = dktX0_together_2 := dk_seg dksX0_together_1 24 rfl rfl
theorem dX0_together_0 : decode cX0_together 0 = .ok (.aload_n 0, 1) := dk_42 (dk_at dksX0_together_0 0 rfl rfl)
theorem dX0_together_1 : decode cX0_together 1 = .ok (.getfield 10, 3) := dk_180 0 10 (dk_at dksX0_together_0 1 rfl rfl)
theorem dX0_together_4 : decode cX0_together 4 = .ok (.getfield 46, 3) := dk_180 0 46 (dk_at dksX0_together_0 4 rfl rfl)
theorem dX0_together_7 : decode cX0_together 7 = .ok (.invokevirtual 185, 3) := dk_182 0 185 (dk_at dksX0_together_0 7 rfl rfl)
theorem dX0_together_10 : decode cX0_together 10 = .ok (.ifCond .ne 6, 3) := dk_154 0 6 (dk_at dksX0_together_0 10 rfl rfl)
theorem dX0_together_13 : decode cX0_together 13 = .ok (.bipush (-2), 2) := dk_16 254 (dk_at dksX0_together_0 13 rfl rfl)
theorem dX0_together_15 : decode cX0_together 15 = .ok (.ireturn, 1) := dk_172 (dk_at dksX0_together_0 15 rfl rfl)
theorem dX0_together_16 : decode cX0_together 16 = .ok (.aload_n 0, 1) := dk_42 (dk_at dksX0_together_0 16 rfl rfl)
theorem dX0_together_17 : decode cX0_together 17 = .ok (.getfield 10, 3) := dk_180 0 10 (dk_at dksX0_together_0 17 rfl rfl)
theorem dX0_together_20 : decode cX0_together 20 = .ok (.getfield 46, 3) := dk_180 0 46 (dk_at dksX0_together_0 20 rfl rfl)
theorem dX0_together_23 : decode cX0_together 23 = .ok (.invokevirtual 295, 3) := dk_182 1 39 (dk_at dksX0_together_1 0 rfl rfl)
theorem dX0_together_26 : decode cX0_together 26 = .ok (.iconst 1, 1) := dk_4 (dk_at dksX0_together_1 3 rfl rfl)
theorem dX0_together_27 : decode cX0_together 27 = .ok (.isub, 1) := dk_100 (dk_at dksX0_together_1 4 rfl rfl)
theorem dX0_together_28 : decode cX0_together 28 = .ok (.istore_n 3, 1) := dk_62 (dk_at dksX0_together_1 5 rfl rfl)
theorem dX0_together_29 : decode cX0_together 29 = .ok (.iload_n 1, 1) := dk_27 (dk_at dksX0_together_1 6 rfl rfl)
theorem dX0_together_30 : decode cX0_together 30 = .ok (.iconst 0, 1) := dk_3 (dk_at dksX0_together_1 7 rfl rfl)
theorem dX0_together_31 : decode cX0_together 31 = .ok (.iload_n 3, 1) := dk_29 (dk_at dksX0_together_1 8 rfl rfl)
theorem dX0_together_32 : decode cX0_together 32 = .ok (.invokestatic 30, 3) := dk_184 0 30 (dk_at dksX0_together_1 9 rfl rfl)
theorem dX0_together_35 : decode cX0_together 35 = .ok (.ifCond .eq 17, 3) := dk_153 0 17 (dk_at dksX0_together_1 12 rfl rfl)
theorem dX0_together_38 : decode cX0_together 38 = .ok (.iload_n 2, 1) := dk_28 (dk_at dksX0_together_1 15 rfl rfl)
theorem dX0_together_39 : decode cX0_together 39 = .ok (.iconst 0, 1) := dk_3 (dk_at dksX0_together_1 16 rfl rfl)
theorem dX0_together_40 : decode cX0_together 40 = .ok (.iload_n 3, 1) := dk_29 (dk_at dksX0_together_1 17 rfl rfl)
theorem dX0_together_41 : decode cX0_together 41 = .ok (.invokestatic 30, 3) := dk_184 0 30 (dk_at dksX0_together_1 18 rfl rfl)
theorem dX0_together_44 : decode cX0_together 44 = .ok (.ifCond .eq 8, 3) := dk_153 0 8 (dk_at dksX0_together_1 21 rfl rfl)
theorem dX0_together_47 : decode cX0_together 47 = .ok (.iload_n 1, 1) := dk_27 (dk_at dksX0_together_2 0 rfl rfl)
theorem dX0_together_48 : decode cX0_together 48 = .ok (.iload_n 2, 1) := dk_28 (dk_at dksX0_together_2 1 rfl rfl)
theorem dX0_together_49 : decode cX0_together 49 = .ok (.if_icmp .ne 5, 3) := dk_160 0 5 (dk_at dksX0_together_2 2 rfl rfl)
theorem dX0_together_52 : decode cX0_together 52 = .ok (.iconst (-1), 1) := dk_2 (dk_at dksX0_together_2 5 rfl rfl)
theorem dX0_together_53 : decode cX0_together 53 = .ok (.ireturn, 1) := dk_172 (dk_at dksX0_together_2 6 rfl rfl)
theorem dX0_together_54 : decode cX0_together 54 = .ok (.aload_n 0, 1) := dk_42 (dk_at dksX0_together_2 7 rfl rfl)
theorem dX0_together_55 : decode cX0_together 55 = .ok (.getfield 10, 3) := dk_180 0 10 (dk_at dksX0_together_2 8 rfl rfl)
theorem dX0_together_58 : decode cX0_together 58 = .ok (.getfield 46, 3) := dk_180 0 46 (dk_at dksX0_together_2 11 rfl rfl)
theorem dX0_together_61 : decode cX0_together 61 = .ok (.invokevirtual 253, 3) := dk_182 0 253 (dk_at dksX0_together_2 14 rfl rfl)
theorem dX0_together_64 : decode cX0_together 64 = .ok (.iload_n 1, 1) := dk_27 (dk_at dksX0_together_2 17 rfl rfl)
theorem dX0_together_65 : decode cX0_together 65 = .ok (.iload_n 2, 1) := dk_28 (dk_at dksX0_together_2 18 rfl rfl)
theorem dX0_together_66 : decode cX0_together 66 = .ok (.invokevirtual 298, 3) := dk_182 1 42 (dk_at dksX0_together_2 19 rfl rfl)
theorem dX0_together_69 : decode cX0_together 69 = .ok (.ireturn, 1) := dk_172 (dk_at dksX0_together_2 22 rfl rfl)
abbrev cX0_pieces : ByteArray := prog_1_method_35_code
def yX0_pieces : MethodName := ⟨RX0, "pieces", "()I"⟩
def dkwX0_pieces_1 : List UInt8 := [182, 1, 46, 167, 0, 5, 16, 254, 172]
abbrev dktX0_pieces_1 : List UInt8 := dkwX0_pieces_1 ++ []
def dkwX0_pieces_0 : List UInt8 := [42, 180, 0, 10, 180, 0, 46, 182, 0, 185, 153, 0, 19, 42, 180, 0, 10, 180, 0, 46, 182, 0, 253]
abbrev dktX0_pieces_0 : List UInt8 := dkwX0_pieces_0 ++ dktX0_pieces_1
theorem dksX0_pieces_0 : cX0_pieces.data.toList.drop 0 = dktX0_pieces_0 := by decide +kernel
theorem dksX0_pieces_1 : cX0_pieces.data.toList.drop 23 = dktX0_pieces_1 := dk_seg dksX0_pieces_0 23 rfl rfl
theorem dX0_pieces_0 : decode cX0_pieces 0 = .ok (.aload_n 0, 1) := dk_42 (dk_at dksX0_pieces_0 0 rfl rfl)
theorem dX0_pieces_1 : decode cX0_pieces 1 = .ok (.getfield 10, 3) := dk_180 0 10 (dk_at dksX0_pieces_0 1 rfl rfl)
theorem dX0_pieces_4 : decode cX0_pieces 4 = .ok (.getfield 46, 3) := dk_180 0 46 (dk_at dksX0_pieces_0 4 rfl rfl)
theorem dX0_pieces_7 : decode cX0_pieces 7 = .ok (.invokevirtual 185, 3) := dk_182 0 185 (dk_at dksX0_pieces_0 7 rfl rfl)
theorem dX0_pieces_10 : decode cX0_pieces 10 = .ok (.ifCond .eq 19, 3) := dk_153 0 19 (dk_at dksX0_pieces_0 10 rfl rfl)
theorem dX0_pieces_13 : decode cX0_pieces 13 = .ok (.aload_n 0, 1) := dk_42 (dk_at dksX0_pieces_0 13 rfl rfl)
theorem dX0_pieces_14 : decode cX0_pieces 14 = .ok (.getfield 10, 3) := dk_180 0 10 (dk_at dksX0_pieces_0 14 rfl rfl)
theorem dX0_pieces_17 : decode cX0_pieces 17 = .ok (.getfield 46, 3) := dk_180 0 46 (dk_at dksX0_pieces_0 17 rfl rfl)
theorem dX0_pieces_20 : decode cX0_pieces 20 = .ok (.invokevirtual 253, 3) := dk_182 0 253 (dk_at dksX0_pieces_0 20 rfl rfl)
theorem dX0_pieces_23 : decode cX0_pieces 23 = .ok (.invokevirtual 302, 3) := dk_182 1 46 (dk_at dksX0_pieces_1 0 rfl rfl)
theorem dX0_pieces_26 : decode cX0_pieces 26 = .ok (.goto 5, 3) := dk_167 0 5 (dk_at dksX0_pieces_1 3 rfl rfl)
theorem dX0_pieces_29 : decode cX0_pieces 29 = .ok (.bipush (-2), 2) := dk_16 254 (dk_at dksX0_pieces_1 6 rfl rfl)
theorem dX0_pieces_31 : decode cX0_pieces 31 = .ok (.ireturn, 1) := dk_172 (dk_at dksX0_pieces_1 8 rfl rfl)
abbrev cX0_reading : ByteArray := prog_1_method_36_code
def yX0_reading : MethodName := ⟨RX0, "reading", "(I)I"⟩
def dkwX0_reading_3 : List UInt8 := [160, 0, 7, 29, 167, 0, 8, 44, 29, 182, 1, 18, 172]
abbrev dktX0_reading_3 : List UInt8 := dkwX0_reading_3 ++ []
def dkwX0_reading_2 : List UInt8 := [153, 0, 11, 29, 44, 182, 1, 1, 160, 0, 14, 27, 154, 0, 7, 29, 167, 0, 5, 16, 247, 172, 27, 4]
abbrev dktX0_reading_2 : List UInt8 := dkwX0_reading_2 ++ dktX0_reading_3
def dkwX0_reading_1 : List UInt8 := [154, 0, 5, 2, 172, 42, 180, 0, 10, 180, 0, 46, 182, 0, 253, 77, 44, 182, 1, 49, 62, 27]
abbrev dktX0_reading_1 : List UInt8 := dkwX0_reading_1 ++ dktX0_reading_2
def dkwX0_reading_0 : List UInt8 := [42, 180, 0, 10, 180, 0, 46, 182, 0, 185, 154, 0, 6, 16, 254, 172, 27, 3, 5, 184, 0, 30]
abbrev dktX0_reading_0 : List UInt8 := dkwX0_reading_0 ++ dktX0_reading_1
theorem dksX0_reading_0 : cX0_reading.data.toList.drop 0 = dktX0_reading_0 := by decide +kernel
theorem dksX0_reading_1 : cX0_reading.data.toList.drop 22 = dktX0_reading_1 := dk_seg dksX0_reading_0 22 rfl rfl
theorem dksX0_reading_2 : cX0_reading.data.toList.drop 44 = dktX0_reading_2 := dk_seg dksX0_reading_1 22 rfl rfl
theorem dksX0_reading_3 : cX0_reading.data.toList.drop 68 = dktX0_reading_3 := dk_seg dksX0_reading_2 24 rfl rfl
theorem dX0_reading_0 : decode cX0_reading 0 = .ok (.aload_n 0, 1) := dk_42 (dk_at dksX0_reading_0 0 rfl rfl)
theorem dX0_reading_1 : decode cX0_reading 1 = .ok (.getfield 10, 3) := dk_180 0 10 (dk_at dksX0_reading_0 1 rfl rfl)
theorem dX0_reading_4 : decode cX0_reading 4 = .ok (.getfield 46, 3) := dk_180 0 46 (dk_at dksX0_reading_0 4 rfl rfl)
theorem dX0_reading_7 : decode cX0_reading 7 = .ok (.invokevirtual 185, 3) := dk_182 0 185 (dk_at dksX0_reading_0 7 rfl rfl)
theorem dX0_reading_10 : decode cX0_reading 10 = .ok (.ifCond .ne 6, 3) := dk_154 0 6 (dk_at dksX0_reading_0 10 rfl rfl)
theorem dX0_reading_13 : decode cX0_reading 13 = .ok (.bipush (-2), 2) := dk_16 254 (dk_at dksX0_reading_0 13 rfl rfl)
theorem dX0_reading_15 : decode cX0_reading 15 = .ok (.ireturn, 1) := dk_172 (dk_at dksX0_reading_0 15 rfl rfl)
theorem dX0_reading_16 : decode cX0_reading 16 = .ok (.iload_n 1, 1) := dk_27 (dk_at dksX0_reading_0 16 rfl rfl)
theorem dX0_reading_17 : decode cX0_reading 17 = .ok (.iconst 0, 1) := dk_3 (dk_at dksX0_reading_0 17 rfl rfl)
theorem dX0_reading_18 : decode cX0_reading 18 = .ok (.iconst 2, 1) := dk_5 (dk_at dksX0_reading_0 18 rfl rfl)
theorem dX0_reading_19 : decode cX0_reading 19 = .ok (.invokestatic 30, 3) := dk_184 0 30 (dk_at dksX0_reading_0 19 rfl rfl)
theorem dX0_reading_22 : decode cX0_reading 22 = .ok (.ifCond .ne 5, 3) := dk_154 0 5 (dk_at dksX0_reading_1 0 rfl rfl)
theorem dX0_reading_25 : decode cX0_reading 25 = .ok (.iconst (-1), 1) := dk_2 (dk_at dksX0_reading_1 3 rfl rfl)
theorem dX0_reading_26 : decode cX0_reading 26 = .ok (.ireturn, 1) := dk_172 (dk_at dksX0_reading_1 4 rfl rfl)
theorem dX0_reading_27 : decode cX0_reading 27 = .ok (.aload_n 0, 1) := dk_42 (dk_at dksX0_reading_1 5 rfl rfl)
theorem dX0_reading_28 : decode cX0_reading 28 = .ok (.getfield 10, 3) := dk_180 0 10 (dk_at dksX0_reading_1 6 rfl rfl)
theorem dX0_reading_31 : decode cX0_reading 31 = .ok (.getfield 46, 3) := dk_180 0 46 (dk_at dksX0_reading_1 9 rfl rfl)
theorem dX0_reading_34 : decode cX0_reading 34 = .ok (.invokevirtual 253, 3) := dk_182 0 253 (dk_at dksX0_reading_1 12 rfl rfl)
theorem dX0_reading_37 : decode cX0_reading 37 = .ok (.astore_n 2, 1) := dk_77 (dk_at dksX0_reading_1 15 rfl rfl)
theorem dX0_reading_38 : decode cX0_reading 38 = .ok (.aload_n 2, 1) := dk_44 (dk_at dksX0_reading_1 16 rfl rfl)
theorem dX0_reading_39 : decode cX0_reading 39 = .ok (.invokevirtual 305, 3) := dk_182 1 49 (dk_at dksX0_reading_1 17 rfl rfl)
theorem dX0_reading_42 : decode cX0_reading 42 = .ok (.istore_n 3, 1) := dk_62 (dk_at dksX0_reading_1 20 rfl rfl)
theorem dX0_reading_43 : decode cX0_reading 43 = .ok (.iload_n 1, 1) := dk_27 (dk_at dksX0_reading_1 21 rfl rfl)
theorem dX0_reading_44 : decode cX0_reading 44 = .ok (.ifCond .eq 11, 3) := dk_153 0 11 (dk_at dksX0_reading_2 0 rfl rfl)
theorem dX0_reading_47 : decode cX0_reading 47 = .ok (.iload_n 3, 1) := dk_29 (dk_at dksX0_reading_2 3 rfl rfl)
theorem dX0_reading_48 : decode cX0_reading 48 = .ok (.aload_n 2, 1) := dk_44 (dk_at dksX0_reading_2 4 rfl rfl)
theorem dX0_reading_49 : decode cX0_reading 49 = .ok (.invokevirtual 257, 3) := dk_182 1 1 (dk_at dksX0_reading_2 5 rfl rfl)
theorem dX0_reading_52 : decode cX0_reading 52 = .ok (.if_icmp .ne 14, 3) := dk_160 0 14 (dk_at dksX0_reading_2 8 rfl rfl)
theorem dX0_reading_55 : decode cX0_reading 55 = .ok (.iload_n 1, 1) := dk_27 (dk_at dksX0_reading_2 11 rfl rfl)
theorem dX0_reading_56 : decode cX0_reading 56 = .ok (.ifCond .ne 7, 3) := dk_154 0 7 (dk_at dksX0_reading_2 12 rfl rfl)
theorem dX0_reading_59 : decode cX0_reading 59 = .ok (.iload_n 3, 1) := dk_29 (dk_at dksX0_reading_2 15 rfl rfl)
theorem dX0_reading_60 : decode cX0_reading 60 = .ok (.goto 5, 3) := dk_167 0 5 (dk_at dksX0_reading_2 16 rfl rfl)
theorem dX0_reading_63 : decode cX0_reading 63 = .ok (.bipush (-9), 2) := dk_16 247 (dk_at dksX0_reading_2 19 rfl rfl)
theorem dX0_reading_65 : decode cX0_reading 65 = .ok (.ireturn, 1) := dk_172 (dk_at dksX0_reading_2 21 rfl rfl)
theorem dX0_reading_66 : decode cX0_reading 66 = .ok (.iload_n 1, 1) := dk_27 (dk_at dksX0_reading_2 22 rfl rfl)
theorem dX0_reading_67 : decode cX0_reading 67 = .ok (.iconst 1, 1) := dk_4 (dk_at dksX0_reading_2 23 rfl rfl)
theorem dX0_reading_68 : decode cX0_reading 68 = .ok (.if_icmp .ne 7, 3) := dk_160 0 7 (dk_at dksX0_reading_3 0 rfl rfl)
theorem dX0_reading_71 : decode cX0_reading 71 = .ok (.iload_n 3, 1) := dk_29 (dk_at dksX0_reading_3 3 rfl rfl)
theorem dX0_reading_72 : decode cX0_reading 72 = .ok (.goto 8, 3) := dk_167 0 8 (dk_at dksX0_reading_3 4 rfl rfl)
theorem dX0_reading_75 : decode cX0_reading 75 = .ok (.aload_n 2, 1) := dk_44 (dk_at dksX0_reading_3 7 rfl rfl)
theorem dX0_reading_76 : decode cX0_reading 76 = .ok (.iload_n 3, 1) := dk_29 (dk_at dksX0_reading_3 8 rfl rfl)
theorem dX0_reading_77 : decode cX0_reading 77 = .ok (.invokevirtual 274, 3) := dk_182 1 18 (dk_at dksX0_reading_3 9 rfl rfl)
theorem dX0_reading_80 : decode cX0_reading 80 = .ok (.ireturn, 1) := dk_172 (dk_at dksX0_reading_3 12 rfl rfl)
abbrev cX0_pageOf : ByteArray := prog_1_method_37_code
def yX0_pageOf : MethodName := ⟨RX0, "pageOf", "(I)I"⟩
def dkwX0_pageOf_2 : List UInt8 := [162, 0, 20, 44, 29, 182, 1, 6, 27, 160, 0, 5, 29, 172, 132, 3, 1, 167, 255, 234, 16, 247, 172]
abbrev dktX0_pageOf_2 : List UInt8 := dkwX0_pageOf_2 ++ []
def dkwX0_pageOf_1 : List UInt8 := [154, 0, 5, 2, 172, 42, 180, 0, 10, 180, 0, 46, 182, 0, 253, 77, 3, 62, 29, 44, 182, 1, 1]
abbrev dktX0_pageOf_1 : List UInt8 := dkwX0_pageOf_1 ++ dktX0_pageOf_2
def dkwX0_pageOf_0 : List UInt8 := [42, 180, 0, 10, 180, 0, 46, 182, 0, 185, 154, 0, 6, 16, 254, 172, 27, 3, 16, 31, 184, 0, 30]
abbrev dktX0_pageOf_0 : List UInt8 := dkwX0_pageOf_0 ++ dktX0_pageOf_1
theorem dksX0_pageOf_0 : cX0_pageOf.data.toList.drop 0 = dktX0_pageOf_0 := by decide +kernel
theorem dksX0_pageOf_1 : cX0_pageOf.data.toList.drop 23 = dktX0_pageOf_1 := dk_seg dksX0_pageOf_0 23 rfl rfl
theorem dksX0_pageOf_2 : cX0_pageOf.data.toList.drop 46 = dktX0_pageOf_2 := dk_seg dksX0_pageOf_1 23 rfl rfl
theorem dX0_pageOf_0 : decode cX0_pageOf 0 = .ok (.aload_n 0, 1) := dk_42 (dk_at dksX0_pageOf_0 0 rfl rfl)
theorem dX0_pageOf_1 : decode cX0_pageOf 1 = .ok (.getfield 10, 3) := dk_180 0 10 (dk_at dksX0_pageOf_0 1 rfl rfl)
theorem dX0_pageOf_4 : decode cX0_pageOf 4 = .ok (.getfield 46, 3) := dk_180 0 46 (dk_at dksX0_pageOf_0 4 rfl rfl)
theorem dX0_pageOf_7 : decode cX0_pageOf 7 = .ok (.invokevirtual 185, 3) := dk_182 0 185 (dk_at dksX0_pageOf_0 7 rfl rfl)
theorem dX0_pageOf_10 : decode cX0_pageOf 10 = .ok (.ifCond .ne 6, 3) := dk_154 0 6 (dk_at dksX0_pageOf_0 10 rfl rfl)
theorem dX0_pageOf_13 : decode cX0_pageOf 13 = .ok (.bipush (-2), 2) := dk_16 254 (dk_at dksX0_pageOf_0 13 rfl rfl)
theorem dX0_pageOf_15 : decode cX0_pageOf 15 = .ok (.ireturn, 1) := dk_172 (dk_at dksX0_pageOf_0 15 rfl rfl)
theorem dX0_pageOf_16 : decode cX0_pageOf 16 = .ok (.iload_n 1, 1) := dk_27 (dk_at dksX0_pageOf_0 16 rfl rfl)
theorem dX0_pageOf_17 : decode cX0_pageOf 17 = .ok (.iconst 0, 1) := dk_3 (dk_at dksX0_pageOf_0 17 rfl rfl)
theorem dX0_pageOf_18 : decode cX0_pageOf 18 = .ok (.bipush 31, 2) := dk_16 31 (dk_at dksX0_pageOf_0 18 rfl rfl)
theorem dX0_pageOf_20 : decode cX0_pageOf 20 = .ok (.invokestatic 30, 3) := dk_184 0 30 (dk_at dksX0_pageOf_0 20 rfl rfl)
theorem dX0_pageOf_23 : decode cX0_pageOf 23 = .ok (.ifCond .ne 5, 3) := dk_154 0 5 (dk_at dksX0_pageOf_1 0 rfl rfl)
theorem dX0_pageOf_26 : decode cX0_pageOf 26 = .ok (.iconst (-1), 1) := dk_2 (dk_at dksX0_pageOf_1 3 rfl rfl)
theorem dX0_pageOf_27 : decode cX0_pageOf 27 = .ok (.ireturn, 1) := dk_172 (dk_at dksX0_pageOf_1 4 rfl rfl)
theorem dX0_pageOf_28 : decode cX0_pageOf 28 = .ok (.aload_n 0, 1) := dk_42 (dk_at dksX0_pageOf_1 5 rfl rfl)
theorem dX0_pageOf_29 : decode cX0_pageOf 29 = .ok (.getfield 10, 3) := dk_180 0 10 (dk_at dksX0_pageOf_1 6 rfl rfl)
theorem dX0_pageOf_32 : decode cX0_pageOf 32 = .ok (.getfield 46, 3) := dk_180 0 46 (dk_at dksX0_pageOf_1 9 rfl rfl)
theorem dX0_pageOf_35 : decode cX0_pageOf 35 = .ok (.invokevirtual 253, 3) := dk_182 0 253 (dk_at dksX0_pageOf_1 12 rfl rfl)
theorem dX0_pageOf_38 : decode cX0_pageOf 38 = .ok (.astore_n 2, 1) := dk_77 (dk_at dksX0_pageOf_1 15 rfl rfl)
theorem dX0_pageOf_39 : decode cX0_pageOf 39 = .ok (.iconst 0, 1) := dk_3 (dk_at dksX0_pageOf_1 16 rfl rfl)
theorem dX0_pageOf_40 : decode cX0_pageOf 40 = .ok (.istore_n 3, 1) := dk_62 (dk_at dksX0_pageOf_1 17 rfl rfl)
theorem dX0_pageOf_41 : decode cX0_pageOf 41 = .ok (.iload_n 3, 1) := dk_29 (dk_at dksX0_pageOf_1 18 rfl rfl)
theorem dX0_pageOf_42 : decode cX0_pageOf 42 = .ok (.aload_n 2, 1) := dk_44 (dk_at dksX0_pageOf_1 19 rfl rfl)
theorem dX0_pageOf_43 : decode cX0_pageOf 43 = .ok (.invokevirtual 257, 3) := dk_182 1 1 (dk_at dksX0_pageOf_1 20 rfl rfl)
theorem dX0_pageOf_46 : decode cX0_pageOf 46 = .ok (.if_icmp .ge 20, 3) := dk_162 0 20 (dk_at dksX0_pageOf_2 0 rfl rfl)
theorem dX0_pageOf_49 : decode cX0_pageOf 49 = .ok (.aload_n 2, 1) := dk_44 (dk_at dksX0_pageOf_2 3 rfl rfl)
theorem dX0_pageOf_50 : decode cX0_pageOf 50 = .ok (.iload_n 3, 1) := dk_29 (dk_at dksX0_pageOf_2 4 rfl rfl)
theorem dX0_pageOf_51 : decode cX0_pageOf 51 = .ok (.invokevirtual 262, 3) := dk_182 1 6 (dk_at dksX0_pageOf_2 5 rfl rfl)
theorem dX0_pageOf_54 : decode cX0_pageOf 54 = .ok (.iload_n 1, 1) := dk_27 (dk_at dksX0_pageOf_2 8 rfl rfl)
theorem dX0_pageOf_55 : decode cX0_pageOf 55 = .ok (.if_icmp .ne 5, 3) := dk_160 0 5 (dk_at dksX0_pageOf_2 9 rfl rfl)
theorem dX0_pageOf_58 : decode cX0_pageOf 58 = .ok (.iload_n 3, 1) := dk_29 (dk_at dksX0_pageOf_2 12 rfl rfl)
theorem dX0_pageOf_59 : decode cX0_pageOf 59 = .ok (.ireturn, 1) := dk_172 (dk_at dksX0_pageOf_2 13 rfl rfl)
theorem dX0_pageOf_60 : decode cX0_pageOf 60 = .ok (.iinc 3 1, 3) := dk_132 3 1 (dk_at dksX0_pageOf_2 14 rfl rfl)
theorem dX0_pageOf_63 : decode cX0_pageOf 63 = .ok (.goto (-22), 3) := dk_167 255 234 (dk_at dksX0_pageOf_2 17 rfl rfl)
theorem dX0_pageOf_66 : decode cX0_pageOf 66 = .ok (.bipush (-9), 2) := dk_16 247 (dk_at dksX0_pageOf_2 20 rfl rfl)
theorem dX0_pageOf_68 : decode cX0_pageOf 68 = .ok (.ireturn, 1) := dk_172 (dk_at dksX0_pageOf_2 22 rfl rfl)
abbrev cX0_note : ByteArray := prog_1_method_38_code
def yX0_note : MethodName := ⟨RX0, "note", "(II)I"⟩
def dkwX0_note_6 : List UInt8 := [183, 1, 23, 27, 28, 182, 1, 69, 167, 0, 5, 16, 247, 172]
abbrev dktX0_note_6 : List UInt8 := dkwX0_note_6 ++ []
def dkwX0_note_5 : List UInt8 := [153, 0, 7, 4, 167, 0, 4, 3, 172, 45, 182, 0, 185, 153, 0, 22, 187, 1, 21, 89, 45, 182, 0, 253]
abbrev dktX0_note_5 : List UInt8 := dkwX0_note_5 ++ dktX0_note_6
def dkwX0_note_4 : List UInt8 := [25, 4, 182, 1, 58, 172, 25, 4, 182, 1, 61, 172, 25, 4, 182, 1, 64, 172, 25, 4, 182, 1, 66]
abbrev dktX0_note_4 : List UInt8 := dkwX0_note_4 ++ dktX0_note_5
def dkwX0_note_3 : List UInt8 := [170, 0, 0, 0, 61, 0, 0, 0, 0, 0, 0, 0, 3, 0, 0, 0, 29, 0, 0, 0, 35, 0, 0, 0, 41, 0, 0, 0, 47]
abbrev dktX0_note_3 : List UInt8 := dkwX0_note_3 ++ dktX0_note_4
def dkwX0_note_2 : List UInt8 := [192, 1, 56, 58, 4, 28]
abbrev dktX0_note_2 : List UInt8 := dkwX0_note_2 ++ dktX0_note_3
def dkwX0_note_1 : List UInt8 := [153, 0, 13, 28, 3, 16, 6, 184, 0, 30, 154, 0, 5, 2, 172, 45, 180, 0, 207, 27, 182, 1, 52]
abbrev dktX0_note_1 : List UInt8 := dkwX0_note_1 ++ dktX0_note_2
def dkwX0_note_0 : List UInt8 := [42, 180, 0, 10, 180, 0, 46, 78, 27, 3, 45, 180, 0, 207, 182, 0, 204, 4, 100, 184, 0, 30]
abbrev dktX0_note_0 : List UInt8 := dkwX0_note_0 ++ dktX0_note_1
theorem dksX0_note_0 : cX0_note.data.toList.drop 0 = dktX0_note_0 := by decide +kernel
theorem dksX0_note_1 : cX0_note.data.toList.drop 22 = dktX0_note_1 := dk_seg dksX0_note_0 22 rfl rfl
theorem dksX0_note_2 : cX0_note.data.toList.drop 45 = dktX0_note_2 := dk_seg dksX0_note_1 23 rfl rfl
theorem dksX0_note_3 : cX0_note.data.toList.drop 51 = dktX0_note_3 := dk_seg dksX0_note_2 6 rfl rfl
theorem dksX0_note_4 : cX0_note.data.toList.drop 80 = dktX0_note_4 := dk_seg dksX0_note_3 29 rfl rfl
theorem dksX0_note_5 : cX0_note.data.toList.drop 103 = dktX0_note_5 := dk_seg dksX0_note_4 23 rfl rfl
theorem dksX0_note_6 : cX0_note.data.toList.drop 127 = dktX0_note_6 := dk_seg dksX0_note_5 24 rfl rfl
theorem dX0_note_0 : decode cX0_note 0 = .ok (.aload_n 0, 1) := dk_42 (dk_at dksX0_note_0 0 rfl rfl)
theorem dX0_note_1 : decode cX0_note 1 = .ok (.getfield 10, 3) := dk_180 0 10 (dk_at dksX0_note_0 1 rfl rfl)
theorem dX0_note_4 : decode cX0_note 4 = .ok (.getfield 46, 3) := dk_180 0 46 (dk_at dksX0_note_0 4 rfl rfl)
theorem dX0_note_7 : decode cX0_note 7 = .ok (.astore_n 3, 1) := dk_78 (dk_at dksX0_note_0 7 rfl rfl)
theorem dX0_note_8 : decode cX0_note 8 = .ok (.iload_n 1, 1) := dk_27 (dk_at dksX0_note_0 8 rfl rfl)
theorem dX0_note_9 : decode cX0_note 9 = .ok (.iconst 0, 1) := dk_3 (dk_at dksX0_note_0 9 rfl rfl)
theorem dX0_note_10 : decode cX0_note 10 = .ok (.aload_n 3, 1) := dk_45 (dk_at dksX0_note_0 10 rfl rfl)
theorem dX0_note_11 : decode cX0_note 11 = .ok (.getfield 207, 3) := dk_180 0 207 (dk_at dksX0_note_0 11 rfl rfl)
theorem dX0_note_14 : decode cX0_note 14 = .ok (.invokevirtual 204, 3) := dk_182 0 204 (dk_at dksX0_note_0 14 rfl rfl)
theorem dX0_note_17 : decode cX0_note 17 = .ok (.iconst 1, 1) := dk_4 (dk_at dksX0_note_0 17 rfl rfl)
theorem dX0_note_18 : decode cX0_note 18 = .ok (.isub, 1) := dk_100 (dk_at dksX0_note_0 18 rfl rfl)
theorem dX0_note_19 : decode cX0_note 19 = .ok (.invokestatic 30, 3) := dk_184 0 30 (dk_at dksX0_note_0 19 rfl rfl)
theorem dX0_note_22 : decode cX0_note 22 = .ok (.ifCond .eq 13, 3) := dk_153 0 13 (dk_at dksX0_note_1 0 rfl rfl)
theorem dX0_note_25 : decode cX0_note 25 = .ok (.iload_n 2, 1) := dk_28 (dk_at dksX0_note_1 3 rfl rfl)
theorem dX0_note_26 : decode cX0_note 26 = .ok (.iconst 0, 1) := dk_3 (dk_at dksX0_note_1 4 rfl rfl)
theorem dX0_note_27 : decode cX0_note 27 = .ok (.bipush 6, 2) := dk_16 6 (dk_at dksX0_note_1 5 rfl rfl)
theorem dX0_note_29 : decode cX0_note 29 = .ok (.invokestatic 30, 3) := dk_184 0 30 (dk_at dksX0_note_1 7 rfl rfl)
theorem dX0_note_32 : decode cX0_note 32 = .ok (.ifCond .ne 5, 3) := dk_154 0 5 (dk_at dksX0_note_1 10 rfl rfl)
theorem dX0_note_35 : decode cX0_note 35 = .ok (.iconst (-1), 1) := dk_2 (dk_at dksX0_note_1 13 rfl rfl)
theorem dX0_note_36 : decode cX0_note 36 = .ok (.ireturn, 1) := dk_172 (dk_at dksX0_note_1 14 rfl rfl)
theorem dX0_note_37 : decode cX0_note 37 = .ok (.aload_n 3, 1) := dk_45 (dk_at dksX0_note_1 15 rfl rfl)
theorem dX0_note_38 : decode cX0_note 38 = .ok (.getfield 207, 3) := dk_180 0 207 (dk_at dksX0_note_1 16 rfl rfl)
theorem dX0_note_41 : decode cX0_note 41 = .ok (.iload_n 1, 1) := dk_27 (dk_at dksX0_note_1 19 rfl rfl)
theorem dX0_note_42 : decode cX0_note 42 = .ok (.invokevirtual 308, 3) := dk_182 1 52 (dk_at dksX0_note_1 20 rfl rfl)
theorem dX0_note_45 : decode cX0_note 45 = .ok (.checkcast 312, 3) := dk_192 1 56 (dk_at dksX0_note_2 0 rfl rfl)
theorem dX0_note_48 : decode cX0_note 48 = .ok (.astore 4, 2) := dk_58 4 (dk_at dksX0_note_2 3 rfl rfl)
theorem dX0_note_50 : decode cX0_note 50 = .ok (.iload_n 2, 1) := dk_28 (dk_at dksX0_note_2 5 rfl rfl)
theorem dX0_note_51 : decode cX0_note 51 = .ok (.tableswitch 61 0 3 #[29, 35, 41, 47], 29) := by decide +kernel
theorem dX0_note_80 : decode cX0_note 80 = .ok (.aload 4, 2) := dk_25 4 (dk_at dksX0_note_4 0 rfl rfl)
theorem dX0_note_82 : decode cX0_note 82 = .ok (.invokevirtual 314, 3) := dk_182 1 58 (dk_at dksX0_note_4 2 rfl rfl)
theorem dX0_note_85 : decode cX0_note 85 = .ok (.ireturn, 1) := dk_172 (dk_at dksX0_note_4 5 rfl rfl)
theorem dX0_note_86 : decode cX0_note 86 = .ok (.aload 4, 2) := dk_25 4 (dk_at dksX0_note_4 6 rfl rfl)
theorem dX0_note_88 : decode cX0_note 88 = .ok (.invokevirtual 317, 3) := dk_182 1 61 (dk_at dksX0_note_4 8 rfl rfl)
theorem dX0_note_91 : decode cX0_note 91 = .ok (.ireturn, 1) := dk_172 (dk_at dksX0_note_4 11 rfl rfl)
theorem dX0_note_92 : decode cX0_note 92 = .ok (.aload 4, 2) := dk_25 4 (dk_at dksX0_note_4 12 rfl rfl)
theorem dX0_note_94 : decode cX0_note 94 = .ok (.invokevirtual 320, 3) := dk_182 1 64 (dk_at dksX0_note_4 14 rfl rfl)
theorem dX0_note_97 : decode cX0_note 97 = .ok (.ireturn, 1) := dk_172 (dk_at dksX0_note_4 17 rfl rfl)
theorem dX0_note_98 : decode cX0_note 98 = .ok (.aload 4, 2) := dk_25 4 (dk_at dksX0_note_4 18 rfl rfl)
theorem dX0_note_100 : decode cX0_note 100 = .ok (.invokevirtual 322, 3) := dk_182 1 66 (dk_at dksX0_note_4 20 rfl rfl)
theorem dX0_note_103 : decode cX0_note 103 = .ok (.ifCond .eq 7, 3) := dk_153 0 7 (dk_at dksX0_note_5 0 rfl rfl)
theorem dX0_note_106 : decode cX0_note 106 = .ok (.iconst 1, 1) := dk_4 (dk_at dksX0_note_5 3 rfl rfl)
theorem dX0_note_107 : decode cX0_note 107 = .ok (.goto 4, 3) := dk_167 0 4 (dk_at dksX0_note_5 4 rfl rfl)
theorem dX0_note_110 : decode cX0_note 110 = .ok (.iconst 0, 1) := dk_3 (dk_at dksX0_note_5 7 rfl rfl)
theorem dX0_note_111 : decode cX0_note 111 = .ok (.ireturn, 1) := dk_172 (dk_at dksX0_note_5 8 rfl rfl)
theorem dX0_note_112 : decode cX0_note 112 = .ok (.aload_n 3, 1) := dk_45 (dk_at dksX0_note_5 9 rfl rfl)
theorem dX0_note_113 : decode cX0_note 113 = .ok (.invokevirtual 185, 3) := dk_182 0 185 (dk_at dksX0_note_5 10 rfl rfl)
theorem dX0_note_116 : decode cX0_note 116 = .ok (.ifCond .eq 22, 3) := dk_153 0 22 (dk_at dksX0_note_5 13 rfl rfl)
theorem dX0_note_119 : decode cX0_note 119 = .ok (.new 277, 3) := dk_187 1 21 (dk_at dksX0_note_5 16 rfl rfl)
theorem dX0_note_122 : decode cX0_note 122 = .ok (.dup, 1) := dk_89 (dk_at dksX0_note_5 19 rfl rfl)
theorem dX0_note_123 : decode cX0_note 123 = .ok (.aload_n 3, 1) := dk_45 (dk_at dksX0_note_5 20 rfl rfl)
theorem dX0_note_124 : decode cX0_note 124 = .ok (.invokevirtual 253, 3) := dk_182 0 253 (dk_at dksX0_note_5 21 rfl rfl)
theorem dX0_note_127 : decode cX0_note 127 = .ok (.invokespecial 279, 3) := dk_183 1 23 (dk_at dksX0_note_6 0 rfl rfl)
theorem dX0_note_130 : decode cX0_note 130 = .ok (.iload_n 1, 1) := dk_27 (dk_at dksX0_note_6 3 rfl rfl)
theorem dX0_note_131 : decode cX0_note 131 = .ok (.iload_n 2, 1) := dk_28 (dk_at dksX0_note_6 4 rfl rfl)
theorem dX0_note_132 : decode cX0_note 132 = .ok (.invokevirtual 325, 3) := dk_182 1 69 (dk_at dksX0_note_6 5 rfl rfl)
theorem dX0_note_135 : decode cX0_note 135 = .ok (.goto 5, 3) := dk_167 0 5 (dk_at dksX0_note_6 8 rfl rfl)
theorem dX0_note_138 : decode cX0_note 138 = .ok (.bipush (-9), 2) := dk_16 247 (dk_at dksX0_note_6 11 rfl rfl)
theorem dX0_note_140 : decode cX0_note 140 = .ok (.ireturn, 1) := dk_172 (dk_at dksX0_note_6 13 rfl rfl)
abbrev cX0_index : ByteArray := prog_1_method_39_code
def yX0_index : MethodName := ⟨RX0, "index", "(II)I"⟩
def dkwX0_index_5 : List UInt8 := [172, 132, 4, 1, 167, 255, 203, 16, 247, 172]
abbrev dktX0_index_5 : List UInt8 := dkwX0_index_5 ++ []
def dkwX0_index_4 : List UInt8 := [160, 0, 25, 28, 154, 0, 8, 25, 6, 167, 0, 12, 45, 25, 6, 182, 1, 95, 192, 0, 195, 182, 1, 98]
abbrev dktX0_index_4 : List UInt8 := dkwX0_index_4 ++ dktX0_index_5
def dkwX0_index_3 : List UInt8 := [185, 1, 87, 1, 0, 153, 0, 49, 25, 5, 185, 1, 92, 1, 0, 192, 0, 195, 58, 6, 21, 4, 27]
abbrev dktX0_index_3 : List UInt8 := dkwX0_index_3 ++ dktX0_index_4
def dkwX0_index_2 : List UInt8 := [180, 1, 71, 78, 3, 54, 4, 45, 182, 1, 75, 185, 1, 81, 1, 0, 58, 5, 25, 5]
abbrev dktX0_index_2 : List UInt8 := dkwX0_index_2 ++ dktX0_index_3
def dkwX0_index_1 : List UInt8 := [154, 0, 5, 2, 172, 187, 1, 21, 89, 42, 180, 0, 10, 180, 0, 46, 182, 0, 253, 183, 1, 23]
abbrev dktX0_index_1 : List UInt8 := dkwX0_index_1 ++ dktX0_index_2
def dkwX0_index_0 : List UInt8 := [42, 180, 0, 10, 180, 0, 46, 182, 0, 185, 154, 0, 6, 16, 254, 172, 27, 155, 0, 10, 28, 184, 0, 126]
abbrev dktX0_index_0 : List UInt8 := dkwX0_index_0 ++ dktX0_index_1
theorem dksX0_index_0 : cX0_index.data.toList.drop 0 = dktX0_index_0 := by decide +kernel
theorem dksX0_index_1 : cX0_index.data.toList.drop 24 = dktX0_index_1 := dk_seg dksX0_index_0 24 rfl rfl
theorem dksX0_index_2 : cX0_index.data.toList.drop 46 = dktX0_index_2 := dk_seg dksX0_index_1 22 rfl rfl
theorem dksX0_index_3 : cX0_index.data.toList.drop 66 = dktX0_index_3 := dk_seg dksX0_index_2 20 rfl rfl
theorem dksX0_index_4 : cX0_index.data.toList.drop 89 = dktX0_index_4 := dk_seg dksX0_index_3 23 rfl rfl
theorem dksX0_index_5 : cX0_index.data.toList.drop 113 = dktX0_index_5 := dk_seg dksX0_index_4 24 rfl rfl
theorem dX0_index_0 : decode cX0_index 0 = .ok (.aload_n 0, 1) := dk_42 (dk_at dksX0_index_0 0 rfl rfl)
theorem dX0_index_1 : decode cX0_index 1 = .ok (.getfield 10, 3) := dk_180 0 10 (dk_at dksX0_index_0 1 rfl rfl)
theorem dX0_index_4 : decode cX0_index 4 = .ok (.getfield 46, 3) := dk_180 0 46 (dk_at dksX0_index_0 4 rfl rfl)
theorem dX0_index_7 : decode cX0_index 7 = .ok (.invokevirtual 185, 3) := dk_182 0 185 (dk_at dksX0_index_0 7 rfl rfl)
theorem dX0_index_10 : decode cX0_index 10 = .ok (.ifCond .ne 6, 3) := dk_154 0 6 (dk_at dksX0_index_0 10 rfl rfl)
theorem dX0_index_13 : decode cX0_index 13 = .ok (.bipush (-2), 2) := dk_16 254 (dk_at dksX0_index_0 13 rfl rfl)
theorem dX0_index_15 : decode cX0_index 15 = .ok (.ireturn, 1) := dk_172 (dk_at dksX0_index_0 15 rfl rfl)
theorem dX0_index_16 : decode cX0_index 16 = .ok (.iload_n 1, 1) := dk_27 (dk_at dksX0_index_0 16 rfl rfl)
theorem dX0_index_17 : decode cX0_index 17 = .ok (.ifCond .lt 10, 3) := dk_155 0 10 (dk_at dksX0_index_0 17 rfl rfl)
theorem dX0_index_20 : decode cX0_index 20 = .ok (.iload_n 2, 1) := dk_28 (dk_at dksX0_index_0 20 rfl rfl)
theorem dX0_index_21 : decode cX0_index 21 = .ok (.invokestatic 126, 3) := dk_184 0 126 (dk_at dksX0_index_0 21 rfl rfl)
theorem dX0_index_24 : decode cX0_index 24 = .ok (.ifCond .ne 5, 3) := dk_154 0 5 (dk_at dksX0_index_1 0 rfl rfl)
theorem dX0_index_27 : decode cX0_index 27 = .ok (.iconst (-1), 1) := dk_2 (dk_at dksX0_index_1 3 rfl rfl)
theorem dX0_index_28 : decode cX0_index 28 = .ok (.ireturn, 1) := dk_172 (dk_at dksX0_index_1 4 rfl rfl)
theorem dX0_index_29 : decode cX0_index 29 = .ok (.new 277, 3) := dk_187 1 21 (dk_at dksX0_index_1 5 rfl rfl)
theorem dX0_index_32 : decode cX0_index 32 = .ok (.dup, 1) := dk_89 (dk_at dksX0_index_1 8 rfl rfl)
theorem dX0_index_33 : decode cX0_index 33 = .ok (.aload_n 0, 1) := dk_42 (dk_at dksX0_index_1 9 rfl rfl)
theorem dX0_index_34 : decode cX0_index 34 = .ok (.getfield 10, 3) := dk_180 0 10 (dk_at dksX0_index_1 10 rfl rfl)
theorem dX0_index_37 : decode cX0_index 37 = .ok (.getfield 46, 3) := dk_180 0 46 (dk_at dksX0_index_1 13 rfl rfl)
theorem dX0_index_40 : decode cX0_index 40 = .ok (.invokevirtual 253, 3) := dk_182 0 253 (dk_at dksX0_index_1 16 rfl rfl)
theorem dX0_index_43 : decode cX0_index 43 = .ok (.invokespecial 279, 3) := dk_183 1 23 (dk_at dksX0_index_1 19 rfl rfl)
theorem dX0_index_46 : decode cX0_index 46 = .ok (.getfield 327, 3) := dk_180 1 71 (dk_at dksX0_index_2 0 rfl rfl)
theorem dX0_index_49 : decode cX0_index 49 = .ok (.astore_n 3, 1) := dk_78 (dk_at dksX0_index_2 3 rfl rfl)
theorem dX0_index_50 : decode cX0_index 50 = .ok (.iconst 0, 1) := dk_3 (dk_at dksX0_index_2 4 rfl rfl)
theorem dX0_index_51 : decode cX0_index 51 = .ok (.istore 4, 2) := dk_54 4 (dk_at dksX0_index_2 5 rfl rfl)
theorem dX0_index_53 : decode cX0_index 53 = .ok (.aload_n 3, 1) := dk_45 (dk_at dksX0_index_2 7 rfl rfl)
theorem dX0_index_54 : decode cX0_index 54 = .ok (.invokevirtual 331, 3) := dk_182 1 75 (dk_at dksX0_index_2 8 rfl rfl)
theorem dX0_index_57 : decode cX0_index 57 = .ok (.invokeinterface 337 1, 5) := by decide +kernel
theorem dX0_index_62 : decode cX0_index 62 = .ok (.astore 5, 2) := dk_58 5 (dk_at dksX0_index_2 16 rfl rfl)
theorem dX0_index_64 : decode cX0_index 64 = .ok (.aload 5, 2) := dk_25 5 (dk_at dksX0_index_2 18 rfl rfl)
theorem dX0_index_66 : decode cX0_index 66 = .ok (.invokeinterface 343 1, 5) := by decide +kernel
theorem dX0_index_71 : decode cX0_index 71 = .ok (.ifCond .eq 49, 3) := dk_153 0 49 (dk_at dksX0_index_3 5 rfl rfl)
theorem dX0_index_74 : decode cX0_index 74 = .ok (.aload 5, 2) := dk_25 5 (dk_at dksX0_index_3 8 rfl rfl)
theorem dX0_index_76 : decode cX0_index 76 = .ok (.invokeinterface 348 1, 5) := by decide +kernel
theorem dX0_index_81 : decode cX0_index 81 = .ok (.checkcast 195, 3) := dk_192 0 195 (dk_at dksX0_index_3 15 rfl rfl)
theorem dX0_index_84 : decode cX0_index 84 = .ok (.astore 6, 2) := dk_58 6 (dk_at dksX0_index_3 18 rfl rfl)
theorem dX0_index_86 : decode cX0_index 86 = .ok (.iload 4, 2) := dk_21 4 (dk_at dksX0_index_3 20 rfl rfl)
theorem dX0_index_88 : decode cX0_index 88 = .ok (.iload_n 1, 1) := dk_27 (dk_at dksX0_index_3 22 rfl rfl)
theorem dX0_index_89 : decode cX0_index 89 = .ok (.if_icmp .ne 25, 3) := dk_160 0 25 (dk_at dksX0_index_4 0 rfl rfl)
theorem dX0_index_92 : decode cX0_index 92 = .ok (.iload_n 2, 1) := dk_28 (dk_at dksX0_index_4 3 rfl rfl)
theorem dX0_index_93 : decode cX0_index 93 = .ok (.ifCond .ne 8, 3) := dk_154 0 8 (dk_at dksX0_index_4 4 rfl rfl)
theorem dX0_index_96 : decode cX0_index 96 = .ok (.aload 6, 2) := dk_25 6 (dk_at dksX0_index_4 7 rfl rfl)
theorem dX0_index_98 : decode cX0_index 98 = .ok (.goto 12, 3) := dk_167 0 12 (dk_at dksX0_index_4 9 rfl rfl)
theorem dX0_index_101 : decode cX0_index 101 = .ok (.aload_n 3, 1) := dk_45 (dk_at dksX0_index_4 12 rfl rfl)
theorem dX0_index_102 : decode cX0_index 102 = .ok (.aload 6, 2) := dk_25 6 (dk_at dksX0_index_4 13 rfl rfl)
theorem dX0_index_104 : decode cX0_index 104 = .ok (.invokevirtual 351, 3) := dk_182 1 95 (dk_at dksX0_index_4 15 rfl rfl)
theorem dX0_index_107 : decode cX0_index 107 = .ok (.checkcast 195, 3) := dk_192 0 195 (dk_at dksX0_index_4 18 rfl rfl)
theorem dX0_index_110 : decode cX0_index 110 = .ok (.invokevirtual 354, 3) := dk_182 1 98 (dk_at dksX0_index_4 21 rfl rfl)
theorem dX0_index_113 : decode cX0_index 113 = .ok (.ireturn, 1) := dk_172 (dk_at dksX0_index_5 0 rfl rfl)
theorem dX0_index_114 : decode cX0_index 114 = .ok (.iinc 4 1, 3) := dk_132 4 1 (dk_at dksX0_index_5 1 rfl rfl)
theorem dX0_index_117 : decode cX0_index 117 = .ok (.goto (-53), 3) := dk_167 255 203 (dk_at dksX0_index_5 4 rfl rfl)
theorem dX0_index_120 : decode cX0_index 120 = .ok (.bipush (-9), 2) := dk_16 247 (dk_at dksX0_index_5 7 rfl rfl)
theorem dX0_index_122 : decode cX0_index 122 = .ok (.ireturn, 1) := dk_172 (dk_at dksX0_index_5 9 rfl rfl)
abbrev cX0_effort : ByteArray := prog_1_method_40_code
def yX0_effort : MethodName := ⟨RX0, "effort", "(I)I"⟩
def dkwX0_effort_2 : List UInt8 := [96, 61, 132, 3, 1, 167, 255, 219, 28, 172]
abbrev dktX0_effort_2 : List UInt8 := dkwX0_effort_2 ++ []
def dkwX0_effort_1 : List UInt8 := [159, 0, 8, 27, 29, 160, 0, 18, 42, 180, 0, 10, 180, 0, 46, 180, 1, 101, 29, 46, 167, 0, 4, 3]
abbrev dktX0_effort_1 : List UInt8 := dkwX0_effort_1 ++ dktX0_effort_2
def dkwX0_effort_0 : List UInt8 := [27, 3, 7, 184, 0, 30, 154, 0, 5, 2, 172, 3, 61, 3, 62, 29, 7, 162, 0, 38, 28, 27, 7]
abbrev dktX0_effort_0 : List UInt8 := dkwX0_effort_0 ++ dktX0_effort_1
theorem dksX0_effort_0 : cX0_effort.data.toList.drop 0 = dktX0_effort_0 := by decide +kernel
theorem dksX0_effort_1 : cX0_effort.data.toList.drop 23 = dktX0_effort_1 := dk_seg dksX0_effort_0 23 rfl rfl
theorem dksX0_effort_2 : cX0_effort.data.toList.drop 47 = dktX0_effort_2 := dk_seg dksX0_effort_1 24 rfl rfl
theorem dX0_effort_0 : decode cX0_effort 0 = .ok (.iload_n 1, 1) := dk_27 (dk_at dksX0_effort_0 0 rfl rfl)
theorem dX0_effort_1 : decode cX0_effort 1 = .ok (.iconst 0, 1) := dk_3 (dk_at dksX0_effort_0 1 rfl rfl)
theorem dX0_effort_2 : decode cX0_effort 2 = .ok (.iconst 4, 1) := dk_7 (dk_at dksX0_effort_0 2 rfl rfl)
theorem dX0_effort_3 : decode cX0_effort 3 = .ok (.invokestatic 30, 3) := dk_184 0 30 (dk_at dksX0_effort_0 3 rfl rfl)
theorem dX0_effort_6 : decode cX0_effort 6 = .ok (.ifCond .ne 5, 3) := dk_154 0 5 (dk_at dksX0_effort_0 6 rfl rfl)
theorem dX0_effort_9 : decode cX0_effort 9 = .ok (.iconst (-1), 1) := dk_2 (dk_at dksX0_effort_0 9 rfl rfl)
theorem dX0_effort_10 : decode cX0_effort 10 = .ok (.ireturn, 1) := dk_172 (dk_at dksX0_effort_0 10 rfl rfl)
theorem dX0_effort_11 : decode cX0_effort 11 = .ok (.iconst 0, 1) := dk_3 (dk_at dksX0_effort_0 11 rfl rfl)
theorem dX0_effort_12 : decode cX0_effort 12 = .ok (.istore_n 2, 1) := dk_61 (dk_at dksX0_effort_0 12 rfl rfl)
theorem dX0_effort_13 : decode cX0_effort 13 = .ok (.iconst 0, 1) := dk_3 (dk_at dksX0_effort_0 13 rfl rfl)
theorem dX0_effort_14 : decode cX0_effort 14 = .ok (.istore_n 3, 1) := dk_62 (dk_at dksX0_effort_0 14 rfl rfl)
theorem dX0_effort_15 : decode cX0_effort 15 = .ok (.iload_n 3, 1) := dk_29 (dk_at dksX0_effort_0 15 rfl rfl)
theorem dX0_effort_16 : decode cX0_effort 16 = .ok (.iconst 4, 1) := dk_7 (dk_at dksX0_effort_0 16 rfl rfl)
theorem dX0_effort_17 : decode cX0_effort 17 = .ok (.if_icmp .ge 38, 3) := dk_162 0 38 (dk_at dksX0_effort_0 17 rfl rfl)
theorem dX0_effort_20 : decode cX0_effort 20 = .ok (.iload_n 2, 1) := dk_28 (dk_at dksX0_effort_0 20 rfl rfl)
theorem dX0_effort_21 : decode cX0_effort 21 = .ok (.iload_n 1, 1) := dk_27 (dk_at dksX0_effort_0 21 rfl rfl)
theorem dX0_effort_22 : decode cX0_effort 22 = .ok (.iconst 4, 1) := dk_7 (dk_at dksX0_effort_0 22 rfl rfl)
theorem dX0_effort_23 : decode cX0_effort 23 = .ok (.if_icmp .eq 8, 3) := dk_159 0 8 (dk_at dksX0_effort_1 0 rfl rfl)
theorem dX0_effort_26 : decode cX0_effort 26 = .ok (.iload_n 1, 1) := dk_27 (dk_at dksX0_effort_1 3 rfl rfl)
theorem dX0_effort_27 : decode cX0_effort 27 = .ok (.iload_n 3, 1) := dk_29 (dk_at dksX0_effort_1 4 rfl rfl)
theorem dX0_effort_28 : decode cX0_effort 28 = .ok (.if_icmp .ne 18, 3) := dk_160 0 18 (dk_at dksX0_effort_1 5 rfl rfl)
theorem dX0_effort_31 : decode cX0_effort 31 = .ok (.aload_n 0, 1) := dk_42 (dk_at dksX0_effort_1 8 rfl rfl)
theorem dX0_effort_32 : decode cX0_effort 32 = .ok (.getfield 10, 3) := dk_180 0 10 (dk_at dksX0_effort_1 9 rfl rfl)
theorem dX0_effort_35 : decode cX0_effort 35 = .ok (.getfield 46, 3) := dk_180 0 46 (dk_at dksX0_effort_1 12 rfl rfl)
theorem dX0_effort_38 : decode cX0_effort 38 = .ok (.getfield 357, 3) := dk_180 1 101 (dk_at dksX0_effort_1 15 rfl rfl)
theorem dX0_effort_41 : decode cX0_effort 41 = .ok (.iload_n 3, 1) := dk_29 (dk_at dksX0_effort_1 18 rfl rfl)
theorem dX0_effort_42 : decode cX0_effort 42 = .ok (.iaload, 1) := dk_46 (dk_at dksX0_effort_1 19 rfl rfl)
theorem dX0_effort_43 : decode cX0_effort 43 = .ok (.goto 4, 3) := dk_167 0 4 (dk_at dksX0_effort_1 20 rfl rfl)
theorem dX0_effort_46 : decode cX0_effort 46 = .ok (.iconst 0, 1) := dk_3 (dk_at dksX0_effort_1 23 rfl rfl)
theorem dX0_effort_47 : decode cX0_effort 47 = .ok (.iadd, 1) := dk_96 (dk_at dksX0_effort_2 0 rfl rfl)
theorem dX0_effort_48 : decode cX0_effort 48 = .ok (.istore_n 2, 1) := dk_61 (dk_at dksX0_effort_2 1 rfl rfl)
theorem dX0_effort_49 : decode cX0_effort 49 = .ok (.iinc 3 1, 3) := dk_132 3 1 (dk_at dksX0_effort_2 2 rfl rfl)
theorem dX0_effort_52 : decode cX0_effort 52 = .ok (.goto (-37), 3) := dk_167 255 219 (dk_at dksX0_effort_2 5 rfl rfl)
theorem dX0_effort_55 : decode cX0_effort 55 = .ok (.iload_n 2, 1) := dk_28 (dk_at dksX0_effort_2 8 rfl rfl)
theorem dX0_effort_56 : decode cX0_effort 56 = .ok (.ireturn, 1) := dk_172 (dk_at dksX0_effort_2 9 rfl rfl)
abbrev cX0_fitting : ByteArray := prog_1_method_43_code
def yX0_fitting : MethodName := ⟨RX0, "fitting", "(I)I"⟩
def dkwX0_fitting_5 : List UInt8 := [29, 167, 0, 15, 27, 4, 160, 0, 8, 21, 4, 167, 0, 5, 21, 5, 172]
abbrev dktX0_fitting_5 : List UInt8 := dkwX0_fitting_5 ++ []
def dkwX0_fitting_4 : List UInt8 := [167, 0, 5, 21, 4, 54, 4, 25, 7, 182, 1, 98, 54, 5, 132, 3, 1, 167, 255, 185, 27, 154, 0, 7]
abbrev dktX0_fitting_4 : List UInt8 := dkwX0_fitting_4 ++ dktX0_fitting_5
def dkwX0_fitting_3 : List UInt8 := [182, 1, 98, 182, 1, 125, 183, 1, 129, 182, 1, 132, 153, 0, 29, 29, 154, 0, 11, 25, 7, 182, 1, 98]
abbrev dktX0_fitting_3 : List UInt8 := dkwX0_fitting_3 ++ dktX0_fitting_4
def dkwX0_fitting_2 : List UInt8 := [153, 0, 67, 25, 6, 185, 1, 92, 1, 0, 192, 0, 195, 58, 7, 187, 1, 2, 89, 44, 44, 25, 7]
abbrev dktX0_fitting_2 : List UInt8 := dkwX0_fitting_2 ++ dktX0_fitting_3
def dkwX0_fitting_1 : List UInt8 := [54, 4, 16, 247, 54, 5, 44, 184, 1, 120, 182, 1, 124, 58, 6, 25, 6, 185, 1, 87, 1, 0]
abbrev dktX0_fitting_1 : List UInt8 := dkwX0_fitting_1 ++ dktX0_fitting_2
def dkwX0_fitting_0 : List UInt8 := [27, 3, 5, 184, 0, 30, 154, 0, 5, 2, 172, 42, 180, 0, 10, 180, 0, 46, 77, 3, 62, 16, 247]
abbrev dktX0_fitting_0 : List UInt8 := dkwX0_fitting_0 ++ dktX0_fitting_1
theorem dksX0_fitting_0 : cX0_fitting.data.toList.drop 0 = dktX0_fitting_0 := by decide +kernel
theorem dksX0_fitting_1 : cX0_fitting.data.toList.drop 23 = dktX0_fitting_1 := dk_seg dksX0_fitting_0 23 rfl rfl
theorem dksX0_fitting_2 : cX0_fitting.data.toList.drop 45 = dktX0_fitting_2 := dk_seg dksX0_fitting_1 22 rfl rfl
theorem dksX0_fitting_3 : cX0_fitting.data.toList.drop 68 = dktX0_fitting_3 := dk_seg dksX0_fitting_2 23 rfl rfl
theorem dksX0_fitting_4 : cX0_fitting.data.toList.drop 92 = dktX0_fitting_4 := dk_seg dksX0_fitting_3 24 rfl rfl
theorem dksX0_fitting_5 : cX0_fitting.data.toList.drop 116 = dktX0_fitting_5 := dk_seg dksX0_fitting_4 24 rfl rfl
theorem dX0_fitting_0 : decode cX0_fitting 0 = .ok (.iload_n 1, 1) := dk_27 (dk_at dksX0_fitting_0 0 rfl rfl)
theorem dX0_fitting_1 : decode cX0_fitting 1 = .ok (.iconst 0, 1) := dk_3 (dk_at dksX0_fitting_0 1 rfl rfl)
theorem dX0_fitting_2 : decode cX0_fitting 2 = .ok (.iconst 2, 1) := dk_5 (dk_at dksX0_fitting_0 2 rfl rfl)
theorem dX0_fitting_3 : decode cX0_fitting 3 = .ok (.invokestatic 30, 3) := dk_184 0 30 (dk_at dksX0_fitting_0 3 rfl rfl)
theorem dX0_fitting_6 : decode cX0_fitting 6 = .ok (.ifCond .ne 5, 3) := dk_154 0 5 (dk_at dksX0_fitting_0 6 rfl rfl)
theorem dX0_fitting_9 : decode cX0_fitting 9 = .ok (.iconst (-1), 1) := dk_2 (dk_at dksX0_fitting_0 9 rfl rfl)
theorem dX0_fitting_10 : decode cX0_fitting 10 = .ok (.ireturn, 1) := dk_172 (dk_at dksX0_fitting_0 10 rfl rfl)
theorem dX0_fitting_11 : decode cX0_fitting 11 = .ok (.aload_n 0, 1) := dk_42 (dk_at dksX0_fitting_0 11 rfl rfl)
theorem dX0_fitting_12 : decode cX0_fitting 12 = .ok (.getfield 10, 3) := dk_180 0 10 (dk_at dksX0_fitting_0 12 rfl rfl)
theorem dX0_fitting_15 : decode cX0_fitting 15 = .ok (.getfield 46, 3) := dk_180 0 46 (dk_at dksX0_fitting_0 15 rfl rfl)
theorem dX0_fitting_18 : decode cX0_fitting 18 = .ok (.astore_n 2, 1) := dk_77 (dk_at dksX0_fitting_0 18 rfl rfl)
theorem dX0_fitting_19 : decode cX0_fitting 19 = .ok (.iconst 0, 1) := dk_3 (dk_at dksX0_fitting_0 19 rfl rfl)
theorem dX0_fitting_20 : decode cX0_fitting 20 = .ok (.istore_n 3, 1) := dk_62 (dk_at dksX0_fitting_0 20 rfl rfl)
theorem dX0_fitting_21 : decode cX0_fitting 21 = .ok (.bipush (-9), 2) := dk_16 247 (dk_at dksX0_fitting_0 21 rfl rfl)
theorem dX0_fitting_23 : decode cX0_fitting 23 = .ok (.istore 4, 2) := dk_54 4 (dk_at dksX0_fitting_1 0 rfl rfl)
theorem dX0_fitting_25 : decode cX0_fitting 25 = .ok (.bipush (-9), 2) := dk_16 247 (dk_at dksX0_fitting_1 2 rfl rfl)
theorem dX0_fitting_27 : decode cX0_fitting 27 = .ok (.istore 5, 2) := dk_54 5 (dk_at dksX0_fitting_1 4 rfl rfl)
theorem dX0_fitting_29 : decode cX0_fitting 29 = .ok (.aload_n 2, 1) := dk_44 (dk_at dksX0_fitting_1 6 rfl rfl)
theorem dX0_fitting_30 : decode cX0_fitting 30 = .ok (.invokestatic 376, 3) := dk_184 1 120 (dk_at dksX0_fitting_1 7 rfl rfl)
theorem dX0_fitting_33 : decode cX0_fitting 33 = .ok (.invokevirtual 380, 3) := dk_182 1 124 (dk_at dksX0_fitting_1 10 rfl rfl)
theorem dX0_fitting_36 : decode cX0_fitting 36 = .ok (.astore 6, 2) := dk_58 6 (dk_at dksX0_fitting_1 13 rfl rfl)
theorem dX0_fitting_38 : decode cX0_fitting 38 = .ok (.aload 6, 2) := dk_25 6 (dk_at dksX0_fitting_1 15 rfl rfl)
theorem dX0_fitting_40 : decode cX0_fitting 40 = .ok (.invokeinterface 343 1, 5) := by decide +kernel
theorem dX0_fitting_45 : decode cX0_fitting 45 = .ok (.ifCond .eq 67, 3) := dk_153 0 67 (dk_at dksX0_fitting_2 0 rfl rfl)
theorem dX0_fitting_48 : decode cX0_fitting 48 = .ok (.aload 6, 2) := dk_25 6 (dk_at dksX0_fitting_2 3 rfl rfl)
theorem dX0_fitting_50 : decode cX0_fitting 50 = .ok (.invokeinterface 348 1, 5) := by decide +kernel
theorem dX0_fitting_55 : decode cX0_fitting 55 = .ok (.checkcast 195, 3) := dk_192 0 195 (dk_at dksX0_fitting_2 10 rfl rfl)
theorem dX0_fitting_58 : decode cX0_fitting 58 = .ok (.astore 7, 2) := dk_58 7 (dk_at dksX0_fitting_2 13 rfl rfl)
theorem dX0_fitting_60 : decode cX0_fitting 60 = .ok (.new 258, 3) := dk_187 1 2 (dk_at dksX0_fitting_2 15 rfl rfl)
theorem dX0_fitting_63 : decode cX0_fitting 63 = .ok (.dup, 1) := dk_89 (dk_at dksX0_fitting_2 18 rfl rfl)
theorem dX0_fitting_64 : decode cX0_fitting 64 = .ok (.aload_n 2, 1) := dk_44 (dk_at dksX0_fitting_2 19 rfl rfl)
theorem dX0_fitting_65 : decode cX0_fitting 65 = .ok (.aload_n 2, 1) := dk_44 (dk_at dksX0_fitting_2 20 rfl rfl)
theorem dX0_fitting_66 : decode cX0_fitting 66 = .ok (.aload 7, 2) := dk_25 7 (dk_at dksX0_fitting_2 21 rfl rfl)
theorem dX0_fitting_68 : decode cX0_fitting 68 = .ok (.invokevirtual 354, 3) := dk_182 1 98 (dk_at dksX0_fitting_3 0 rfl rfl)
theorem dX0_fitting_71 : decode cX0_fitting 71 = .ok (.invokevirtual 381, 3) := dk_182 1 125 (dk_at dksX0_fitting_3 3 rfl rfl)
theorem dX0_fitting_74 : decode cX0_fitting 74 = .ok (.invokespecial 385, 3) := dk_183 1 129 (dk_at dksX0_fitting_3 6 rfl rfl)
theorem dX0_fitting_77 : decode cX0_fitting 77 = .ok (.invokevirtual 388, 3) := dk_182 1 132 (dk_at dksX0_fitting_3 9 rfl rfl)
theorem dX0_fitting_80 : decode cX0_fitting 80 = .ok (.ifCond .eq 29, 3) := dk_153 0 29 (dk_at dksX0_fitting_3 12 rfl rfl)
theorem dX0_fitting_83 : decode cX0_fitting 83 = .ok (.iload_n 3, 1) := dk_29 (dk_at dksX0_fitting_3 15 rfl rfl)
theorem dX0_fitting_84 : decode cX0_fitting 84 = .ok (.ifCond .ne 11, 3) := dk_154 0 11 (dk_at dksX0_fitting_3 16 rfl rfl)
theorem dX0_fitting_87 : decode cX0_fitting 87 = .ok (.aload 7, 2) := dk_25 7 (dk_at dksX0_fitting_3 19 rfl rfl)
theorem dX0_fitting_89 : decode cX0_fitting 89 = .ok (.invokevirtual 354, 3) := dk_182 1 98 (dk_at dksX0_fitting_3 21 rfl rfl)
theorem dX0_fitting_92 : decode cX0_fitting 92 = .ok (.goto 5, 3) := dk_167 0 5 (dk_at dksX0_fitting_4 0 rfl rfl)
theorem dX0_fitting_95 : decode cX0_fitting 95 = .ok (.iload 4, 2) := dk_21 4 (dk_at dksX0_fitting_4 3 rfl rfl)
theorem dX0_fitting_97 : decode cX0_fitting 97 = .ok (.istore 4, 2) := dk_54 4 (dk_at dksX0_fitting_4 5 rfl rfl)
theorem dX0_fitting_99 : decode cX0_fitting 99 = .ok (.aload 7, 2) := dk_25 7 (dk_at dksX0_fitting_4 7 rfl rfl)
theorem dX0_fitting_101 : decode cX0_fitting 101 = .ok (.invokevirtual 354, 3) := dk_182 1 98 (dk_at dksX0_fitting_4 9 rfl rfl)
theorem dX0_fitting_104 : decode cX0_fitting 104 = .ok (.istore 5, 2) := dk_54 5 (dk_at dksX0_fitting_4 12 rfl rfl)
theorem dX0_fitting_106 : decode cX0_fitting 106 = .ok (.iinc 3 1, 3) := dk_132 3 1 (dk_at dksX0_fitting_4 14 rfl rfl)
theorem dX0_fitting_109 : decode cX0_fitting 109 = .ok (.goto (-71), 3) := dk_167 255 185 (dk_at dksX0_fitting_4 17 rfl rfl)
theorem dX0_fitting_112 : decode cX0_fitting 112 = .ok (.iload_n 1, 1) := dk_27 (dk_at dksX0_fitting_4 20 rfl rfl)
theorem dX0_fitting_113 : decode cX0_fitting 113 = .ok (.ifCond .ne 7, 3) := dk_154 0 7 (dk_at dksX0_fitting_4 21 rfl rfl)
theorem dX0_fitting_116 : decode cX0_fitting 116 = .ok (.iload_n 3, 1) := dk_29 (dk_at dksX0_fitting_5 0 rfl rfl)
theorem dX0_fitting_117 : decode cX0_fitting 117 = .ok (.goto 15, 3) := dk_167 0 15 (dk_at dksX0_fitting_5 1 rfl rfl)
theorem dX0_fitting_120 : decode cX0_fitting 120 = .ok (.iload_n 1, 1) := dk_27 (dk_at dksX0_fitting_5 4 rfl rfl)
theorem dX0_fitting_121 : decode cX0_fitting 121 = .ok (.iconst 1, 1) := dk_4 (dk_at dksX0_fitting_5 5 rfl rfl)
theorem dX0_fitting_122 : decode cX0_fitting 122 = .ok (.if_icmp .ne 8, 3) := dk_160 0 8 (dk_at dksX0_fitting_5 6 rfl rfl)
theorem dX0_fitting_125 : decode cX0_fitting 125 = .ok (.iload 4, 2) := dk_21 4 (dk_at dksX0_fitting_5 9 rfl rfl)
theorem dX0_fitting_127 : decode cX0_fitting 127 = .ok (.goto 5, 3) := dk_167 0 5 (dk_at dksX0_fitting_5 11 rfl rfl)
theorem dX0_fitting_130 : decode cX0_fitting 130 = .ok (.iload 5, 2) := dk_21 5 (dk_at dksX0_fitting_5 14 rfl rfl)
theorem dX0_fitting_132 : decode cX0_fitting 132 = .ok (.ireturn, 1) := dk_172 (dk_at dksX0_fitting_5 16 rfl rfl)
abbrev cX0_rowsOf : ByteArray := prog_1_method_41_code
def yX0_rowsOf : MethodName := ⟨RX0, "rowsOf", "(LCribBooklet$Sheet;)Ljava/util/ArrayList;"⟩
def dkwX0_rowsOf_0 : List UInt8 := [187, 0, 205, 89, 183, 1, 104, 76, 42, 3, 43, 184, 1, 105, 43, 176]
abbrev dktX0_rowsOf_0 : List UInt8 := dkwX0_rowsOf_0 ++ []
theorem dksX0_rowsOf_0 : cX0_rowsOf.data.toList.drop 0 = dktX0_rowsOf_0 := by decide +kernel
theorem dX0_rowsOf_0 : decode cX0_rowsOf 0 = .ok (.new 205, 3) := dk_187 0 205 (dk_at dksX0_rowsOf_0 0 rfl rfl)
theorem dX0_rowsOf_3 : decode cX0_rowsOf 3 = .ok (.dup, 1) := dk_89 (dk_at dksX0_rowsOf_0 3 rfl rfl)
theorem dX0_rowsOf_4 : decode cX0_rowsOf 4 = .ok (.invokespecial 360, 3) := dk_183 1 104 (dk_at dksX0_rowsOf_0 4 rfl rfl)
theorem dX0_rowsOf_7 : decode cX0_rowsOf 7 = .ok (.astore_n 1, 1) := dk_76 (dk_at dksX0_rowsOf_0 7 rfl rfl)
theorem dX0_rowsOf_8 : decode cX0_rowsOf 8 = .ok (.aload_n 0, 1) := dk_42 (dk_at dksX0_rowsOf_0 8 rfl rfl)
theorem dX0_rowsOf_9 : decode cX0_rowsOf 9 = .ok (.iconst 0, 1) := dk_3 (dk_at dksX0_rowsOf_0 9 rfl rfl)
theorem dX0_rowsOf_10 : decode cX0_rowsOf 10 = .ok (.aload_n 1, 1) := dk_43 (dk_at dksX0_rowsOf_0 10 rfl rfl)
theorem dX0_rowsOf_11 : decode cX0_rowsOf 11 = .ok (.invokestatic 361, 3) := dk_184 1 105 (dk_at dksX0_rowsOf_0 11 rfl rfl)
theorem dX0_rowsOf_14 : decode cX0_rowsOf 14 = .ok (.aload_n 1, 1) := dk_43 (dk_at dksX0_rowsOf_0 14 rfl rfl)
theorem dX0_rowsOf_15 : decode cX0_rowsOf 15 = .ok (.areturn, 1) := dk_176 (dk_at dksX0_rowsOf_0 15 rfl rfl)
abbrev cX0_addRows : ByteArray := prog_1_method_42_code
def yX0_addRows : MethodName := ⟨RX0, "addRows", "(LCribBooklet$Sheet;ILjava/util/ArrayList;)V"⟩
def dkwX0_addRows_2 : List UInt8 := [167, 255, 237, 177]
abbrev dktX0_addRows_2 : List UInt8 := dkwX0_addRows_2 ++ []
def dkwX0_addRows_1 : List UInt8 := [162, 0, 27, 4, 62, 29, 7, 163, 0, 20, 42, 16, 10, 27, 104, 29, 96, 44, 184, 1, 105, 132, 3, 1]
abbrev dktX0_addRows_1 : List UInt8 := dkwX0_addRows_1 ++ dktX0_addRows_2
def dkwX0_addRows_0 : List UInt8 := [42, 27, 182, 1, 109, 153, 0, 15, 44, 27, 184, 1, 112, 182, 1, 116, 87, 167, 0, 34, 27, 17, 3, 232]
abbrev dktX0_addRows_0 : List UInt8 := dkwX0_addRows_0 ++ dktX0_addRows_1
theorem dksX0_addRows_0 : cX0_addRows.data.toList.drop 0 = dktX0_addRows_0 := by decide +kernel
theorem dksX0_addRows_1 : cX0_addRows.data.toList.drop 24 = dktX0_addRows_1 := dk_seg dksX0_addRows_0 24 rfl rfl
theorem dksX0_addRows_2 : cX0_addRows.data.toList.drop 48 = dktX0_addRows_2 := dk_seg dksX0_addRows_1 24 rfl rfl
theorem dX0_addRows_0 : decode cX0_addRows 0 = .ok (.aload_n 0, 1) := dk_42 (dk_at dksX0_addRows_0 0 rfl rfl)
theorem dX0_addRows_1 : decode cX0_addRows 1 = .ok (.iload_n 1, 1) := dk_27 (dk_at dksX0_addRows_0 1 rfl rfl)
theorem dX0_addRows_2 : decode cX0_addRows 2 = .ok (.invokevirtual 365, 3) := dk_182 1 109 (dk_at dksX0_addRows_0 2 rfl rfl)
theorem dX0_addRows_5 : decode cX0_addRows 5 = .ok (.ifCond .eq 15, 3) := dk_153 0 15 (dk_at dksX0_addRows_0 5 rfl rfl)
theorem dX0_addRows_8 : decode cX0_addRows 8 = .ok (.aload_n 2, 1) := dk_44 (dk_at dksX0_addRows_0 8 rfl rfl)
theorem dX0_addRows_9 : decode cX0_addRows 9 = .ok (.iload_n 1, 1) := dk_27 (dk_at dksX0_addRows_0 9 rfl rfl)
theorem dX0_addRows_10 : decode cX0_addRows 10 = .ok (.invokestatic 368, 3) := dk_184 1 112 (dk_at dksX0_addRows_0 10 rfl rfl)
theorem dX0_addRows_13 : decode cX0_addRows 13 = .ok (.invokevirtual 372, 3) := dk_182 1 116 (dk_at dksX0_addRows_0 13 rfl rfl)
theorem dX0_addRows_16 : decode cX0_addRows 16 = .ok (.pop, 1) := dk_87 (dk_at dksX0_addRows_0 16 rfl rfl)
theorem dX0_addRows_17 : decode cX0_addRows 17 = .ok (.goto 34, 3) := dk_167 0 34 (dk_at dksX0_addRows_0 17 rfl rfl)
theorem dX0_addRows_20 : decode cX0_addRows 20 = .ok (.iload_n 1, 1) := dk_27 (dk_at dksX0_addRows_0 20 rfl rfl)
theorem dX0_addRows_21 : decode cX0_addRows 21 = .ok (.sipush 1000, 3) := dk_17 3 232 (dk_at dksX0_addRows_0 21 rfl rfl)
theorem dX0_addRows_24 : decode cX0_addRows 24 = .ok (.if_icmp .ge 27, 3) := dk_162 0 27 (dk_at dksX0_addRows_1 0 rfl rfl)
theorem dX0_addRows_27 : decode cX0_addRows 27 = .ok (.iconst 1, 1) := dk_4 (dk_at dksX0_addRows_1 3 rfl rfl)
theorem dX0_addRows_28 : decode cX0_addRows 28 = .ok (.istore_n 3, 1) := dk_62 (dk_at dksX0_addRows_1 4 rfl rfl)
theorem dX0_addRows_29 : decode cX0_addRows 29 = .ok (.iload_n 3, 1) := dk_29 (dk_at dksX0_addRows_1 5 rfl rfl)
theorem dX0_addRows_30 : decode cX0_addRows 30 = .ok (.iconst 4, 1) := dk_7 (dk_at dksX0_addRows_1 6 rfl rfl)
theorem dX0_addRows_31 : decode cX0_addRows 31 = .ok (.if_icmp .gt 20, 3) := dk_163 0 20 (dk_at dksX0_addRows_1 7 rfl rfl)
theorem dX0_addRows_34 : decode cX0_addRows 34 = .ok (.aload_n 0, 1) := dk_42 (dk_at dksX0_addRows_1 10 rfl rfl)
theorem dX0_addRows_35 : decode cX0_addRows 35 = .ok (.bipush 10, 2) := dk_16 10 (dk_at dksX0_addRows_1 11 rfl rfl)
theorem dX0_addRows_37 : decode cX0_addRows 37 = .ok (.iload_n 1, 1) := dk_27 (dk_at dksX0_addRows_1 13 rfl rfl)
theorem dX0_addRows_38 : decode cX0_addRows 38 = .ok (.imul, 1) := dk_104 (dk_at dksX0_addRows_1 14 rfl rfl)
theorem dX0_addRows_39 : decode cX0_addRows 39 = .ok (.iload_n 3, 1) := dk_29 (dk_at dksX0_addRows_1 15 rfl rfl)
theorem dX0_addRows_40 : decode cX0_addRows 40 = .ok (.iadd, 1) := dk_96 (dk_at dksX0_addRows_1 16 rfl rfl)
theorem dX0_addRows_41 : decode cX0_addRows 41 = .ok (.aload_n 2, 1) := dk_44 (dk_at dksX0_addRows_1 17 rfl rfl)
theorem dX0_addRows_42 : decode cX0_addRows 42 = .ok (.invokestatic 361, 3) := dk_184 1 105 (dk_at dksX0_addRows_1 18 rfl rfl)
theorem dX0_addRows_45 : decode cX0_addRows 45 = .ok (.iinc 3 1, 3) := dk_132 3 1 (dk_at dksX0_addRows_1 21 rfl rfl)
theorem dX0_addRows_48 : decode cX0_addRows 48 = .ok (.goto (-19), 3) := dk_167 255 237 (dk_at dksX0_addRows_2 0 rfl rfl)
theorem dX0_addRows_51 : decode cX0_addRows 51 = .ok (.return_, 1) := dk_177 (dk_at dksX0_addRows_2 3 rfl rfl)
abbrev cX0_readsBy : ByteArray := prog_1_method_44_code
def yX0_readsBy : MethodName := ⟨RX0, "readsBy", "(I)I"⟩
def dkwX0_readsBy_1 : List UInt8 := [182, 1, 125, 183, 1, 129, 182, 1, 135, 167, 0, 4, 2, 172]
abbrev dktX0_readsBy_1 : List UInt8 := dkwX0_readsBy_1 ++ []
def dkwX0_readsBy_0 : List UInt8 := [42, 180, 0, 10, 180, 0, 46, 77, 44, 27, 182, 1, 109, 153, 0, 22, 187, 1, 2, 89, 44, 44, 27]
abbrev dktX0_readsBy_0 : List UInt8 := dkwX0_readsBy_0 ++ dktX0_readsBy_1
theorem dksX0_readsBy_0 : cX0_readsBy.data.toList.drop 0 = dktX0_readsBy_0 := by decide +kernel
theorem dksX0_readsBy_1 : cX0_readsBy.data.toList.drop 23 = dktX0_readsBy_1 := dk_seg dksX0_readsBy_0 23 rfl rfl
theorem dX0_readsBy_0 : decode cX0_readsBy 0 = .ok (.aload_n 0, 1) := dk_42 (dk_at dksX0_readsBy_0 0 rfl rfl)
theorem dX0_readsBy_1 : decode cX0_readsBy 1 = .ok (.getfield 10, 3) := dk_180 0 10 (dk_at dksX0_readsBy_0 1 rfl rfl)
theorem dX0_readsBy_4 : decode cX0_readsBy 4 = .ok (.getfield 46, 3) := dk_180 0 46 (dk_at dksX0_readsBy_0 4 rfl rfl)
theorem dX0_readsBy_7 : decode cX0_readsBy 7 = .ok (.astore_n 2, 1) := dk_77 (dk_at dksX0_readsBy_0 7 rfl rfl)
theorem dX0_readsBy_8 : decode cX0_readsBy 8 = .ok (.aload_n 2, 1) := dk_44 (dk_at dksX0_readsBy_0 8 rfl rfl)
theorem dX0_readsBy_9 : decode cX0_readsBy 9 = .ok (.iload_n 1, 1) := dk_27 (dk_at dksX0_readsBy_0 9 rfl rfl)
theorem dX0_readsBy_10 : decode cX0_readsBy 10 = .ok (.invokevirtual 365, 3) := dk_182 1 109 (dk_at dksX0_readsBy_0 10 rfl rfl)
theorem dX0_readsBy_13 : decode cX0_readsBy 13 = .ok (.ifCond .eq 22, 3) := dk_153 0 22 (dk_at dksX0_readsBy_0 13 rfl rfl)
theorem dX0_readsBy_16 : decode cX0_readsBy 16 = .ok (.new 258, 3) := dk_187 1 2 (dk_at dksX0_readsBy_0 16 rfl rfl)
theorem dX0_readsBy_19 : decode cX0_readsBy 19 = .ok (.dup, 1) := dk_89 (dk_at dksX0_readsBy_0 19 rfl rfl)
theorem dX0_readsBy_20 : decode cX0_readsBy 20 = .ok (.aload_n 2, 1) := dk_44 (dk_at dksX0_readsBy_0 20 rfl rfl)
theorem dX0_readsBy_21 : decode cX0_readsBy 21 = .ok (.aload_n 2, 1) := dk_44 (dk_at dksX0_readsBy_0 21 rfl rfl)
theorem dX0_readsBy_22 : decode cX0_readsBy 22 = .ok (.iload_n 1, 1) := dk_27 (dk_at dksX0_readsBy_0 22 rfl rfl)
theorem dX0_readsBy_23 : decode cX0_readsBy 23 = .ok (.invokevirtual 381, 3) := dk_182 1 125 (dk_at dksX0_readsBy_1 0 rfl rfl)
theorem dX0_readsBy_26 : decode cX0_readsBy 26 = .ok (.invokespecial 385, 3) := dk_183 1 129 (dk_at dksX0_readsBy_1 3 rfl rfl)
theorem dX0_readsBy_29 : decode cX0_readsBy 29 = .ok (.invokevirtual 391, 3) := dk_182 1 135 (dk_at dksX0_readsBy_1 6 rfl rfl)
theorem dX0_readsBy_32 : decode cX0_readsBy 32 = .ok (.goto 4, 3) := dk_167 0 4 (dk_at dksX0_readsBy_1 9 rfl rfl)
theorem dX0_readsBy_35 : decode cX0_readsBy 35 = .ok (.iconst (-1), 1) := dk_2 (dk_at dksX0_readsBy_1 12 rfl rfl)
theorem dX0_readsBy_36 : decode cX0_readsBy 36 = .ok (.ireturn, 1) := dk_172 (dk_at dksX0_readsBy_1 13 rfl rfl)
abbrev cX0_cutsFor : ByteArray := prog_1_method_45_code
def yX0_cutsFor : MethodName := ⟨RX0, "cutsFor", "(I)I"⟩
def dkwX0_cutsFor_1 : List UInt8 := [182, 1, 125, 183, 1, 129, 182, 1, 138, 167, 0, 4, 2, 172]
abbrev dktX0_cutsFor_1 : List UInt8 := dkwX0_cutsFor_1 ++ []
def dkwX0_cutsFor_0 : List UInt8 := [42, 180, 0, 10, 180, 0, 46, 77, 44, 27, 182, 1, 109, 153, 0, 22, 187, 1, 2, 89, 44, 44, 27]
abbrev dktX0_cutsFor_0 : List UInt8 := dkwX0_cutsFor_0 ++ dktX0_cutsFor_1
theorem dksX0_cutsFor_0 : cX0_cutsFor.data.toList.drop 0 = dktX0_cutsFor_0 := by decide +kernel
theorem dksX0_cutsFor_1 : cX0_cutsFor.data.toList.drop 23 = dktX0_cutsFor_1 := dk_seg dksX0_cutsFor_0 23 rfl rfl
theorem dX0_cutsFor_0 : decode cX0_cutsFor 0 = .ok (.aload_n 0, 1) := dk_42 (dk_at dksX0_cutsFor_0 0 rfl rfl)
theorem dX0_cutsFor_1 : decode cX0_cutsFor 1 = .ok (.getfield 10, 3) := dk_180 0 10 (dk_at dksX0_cutsFor_0 1 rfl rfl)
theorem dX0_cutsFor_4 : decode cX0_cutsFor 4 = .ok (.getfield 46, 3) := dk_180 0 46 (dk_at dksX0_cutsFor_0 4 rfl rfl)
theorem dX0_cutsFor_7 : decode cX0_cutsFor 7 = .ok (.astore_n 2, 1) := dk_77 (dk_at dksX0_cutsFor_0 7 rfl rfl)
theorem dX0_cutsFor_8 : decode cX0_cutsFor 8 = .ok (.aload_n 2, 1) := dk_44 (dk_at dksX0_cutsFor_0 8 rfl rfl)
theorem dX0_cutsFor_9 : decode cX0_cutsFor 9 = .ok (.iload_n 1, 1) := dk_27 (dk_at dksX0_cutsFor_0 9 rfl rfl)
theorem dX0_cutsFor_10 : decode cX0_cutsFor 10 = .ok (.invokevirtual 365, 3) := dk_182 1 109 (dk_at dksX0_cutsFor_0 10 rfl rfl)
theorem dX0_cutsFor_13 : decode cX0_cutsFor 13 = .ok (.ifCond .eq 22, 3) := dk_153 0 22 (dk_at dksX0_cutsFor_0 13 rfl rfl)
theorem dX0_cutsFor_16 : decode cX0_cutsFor 16 = .ok (.new 258, 3) := dk_187 1 2 (dk_at dksX0_cutsFor_0 16 rfl rfl)
theorem dX0_cutsFor_19 : decode cX0_cutsFor 19 = .ok (.dup, 1) := dk_89 (dk_at dksX0_cutsFor_0 19 rfl rfl)
theorem dX0_cutsFor_20 : decode cX0_cutsFor 20 = .ok (.aload_n 2, 1) := dk_44 (dk_at dksX0_cutsFor_0 20 rfl rfl)
theorem dX0_cutsFor_21 : decode cX0_cutsFor 21 = .ok (.aload_n 2, 1) := dk_44 (dk_at dksX0_cutsFor_0 21 rfl rfl)
theorem dX0_cutsFor_22 : decode cX0_cutsFor 22 = .ok (.iload_n 1, 1) := dk_27 (dk_at dksX0_cutsFor_0 22 rfl rfl)
theorem dX0_cutsFor_23 : decode cX0_cutsFor 23 = .ok (.invokevirtual 381, 3) := dk_182 1 125 (dk_at dksX0_cutsFor_1 0 rfl rfl)
theorem dX0_cutsFor_26 : decode cX0_cutsFor 26 = .ok (.invokespecial 385, 3) := dk_183 1 129 (dk_at dksX0_cutsFor_1 3 rfl rfl)
theorem dX0_cutsFor_29 : decode cX0_cutsFor 29 = .ok (.invokevirtual 394, 3) := dk_182 1 138 (dk_at dksX0_cutsFor_1 6 rfl rfl)
theorem dX0_cutsFor_32 : decode cX0_cutsFor 32 = .ok (.goto 4, 3) := dk_167 0 4 (dk_at dksX0_cutsFor_1 9 rfl rfl)
theorem dX0_cutsFor_35 : decode cX0_cutsFor 35 = .ok (.iconst (-1), 1) := dk_2 (dk_at dksX0_cutsFor_1 12 rfl rfl)
theorem dX0_cutsFor_36 : decode cX0_cutsFor 36 = .ok (.ireturn, 1) := dk_172 (dk_at dksX0_cutsFor_1 13 rfl rfl)
abbrev cX0_best : ByteArray := prog_1_method_46_code
def yX0_best : MethodName := ⟨RX0, "best", "(I)I"⟩
def dkwX0_best_5 : List UInt8 := [167, 0, 7, 45, 180, 1, 155, 172]
abbrev dktX0_best_5 : List UInt8 := dkwX0_best_5 ++ []
def dkwX0_best_4 : List UInt8 := [192, 1, 144, 78, 27, 154, 0, 10, 45, 180, 1, 151, 167, 0, 19, 27, 4, 160, 0, 10, 45, 180, 1, 154]
abbrev dktX0_best_4 : List UInt8 := dkwX0_best_4 ++ dktX0_best_5
def dkwX0_best_3 : List UInt8 := [182, 1, 98, 183, 1, 146, 182, 1, 149, 87, 167, 255, 212, 44, 182, 1, 150, 185, 1, 92, 1, 0]
abbrev dktX0_best_3 : List UInt8 := dkwX0_best_3 ++ dktX0_best_4
def dkwX0_best_2 : List UInt8 := [185, 1, 92, 1, 0, 192, 0, 195, 58, 4, 44, 187, 1, 144, 89, 42, 180, 0, 10, 180, 0, 46, 25, 4]
abbrev dktX0_best_2 : List UInt8 := dkwX0_best_2 ++ dktX0_best_3
def dkwX0_best_1 : List UInt8 := [180, 0, 46, 184, 1, 120, 182, 1, 124, 78, 45, 185, 1, 87, 1, 0, 153, 0, 41, 45]
abbrev dktX0_best_1 : List UInt8 := dkwX0_best_1 ++ dktX0_best_2
def dkwX0_best_0 : List UInt8 := [27, 3, 5, 184, 0, 30, 154, 0, 5, 2, 172, 187, 1, 141, 89, 183, 1, 143, 77, 42, 180, 0, 10]
abbrev dktX0_best_0 : List UInt8 := dkwX0_best_0 ++ dktX0_best_1
theorem dksX0_best_0 : cX0_best.data.toList.drop 0 = dktX0_best_0 := by decide +kernel
theorem dksX0_best_1 : cX0_best.data.toList.drop 23 = dktX0_best_1 := dk_seg dksX0_best_0 23 rfl rfl
theorem dksX0_best_2 : cX0_best.data.toList.drop 43 = dktX0_best_2 := dk_seg dksX0_best_1 20 rfl rfl
theorem dksX0_best_3 : cX0_best.data.toList.drop 67 = dktX0_best_3 := dk_seg dksX0_best_2 24 rfl rfl
theorem dksX0_best_4 : cX0_best.data.toList.drop 89 = dktX0_best_4 := dk_seg dksX0_best_3 22 rfl rfl
theorem dksX0_best_5 : cX0_best.data.toList.drop 113 = dktX0_best_5 := dk_seg dksX0_best_4 24 rfl rfl
theorem dX0_best_0 : decode cX0_best 0 = .ok (.iload_n 1, 1) := dk_27 (dk_at dksX0_best_0 0 rfl rfl)
theorem dX0_best_1 : decode cX0_best 1 = .ok (.iconst 0, 1) := dk_3 (dk_at dksX0_best_0 1 rfl rfl)
theorem dX0_best_2 : decode cX0_best 2 = .ok (.iconst 2, 1) := dk_5 (dk_at dksX0_best_0 2 rfl rfl)
theorem dX0_best_3 : decode cX0_best 3 = .ok (.invokestatic 30, 3) := dk_184 0 30 (dk_at dksX0_best_0 3 rfl rfl)
theorem dX0_best_6 : decode cX0_best 6 = .ok (.ifCond .ne 5, 3) := dk_154 0 5 (dk_at dksX0_best_0 6 rfl rfl)
theorem dX0_best_9 : decode cX0_best 9 = .ok (.iconst (-1), 1) := dk_2 (dk_at dksX0_best_0 9 rfl rfl)
theorem dX0_best_10 : decode cX0_best 10 = .ok (.ireturn, 1) := dk_172 (dk_at dksX0_best_0 10 rfl rfl)
theorem dX0_best_11 : decode cX0_best 11 = .ok (.new 397, 3) := dk_187 1 141 (dk_at dksX0_best_0 11 rfl rfl)
theorem dX0_best_14 : decode cX0_best 14 = .ok (.dup, 1) := dk_89 (dk_at dksX0_best_0 14 rfl rfl)
theorem dX0_best_15 : decode cX0_best 15 = .ok (.invokespecial 399, 3) := dk_183 1 143 (dk_at dksX0_best_0 15 rfl rfl)
theorem dX0_best_18 : decode cX0_best 18 = .ok (.astore_n 2, 1) := dk_77 (dk_at dksX0_best_0 18 rfl rfl)
theorem dX0_best_19 : decode cX0_best 19 = .ok (.aload_n 0, 1) := dk_42 (dk_at dksX0_best_0 19 rfl rfl)
theorem dX0_best_20 : decode cX0_best 20 = .ok (.getfield 10, 3) := dk_180 0 10 (dk_at dksX0_best_0 20 rfl rfl)
theorem dX0_best_23 : decode cX0_best 23 = .ok (.getfield 46, 3) := dk_180 0 46 (dk_at dksX0_best_1 0 rfl rfl)
theorem dX0_best_26 : decode cX0_best 26 = .ok (.invokestatic 376, 3) := dk_184 1 120 (dk_at dksX0_best_1 3 rfl rfl)
theorem dX0_best_29 : decode cX0_best 29 = .ok (.invokevirtual 380, 3) := dk_182 1 124 (dk_at dksX0_best_1 6 rfl rfl)
theorem dX0_best_32 : decode cX0_best 32 = .ok (.astore_n 3, 1) := dk_78 (dk_at dksX0_best_1 9 rfl rfl)
theorem dX0_best_33 : decode cX0_best 33 = .ok (.aload_n 3, 1) := dk_45 (dk_at dksX0_best_1 10 rfl rfl)
theorem dX0_best_34 : decode cX0_best 34 = .ok (.invokeinterface 343 1, 5) := by decide +kernel
theorem dX0_best_39 : decode cX0_best 39 = .ok (.ifCond .eq 41, 3) := dk_153 0 41 (dk_at dksX0_best_1 16 rfl rfl)
theorem dX0_best_42 : decode cX0_best 42 = .ok (.aload_n 3, 1) := dk_45 (dk_at dksX0_best_1 19 rfl rfl)
theorem dX0_best_43 : decode cX0_best 43 = .ok (.invokeinterface 348 1, 5) := by decide +kernel
theorem dX0_best_48 : decode cX0_best 48 = .ok (.checkcast 195, 3) := dk_192 0 195 (dk_at dksX0_best_2 5 rfl rfl)
theorem dX0_best_51 : decode cX0_best 51 = .ok (.astore 4, 2) := dk_58 4 (dk_at dksX0_best_2 8 rfl rfl)
theorem dX0_best_53 : decode cX0_best 53 = .ok (.aload_n 2, 1) := dk_44 (dk_at dksX0_best_2 10 rfl rfl)
theorem dX0_best_54 : decode cX0_best 54 = .ok (.new 400, 3) := dk_187 1 144 (dk_at dksX0_best_2 11 rfl rfl)
theorem dX0_best_57 : decode cX0_best 57 = .ok (.dup, 1) := dk_89 (dk_at dksX0_best_2 14 rfl rfl)
theorem dX0_best_58 : decode cX0_best 58 = .ok (.aload_n 0, 1) := dk_42 (dk_at dksX0_best_2 15 rfl rfl)
theorem dX0_best_59 : decode cX0_best 59 = .ok (.getfield 10, 3) := dk_180 0 10 (dk_at dksX0_best_2 16 rfl rfl)
theorem dX0_best_62 : decode cX0_best 62 = .ok (.getfield 46, 3) := dk_180 0 46 (dk_at dksX0_best_2 19 rfl rfl)
theorem dX0_best_65 : decode cX0_best 65 = .ok (.aload 4, 2) := dk_25 4 (dk_at dksX0_best_2 22 rfl rfl)
theorem dX0_best_67 : decode cX0_best 67 = .ok (.invokevirtual 354, 3) := dk_182 1 98 (dk_at dksX0_best_3 0 rfl rfl)
theorem dX0_best_70 : decode cX0_best 70 = .ok (.invokespecial 402, 3) := dk_183 1 146 (dk_at dksX0_best_3 3 rfl rfl)
theorem dX0_best_73 : decode cX0_best 73 = .ok (.invokevirtual 405, 3) := dk_182 1 149 (dk_at dksX0_best_3 6 rfl rfl)
theorem dX0_best_76 : decode cX0_best 76 = .ok (.pop, 1) := dk_87 (dk_at dksX0_best_3 9 rfl rfl)
theorem dX0_best_77 : decode cX0_best 77 = .ok (.goto (-44), 3) := dk_167 255 212 (dk_at dksX0_best_3 10 rfl rfl)
theorem dX0_best_80 : decode cX0_best 80 = .ok (.aload_n 2, 1) := dk_44 (dk_at dksX0_best_3 13 rfl rfl)
theorem dX0_best_81 : decode cX0_best 81 = .ok (.invokevirtual 406, 3) := dk_182 1 150 (dk_at dksX0_best_3 14 rfl rfl)
theorem dX0_best_84 : decode cX0_best 84 = .ok (.invokeinterface 348 1, 5) := by decide +kernel
theorem dX0_best_89 : decode cX0_best 89 = .ok (.checkcast 400, 3) := dk_192 1 144 (dk_at dksX0_best_4 0 rfl rfl)
theorem dX0_best_92 : decode cX0_best 92 = .ok (.astore_n 3, 1) := dk_78 (dk_at dksX0_best_4 3 rfl rfl)
theorem dX0_best_93 : decode cX0_best 93 = .ok (.iload_n 1, 1) := dk_27 (dk_at dksX0_best_4 4 rfl rfl)
theorem dX0_best_94 : decode cX0_best 94 = .ok (.ifCond .ne 10, 3) := dk_154 0 10 (dk_at dksX0_best_4 5 rfl rfl)
theorem dX0_best_97 : decode cX0_best 97 = .ok (.aload_n 3, 1) := dk_45 (dk_at dksX0_best_4 8 rfl rfl)
theorem dX0_best_98 : decode cX0_best 98 = .ok (.getfield 407, 3) := dk_180 1 151 (dk_at dksX0_best_4 9 rfl rfl)
theorem dX0_best_101 : decode cX0_best 101 = .ok (.goto 19, 3) := dk_167 0 19 (dk_at dksX0_best_4 12 rfl rfl)
theorem dX0_best_104 : decode cX0_best 104 = .ok (.iload_n 1, 1) := dk_27 (dk_at dksX0_best_4 15 rfl rfl)
theorem dX0_best_105 : decode cX0_best 105 = .ok (.iconst 1, 1) := dk_4 (dk_at dksX0_best_4 16 rfl rfl)
theorem dX0_best_106 : decode cX0_best 106 = .ok (.if_icmp .ne 10, 3) := dk_160 0 10 (dk_at dksX0_best_4 17 rfl rfl)
theorem dX0_best_109 : decode cX0_best 109 = .ok (.aload_n 3, 1) := dk_45 (dk_at dksX0_best_4 20 rfl rfl)
theorem dX0_best_110 : decode cX0_best 110 = .ok (.getfield 410, 3) := dk_180 1 154 (dk_at dksX0_best_4 21 rfl rfl)
theorem dX0_best_113 : decode cX0_best 113 = .ok (.goto 7, 3) := dk_167 0 7 (dk_at dksX0_best_5 0 rfl rfl)
theorem dX0_best_116 : decode cX0_best 116 = .ok (.aload_n 3, 1) := dk_45 (dk_at dksX0_best_5 3 rfl rfl)
theorem dX0_best_117 : decode cX0_best 117 = .ok (.getfield 411, 3) := dk_180 1 155 (dk_at dksX0_best_5 4 rfl rfl)
theorem dX0_best_120 : decode cX0_best 120 = .ok (.ireturn, 1) := dk_172 (dk_at dksX0_best_5 7 rfl rfl)
theorem q87 : (Jvm.Cond.initialized "CribBooklet") ∈ lw_all := lw_g (lw_at lw_m1 1 rfl) rfl
theorem q156 : (Jvm.Cond.instantiable "CribBooklet" (3 : Nat)) ∈ lw_all := lw_g (lw_at lw_m1 70 rfl) rfl
theorem q158 : (Jvm.Cond.instanceMethod ({ cls := "CribBooklet", name := "<init>", desc := "()V" } : Jvm.MethodName)) ∈ lw_all := lw_g (lw_at lw_m1 72 rfl) rfl
theorem q159 : (Jvm.Cond.code ({ cls := "CribBooklet", name := "<init>", desc := "()V" } : Jvm.MethodName) prog_1_method_1_code (1 : Nat) (Option.none : Option Jvm.ClassFile.FieldType)) ∈ lw_all := lw_g (lw_at lw_m1 73 rfl) rfl
theorem q160 : (Jvm.Cond.methodLink "CribBooklet" (1 : Nat) ({ cls := "java/lang/Object", name := "<init>", desc := "()V" } : Jvm.MethodName)) ∈ lw_all := lw_g (lw_at lw_m1 74 rfl) rfl
theorem q163 : (Jvm.Cond.classLink "CribBooklet" (7 : Nat) "CribBooklet$Desk") ∈ lw_all := lw_g (lw_at lw_m1 77 rfl) rfl
theorem q165 : (Jvm.Cond.methodLinkNest "CribBooklet" (9 : Nat) ({ cls := "CribBooklet$Desk", name := "<init>", desc := "()V" } : Jvm.MethodName) "CribBooklet") ∈ lw_tbl := lw_at lw_m1 79 rfl
theorem q213 : (Jvm.Cond.fieldLinkNest "CribBooklet" (173 : Nat) "CribBooklet$Sheet" "rows" "I" "CribBooklet") ∈ lw_tbl := lw_at lw_m1 127 rfl
theorem q217 : (Jvm.Cond.fieldLinkNest "CribBooklet" (176 : Nat) "CribBooklet$Sheet" "columns" "I" "CribBooklet") ∈ lw_tbl := lw_at lw_m1 131 rfl
theorem q226 : (Jvm.Cond.fieldLinkNest "CribBooklet" (139 : Nat) "CribBooklet$Sheet" "foldMany" "I" "CribBooklet") ∈ lw_tbl := lw_at lw_m1 140 rfl
theorem q230 : (Jvm.Cond.fieldLinkNest "CribBooklet" (230 : Nat) "CribBooklet$Sheet" "numbers" "[I" "CribBooklet") ∈ lw_tbl := lw_at lw_m1 144 rfl
theorem q233 : (Jvm.Cond.fieldLinkNest "CribBooklet" (234 : Nat) "CribBooklet$Sheet" "turned" "[Z" "CribBooklet") ∈ lw_tbl := lw_at lw_m1 147 rfl
theorem q237 : (Jvm.Cond.fieldLinkNest "CribBooklet" (219 : Nat) "CribBooklet$Sheet" "spine" "I" "CribBooklet") ∈ lw_tbl := lw_at lw_m1 151 rfl
theorem q242 : (Jvm.Cond.fieldLinkNest "CribBooklet" (188 : Nat) "CribBooklet$Sheet" "cuts" "I" "CribBooklet") ∈ lw_tbl := lw_at lw_m1 156 rfl
theorem q249 : (Jvm.Cond.fieldLinkNest "CribBooklet" (191 : Nat) "CribBooklet$Sheet" "staples" "I" "CribBooklet") ∈ lw_tbl := lw_at lw_m1 163 rfl
theorem q253 : (Jvm.Cond.fieldLinkNest "CribBooklet" (216 : Nat) "CribBooklet$Sheet" "legs" "I" "CribBooklet") ∈ lw_tbl := lw_at lw_m1 167 rfl
theorem q257 : (Jvm.Cond.fieldLinkNest "CribBooklet" (213 : Nat) "CribBooklet$Sheet" "lines" "I" "CribBooklet") ∈ lw_tbl := lw_at lw_m1 171 rfl
theorem q263 : (Jvm.Cond.fieldLinkNest "CribBooklet" (200 : Nat) "CribBooklet$Sheet" "sights" "Ljava/util/ArrayList;" "CribBooklet") ∈ lw_tbl := lw_at lw_m1 177 rfl
theorem q268 : (Jvm.Cond.fieldLinkNest "CribBooklet" (207 : Nat) "CribBooklet$Sheet" "notes" "Ljava/util/ArrayList;" "CribBooklet") ∈ lw_tbl := lw_at lw_m1 182 rfl
theorem q276 : (Jvm.Cond.fieldLinkNest "CribBooklet" (357 : Nat) "CribBooklet$Sheet" "efforts" "[I" "CribBooklet") ∈ lw_tbl := lw_at lw_m1 190 rfl
theorem q308 : (Jvm.Cond.fieldLinkNest "CribBooklet" (46 : Nat) "CribBooklet$Desk" "sheet" "LCribBooklet$Sheet;" "CribBooklet") ∈ lw_tbl := lw_at lw_m1 222 rfl
theorem q310 : (Jvm.Cond.fieldLinkNest "CribBooklet" (130 : Nat) "CribBooklet$Desk" "slots" "[LCribBooklet$Sheet;" "CribBooklet") ∈ lw_tbl := lw_at lw_m1 224 rfl
theorem q316 : (Jvm.Cond.classLink "CribBooklet" (16 : Nat) "java/util/ArrayDeque") ∈ lw_all := lw_g (lw_at lw_m1 230 rfl) rfl
theorem q318 : (Jvm.Cond.methodLink "CribBooklet" (18 : Nat) ({ cls := "java/util/ArrayDeque", name := "<init>", desc := "()V" } : Jvm.MethodName)) ∈ lw_all := lw_g (lw_at lw_m1 232 rfl) rfl
theorem q336 : (Jvm.Cond.classLink "CribBooklet" (23 : Nat) "java/lang/StringBuilder") ∈ lw_all := lw_g (lw_at lw_m2 10 rfl) rfl
theorem q338 : (Jvm.Cond.methodLink "CribBooklet" (25 : Nat) ({ cls := "java/lang/StringBuilder", name := "<init>", desc := "()V" } : Jvm.MethodName)) ∈ lw_all := lw_g (lw_at lw_m2 12 rfl) rfl
theorem q368 : (Jvm.Cond.fieldLink "CribBooklet" (10 : Nat) "CribBooklet" "desk" "LCribBooklet$Desk;") ∈ lw_all := lw_g (lw_at lw_m2 42 rfl) rfl
theorem q369 : (Jvm.Cond.fieldLink "CribBooklet" (19 : Nat) "CribBooklet" "history" "Ljava/util/ArrayDeque;") ∈ lw_all := lw_g (lw_at lw_m2 43 rfl) rfl
theorem q370 : (Jvm.Cond.fieldLink "CribBooklet" (26 : Nat) "CribBooklet" "text" "Ljava/lang/StringBuilder;") ∈ lw_all := lw_g (lw_at lw_m2 44 rfl) rfl
theorem q371 : (Jvm.Cond.lays "CribBooklet" "CribBooklet" "desk" "LCribBooklet$Desk;") ∈ lw_all := lw_g (lw_at lw_m2 45 rfl) rfl
theorem q372 : (Jvm.Cond.soleField "CribBooklet" "desk") ∈ lw_all := lw_g (lw_at lw_m2 46 rfl) rfl
theorem q373 : (Jvm.Cond.laysFinal "CribBooklet" "CribBooklet" "history" "Ljava/util/ArrayDeque;") ∈ lw_all := lw_g (lw_at lw_m2 47 rfl) rfl
theorem q374 : (Jvm.Cond.soleField "CribBooklet" "history") ∈ lw_all := lw_g (lw_at lw_m2 48 rfl) rfl
theorem q375 : (Jvm.Cond.laysFinal "CribBooklet" "CribBooklet" "text" "Ljava/lang/StringBuilder;") ∈ lw_all := lw_g (lw_at lw_m2 49 rfl) rfl
theorem q376 : (Jvm.Cond.soleField "CribBooklet" "text") ∈ lw_all := lw_g (lw_at lw_m2 50 rfl) rfl
theorem q377 : (Jvm.Cond.superclass "CribBooklet" "java/lang/Object") ∈ lw_all := lw_g (lw_at lw_m2 51 rfl) rfl
theorem q379 : (Jvm.Cond.instanceMethod ({ cls := "CribBooklet", name := "setSheet", desc := "(II)I" } : Jvm.MethodName)) ∈ lw_all := lw_g (lw_at lw_m2 53 rfl) rfl
theorem q380 : (Jvm.Cond.selects "CribBooklet" ({ cls := "CribBooklet", name := "setSheet", desc := "(II)I" } : Jvm.MethodName) ({ cls := "CribBooklet", name := "setSheet", desc := "(II)I" } : Jvm.MethodName)) ∈ lw_all := lw_g (lw_at lw_m2 54 rfl) rfl
theorem q381 : (Jvm.Cond.code ({ cls := "CribBooklet", name := "setSheet", desc := "(II)I" } : Jvm.MethodName) prog_1_method_7_code (3 : Nat) (Option.some Jvm.ClassFile.FieldType.int)) ∈ lw_all := lw_g (lw_at lw_m2 55 rfl) rfl
theorem q382 : (Jvm.Cond.classLink "CribBooklet" (67 : Nat) "CribBooklet$NewSheet") ∈ lw_all := lw_g (lw_at lw_m2 56 rfl) rfl
theorem q384 : (Jvm.Cond.methodLinkNest "CribBooklet" (69 : Nat) ({ cls := "CribBooklet$NewSheet", name := "<init>", desc := "(II)V" } : Jvm.MethodName) "CribBooklet") ∈ lw_tbl := lw_at lw_m2 58 rfl
theorem q398 : (Jvm.Cond.methodLink "CribBooklet" (72 : Nat) ({ cls := "CribBooklet", name := "perform", desc := "(LCribBooklet$Command;)I" } : Jvm.MethodName)) ∈ lw_all := lw_g (lw_at lw_m2 72 rfl) rfl
theorem q399 : (Jvm.Cond.privateMethod ({ cls := "CribBooklet", name := "perform", desc := "(LCribBooklet$Command;)I" } : Jvm.MethodName)) ∈ lw_tbl := lw_at lw_m2 73 rfl
theorem q400 : (Jvm.Cond.instanceMethod ({ cls := "CribBooklet", name := "perform", desc := "(LCribBooklet$Command;)I" } : Jvm.MethodName)) ∈ lw_all := lw_g (lw_at lw_m2 74 rfl) rfl
theorem q401 : (Jvm.Cond.code ({ cls := "CribBooklet", name := "perform", desc := "(LCribBooklet$Command;)I" } : Jvm.MethodName) prog_1_method_6_code (3 : Nat) (Option.some Jvm.ClassFile.FieldType.int)) ∈ lw_all := lw_g (lw_at lw_m2 75 rfl) rfl
theorem q402 : (Jvm.Cond.interfaceEntry "CribBooklet" (50 : Nat)) ∈ lw_tbl := lw_at lw_m2 76 rfl
theorem q403 : (Jvm.Cond.methodLink "CribBooklet" (50 : Nat) ({ cls := "CribBooklet$Command", name := "check", desc := "(LCribBooklet$Sheet;)I" } : Jvm.MethodName)) ∈ lw_all := lw_g (lw_at lw_m2 77 rfl) rfl
theorem q413 : (Jvm.Cond.static ({ cls := "CribBooklet", name := "isIn", desc := "(III)Z" } : Jvm.MethodName)) ∈ lw_all := lw_g (lw_at lw_m2 87 rfl) rfl
theorem q414 : (Jvm.Cond.code ({ cls := "CribBooklet", name := "isIn", desc := "(III)Z" } : Jvm.MethodName) prog_1_method_2_code (3 : Nat) (Option.some Jvm.ClassFile.FieldType.boolean)) ∈ lw_all := lw_g (lw_at lw_m2 88 rfl) rfl
theorem q416 : (Jvm.Cond.static ({ cls := "CribBooklet", name := "isBit", desc := "(I)Z" } : Jvm.MethodName)) ∈ lw_all := lw_g (lw_at lw_m2 90 rfl) rfl
theorem q417 : (Jvm.Cond.code ({ cls := "CribBooklet", name := "isBit", desc := "(I)Z" } : Jvm.MethodName) prog_1_method_3_code (1 : Nat) (Option.some Jvm.ClassFile.FieldType.boolean)) ∈ lw_all := lw_g (lw_at lw_m2 91 rfl) rfl
theorem q418 : (Jvm.Cond.methodLink "CribBooklet" (30 : Nat) ({ cls := "CribBooklet", name := "isIn", desc := "(III)Z" } : Jvm.MethodName)) ∈ lw_all := lw_g (lw_at lw_m2 92 rfl) rfl
theorem q443 : (Jvm.Cond.static ({ cls := "CribBooklet", name := "has", desc := "(II)Z" } : Jvm.MethodName)) ∈ lw_all := lw_g (lw_at lw_m2 117 rfl) rfl
theorem q444 : (Jvm.Cond.code ({ cls := "CribBooklet", name := "has", desc := "(II)Z" } : Jvm.MethodName) prog_1_method_4_code (2 : Nat) (Option.some Jvm.ClassFile.FieldType.boolean)) ∈ lw_all := lw_g (lw_at lw_m2 118 rfl) rfl
theorem q497 : (Jvm.Cond.fieldLinkNest "CribBooklet" (242 : Nat) "CribBooklet$Folding" "places" "[[LCribBooklet$Layer;" "CribBooklet") ∈ lw_tbl := lw_at lw_m2 171 rfl
theorem q641 : (Jvm.Cond.methodLink "CribBooklet" (56 : Nat) ({ cls := "CribBooklet$Desk", name := "copy", desc := "()LCribBooklet$Desk;" } : Jvm.MethodName)) ∈ lw_all := lw_g (lw_at lw_m3 75 rfl) rfl
theorem q697 : (Jvm.Cond.selects "CribBooklet" ({ cls := "java/lang/Object", name := "getClass", desc := "()Ljava/lang/Class;" } : Jvm.MethodName) ({ cls := "java/lang/Object", name := "getClass", desc := "()Ljava/lang/Class;" } : Jvm.MethodName)) ∈ lw_all := lw_g (lw_at lw_m3 131 rfl) rfl
theorem q1053 : (Jvm.Cond.methodLink "CribBooklet" (60 : Nat) ({ cls := "CribBooklet", name := "remember", desc := "(LCribBooklet$Desk;)V" } : Jvm.MethodName)) ∈ lw_all := lw_g (lw_at lw_m5 7 rfl) rfl
theorem q1054 : (Jvm.Cond.privateMethod ({ cls := "CribBooklet", name := "remember", desc := "(LCribBooklet$Desk;)V" } : Jvm.MethodName)) ∈ lw_tbl := lw_at lw_m5 8 rfl
theorem q1055 : (Jvm.Cond.instanceMethod ({ cls := "CribBooklet", name := "remember", desc := "(LCribBooklet$Desk;)V" } : Jvm.MethodName)) ∈ lw_all := lw_g (lw_at lw_m5 9 rfl) rfl
theorem q1056 : (Jvm.Cond.code ({ cls := "CribBooklet", name := "remember", desc := "(LCribBooklet$Desk;)V" } : Jvm.MethodName) prog_1_method_5_code (2 : Nat) (Option.none : Option Jvm.ClassFile.FieldType)) ∈ lw_all := lw_g (lw_at lw_m5 10 rfl) rfl
theorem q1057 : (Jvm.Cond.methodLink "CribBooklet" (34 : Nat) ({ cls := "java/util/ArrayDeque", name := "size", desc := "()I" } : Jvm.MethodName)) ∈ lw_all := lw_g (lw_at lw_m5 11 rfl) rfl
theorem q1058 : (Jvm.Cond.methodLink "CribBooklet" (38 : Nat) ({ cls := "java/util/ArrayDeque", name := "removeFirst", desc := "()Ljava/lang/Object;" } : Jvm.MethodName)) ∈ lw_all := lw_g (lw_at lw_m5 12 rfl) rfl
theorem q1062 : (Jvm.Cond.methodLink "CribBooklet" (42 : Nat) ({ cls := "java/util/ArrayDeque", name := "addLast", desc := "(Ljava/lang/Object;)V" } : Jvm.MethodName)) ∈ lw_all := lw_g (lw_at lw_m5 16 rfl) rfl
theorem q1077 : (Jvm.Cond.interfaceEntry "CribBooklet" (64 : Nat)) ∈ lw_tbl := lw_at lw_m5 31 rfl
theorem q1078 : (Jvm.Cond.methodLink "CribBooklet" (64 : Nat) ({ cls := "CribBooklet$Command", name := "carryOut", desc := "(LCribBooklet$Sheet;)I" } : Jvm.MethodName)) ∈ lw_all := lw_g (lw_at lw_m5 32 rfl) rfl
theorem q1201 : (Jvm.Cond.fieldLinkNest "CribBooklet" (285 : Nat) "CribBooklet$Booklet" "leaves" "[LCribBooklet$Layer;" "CribBooklet") ∈ lw_tbl := lw_at lw_m5 155 rfl
theorem q1204 : (Jvm.Cond.fieldLinkNest "CribBooklet" (289 : Nat) "CribBooklet$Booklet" "shutBy" "[I" "CribBooklet") ∈ lw_tbl := lw_at lw_m5 158 rfl
theorem q1365 : (Jvm.Cond.instanceMethod ({ cls := "CribBooklet", name := "fold", desc := "(I)I" } : Jvm.MethodName)) ∈ lw_all := lw_g (lw_at lw_m6 79 rfl) rfl
theorem q1366 : (Jvm.Cond.selects "CribBooklet" ({ cls := "CribBooklet", name := "fold", desc := "(I)I" } : Jvm.MethodName) ({ cls := "CribBooklet", name := "fold", desc := "(I)I" } : Jvm.MethodName)) ∈ lw_all := lw_g (lw_at lw_m6 80 rfl) rfl
theorem q1367 : (Jvm.Cond.code ({ cls := "CribBooklet", name := "fold", desc := "(I)I" } : Jvm.MethodName) prog_1_method_8_code (2 : Nat) (Option.some Jvm.ClassFile.FieldType.int)) ∈ lw_all := lw_g (lw_at lw_m6 81 rfl) rfl
theorem q1368 : (Jvm.Cond.classLink "CribBooklet" (76 : Nat) "CribBooklet$Fold") ∈ lw_all := lw_g (lw_at lw_m6 82 rfl) rfl
theorem q1370 : (Jvm.Cond.methodLinkNest "CribBooklet" (78 : Nat) ({ cls := "CribBooklet$Fold", name := "<init>", desc := "(I)V" } : Jvm.MethodName) "CribBooklet") ∈ lw_tbl := lw_at lw_m6 84 rfl
theorem q1379 : (Jvm.Cond.instanceMethod ({ cls := "CribBooklet", name := "unfold", desc := "()I" } : Jvm.MethodName)) ∈ lw_all := lw_g (lw_at lw_m6 93 rfl) rfl
theorem q1380 : (Jvm.Cond.selects "CribBooklet" ({ cls := "CribBooklet", name := "unfold", desc := "()I" } : Jvm.MethodName) ({ cls := "CribBooklet", name := "unfold", desc := "()I" } : Jvm.MethodName)) ∈ lw_all := lw_g (lw_at lw_m6 94 rfl) rfl
theorem q1381 : (Jvm.Cond.code ({ cls := "CribBooklet", name := "unfold", desc := "()I" } : Jvm.MethodName) prog_1_method_9_code (1 : Nat) (Option.some Jvm.ClassFile.FieldType.int)) ∈ lw_all := lw_g (lw_at lw_m6 95 rfl) rfl
theorem q1382 : (Jvm.Cond.classLink "CribBooklet" (81 : Nat) "CribBooklet$Unfold") ∈ lw_all := lw_g (lw_at lw_m6 96 rfl) rfl
theorem q1384 : (Jvm.Cond.methodLinkNest "CribBooklet" (83 : Nat) ({ cls := "CribBooklet$Unfold", name := "<init>", desc := "()V" } : Jvm.MethodName) "CribBooklet") ∈ lw_tbl := lw_at lw_m6 98 rfl
theorem q1390 : (Jvm.Cond.instanceMethod ({ cls := "CribBooklet", name := "setSpine", desc := "(I)I" } : Jvm.MethodName)) ∈ lw_all := lw_g (lw_at lw_m6 104 rfl) rfl
theorem q1391 : (Jvm.Cond.selects "CribBooklet" ({ cls := "CribBooklet", name := "setSpine", desc := "(I)I" } : Jvm.MethodName) ({ cls := "CribBooklet", name := "setSpine", desc := "(I)I" } : Jvm.MethodName)) ∈ lw_all := lw_g (lw_at lw_m6 105 rfl) rfl
theorem q1392 : (Jvm.Cond.code ({ cls := "CribBooklet", name := "setSpine", desc := "(I)I" } : Jvm.MethodName) prog_1_method_10_code (2 : Nat) (Option.some Jvm.ClassFile.FieldType.int)) ∈ lw_all := lw_g (lw_at lw_m6 106 rfl) rfl
theorem q1393 : (Jvm.Cond.classLink "CribBooklet" (84 : Nat) "CribBooklet$Spine") ∈ lw_all := lw_g (lw_at lw_m6 107 rfl) rfl
theorem q1395 : (Jvm.Cond.methodLinkNest "CribBooklet" (86 : Nat) ({ cls := "CribBooklet$Spine", name := "<init>", desc := "(I)V" } : Jvm.MethodName) "CribBooklet") ∈ lw_tbl := lw_at lw_m6 109 rfl
theorem q1404 : (Jvm.Cond.instanceMethod ({ cls := "CribBooklet", name := "print", desc := "(IIIII)I" } : Jvm.MethodName)) ∈ lw_all := lw_g (lw_at lw_m6 118 rfl) rfl
theorem q1405 : (Jvm.Cond.selects "CribBooklet" ({ cls := "CribBooklet", name := "print", desc := "(IIIII)I" } : Jvm.MethodName) ({ cls := "CribBooklet", name := "print", desc := "(IIIII)I" } : Jvm.MethodName)) ∈ lw_all := lw_g (lw_at lw_m6 119 rfl) rfl
theorem q1406 : (Jvm.Cond.code ({ cls := "CribBooklet", name := "print", desc := "(IIIII)I" } : Jvm.MethodName) prog_1_method_11_code (6 : Nat) (Option.some Jvm.ClassFile.FieldType.int)) ∈ lw_all := lw_g (lw_at lw_m6 120 rfl) rfl
theorem q1407 : (Jvm.Cond.classLink "CribBooklet" (87 : Nat) "CribBooklet$Print") ∈ lw_all := lw_g (lw_at lw_m6 121 rfl) rfl
theorem q1409 : (Jvm.Cond.methodLinkNest "CribBooklet" (89 : Nat) ({ cls := "CribBooklet$Print", name := "<init>", desc := "(IIIII)V" } : Jvm.MethodName) "CribBooklet") ∈ lw_tbl := lw_at lw_m6 123 rfl
theorem q1430 : (Jvm.Cond.instanceMethod ({ cls := "CribBooklet", name := "printAll", desc := "(I)I" } : Jvm.MethodName)) ∈ lw_all := lw_g (lw_at lw_m6 144 rfl) rfl
theorem q1431 : (Jvm.Cond.selects "CribBooklet" ({ cls := "CribBooklet", name := "printAll", desc := "(I)I" } : Jvm.MethodName) ({ cls := "CribBooklet", name := "printAll", desc := "(I)I" } : Jvm.MethodName)) ∈ lw_all := lw_g (lw_at lw_m6 145 rfl) rfl
theorem q1432 : (Jvm.Cond.code ({ cls := "CribBooklet", name := "printAll", desc := "(I)I" } : Jvm.MethodName) prog_1_method_12_code (2 : Nat) (Option.some Jvm.ClassFile.FieldType.int)) ∈ lw_all := lw_g (lw_at lw_m6 146 rfl) rfl
theorem q1433 : (Jvm.Cond.classLink "CribBooklet" (92 : Nat) "CribBooklet$PrintAll") ∈ lw_all := lw_g (lw_at lw_m6 147 rfl) rfl
theorem q1435 : (Jvm.Cond.methodLinkNest "CribBooklet" (94 : Nat) ({ cls := "CribBooklet$PrintAll", name := "<init>", desc := "(I)V" } : Jvm.MethodName) "CribBooklet") ∈ lw_tbl := lw_at lw_m6 149 rfl
theorem q1444 : (Jvm.Cond.instanceMethod ({ cls := "CribBooklet", name := "cut", desc := "(I)I" } : Jvm.MethodName)) ∈ lw_all := lw_g (lw_at lw_m6 158 rfl) rfl
theorem q1445 : (Jvm.Cond.selects "CribBooklet" ({ cls := "CribBooklet", name := "cut", desc := "(I)I" } : Jvm.MethodName) ({ cls := "CribBooklet", name := "cut", desc := "(I)I" } : Jvm.MethodName)) ∈ lw_all := lw_g (lw_at lw_m6 159 rfl) rfl
theorem q1446 : (Jvm.Cond.code ({ cls := "CribBooklet", name := "cut", desc := "(I)I" } : Jvm.MethodName) prog_1_method_13_code (2 : Nat) (Option.some Jvm.ClassFile.FieldType.int)) ∈ lw_all := lw_g (lw_at lw_m6 160 rfl) rfl
theorem q1447 : (Jvm.Cond.classLink "CribBooklet" (95 : Nat) "CribBooklet$Cut") ∈ lw_all := lw_g (lw_at lw_m6 161 rfl) rfl
theorem q1449 : (Jvm.Cond.methodLinkNest "CribBooklet" (97 : Nat) ({ cls := "CribBooklet$Cut", name := "<init>", desc := "(I)V" } : Jvm.MethodName) "CribBooklet") ∈ lw_tbl := lw_at lw_m6 163 rfl
theorem q1458 : (Jvm.Cond.instanceMethod ({ cls := "CribBooklet", name := "staple", desc := "(I)I" } : Jvm.MethodName)) ∈ lw_all := lw_g (lw_at lw_m6 172 rfl) rfl
theorem q1459 : (Jvm.Cond.selects "CribBooklet" ({ cls := "CribBooklet", name := "staple", desc := "(I)I" } : Jvm.MethodName) ({ cls := "CribBooklet", name := "staple", desc := "(I)I" } : Jvm.MethodName)) ∈ lw_all := lw_g (lw_at lw_m6 173 rfl) rfl
theorem q1460 : (Jvm.Cond.code ({ cls := "CribBooklet", name := "staple", desc := "(I)I" } : Jvm.MethodName) prog_1_method_14_code (2 : Nat) (Option.some Jvm.ClassFile.FieldType.int)) ∈ lw_all := lw_g (lw_at lw_m6 174 rfl) rfl
theorem q1461 : (Jvm.Cond.classLink "CribBooklet" (98 : Nat) "CribBooklet$Staple") ∈ lw_all := lw_g (lw_at lw_m6 175 rfl) rfl
theorem q1463 : (Jvm.Cond.methodLinkNest "CribBooklet" (100 : Nat) ({ cls := "CribBooklet$Staple", name := "<init>", desc := "(I)V" } : Jvm.MethodName) "CribBooklet") ∈ lw_tbl := lw_at lw_m6 177 rfl
theorem q1472 : (Jvm.Cond.instanceMethod ({ cls := "CribBooklet", name := "unstaple", desc := "(I)I" } : Jvm.MethodName)) ∈ lw_all := lw_g (lw_at lw_m6 186 rfl) rfl
theorem q1473 : (Jvm.Cond.selects "CribBooklet" ({ cls := "CribBooklet", name := "unstaple", desc := "(I)I" } : Jvm.MethodName) ({ cls := "CribBooklet", name := "unstaple", desc := "(I)I" } : Jvm.MethodName)) ∈ lw_all := lw_g (lw_at lw_m6 187 rfl) rfl
theorem q1474 : (Jvm.Cond.code ({ cls := "CribBooklet", name := "unstaple", desc := "(I)I" } : Jvm.MethodName) prog_1_method_15_code (2 : Nat) (Option.some Jvm.ClassFile.FieldType.int)) ∈ lw_all := lw_g (lw_at lw_m6 188 rfl) rfl
theorem q1475 : (Jvm.Cond.classLink "CribBooklet" (101 : Nat) "CribBooklet$Unstaple") ∈ lw_all := lw_g (lw_at lw_m6 189 rfl) rfl
theorem q1477 : (Jvm.Cond.methodLinkNest "CribBooklet" (103 : Nat) ({ cls := "CribBooklet$Unstaple", name := "<init>", desc := "(I)V" } : Jvm.MethodName) "CribBooklet") ∈ lw_tbl := lw_at lw_m6 191 rfl
theorem q1486 : (Jvm.Cond.instanceMethod ({ cls := "CribBooklet", name := "setLegs", desc := "(I)I" } : Jvm.MethodName)) ∈ lw_all := lw_g (lw_at lw_m6 200 rfl) rfl
theorem q1487 : (Jvm.Cond.selects "CribBooklet" ({ cls := "CribBooklet", name := "setLegs", desc := "(I)I" } : Jvm.MethodName) ({ cls := "CribBooklet", name := "setLegs", desc := "(I)I" } : Jvm.MethodName)) ∈ lw_all := lw_g (lw_at lw_m6 201 rfl) rfl
theorem q1488 : (Jvm.Cond.code ({ cls := "CribBooklet", name := "setLegs", desc := "(I)I" } : Jvm.MethodName) prog_1_method_16_code (2 : Nat) (Option.some Jvm.ClassFile.FieldType.int)) ∈ lw_all := lw_g (lw_at lw_m6 202 rfl) rfl
theorem q1489 : (Jvm.Cond.classLink "CribBooklet" (104 : Nat) "CribBooklet$Legs") ∈ lw_all := lw_g (lw_at lw_m6 203 rfl) rfl
theorem q1491 : (Jvm.Cond.methodLinkNest "CribBooklet" (106 : Nat) ({ cls := "CribBooklet$Legs", name := "<init>", desc := "(I)V" } : Jvm.MethodName) "CribBooklet") ∈ lw_tbl := lw_at lw_m6 205 rfl
theorem q1500 : (Jvm.Cond.instanceMethod ({ cls := "CribBooklet", name := "see", desc := "(III)I" } : Jvm.MethodName)) ∈ lw_all := lw_g (lw_at lw_m6 214 rfl) rfl
theorem q1501 : (Jvm.Cond.selects "CribBooklet" ({ cls := "CribBooklet", name := "see", desc := "(III)I" } : Jvm.MethodName) ({ cls := "CribBooklet", name := "see", desc := "(III)I" } : Jvm.MethodName)) ∈ lw_all := lw_g (lw_at lw_m6 215 rfl) rfl
theorem q1502 : (Jvm.Cond.code ({ cls := "CribBooklet", name := "see", desc := "(III)I" } : Jvm.MethodName) prog_1_method_17_code (4 : Nat) (Option.some Jvm.ClassFile.FieldType.int)) ∈ lw_all := lw_g (lw_at lw_m6 216 rfl) rfl
theorem q1503 : (Jvm.Cond.classLink "CribBooklet" (107 : Nat) "CribBooklet$See") ∈ lw_all := lw_g (lw_at lw_m6 217 rfl) rfl
theorem q1505 : (Jvm.Cond.methodLinkNest "CribBooklet" (109 : Nat) ({ cls := "CribBooklet$See", name := "<init>", desc := "(III)V" } : Jvm.MethodName) "CribBooklet") ∈ lw_tbl := lw_at lw_m6 219 rfl
theorem q1520 : (Jvm.Cond.instanceMethod ({ cls := "CribBooklet", name := "forget", desc := "()I" } : Jvm.MethodName)) ∈ lw_all := lw_g (lw_at lw_m6 234 rfl) rfl
theorem q1521 : (Jvm.Cond.selects "CribBooklet" ({ cls := "CribBooklet", name := "forget", desc := "()I" } : Jvm.MethodName) ({ cls := "CribBooklet", name := "forget", desc := "()I" } : Jvm.MethodName)) ∈ lw_all := lw_g (lw_at lw_m6 235 rfl) rfl
theorem q1522 : (Jvm.Cond.code ({ cls := "CribBooklet", name := "forget", desc := "()I" } : Jvm.MethodName) prog_1_method_18_code (1 : Nat) (Option.some Jvm.ClassFile.FieldType.int)) ∈ lw_all := lw_g (lw_at lw_m6 236 rfl) rfl
theorem q1523 : (Jvm.Cond.classLink "CribBooklet" (112 : Nat) "CribBooklet$Forget") ∈ lw_all := lw_g (lw_at lw_m6 237 rfl) rfl
theorem q1525 : (Jvm.Cond.methodLinkNest "CribBooklet" (114 : Nat) ({ cls := "CribBooklet$Forget", name := "<init>", desc := "()V" } : Jvm.MethodName) "CribBooklet") ∈ lw_tbl := lw_at lw_m6 239 rfl
theorem q1531 : (Jvm.Cond.instanceMethod ({ cls := "CribBooklet", name := "addNote", desc := "(IIII)I" } : Jvm.MethodName)) ∈ lw_all := lw_g (lw_at lw_m7 5 rfl) rfl
theorem q1532 : (Jvm.Cond.selects "CribBooklet" ({ cls := "CribBooklet", name := "addNote", desc := "(IIII)I" } : Jvm.MethodName) ({ cls := "CribBooklet", name := "addNote", desc := "(IIII)I" } : Jvm.MethodName)) ∈ lw_all := lw_g (lw_at lw_m7 6 rfl) rfl
theorem q1533 : (Jvm.Cond.code ({ cls := "CribBooklet", name := "addNote", desc := "(IIII)I" } : Jvm.MethodName) prog_1_method_19_code (5 : Nat) (Option.some Jvm.ClassFile.FieldType.int)) ∈ lw_all := lw_g (lw_at lw_m7 7 rfl) rfl
theorem q1534 : (Jvm.Cond.classLink "CribBooklet" (115 : Nat) "CribBooklet$AddNote") ∈ lw_all := lw_g (lw_at lw_m7 8 rfl) rfl
theorem q1536 : (Jvm.Cond.methodLinkNest "CribBooklet" (117 : Nat) ({ cls := "CribBooklet$AddNote", name := "<init>", desc := "(IIII)V" } : Jvm.MethodName) "CribBooklet") ∈ lw_tbl := lw_at lw_m7 10 rfl
theorem q1554 : (Jvm.Cond.instanceMethod ({ cls := "CribBooklet", name := "removeNote", desc := "(I)I" } : Jvm.MethodName)) ∈ lw_all := lw_g (lw_at lw_m7 28 rfl) rfl
theorem q1555 : (Jvm.Cond.selects "CribBooklet" ({ cls := "CribBooklet", name := "removeNote", desc := "(I)I" } : Jvm.MethodName) ({ cls := "CribBooklet", name := "removeNote", desc := "(I)I" } : Jvm.MethodName)) ∈ lw_all := lw_g (lw_at lw_m7 29 rfl) rfl
theorem q1556 : (Jvm.Cond.code ({ cls := "CribBooklet", name := "removeNote", desc := "(I)I" } : Jvm.MethodName) prog_1_method_20_code (2 : Nat) (Option.some Jvm.ClassFile.FieldType.int)) ∈ lw_all := lw_g (lw_at lw_m7 30 rfl) rfl
theorem q1557 : (Jvm.Cond.classLink "CribBooklet" (120 : Nat) "CribBooklet$RemoveNote") ∈ lw_all := lw_g (lw_at lw_m7 31 rfl) rfl
theorem q1559 : (Jvm.Cond.methodLinkNest "CribBooklet" (122 : Nat) ({ cls := "CribBooklet$RemoveNote", name := "<init>", desc := "(I)V" } : Jvm.MethodName) "CribBooklet") ∈ lw_tbl := lw_at lw_m7 33 rfl
theorem q1568 : (Jvm.Cond.instanceMethod ({ cls := "CribBooklet", name := "setLines", desc := "(I)I" } : Jvm.MethodName)) ∈ lw_all := lw_g (lw_at lw_m7 42 rfl) rfl
theorem q1569 : (Jvm.Cond.selects "CribBooklet" ({ cls := "CribBooklet", name := "setLines", desc := "(I)I" } : Jvm.MethodName) ({ cls := "CribBooklet", name := "setLines", desc := "(I)I" } : Jvm.MethodName)) ∈ lw_all := lw_g (lw_at lw_m7 43 rfl) rfl
theorem q1570 : (Jvm.Cond.code ({ cls := "CribBooklet", name := "setLines", desc := "(I)I" } : Jvm.MethodName) prog_1_method_21_code (2 : Nat) (Option.some Jvm.ClassFile.FieldType.int)) ∈ lw_all := lw_g (lw_at lw_m7 44 rfl) rfl
theorem q1571 : (Jvm.Cond.classLink "CribBooklet" (123 : Nat) "CribBooklet$Lines") ∈ lw_all := lw_g (lw_at lw_m7 45 rfl) rfl
theorem q1573 : (Jvm.Cond.methodLinkNest "CribBooklet" (125 : Nat) ({ cls := "CribBooklet$Lines", name := "<init>", desc := "(I)V" } : Jvm.MethodName) "CribBooklet") ∈ lw_tbl := lw_at lw_m7 47 rfl
theorem q1582 : (Jvm.Cond.instanceMethod ({ cls := "CribBooklet", name := "take", desc := "(I)I" } : Jvm.MethodName)) ∈ lw_all := lw_g (lw_at lw_m7 56 rfl) rfl
theorem q1583 : (Jvm.Cond.selects "CribBooklet" ({ cls := "CribBooklet", name := "take", desc := "(I)I" } : Jvm.MethodName) ({ cls := "CribBooklet", name := "take", desc := "(I)I" } : Jvm.MethodName)) ∈ lw_all := lw_g (lw_at lw_m7 57 rfl) rfl
theorem q1584 : (Jvm.Cond.code ({ cls := "CribBooklet", name := "take", desc := "(I)I" } : Jvm.MethodName) prog_1_method_22_code (2 : Nat) (Option.some Jvm.ClassFile.FieldType.int)) ∈ lw_all := lw_g (lw_at lw_m7 58 rfl) rfl
theorem q1585 : (Jvm.Cond.methodLink "CribBooklet" (126 : Nat) ({ cls := "CribBooklet", name := "isBit", desc := "(I)Z" } : Jvm.MethodName)) ∈ lw_all := lw_g (lw_at lw_m7 59 rfl) rfl
theorem q1586 : (Jvm.Cond.methodLink "CribBooklet" (134 : Nat) ({ cls := "CribBooklet$Sheet", name := "copy", desc := "()LCribBooklet$Sheet;" } : Jvm.MethodName)) ∈ lw_all := lw_g (lw_at lw_m7 60 rfl) rfl
theorem q1588 : (Jvm.Cond.instanceMethod ({ cls := "CribBooklet", name := "restore", desc := "(I)I" } : Jvm.MethodName)) ∈ lw_all := lw_g (lw_at lw_m7 62 rfl) rfl
theorem q1589 : (Jvm.Cond.selects "CribBooklet" ({ cls := "CribBooklet", name := "restore", desc := "(I)I" } : Jvm.MethodName) ({ cls := "CribBooklet", name := "restore", desc := "(I)I" } : Jvm.MethodName)) ∈ lw_all := lw_g (lw_at lw_m7 63 rfl) rfl
theorem q1590 : (Jvm.Cond.code ({ cls := "CribBooklet", name := "restore", desc := "(I)I" } : Jvm.MethodName) prog_1_method_23_code (2 : Nat) (Option.some Jvm.ClassFile.FieldType.int)) ∈ lw_all := lw_g (lw_at lw_m7 64 rfl) rfl
theorem q1592 : (Jvm.Cond.instanceMethod ({ cls := "CribBooklet", name := "undo", desc := "()I" } : Jvm.MethodName)) ∈ lw_all := lw_g (lw_at lw_m7 66 rfl) rfl
theorem q1593 : (Jvm.Cond.selects "CribBooklet" ({ cls := "CribBooklet", name := "undo", desc := "()I" } : Jvm.MethodName) ({ cls := "CribBooklet", name := "undo", desc := "()I" } : Jvm.MethodName)) ∈ lw_all := lw_g (lw_at lw_m7 67 rfl) rfl
theorem q1594 : (Jvm.Cond.code ({ cls := "CribBooklet", name := "undo", desc := "()I" } : Jvm.MethodName) prog_1_method_24_code (1 : Nat) (Option.some Jvm.ClassFile.FieldType.int)) ∈ lw_all := lw_g (lw_at lw_m7 68 rfl) rfl
theorem q1595 : (Jvm.Cond.methodLink "CribBooklet" (143 : Nat) ({ cls := "java/util/ArrayDeque", name := "isEmpty", desc := "()Z" } : Jvm.MethodName)) ∈ lw_all := lw_g (lw_at lw_m7 69 rfl) rfl
theorem q1596 : (Jvm.Cond.methodLink "CribBooklet" (147 : Nat) ({ cls := "java/util/ArrayDeque", name := "removeLast", desc := "()Ljava/lang/Object;" } : Jvm.MethodName)) ∈ lw_all := lw_g (lw_at lw_m7 70 rfl) rfl
theorem q1608 : (Jvm.Cond.instanceMethod ({ cls := "CribBooklet", name := "append", desc := "(I)I" } : Jvm.MethodName)) ∈ lw_all := lw_g (lw_at lw_m7 82 rfl) rfl
theorem q1609 : (Jvm.Cond.selects "CribBooklet" ({ cls := "CribBooklet", name := "append", desc := "(I)I" } : Jvm.MethodName) ({ cls := "CribBooklet", name := "append", desc := "(I)I" } : Jvm.MethodName)) ∈ lw_all := lw_g (lw_at lw_m7 83 rfl) rfl
theorem q1610 : (Jvm.Cond.code ({ cls := "CribBooklet", name := "append", desc := "(I)I" } : Jvm.MethodName) prog_1_method_25_code (2 : Nat) (Option.some Jvm.ClassFile.FieldType.int)) ∈ lw_all := lw_g (lw_at lw_m7 84 rfl) rfl
theorem q1611 : (Jvm.Cond.methodLink "CribBooklet" (150 : Nat) ({ cls := "java/lang/StringBuilder", name := "length", desc := "()I" } : Jvm.MethodName)) ∈ lw_all := lw_g (lw_at lw_m7 85 rfl) rfl
theorem q1618 : (Jvm.Cond.methodLink "CribBooklet" (153 : Nat) ({ cls := "java/lang/StringBuilder", name := "append", desc := "(C)Ljava/lang/StringBuilder;" } : Jvm.MethodName)) ∈ lw_all := lw_g (lw_at lw_m7 92 rfl) rfl
theorem q1697 : (Jvm.Cond.instanceMethod ({ cls := "CribBooklet", name := "clearText", desc := "()I" } : Jvm.MethodName)) ∈ lw_all := lw_g (lw_at lw_m7 171 rfl) rfl
theorem q1698 : (Jvm.Cond.selects "CribBooklet" ({ cls := "CribBooklet", name := "clearText", desc := "()I" } : Jvm.MethodName) ({ cls := "CribBooklet", name := "clearText", desc := "()I" } : Jvm.MethodName)) ∈ lw_all := lw_g (lw_at lw_m7 172 rfl) rfl
theorem q1699 : (Jvm.Cond.code ({ cls := "CribBooklet", name := "clearText", desc := "()I" } : Jvm.MethodName) prog_1_method_26_code (2 : Nat) (Option.some Jvm.ClassFile.FieldType.int)) ∈ lw_all := lw_g (lw_at lw_m7 173 rfl) rfl
theorem q1700 : (Jvm.Cond.methodLink "CribBooklet" (157 : Nat) ({ cls := "java/lang/StringBuilder", name := "setLength", desc := "(I)V" } : Jvm.MethodName)) ∈ lw_all := lw_g (lw_at lw_m7 174 rfl) rfl
theorem q1721 : (Jvm.Cond.instanceMethod ({ cls := "CribBooklet", name := "run", desc := "()I" } : Jvm.MethodName)) ∈ lw_all := lw_g (lw_at lw_m7 195 rfl) rfl
theorem q1722 : (Jvm.Cond.selects "CribBooklet" ({ cls := "CribBooklet", name := "run", desc := "()I" } : Jvm.MethodName) ({ cls := "CribBooklet", name := "run", desc := "()I" } : Jvm.MethodName)) ∈ lw_all := lw_g (lw_at lw_m7 196 rfl) rfl
theorem q1723 : (Jvm.Cond.codeWith ({ cls := "CribBooklet", name := "run", desc := "()I" } : Jvm.MethodName) prog_1_method_27_code (3 : Nat) (Option.some Jvm.ClassFile.FieldType.int) [((8 : Nat), (44 : Nat), (45 : Nat), (168 : Nat))]) ∈ lw_all := lw_g (lw_at lw_m7 197 rfl) rfl
theorem q1724 : (Jvm.Cond.classLink "CribBooklet" (168 : Nat) "CribBooklet$Failure") ∈ lw_all := lw_g (lw_at lw_m7 198 rfl) rfl
theorem q1725 : (Jvm.Cond.classLink "CribBooklet" (160 : Nat) "CribBooklet$Reader") ∈ lw_all := lw_g (lw_at lw_m7 199 rfl) rfl
theorem q1727 : (Jvm.Cond.methodLink "CribBooklet" (162 : Nat) ({ cls := "CribBooklet$Reader", name := "<init>", desc := "(Ljava/lang/StringBuilder;LCribBooklet$Sheet;)V" } : Jvm.MethodName)) ∈ lw_all := lw_g (lw_at lw_m7 201 rfl) rfl
theorem q1749 : (Jvm.Cond.methodLink "CribBooklet" (165 : Nat) ({ cls := "CribBooklet$Reader", name := "runAll", desc := "()I" } : Jvm.MethodName)) ∈ lw_all := lw_g (lw_at lw_m7 223 rfl) rfl
theorem q1867 : (Jvm.Cond.fieldLinkNest "CribBooklet" (170 : Nat) "CribBooklet$Failure" "place" "I" "CribBooklet") ∈ lw_tbl := lw_at lw_m8 101 rfl
theorem q2010 : (Jvm.Cond.instanceMethod ({ cls := "CribBooklet", name := "count", desc := "(I)I" } : Jvm.MethodName)) ∈ lw_all := lw_g (lw_at lw_m9 4 rfl) rfl
theorem q2011 : (Jvm.Cond.selects "CribBooklet" ({ cls := "CribBooklet", name := "count", desc := "(I)I" } : Jvm.MethodName) ({ cls := "CribBooklet", name := "count", desc := "(I)I" } : Jvm.MethodName)) ∈ lw_all := lw_g (lw_at lw_m9 5 rfl) rfl
theorem q2012 : (Jvm.Cond.code ({ cls := "CribBooklet", name := "count", desc := "(I)I" } : Jvm.MethodName) prog_1_method_28_code (3 : Nat) (Option.some Jvm.ClassFile.FieldType.int)) ∈ lw_all := lw_g (lw_at lw_m9 6 rfl) rfl
theorem q2013 : (Jvm.Cond.methodLink "CribBooklet" (179 : Nat) ({ cls := "CribBooklet$Sheet", name := "layers", desc := "()I" } : Jvm.MethodName)) ∈ lw_all := lw_g (lw_at lw_m9 7 rfl) rfl
theorem q2014 : (Jvm.Cond.methodLink "CribBooklet" (182 : Nat) ({ cls := "CribBooklet$Sheet", name := "foldsAsNumber", desc := "()I" } : Jvm.MethodName)) ∈ lw_all := lw_g (lw_at lw_m9 8 rfl) rfl
theorem q2018 : (Jvm.Cond.methodLink "CribBooklet" (185 : Nat) ({ cls := "CribBooklet$Sheet", name := "isBooklet", desc := "()Z" } : Jvm.MethodName)) ∈ lw_all := lw_g (lw_at lw_m9 12 rfl) rfl
theorem q2019 : (Jvm.Cond.methodLink "CribBooklet" (194 : Nat) ({ cls := "java/lang/Integer", name := "bitCount", desc := "(I)I" } : Jvm.MethodName)) ∈ lw_all := lw_g (lw_at lw_m9 13 rfl) rfl
theorem q2020 : (Jvm.Cond.methodLink "CribBooklet" (204 : Nat) ({ cls := "java/util/ArrayList", name := "size", desc := "()I" } : Jvm.MethodName)) ∈ lw_all := lw_g (lw_at lw_m9 14 rfl) rfl
theorem q2021 : (Jvm.Cond.methodLink "CribBooklet" (210 : Nat) ({ cls := "CribBooklet$Desk", name := "snapshots", desc := "()I" } : Jvm.MethodName)) ∈ lw_all := lw_g (lw_at lw_m9 15 rfl) rfl
theorem q2026 : (Jvm.Cond.instanceMethod ({ cls := "CribBooklet", name := "side", desc := "(IIII)I" } : Jvm.MethodName)) ∈ lw_all := lw_g (lw_at lw_m9 20 rfl) rfl
theorem q2027 : (Jvm.Cond.selects "CribBooklet" ({ cls := "CribBooklet", name := "side", desc := "(IIII)I" } : Jvm.MethodName) ({ cls := "CribBooklet", name := "side", desc := "(IIII)I" } : Jvm.MethodName)) ∈ lw_all := lw_g (lw_at lw_m9 21 rfl) rfl
theorem q2028 : (Jvm.Cond.code ({ cls := "CribBooklet", name := "side", desc := "(IIII)I" } : Jvm.MethodName) prog_1_method_29_code (7 : Nat) (Option.some Jvm.ClassFile.FieldType.int)) ∈ lw_all := lw_g (lw_at lw_m9 22 rfl) rfl
theorem q2029 : (Jvm.Cond.methodLink "CribBooklet" (222 : Nat) ({ cls := "CribBooklet$Sheet", name := "isCell", desc := "(II)Z" } : Jvm.MethodName)) ∈ lw_all := lw_g (lw_at lw_m9 23 rfl) rfl
theorem q2030 : (Jvm.Cond.methodLink "CribBooklet" (226 : Nat) ({ cls := "CribBooklet$Sheet", name := "sideOf", desc := "(III)I" } : Jvm.MethodName)) ∈ lw_all := lw_g (lw_at lw_m9 24 rfl) rfl
theorem q2032 : (Jvm.Cond.instanceMethod ({ cls := "CribBooklet", name := "layer", desc := "(III)I" } : Jvm.MethodName)) ∈ lw_all := lw_g (lw_at lw_m9 26 rfl) rfl
theorem q2033 : (Jvm.Cond.selects "CribBooklet" ({ cls := "CribBooklet", name := "layer", desc := "(III)I" } : Jvm.MethodName) ({ cls := "CribBooklet", name := "layer", desc := "(III)I" } : Jvm.MethodName)) ∈ lw_all := lw_g (lw_at lw_m9 27 rfl) rfl
theorem q2034 : (Jvm.Cond.code ({ cls := "CribBooklet", name := "layer", desc := "(III)I" } : Jvm.MethodName) prog_1_method_30_code (5 : Nat) (Option.some Jvm.ClassFile.FieldType.int)) ∈ lw_all := lw_g (lw_at lw_m9 28 rfl) rfl
theorem q2035 : (Jvm.Cond.methodLink "CribBooklet" (238 : Nat) ({ cls := "CribBooklet$Sheet", name := "folding", desc := "()LCribBooklet$Folding;" } : Jvm.MethodName)) ∈ lw_all := lw_g (lw_at lw_m9 29 rfl) rfl
theorem q2036 : (Jvm.Cond.methodLink "CribBooklet" (248 : Nat) ({ cls := "CribBooklet$Layer", name := "tells", desc := "(I)I" } : Jvm.MethodName)) ∈ lw_all := lw_g (lw_at lw_m9 30 rfl) rfl
theorem q2042 : (Jvm.Cond.instanceMethod ({ cls := "CribBooklet", name := "page", desc := "(II)I" } : Jvm.MethodName)) ∈ lw_all := lw_g (lw_at lw_m9 36 rfl) rfl
theorem q2043 : (Jvm.Cond.selects "CribBooklet" ({ cls := "CribBooklet", name := "page", desc := "(II)I" } : Jvm.MethodName) ({ cls := "CribBooklet", name := "page", desc := "(II)I" } : Jvm.MethodName)) ∈ lw_all := lw_g (lw_at lw_m9 37 rfl) rfl
theorem q2044 : (Jvm.Cond.code ({ cls := "CribBooklet", name := "page", desc := "(II)I" } : Jvm.MethodName) prog_1_method_31_code (5 : Nat) (Option.some Jvm.ClassFile.FieldType.int)) ∈ lw_all := lw_g (lw_at lw_m9 38 rfl) rfl
theorem q2045 : (Jvm.Cond.methodLink "CribBooklet" (253 : Nat) ({ cls := "CribBooklet$Sheet", name := "booklet", desc := "()LCribBooklet$Booklet;" } : Jvm.MethodName)) ∈ lw_all := lw_g (lw_at lw_m9 39 rfl) rfl
theorem q2046 : (Jvm.Cond.methodLink "CribBooklet" (257 : Nat) ({ cls := "CribBooklet$Booklet", name := "pages", desc := "()I" } : Jvm.MethodName)) ∈ lw_all := lw_g (lw_at lw_m9 40 rfl) rfl
theorem q2047 : (Jvm.Cond.methodLink "CribBooklet" (262 : Nat) ({ cls := "CribBooklet$Booklet", name := "numberOn", desc := "(I)I" } : Jvm.MethodName)) ∈ lw_all := lw_g (lw_at lw_m9 41 rfl) rfl
theorem q2051 : (Jvm.Cond.methodLink "CribBooklet" (265 : Nat) ({ cls := "CribBooklet$Booklet", name := "sideUp", desc := "(I)I" } : Jvm.MethodName)) ∈ lw_all := lw_g (lw_at lw_m9 45 rfl) rfl
theorem q2052 : (Jvm.Cond.methodLink "CribBooklet" (268 : Nat) ({ cls := "CribBooklet$Booklet", name := "isUpright", desc := "(I)Z" } : Jvm.MethodName)) ∈ lw_all := lw_g (lw_at lw_m9 46 rfl) rfl
theorem q2056 : (Jvm.Cond.methodLink "CribBooklet" (271 : Nat) ({ cls := "CribBooklet$Booklet", name := "isHidden", desc := "(I)Z" } : Jvm.MethodName)) ∈ lw_all := lw_g (lw_at lw_m9 50 rfl) rfl
theorem q2064 : (Jvm.Cond.methodLink "CribBooklet" (274 : Nat) ({ cls := "CribBooklet$Booklet", name := "reasonAgainst", desc := "(I)I" } : Jvm.MethodName)) ∈ lw_all := lw_g (lw_at lw_m9 58 rfl) rfl
theorem q2071 : (Jvm.Cond.classLink "CribBooklet" (277 : Nat) "CribBooklet$Layout") ∈ lw_all := lw_g (lw_at lw_m9 65 rfl) rfl
theorem q2073 : (Jvm.Cond.methodLink "CribBooklet" (279 : Nat) ({ cls := "CribBooklet$Layout", name := "<init>", desc := "(LCribBooklet$Booklet;)V" } : Jvm.MethodName)) ∈ lw_all := lw_g (lw_at lw_m9 67 rfl) rfl
theorem q2607 : (Jvm.Cond.fieldLinkNest "CribBooklet" (327 : Nat) "CribBooklet$Layout" "index" "Ljava/util/TreeMap;" "CribBooklet") ∈ lw_tbl := lw_at lw_m11 121 rfl
theorem q2623 : (Jvm.Cond.methodLink "CribBooklet" (282 : Nat) ({ cls := "CribBooklet$Layout", name := "takenOn", desc := "(I)I" } : Jvm.MethodName)) ∈ lw_all := lw_g (lw_at lw_m11 137 rfl) rfl
theorem q2628 : (Jvm.Cond.instanceMethod ({ cls := "CribBooklet", name := "opening", desc := "(II)I" } : Jvm.MethodName)) ∈ lw_all := lw_g (lw_at lw_m11 142 rfl) rfl
theorem q2629 : (Jvm.Cond.selects "CribBooklet" ({ cls := "CribBooklet", name := "opening", desc := "(II)I" } : Jvm.MethodName) ({ cls := "CribBooklet", name := "opening", desc := "(II)I" } : Jvm.MethodName)) ∈ lw_all := lw_g (lw_at lw_m11 143 rfl) rfl
theorem q2630 : (Jvm.Cond.code ({ cls := "CribBooklet", name := "opening", desc := "(II)I" } : Jvm.MethodName) prog_1_method_32_code (7 : Nat) (Option.some Jvm.ClassFile.FieldType.int)) ∈ lw_all := lw_g (lw_at lw_m11 144 rfl) rfl
theorem q2632 : (Jvm.Cond.instanceMethod ({ cls := "CribBooklet", name := "hanging", desc := "(I)I" } : Jvm.MethodName)) ∈ lw_all := lw_g (lw_at lw_m11 146 rfl) rfl
theorem q2633 : (Jvm.Cond.selects "CribBooklet" ({ cls := "CribBooklet", name := "hanging", desc := "(I)I" } : Jvm.MethodName) ({ cls := "CribBooklet", name := "hanging", desc := "(I)I" } : Jvm.MethodName)) ∈ lw_all := lw_g (lw_at lw_m11 147 rfl) rfl
theorem q2634 : (Jvm.Cond.code ({ cls := "CribBooklet", name := "hanging", desc := "(I)I" } : Jvm.MethodName) prog_1_method_33_code (2 : Nat) (Option.some Jvm.ClassFile.FieldType.int)) ∈ lw_all := lw_g (lw_at lw_m11 148 rfl) rfl
theorem q2635 : (Jvm.Cond.methodLink "CribBooklet" (292 : Nat) ({ cls := "CribBooklet$Booklet", name := "hanging", desc := "(I)I" } : Jvm.MethodName)) ∈ lw_all := lw_g (lw_at lw_m11 149 rfl) rfl
theorem q2637 : (Jvm.Cond.instanceMethod ({ cls := "CribBooklet", name := "together", desc := "(II)I" } : Jvm.MethodName)) ∈ lw_all := lw_g (lw_at lw_m11 151 rfl) rfl
theorem q2638 : (Jvm.Cond.selects "CribBooklet" ({ cls := "CribBooklet", name := "together", desc := "(II)I" } : Jvm.MethodName) ({ cls := "CribBooklet", name := "together", desc := "(II)I" } : Jvm.MethodName)) ∈ lw_all := lw_g (lw_at lw_m11 152 rfl) rfl
theorem q2639 : (Jvm.Cond.code ({ cls := "CribBooklet", name := "together", desc := "(II)I" } : Jvm.MethodName) prog_1_method_34_code (4 : Nat) (Option.some Jvm.ClassFile.FieldType.int)) ∈ lw_all := lw_g (lw_at lw_m11 153 rfl) rfl
theorem q2640 : (Jvm.Cond.methodLink "CribBooklet" (295 : Nat) ({ cls := "CribBooklet$Sheet", name := "cells", desc := "()I" } : Jvm.MethodName)) ∈ lw_all := lw_g (lw_at lw_m11 154 rfl) rfl
theorem q2641 : (Jvm.Cond.methodLink "CribBooklet" (298 : Nat) ({ cls := "CribBooklet$Booklet", name := "together", desc := "(II)I" } : Jvm.MethodName)) ∈ lw_all := lw_g (lw_at lw_m11 155 rfl) rfl
theorem q2646 : (Jvm.Cond.instanceMethod ({ cls := "CribBooklet", name := "pieces", desc := "()I" } : Jvm.MethodName)) ∈ lw_all := lw_g (lw_at lw_m11 160 rfl) rfl
theorem q2647 : (Jvm.Cond.selects "CribBooklet" ({ cls := "CribBooklet", name := "pieces", desc := "()I" } : Jvm.MethodName) ({ cls := "CribBooklet", name := "pieces", desc := "()I" } : Jvm.MethodName)) ∈ lw_all := lw_g (lw_at lw_m11 161 rfl) rfl
theorem q2648 : (Jvm.Cond.code ({ cls := "CribBooklet", name := "pieces", desc := "()I" } : Jvm.MethodName) prog_1_method_35_code (1 : Nat) (Option.some Jvm.ClassFile.FieldType.int)) ∈ lw_all := lw_g (lw_at lw_m11 162 rfl) rfl
theorem q2649 : (Jvm.Cond.methodLink "CribBooklet" (302 : Nat) ({ cls := "CribBooklet$Booklet", name := "pieces", desc := "()I" } : Jvm.MethodName)) ∈ lw_all := lw_g (lw_at lw_m11 163 rfl) rfl
theorem q2658 : (Jvm.Cond.instanceMethod ({ cls := "CribBooklet", name := "reading", desc := "(I)I" } : Jvm.MethodName)) ∈ lw_all := lw_g (lw_at lw_m11 172 rfl) rfl
theorem q2659 : (Jvm.Cond.selects "CribBooklet" ({ cls := "CribBooklet", name := "reading", desc := "(I)I" } : Jvm.MethodName) ({ cls := "CribBooklet", name := "reading", desc := "(I)I" } : Jvm.MethodName)) ∈ lw_all := lw_g (lw_at lw_m11 173 rfl) rfl
theorem q2660 : (Jvm.Cond.code ({ cls := "CribBooklet", name := "reading", desc := "(I)I" } : Jvm.MethodName) prog_1_method_36_code (4 : Nat) (Option.some Jvm.ClassFile.FieldType.int)) ∈ lw_all := lw_g (lw_at lw_m11 174 rfl) rfl
theorem q2661 : (Jvm.Cond.methodLink "CribBooklet" (305 : Nat) ({ cls := "CribBooklet$Booklet", name := "readsTo", desc := "()I" } : Jvm.MethodName)) ∈ lw_all := lw_g (lw_at lw_m11 175 rfl) rfl
theorem q2667 : (Jvm.Cond.instanceMethod ({ cls := "CribBooklet", name := "pageOf", desc := "(I)I" } : Jvm.MethodName)) ∈ lw_all := lw_g (lw_at lw_m11 181 rfl) rfl
theorem q2668 : (Jvm.Cond.selects "CribBooklet" ({ cls := "CribBooklet", name := "pageOf", desc := "(I)I" } : Jvm.MethodName) ({ cls := "CribBooklet", name := "pageOf", desc := "(I)I" } : Jvm.MethodName)) ∈ lw_all := lw_g (lw_at lw_m11 182 rfl) rfl
theorem q2669 : (Jvm.Cond.code ({ cls := "CribBooklet", name := "pageOf", desc := "(I)I" } : Jvm.MethodName) prog_1_method_37_code (4 : Nat) (Option.some Jvm.ClassFile.FieldType.int)) ∈ lw_all := lw_g (lw_at lw_m11 183 rfl) rfl
theorem q2671 : (Jvm.Cond.instanceMethod ({ cls := "CribBooklet", name := "note", desc := "(II)I" } : Jvm.MethodName)) ∈ lw_all := lw_g (lw_at lw_m11 185 rfl) rfl
theorem q2672 : (Jvm.Cond.selects "CribBooklet" ({ cls := "CribBooklet", name := "note", desc := "(II)I" } : Jvm.MethodName) ({ cls := "CribBooklet", name := "note", desc := "(II)I" } : Jvm.MethodName)) ∈ lw_all := lw_g (lw_at lw_m11 186 rfl) rfl
theorem q2673 : (Jvm.Cond.code ({ cls := "CribBooklet", name := "note", desc := "(II)I" } : Jvm.MethodName) prog_1_method_38_code (5 : Nat) (Option.some Jvm.ClassFile.FieldType.int)) ∈ lw_all := lw_g (lw_at lw_m11 187 rfl) rfl
theorem q2674 : (Jvm.Cond.methodLink "CribBooklet" (308 : Nat) ({ cls := "java/util/ArrayList", name := "get", desc := "(I)Ljava/lang/Object;" } : Jvm.MethodName)) ∈ lw_all := lw_g (lw_at lw_m11 188 rfl) rfl
theorem q2675 : (Jvm.Cond.classLink "CribBooklet" (312 : Nat) "CribBooklet$Note") ∈ lw_all := lw_g (lw_at lw_m11 189 rfl) rfl
theorem q2676 : (Jvm.Cond.methodLink "CribBooklet" (314 : Nat) ({ cls := "CribBooklet$Note", name := "subject", desc := "()I" } : Jvm.MethodName)) ∈ lw_all := lw_g (lw_at lw_m11 190 rfl) rfl
theorem q2677 : (Jvm.Cond.methodLink "CribBooklet" (317 : Nat) ({ cls := "CribBooklet$Note", name := "urgency", desc := "()I" } : Jvm.MethodName)) ∈ lw_all := lw_g (lw_at lw_m11 191 rfl) rfl
theorem q2678 : (Jvm.Cond.methodLink "CribBooklet" (320 : Nat) ({ cls := "CribBooklet$Note", name := "lines", desc := "()I" } : Jvm.MethodName)) ∈ lw_all := lw_g (lw_at lw_m11 192 rfl) rfl
theorem q2679 : (Jvm.Cond.methodLink "CribBooklet" (322 : Nat) ({ cls := "CribBooklet$Note", name := "isWhole", desc := "()Z" } : Jvm.MethodName)) ∈ lw_all := lw_g (lw_at lw_m11 193 rfl) rfl
theorem q2680 : (Jvm.Cond.methodLink "CribBooklet" (325 : Nat) ({ cls := "CribBooklet$Layout", name := "tells", desc := "(II)I" } : Jvm.MethodName)) ∈ lw_all := lw_g (lw_at lw_m11 194 rfl) rfl
theorem q2685 : (Jvm.Cond.instanceMethod ({ cls := "CribBooklet", name := "index", desc := "(II)I" } : Jvm.MethodName)) ∈ lw_all := lw_g (lw_at lw_m11 199 rfl) rfl
theorem q2686 : (Jvm.Cond.selects "CribBooklet" ({ cls := "CribBooklet", name := "index", desc := "(II)I" } : Jvm.MethodName) ({ cls := "CribBooklet", name := "index", desc := "(II)I" } : Jvm.MethodName)) ∈ lw_all := lw_g (lw_at lw_m11 200 rfl) rfl
theorem q2687 : (Jvm.Cond.code ({ cls := "CribBooklet", name := "index", desc := "(II)I" } : Jvm.MethodName) prog_1_method_39_code (7 : Nat) (Option.some Jvm.ClassFile.FieldType.int)) ∈ lw_all := lw_g (lw_at lw_m11 201 rfl) rfl
theorem q2688 : (Jvm.Cond.methodLink "CribBooklet" (331 : Nat) ({ cls := "java/util/TreeMap", name := "keySet", desc := "()Ljava/util/Set;" } : Jvm.MethodName)) ∈ lw_all := lw_g (lw_at lw_m11 202 rfl) rfl
theorem q2693 : (Jvm.Cond.interfaceEntry "CribBooklet" (337 : Nat)) ∈ lw_tbl := lw_at lw_m11 207 rfl
theorem q2694 : (Jvm.Cond.methodLink "CribBooklet" (337 : Nat) ({ cls := "java/util/Set", name := "iterator", desc := "()Ljava/util/Iterator;" } : Jvm.MethodName)) ∈ lw_all := lw_g (lw_at lw_m11 208 rfl) rfl
theorem q2701 : (Jvm.Cond.interfaceEntry "CribBooklet" (343 : Nat)) ∈ lw_tbl := lw_at lw_m11 215 rfl
theorem q2702 : (Jvm.Cond.methodLink "CribBooklet" (343 : Nat) ({ cls := "java/util/Iterator", name := "hasNext", desc := "()Z" } : Jvm.MethodName)) ∈ lw_all := lw_g (lw_at lw_m11 216 rfl) rfl
theorem q2703 : (Jvm.Cond.interfaceEntry "CribBooklet" (348 : Nat)) ∈ lw_tbl := lw_at lw_m11 217 rfl
theorem q2704 : (Jvm.Cond.methodLink "CribBooklet" (348 : Nat) ({ cls := "java/util/Iterator", name := "next", desc := "()Ljava/lang/Object;" } : Jvm.MethodName)) ∈ lw_all := lw_g (lw_at lw_m11 218 rfl) rfl
theorem q2705 : (Jvm.Cond.classLink "CribBooklet" (195 : Nat) "java/lang/Integer") ∈ lw_all := lw_g (lw_at lw_m11 219 rfl) rfl
theorem q2706 : (Jvm.Cond.methodLink "CribBooklet" (351 : Nat) ({ cls := "java/util/TreeMap", name := "get", desc := "(Ljava/lang/Object;)Ljava/lang/Object;" } : Jvm.MethodName)) ∈ lw_all := lw_g (lw_at lw_m11 220 rfl) rfl
theorem q2707 : (Jvm.Cond.methodLink "CribBooklet" (354 : Nat) ({ cls := "java/lang/Integer", name := "intValue", desc := "()I" } : Jvm.MethodName)) ∈ lw_all := lw_g (lw_at lw_m11 221 rfl) rfl
theorem q2709 : (Jvm.Cond.instanceMethod ({ cls := "CribBooklet", name := "effort", desc := "(I)I" } : Jvm.MethodName)) ∈ lw_all := lw_g (lw_at lw_m11 223 rfl) rfl
theorem q2710 : (Jvm.Cond.selects "CribBooklet" ({ cls := "CribBooklet", name := "effort", desc := "(I)I" } : Jvm.MethodName) ({ cls := "CribBooklet", name := "effort", desc := "(I)I" } : Jvm.MethodName)) ∈ lw_all := lw_g (lw_at lw_m11 224 rfl) rfl
theorem q2711 : (Jvm.Cond.code ({ cls := "CribBooklet", name := "effort", desc := "(I)I" } : Jvm.MethodName) prog_1_method_40_code (4 : Nat) (Option.some Jvm.ClassFile.FieldType.int)) ∈ lw_all := lw_g (lw_at lw_m11 225 rfl) rfl
theorem q2713 : (Jvm.Cond.instanceMethod ({ cls := "CribBooklet", name := "fitting", desc := "(I)I" } : Jvm.MethodName)) ∈ lw_all := lw_g (lw_at lw_m11 227 rfl) rfl
theorem q2714 : (Jvm.Cond.selects "CribBooklet" ({ cls := "CribBooklet", name := "fitting", desc := "(I)I" } : Jvm.MethodName) ({ cls := "CribBooklet", name := "fitting", desc := "(I)I" } : Jvm.MethodName)) ∈ lw_all := lw_g (lw_at lw_m11 228 rfl) rfl
theorem q2715 : (Jvm.Cond.code ({ cls := "CribBooklet", name := "fitting", desc := "(I)I" } : Jvm.MethodName) prog_1_method_43_code (8 : Nat) (Option.some Jvm.ClassFile.FieldType.int)) ∈ lw_all := lw_g (lw_at lw_m11 229 rfl) rfl
theorem q2716 : (Jvm.Cond.methodLink "CribBooklet" (376 : Nat) ({ cls := "CribBooklet", name := "rowsOf", desc := "(LCribBooklet$Sheet;)Ljava/util/ArrayList;" } : Jvm.MethodName)) ∈ lw_all := lw_g (lw_at lw_m11 230 rfl) rfl
theorem q2717 : (Jvm.Cond.static ({ cls := "CribBooklet", name := "rowsOf", desc := "(LCribBooklet$Sheet;)Ljava/util/ArrayList;" } : Jvm.MethodName)) ∈ lw_all := lw_g (lw_at lw_m11 231 rfl) rfl
theorem q2718 : (Jvm.Cond.code ({ cls := "CribBooklet", name := "rowsOf", desc := "(LCribBooklet$Sheet;)Ljava/util/ArrayList;" } : Jvm.MethodName) prog_1_method_41_code (2 : Nat) (Option.some (Jvm.ClassFile.FieldType.object "java/util/ArrayList"))) ∈ lw_all := lw_g (lw_at lw_m11 232 rfl) rfl
theorem q2719 : (Jvm.Cond.classLink "CribBooklet" (205 : Nat) "java/util/ArrayList") ∈ lw_all := lw_g (lw_at lw_m11 233 rfl) rfl
theorem q2720 : (Jvm.Cond.methodLink "CribBooklet" (360 : Nat) ({ cls := "java/util/ArrayList", name := "<init>", desc := "()V" } : Jvm.MethodName)) ∈ lw_all := lw_g (lw_at lw_m11 234 rfl) rfl
theorem q2721 : (Jvm.Cond.methodLink "CribBooklet" (361 : Nat) ({ cls := "CribBooklet", name := "addRows", desc := "(LCribBooklet$Sheet;ILjava/util/ArrayList;)V" } : Jvm.MethodName)) ∈ lw_all := lw_g (lw_at lw_m11 235 rfl) rfl
theorem q2722 : (Jvm.Cond.static ({ cls := "CribBooklet", name := "addRows", desc := "(LCribBooklet$Sheet;ILjava/util/ArrayList;)V" } : Jvm.MethodName)) ∈ lw_all := lw_g (lw_at lw_m11 236 rfl) rfl
theorem q2723 : (Jvm.Cond.code ({ cls := "CribBooklet", name := "addRows", desc := "(LCribBooklet$Sheet;ILjava/util/ArrayList;)V" } : Jvm.MethodName) prog_1_method_42_code (4 : Nat) (Option.none : Option Jvm.ClassFile.FieldType)) ∈ lw_all := lw_g (lw_at lw_m11 237 rfl) rfl
theorem q2724 : (Jvm.Cond.methodLink "CribBooklet" (365 : Nat) ({ cls := "CribBooklet$Sheet", name := "isRow", desc := "(I)Z" } : Jvm.MethodName)) ∈ lw_all := lw_g (lw_at lw_m11 238 rfl) rfl
theorem q2725 : (Jvm.Cond.methodLink "CribBooklet" (368 : Nat) ({ cls := "java/lang/Integer", name := "valueOf", desc := "(I)Ljava/lang/Integer;" } : Jvm.MethodName)) ∈ lw_all := lw_g (lw_at lw_m11 239 rfl) rfl
theorem q2726 : (Jvm.Cond.methodLink "CribBooklet" (372 : Nat) ({ cls := "java/util/ArrayList", name := "add", desc := "(Ljava/lang/Object;)Z" } : Jvm.MethodName)) ∈ lw_all := lw_g (lw_at lw_m12 0 rfl) rfl
theorem q2727 : (Jvm.Cond.methodLink "CribBooklet" (380 : Nat) ({ cls := "java/util/ArrayList", name := "iterator", desc := "()Ljava/util/Iterator;" } : Jvm.MethodName)) ∈ lw_all := lw_g (lw_at lw_m12 1 rfl) rfl
theorem q2728 : (Jvm.Cond.classLink "CribBooklet" (258 : Nat) "CribBooklet$Booklet") ∈ lw_all := lw_g (lw_at lw_m12 2 rfl) rfl
theorem q2729 : (Jvm.Cond.methodLink "CribBooklet" (381 : Nat) ({ cls := "CribBooklet$Sheet", name := "foldedBy", desc := "(I)LCribBooklet$Folding;" } : Jvm.MethodName)) ∈ lw_all := lw_g (lw_at lw_m12 3 rfl) rfl
theorem q2730 : (Jvm.Cond.methodLink "CribBooklet" (385 : Nat) ({ cls := "CribBooklet$Booklet", name := "<init>", desc := "(LCribBooklet$Sheet;LCribBooklet$Folding;)V" } : Jvm.MethodName)) ∈ lw_all := lw_g (lw_at lw_m12 4 rfl) rfl
theorem q2731 : (Jvm.Cond.methodLink "CribBooklet" (388 : Nat) ({ cls := "CribBooklet$Booklet", name := "showsAll", desc := "()Z" } : Jvm.MethodName)) ∈ lw_all := lw_g (lw_at lw_m12 5 rfl) rfl
theorem q2753 : (Jvm.Cond.instanceMethod ({ cls := "CribBooklet", name := "readsBy", desc := "(I)I" } : Jvm.MethodName)) ∈ lw_all := lw_g (lw_at lw_m12 27 rfl) rfl
theorem q2754 : (Jvm.Cond.selects "CribBooklet" ({ cls := "CribBooklet", name := "readsBy", desc := "(I)I" } : Jvm.MethodName) ({ cls := "CribBooklet", name := "readsBy", desc := "(I)I" } : Jvm.MethodName)) ∈ lw_all := lw_g (lw_at lw_m12 28 rfl) rfl
theorem q2755 : (Jvm.Cond.code ({ cls := "CribBooklet", name := "readsBy", desc := "(I)I" } : Jvm.MethodName) prog_1_method_44_code (3 : Nat) (Option.some Jvm.ClassFile.FieldType.int)) ∈ lw_all := lw_g (lw_at lw_m12 29 rfl) rfl
theorem q2756 : (Jvm.Cond.methodLink "CribBooklet" (391 : Nat) ({ cls := "CribBooklet$Booklet", name := "ownNumbers", desc := "()I" } : Jvm.MethodName)) ∈ lw_all := lw_g (lw_at lw_m12 30 rfl) rfl
theorem q2761 : (Jvm.Cond.instanceMethod ({ cls := "CribBooklet", name := "cutsFor", desc := "(I)I" } : Jvm.MethodName)) ∈ lw_all := lw_g (lw_at lw_m12 35 rfl) rfl
theorem q2762 : (Jvm.Cond.selects "CribBooklet" ({ cls := "CribBooklet", name := "cutsFor", desc := "(I)I" } : Jvm.MethodName) ({ cls := "CribBooklet", name := "cutsFor", desc := "(I)I" } : Jvm.MethodName)) ∈ lw_all := lw_g (lw_at lw_m12 36 rfl) rfl
theorem q2763 : (Jvm.Cond.code ({ cls := "CribBooklet", name := "cutsFor", desc := "(I)I" } : Jvm.MethodName) prog_1_method_45_code (3 : Nat) (Option.some Jvm.ClassFile.FieldType.int)) ∈ lw_all := lw_g (lw_at lw_m12 37 rfl) rfl
theorem q2764 : (Jvm.Cond.methodLink "CribBooklet" (394 : Nat) ({ cls := "CribBooklet$Booklet", name := "otherEdges", desc := "()I" } : Jvm.MethodName)) ∈ lw_all := lw_g (lw_at lw_m12 38 rfl) rfl
theorem q2769 : (Jvm.Cond.instanceMethod ({ cls := "CribBooklet", name := "best", desc := "(I)I" } : Jvm.MethodName)) ∈ lw_all := lw_g (lw_at lw_m12 43 rfl) rfl
theorem q2770 : (Jvm.Cond.selects "CribBooklet" ({ cls := "CribBooklet", name := "best", desc := "(I)I" } : Jvm.MethodName) ({ cls := "CribBooklet", name := "best", desc := "(I)I" } : Jvm.MethodName)) ∈ lw_all := lw_g (lw_at lw_m12 44 rfl) rfl
theorem q2771 : (Jvm.Cond.code ({ cls := "CribBooklet", name := "best", desc := "(I)I" } : Jvm.MethodName) prog_1_method_46_code (5 : Nat) (Option.some Jvm.ClassFile.FieldType.int)) ∈ lw_all := lw_g (lw_at lw_m12 45 rfl) rfl
theorem q2772 : (Jvm.Cond.classLink "CribBooklet" (397 : Nat) "java/util/TreeSet") ∈ lw_all := lw_g (lw_at lw_m12 46 rfl) rfl
theorem q2774 : (Jvm.Cond.methodLink "CribBooklet" (399 : Nat) ({ cls := "java/util/TreeSet", name := "<init>", desc := "()V" } : Jvm.MethodName)) ∈ lw_all := lw_g (lw_at lw_m12 48 rfl) rfl
theorem q2787 : (Jvm.Cond.classLink "CribBooklet" (400 : Nat) "CribBooklet$Choice") ∈ lw_all := lw_g (lw_at lw_m12 61 rfl) rfl
theorem q2789 : (Jvm.Cond.methodLink "CribBooklet" (402 : Nat) ({ cls := "CribBooklet$Choice", name := "<init>", desc := "(LCribBooklet$Sheet;I)V" } : Jvm.MethodName)) ∈ lw_all := lw_g (lw_at lw_m12 63 rfl) rfl
theorem q2800 : (Jvm.Cond.fieldLinkNest "CribBooklet" (407 : Nat) "CribBooklet$Choice" "row" "I" "CribBooklet") ∈ lw_tbl := lw_at lw_m12 74 rfl
theorem q2802 : (Jvm.Cond.fieldLinkNest "CribBooklet" (410 : Nat) "CribBooklet$Choice" "cuts" "I" "CribBooklet") ∈ lw_tbl := lw_at lw_m12 76 rfl
theorem q2804 : (Jvm.Cond.fieldLinkNest "CribBooklet" (411 : Nat) "CribBooklet$Choice" "pages" "I" "CribBooklet") ∈ lw_tbl := lw_at lw_m12 78 rfl
theorem q2812 : (Jvm.Cond.methodLink "CribBooklet" (405 : Nat) ({ cls := "java/util/TreeSet", name := "add", desc := "(Ljava/lang/Object;)Z" } : Jvm.MethodName)) ∈ lw_all := lw_g (lw_at lw_m12 86 rfl) rfl
theorem q2824 : (Jvm.Cond.methodLink "CribBooklet" (406 : Nat) ({ cls := "java/util/TreeSet", name := "iterator", desc := "()Ljava/util/Iterator;" } : Jvm.MethodName)) ∈ lw_all := lw_g (lw_at lw_m12 98 rfl) rfl
theorem q3332 : (Jvm.Cond.castable "CribBooklet" "java/lang/Object") ∈ lw_tbl := lw_at lw_m14 126 rfl
theorem in_X0 : ∀ w ∈ wsX00, w ∈ lw_all := lw_in wsX00 [371, 373, 375] (by decide +kernel) (by decide +kernel)

end
section
/-! CribBooklet$Desk -/
set_option maxRecDepth 100000
def RX1 : String := "CribBooklet$Desk"
def TX1 : u_T := fun k => match k with
  | 0 => ("CribBooklet$Desk", "sheet", "LCribBooklet$Sheet;", false)
  | _ => ("CribBooklet$Desk", "slots", "[LCribBooklet$Sheet;", true)
def tyX1 : Nat → FieldType := fun k => match k with
  | 0 => .object "CribBooklet$Sheet"
  | _ => .array (.object "CribBooklet$Sheet")
abbrev wsX10 : List Cond := u_ws RX1 TX1 2
theorem nmX1 : ∀ a, a < 2 → ∀ b, b < 2 → a ≠ b → (TX1 a).2.1 ≠ (TX1 b).2.1 := by decide +kernel
theorem tyX1_ok : ∀ k, k < 2 → parseFieldDescriptor (TX1 k).2.2.1 = some (tyX1 k) := by decide +kernel
abbrev cX1_init : ByteArray := prog_8_method_1_code
def yX1_init : MethodName := ⟨RX1, "<init>", "()V"⟩
def dkwX1_init_0 : List UInt8 := [42, 183, 0, 1, 42, 187, 0, 7, 89, 183, 0, 9, 181, 0, 10, 42, 5, 189, 0, 7, 181, 0, 16, 177]
abbrev dktX1_init_0 : List UInt8 := dkwX1_init_0 ++ []
theorem dksX1_init_0 : cX1_init.data.toList.drop 0 = dktX1_init_0 := by decide +kernel
theorem dX1_init_0 : decode cX1_init 0 = .ok (.aload_n 0, 1) := dk_42 (dk_at dksX1_init_0 0 rfl rfl)
theorem dX1_init_1 : decode cX1_init 1 = .ok (.invokespecial 1, 3) := dk_183 0 1 (dk_at dksX1_init_0 1 rfl rfl)
theorem dX1_init_4 : decode cX1_init 4 = .ok (.aload_n 0, 1) := dk_42 (dk_at dksX1_init_0 4 rfl rfl)
theorem dX1_init_5 : decode cX1_init 5 = .ok (.new 7, 3) := dk_187 0 7 (dk_at dksX1_init_0 5 rfl rfl)
theorem dX1_init_8 : decode cX1_init 8 = .ok (.dup, 1) := dk_89 (dk_at dksX1_init_0 8 rfl rfl)
theorem dX1_init_9 : decode cX1_init 9 = .ok (.invokespecial 9, 3) := dk_183 0 9 (dk_at dksX1_init_0 9 rfl rfl)
theorem dX1_init_12 : decode cX1_init 12 = .ok (.putfield 10, 3) := dk_181 0 10 (dk_at dksX1_init_0 12 rfl rfl)
theorem dX1_init_15 : decode cX1_init 15 = .ok (.aload_n 0, 1) := dk_42 (dk_at dksX1_init_0 15 rfl rfl)
theorem dX1_init_16 : decode cX1_init 16 = .ok (.iconst 2, 1) := dk_5 (dk_at dksX1_init_0 16 rfl rfl)
theorem dX1_init_17 : decode cX1_init 17 = .ok (.anewarray 7, 3) := dk_189 0 7 (dk_at dksX1_init_0 17 rfl rfl)
theorem dX1_init_20 : decode cX1_init 20 = .ok (.putfield 16, 3) := dk_181 0 16 (dk_at dksX1_init_0 20 rfl rfl)
theorem dX1_init_23 : decode cX1_init 23 = .ok (.return_, 1) := dk_177 (dk_at dksX1_init_0 23 rfl rfl)
abbrev cX1_copy : ByteArray := prog_8_method_2_code
def yX1_copy : MethodName := ⟨RX1, "copy", "()LCribBooklet$Desk;"⟩
def dkwX1_copy_1 : List UInt8 := [42, 180, 0, 16, 3, 50, 83, 43, 180, 0, 16, 4, 42, 180, 0, 16, 4, 50, 83, 43, 176]
abbrev dktX1_copy_1 : List UInt8 := dkwX1_copy_1 ++ []
def dkwX1_copy_0 : List UInt8 := [187, 0, 11, 89, 183, 0, 20, 76, 43, 42, 180, 0, 10, 182, 0, 21, 181, 0, 10, 43, 180, 0, 16, 3]
abbrev dktX1_copy_0 : List UInt8 := dkwX1_copy_0 ++ dktX1_copy_1
theorem dksX1_copy_0 : cX1_copy.data.toList.drop 0 = dktX1_copy_0 := by decide +kernel
theorem dksX1_copy_1 : cX1_copy.data.toList.drop 24 = dktX1_copy_1 := dk_seg dksX1_copy_0 24 rfl rfl
theorem dX1_copy_0 : decode cX1_copy 0 = .ok (.new 11, 3) := dk_187 0 11 (dk_at dksX1_copy_0 0 rfl rfl)
theorem dX1_copy_3 : decode cX1_copy 3 = .ok (.dup, 1) := dk_89 (dk_at dksX1_copy_0 3 rfl rfl)
theorem dX1_copy_4 : decode cX1_copy 4 = .ok (.invokespecial 20, 3) := dk_183 0 20 (dk_at dksX1_copy_0 4 rfl rfl)
theorem dX1_copy_7 : decode cX1_copy 7 = .ok (.astore_n 1, 1) := dk_76 (dk_at dksX1_copy_0 7 rfl rfl)
theorem dX1_copy_8 : decode cX1_copy 8 = .ok (.aload_n 1, 1) := dk_43 (dk_at dksX1_copy_0 8 rfl rfl)
theorem dX1_copy_9 : decode cX1_copy 9 = .ok (.aload_n 0, 1) := dk_42 (dk_at dksX1_copy_0 9 rfl rfl)
theorem dX1_copy_10 : decode cX1_copy 10 = .ok (.getfield 10, 3) := dk_180 0 10 (dk_at dksX1_copy_0 10 rfl rfl)
theorem dX1_copy_13 : decode cX1_copy 13 = .ok (.invokevirtual 21, 3) := dk_182 0 21 (dk_at dksX1_copy_0 13 rfl rfl)
theorem dX1_copy_16 : decode cX1_copy 16 = .ok (.putfield 10, 3) := dk_181 0 10 (dk_at dksX1_copy_0 16 rfl rfl)
theorem dX1_copy_19 : decode cX1_copy 19 = .ok (.aload_n 1, 1) := dk_43 (dk_at dksX1_copy_0 19 rfl rfl)
theorem dX1_copy_20 : decode cX1_copy 20 = .ok (.getfield 16, 3) := dk_180 0 16 (dk_at dksX1_copy_0 20 rfl rfl)
theorem dX1_copy_23 : decode cX1_copy 23 = .ok (.iconst 0, 1) := dk_3 (dk_at dksX1_copy_0 23 rfl rfl)
theorem dX1_copy_24 : decode cX1_copy 24 = .ok (.aload_n 0, 1) := dk_42 (dk_at dksX1_copy_1 0 rfl rfl)
theorem dX1_copy_25 : decode cX1_copy 25 = .ok (.getfield 16, 3) := dk_180 0 16 (dk_at dksX1_copy_1 1 rfl rfl)
theorem dX1_copy_28 : decode cX1_copy 28 = .ok (.iconst 0, 1) := dk_3 (dk_at dksX1_copy_1 4 rfl rfl)
theorem dX1_copy_29 : decode cX1_copy 29 = .ok (.aaload, 1) := dk_50 (dk_at dksX1_copy_1 5 rfl rfl)
theorem dX1_copy_30 : decode cX1_copy 30 = .ok (.aastore, 1) := dk_83 (dk_at dksX1_copy_1 6 rfl rfl)
theorem dX1_copy_31 : decode cX1_copy 31 = .ok (.aload_n 1, 1) := dk_43 (dk_at dksX1_copy_1 7 rfl rfl)
theorem dX1_copy_32 : decode cX1_copy 32 = .ok (.getfield 16, 3) := dk_180 0 16 (dk_at dksX1_copy_1 8 rfl rfl)
theorem dX1_copy_35 : decode cX1_copy 35 = .ok (.iconst 1, 1) := dk_4 (dk_at dksX1_copy_1 11 rfl rfl)
theorem dX1_copy_36 : decode cX1_copy 36 = .ok (.aload_n 0, 1) := dk_42 (dk_at dksX1_copy_1 12 rfl rfl)
theorem dX1_copy_37 : decode cX1_copy 37 = .ok (.getfield 16, 3) := dk_180 0 16 (dk_at dksX1_copy_1 13 rfl rfl)
theorem dX1_copy_40 : decode cX1_copy 40 = .ok (.iconst 1, 1) := dk_4 (dk_at dksX1_copy_1 16 rfl rfl)
theorem dX1_copy_41 : decode cX1_copy 41 = .ok (.aaload, 1) := dk_50 (dk_at dksX1_copy_1 17 rfl rfl)
theorem dX1_copy_42 : decode cX1_copy 42 = .ok (.aastore, 1) := dk_83 (dk_at dksX1_copy_1 18 rfl rfl)
theorem dX1_copy_43 : decode cX1_copy 43 = .ok (.aload_n 1, 1) := dk_43 (dk_at dksX1_copy_1 19 rfl rfl)
theorem dX1_copy_44 : decode cX1_copy 44 = .ok (.areturn, 1) := dk_176 (dk_at dksX1_copy_1 20 rfl rfl)
abbrev cX1_snapshots : ByteArray := prog_8_method_3_code
def yX1_snapshots : MethodName := ⟨RX1, "snapshots", "()I"⟩
def dkwX1_snapshots_1 : List UInt8 := [167, 0, 4, 4, 96, 172]
abbrev dktX1_snapshots_1 : List UInt8 := dkwX1_snapshots_1 ++ []
def dkwX1_snapshots_0 : List UInt8 := [42, 180, 0, 16, 3, 50, 199, 0, 7, 3, 167, 0, 4, 4, 42, 180, 0, 16, 4, 50, 199, 0, 7, 3]
abbrev dktX1_snapshots_0 : List UInt8 := dkwX1_snapshots_0 ++ dktX1_snapshots_1
theorem dksX1_snapshots_0 : cX1_snapshots.data.toList.drop 0 = dktX1_snapshots_0 := by decide +kernel
theorem dksX1_snapshots_1 : cX1_snapshots.data.toList.drop 24 = dktX1_snapshots_1 := dk_seg dksX1_snapshots_0 24 rfl rfl
theorem dX1_snapshots_0 : decode cX1_snapshots 0 = .ok (.aload_n 0, 1) := dk_42 (dk_at dksX1_snapshots_0 0 rfl rfl)
theorem dX1_snapshots_1 : decode cX1_snapshots 1 = .ok (.getfield 16, 3) := dk_180 0 16 (dk_at dksX1_snapshots_0 1 rfl rfl)
theorem dX1_snapshots_4 : decode cX1_snapshots 4 = .ok (.iconst 0, 1) := dk_3 (dk_at dksX1_snapshots_0 4 rfl rfl)
theorem dX1_snapshots_5 : decode cX1_snapshots 5 = .ok (.aaload, 1) := dk_50 (dk_at dksX1_snapshots_0 5 rfl rfl)
theorem dX1_snapshots_6 : decode cX1_snapshots 6 = .ok (.ifnonnull 7, 3) := dk_199 0 7 (dk_at dksX1_snapshots_0 6 rfl rfl)
theorem dX1_snapshots_9 : decode cX1_snapshots 9 = .ok (.iconst 0, 1) := dk_3 (dk_at dksX1_snapshots_0 9 rfl rfl)
theorem dX1_snapshots_10 : decode cX1_snapshots 10 = .ok (.goto 4, 3) := dk_167 0 4 (dk_at dksX1_snapshots_0 10 rfl rfl)
theorem dX1_snapshots_13 : decode cX1_snapshots 13 = .ok (.iconst 1, 1) := dk_4 (dk_at dksX1_snapshots_0 13 rfl rfl)
theorem dX1_snapshots_14 : decode cX1_snapshots 14 = .ok (.aload_n 0, 1) := dk_42 (dk_at dksX1_snapshots_0 14 rfl rfl)
theorem dX1_snapshots_15 : decode cX1_snapshots 15 = .ok (.getfield 16, 3) := dk_180 0 16 (dk_at dksX1_snapshots_0 15 rfl rfl)
theorem dX1_snapshots_18 : decode cX1_snapshots 18 = .ok (.iconst 1, 1) := dk_4 (dk_at dksX1_snapshots_0 18 rfl rfl)
theorem dX1_snapshots_19 : decode cX1_snapshots 19 = .ok (.aaload, 1) := dk_50 (dk_at dksX1_snapshots_0 19 rfl rfl)
theorem dX1_snapshots_20 : decode cX1_snapshots 20 = .ok (.ifnonnull 7, 3) := dk_199 0 7 (dk_at dksX1_snapshots_0 20 rfl rfl)
theorem dX1_snapshots_23 : decode cX1_snapshots 23 = .ok (.iconst 0, 1) := dk_3 (dk_at dksX1_snapshots_0 23 rfl rfl)
theorem dX1_snapshots_24 : decode cX1_snapshots 24 = .ok (.goto 4, 3) := dk_167 0 4 (dk_at dksX1_snapshots_1 0 rfl rfl)
theorem dX1_snapshots_27 : decode cX1_snapshots 27 = .ok (.iconst 1, 1) := dk_4 (dk_at dksX1_snapshots_1 3 rfl rfl)
theorem dX1_snapshots_28 : decode cX1_snapshots 28 = .ok (.iadd, 1) := dk_96 (dk_at dksX1_snapshots_1 4 rfl rfl)
theorem dX1_snapshots_29 : decode cX1_snapshots 29 = .ok (.ireturn, 1) := dk_172 (dk_at dksX1_snapshots_1 5 rfl rfl)
theorem q88 : (Jvm.Cond.initialized "CribBooklet$Desk") ∈ lw_all := lw_g (lw_at lw_m1 2 rfl) rfl
theorem q164 : (Jvm.Cond.instantiable "CribBooklet$Desk" (2 : Nat)) ∈ lw_all := lw_g (lw_at lw_m1 78 rfl) rfl
theorem q166 : (Jvm.Cond.instanceMethod ({ cls := "CribBooklet$Desk", name := "<init>", desc := "()V" } : Jvm.MethodName)) ∈ lw_all := lw_g (lw_at lw_m1 80 rfl) rfl
theorem q167 : (Jvm.Cond.code ({ cls := "CribBooklet$Desk", name := "<init>", desc := "()V" } : Jvm.MethodName) prog_8_method_1_code (1 : Nat) (Option.none : Option Jvm.ClassFile.FieldType)) ∈ lw_all := lw_g (lw_at lw_m1 81 rfl) rfl
theorem q168 : (Jvm.Cond.methodLink "CribBooklet$Desk" (1 : Nat) ({ cls := "java/lang/Object", name := "<init>", desc := "()V" } : Jvm.MethodName)) ∈ lw_all := lw_g (lw_at lw_m1 82 rfl) rfl
theorem q169 : (Jvm.Cond.classLink "CribBooklet$Desk" (7 : Nat) "CribBooklet$Sheet") ∈ lw_all := lw_g (lw_at lw_m1 83 rfl) rfl
theorem q171 : (Jvm.Cond.methodLink "CribBooklet$Desk" (9 : Nat) ({ cls := "CribBooklet$Sheet", name := "<init>", desc := "()V" } : Jvm.MethodName)) ∈ lw_all := lw_g (lw_at lw_m1 85 rfl) rfl
theorem q307 : (Jvm.Cond.fieldLink "CribBooklet$Desk" (10 : Nat) "CribBooklet$Desk" "sheet" "LCribBooklet$Sheet;") ∈ lw_all := lw_g (lw_at lw_m1 221 rfl) rfl
theorem q309 : (Jvm.Cond.fieldLink "CribBooklet$Desk" (16 : Nat) "CribBooklet$Desk" "slots" "[LCribBooklet$Sheet;") ∈ lw_all := lw_g (lw_at lw_m1 223 rfl) rfl
theorem q311 : (Jvm.Cond.lays "CribBooklet$Desk" "CribBooklet$Desk" "sheet" "LCribBooklet$Sheet;") ∈ lw_all := lw_g (lw_at lw_m1 225 rfl) rfl
theorem q312 : (Jvm.Cond.soleField "CribBooklet$Desk" "sheet") ∈ lw_all := lw_g (lw_at lw_m1 226 rfl) rfl
theorem q313 : (Jvm.Cond.laysFinal "CribBooklet$Desk" "CribBooklet$Desk" "slots" "[LCribBooklet$Sheet;") ∈ lw_all := lw_g (lw_at lw_m1 227 rfl) rfl
theorem q314 : (Jvm.Cond.soleField "CribBooklet$Desk" "slots") ∈ lw_all := lw_g (lw_at lw_m1 228 rfl) rfl
theorem q315 : (Jvm.Cond.superclass "CribBooklet$Desk" "java/lang/Object") ∈ lw_all := lw_g (lw_at lw_m1 229 rfl) rfl
theorem q642 : (Jvm.Cond.instanceMethod ({ cls := "CribBooklet$Desk", name := "copy", desc := "()LCribBooklet$Desk;" } : Jvm.MethodName)) ∈ lw_all := lw_g (lw_at lw_m3 76 rfl) rfl
theorem q643 : (Jvm.Cond.selects "CribBooklet$Desk" ({ cls := "CribBooklet$Desk", name := "copy", desc := "()LCribBooklet$Desk;" } : Jvm.MethodName) ({ cls := "CribBooklet$Desk", name := "copy", desc := "()LCribBooklet$Desk;" } : Jvm.MethodName)) ∈ lw_all := lw_g (lw_at lw_m3 77 rfl) rfl
theorem q644 : (Jvm.Cond.code ({ cls := "CribBooklet$Desk", name := "copy", desc := "()LCribBooklet$Desk;" } : Jvm.MethodName) prog_8_method_2_code (2 : Nat) (Option.some (Jvm.ClassFile.FieldType.object "CribBooklet$Desk"))) ∈ lw_all := lw_g (lw_at lw_m3 78 rfl) rfl
theorem q645 : (Jvm.Cond.classLink "CribBooklet$Desk" (11 : Nat) "CribBooklet$Desk") ∈ lw_all := lw_g (lw_at lw_m3 79 rfl) rfl
theorem q646 : (Jvm.Cond.methodLink "CribBooklet$Desk" (20 : Nat) ({ cls := "CribBooklet$Desk", name := "<init>", desc := "()V" } : Jvm.MethodName)) ∈ lw_all := lw_g (lw_at lw_m3 80 rfl) rfl
theorem q647 : (Jvm.Cond.methodLink "CribBooklet$Desk" (21 : Nat) ({ cls := "CribBooklet$Sheet", name := "copy", desc := "()LCribBooklet$Sheet;" } : Jvm.MethodName)) ∈ lw_all := lw_g (lw_at lw_m3 81 rfl) rfl
theorem q703 : (Jvm.Cond.selects "CribBooklet$Desk" ({ cls := "java/lang/Object", name := "getClass", desc := "()Ljava/lang/Class;" } : Jvm.MethodName) ({ cls := "java/lang/Object", name := "getClass", desc := "()Ljava/lang/Class;" } : Jvm.MethodName)) ∈ lw_all := lw_g (lw_at lw_m3 137 rfl) rfl
theorem q2022 : (Jvm.Cond.instanceMethod ({ cls := "CribBooklet$Desk", name := "snapshots", desc := "()I" } : Jvm.MethodName)) ∈ lw_all := lw_g (lw_at lw_m9 16 rfl) rfl
theorem q2023 : (Jvm.Cond.selects "CribBooklet$Desk" ({ cls := "CribBooklet$Desk", name := "snapshots", desc := "()I" } : Jvm.MethodName) ({ cls := "CribBooklet$Desk", name := "snapshots", desc := "()I" } : Jvm.MethodName)) ∈ lw_all := lw_g (lw_at lw_m9 17 rfl) rfl
theorem q2024 : (Jvm.Cond.code ({ cls := "CribBooklet$Desk", name := "snapshots", desc := "()I" } : Jvm.MethodName) prog_8_method_3_code (1 : Nat) (Option.some Jvm.ClassFile.FieldType.int)) ∈ lw_all := lw_g (lw_at lw_m9 18 rfl) rfl
theorem q3333 : (Jvm.Cond.castable "CribBooklet$Desk" "java/lang/Object") ∈ lw_tbl := lw_at lw_m14 127 rfl
theorem in_X1 : ∀ w ∈ wsX10, w ∈ lw_all := lw_in wsX10 [311, 313] (by decide +kernel) (by decide +kernel)

end
section
/-! CribBooklet$Sheet -/
set_option maxRecDepth 100000
def RX2 : String := "CribBooklet$Sheet"
def TX2 : u_T := fun k => match k with
  | 0 => ("CribBooklet$Sheet", "rows", "I", false)
  | 1 => ("CribBooklet$Sheet", "columns", "I", false)
  | 2 => ("CribBooklet$Sheet", "folds", "[I", true)
  | 3 => ("CribBooklet$Sheet", "foldMany", "I", false)
  | 4 => ("CribBooklet$Sheet", "numbers", "[I", true)
  | 5 => ("CribBooklet$Sheet", "turned", "[Z", true)
  | 6 => ("CribBooklet$Sheet", "spine", "I", false)
  | 7 => ("CribBooklet$Sheet", "cuts", "I", false)
  | 8 => ("CribBooklet$Sheet", "staples", "I", false)
  | 9 => ("CribBooklet$Sheet", "legs", "I", false)
  | 10 => ("CribBooklet$Sheet", "lines", "I", false)
  | 11 => ("CribBooklet$Sheet", "sights", "Ljava/util/ArrayList;", true)
  | 12 => ("CribBooklet$Sheet", "notes", "Ljava/util/ArrayList;", true)
  | _ => ("CribBooklet$Sheet", "efforts", "[I", true)
def tyX2 : Nat → FieldType := fun k => match k with
  | 0 => .int
  | 1 => .int
  | 2 => .array .int
  | 3 => .int
  | 4 => .array .int
  | 5 => .array .boolean
  | 6 => .int
  | 7 => .int
  | 8 => .int
  | 9 => .int
  | 10 => .int
  | 11 => .object "java/util/ArrayList"
  | 12 => .object "java/util/ArrayList"
  | _ => .array .int
abbrev wsX20 : List Cond := u_ws RX2 TX2 14
set_option maxRecDepth 100000 in
theorem nmX2 : ∀ a, a < 14 → ∀ b, b < 14 → a ≠ b → (TX2 a).2.1 ≠ (TX2 b).2.1 := by decide +kernel
set_option maxRecDepth 100000 in
theorem tyX2_ok : ∀ k, k < 14 → parseFieldDescriptor (TX2 k).2.2.1 = some (tyX2 k) := by decide +kernel
abbrev cX2_init : ByteArray := prog_26_method_1_code
def yX2_init : MethodName := ⟨RX2, "<init>", "()V"⟩
def dkwX2_init_3 : List UInt8 := [188, 10, 181, 0, 45, 42, 182, 0, 48, 177]
abbrev dktX2_init_3 : List UInt8 := dkwX2_init_3 ++ []
def dkwX2_init_2 : List UInt8 := [187, 0, 35, 89, 183, 0, 37, 181, 0, 38, 42, 187, 0, 35, 89, 183, 0, 37, 181, 0, 42, 42, 7]
abbrev dktX2_init_2 : List UInt8 := dkwX2_init_2 ++ dktX2_init_3
def dkwX2_init_1 : List UInt8 := [188, 10, 181, 0, 22, 42, 16, 32, 188, 4, 181, 0, 25, 42, 7, 181, 0, 29, 42, 8, 181, 0, 32, 42]
abbrev dktX2_init_1 : List UInt8 := dkwX2_init_1 ++ dktX2_init_2
def dkwX2_init_0 : List UInt8 := [42, 183, 0, 3, 42, 5, 181, 0, 9, 42, 7, 181, 0, 15, 42, 7, 188, 10, 181, 0, 18, 42, 16, 32]
abbrev dktX2_init_0 : List UInt8 := dkwX2_init_0 ++ dktX2_init_1
theorem dksX2_init_0 : cX2_init.data.toList.drop 0 = dktX2_init_0 := by decide +kernel
theorem dksX2_init_1 : cX2_init.data.toList.drop 24 = dktX2_init_1 := dk_seg dksX2_init_0 24 rfl rfl
theorem dksX2_init_2 : cX2_init.data.toList.drop 48 = dktX2_init_2 := dk_seg dksX2_init_1 24 rfl rfl
theorem dksX2_init_3 : cX2_init.data.toList.drop 71 = dktX2_init_3 := dk_seg dksX2_init_2 23 rfl rfl
theorem dX2_init_0 : decode cX2_init 0 = .ok (.aload_n 0, 1) := dk_42 (dk_at dksX2_init_0 0 rfl rfl)
theorem dX2_init_1 : decode cX2_init 1 = .ok (.invokespecial 3, 3) := dk_183 0 3 (dk_at dksX2_init_0 1 rfl rfl)
theorem dX2_init_4 : decode cX2_init 4 = .ok (.aload_n 0, 1) := dk_42 (dk_at dksX2_init_0 4 rfl rfl)
theorem dX2_init_5 : decode cX2_init 5 = .ok (.iconst 2, 1) := dk_5 (dk_at dksX2_init_0 5 rfl rfl)
theorem dX2_init_6 : decode cX2_init 6 = .ok (.putfield 9, 3) := dk_181 0 9 (dk_at dksX2_init_0 6 rfl rfl)
theorem dX2_init_9 : decode cX2_init 9 = .ok (.aload_n 0, 1) := dk_42 (dk_at dksX2_init_0 9 rfl rfl)
theorem dX2_init_10 : decode cX2_init 10 = .ok (.iconst 4, 1) := dk_7 (dk_at dksX2_init_0 10 rfl rfl)
theorem dX2_init_11 : decode cX2_init 11 = .ok (.putfield 15, 3) := dk_181 0 15 (dk_at dksX2_init_0 11 rfl rfl)
theorem dX2_init_14 : decode cX2_init 14 = .ok (.aload_n 0, 1) := dk_42 (dk_at dksX2_init_0 14 rfl rfl)
theorem dX2_init_15 : decode cX2_init 15 = .ok (.iconst 4, 1) := dk_7 (dk_at dksX2_init_0 15 rfl rfl)
theorem dX2_init_16 : decode cX2_init 16 = .ok (.newarray .int, 2) := dk_188_10 (dk_at dksX2_init_0 16 rfl rfl)
theorem dX2_init_18 : decode cX2_init 18 = .ok (.putfield 18, 3) := dk_181 0 18 (dk_at dksX2_init_0 18 rfl rfl)
theorem dX2_init_21 : decode cX2_init 21 = .ok (.aload_n 0, 1) := dk_42 (dk_at dksX2_init_0 21 rfl rfl)
theorem dX2_init_22 : decode cX2_init 22 = .ok (.bipush 32, 2) := dk_16 32 (dk_at dksX2_init_0 22 rfl rfl)
theorem dX2_init_24 : decode cX2_init 24 = .ok (.newarray .int, 2) := dk_188_10 (dk_at dksX2_init_1 0 rfl rfl)
theorem dX2_init_26 : decode cX2_init 26 = .ok (.putfield 22, 3) := dk_181 0 22 (dk_at dksX2_init_1 2 rfl rfl)
theorem dX2_init_29 : decode cX2_init 29 = .ok (.aload_n 0, 1) := dk_42 (dk_at dksX2_init_1 5 rfl rfl)
theorem dX2_init_30 : decode cX2_init 30 = .ok (.bipush 32, 2) := dk_16 32 (dk_at dksX2_init_1 6 rfl rfl)
theorem dX2_init_32 : decode cX2_init 32 = .ok (.newarray .boolean, 2) := dk_188_4 (dk_at dksX2_init_1 8 rfl rfl)
theorem dX2_init_34 : decode cX2_init 34 = .ok (.putfield 25, 3) := dk_181 0 25 (dk_at dksX2_init_1 10 rfl rfl)
theorem dX2_init_37 : decode cX2_init 37 = .ok (.aload_n 0, 1) := dk_42 (dk_at dksX2_init_1 13 rfl rfl)
theorem dX2_init_38 : decode cX2_init 38 = .ok (.iconst 4, 1) := dk_7 (dk_at dksX2_init_1 14 rfl rfl)
theorem dX2_init_39 : decode cX2_init 39 = .ok (.putfield 29, 3) := dk_181 0 29 (dk_at dksX2_init_1 15 rfl rfl)
theorem dX2_init_42 : decode cX2_init 42 = .ok (.aload_n 0, 1) := dk_42 (dk_at dksX2_init_1 18 rfl rfl)
theorem dX2_init_43 : decode cX2_init 43 = .ok (.iconst 5, 1) := dk_8 (dk_at dksX2_init_1 19 rfl rfl)
theorem dX2_init_44 : decode cX2_init 44 = .ok (.putfield 32, 3) := dk_181 0 32 (dk_at dksX2_init_1 20 rfl rfl)
theorem dX2_init_47 : decode cX2_init 47 = .ok (.aload_n 0, 1) := dk_42 (dk_at dksX2_init_1 23 rfl rfl)
theorem dX2_init_48 : decode cX2_init 48 = .ok (.new 35, 3) := dk_187 0 35 (dk_at dksX2_init_2 0 rfl rfl)
theorem dX2_init_51 : decode cX2_init 51 = .ok (.dup, 1) := dk_89 (dk_at dksX2_init_2 3 rfl rfl)
theorem dX2_init_52 : decode cX2_init 52 = .ok (.invokespecial 37, 3) := dk_183 0 37 (dk_at dksX2_init_2 4 rfl rfl)
theorem dX2_init_55 : decode cX2_init 55 = .ok (.putfield 38, 3) := dk_181 0 38 (dk_at dksX2_init_2 7 rfl rfl)
theorem dX2_init_58 : decode cX2_init 58 = .ok (.aload_n 0, 1) := dk_42 (dk_at dksX2_init_2 10 rfl rfl)
theorem dX2_init_59 : decode cX2_init 59 = .ok (.new 35, 3) := dk_187 0 35 (dk_at dksX2_init_2 11 rfl rfl)
theorem dX2_init_62 : decode cX2_init 62 = .ok (.dup, 1) := dk_89 (dk_at dksX2_init_2 14 rfl rfl)
theorem dX2_init_63 : decode cX2_init 63 = .ok (.invokespecial 37, 3) := dk_183 0 37 (dk_at dksX2_init_2 15 rfl rfl)
theorem dX2_init_66 : decode cX2_init 66 = .ok (.putfield 42, 3) := dk_181 0 42 (dk_at dksX2_init_2 18 rfl rfl)
theorem dX2_init_69 : decode cX2_init 69 = .ok (.aload_n 0, 1) := dk_42 (dk_at dksX2_init_2 21 rfl rfl)
theorem dX2_init_70 : decode cX2_init 70 = .ok (.iconst 4, 1) := dk_7 (dk_at dksX2_init_2 22 rfl rfl)
theorem dX2_init_71 : decode cX2_init 71 = .ok (.newarray .int, 2) := dk_188_10 (dk_at dksX2_init_3 0 rfl rfl)
theorem dX2_init_73 : decode cX2_init 73 = .ok (.putfield 45, 3) := dk_181 0 45 (dk_at dksX2_init_3 2 rfl rfl)
theorem dX2_init_76 : decode cX2_init 76 = .ok (.aload_n 0, 1) := dk_42 (dk_at dksX2_init_3 5 rfl rfl)
theorem dX2_init_77 : decode cX2_init 77 = .ok (.invokevirtual 48, 3) := dk_182 0 48 (dk_at dksX2_init_3 6 rfl rfl)
theorem dX2_init_80 : decode cX2_init 80 = .ok (.return_, 1) := dk_177 (dk_at dksX2_init_3 9 rfl rfl)
abbrev cX2_blank : ByteArray := prog_26_method_2_code
def yX2_blank : MethodName := ⟨RX2, "blank", "()V"⟩
def dkwX2_blank_1 : List UInt8 := [132, 1, 1, 167, 255, 232, 177]
abbrev dktX2_blank_1 : List UInt8 := dkwX2_blank_1 ++ []
def dkwX2_blank_0 : List UInt8 := [3, 60, 27, 16, 32, 162, 0, 24, 42, 180, 0, 22, 27, 16, 247, 79, 42, 180, 0, 25, 27, 3, 84]
abbrev dktX2_blank_0 : List UInt8 := dkwX2_blank_0 ++ dktX2_blank_1
theorem dksX2_blank_0 : cX2_blank.data.toList.drop 0 = dktX2_blank_0 := by decide +kernel
theorem dksX2_blank_1 : cX2_blank.data.toList.drop 23 = dktX2_blank_1 := dk_seg dksX2_blank_0 23 rfl rfl
theorem dX2_blank_0 : decode cX2_blank 0 = .ok (.iconst 0, 1) := dk_3 (dk_at dksX2_blank_0 0 rfl rfl)
theorem dX2_blank_1 : decode cX2_blank 1 = .ok (.istore_n 1, 1) := dk_60 (dk_at dksX2_blank_0 1 rfl rfl)
theorem dX2_blank_2 : decode cX2_blank 2 = .ok (.iload_n 1, 1) := dk_27 (dk_at dksX2_blank_0 2 rfl rfl)
theorem dX2_blank_3 : decode cX2_blank 3 = .ok (.bipush 32, 2) := dk_16 32 (dk_at dksX2_blank_0 3 rfl rfl)
theorem dX2_blank_5 : decode cX2_blank 5 = .ok (.if_icmp .ge 24, 3) := dk_162 0 24 (dk_at dksX2_blank_0 5 rfl rfl)
theorem dX2_blank_8 : decode cX2_blank 8 = .ok (.aload_n 0, 1) := dk_42 (dk_at dksX2_blank_0 8 rfl rfl)
theorem dX2_blank_9 : decode cX2_blank 9 = .ok (.getfield 22, 3) := dk_180 0 22 (dk_at dksX2_blank_0 9 rfl rfl)
theorem dX2_blank_12 : decode cX2_blank 12 = .ok (.iload_n 1, 1) := dk_27 (dk_at dksX2_blank_0 12 rfl rfl)
theorem dX2_blank_13 : decode cX2_blank 13 = .ok (.bipush (-9), 2) := dk_16 247 (dk_at dksX2_blank_0 13 rfl rfl)
theorem dX2_blank_15 : decode cX2_blank 15 = .ok (.iastore, 1) := dk_79 (dk_at dksX2_blank_0 15 rfl rfl)
theorem dX2_blank_16 : decode cX2_blank 16 = .ok (.aload_n 0, 1) := dk_42 (dk_at dksX2_blank_0 16 rfl rfl)
theorem dX2_blank_17 : decode cX2_blank 17 = .ok (.getfield 25, 3) := dk_180 0 25 (dk_at dksX2_blank_0 17 rfl rfl)
theorem dX2_blank_20 : decode cX2_blank 20 = .ok (.iload_n 1, 1) := dk_27 (dk_at dksX2_blank_0 20 rfl rfl)
theorem dX2_blank_21 : decode cX2_blank 21 = .ok (.iconst 0, 1) := dk_3 (dk_at dksX2_blank_0 21 rfl rfl)
theorem dX2_blank_22 : decode cX2_blank 22 = .ok (.bastore, 1) := dk_84 (dk_at dksX2_blank_0 22 rfl rfl)
theorem dX2_blank_23 : decode cX2_blank 23 = .ok (.iinc 1 1, 3) := dk_132 1 1 (dk_at dksX2_blank_1 0 rfl rfl)
theorem dX2_blank_26 : decode cX2_blank 26 = .ok (.goto (-24), 3) := dk_167 255 232 (dk_at dksX2_blank_1 3 rfl rfl)
theorem dX2_blank_29 : decode cX2_blank 29 = .ok (.return_, 1) := dk_177 (dk_at dksX2_blank_1 6 rfl rfl)
abbrev cX2_isBooklet : ByteArray := prog_26_method_8_code
def yX2_isBooklet : MethodName := ⟨RX2, "isBooklet", "()Z"⟩
def dkwX2_isBooklet_0 : List UInt8 := [42, 182, 0, 78, 42, 182, 0, 82, 160, 0, 7, 4, 167, 0, 4, 3, 172]
abbrev dktX2_isBooklet_0 : List UInt8 := dkwX2_isBooklet_0 ++ []
theorem dksX2_isBooklet_0 : cX2_isBooklet.data.toList.drop 0 = dktX2_isBooklet_0 := by decide +kernel
theorem dX2_isBooklet_0 : decode cX2_isBooklet 0 = .ok (.aload_n 0, 1) := dk_42 (dk_at dksX2_isBooklet_0 0 rfl rfl)
theorem dX2_isBooklet_1 : decode cX2_isBooklet 1 = .ok (.invokevirtual 78, 3) := dk_182 0 78 (dk_at dksX2_isBooklet_0 1 rfl rfl)
theorem dX2_isBooklet_4 : decode cX2_isBooklet 4 = .ok (.aload_n 0, 1) := dk_42 (dk_at dksX2_isBooklet_0 4 rfl rfl)
theorem dX2_isBooklet_5 : decode cX2_isBooklet 5 = .ok (.invokevirtual 82, 3) := dk_182 0 82 (dk_at dksX2_isBooklet_0 5 rfl rfl)
theorem dX2_isBooklet_8 : decode cX2_isBooklet 8 = .ok (.if_icmp .ne 7, 3) := dk_160 0 7 (dk_at dksX2_isBooklet_0 8 rfl rfl)
theorem dX2_isBooklet_11 : decode cX2_isBooklet 11 = .ok (.iconst 1, 1) := dk_4 (dk_at dksX2_isBooklet_0 11 rfl rfl)
theorem dX2_isBooklet_12 : decode cX2_isBooklet 12 = .ok (.goto 4, 3) := dk_167 0 4 (dk_at dksX2_isBooklet_0 12 rfl rfl)
theorem dX2_isBooklet_15 : decode cX2_isBooklet 15 = .ok (.iconst 0, 1) := dk_3 (dk_at dksX2_isBooklet_0 15 rfl rfl)
theorem dX2_isBooklet_16 : decode cX2_isBooklet 16 = .ok (.ireturn, 1) := dk_172 (dk_at dksX2_isBooklet_0 16 rfl rfl)
abbrev cX2_layers : ByteArray := prog_26_method_7_code
def yX2_layers : MethodName := ⟨RX2, "layers", "()I"⟩
def dkwX2_layers_0 : List UInt8 := [4, 42, 180, 0, 52, 120, 172]
abbrev dktX2_layers_0 : List UInt8 := dkwX2_layers_0 ++ []
theorem dksX2_layers_0 : cX2_layers.data.toList.drop 0 = dktX2_layers_0 := by decide +kernel
theorem dX2_layers_0 : decode cX2_layers 0 = .ok (.iconst 1, 1) := dk_4 (dk_at dksX2_layers_0 0 rfl rfl)
theorem dX2_layers_1 : decode cX2_layers 1 = .ok (.aload_n 0, 1) := dk_42 (dk_at dksX2_layers_0 1 rfl rfl)
theorem dX2_layers_2 : decode cX2_layers 2 = .ok (.getfield 52, 3) := dk_180 0 52 (dk_at dksX2_layers_0 2 rfl rfl)
theorem dX2_layers_5 : decode cX2_layers 5 = .ok (.ishl, 1) := dk_120 (dk_at dksX2_layers_0 5 rfl rfl)
theorem dX2_layers_6 : decode cX2_layers 6 = .ok (.ireturn, 1) := dk_172 (dk_at dksX2_layers_0 6 rfl rfl)
abbrev cX2_cells : ByteArray := prog_26_method_4_code
def yX2_cells : MethodName := ⟨RX2, "cells", "()I"⟩
def dkwX2_cells_0 : List UInt8 := [42, 180, 0, 9, 42, 180, 0, 15, 104, 172]
abbrev dktX2_cells_0 : List UInt8 := dkwX2_cells_0 ++ []
theorem dksX2_cells_0 : cX2_cells.data.toList.drop 0 = dktX2_cells_0 := by decide +kernel
theorem dX2_cells_0 : decode cX2_cells 0 = .ok (.aload_n 0, 1) := dk_42 (dk_at dksX2_cells_0 0 rfl rfl)
theorem dX2_cells_1 : decode cX2_cells 1 = .ok (.getfield 9, 3) := dk_180 0 9 (dk_at dksX2_cells_0 1 rfl rfl)
theorem dX2_cells_4 : decode cX2_cells 4 = .ok (.aload_n 0, 1) := dk_42 (dk_at dksX2_cells_0 4 rfl rfl)
theorem dX2_cells_5 : decode cX2_cells 5 = .ok (.getfield 15, 3) := dk_180 0 15 (dk_at dksX2_cells_0 5 rfl rfl)
theorem dX2_cells_8 : decode cX2_cells 8 = .ok (.imul, 1) := dk_104 (dk_at dksX2_cells_0 8 rfl rfl)
theorem dX2_cells_9 : decode cX2_cells 9 = .ok (.ireturn, 1) := dk_172 (dk_at dksX2_cells_0 9 rfl rfl)
abbrev cX2_isWorked : ByteArray := prog_26_method_9_code
def yX2_isWorked : MethodName := ⟨RX2, "isWorked", "()Z"⟩
def dkwX2_isWorked_0 : List UInt8 := [42, 180, 0, 64, 154, 0, 10, 42, 180, 0, 67, 153, 0, 7, 4, 167, 0, 4, 3, 172]
abbrev dktX2_isWorked_0 : List UInt8 := dkwX2_isWorked_0 ++ []
theorem dksX2_isWorked_0 : cX2_isWorked.data.toList.drop 0 = dktX2_isWorked_0 := by decide +kernel
theorem dX2_isWorked_0 : decode cX2_isWorked 0 = .ok (.aload_n 0, 1) := dk_42 (dk_at dksX2_isWorked_0 0 rfl rfl)
theorem dX2_isWorked_1 : decode cX2_isWorked 1 = .ok (.getfield 64, 3) := dk_180 0 64 (dk_at dksX2_isWorked_0 1 rfl rfl)
theorem dX2_isWorked_4 : decode cX2_isWorked 4 = .ok (.ifCond .ne 10, 3) := dk_154 0 10 (dk_at dksX2_isWorked_0 4 rfl rfl)
theorem dX2_isWorked_7 : decode cX2_isWorked 7 = .ok (.aload_n 0, 1) := dk_42 (dk_at dksX2_isWorked_0 7 rfl rfl)
theorem dX2_isWorked_8 : decode cX2_isWorked 8 = .ok (.getfield 67, 3) := dk_180 0 67 (dk_at dksX2_isWorked_0 8 rfl rfl)
theorem dX2_isWorked_11 : decode cX2_isWorked 11 = .ok (.ifCond .eq 7, 3) := dk_153 0 7 (dk_at dksX2_isWorked_0 11 rfl rfl)
theorem dX2_isWorked_14 : decode cX2_isWorked 14 = .ok (.iconst 1, 1) := dk_4 (dk_at dksX2_isWorked_0 14 rfl rfl)
theorem dX2_isWorked_15 : decode cX2_isWorked 15 = .ok (.goto 4, 3) := dk_167 0 4 (dk_at dksX2_isWorked_0 15 rfl rfl)
theorem dX2_isWorked_18 : decode cX2_isWorked 18 = .ok (.iconst 0, 1) := dk_3 (dk_at dksX2_isWorked_0 18 rfl rfl)
theorem dX2_isWorked_19 : decode cX2_isWorked 19 = .ok (.ireturn, 1) := dk_172 (dk_at dksX2_isWorked_0 19 rfl rfl)
abbrev cX2_folding : ByteArray := prog_26_method_12_code
def yX2_folding : MethodName := ⟨RX2, "folding", "()LCribBooklet$Folding;"⟩
def dkwX2_folding_1 : List UInt8 := [162, 0, 19, 43, 42, 180, 0, 18, 28, 46, 182, 0, 90, 132, 2, 1, 167, 255, 235, 43, 176]
abbrev dktX2_folding_1 : List UInt8 := dkwX2_folding_1 ++ []
def dkwX2_folding_0 : List UInt8 := [187, 0, 85, 89, 42, 180, 0, 9, 42, 180, 0, 15, 183, 0, 87, 76, 3, 61, 28, 42, 180, 0, 52]
abbrev dktX2_folding_0 : List UInt8 := dkwX2_folding_0 ++ dktX2_folding_1
theorem dksX2_folding_0 : cX2_folding.data.toList.drop 0 = dktX2_folding_0 := by decide +kernel
theorem dksX2_folding_1 : cX2_folding.data.toList.drop 23 = dktX2_folding_1 := dk_seg dksX2_folding_0 23 rfl rfl
theorem dX2_folding_0 : decode cX2_folding 0 = .ok (.new 85, 3) := dk_187 0 85 (dk_at dksX2_folding_0 0 rfl rfl)
theorem dX2_folding_3 : decode cX2_folding 3 = .ok (.dup, 1) := dk_89 (dk_at dksX2_folding_0 3 rfl rfl)
theorem dX2_folding_4 : decode cX2_folding 4 = .ok (.aload_n 0, 1) := dk_42 (dk_at dksX2_folding_0 4 rfl rfl)
theorem dX2_folding_5 : decode cX2_folding 5 = .ok (.getfield 9, 3) := dk_180 0 9 (dk_at dksX2_folding_0 5 rfl rfl)
theorem dX2_folding_8 : decode cX2_folding 8 = .ok (.aload_n 0, 1) := dk_42 (dk_at dksX2_folding_0 8 rfl rfl)
theorem dX2_folding_9 : decode cX2_folding 9 = .ok (.getfield 15, 3) := dk_180 0 15 (dk_at dksX2_folding_0 9 rfl rfl)
theorem dX2_folding_12 : decode cX2_folding 12 = .ok (.invokespecial 87, 3) := dk_183 0 87 (dk_at dksX2_folding_0 12 rfl rfl)
theorem dX2_folding_15 : decode cX2_folding 15 = .ok (.astore_n 1, 1) := dk_76 (dk_at dksX2_folding_0 15 rfl rfl)
theorem dX2_folding_16 : decode cX2_folding 16 = .ok (.iconst 0, 1) := dk_3 (dk_at dksX2_folding_0 16 rfl rfl)
theorem dX2_folding_17 : decode cX2_folding 17 = .ok (.istore_n 2, 1) := dk_61 (dk_at dksX2_folding_0 17 rfl rfl)
theorem dX2_folding_18 : decode cX2_folding 18 = .ok (.iload_n 2, 1) := dk_28 (dk_at dksX2_folding_0 18 rfl rfl)
theorem dX2_folding_19 : decode cX2_folding 19 = .ok (.aload_n 0, 1) := dk_42 (dk_at dksX2_folding_0 19 rfl rfl)
theorem dX2_folding_20 : decode cX2_folding 20 = .ok (.getfield 52, 3) := dk_180 0 52 (dk_at dksX2_folding_0 20 rfl rfl)
theorem dX2_folding_23 : decode cX2_folding 23 = .ok (.if_icmp .ge 19, 3) := dk_162 0 19 (dk_at dksX2_folding_1 0 rfl rfl)
theorem dX2_folding_26 : decode cX2_folding 26 = .ok (.aload_n 1, 1) := dk_43 (dk_at dksX2_folding_1 3 rfl rfl)
theorem dX2_folding_27 : decode cX2_folding 27 = .ok (.aload_n 0, 1) := dk_42 (dk_at dksX2_folding_1 4 rfl rfl)
theorem dX2_folding_28 : decode cX2_folding 28 = .ok (.getfield 18, 3) := dk_180 0 18 (dk_at dksX2_folding_1 5 rfl rfl)
theorem dX2_folding_31 : decode cX2_folding 31 = .ok (.iload_n 2, 1) := dk_28 (dk_at dksX2_folding_1 8 rfl rfl)
theorem dX2_folding_32 : decode cX2_folding 32 = .ok (.iaload, 1) := dk_46 (dk_at dksX2_folding_1 9 rfl rfl)
theorem dX2_folding_33 : decode cX2_folding 33 = .ok (.invokevirtual 90, 3) := dk_182 0 90 (dk_at dksX2_folding_1 10 rfl rfl)
theorem dX2_folding_36 : decode cX2_folding 36 = .ok (.iinc 2 1, 3) := dk_132 2 1 (dk_at dksX2_folding_1 13 rfl rfl)
theorem dX2_folding_39 : decode cX2_folding 39 = .ok (.goto (-21), 3) := dk_167 255 235 (dk_at dksX2_folding_1 16 rfl rfl)
theorem dX2_folding_42 : decode cX2_folding 42 = .ok (.aload_n 1, 1) := dk_43 (dk_at dksX2_folding_1 19 rfl rfl)
theorem dX2_folding_43 : decode cX2_folding 43 = .ok (.areturn, 1) := dk_176 (dk_at dksX2_folding_1 20 rfl rfl)
abbrev cX2_isCell : ByteArray := prog_26_method_5_code
def yX2_isCell : MethodName := ⟨RX2, "isCell", "(II)Z"⟩
def dkwX2_isCell_1 : List UInt8 := [184, 0, 74, 153, 0, 7, 4, 167, 0, 4, 3, 172]
abbrev dktX2_isCell_1 : List UInt8 := dkwX2_isCell_1 ++ []
def dkwX2_isCell_0 : List UInt8 := [27, 3, 42, 180, 0, 9, 4, 100, 184, 0, 74, 153, 0, 21, 28, 3, 42, 180, 0, 15, 4, 100]
abbrev dktX2_isCell_0 : List UInt8 := dkwX2_isCell_0 ++ dktX2_isCell_1
theorem dksX2_isCell_0 : cX2_isCell.data.toList.drop 0 = dktX2_isCell_0 := by decide +kernel
theorem dksX2_isCell_1 : cX2_isCell.data.toList.drop 22 = dktX2_isCell_1 := dk_seg dksX2_isCell_0 22 rfl rfl
theorem dX2_isCell_0 : decode cX2_isCell 0 = .ok (.iload_n 1, 1) := dk_27 (dk_at dksX2_isCell_0 0 rfl rfl)
theorem dX2_isCell_1 : decode cX2_isCell 1 = .ok (.iconst 0, 1) := dk_3 (dk_at dksX2_isCell_0 1 rfl rfl)
theorem dX2_isCell_2 : decode cX2_isCell 2 = .ok (.aload_n 0, 1) := dk_42 (dk_at dksX2_isCell_0 2 rfl rfl)
theorem dX2_isCell_3 : decode cX2_isCell 3 = .ok (.getfield 9, 3) := dk_180 0 9 (dk_at dksX2_isCell_0 3 rfl rfl)
theorem dX2_isCell_6 : decode cX2_isCell 6 = .ok (.iconst 1, 1) := dk_4 (dk_at dksX2_isCell_0 6 rfl rfl)
theorem dX2_isCell_7 : decode cX2_isCell 7 = .ok (.isub, 1) := dk_100 (dk_at dksX2_isCell_0 7 rfl rfl)
theorem dX2_isCell_8 : decode cX2_isCell 8 = .ok (.invokestatic 74, 3) := dk_184 0 74 (dk_at dksX2_isCell_0 8 rfl rfl)
theorem dX2_isCell_11 : decode cX2_isCell 11 = .ok (.ifCond .eq 21, 3) := dk_153 0 21 (dk_at dksX2_isCell_0 11 rfl rfl)
theorem dX2_isCell_14 : decode cX2_isCell 14 = .ok (.iload_n 2, 1) := dk_28 (dk_at dksX2_isCell_0 14 rfl rfl)
theorem dX2_isCell_15 : decode cX2_isCell 15 = .ok (.iconst 0, 1) := dk_3 (dk_at dksX2_isCell_0 15 rfl rfl)
theorem dX2_isCell_16 : decode cX2_isCell 16 = .ok (.aload_n 0, 1) := dk_42 (dk_at dksX2_isCell_0 16 rfl rfl)
theorem dX2_isCell_17 : decode cX2_isCell 17 = .ok (.getfield 15, 3) := dk_180 0 15 (dk_at dksX2_isCell_0 17 rfl rfl)
theorem dX2_isCell_20 : decode cX2_isCell 20 = .ok (.iconst 1, 1) := dk_4 (dk_at dksX2_isCell_0 20 rfl rfl)
theorem dX2_isCell_21 : decode cX2_isCell 21 = .ok (.isub, 1) := dk_100 (dk_at dksX2_isCell_0 21 rfl rfl)
theorem dX2_isCell_22 : decode cX2_isCell 22 = .ok (.invokestatic 74, 3) := dk_184 0 74 (dk_at dksX2_isCell_1 0 rfl rfl)
theorem dX2_isCell_25 : decode cX2_isCell 25 = .ok (.ifCond .eq 7, 3) := dk_153 0 7 (dk_at dksX2_isCell_1 3 rfl rfl)
theorem dX2_isCell_28 : decode cX2_isCell 28 = .ok (.iconst 1, 1) := dk_4 (dk_at dksX2_isCell_1 6 rfl rfl)
theorem dX2_isCell_29 : decode cX2_isCell 29 = .ok (.goto 4, 3) := dk_167 0 4 (dk_at dksX2_isCell_1 7 rfl rfl)
theorem dX2_isCell_32 : decode cX2_isCell 32 = .ok (.iconst 0, 1) := dk_3 (dk_at dksX2_isCell_1 10 rfl rfl)
theorem dX2_isCell_33 : decode cX2_isCell 33 = .ok (.ireturn, 1) := dk_172 (dk_at dksX2_isCell_1 11 rfl rfl)
abbrev cX2_isRow : ByteArray := prog_26_method_14_code
def yX2_isRow : MethodName := ⟨RX2, "isRow", "(I)Z"⟩
def dkwX2_isRow_4 : List UInt8 := [180, 0, 9, 160, 0, 7, 4, 167, 0, 4, 3, 172]
abbrev dktX2_isRow_4 : List UInt8 := dkwX2_isRow_4 ++ []
def dkwX2_isRow_3 : List UInt8 := [155, 0, 34, 28, 29, 96, 7, 163, 0, 27, 4, 28, 120, 42, 180, 0, 15, 160, 0, 17, 4, 29, 120, 42]
abbrev dktX2_isRow_3 : List UInt8 := dkwX2_isRow_3 ++ dktX2_isRow_4
def dkwX2_isRow_2 : List UInt8 := [21, 5, 6, 162, 0, 7, 3, 167, 0, 4, 4, 96, 62, 21, 4, 16, 10, 108, 54, 4, 167, 255, 197, 27]
abbrev dktX2_isRow_2 : List UInt8 := dkwX2_isRow_2 ++ dktX2_isRow_3
def dkwX2_isRow_1 : List UInt8 := [184, 0, 74, 154, 0, 5, 3, 172, 28, 21, 5, 6, 162, 0, 7, 4, 167, 0, 4, 3, 96, 61, 29]
abbrev dktX2_isRow_1 : List UInt8 := dkwX2_isRow_1 ++ dktX2_isRow_2
def dkwX2_isRow_0 : List UInt8 := [3, 61, 3, 62, 27, 54, 4, 21, 4, 158, 0, 60, 21, 4, 16, 10, 112, 54, 5, 21, 5, 4, 7]
abbrev dktX2_isRow_0 : List UInt8 := dkwX2_isRow_0 ++ dktX2_isRow_1
theorem dksX2_isRow_0 : cX2_isRow.data.toList.drop 0 = dktX2_isRow_0 := by decide +kernel
theorem dksX2_isRow_1 : cX2_isRow.data.toList.drop 23 = dktX2_isRow_1 := dk_seg dksX2_isRow_0 23 rfl rfl
theorem dksX2_isRow_2 : cX2_isRow.data.toList.drop 46 = dktX2_isRow_2 := dk_seg dksX2_isRow_1 23 rfl rfl
theorem dksX2_isRow_3 : cX2_isRow.data.toList.drop 70 = dktX2_isRow_3 := dk_seg dksX2_isRow_2 24 rfl rfl
theorem dksX2_isRow_4 : cX2_isRow.data.toList.drop 94 = dktX2_isRow_4 := dk_seg dksX2_isRow_3 24 rfl rfl
theorem dX2_isRow_0 : decode cX2_isRow 0 = .ok (.iconst 0, 1) := dk_3 (dk_at dksX2_isRow_0 0 rfl rfl)
theorem dX2_isRow_1 : decode cX2_isRow 1 = .ok (.istore_n 2, 1) := dk_61 (dk_at dksX2_isRow_0 1 rfl rfl)
theorem dX2_isRow_2 : decode cX2_isRow 2 = .ok (.iconst 0, 1) := dk_3 (dk_at dksX2_isRow_0 2 rfl rfl)
theorem dX2_isRow_3 : decode cX2_isRow 3 = .ok (.istore_n 3, 1) := dk_62 (dk_at dksX2_isRow_0 3 rfl rfl)
theorem dX2_isRow_4 : decode cX2_isRow 4 = .ok (.iload_n 1, 1) := dk_27 (dk_at dksX2_isRow_0 4 rfl rfl)
theorem dX2_isRow_5 : decode cX2_isRow 5 = .ok (.istore 4, 2) := dk_54 4 (dk_at dksX2_isRow_0 5 rfl rfl)
theorem dX2_isRow_7 : decode cX2_isRow 7 = .ok (.iload 4, 2) := dk_21 4 (dk_at dksX2_isRow_0 7 rfl rfl)
theorem dX2_isRow_9 : decode cX2_isRow 9 = .ok (.ifCond .le 60, 3) := dk_158 0 60 (dk_at dksX2_isRow_0 9 rfl rfl)
theorem dX2_isRow_12 : decode cX2_isRow 12 = .ok (.iload 4, 2) := dk_21 4 (dk_at dksX2_isRow_0 12 rfl rfl)
theorem dX2_isRow_14 : decode cX2_isRow 14 = .ok (.bipush 10, 2) := dk_16 10 (dk_at dksX2_isRow_0 14 rfl rfl)
theorem dX2_isRow_16 : decode cX2_isRow 16 = .ok (.irem, 1) := dk_112 (dk_at dksX2_isRow_0 16 rfl rfl)
theorem dX2_isRow_17 : decode cX2_isRow 17 = .ok (.istore 5, 2) := dk_54 5 (dk_at dksX2_isRow_0 17 rfl rfl)
theorem dX2_isRow_19 : decode cX2_isRow 19 = .ok (.iload 5, 2) := dk_21 5 (dk_at dksX2_isRow_0 19 rfl rfl)
theorem dX2_isRow_21 : decode cX2_isRow 21 = .ok (.iconst 1, 1) := dk_4 (dk_at dksX2_isRow_0 21 rfl rfl)
theorem dX2_isRow_22 : decode cX2_isRow 22 = .ok (.iconst 4, 1) := dk_7 (dk_at dksX2_isRow_0 22 rfl rfl)
theorem dX2_isRow_23 : decode cX2_isRow 23 = .ok (.invokestatic 74, 3) := dk_184 0 74 (dk_at dksX2_isRow_1 0 rfl rfl)
theorem dX2_isRow_26 : decode cX2_isRow 26 = .ok (.ifCond .ne 5, 3) := dk_154 0 5 (dk_at dksX2_isRow_1 3 rfl rfl)
theorem dX2_isRow_29 : decode cX2_isRow 29 = .ok (.iconst 0, 1) := dk_3 (dk_at dksX2_isRow_1 6 rfl rfl)
theorem dX2_isRow_30 : decode cX2_isRow 30 = .ok (.ireturn, 1) := dk_172 (dk_at dksX2_isRow_1 7 rfl rfl)
theorem dX2_isRow_31 : decode cX2_isRow 31 = .ok (.iload_n 2, 1) := dk_28 (dk_at dksX2_isRow_1 8 rfl rfl)
theorem dX2_isRow_32 : decode cX2_isRow 32 = .ok (.iload 5, 2) := dk_21 5 (dk_at dksX2_isRow_1 9 rfl rfl)
theorem dX2_isRow_34 : decode cX2_isRow 34 = .ok (.iconst 3, 1) := dk_6 (dk_at dksX2_isRow_1 11 rfl rfl)
theorem dX2_isRow_35 : decode cX2_isRow 35 = .ok (.if_icmp .ge 7, 3) := dk_162 0 7 (dk_at dksX2_isRow_1 12 rfl rfl)
theorem dX2_isRow_38 : decode cX2_isRow 38 = .ok (.iconst 1, 1) := dk_4 (dk_at dksX2_isRow_1 15 rfl rfl)
theorem dX2_isRow_39 : decode cX2_isRow 39 = .ok (.goto 4, 3) := dk_167 0 4 (dk_at dksX2_isRow_1 16 rfl rfl)
theorem dX2_isRow_42 : decode cX2_isRow 42 = .ok (.iconst 0, 1) := dk_3 (dk_at dksX2_isRow_1 19 rfl rfl)
theorem dX2_isRow_43 : decode cX2_isRow 43 = .ok (.iadd, 1) := dk_96 (dk_at dksX2_isRow_1 20 rfl rfl)
theorem dX2_isRow_44 : decode cX2_isRow 44 = .ok (.istore_n 2, 1) := dk_61 (dk_at dksX2_isRow_1 21 rfl rfl)
theorem dX2_isRow_45 : decode cX2_isRow 45 = .ok (.iload_n 3, 1) := dk_29 (dk_at dksX2_isRow_1 22 rfl rfl)
theorem dX2_isRow_46 : decode cX2_isRow 46 = .ok (.iload 5, 2) := dk_21 5 (dk_at dksX2_isRow_2 0 rfl rfl)
theorem dX2_isRow_48 : decode cX2_isRow 48 = .ok (.iconst 3, 1) := dk_6 (dk_at dksX2_isRow_2 2 rfl rfl)
theorem dX2_isRow_49 : decode cX2_isRow 49 = .ok (.if_icmp .ge 7, 3) := dk_162 0 7 (dk_at dksX2_isRow_2 3 rfl rfl)
theorem dX2_isRow_52 : decode cX2_isRow 52 = .ok (.iconst 0, 1) := dk_3 (dk_at dksX2_isRow_2 6 rfl rfl)
theorem dX2_isRow_53 : decode cX2_isRow 53 = .ok (.goto 4, 3) := dk_167 0 4 (dk_at dksX2_isRow_2 7 rfl rfl)
theorem dX2_isRow_56 : decode cX2_isRow 56 = .ok (.iconst 1, 1) := dk_4 (dk_at dksX2_isRow_2 10 rfl rfl)
theorem dX2_isRow_57 : decode cX2_isRow 57 = .ok (.iadd, 1) := dk_96 (dk_at dksX2_isRow_2 11 rfl rfl)
theorem dX2_isRow_58 : decode cX2_isRow 58 = .ok (.istore_n 3, 1) := dk_62 (dk_at dksX2_isRow_2 12 rfl rfl)
theorem dX2_isRow_59 : decode cX2_isRow 59 = .ok (.iload 4, 2) := dk_21 4 (dk_at dksX2_isRow_2 13 rfl rfl)
theorem dX2_isRow_61 : decode cX2_isRow 61 = .ok (.bipush 10, 2) := dk_16 10 (dk_at dksX2_isRow_2 15 rfl rfl)
theorem dX2_isRow_63 : decode cX2_isRow 63 = .ok (.idiv, 1) := dk_108 (dk_at dksX2_isRow_2 17 rfl rfl)
theorem dX2_isRow_64 : decode cX2_isRow 64 = .ok (.istore 4, 2) := dk_54 4 (dk_at dksX2_isRow_2 18 rfl rfl)
theorem dX2_isRow_66 : decode cX2_isRow 66 = .ok (.goto (-59), 3) := dk_167 255 197 (dk_at dksX2_isRow_2 20 rfl rfl)
theorem dX2_isRow_69 : decode cX2_isRow 69 = .ok (.iload_n 1, 1) := dk_27 (dk_at dksX2_isRow_2 23 rfl rfl)
theorem dX2_isRow_70 : decode cX2_isRow 70 = .ok (.ifCond .lt 34, 3) := dk_155 0 34 (dk_at dksX2_isRow_3 0 rfl rfl)
theorem dX2_isRow_73 : decode cX2_isRow 73 = .ok (.iload_n 2, 1) := dk_28 (dk_at dksX2_isRow_3 3 rfl rfl)
theorem dX2_isRow_74 : decode cX2_isRow 74 = .ok (.iload_n 3, 1) := dk_29 (dk_at dksX2_isRow_3 4 rfl rfl)
theorem dX2_isRow_75 : decode cX2_isRow 75 = .ok (.iadd, 1) := dk_96 (dk_at dksX2_isRow_3 5 rfl rfl)
theorem dX2_isRow_76 : decode cX2_isRow 76 = .ok (.iconst 4, 1) := dk_7 (dk_at dksX2_isRow_3 6 rfl rfl)
theorem dX2_isRow_77 : decode cX2_isRow 77 = .ok (.if_icmp .gt 27, 3) := dk_163 0 27 (dk_at dksX2_isRow_3 7 rfl rfl)
theorem dX2_isRow_80 : decode cX2_isRow 80 = .ok (.iconst 1, 1) := dk_4 (dk_at dksX2_isRow_3 10 rfl rfl)
theorem dX2_isRow_81 : decode cX2_isRow 81 = .ok (.iload_n 2, 1) := dk_28 (dk_at dksX2_isRow_3 11 rfl rfl)
theorem dX2_isRow_82 : decode cX2_isRow 82 = .ok (.ishl, 1) := dk_120 (dk_at dksX2_isRow_3 12 rfl rfl)
theorem dX2_isRow_83 : decode cX2_isRow 83 = .ok (.aload_n 0, 1) := dk_42 (dk_at dksX2_isRow_3 13 rfl rfl)
theorem dX2_isRow_84 : decode cX2_isRow 84 = .ok (.getfield 15, 3) := dk_180 0 15 (dk_at dksX2_isRow_3 14 rfl rfl)
theorem dX2_isRow_87 : decode cX2_isRow 87 = .ok (.if_icmp .ne 17, 3) := dk_160 0 17 (dk_at dksX2_isRow_3 17 rfl rfl)
theorem dX2_isRow_90 : decode cX2_isRow 90 = .ok (.iconst 1, 1) := dk_4 (dk_at dksX2_isRow_3 20 rfl rfl)
theorem dX2_isRow_91 : decode cX2_isRow 91 = .ok (.iload_n 3, 1) := dk_29 (dk_at dksX2_isRow_3 21 rfl rfl)
theorem dX2_isRow_92 : decode cX2_isRow 92 = .ok (.ishl, 1) := dk_120 (dk_at dksX2_isRow_3 22 rfl rfl)
theorem dX2_isRow_93 : decode cX2_isRow 93 = .ok (.aload_n 0, 1) := dk_42 (dk_at dksX2_isRow_3 23 rfl rfl)
theorem dX2_isRow_94 : decode cX2_isRow 94 = .ok (.getfield 9, 3) := dk_180 0 9 (dk_at dksX2_isRow_4 0 rfl rfl)
theorem dX2_isRow_97 : decode cX2_isRow 97 = .ok (.if_icmp .ne 7, 3) := dk_160 0 7 (dk_at dksX2_isRow_4 3 rfl rfl)
theorem dX2_isRow_100 : decode cX2_isRow 100 = .ok (.iconst 1, 1) := dk_4 (dk_at dksX2_isRow_4 6 rfl rfl)
theorem dX2_isRow_101 : decode cX2_isRow 101 = .ok (.goto 4, 3) := dk_167 0 4 (dk_at dksX2_isRow_4 7 rfl rfl)
theorem dX2_isRow_104 : decode cX2_isRow 104 = .ok (.iconst 0, 1) := dk_3 (dk_at dksX2_isRow_4 10 rfl rfl)
theorem dX2_isRow_105 : decode cX2_isRow 105 = .ok (.ireturn, 1) := dk_172 (dk_at dksX2_isRow_4 11 rfl rfl)
abbrev cX2_copy : ByteArray := prog_26_method_3_code
def yX2_copy : MethodName := ⟨RX2, "copy", "()LCribBooklet$Sheet;"⟩
def dkwX2_copy_6 : List UInt8 := [182, 0, 70, 87, 43, 180, 0, 42, 42, 180, 0, 42, 182, 0, 70, 87, 43, 176]
abbrev dktX2_copy_6 : List UInt8 := dkwX2_copy_6 ++ []
def dkwX2_copy_5 : List UInt8 := [42, 180, 0, 29, 181, 0, 29, 43, 42, 180, 0, 32, 181, 0, 32, 43, 180, 0, 38, 42, 180, 0, 38]
abbrev dktX2_copy_5 : List UInt8 := dkwX2_copy_5 ++ dktX2_copy_6
def dkwX2_copy_4 : List UInt8 := [42, 180, 0, 61, 181, 0, 61, 43, 42, 180, 0, 64, 181, 0, 64, 43, 42, 180, 0, 67, 181, 0, 67, 43]
abbrev dktX2_copy_4 : List UInt8 := dkwX2_copy_4 ++ dktX2_copy_5
def dkwX2_copy_3 : List UInt8 := [16, 32, 184, 0, 55, 42, 180, 0, 45, 3, 43, 180, 0, 45, 3, 42, 180, 0, 45, 190, 184, 0, 55, 43]
abbrev dktX2_copy_3 : List UInt8 := dkwX2_copy_3 ++ dktX2_copy_4
def dkwX2_copy_2 : List UInt8 := [180, 0, 22, 3, 43, 180, 0, 22, 3, 16, 32, 184, 0, 55, 42, 180, 0, 25, 3, 43, 180, 0, 25, 3]
abbrev dktX2_copy_2 : List UInt8 := dkwX2_copy_2 ++ dktX2_copy_3
def dkwX2_copy_1 : List UInt8 := [43, 42, 180, 0, 52, 181, 0, 52, 42, 180, 0, 18, 3, 43, 180, 0, 18, 3, 7, 184, 0, 55, 42]
abbrev dktX2_copy_1 : List UInt8 := dkwX2_copy_1 ++ dktX2_copy_2
def dkwX2_copy_0 : List UInt8 := [187, 0, 10, 89, 183, 0, 51, 76, 43, 42, 180, 0, 9, 181, 0, 9, 43, 42, 180, 0, 15, 181, 0, 15]
abbrev dktX2_copy_0 : List UInt8 := dkwX2_copy_0 ++ dktX2_copy_1
theorem dksX2_copy_0 : cX2_copy.data.toList.drop 0 = dktX2_copy_0 := by decide +kernel
theorem dksX2_copy_1 : cX2_copy.data.toList.drop 24 = dktX2_copy_1 := dk_seg dksX2_copy_0 24 rfl rfl
theorem dksX2_copy_2 : cX2_copy.data.toList.drop 47 = dktX2_copy_2 := dk_seg dksX2_copy_1 23 rfl rfl
theorem dksX2_copy_3 : cX2_copy.data.toList.drop 71 = dktX2_copy_3 := dk_seg dksX2_copy_2 24 rfl rfl
theorem dksX2_copy_4 : cX2_copy.data.toList.drop 95 = dktX2_copy_4 := dk_seg dksX2_copy_3 24 rfl rfl
theorem dksX2_copy_5 : cX2_copy.data.toList.drop 119 = dktX2_copy_5 := dk_seg dksX2_copy_4 24 rfl rfl
theorem dksX2_copy_6 : cX2_copy.data.toList.drop 142 = dktX2_copy_6 := dk_seg dksX2_copy_5 23 rfl rfl
theorem dX2_copy_0 : decode cX2_copy 0 = .ok (.new 10, 3) := dk_187 0 10 (dk_at dksX2_copy_0 0 rfl rfl)
theorem dX2_copy_3 : decode cX2_copy 3 = .ok (.dup, 1) := dk_89 (dk_at dksX2_copy_0 3 rfl rfl)
theorem dX2_copy_4 : decode cX2_copy 4 = .ok (.invokespecial 51, 3) := dk_183 0 51 (dk_at dksX2_copy_0 4 rfl rfl)
theorem dX2_copy_7 : decode cX2_copy 7 = .ok (.astore_n 1, 1) := dk_76 (dk_at dksX2_copy_0 7 rfl rfl)
theorem dX2_copy_8 : decode cX2_copy 8 = .ok (.aload_n 1, 1) := dk_43 (dk_at dksX2_copy_0 8 rfl rfl)
theorem dX2_copy_9 : decode cX2_copy 9 = .ok (.aload_n 0, 1) := dk_42 (dk_at dksX2_copy_0 9 rfl rfl)
theorem dX2_copy_10 : decode cX2_copy 10 = .ok (.getfield 9, 3) := dk_180 0 9 (dk_at dksX2_copy_0 10 rfl rfl)
theorem dX2_copy_13 : decode cX2_copy 13 = .ok (.putfield 9, 3) := dk_181 0 9 (dk_at dksX2_copy_0 13 rfl rfl)
theorem dX2_copy_16 : decode cX2_copy 16 = .ok (.aload_n 1, 1) := dk_43 (dk_at dksX2_copy_0 16 rfl rfl)
theorem dX2_copy_17 : decode cX2_copy 17 = .ok (.aload_n 0, 1) := dk_42 (dk_at dksX2_copy_0 17 rfl rfl)
theorem dX2_copy_18 : decode cX2_copy 18 = .ok (.getfield 15, 3) := dk_180 0 15 (dk_at dksX2_copy_0 18 rfl rfl)
theorem dX2_copy_21 : decode cX2_copy 21 = .ok (.putfield 15, 3) := dk_181 0 15 (dk_at dksX2_copy_0 21 rfl rfl)
theorem dX2_copy_24 : decode cX2_copy 24 = .ok (.aload_n 1, 1) := dk_43 (dk_at dksX2_copy_1 0 rfl rfl)
theorem dX2_copy_25 : decode cX2_copy 25 = .ok (.aload_n 0, 1) := dk_42 (dk_at dksX2_copy_1 1 rfl rfl)
theorem dX2_copy_26 : decode cX2_copy 26 = .ok (.getfield 52, 3) := dk_180 0 52 (dk_at dksX2_copy_1 2 rfl rfl)
theorem dX2_copy_29 : decode cX2_copy 29 = .ok (.putfield 52, 3) := dk_181 0 52 (dk_at dksX2_copy_1 5 rfl rfl)
theorem dX2_copy_32 : decode cX2_copy 32 = .ok (.aload_n 0, 1) := dk_42 (dk_at dksX2_copy_1 8 rfl rfl)
theorem dX2_copy_33 : decode cX2_copy 33 = .ok (.getfield 18, 3) := dk_180 0 18 (dk_at dksX2_copy_1 9 rfl rfl)
theorem dX2_copy_36 : decode cX2_copy 36 = .ok (.iconst 0, 1) := dk_3 (dk_at dksX2_copy_1 12 rfl rfl)
theorem dX2_copy_37 : decode cX2_copy 37 = .ok (.aload_n 1, 1) := dk_43 (dk_at dksX2_copy_1 13 rfl rfl)
theorem dX2_copy_38 : decode cX2_copy 38 = .ok (.getfield 18, 3) := dk_180 0 18 (dk_at dksX2_copy_1 14 rfl rfl)
theorem dX2_copy_41 : decode cX2_copy 41 = .ok (.iconst 0, 1) := dk_3 (dk_at dksX2_copy_1 17 rfl rfl)
theorem dX2_copy_42 : decode cX2_copy 42 = .ok (.iconst 4, 1) := dk_7 (dk_at dksX2_copy_1 18 rfl rfl)
theorem dX2_copy_43 : decode cX2_copy 43 = .ok (.invokestatic 55, 3) := dk_184 0 55 (dk_at dksX2_copy_1 19 rfl rfl)
theorem dX2_copy_46 : decode cX2_copy 46 = .ok (.aload_n 0, 1) := dk_42 (dk_at dksX2_copy_1 22 rfl rfl)
theorem dX2_copy_47 : decode cX2_copy 47 = .ok (.getfield 22, 3) := dk_180 0 22 (dk_at dksX2_copy_2 0 rfl rfl)
theorem dX2_copy_50 : decode cX2_copy 50 = .ok (.iconst 0, 1) := dk_3 (dk_at dksX2_copy_2 3 rfl rfl)
theorem dX2_copy_51 : decode cX2_copy 51 = .ok (.aload_n 1, 1) := dk_43 (dk_at dksX2_copy_2 4 rfl rfl)
theorem dX2_copy_52 : decode cX2_copy 52 = .ok (.getfield 22, 3) := dk_180 0 22 (dk_at dksX2_copy_2 5 rfl rfl)
theorem dX2_copy_55 : decode cX2_copy 55 = .ok (.iconst 0, 1) := dk_3 (dk_at dksX2_copy_2 8 rfl rfl)
theorem dX2_copy_56 : decode cX2_copy 56 = .ok (.bipush 32, 2) := dk_16 32 (dk_at dksX2_copy_2 9 rfl rfl)
theorem dX2_copy_58 : decode cX2_copy 58 = .ok (.invokestatic 55, 3) := dk_184 0 55 (dk_at dksX2_copy_2 11 rfl rfl)
theorem dX2_copy_61 : decode cX2_copy 61 = .ok (.aload_n 0, 1) := dk_42 (dk_at dksX2_copy_2 14 rfl rfl)
theorem dX2_copy_62 : decode cX2_copy 62 = .ok (.getfield 25, 3) := dk_180 0 25 (dk_at dksX2_copy_2 15 rfl rfl)
theorem dX2_copy_65 : decode cX2_copy 65 = .ok (.iconst 0, 1) := dk_3 (dk_at dksX2_copy_2 18 rfl rfl)
theorem dX2_copy_66 : decode cX2_copy 66 = .ok (.aload_n 1, 1) := dk_43 (dk_at dksX2_copy_2 19 rfl rfl)
theorem dX2_copy_67 : decode cX2_copy 67 = .ok (.getfield 25, 3) := dk_180 0 25 (dk_at dksX2_copy_2 20 rfl rfl)
theorem dX2_copy_70 : decode cX2_copy 70 = .ok (.iconst 0, 1) := dk_3 (dk_at dksX2_copy_2 23 rfl rfl)
theorem dX2_copy_71 : decode cX2_copy 71 = .ok (.bipush 32, 2) := dk_16 32 (dk_at dksX2_copy_3 0 rfl rfl)
theorem dX2_copy_73 : decode cX2_copy 73 = .ok (.invokestatic 55, 3) := dk_184 0 55 (dk_at dksX2_copy_3 2 rfl rfl)
theorem dX2_copy_76 : decode cX2_copy 76 = .ok (.aload_n 0, 1) := dk_42 (dk_at dksX2_copy_3 5 rfl rfl)
theorem dX2_copy_77 : decode cX2_copy 77 = .ok (.getfield 45, 3) := dk_180 0 45 (dk_at dksX2_copy_3 6 rfl rfl)
theorem dX2_copy_80 : decode cX2_copy 80 = .ok (.iconst 0, 1) := dk_3 (dk_at dksX2_copy_3 9 rfl rfl)
theorem dX2_copy_81 : decode cX2_copy 81 = .ok (.aload_n 1, 1) := dk_43 (dk_at dksX2_copy_3 10 rfl rfl)
theorem dX2_copy_82 : decode cX2_copy 82 = .ok (.getfield 45, 3) := dk_180 0 45 (dk_at dksX2_copy_3 11 rfl rfl)
theorem dX2_copy_85 : decode cX2_copy 85 = .ok (.iconst 0, 1) := dk_3 (dk_at dksX2_copy_3 14 rfl rfl)
theorem dX2_copy_86 : decode cX2_copy 86 = .ok (.aload_n 0, 1) := dk_42 (dk_at dksX2_copy_3 15 rfl rfl)
theorem dX2_copy_87 : decode cX2_copy 87 = .ok (.getfield 45, 3) := dk_180 0 45 (dk_at dksX2_copy_3 16 rfl rfl)
theorem dX2_copy_90 : decode cX2_copy 90 = .ok (.arraylength, 1) := dk_190 (dk_at dksX2_copy_3 19 rfl rfl)
theorem dX2_copy_91 : decode cX2_copy 91 = .ok (.invokestatic 55, 3) := dk_184 0 55 (dk_at dksX2_copy_3 20 rfl rfl)
theorem dX2_copy_94 : decode cX2_copy 94 = .ok (.aload_n 1, 1) := dk_43 (dk_at dksX2_copy_3 23 rfl rfl)
theorem dX2_copy_95 : decode cX2_copy 95 = .ok (.aload_n 0, 1) := dk_42 (dk_at dksX2_copy_4 0 rfl rfl)
theorem dX2_copy_96 : decode cX2_copy 96 = .ok (.getfield 61, 3) := dk_180 0 61 (dk_at dksX2_copy_4 1 rfl rfl)
theorem dX2_copy_99 : decode cX2_copy 99 = .ok (.putfield 61, 3) := dk_181 0 61 (dk_at dksX2_copy_4 4 rfl rfl)
theorem dX2_copy_102 : decode cX2_copy 102 = .ok (.aload_n 1, 1) := dk_43 (dk_at dksX2_copy_4 7 rfl rfl)
theorem dX2_copy_103 : decode cX2_copy 103 = .ok (.aload_n 0, 1) := dk_42 (dk_at dksX2_copy_4 8 rfl rfl)
theorem dX2_copy_104 : decode cX2_copy 104 = .ok (.getfield 64, 3) := dk_180 0 64 (dk_at dksX2_copy_4 9 rfl rfl)
theorem dX2_copy_107 : decode cX2_copy 107 = .ok (.putfield 64, 3) := dk_181 0 64 (dk_at dksX2_copy_4 12 rfl rfl)
theorem dX2_copy_110 : decode cX2_copy 110 = .ok (.aload_n 1, 1) := dk_43 (dk_at dksX2_copy_4 15 rfl rfl)
theorem dX2_copy_111 : decode cX2_copy 111 = .ok (.aload_n 0, 1) := dk_42 (dk_at dksX2_copy_4 16 rfl rfl)
theorem dX2_copy_112 : decode cX2_copy 112 = .ok (.getfield 67, 3) := dk_180 0 67 (dk_at dksX2_copy_4 17 rfl rfl)
theorem dX2_copy_115 : decode cX2_copy 115 = .ok (.putfield 67, 3) := dk_181 0 67 (dk_at dksX2_copy_4 20 rfl rfl)
theorem dX2_copy_118 : decode cX2_copy 118 = .ok (.aload_n 1, 1) := dk_43 (dk_at dksX2_copy_4 23 rfl rfl)
theorem dX2_copy_119 : decode cX2_copy 119 = .ok (.aload_n 0, 1) := dk_42 (dk_at dksX2_copy_5 0 rfl rfl)
theorem dX2_copy_120 : decode cX2_copy 120 = .ok (.getfield 29, 3) := dk_180 0 29 (dk_at dksX2_copy_5 1 rfl rfl)
theorem dX2_copy_123 : decode cX2_copy 123 = .ok (.putfield 29, 3) := dk_181 0 29 (dk_at dksX2_copy_5 4 rfl rfl)
theorem dX2_copy_126 : decode cX2_copy 126 = .ok (.aload_n 1, 1) := dk_43 (dk_at dksX2_copy_5 7 rfl rfl)
theorem dX2_copy_127 : decode cX2_copy 127 = .ok (.aload_n 0, 1) := dk_42 (dk_at dksX2_copy_5 8 rfl rfl)
theorem dX2_copy_128 : decode cX2_copy 128 = .ok (.getfield 32, 3) := dk_180 0 32 (dk_at dksX2_copy_5 9 rfl rfl)
theorem dX2_copy_131 : decode cX2_copy 131 = .ok (.putfield 32, 3) := dk_181 0 32 (dk_at dksX2_copy_5 12 rfl rfl)
theorem dX2_copy_134 : decode cX2_copy 134 = .ok (.aload_n 1, 1) := dk_43 (dk_at dksX2_copy_5 15 rfl rfl)
theorem dX2_copy_135 : decode cX2_copy 135 = .ok (.getfield 38, 3) := dk_180 0 38 (dk_at dksX2_copy_5 16 rfl rfl)
theorem dX2_copy_138 : decode cX2_copy 138 = .ok (.aload_n 0, 1) := dk_42 (dk_at dksX2_copy_5 19 rfl rfl)
theorem dX2_copy_139 : decode cX2_copy 139 = .ok (.getfield 38, 3) := dk_180 0 38 (dk_at dksX2_copy_5 20 rfl rfl)
theorem dX2_copy_142 : decode cX2_copy 142 = .ok (.invokevirtual 70, 3) := dk_182 0 70 (dk_at dksX2_copy_6 0 rfl rfl)
theorem dX2_copy_145 : decode cX2_copy 145 = .ok (.pop, 1) := dk_87 (dk_at dksX2_copy_6 3 rfl rfl)
theorem dX2_copy_146 : decode cX2_copy 146 = .ok (.aload_n 1, 1) := dk_43 (dk_at dksX2_copy_6 4 rfl rfl)
theorem dX2_copy_147 : decode cX2_copy 147 = .ok (.getfield 42, 3) := dk_180 0 42 (dk_at dksX2_copy_6 5 rfl rfl)
theorem dX2_copy_150 : decode cX2_copy 150 = .ok (.aload_n 0, 1) := dk_42 (dk_at dksX2_copy_6 8 rfl rfl)
theorem dX2_copy_151 : decode cX2_copy 151 = .ok (.getfield 42, 3) := dk_180 0 42 (dk_at dksX2_copy_6 9 rfl rfl)
theorem dX2_copy_154 : decode cX2_copy 154 = .ok (.invokevirtual 70, 3) := dk_182 0 70 (dk_at dksX2_copy_6 12 rfl rfl)
theorem dX2_copy_157 : decode cX2_copy 157 = .ok (.pop, 1) := dk_87 (dk_at dksX2_copy_6 15 rfl rfl)
theorem dX2_copy_158 : decode cX2_copy 158 = .ok (.aload_n 1, 1) := dk_43 (dk_at dksX2_copy_6 16 rfl rfl)
theorem dX2_copy_159 : decode cX2_copy 159 = .ok (.areturn, 1) := dk_176 (dk_at dksX2_copy_6 17 rfl rfl)
abbrev cX2_booklet : ByteArray := prog_26_method_16_code
def yX2_booklet : MethodName := ⟨RX2, "booklet", "()LCribBooklet$Booklet;"⟩
def dkwX2_booklet_0 : List UInt8 := [187, 0, 94, 89, 42, 42, 182, 0, 96, 183, 0, 100, 176]
abbrev dktX2_booklet_0 : List UInt8 := dkwX2_booklet_0 ++ []
theorem dksX2_booklet_0 : cX2_booklet.data.toList.drop 0 = dktX2_booklet_0 := by decide +kernel
theorem dX2_booklet_0 : decode cX2_booklet 0 = .ok (.new 94, 3) := dk_187 0 94 (dk_at dksX2_booklet_0 0 rfl rfl)
theorem dX2_booklet_3 : decode cX2_booklet 3 = .ok (.dup, 1) := dk_89 (dk_at dksX2_booklet_0 3 rfl rfl)
theorem dX2_booklet_4 : decode cX2_booklet 4 = .ok (.aload_n 0, 1) := dk_42 (dk_at dksX2_booklet_0 4 rfl rfl)
theorem dX2_booklet_5 : decode cX2_booklet 5 = .ok (.aload_n 0, 1) := dk_42 (dk_at dksX2_booklet_0 5 rfl rfl)
theorem dX2_booklet_6 : decode cX2_booklet 6 = .ok (.invokevirtual 96, 3) := dk_182 0 96 (dk_at dksX2_booklet_0 6 rfl rfl)
theorem dX2_booklet_9 : decode cX2_booklet 9 = .ok (.invokespecial 100, 3) := dk_183 0 100 (dk_at dksX2_booklet_0 9 rfl rfl)
theorem dX2_booklet_12 : decode cX2_booklet 12 = .ok (.areturn, 1) := dk_176 (dk_at dksX2_booklet_0 12 rfl rfl)
abbrev cX2_spineEdge : ByteArray := prog_26_method_10_code
def yX2_spineEdge : MethodName := ⟨RX2, "spineEdge", "()I"⟩
def dkwX2_spineEdge_0 : List UInt8 := [42, 180, 0, 61, 154, 0, 7, 3, 167, 0, 4, 5, 172]
abbrev dktX2_spineEdge_0 : List UInt8 := dkwX2_spineEdge_0 ++ []
theorem dksX2_spineEdge_0 : cX2_spineEdge.data.toList.drop 0 = dktX2_spineEdge_0 := by decide +kernel
theorem dX2_spineEdge_0 : decode cX2_spineEdge 0 = .ok (.aload_n 0, 1) := dk_42 (dk_at dksX2_spineEdge_0 0 rfl rfl)
theorem dX2_spineEdge_1 : decode cX2_spineEdge 1 = .ok (.getfield 61, 3) := dk_180 0 61 (dk_at dksX2_spineEdge_0 1 rfl rfl)
theorem dX2_spineEdge_4 : decode cX2_spineEdge 4 = .ok (.ifCond .ne 7, 3) := dk_154 0 7 (dk_at dksX2_spineEdge_0 4 rfl rfl)
theorem dX2_spineEdge_7 : decode cX2_spineEdge 7 = .ok (.iconst 0, 1) := dk_3 (dk_at dksX2_spineEdge_0 7 rfl rfl)
theorem dX2_spineEdge_8 : decode cX2_spineEdge 8 = .ok (.goto 4, 3) := dk_167 0 4 (dk_at dksX2_spineEdge_0 8 rfl rfl)
theorem dX2_spineEdge_11 : decode cX2_spineEdge 11 = .ok (.iconst 2, 1) := dk_5 (dk_at dksX2_spineEdge_0 11 rfl rfl)
theorem dX2_spineEdge_12 : decode cX2_spineEdge 12 = .ok (.ireturn, 1) := dk_172 (dk_at dksX2_spineEdge_0 12 rfl rfl)
abbrev cX2_sideOf : ByteArray := prog_26_method_6_code
def yX2_sideOf : MethodName := ⟨RX2, "sideOf", "(III)I"⟩
def dkwX2_sideOf_0 : List UInt8 := [5, 27, 42, 180, 0, 15, 104, 28, 96, 104, 29, 96, 172]
abbrev dktX2_sideOf_0 : List UInt8 := dkwX2_sideOf_0 ++ []
theorem dksX2_sideOf_0 : cX2_sideOf.data.toList.drop 0 = dktX2_sideOf_0 := by decide +kernel
theorem dX2_sideOf_0 : decode cX2_sideOf 0 = .ok (.iconst 2, 1) := dk_5 (dk_at dksX2_sideOf_0 0 rfl rfl)
theorem dX2_sideOf_1 : decode cX2_sideOf 1 = .ok (.iload_n 1, 1) := dk_27 (dk_at dksX2_sideOf_0 1 rfl rfl)
theorem dX2_sideOf_2 : decode cX2_sideOf 2 = .ok (.aload_n 0, 1) := dk_42 (dk_at dksX2_sideOf_0 2 rfl rfl)
theorem dX2_sideOf_3 : decode cX2_sideOf 3 = .ok (.getfield 15, 3) := dk_180 0 15 (dk_at dksX2_sideOf_0 3 rfl rfl)
theorem dX2_sideOf_6 : decode cX2_sideOf 6 = .ok (.imul, 1) := dk_104 (dk_at dksX2_sideOf_0 6 rfl rfl)
theorem dX2_sideOf_7 : decode cX2_sideOf 7 = .ok (.iload_n 2, 1) := dk_28 (dk_at dksX2_sideOf_0 7 rfl rfl)
theorem dX2_sideOf_8 : decode cX2_sideOf 8 = .ok (.iadd, 1) := dk_96 (dk_at dksX2_sideOf_0 8 rfl rfl)
theorem dX2_sideOf_9 : decode cX2_sideOf 9 = .ok (.imul, 1) := dk_104 (dk_at dksX2_sideOf_0 9 rfl rfl)
theorem dX2_sideOf_10 : decode cX2_sideOf 10 = .ok (.iload_n 3, 1) := dk_29 (dk_at dksX2_sideOf_0 10 rfl rfl)
theorem dX2_sideOf_11 : decode cX2_sideOf 11 = .ok (.iadd, 1) := dk_96 (dk_at dksX2_sideOf_0 11 rfl rfl)
theorem dX2_sideOf_12 : decode cX2_sideOf 12 = .ok (.ireturn, 1) := dk_172 (dk_at dksX2_sideOf_0 12 rfl rfl)
abbrev cX2_print : ByteArray := prog_26_method_15_code
def yX2_print : MethodName := ⟨RX2, "print", "(IIZ)Z"⟩
def dkwX2_print_2 : List UInt8 := [21, 4, 153, 0, 7, 4, 167, 0, 4, 3, 96, 79, 21, 4, 172]
abbrev dktX2_print_2 : List UInt8 := dkwX2_print_2 ++ []
def dkwX2_print_1 : List UInt8 := [3, 54, 4, 42, 180, 0, 22, 27, 28, 79, 42, 180, 0, 25, 27, 29, 84, 42, 180, 0, 45, 4, 92, 46]
abbrev dktX2_print_1 : List UInt8 := dkwX2_print_1 ++ dktX2_print_2
def dkwX2_print_0 : List UInt8 := [42, 180, 0, 22, 27, 46, 28, 160, 0, 13, 42, 180, 0, 25, 27, 51, 29, 159, 0, 7, 4, 167, 0, 4]
abbrev dktX2_print_0 : List UInt8 := dkwX2_print_0 ++ dktX2_print_1
theorem dksX2_print_0 : cX2_print.data.toList.drop 0 = dktX2_print_0 := by decide +kernel
theorem dksX2_print_1 : cX2_print.data.toList.drop 24 = dktX2_print_1 := dk_seg dksX2_print_0 24 rfl rfl
theorem dksX2_print_2 : cX2_print.data.toList.drop 48 = dktX2_print_2 := dk_seg dksX2_print_1 24 rfl rfl
theorem dX2_print_0 : decode cX2_print 0 = .ok (.aload_n 0, 1) := dk_42 (dk_at dksX2_print_0 0 rfl rfl)
theorem dX2_print_1 : decode cX2_print 1 = .ok (.getfield 22, 3) := dk_180 0 22 (dk_at dksX2_print_0 1 rfl rfl)
theorem dX2_print_4 : decode cX2_print 4 = .ok (.iload_n 1, 1) := dk_27 (dk_at dksX2_print_0 4 rfl rfl)
theorem dX2_print_5 : decode cX2_print 5 = .ok (.iaload, 1) := dk_46 (dk_at dksX2_print_0 5 rfl rfl)
theorem dX2_print_6 : decode cX2_print 6 = .ok (.iload_n 2, 1) := dk_28 (dk_at dksX2_print_0 6 rfl rfl)
theorem dX2_print_7 : decode cX2_print 7 = .ok (.if_icmp .ne 13, 3) := dk_160 0 13 (dk_at dksX2_print_0 7 rfl rfl)
theorem dX2_print_10 : decode cX2_print 10 = .ok (.aload_n 0, 1) := dk_42 (dk_at dksX2_print_0 10 rfl rfl)
theorem dX2_print_11 : decode cX2_print 11 = .ok (.getfield 25, 3) := dk_180 0 25 (dk_at dksX2_print_0 11 rfl rfl)
theorem dX2_print_14 : decode cX2_print 14 = .ok (.iload_n 1, 1) := dk_27 (dk_at dksX2_print_0 14 rfl rfl)
theorem dX2_print_15 : decode cX2_print 15 = .ok (.baload, 1) := dk_51 (dk_at dksX2_print_0 15 rfl rfl)
theorem dX2_print_16 : decode cX2_print 16 = .ok (.iload_n 3, 1) := dk_29 (dk_at dksX2_print_0 16 rfl rfl)
theorem dX2_print_17 : decode cX2_print 17 = .ok (.if_icmp .eq 7, 3) := dk_159 0 7 (dk_at dksX2_print_0 17 rfl rfl)
theorem dX2_print_20 : decode cX2_print 20 = .ok (.iconst 1, 1) := dk_4 (dk_at dksX2_print_0 20 rfl rfl)
theorem dX2_print_21 : decode cX2_print 21 = .ok (.goto 4, 3) := dk_167 0 4 (dk_at dksX2_print_0 21 rfl rfl)
theorem dX2_print_24 : decode cX2_print 24 = .ok (.iconst 0, 1) := dk_3 (dk_at dksX2_print_1 0 rfl rfl)
theorem dX2_print_25 : decode cX2_print 25 = .ok (.istore 4, 2) := dk_54 4 (dk_at dksX2_print_1 1 rfl rfl)
theorem dX2_print_27 : decode cX2_print 27 = .ok (.aload_n 0, 1) := dk_42 (dk_at dksX2_print_1 3 rfl rfl)
theorem dX2_print_28 : decode cX2_print 28 = .ok (.getfield 22, 3) := dk_180 0 22 (dk_at dksX2_print_1 4 rfl rfl)
theorem dX2_print_31 : decode cX2_print 31 = .ok (.iload_n 1, 1) := dk_27 (dk_at dksX2_print_1 7 rfl rfl)
theorem dX2_print_32 : decode cX2_print 32 = .ok (.iload_n 2, 1) := dk_28 (dk_at dksX2_print_1 8 rfl rfl)
theorem dX2_print_33 : decode cX2_print 33 = .ok (.iastore, 1) := dk_79 (dk_at dksX2_print_1 9 rfl rfl)
theorem dX2_print_34 : decode cX2_print 34 = .ok (.aload_n 0, 1) := dk_42 (dk_at dksX2_print_1 10 rfl rfl)
theorem dX2_print_35 : decode cX2_print 35 = .ok (.getfield 25, 3) := dk_180 0 25 (dk_at dksX2_print_1 11 rfl rfl)
theorem dX2_print_38 : decode cX2_print 38 = .ok (.iload_n 1, 1) := dk_27 (dk_at dksX2_print_1 14 rfl rfl)
theorem dX2_print_39 : decode cX2_print 39 = .ok (.iload_n 3, 1) := dk_29 (dk_at dksX2_print_1 15 rfl rfl)
theorem dX2_print_40 : decode cX2_print 40 = .ok (.bastore, 1) := dk_84 (dk_at dksX2_print_1 16 rfl rfl)
theorem dX2_print_41 : decode cX2_print 41 = .ok (.aload_n 0, 1) := dk_42 (dk_at dksX2_print_1 17 rfl rfl)
theorem dX2_print_42 : decode cX2_print 42 = .ok (.getfield 45, 3) := dk_180 0 45 (dk_at dksX2_print_1 18 rfl rfl)
theorem dX2_print_45 : decode cX2_print 45 = .ok (.iconst 1, 1) := dk_4 (dk_at dksX2_print_1 21 rfl rfl)
theorem dX2_print_46 : decode cX2_print 46 = .ok (.dup2, 1) := dk_92 (dk_at dksX2_print_1 22 rfl rfl)
theorem dX2_print_47 : decode cX2_print 47 = .ok (.iaload, 1) := dk_46 (dk_at dksX2_print_1 23 rfl rfl)
theorem dX2_print_48 : decode cX2_print 48 = .ok (.iload 4, 2) := dk_21 4 (dk_at dksX2_print_2 0 rfl rfl)
theorem dX2_print_50 : decode cX2_print 50 = .ok (.ifCond .eq 7, 3) := dk_153 0 7 (dk_at dksX2_print_2 2 rfl rfl)
theorem dX2_print_53 : decode cX2_print 53 = .ok (.iconst 1, 1) := dk_4 (dk_at dksX2_print_2 5 rfl rfl)
theorem dX2_print_54 : decode cX2_print 54 = .ok (.goto 4, 3) := dk_167 0 4 (dk_at dksX2_print_2 6 rfl rfl)
theorem dX2_print_57 : decode cX2_print 57 = .ok (.iconst 0, 1) := dk_3 (dk_at dksX2_print_2 9 rfl rfl)
theorem dX2_print_58 : decode cX2_print 58 = .ok (.iadd, 1) := dk_96 (dk_at dksX2_print_2 10 rfl rfl)
theorem dX2_print_59 : decode cX2_print 59 = .ok (.iastore, 1) := dk_79 (dk_at dksX2_print_2 11 rfl rfl)
theorem dX2_print_60 : decode cX2_print 60 = .ok (.iload 4, 2) := dk_21 4 (dk_at dksX2_print_2 12 rfl rfl)
theorem dX2_print_62 : decode cX2_print 62 = .ok (.ireturn, 1) := dk_172 (dk_at dksX2_print_2 14 rfl rfl)
abbrev cX2_foldedBy : ByteArray := prog_26_method_13_code
def yX2_foldedBy : MethodName := ⟨RX2, "foldedBy", "(I)LCribBooklet$Folding;"⟩
def dkwX2_foldedBy_2 : List UInt8 := [21, 4, 29, 108, 16, 10, 112, 182, 0, 90, 29, 16, 10, 108, 62, 167, 255, 231, 44, 176]
abbrev dktX2_foldedBy_2 : List UInt8 := dkwX2_foldedBy_2 ++ []
def dkwX2_foldedBy_1 : List UInt8 := [163, 0, 11, 29, 16, 10, 104, 62, 167, 255, 243, 27, 54, 4, 21, 4, 158, 0, 26, 29, 158, 0, 22, 44]
abbrev dktX2_foldedBy_1 : List UInt8 := dkwX2_foldedBy_1 ++ dktX2_foldedBy_2
def dkwX2_foldedBy_0 : List UInt8 := [187, 0, 85, 89, 42, 180, 0, 9, 42, 180, 0, 15, 183, 0, 87, 77, 4, 62, 29, 27, 16, 10, 108]
abbrev dktX2_foldedBy_0 : List UInt8 := dkwX2_foldedBy_0 ++ dktX2_foldedBy_1
theorem dksX2_foldedBy_0 : cX2_foldedBy.data.toList.drop 0 = dktX2_foldedBy_0 := by decide +kernel
theorem dksX2_foldedBy_1 : cX2_foldedBy.data.toList.drop 23 = dktX2_foldedBy_1 := dk_seg dksX2_foldedBy_0 23 rfl rfl
theorem dksX2_foldedBy_2 : cX2_foldedBy.data.toList.drop 47 = dktX2_foldedBy_2 := dk_seg dksX2_foldedBy_1 24 rfl rfl
theorem dX2_foldedBy_0 : decode cX2_foldedBy 0 = .ok (.new 85, 3) := dk_187 0 85 (dk_at dksX2_foldedBy_0 0 rfl rfl)
theorem dX2_foldedBy_3 : decode cX2_foldedBy 3 = .ok (.dup, 1) := dk_89 (dk_at dksX2_foldedBy_0 3 rfl rfl)
theorem dX2_foldedBy_4 : decode cX2_foldedBy 4 = .ok (.aload_n 0, 1) := dk_42 (dk_at dksX2_foldedBy_0 4 rfl rfl)
theorem dX2_foldedBy_5 : decode cX2_foldedBy 5 = .ok (.getfield 9, 3) := dk_180 0 9 (dk_at dksX2_foldedBy_0 5 rfl rfl)
theorem dX2_foldedBy_8 : decode cX2_foldedBy 8 = .ok (.aload_n 0, 1) := dk_42 (dk_at dksX2_foldedBy_0 8 rfl rfl)
theorem dX2_foldedBy_9 : decode cX2_foldedBy 9 = .ok (.getfield 15, 3) := dk_180 0 15 (dk_at dksX2_foldedBy_0 9 rfl rfl)
theorem dX2_foldedBy_12 : decode cX2_foldedBy 12 = .ok (.invokespecial 87, 3) := dk_183 0 87 (dk_at dksX2_foldedBy_0 12 rfl rfl)
theorem dX2_foldedBy_15 : decode cX2_foldedBy 15 = .ok (.astore_n 2, 1) := dk_77 (dk_at dksX2_foldedBy_0 15 rfl rfl)
theorem dX2_foldedBy_16 : decode cX2_foldedBy 16 = .ok (.iconst 1, 1) := dk_4 (dk_at dksX2_foldedBy_0 16 rfl rfl)
theorem dX2_foldedBy_17 : decode cX2_foldedBy 17 = .ok (.istore_n 3, 1) := dk_62 (dk_at dksX2_foldedBy_0 17 rfl rfl)
theorem dX2_foldedBy_18 : decode cX2_foldedBy 18 = .ok (.iload_n 3, 1) := dk_29 (dk_at dksX2_foldedBy_0 18 rfl rfl)
theorem dX2_foldedBy_19 : decode cX2_foldedBy 19 = .ok (.iload_n 1, 1) := dk_27 (dk_at dksX2_foldedBy_0 19 rfl rfl)
theorem dX2_foldedBy_20 : decode cX2_foldedBy 20 = .ok (.bipush 10, 2) := dk_16 10 (dk_at dksX2_foldedBy_0 20 rfl rfl)
theorem dX2_foldedBy_22 : decode cX2_foldedBy 22 = .ok (.idiv, 1) := dk_108 (dk_at dksX2_foldedBy_0 22 rfl rfl)
theorem dX2_foldedBy_23 : decode cX2_foldedBy 23 = .ok (.if_icmp .gt 11, 3) := dk_163 0 11 (dk_at dksX2_foldedBy_1 0 rfl rfl)
theorem dX2_foldedBy_26 : decode cX2_foldedBy 26 = .ok (.iload_n 3, 1) := dk_29 (dk_at dksX2_foldedBy_1 3 rfl rfl)
theorem dX2_foldedBy_27 : decode cX2_foldedBy 27 = .ok (.bipush 10, 2) := dk_16 10 (dk_at dksX2_foldedBy_1 4 rfl rfl)
theorem dX2_foldedBy_29 : decode cX2_foldedBy 29 = .ok (.imul, 1) := dk_104 (dk_at dksX2_foldedBy_1 6 rfl rfl)
theorem dX2_foldedBy_30 : decode cX2_foldedBy 30 = .ok (.istore_n 3, 1) := dk_62 (dk_at dksX2_foldedBy_1 7 rfl rfl)
theorem dX2_foldedBy_31 : decode cX2_foldedBy 31 = .ok (.goto (-13), 3) := dk_167 255 243 (dk_at dksX2_foldedBy_1 8 rfl rfl)
theorem dX2_foldedBy_34 : decode cX2_foldedBy 34 = .ok (.iload_n 1, 1) := dk_27 (dk_at dksX2_foldedBy_1 11 rfl rfl)
theorem dX2_foldedBy_35 : decode cX2_foldedBy 35 = .ok (.istore 4, 2) := dk_54 4 (dk_at dksX2_foldedBy_1 12 rfl rfl)
theorem dX2_foldedBy_37 : decode cX2_foldedBy 37 = .ok (.iload 4, 2) := dk_21 4 (dk_at dksX2_foldedBy_1 14 rfl rfl)
theorem dX2_foldedBy_39 : decode cX2_foldedBy 39 = .ok (.ifCond .le 26, 3) := dk_158 0 26 (dk_at dksX2_foldedBy_1 16 rfl rfl)
theorem dX2_foldedBy_42 : decode cX2_foldedBy 42 = .ok (.iload_n 3, 1) := dk_29 (dk_at dksX2_foldedBy_1 19 rfl rfl)
theorem dX2_foldedBy_43 : decode cX2_foldedBy 43 = .ok (.ifCond .le 22, 3) := dk_158 0 22 (dk_at dksX2_foldedBy_1 20 rfl rfl)
theorem dX2_foldedBy_46 : decode cX2_foldedBy 46 = .ok (.aload_n 2, 1) := dk_44 (dk_at dksX2_foldedBy_1 23 rfl rfl)
theorem dX2_foldedBy_47 : decode cX2_foldedBy 47 = .ok (.iload 4, 2) := dk_21 4 (dk_at dksX2_foldedBy_2 0 rfl rfl)
theorem dX2_foldedBy_49 : decode cX2_foldedBy 49 = .ok (.iload_n 3, 1) := dk_29 (dk_at dksX2_foldedBy_2 2 rfl rfl)
theorem dX2_foldedBy_50 : decode cX2_foldedBy 50 = .ok (.idiv, 1) := dk_108 (dk_at dksX2_foldedBy_2 3 rfl rfl)
theorem dX2_foldedBy_51 : decode cX2_foldedBy 51 = .ok (.bipush 10, 2) := dk_16 10 (dk_at dksX2_foldedBy_2 4 rfl rfl)
theorem dX2_foldedBy_53 : decode cX2_foldedBy 53 = .ok (.irem, 1) := dk_112 (dk_at dksX2_foldedBy_2 6 rfl rfl)
theorem dX2_foldedBy_54 : decode cX2_foldedBy 54 = .ok (.invokevirtual 90, 3) := dk_182 0 90 (dk_at dksX2_foldedBy_2 7 rfl rfl)
theorem dX2_foldedBy_57 : decode cX2_foldedBy 57 = .ok (.iload_n 3, 1) := dk_29 (dk_at dksX2_foldedBy_2 10 rfl rfl)
theorem dX2_foldedBy_58 : decode cX2_foldedBy 58 = .ok (.bipush 10, 2) := dk_16 10 (dk_at dksX2_foldedBy_2 11 rfl rfl)
theorem dX2_foldedBy_60 : decode cX2_foldedBy 60 = .ok (.idiv, 1) := dk_108 (dk_at dksX2_foldedBy_2 13 rfl rfl)
theorem dX2_foldedBy_61 : decode cX2_foldedBy 61 = .ok (.istore_n 3, 1) := dk_62 (dk_at dksX2_foldedBy_2 14 rfl rfl)
theorem dX2_foldedBy_62 : decode cX2_foldedBy 62 = .ok (.goto (-25), 3) := dk_167 255 231 (dk_at dksX2_foldedBy_2 15 rfl rfl)
theorem dX2_foldedBy_65 : decode cX2_foldedBy 65 = .ok (.aload_n 2, 1) := dk_44 (dk_at dksX2_foldedBy_2 18 rfl rfl)
theorem dX2_foldedBy_66 : decode cX2_foldedBy 66 = .ok (.areturn, 1) := dk_176 (dk_at dksX2_foldedBy_2 19 rfl rfl)
abbrev cX2_foldsAsNumber : ByteArray := prog_26_method_11_code
def yX2_foldsAsNumber : MethodName := ⟨RX2, "foldsAsNumber", "()I"⟩
def dkwX2_foldsAsNumber_1 : List UInt8 := [132, 2, 1, 167, 255, 233, 27, 172]
abbrev dktX2_foldsAsNumber_1 : List UInt8 := dkwX2_foldsAsNumber_1 ++ []
def dkwX2_foldsAsNumber_0 : List UInt8 := [3, 60, 3, 61, 28, 42, 180, 0, 52, 162, 0, 21, 16, 10, 27, 104, 42, 180, 0, 18, 28, 46, 96, 60]
abbrev dktX2_foldsAsNumber_0 : List UInt8 := dkwX2_foldsAsNumber_0 ++ dktX2_foldsAsNumber_1
theorem dksX2_foldsAsNumber_0 : cX2_foldsAsNumber.data.toList.drop 0 = dktX2_foldsAsNumber_0 := by decide +kernel
theorem dksX2_foldsAsNumber_1 : cX2_foldsAsNumber.data.toList.drop 24 = dktX2_foldsAsNumber_1 := dk_seg dksX2_foldsAsNumber_0 24 rfl rfl
theorem dX2_foldsAsNumber_0 : decode cX2_foldsAsNumber 0 = .ok (.iconst 0, 1) := dk_3 (dk_at dksX2_foldsAsNumber_0 0 rfl rfl)
theorem dX2_foldsAsNumber_1 : decode cX2_foldsAsNumber 1 = .ok (.istore_n 1, 1) := dk_60 (dk_at dksX2_foldsAsNumber_0 1 rfl rfl)
theorem dX2_foldsAsNumber_2 : decode cX2_foldsAsNumber 2 = .ok (.iconst 0, 1) := dk_3 (dk_at dksX2_foldsAsNumber_0 2 rfl rfl)
theorem dX2_foldsAsNumber_3 : decode cX2_foldsAsNumber 3 = .ok (.istore_n 2, 1) := dk_61 (dk_at dksX2_foldsAsNumber_0 3 rfl rfl)
theorem dX2_foldsAsNumber_4 : decode cX2_foldsAsNumber 4 = .ok (.iload_n 2, 1) := dk_28 (dk_at dksX2_foldsAsNumber_0 4 rfl rfl)
theorem dX2_foldsAsNumber_5 : decode cX2_foldsAsNumber 5 = .ok (.aload_n 0, 1) := dk_42 (dk_at dksX2_foldsAsNumber_0 5 rfl rfl)
theorem dX2_foldsAsNumber_6 : decode cX2_foldsAsNumber 6 = .ok (.getfield 52, 3) := dk_180 0 52 (dk_at dksX2_foldsAsNumber_0 6 rfl rfl)
theorem dX2_foldsAsNumber_9 : decode cX2_foldsAsNumber 9 = .ok (.if_icmp .ge 21, 3) := dk_162 0 21 (dk_at dksX2_foldsAsNumber_0 9 rfl rfl)
theorem dX2_foldsAsNumber_12 : decode cX2_foldsAsNumber 12 = .ok (.bipush 10, 2) := dk_16 10 (dk_at dksX2_foldsAsNumber_0 12 rfl rfl)
theorem dX2_foldsAsNumber_14 : decode cX2_foldsAsNumber 14 = .ok (.iload_n 1, 1) := dk_27 (dk_at dksX2_foldsAsNumber_0 14 rfl rfl)
theorem dX2_foldsAsNumber_15 : decode cX2_foldsAsNumber 15 = .ok (.imul, 1) := dk_104 (dk_at dksX2_foldsAsNumber_0 15 rfl rfl)
theorem dX2_foldsAsNumber_16 : decode cX2_foldsAsNumber 16 = .ok (.aload_n 0, 1) := dk_42 (dk_at dksX2_foldsAsNumber_0 16 rfl rfl)
theorem dX2_foldsAsNumber_17 : decode cX2_foldsAsNumber 17 = .ok (.getfield 18, 3) := dk_180 0 18 (dk_at dksX2_foldsAsNumber_0 17 rfl rfl)
theorem dX2_foldsAsNumber_20 : decode cX2_foldsAsNumber 20 = .ok (.iload_n 2, 1) := dk_28 (dk_at dksX2_foldsAsNumber_0 20 rfl rfl)
theorem dX2_foldsAsNumber_21 : decode cX2_foldsAsNumber 21 = .ok (.iaload, 1) := dk_46 (dk_at dksX2_foldsAsNumber_0 21 rfl rfl)
theorem dX2_foldsAsNumber_22 : decode cX2_foldsAsNumber 22 = .ok (.iadd, 1) := dk_96 (dk_at dksX2_foldsAsNumber_0 22 rfl rfl)
theorem dX2_foldsAsNumber_23 : decode cX2_foldsAsNumber 23 = .ok (.istore_n 1, 1) := dk_60 (dk_at dksX2_foldsAsNumber_0 23 rfl rfl)
theorem dX2_foldsAsNumber_24 : decode cX2_foldsAsNumber 24 = .ok (.iinc 2 1, 3) := dk_132 2 1 (dk_at dksX2_foldsAsNumber_1 0 rfl rfl)
theorem dX2_foldsAsNumber_27 : decode cX2_foldsAsNumber 27 = .ok (.goto (-23), 3) := dk_167 255 233 (dk_at dksX2_foldsAsNumber_1 3 rfl rfl)
theorem dX2_foldsAsNumber_30 : decode cX2_foldsAsNumber 30 = .ok (.iload_n 1, 1) := dk_27 (dk_at dksX2_foldsAsNumber_1 6 rfl rfl)
theorem dX2_foldsAsNumber_31 : decode cX2_foldsAsNumber 31 = .ok (.ireturn, 1) := dk_172 (dk_at dksX2_foldsAsNumber_1 7 rfl rfl)
theorem q89 : (Jvm.Cond.initialized "CribBooklet$Sheet") ∈ lw_all := lw_g (lw_at lw_m1 3 rfl) rfl
theorem q170 : (Jvm.Cond.instantiable "CribBooklet$Sheet" (14 : Nat)) ∈ lw_all := lw_g (lw_at lw_m1 84 rfl) rfl
theorem q172 : (Jvm.Cond.instanceMethod ({ cls := "CribBooklet$Sheet", name := "<init>", desc := "()V" } : Jvm.MethodName)) ∈ lw_all := lw_g (lw_at lw_m1 86 rfl) rfl
theorem q173 : (Jvm.Cond.code ({ cls := "CribBooklet$Sheet", name := "<init>", desc := "()V" } : Jvm.MethodName) prog_26_method_1_code (1 : Nat) (Option.none : Option Jvm.ClassFile.FieldType)) ∈ lw_all := lw_g (lw_at lw_m1 87 rfl) rfl
theorem q174 : (Jvm.Cond.methodLink "CribBooklet$Sheet" (3 : Nat) ({ cls := "java/lang/Object", name := "<init>", desc := "()V" } : Jvm.MethodName)) ∈ lw_all := lw_g (lw_at lw_m1 88 rfl) rfl
theorem q175 : (Jvm.Cond.classLink "CribBooklet$Sheet" (35 : Nat) "java/util/ArrayList") ∈ lw_all := lw_g (lw_at lw_m1 89 rfl) rfl
theorem q177 : (Jvm.Cond.methodLink "CribBooklet$Sheet" (37 : Nat) ({ cls := "java/util/ArrayList", name := "<init>", desc := "()V" } : Jvm.MethodName)) ∈ lw_all := lw_g (lw_at lw_m1 91 rfl) rfl
theorem q206 : (Jvm.Cond.methodLink "CribBooklet$Sheet" (48 : Nat) ({ cls := "CribBooklet$Sheet", name := "blank", desc := "()V" } : Jvm.MethodName)) ∈ lw_all := lw_g (lw_at lw_m1 120 rfl) rfl
theorem q207 : (Jvm.Cond.instanceMethod ({ cls := "CribBooklet$Sheet", name := "blank", desc := "()V" } : Jvm.MethodName)) ∈ lw_all := lw_g (lw_at lw_m1 121 rfl) rfl
theorem q208 : (Jvm.Cond.selects "CribBooklet$Sheet" ({ cls := "CribBooklet$Sheet", name := "blank", desc := "()V" } : Jvm.MethodName) ({ cls := "CribBooklet$Sheet", name := "blank", desc := "()V" } : Jvm.MethodName)) ∈ lw_all := lw_g (lw_at lw_m1 122 rfl) rfl
theorem q209 : (Jvm.Cond.code ({ cls := "CribBooklet$Sheet", name := "blank", desc := "()V" } : Jvm.MethodName) prog_26_method_2_code (2 : Nat) (Option.none : Option Jvm.ClassFile.FieldType)) ∈ lw_all := lw_g (lw_at lw_m1 123 rfl) rfl
theorem q210 : (Jvm.Cond.fieldLink "CribBooklet$Sheet" (9 : Nat) "CribBooklet$Sheet" "rows" "I") ∈ lw_all := lw_g (lw_at lw_m1 124 rfl) rfl
theorem q214 : (Jvm.Cond.fieldLink "CribBooklet$Sheet" (15 : Nat) "CribBooklet$Sheet" "columns" "I") ∈ lw_all := lw_g (lw_at lw_m1 128 rfl) rfl
theorem q218 : (Jvm.Cond.fieldLink "CribBooklet$Sheet" (18 : Nat) "CribBooklet$Sheet" "folds" "[I") ∈ lw_all := lw_g (lw_at lw_m1 132 rfl) rfl
theorem q224 : (Jvm.Cond.fieldLink "CribBooklet$Sheet" (52 : Nat) "CribBooklet$Sheet" "foldMany" "I") ∈ lw_all := lw_g (lw_at lw_m1 138 rfl) rfl
theorem q227 : (Jvm.Cond.fieldLink "CribBooklet$Sheet" (22 : Nat) "CribBooklet$Sheet" "numbers" "[I") ∈ lw_all := lw_g (lw_at lw_m1 141 rfl) rfl
theorem q231 : (Jvm.Cond.fieldLink "CribBooklet$Sheet" (25 : Nat) "CribBooklet$Sheet" "turned" "[Z") ∈ lw_all := lw_g (lw_at lw_m1 145 rfl) rfl
theorem q235 : (Jvm.Cond.fieldLink "CribBooklet$Sheet" (61 : Nat) "CribBooklet$Sheet" "spine" "I") ∈ lw_all := lw_g (lw_at lw_m1 149 rfl) rfl
theorem q239 : (Jvm.Cond.fieldLink "CribBooklet$Sheet" (64 : Nat) "CribBooklet$Sheet" "cuts" "I") ∈ lw_all := lw_g (lw_at lw_m1 153 rfl) rfl
theorem q246 : (Jvm.Cond.fieldLink "CribBooklet$Sheet" (67 : Nat) "CribBooklet$Sheet" "staples" "I") ∈ lw_all := lw_g (lw_at lw_m1 160 rfl) rfl
theorem q250 : (Jvm.Cond.fieldLink "CribBooklet$Sheet" (29 : Nat) "CribBooklet$Sheet" "legs" "I") ∈ lw_all := lw_g (lw_at lw_m1 164 rfl) rfl
theorem q254 : (Jvm.Cond.fieldLink "CribBooklet$Sheet" (32 : Nat) "CribBooklet$Sheet" "lines" "I") ∈ lw_all := lw_g (lw_at lw_m1 168 rfl) rfl
theorem q258 : (Jvm.Cond.fieldLink "CribBooklet$Sheet" (38 : Nat) "CribBooklet$Sheet" "sights" "Ljava/util/ArrayList;") ∈ lw_all := lw_g (lw_at lw_m1 172 rfl) rfl
theorem q264 : (Jvm.Cond.fieldLink "CribBooklet$Sheet" (42 : Nat) "CribBooklet$Sheet" "notes" "Ljava/util/ArrayList;") ∈ lw_all := lw_g (lw_at lw_m1 178 rfl) rfl
theorem q269 : (Jvm.Cond.fieldLink "CribBooklet$Sheet" (45 : Nat) "CribBooklet$Sheet" "efforts" "[I") ∈ lw_all := lw_g (lw_at lw_m1 183 rfl) rfl
theorem q277 : (Jvm.Cond.lays "CribBooklet$Sheet" "CribBooklet$Sheet" "rows" "I") ∈ lw_all := lw_g (lw_at lw_m1 191 rfl) rfl
theorem q278 : (Jvm.Cond.soleField "CribBooklet$Sheet" "rows") ∈ lw_all := lw_g (lw_at lw_m1 192 rfl) rfl
theorem q279 : (Jvm.Cond.lays "CribBooklet$Sheet" "CribBooklet$Sheet" "columns" "I") ∈ lw_all := lw_g (lw_at lw_m1 193 rfl) rfl
theorem q280 : (Jvm.Cond.soleField "CribBooklet$Sheet" "columns") ∈ lw_all := lw_g (lw_at lw_m1 194 rfl) rfl
theorem q281 : (Jvm.Cond.laysFinal "CribBooklet$Sheet" "CribBooklet$Sheet" "folds" "[I") ∈ lw_all := lw_g (lw_at lw_m1 195 rfl) rfl
theorem q282 : (Jvm.Cond.soleField "CribBooklet$Sheet" "folds") ∈ lw_all := lw_g (lw_at lw_m1 196 rfl) rfl
theorem q283 : (Jvm.Cond.lays "CribBooklet$Sheet" "CribBooklet$Sheet" "foldMany" "I") ∈ lw_all := lw_g (lw_at lw_m1 197 rfl) rfl
theorem q284 : (Jvm.Cond.soleField "CribBooklet$Sheet" "foldMany") ∈ lw_all := lw_g (lw_at lw_m1 198 rfl) rfl
theorem q285 : (Jvm.Cond.laysFinal "CribBooklet$Sheet" "CribBooklet$Sheet" "numbers" "[I") ∈ lw_all := lw_g (lw_at lw_m1 199 rfl) rfl
theorem q286 : (Jvm.Cond.soleField "CribBooklet$Sheet" "numbers") ∈ lw_all := lw_g (lw_at lw_m1 200 rfl) rfl
theorem q287 : (Jvm.Cond.laysFinal "CribBooklet$Sheet" "CribBooklet$Sheet" "turned" "[Z") ∈ lw_all := lw_g (lw_at lw_m1 201 rfl) rfl
theorem q288 : (Jvm.Cond.soleField "CribBooklet$Sheet" "turned") ∈ lw_all := lw_g (lw_at lw_m1 202 rfl) rfl
theorem q289 : (Jvm.Cond.lays "CribBooklet$Sheet" "CribBooklet$Sheet" "spine" "I") ∈ lw_all := lw_g (lw_at lw_m1 203 rfl) rfl
theorem q290 : (Jvm.Cond.soleField "CribBooklet$Sheet" "spine") ∈ lw_all := lw_g (lw_at lw_m1 204 rfl) rfl
theorem q291 : (Jvm.Cond.lays "CribBooklet$Sheet" "CribBooklet$Sheet" "cuts" "I") ∈ lw_all := lw_g (lw_at lw_m1 205 rfl) rfl
theorem q292 : (Jvm.Cond.soleField "CribBooklet$Sheet" "cuts") ∈ lw_all := lw_g (lw_at lw_m1 206 rfl) rfl
theorem q293 : (Jvm.Cond.lays "CribBooklet$Sheet" "CribBooklet$Sheet" "staples" "I") ∈ lw_all := lw_g (lw_at lw_m1 207 rfl) rfl
theorem q294 : (Jvm.Cond.soleField "CribBooklet$Sheet" "staples") ∈ lw_all := lw_g (lw_at lw_m1 208 rfl) rfl
theorem q295 : (Jvm.Cond.lays "CribBooklet$Sheet" "CribBooklet$Sheet" "legs" "I") ∈ lw_all := lw_g (lw_at lw_m1 209 rfl) rfl
theorem q296 : (Jvm.Cond.soleField "CribBooklet$Sheet" "legs") ∈ lw_all := lw_g (lw_at lw_m1 210 rfl) rfl
theorem q297 : (Jvm.Cond.lays "CribBooklet$Sheet" "CribBooklet$Sheet" "lines" "I") ∈ lw_all := lw_g (lw_at lw_m1 211 rfl) rfl
theorem q298 : (Jvm.Cond.soleField "CribBooklet$Sheet" "lines") ∈ lw_all := lw_g (lw_at lw_m1 212 rfl) rfl
theorem q299 : (Jvm.Cond.laysFinal "CribBooklet$Sheet" "CribBooklet$Sheet" "sights" "Ljava/util/ArrayList;") ∈ lw_all := lw_g (lw_at lw_m1 213 rfl) rfl
theorem q300 : (Jvm.Cond.soleField "CribBooklet$Sheet" "sights") ∈ lw_all := lw_g (lw_at lw_m1 214 rfl) rfl
theorem q301 : (Jvm.Cond.laysFinal "CribBooklet$Sheet" "CribBooklet$Sheet" "notes" "Ljava/util/ArrayList;") ∈ lw_all := lw_g (lw_at lw_m1 215 rfl) rfl
theorem q302 : (Jvm.Cond.soleField "CribBooklet$Sheet" "notes") ∈ lw_all := lw_g (lw_at lw_m1 216 rfl) rfl
theorem q303 : (Jvm.Cond.laysFinal "CribBooklet$Sheet" "CribBooklet$Sheet" "efforts" "[I") ∈ lw_all := lw_g (lw_at lw_m1 217 rfl) rfl
theorem q304 : (Jvm.Cond.soleField "CribBooklet$Sheet" "efforts") ∈ lw_all := lw_g (lw_at lw_m1 218 rfl) rfl
theorem q305 : (Jvm.Cond.superclass "CribBooklet$Sheet" "java/lang/Object") ∈ lw_all := lw_g (lw_at lw_m1 219 rfl) rfl
theorem q431 : (Jvm.Cond.instanceMethod ({ cls := "CribBooklet$Sheet", name := "isBooklet", desc := "()Z" } : Jvm.MethodName)) ∈ lw_all := lw_g (lw_at lw_m2 105 rfl) rfl
theorem q432 : (Jvm.Cond.selects "CribBooklet$Sheet" ({ cls := "CribBooklet$Sheet", name := "isBooklet", desc := "()Z" } : Jvm.MethodName) ({ cls := "CribBooklet$Sheet", name := "isBooklet", desc := "()Z" } : Jvm.MethodName)) ∈ lw_all := lw_g (lw_at lw_m2 106 rfl) rfl
theorem q433 : (Jvm.Cond.code ({ cls := "CribBooklet$Sheet", name := "isBooklet", desc := "()Z" } : Jvm.MethodName) prog_26_method_8_code (1 : Nat) (Option.some Jvm.ClassFile.FieldType.boolean)) ∈ lw_all := lw_g (lw_at lw_m2 107 rfl) rfl
theorem q434 : (Jvm.Cond.methodLink "CribBooklet$Sheet" (78 : Nat) ({ cls := "CribBooklet$Sheet", name := "layers", desc := "()I" } : Jvm.MethodName)) ∈ lw_all := lw_g (lw_at lw_m2 108 rfl) rfl
theorem q435 : (Jvm.Cond.instanceMethod ({ cls := "CribBooklet$Sheet", name := "layers", desc := "()I" } : Jvm.MethodName)) ∈ lw_all := lw_g (lw_at lw_m2 109 rfl) rfl
theorem q436 : (Jvm.Cond.selects "CribBooklet$Sheet" ({ cls := "CribBooklet$Sheet", name := "layers", desc := "()I" } : Jvm.MethodName) ({ cls := "CribBooklet$Sheet", name := "layers", desc := "()I" } : Jvm.MethodName)) ∈ lw_all := lw_g (lw_at lw_m2 110 rfl) rfl
theorem q437 : (Jvm.Cond.code ({ cls := "CribBooklet$Sheet", name := "layers", desc := "()I" } : Jvm.MethodName) prog_26_method_7_code (1 : Nat) (Option.some Jvm.ClassFile.FieldType.int)) ∈ lw_all := lw_g (lw_at lw_m2 111 rfl) rfl
theorem q438 : (Jvm.Cond.methodLink "CribBooklet$Sheet" (82 : Nat) ({ cls := "CribBooklet$Sheet", name := "cells", desc := "()I" } : Jvm.MethodName)) ∈ lw_all := lw_g (lw_at lw_m2 112 rfl) rfl
theorem q439 : (Jvm.Cond.instanceMethod ({ cls := "CribBooklet$Sheet", name := "cells", desc := "()I" } : Jvm.MethodName)) ∈ lw_all := lw_g (lw_at lw_m2 113 rfl) rfl
theorem q440 : (Jvm.Cond.selects "CribBooklet$Sheet" ({ cls := "CribBooklet$Sheet", name := "cells", desc := "()I" } : Jvm.MethodName) ({ cls := "CribBooklet$Sheet", name := "cells", desc := "()I" } : Jvm.MethodName)) ∈ lw_all := lw_g (lw_at lw_m2 114 rfl) rfl
theorem q441 : (Jvm.Cond.code ({ cls := "CribBooklet$Sheet", name := "cells", desc := "()I" } : Jvm.MethodName) prog_26_method_4_code (1 : Nat) (Option.some Jvm.ClassFile.FieldType.int)) ∈ lw_all := lw_g (lw_at lw_m2 115 rfl) rfl
theorem q453 : (Jvm.Cond.instanceMethod ({ cls := "CribBooklet$Sheet", name := "isWorked", desc := "()Z" } : Jvm.MethodName)) ∈ lw_all := lw_g (lw_at lw_m2 127 rfl) rfl
theorem q454 : (Jvm.Cond.selects "CribBooklet$Sheet" ({ cls := "CribBooklet$Sheet", name := "isWorked", desc := "()Z" } : Jvm.MethodName) ({ cls := "CribBooklet$Sheet", name := "isWorked", desc := "()Z" } : Jvm.MethodName)) ∈ lw_all := lw_g (lw_at lw_m2 128 rfl) rfl
theorem q455 : (Jvm.Cond.code ({ cls := "CribBooklet$Sheet", name := "isWorked", desc := "()Z" } : Jvm.MethodName) prog_26_method_9_code (1 : Nat) (Option.some Jvm.ClassFile.FieldType.boolean)) ∈ lw_all := lw_g (lw_at lw_m2 129 rfl) rfl
theorem q457 : (Jvm.Cond.instanceMethod ({ cls := "CribBooklet$Sheet", name := "folding", desc := "()LCribBooklet$Folding;" } : Jvm.MethodName)) ∈ lw_all := lw_g (lw_at lw_m2 131 rfl) rfl
theorem q458 : (Jvm.Cond.selects "CribBooklet$Sheet" ({ cls := "CribBooklet$Sheet", name := "folding", desc := "()LCribBooklet$Folding;" } : Jvm.MethodName) ({ cls := "CribBooklet$Sheet", name := "folding", desc := "()LCribBooklet$Folding;" } : Jvm.MethodName)) ∈ lw_all := lw_g (lw_at lw_m2 132 rfl) rfl
theorem q459 : (Jvm.Cond.code ({ cls := "CribBooklet$Sheet", name := "folding", desc := "()LCribBooklet$Folding;" } : Jvm.MethodName) prog_26_method_12_code (3 : Nat) (Option.some (Jvm.ClassFile.FieldType.object "CribBooklet$Folding"))) ∈ lw_all := lw_g (lw_at lw_m2 133 rfl) rfl
theorem q460 : (Jvm.Cond.classLink "CribBooklet$Sheet" (85 : Nat) "CribBooklet$Folding") ∈ lw_all := lw_g (lw_at lw_m2 134 rfl) rfl
theorem q462 : (Jvm.Cond.methodLink "CribBooklet$Sheet" (87 : Nat) ({ cls := "CribBooklet$Folding", name := "<init>", desc := "(II)V" } : Jvm.MethodName)) ∈ lw_all := lw_g (lw_at lw_m2 136 rfl) rfl
theorem q505 : (Jvm.Cond.methodLink "CribBooklet$Sheet" (90 : Nat) ({ cls := "CribBooklet$Folding", name := "fold", desc := "(I)V" } : Jvm.MethodName)) ∈ lw_all := lw_g (lw_at lw_m2 179 rfl) rfl
theorem q568 : (Jvm.Cond.instanceMethod ({ cls := "CribBooklet$Sheet", name := "isCell", desc := "(II)Z" } : Jvm.MethodName)) ∈ lw_all := lw_g (lw_at lw_m3 2 rfl) rfl
theorem q569 : (Jvm.Cond.selects "CribBooklet$Sheet" ({ cls := "CribBooklet$Sheet", name := "isCell", desc := "(II)Z" } : Jvm.MethodName) ({ cls := "CribBooklet$Sheet", name := "isCell", desc := "(II)Z" } : Jvm.MethodName)) ∈ lw_all := lw_g (lw_at lw_m3 3 rfl) rfl
theorem q570 : (Jvm.Cond.code ({ cls := "CribBooklet$Sheet", name := "isCell", desc := "(II)Z" } : Jvm.MethodName) prog_26_method_5_code (3 : Nat) (Option.some Jvm.ClassFile.FieldType.boolean)) ∈ lw_all := lw_g (lw_at lw_m3 4 rfl) rfl
theorem q571 : (Jvm.Cond.methodLinkNest "CribBooklet$Sheet" (74 : Nat) ({ cls := "CribBooklet", name := "isIn", desc := "(III)Z" } : Jvm.MethodName) "CribBooklet") ∈ lw_tbl := lw_at lw_m3 5 rfl
theorem q582 : (Jvm.Cond.instanceMethod ({ cls := "CribBooklet$Sheet", name := "isRow", desc := "(I)Z" } : Jvm.MethodName)) ∈ lw_all := lw_g (lw_at lw_m3 16 rfl) rfl
theorem q583 : (Jvm.Cond.selects "CribBooklet$Sheet" ({ cls := "CribBooklet$Sheet", name := "isRow", desc := "(I)Z" } : Jvm.MethodName) ({ cls := "CribBooklet$Sheet", name := "isRow", desc := "(I)Z" } : Jvm.MethodName)) ∈ lw_all := lw_g (lw_at lw_m3 17 rfl) rfl
theorem q584 : (Jvm.Cond.code ({ cls := "CribBooklet$Sheet", name := "isRow", desc := "(I)Z" } : Jvm.MethodName) prog_26_method_14_code (6 : Nat) (Option.some Jvm.ClassFile.FieldType.boolean)) ∈ lw_all := lw_g (lw_at lw_m3 18 rfl) rfl
theorem q648 : (Jvm.Cond.instanceMethod ({ cls := "CribBooklet$Sheet", name := "copy", desc := "()LCribBooklet$Sheet;" } : Jvm.MethodName)) ∈ lw_all := lw_g (lw_at lw_m3 82 rfl) rfl
theorem q649 : (Jvm.Cond.selects "CribBooklet$Sheet" ({ cls := "CribBooklet$Sheet", name := "copy", desc := "()LCribBooklet$Sheet;" } : Jvm.MethodName) ({ cls := "CribBooklet$Sheet", name := "copy", desc := "()LCribBooklet$Sheet;" } : Jvm.MethodName)) ∈ lw_all := lw_g (lw_at lw_m3 83 rfl) rfl
theorem q650 : (Jvm.Cond.code ({ cls := "CribBooklet$Sheet", name := "copy", desc := "()LCribBooklet$Sheet;" } : Jvm.MethodName) prog_26_method_3_code (2 : Nat) (Option.some (Jvm.ClassFile.FieldType.object "CribBooklet$Sheet"))) ∈ lw_all := lw_g (lw_at lw_m3 84 rfl) rfl
theorem q651 : (Jvm.Cond.classLink "CribBooklet$Sheet" (10 : Nat) "CribBooklet$Sheet") ∈ lw_all := lw_g (lw_at lw_m3 85 rfl) rfl
theorem q652 : (Jvm.Cond.methodLink "CribBooklet$Sheet" (51 : Nat) ({ cls := "CribBooklet$Sheet", name := "<init>", desc := "()V" } : Jvm.MethodName)) ∈ lw_all := lw_g (lw_at lw_m3 86 rfl) rfl
theorem q653 : (Jvm.Cond.methodLink "CribBooklet$Sheet" (55 : Nat) ({ cls := "java/lang/System", name := "arraycopy", desc := "(Ljava/lang/Object;ILjava/lang/Object;II)V" } : Jvm.MethodName)) ∈ lw_all := lw_g (lw_at lw_m3 87 rfl) rfl
theorem q656 : (Jvm.Cond.methodLink "CribBooklet$Sheet" (70 : Nat) ({ cls := "java/util/ArrayList", name := "addAll", desc := "(Ljava/util/Collection;)Z" } : Jvm.MethodName)) ∈ lw_all := lw_g (lw_at lw_m3 90 rfl) rfl
theorem q721 : (Jvm.Cond.selects "CribBooklet$Sheet" ({ cls := "java/lang/Object", name := "getClass", desc := "()Ljava/lang/Class;" } : Jvm.MethodName) ({ cls := "java/lang/Object", name := "getClass", desc := "()Ljava/lang/Class;" } : Jvm.MethodName)) ∈ lw_all := lw_g (lw_at lw_m3 155 rfl) rfl
theorem q1123 : (Jvm.Cond.instanceMethod ({ cls := "CribBooklet$Sheet", name := "booklet", desc := "()LCribBooklet$Booklet;" } : Jvm.MethodName)) ∈ lw_all := lw_g (lw_at lw_m5 77 rfl) rfl
theorem q1124 : (Jvm.Cond.selects "CribBooklet$Sheet" ({ cls := "CribBooklet$Sheet", name := "booklet", desc := "()LCribBooklet$Booklet;" } : Jvm.MethodName) ({ cls := "CribBooklet$Sheet", name := "booklet", desc := "()LCribBooklet$Booklet;" } : Jvm.MethodName)) ∈ lw_all := lw_g (lw_at lw_m5 78 rfl) rfl
theorem q1125 : (Jvm.Cond.code ({ cls := "CribBooklet$Sheet", name := "booklet", desc := "()LCribBooklet$Booklet;" } : Jvm.MethodName) prog_26_method_16_code (1 : Nat) (Option.some (Jvm.ClassFile.FieldType.object "CribBooklet$Booklet"))) ∈ lw_all := lw_g (lw_at lw_m5 79 rfl) rfl
theorem q1126 : (Jvm.Cond.classLink "CribBooklet$Sheet" (94 : Nat) "CribBooklet$Booklet") ∈ lw_all := lw_g (lw_at lw_m5 80 rfl) rfl
theorem q1128 : (Jvm.Cond.methodLink "CribBooklet$Sheet" (96 : Nat) ({ cls := "CribBooklet$Sheet", name := "folding", desc := "()LCribBooklet$Folding;" } : Jvm.MethodName)) ∈ lw_all := lw_g (lw_at lw_m5 82 rfl) rfl
theorem q1129 : (Jvm.Cond.methodLink "CribBooklet$Sheet" (100 : Nat) ({ cls := "CribBooklet$Booklet", name := "<init>", desc := "(LCribBooklet$Sheet;LCribBooklet$Folding;)V" } : Jvm.MethodName)) ∈ lw_all := lw_g (lw_at lw_m5 83 rfl) rfl
theorem q1187 : (Jvm.Cond.instanceMethod ({ cls := "CribBooklet$Sheet", name := "spineEdge", desc := "()I" } : Jvm.MethodName)) ∈ lw_all := lw_g (lw_at lw_m5 141 rfl) rfl
theorem q1188 : (Jvm.Cond.selects "CribBooklet$Sheet" ({ cls := "CribBooklet$Sheet", name := "spineEdge", desc := "()I" } : Jvm.MethodName) ({ cls := "CribBooklet$Sheet", name := "spineEdge", desc := "()I" } : Jvm.MethodName)) ∈ lw_all := lw_g (lw_at lw_m5 142 rfl) rfl
theorem q1189 : (Jvm.Cond.code ({ cls := "CribBooklet$Sheet", name := "spineEdge", desc := "()I" } : Jvm.MethodName) prog_26_method_10_code (1 : Nat) (Option.some Jvm.ClassFile.FieldType.int)) ∈ lw_all := lw_g (lw_at lw_m5 143 rfl) rfl
theorem q1259 : (Jvm.Cond.instanceMethod ({ cls := "CribBooklet$Sheet", name := "sideOf", desc := "(III)I" } : Jvm.MethodName)) ∈ lw_all := lw_g (lw_at lw_m5 213 rfl) rfl
theorem q1260 : (Jvm.Cond.selects "CribBooklet$Sheet" ({ cls := "CribBooklet$Sheet", name := "sideOf", desc := "(III)I" } : Jvm.MethodName) ({ cls := "CribBooklet$Sheet", name := "sideOf", desc := "(III)I" } : Jvm.MethodName)) ∈ lw_all := lw_g (lw_at lw_m5 214 rfl) rfl
theorem q1261 : (Jvm.Cond.code ({ cls := "CribBooklet$Sheet", name := "sideOf", desc := "(III)I" } : Jvm.MethodName) prog_26_method_6_code (4 : Nat) (Option.some Jvm.ClassFile.FieldType.int)) ∈ lw_all := lw_g (lw_at lw_m5 215 rfl) rfl
theorem q1263 : (Jvm.Cond.instanceMethod ({ cls := "CribBooklet$Sheet", name := "print", desc := "(IIZ)Z" } : Jvm.MethodName)) ∈ lw_all := lw_g (lw_at lw_m5 217 rfl) rfl
theorem q1264 : (Jvm.Cond.selects "CribBooklet$Sheet" ({ cls := "CribBooklet$Sheet", name := "print", desc := "(IIZ)Z" } : Jvm.MethodName) ({ cls := "CribBooklet$Sheet", name := "print", desc := "(IIZ)Z" } : Jvm.MethodName)) ∈ lw_all := lw_g (lw_at lw_m5 218 rfl) rfl
theorem q1265 : (Jvm.Cond.code ({ cls := "CribBooklet$Sheet", name := "print", desc := "(IIZ)Z" } : Jvm.MethodName) prog_26_method_15_code (5 : Nat) (Option.some Jvm.ClassFile.FieldType.boolean)) ∈ lw_all := lw_g (lw_at lw_m5 219 rfl) rfl
theorem q1273 : (Jvm.Cond.instanceMethod ({ cls := "CribBooklet$Sheet", name := "foldedBy", desc := "(I)LCribBooklet$Folding;" } : Jvm.MethodName)) ∈ lw_all := lw_g (lw_at lw_m5 227 rfl) rfl
theorem q1274 : (Jvm.Cond.selects "CribBooklet$Sheet" ({ cls := "CribBooklet$Sheet", name := "foldedBy", desc := "(I)LCribBooklet$Folding;" } : Jvm.MethodName) ({ cls := "CribBooklet$Sheet", name := "foldedBy", desc := "(I)LCribBooklet$Folding;" } : Jvm.MethodName)) ∈ lw_all := lw_g (lw_at lw_m5 228 rfl) rfl
theorem q1275 : (Jvm.Cond.code ({ cls := "CribBooklet$Sheet", name := "foldedBy", desc := "(I)LCribBooklet$Folding;" } : Jvm.MethodName) prog_26_method_13_code (5 : Nat) (Option.some (Jvm.ClassFile.FieldType.object "CribBooklet$Folding"))) ∈ lw_all := lw_g (lw_at lw_m5 229 rfl) rfl
theorem q2015 : (Jvm.Cond.instanceMethod ({ cls := "CribBooklet$Sheet", name := "foldsAsNumber", desc := "()I" } : Jvm.MethodName)) ∈ lw_all := lw_g (lw_at lw_m9 9 rfl) rfl
theorem q2016 : (Jvm.Cond.selects "CribBooklet$Sheet" ({ cls := "CribBooklet$Sheet", name := "foldsAsNumber", desc := "()I" } : Jvm.MethodName) ({ cls := "CribBooklet$Sheet", name := "foldsAsNumber", desc := "()I" } : Jvm.MethodName)) ∈ lw_all := lw_g (lw_at lw_m9 10 rfl) rfl
theorem q2017 : (Jvm.Cond.code ({ cls := "CribBooklet$Sheet", name := "foldsAsNumber", desc := "()I" } : Jvm.MethodName) prog_26_method_11_code (3 : Nat) (Option.some Jvm.ClassFile.FieldType.int)) ∈ lw_all := lw_g (lw_at lw_m9 11 rfl) rfl
theorem q3329 : (Jvm.Cond.castable "CribBooklet$Sheet" "java/lang/Object") ∈ lw_tbl := lw_at lw_m14 123 rfl
theorem in_X2 : ∀ w ∈ wsX20, w ∈ lw_all := lw_in wsX20 [277, 279, 281, 283, 285, 287, 289, 291, 293, 295, 297, 299, 301, 303] (by decide +kernel) (by decide +kernel)

end
section
/-! CribBooklet$NewSheet -/
set_option maxRecDepth 100000
def RX4 : String := "CribBooklet$NewSheet"
def TX4 : u_T := fun k => match k with
  | 0 => ("CribBooklet$NewSheet", "rows", "I", true)
  | _ => ("CribBooklet$NewSheet", "columns", "I", true)
def tyX4 : Nat → FieldType := fun k => match k with
  | 0 => .int
  | _ => .int
abbrev wsX40 : List Cond := u_ws RX4 TX4 2
theorem nmX4 : ∀ a, a < 2 → ∀ b, b < 2 → a ≠ b → (TX4 a).2.1 ≠ (TX4 b).2.1 := by decide +kernel
theorem tyX4_ok : ∀ k, k < 2 → parseFieldDescriptor (TX4 k).2.2.1 = some (tyX4 k) := by decide +kernel
abbrev cX4_init : ByteArray := prog_18_method_1_code
def yX4_init : MethodName := ⟨RX4, "<init>", "(II)V"⟩
def dkwX4_init_0 : List UInt8 := [42, 183, 0, 3, 42, 27, 181, 0, 9, 42, 28, 181, 0, 15, 177]
abbrev dktX4_init_0 : List UInt8 := dkwX4_init_0 ++ []
theorem dksX4_init_0 : cX4_init.data.toList.drop 0 = dktX4_init_0 := by decide +kernel
theorem dX4_init_0 : decode cX4_init 0 = .ok (.aload_n 0, 1) := dk_42 (dk_at dksX4_init_0 0 rfl rfl)
theorem dX4_init_1 : decode cX4_init 1 = .ok (.invokespecial 3, 3) := dk_183 0 3 (dk_at dksX4_init_0 1 rfl rfl)
theorem dX4_init_4 : decode cX4_init 4 = .ok (.aload_n 0, 1) := dk_42 (dk_at dksX4_init_0 4 rfl rfl)
theorem dX4_init_5 : decode cX4_init 5 = .ok (.iload_n 1, 1) := dk_27 (dk_at dksX4_init_0 5 rfl rfl)
theorem dX4_init_6 : decode cX4_init 6 = .ok (.putfield 9, 3) := dk_181 0 9 (dk_at dksX4_init_0 6 rfl rfl)
theorem dX4_init_9 : decode cX4_init 9 = .ok (.aload_n 0, 1) := dk_42 (dk_at dksX4_init_0 9 rfl rfl)
theorem dX4_init_10 : decode cX4_init 10 = .ok (.iload_n 2, 1) := dk_28 (dk_at dksX4_init_0 10 rfl rfl)
theorem dX4_init_11 : decode cX4_init 11 = .ok (.putfield 15, 3) := dk_181 0 15 (dk_at dksX4_init_0 11 rfl rfl)
theorem dX4_init_14 : decode cX4_init 14 = .ok (.return_, 1) := dk_177 (dk_at dksX4_init_0 14 rfl rfl)
abbrev cX4_check : ByteArray := prog_18_method_3_code
def yX4_check : MethodName := ⟨RX4, "check", "(LCribBooklet$Sheet;)I"⟩
def dkwX4_check_1 : List UInt8 := [2, 172]
abbrev dktX4_check_1 : List UInt8 := dkwX4_check_1 ++ []
def dkwX4_check_0 : List UInt8 := [42, 180, 0, 9, 184, 0, 18, 153, 0, 17, 42, 180, 0, 15, 184, 0, 18, 153, 0, 7, 3, 167, 0, 4]
abbrev dktX4_check_0 : List UInt8 := dkwX4_check_0 ++ dktX4_check_1
theorem dksX4_check_0 : cX4_check.data.toList.drop 0 = dktX4_check_0 := by decide +kernel
theorem dksX4_check_1 : cX4_check.data.toList.drop 24 = dktX4_check_1 := dk_seg dksX4_check_0 24 rfl rfl
theorem dX4_check_0 : decode cX4_check 0 = .ok (.aload_n 0, 1) := dk_42 (dk_at dksX4_check_0 0 rfl rfl)
theorem dX4_check_1 : decode cX4_check 1 = .ok (.getfield 9, 3) := dk_180 0 9 (dk_at dksX4_check_0 1 rfl rfl)
theorem dX4_check_4 : decode cX4_check 4 = .ok (.invokestatic 18, 3) := dk_184 0 18 (dk_at dksX4_check_0 4 rfl rfl)
theorem dX4_check_7 : decode cX4_check 7 = .ok (.ifCond .eq 17, 3) := dk_153 0 17 (dk_at dksX4_check_0 7 rfl rfl)
theorem dX4_check_10 : decode cX4_check 10 = .ok (.aload_n 0, 1) := dk_42 (dk_at dksX4_check_0 10 rfl rfl)
theorem dX4_check_11 : decode cX4_check 11 = .ok (.getfield 15, 3) := dk_180 0 15 (dk_at dksX4_check_0 11 rfl rfl)
theorem dX4_check_14 : decode cX4_check 14 = .ok (.invokestatic 18, 3) := dk_184 0 18 (dk_at dksX4_check_0 14 rfl rfl)
theorem dX4_check_17 : decode cX4_check 17 = .ok (.ifCond .eq 7, 3) := dk_153 0 7 (dk_at dksX4_check_0 17 rfl rfl)
theorem dX4_check_20 : decode cX4_check 20 = .ok (.iconst 0, 1) := dk_3 (dk_at dksX4_check_0 20 rfl rfl)
theorem dX4_check_21 : decode cX4_check 21 = .ok (.goto 4, 3) := dk_167 0 4 (dk_at dksX4_check_0 21 rfl rfl)
theorem dX4_check_24 : decode cX4_check 24 = .ok (.iconst (-1), 1) := dk_2 (dk_at dksX4_check_1 0 rfl rfl)
theorem dX4_check_25 : decode cX4_check 25 = .ok (.ireturn, 1) := dk_172 (dk_at dksX4_check_1 1 rfl rfl)
abbrev cX4_isSize : ByteArray := prog_18_method_2_code
def yX4_isSize : MethodName := ⟨RX4, "isSize", "(I)Z"⟩
def dkwX4_isSize_0 : List UInt8 := [26, 4, 159, 0, 13, 26, 5, 159, 0, 8, 26, 7, 160, 0, 7, 4, 167, 0, 4, 3, 172]
abbrev dktX4_isSize_0 : List UInt8 := dkwX4_isSize_0 ++ []
theorem dksX4_isSize_0 : cX4_isSize.data.toList.drop 0 = dktX4_isSize_0 := by decide +kernel
theorem dX4_isSize_0 : decode cX4_isSize 0 = .ok (.iload_n 0, 1) := dk_26 (dk_at dksX4_isSize_0 0 rfl rfl)
theorem dX4_isSize_1 : decode cX4_isSize 1 = .ok (.iconst 1, 1) := dk_4 (dk_at dksX4_isSize_0 1 rfl rfl)
theorem dX4_isSize_2 : decode cX4_isSize 2 = .ok (.if_icmp .eq 13, 3) := dk_159 0 13 (dk_at dksX4_isSize_0 2 rfl rfl)
theorem dX4_isSize_5 : decode cX4_isSize 5 = .ok (.iload_n 0, 1) := dk_26 (dk_at dksX4_isSize_0 5 rfl rfl)
theorem dX4_isSize_6 : decode cX4_isSize 6 = .ok (.iconst 2, 1) := dk_5 (dk_at dksX4_isSize_0 6 rfl rfl)
theorem dX4_isSize_7 : decode cX4_isSize 7 = .ok (.if_icmp .eq 8, 3) := dk_159 0 8 (dk_at dksX4_isSize_0 7 rfl rfl)
theorem dX4_isSize_10 : decode cX4_isSize 10 = .ok (.iload_n 0, 1) := dk_26 (dk_at dksX4_isSize_0 10 rfl rfl)
theorem dX4_isSize_11 : decode cX4_isSize 11 = .ok (.iconst 4, 1) := dk_7 (dk_at dksX4_isSize_0 11 rfl rfl)
theorem dX4_isSize_12 : decode cX4_isSize 12 = .ok (.if_icmp .ne 7, 3) := dk_160 0 7 (dk_at dksX4_isSize_0 12 rfl rfl)
theorem dX4_isSize_15 : decode cX4_isSize 15 = .ok (.iconst 1, 1) := dk_4 (dk_at dksX4_isSize_0 15 rfl rfl)
theorem dX4_isSize_16 : decode cX4_isSize 16 = .ok (.goto 4, 3) := dk_167 0 4 (dk_at dksX4_isSize_0 16 rfl rfl)
theorem dX4_isSize_19 : decode cX4_isSize 19 = .ok (.iconst 0, 1) := dk_3 (dk_at dksX4_isSize_0 19 rfl rfl)
theorem dX4_isSize_20 : decode cX4_isSize 20 = .ok (.ireturn, 1) := dk_172 (dk_at dksX4_isSize_0 20 rfl rfl)
abbrev cX4_carryOut : ByteArray := prog_18_method_4_code
def yX4_carryOut : MethodName := ⟨RX4, "carryOut", "(LCribBooklet$Sheet;)I"⟩
def dkwX4_carryOut_1 : List UInt8 := [181, 0, 29, 43, 3, 181, 0, 32, 43, 182, 0, 35, 43, 180, 0, 38, 182, 0, 42, 43, 182, 0, 47, 172]
abbrev dktX4_carryOut_1 : List UInt8 := dkwX4_carryOut_1 ++ []
def dkwX4_carryOut_0 : List UInt8 := [43, 42, 180, 0, 9, 181, 0, 22, 43, 42, 180, 0, 15, 181, 0, 25, 43, 3, 181, 0, 26, 43, 3]
abbrev dktX4_carryOut_0 : List UInt8 := dkwX4_carryOut_0 ++ dktX4_carryOut_1
theorem dksX4_carryOut_0 : cX4_carryOut.data.toList.drop 0 = dktX4_carryOut_0 := by decide +kernel
theorem dksX4_carryOut_1 : cX4_carryOut.data.toList.drop 23 = dktX4_carryOut_1 := dk_seg dksX4_carryOut_0 23 rfl rfl
theorem dX4_carryOut_0 : decode cX4_carryOut 0 = .ok (.aload_n 1, 1) := dk_43 (dk_at dksX4_carryOut_0 0 rfl rfl)
theorem dX4_carryOut_1 : decode cX4_carryOut 1 = .ok (.aload_n 0, 1) := dk_42 (dk_at dksX4_carryOut_0 1 rfl rfl)
theorem dX4_carryOut_2 : decode cX4_carryOut 2 = .ok (.getfield 9, 3) := dk_180 0 9 (dk_at dksX4_carryOut_0 2 rfl rfl)
theorem dX4_carryOut_5 : decode cX4_carryOut 5 = .ok (.putfield 22, 3) := dk_181 0 22 (dk_at dksX4_carryOut_0 5 rfl rfl)
theorem dX4_carryOut_8 : decode cX4_carryOut 8 = .ok (.aload_n 1, 1) := dk_43 (dk_at dksX4_carryOut_0 8 rfl rfl)
theorem dX4_carryOut_9 : decode cX4_carryOut 9 = .ok (.aload_n 0, 1) := dk_42 (dk_at dksX4_carryOut_0 9 rfl rfl)
theorem dX4_carryOut_10 : decode cX4_carryOut 10 = .ok (.getfield 15, 3) := dk_180 0 15 (dk_at dksX4_carryOut_0 10 rfl rfl)
theorem dX4_carryOut_13 : decode cX4_carryOut 13 = .ok (.putfield 25, 3) := dk_181 0 25 (dk_at dksX4_carryOut_0 13 rfl rfl)
theorem dX4_carryOut_16 : decode cX4_carryOut 16 = .ok (.aload_n 1, 1) := dk_43 (dk_at dksX4_carryOut_0 16 rfl rfl)
theorem dX4_carryOut_17 : decode cX4_carryOut 17 = .ok (.iconst 0, 1) := dk_3 (dk_at dksX4_carryOut_0 17 rfl rfl)
theorem dX4_carryOut_18 : decode cX4_carryOut 18 = .ok (.putfield 26, 3) := dk_181 0 26 (dk_at dksX4_carryOut_0 18 rfl rfl)
theorem dX4_carryOut_21 : decode cX4_carryOut 21 = .ok (.aload_n 1, 1) := dk_43 (dk_at dksX4_carryOut_0 21 rfl rfl)
theorem dX4_carryOut_22 : decode cX4_carryOut 22 = .ok (.iconst 0, 1) := dk_3 (dk_at dksX4_carryOut_0 22 rfl rfl)
theorem dX4_carryOut_23 : decode cX4_carryOut 23 = .ok (.putfield 29, 3) := dk_181 0 29 (dk_at dksX4_carryOut_1 0 rfl rfl)
theorem dX4_carryOut_26 : decode cX4_carryOut 26 = .ok (.aload_n 1, 1) := dk_43 (dk_at dksX4_carryOut_1 3 rfl rfl)
theorem dX4_carryOut_27 : decode cX4_carryOut 27 = .ok (.iconst 0, 1) := dk_3 (dk_at dksX4_carryOut_1 4 rfl rfl)
theorem dX4_carryOut_28 : decode cX4_carryOut 28 = .ok (.putfield 32, 3) := dk_181 0 32 (dk_at dksX4_carryOut_1 5 rfl rfl)
theorem dX4_carryOut_31 : decode cX4_carryOut 31 = .ok (.aload_n 1, 1) := dk_43 (dk_at dksX4_carryOut_1 8 rfl rfl)
theorem dX4_carryOut_32 : decode cX4_carryOut 32 = .ok (.invokevirtual 35, 3) := dk_182 0 35 (dk_at dksX4_carryOut_1 9 rfl rfl)
theorem dX4_carryOut_35 : decode cX4_carryOut 35 = .ok (.aload_n 1, 1) := dk_43 (dk_at dksX4_carryOut_1 12 rfl rfl)
theorem dX4_carryOut_36 : decode cX4_carryOut 36 = .ok (.getfield 38, 3) := dk_180 0 38 (dk_at dksX4_carryOut_1 13 rfl rfl)
theorem dX4_carryOut_39 : decode cX4_carryOut 39 = .ok (.invokevirtual 42, 3) := dk_182 0 42 (dk_at dksX4_carryOut_1 16 rfl rfl)
theorem dX4_carryOut_42 : decode cX4_carryOut 42 = .ok (.aload_n 1, 1) := dk_43 (dk_at dksX4_carryOut_1 19 rfl rfl)
theorem dX4_carryOut_43 : decode cX4_carryOut 43 = .ok (.invokevirtual 47, 3) := dk_182 0 47 (dk_at dksX4_carryOut_1 20 rfl rfl)
theorem dX4_carryOut_46 : decode cX4_carryOut 46 = .ok (.ireturn, 1) := dk_172 (dk_at dksX4_carryOut_1 23 rfl rfl)
theorem q100 : (Jvm.Cond.initialized "CribBooklet$NewSheet") ∈ lw_all := lw_g (lw_at lw_m1 14 rfl) rfl
theorem q212 : (Jvm.Cond.fieldLinkNest "CribBooklet$NewSheet" (22 : Nat) "CribBooklet$Sheet" "rows" "I" "CribBooklet") ∈ lw_tbl := lw_at lw_m1 126 rfl
theorem q216 : (Jvm.Cond.fieldLinkNest "CribBooklet$NewSheet" (25 : Nat) "CribBooklet$Sheet" "columns" "I" "CribBooklet") ∈ lw_tbl := lw_at lw_m1 130 rfl
theorem q225 : (Jvm.Cond.fieldLinkNest "CribBooklet$NewSheet" (26 : Nat) "CribBooklet$Sheet" "foldMany" "I" "CribBooklet") ∈ lw_tbl := lw_at lw_m1 139 rfl
theorem q241 : (Jvm.Cond.fieldLinkNest "CribBooklet$NewSheet" (29 : Nat) "CribBooklet$Sheet" "cuts" "I" "CribBooklet") ∈ lw_tbl := lw_at lw_m1 155 rfl
theorem q247 : (Jvm.Cond.fieldLinkNest "CribBooklet$NewSheet" (32 : Nat) "CribBooklet$Sheet" "staples" "I" "CribBooklet") ∈ lw_tbl := lw_at lw_m1 161 rfl
theorem q261 : (Jvm.Cond.fieldLinkNest "CribBooklet$NewSheet" (38 : Nat) "CribBooklet$Sheet" "sights" "Ljava/util/ArrayList;" "CribBooklet") ∈ lw_tbl := lw_at lw_m1 175 rfl
theorem q383 : (Jvm.Cond.instantiable "CribBooklet$NewSheet" (2 : Nat)) ∈ lw_all := lw_g (lw_at lw_m2 57 rfl) rfl
theorem q385 : (Jvm.Cond.instanceMethod ({ cls := "CribBooklet$NewSheet", name := "<init>", desc := "(II)V" } : Jvm.MethodName)) ∈ lw_all := lw_g (lw_at lw_m2 59 rfl) rfl
theorem q386 : (Jvm.Cond.code ({ cls := "CribBooklet$NewSheet", name := "<init>", desc := "(II)V" } : Jvm.MethodName) prog_18_method_1_code (3 : Nat) (Option.none : Option Jvm.ClassFile.FieldType)) ∈ lw_all := lw_g (lw_at lw_m2 60 rfl) rfl
theorem q387 : (Jvm.Cond.methodLink "CribBooklet$NewSheet" (3 : Nat) ({ cls := "java/lang/Record", name := "<init>", desc := "()V" } : Jvm.MethodName)) ∈ lw_all := lw_g (lw_at lw_m2 61 rfl) rfl
theorem q391 : (Jvm.Cond.fieldLink "CribBooklet$NewSheet" (9 : Nat) "CribBooklet$NewSheet" "rows" "I") ∈ lw_all := lw_g (lw_at lw_m2 65 rfl) rfl
theorem q392 : (Jvm.Cond.fieldLink "CribBooklet$NewSheet" (15 : Nat) "CribBooklet$NewSheet" "columns" "I") ∈ lw_all := lw_g (lw_at lw_m2 66 rfl) rfl
theorem q393 : (Jvm.Cond.laysFinal "CribBooklet$NewSheet" "CribBooklet$NewSheet" "rows" "I") ∈ lw_all := lw_g (lw_at lw_m2 67 rfl) rfl
theorem q394 : (Jvm.Cond.soleField "CribBooklet$NewSheet" "rows") ∈ lw_all := lw_g (lw_at lw_m2 68 rfl) rfl
theorem q395 : (Jvm.Cond.laysFinal "CribBooklet$NewSheet" "CribBooklet$NewSheet" "columns" "I") ∈ lw_all := lw_g (lw_at lw_m2 69 rfl) rfl
theorem q396 : (Jvm.Cond.soleField "CribBooklet$NewSheet" "columns") ∈ lw_all := lw_g (lw_at lw_m2 70 rfl) rfl
theorem q397 : (Jvm.Cond.superclass "CribBooklet$NewSheet" "java/lang/Record") ∈ lw_all := lw_g (lw_at lw_m2 71 rfl) rfl
theorem q552 : (Jvm.Cond.castable "CribBooklet$NewSheet" "CribBooklet$Command") ∈ lw_tbl := lw_at lw_m2 226 rfl
theorem q553 : (Jvm.Cond.selects "CribBooklet$NewSheet" ({ cls := "CribBooklet$Command", name := "check", desc := "(LCribBooklet$Sheet;)I" } : Jvm.MethodName) ({ cls := "CribBooklet$NewSheet", name := "check", desc := "(LCribBooklet$Sheet;)I" } : Jvm.MethodName)) ∈ lw_all := lw_g (lw_at lw_m2 227 rfl) rfl
theorem q554 : (Jvm.Cond.unhidden "CribBooklet$NewSheet" "check" "(LCribBooklet$Sheet;)I") ∈ lw_tbl := lw_at lw_m2 228 rfl
theorem q555 : (Jvm.Cond.instanceMethod ({ cls := "CribBooklet$NewSheet", name := "check", desc := "(LCribBooklet$Sheet;)I" } : Jvm.MethodName)) ∈ lw_all := lw_g (lw_at lw_m2 229 rfl) rfl
theorem q556 : (Jvm.Cond.publicMethod ({ cls := "CribBooklet$NewSheet", name := "check", desc := "(LCribBooklet$Sheet;)I" } : Jvm.MethodName)) ∈ lw_tbl := lw_at lw_m2 230 rfl
theorem q557 : (Jvm.Cond.code ({ cls := "CribBooklet$NewSheet", name := "check", desc := "(LCribBooklet$Sheet;)I" } : Jvm.MethodName) prog_18_method_3_code (2 : Nat) (Option.some Jvm.ClassFile.FieldType.int)) ∈ lw_all := lw_g (lw_at lw_m2 231 rfl) rfl
theorem q558 : (Jvm.Cond.methodLink "CribBooklet$NewSheet" (18 : Nat) ({ cls := "CribBooklet$NewSheet", name := "isSize", desc := "(I)Z" } : Jvm.MethodName)) ∈ lw_all := lw_g (lw_at lw_m2 232 rfl) rfl
theorem q559 : (Jvm.Cond.static ({ cls := "CribBooklet$NewSheet", name := "isSize", desc := "(I)Z" } : Jvm.MethodName)) ∈ lw_all := lw_g (lw_at lw_m2 233 rfl) rfl
theorem q560 : (Jvm.Cond.code ({ cls := "CribBooklet$NewSheet", name := "isSize", desc := "(I)Z" } : Jvm.MethodName) prog_18_method_2_code (1 : Nat) (Option.some Jvm.ClassFile.FieldType.boolean)) ∈ lw_all := lw_g (lw_at lw_m2 234 rfl) rfl
theorem q713 : (Jvm.Cond.selects "CribBooklet$NewSheet" ({ cls := "java/lang/Object", name := "getClass", desc := "()Ljava/lang/Class;" } : Jvm.MethodName) ({ cls := "java/lang/Object", name := "getClass", desc := "()Ljava/lang/Class;" } : Jvm.MethodName)) ∈ lw_all := lw_g (lw_at lw_m3 147 rfl) rfl
theorem q1245 : (Jvm.Cond.selects "CribBooklet$NewSheet" ({ cls := "CribBooklet$Command", name := "carryOut", desc := "(LCribBooklet$Sheet;)I" } : Jvm.MethodName) ({ cls := "CribBooklet$NewSheet", name := "carryOut", desc := "(LCribBooklet$Sheet;)I" } : Jvm.MethodName)) ∈ lw_all := lw_g (lw_at lw_m5 199 rfl) rfl
theorem q1246 : (Jvm.Cond.unhidden "CribBooklet$NewSheet" "carryOut" "(LCribBooklet$Sheet;)I") ∈ lw_tbl := lw_at lw_m5 200 rfl
theorem q1247 : (Jvm.Cond.instanceMethod ({ cls := "CribBooklet$NewSheet", name := "carryOut", desc := "(LCribBooklet$Sheet;)I" } : Jvm.MethodName)) ∈ lw_all := lw_g (lw_at lw_m5 201 rfl) rfl
theorem q1248 : (Jvm.Cond.publicMethod ({ cls := "CribBooklet$NewSheet", name := "carryOut", desc := "(LCribBooklet$Sheet;)I" } : Jvm.MethodName)) ∈ lw_tbl := lw_at lw_m5 202 rfl
theorem q1249 : (Jvm.Cond.code ({ cls := "CribBooklet$NewSheet", name := "carryOut", desc := "(LCribBooklet$Sheet;)I" } : Jvm.MethodName) prog_18_method_4_code (2 : Nat) (Option.some Jvm.ClassFile.FieldType.int)) ∈ lw_all := lw_g (lw_at lw_m5 203 rfl) rfl
theorem q1250 : (Jvm.Cond.methodLink "CribBooklet$NewSheet" (35 : Nat) ({ cls := "CribBooklet$Sheet", name := "blank", desc := "()V" } : Jvm.MethodName)) ∈ lw_all := lw_g (lw_at lw_m5 204 rfl) rfl
theorem q1251 : (Jvm.Cond.methodLink "CribBooklet$NewSheet" (42 : Nat) ({ cls := "java/util/ArrayList", name := "clear", desc := "()V" } : Jvm.MethodName)) ∈ lw_all := lw_g (lw_at lw_m5 205 rfl) rfl
theorem q1252 : (Jvm.Cond.methodLink "CribBooklet$NewSheet" (47 : Nat) ({ cls := "CribBooklet$Sheet", name := "cells", desc := "()I" } : Jvm.MethodName)) ∈ lw_all := lw_g (lw_at lw_m5 206 rfl) rfl
theorem q3338 : (Jvm.Cond.castable "CribBooklet$NewSheet" "java/lang/Object") ∈ lw_tbl := lw_at lw_m14 132 rfl
theorem in_X4 : ∀ w ∈ wsX40, w ∈ lw_all := lw_in wsX40 [393, 395] (by decide +kernel) (by decide +kernel)

end
section
/-! CribBooklet$Folding -/
set_option maxRecDepth 100000
def RX5 : String := "CribBooklet$Folding"
def TX5 : u_T := fun k => match k with
  | 0 => ("CribBooklet$Folding", "rows", "I", false)
  | 1 => ("CribBooklet$Folding", "columns", "I", false)
  | _ => ("CribBooklet$Folding", "places", "[[LCribBooklet$Layer;", false)
def tyX5 : Nat → FieldType := fun k => match k with
  | 0 => .int
  | 1 => .int
  | _ => .array (.array (.object "CribBooklet$Layer"))
abbrev wsX50 : List Cond := u_ws RX5 TX5 3
theorem nmX5 : ∀ a, a < 3 → ∀ b, b < 3 → a ≠ b → (TX5 a).2.1 ≠ (TX5 b).2.1 := by decide +kernel
theorem tyX5_ok : ∀ k, k < 3 → parseFieldDescriptor (TX5 k).2.2.1 = some (tyX5 k) := by decide +kernel
abbrev cX5_init : ByteArray := prog_11_method_1_code
def yX5_init : MethodName := ⟨RX5, "<init>", "(II)V"⟩
def dkwX5_init_3 : List UInt8 := [132, 3, 1, 167, 255, 217, 177]
abbrev dktX5_init_3 : List UInt8 := dkwX5_init_3 ++ []
def dkwX5_init_2 : List UInt8 := [50, 3, 187, 0, 21, 89, 29, 42, 180, 0, 13, 108, 29, 42, 180, 0, 13, 112, 183, 0, 23, 83]
abbrev dktX5_init_2 : List UInt8 := dkwX5_init_2 ++ dktX5_init_3
def dkwX5_init_1 : List UInt8 := [4, 197, 0, 16, 2, 181, 0, 18, 3, 62, 29, 42, 180, 0, 18, 190, 162, 0, 36, 42, 180, 0, 18, 29]
abbrev dktX5_init_1 : List UInt8 := dkwX5_init_1 ++ dktX5_init_2
def dkwX5_init_0 : List UInt8 := [42, 183, 0, 1, 42, 27, 181, 0, 7, 42, 28, 181, 0, 13, 42, 42, 180, 0, 7, 42, 180, 0, 13, 104]
abbrev dktX5_init_0 : List UInt8 := dkwX5_init_0 ++ dktX5_init_1
theorem dksX5_init_0 : cX5_init.data.toList.drop 0 = dktX5_init_0 := by decide +kernel
theorem dksX5_init_1 : cX5_init.data.toList.drop 24 = dktX5_init_1 := dk_seg dksX5_init_0 24 rfl rfl
theorem dksX5_init_2 : cX5_init.data.toList.drop 48 = dktX5_init_2 := dk_seg dksX5_init_1 24 rfl rfl
theorem dksX5_init_3 : cX5_init.data.toList.drop 70 = dktX5_init_3 := dk_seg dksX5_init_2 22 rfl rfl
theorem dX5_init_0 : decode cX5_init 0 = .ok (.aload_n 0, 1) := dk_42 (dk_at dksX5_init_0 0 rfl rfl)
theorem dX5_init_1 : decode cX5_init 1 = .ok (.invokespecial 1, 3) := dk_183 0 1 (dk_at dksX5_init_0 1 rfl rfl)
theorem dX5_init_4 : decode cX5_init 4 = .ok (.aload_n 0, 1) := dk_42 (dk_at dksX5_init_0 4 rfl rfl)
theorem dX5_init_5 : decode cX5_init 5 = .ok (.iload_n 1, 1) := dk_27 (dk_at dksX5_init_0 5 rfl rfl)
theorem dX5_init_6 : decode cX5_init 6 = .ok (.putfield 7, 3) := dk_181 0 7 (dk_at dksX5_init_0 6 rfl rfl)
theorem dX5_init_9 : decode cX5_init 9 = .ok (.aload_n 0, 1) := dk_42 (dk_at dksX5_init_0 9 rfl rfl)
theorem dX5_init_10 : decode cX5_init 10 = .ok (.iload_n 2, 1) := dk_28 (dk_at dksX5_init_0 10 rfl rfl)
theorem dX5_init_11 : decode cX5_init 11 = .ok (.putfield 13, 3) := dk_181 0 13 (dk_at dksX5_init_0 11 rfl rfl)
theorem dX5_init_14 : decode cX5_init 14 = .ok (.aload_n 0, 1) := dk_42 (dk_at dksX5_init_0 14 rfl rfl)
theorem dX5_init_15 : decode cX5_init 15 = .ok (.aload_n 0, 1) := dk_42 (dk_at dksX5_init_0 15 rfl rfl)
theorem dX5_init_16 : decode cX5_init 16 = .ok (.getfield 7, 3) := dk_180 0 7 (dk_at dksX5_init_0 16 rfl rfl)
theorem dX5_init_19 : decode cX5_init 19 = .ok (.aload_n 0, 1) := dk_42 (dk_at dksX5_init_0 19 rfl rfl)
theorem dX5_init_20 : decode cX5_init 20 = .ok (.getfield 13, 3) := dk_180 0 13 (dk_at dksX5_init_0 20 rfl rfl)
theorem dX5_init_23 : decode cX5_init 23 = .ok (.imul, 1) := dk_104 (dk_at dksX5_init_0 23 rfl rfl)
theorem dX5_init_24 : decode cX5_init 24 = .ok (.iconst 1, 1) := dk_4 (dk_at dksX5_init_1 0 rfl rfl)
theorem dX5_init_25 : decode cX5_init 25 = .ok (.multianewarray 16 2, 4) := by decide +kernel
theorem dX5_init_29 : decode cX5_init 29 = .ok (.putfield 18, 3) := dk_181 0 18 (dk_at dksX5_init_1 5 rfl rfl)
theorem dX5_init_32 : decode cX5_init 32 = .ok (.iconst 0, 1) := dk_3 (dk_at dksX5_init_1 8 rfl rfl)
theorem dX5_init_33 : decode cX5_init 33 = .ok (.istore_n 3, 1) := dk_62 (dk_at dksX5_init_1 9 rfl rfl)
theorem dX5_init_34 : decode cX5_init 34 = .ok (.iload_n 3, 1) := dk_29 (dk_at dksX5_init_1 10 rfl rfl)
theorem dX5_init_35 : decode cX5_init 35 = .ok (.aload_n 0, 1) := dk_42 (dk_at dksX5_init_1 11 rfl rfl)
theorem dX5_init_36 : decode cX5_init 36 = .ok (.getfield 18, 3) := dk_180 0 18 (dk_at dksX5_init_1 12 rfl rfl)
theorem dX5_init_39 : decode cX5_init 39 = .ok (.arraylength, 1) := dk_190 (dk_at dksX5_init_1 15 rfl rfl)
theorem dX5_init_40 : decode cX5_init 40 = .ok (.if_icmp .ge 36, 3) := dk_162 0 36 (dk_at dksX5_init_1 16 rfl rfl)
theorem dX5_init_43 : decode cX5_init 43 = .ok (.aload_n 0, 1) := dk_42 (dk_at dksX5_init_1 19 rfl rfl)
theorem dX5_init_44 : decode cX5_init 44 = .ok (.getfield 18, 3) := dk_180 0 18 (dk_at dksX5_init_1 20 rfl rfl)
theorem dX5_init_47 : decode cX5_init 47 = .ok (.iload_n 3, 1) := dk_29 (dk_at dksX5_init_1 23 rfl rfl)
theorem dX5_init_48 : decode cX5_init 48 = .ok (.aaload, 1) := dk_50 (dk_at dksX5_init_2 0 rfl rfl)
theorem dX5_init_49 : decode cX5_init 49 = .ok (.iconst 0, 1) := dk_3 (dk_at dksX5_init_2 1 rfl rfl)
theorem dX5_init_50 : decode cX5_init 50 = .ok (.new 21, 3) := dk_187 0 21 (dk_at dksX5_init_2 2 rfl rfl)
theorem dX5_init_53 : decode cX5_init 53 = .ok (.dup, 1) := dk_89 (dk_at dksX5_init_2 5 rfl rfl)
theorem dX5_init_54 : decode cX5_init 54 = .ok (.iload_n 3, 1) := dk_29 (dk_at dksX5_init_2 6 rfl rfl)
theorem dX5_init_55 : decode cX5_init 55 = .ok (.aload_n 0, 1) := dk_42 (dk_at dksX5_init_2 7 rfl rfl)
theorem dX5_init_56 : decode cX5_init 56 = .ok (.getfield 13, 3) := dk_180 0 13 (dk_at dksX5_init_2 8 rfl rfl)
theorem dX5_init_59 : decode cX5_init 59 = .ok (.idiv, 1) := dk_108 (dk_at dksX5_init_2 11 rfl rfl)
theorem dX5_init_60 : decode cX5_init 60 = .ok (.iload_n 3, 1) := dk_29 (dk_at dksX5_init_2 12 rfl rfl)
theorem dX5_init_61 : decode cX5_init 61 = .ok (.aload_n 0, 1) := dk_42 (dk_at dksX5_init_2 13 rfl rfl)
theorem dX5_init_62 : decode cX5_init 62 = .ok (.getfield 13, 3) := dk_180 0 13 (dk_at dksX5_init_2 14 rfl rfl)
theorem dX5_init_65 : decode cX5_init 65 = .ok (.irem, 1) := dk_112 (dk_at dksX5_init_2 17 rfl rfl)
theorem dX5_init_66 : decode cX5_init 66 = .ok (.invokespecial 23, 3) := dk_183 0 23 (dk_at dksX5_init_2 18 rfl rfl)
theorem dX5_init_69 : decode cX5_init 69 = .ok (.aastore, 1) := dk_83 (dk_at dksX5_init_2 21 rfl rfl)
theorem dX5_init_70 : decode cX5_init 70 = .ok (.iinc 3 1, 3) := dk_132 3 1 (dk_at dksX5_init_3 0 rfl rfl)
theorem dX5_init_73 : decode cX5_init 73 = .ok (.goto (-39), 3) := dk_167 255 217 (dk_at dksX5_init_3 3 rfl rfl)
theorem dX5_init_76 : decode cX5_init 76 = .ok (.return_, 1) := dk_177 (dk_at dksX5_init_3 6 rfl rfl)
abbrev cX5_fold : ByteArray := prog_11_method_7_code
def yX5_fold : MethodName := ⟨RX5, "fold", "(I)V"⟩
def dkwX5_fold_4 : List UInt8 := [181, 0, 13, 42, 25, 4, 181, 0, 18, 177]
abbrev dktX5_fold_4 : List UInt8 := dkwX5_fold_4 ++ []
def dkwX5_fold_3 : List UInt8 := [29, 108, 21, 5, 29, 112, 182, 0, 44, 83, 132, 5, 1, 167, 255, 227, 42, 28, 181, 0, 7, 42, 29]
abbrev dktX5_fold_3 : List UInt8 := dkwX5_fold_3 ++ dktX5_fold_4
def dkwX5_fold_2 : List UInt8 := [189, 0, 42, 58, 4, 3, 54, 5, 21, 5, 25, 4, 190, 162, 0, 27, 25, 4, 21, 5, 42, 27, 21, 5]
abbrev dktX5_fold_2 : List UInt8 := dkwX5_fold_2 ++ dktX5_fold_3
def dkwX5_fold_1 : List UInt8 := [184, 0, 26, 153, 0, 12, 42, 180, 0, 13, 5, 108, 167, 0, 7, 42, 180, 0, 13, 62, 28, 29, 104]
abbrev dktX5_fold_1 : List UInt8 := dkwX5_fold_1 ++ dktX5_fold_2
def dkwX5_fold_0 : List UInt8 := [27, 184, 0, 26, 153, 0, 10, 42, 180, 0, 7, 167, 0, 9, 42, 180, 0, 7, 5, 108, 61, 27]
abbrev dktX5_fold_0 : List UInt8 := dkwX5_fold_0 ++ dktX5_fold_1
theorem dksX5_fold_0 : cX5_fold.data.toList.drop 0 = dktX5_fold_0 := by decide +kernel
theorem dksX5_fold_1 : cX5_fold.data.toList.drop 22 = dktX5_fold_1 := dk_seg dksX5_fold_0 22 rfl rfl
theorem dksX5_fold_2 : cX5_fold.data.toList.drop 45 = dktX5_fold_2 := dk_seg dksX5_fold_1 23 rfl rfl
theorem dksX5_fold_3 : cX5_fold.data.toList.drop 69 = dktX5_fold_3 := dk_seg dksX5_fold_2 24 rfl rfl
theorem dksX5_fold_4 : cX5_fold.data.toList.drop 92 = dktX5_fold_4 := dk_seg dksX5_fold_3 23 rfl rfl
theorem dX5_fold_0 : decode cX5_fold 0 = .ok (.iload_n 1, 1) := dk_27 (dk_at dksX5_fold_0 0 rfl rfl)
theorem dX5_fold_1 : decode cX5_fold 1 = .ok (.invokestatic 26, 3) := dk_184 0 26 (dk_at dksX5_fold_0 1 rfl rfl)
theorem dX5_fold_4 : decode cX5_fold 4 = .ok (.ifCond .eq 10, 3) := dk_153 0 10 (dk_at dksX5_fold_0 4 rfl rfl)
theorem dX5_fold_7 : decode cX5_fold 7 = .ok (.aload_n 0, 1) := dk_42 (dk_at dksX5_fold_0 7 rfl rfl)
theorem dX5_fold_8 : decode cX5_fold 8 = .ok (.getfield 7, 3) := dk_180 0 7 (dk_at dksX5_fold_0 8 rfl rfl)
theorem dX5_fold_11 : decode cX5_fold 11 = .ok (.goto 9, 3) := dk_167 0 9 (dk_at dksX5_fold_0 11 rfl rfl)
theorem dX5_fold_14 : decode cX5_fold 14 = .ok (.aload_n 0, 1) := dk_42 (dk_at dksX5_fold_0 14 rfl rfl)
theorem dX5_fold_15 : decode cX5_fold 15 = .ok (.getfield 7, 3) := dk_180 0 7 (dk_at dksX5_fold_0 15 rfl rfl)
theorem dX5_fold_18 : decode cX5_fold 18 = .ok (.iconst 2, 1) := dk_5 (dk_at dksX5_fold_0 18 rfl rfl)
theorem dX5_fold_19 : decode cX5_fold 19 = .ok (.idiv, 1) := dk_108 (dk_at dksX5_fold_0 19 rfl rfl)
theorem dX5_fold_20 : decode cX5_fold 20 = .ok (.istore_n 2, 1) := dk_61 (dk_at dksX5_fold_0 20 rfl rfl)
theorem dX5_fold_21 : decode cX5_fold 21 = .ok (.iload_n 1, 1) := dk_27 (dk_at dksX5_fold_0 21 rfl rfl)
theorem dX5_fold_22 : decode cX5_fold 22 = .ok (.invokestatic 26, 3) := dk_184 0 26 (dk_at dksX5_fold_1 0 rfl rfl)
theorem dX5_fold_25 : decode cX5_fold 25 = .ok (.ifCond .eq 12, 3) := dk_153 0 12 (dk_at dksX5_fold_1 3 rfl rfl)
theorem dX5_fold_28 : decode cX5_fold 28 = .ok (.aload_n 0, 1) := dk_42 (dk_at dksX5_fold_1 6 rfl rfl)
theorem dX5_fold_29 : decode cX5_fold 29 = .ok (.getfield 13, 3) := dk_180 0 13 (dk_at dksX5_fold_1 7 rfl rfl)
theorem dX5_fold_32 : decode cX5_fold 32 = .ok (.iconst 2, 1) := dk_5 (dk_at dksX5_fold_1 10 rfl rfl)
theorem dX5_fold_33 : decode cX5_fold 33 = .ok (.idiv, 1) := dk_108 (dk_at dksX5_fold_1 11 rfl rfl)
theorem dX5_fold_34 : decode cX5_fold 34 = .ok (.goto 7, 3) := dk_167 0 7 (dk_at dksX5_fold_1 12 rfl rfl)
theorem dX5_fold_37 : decode cX5_fold 37 = .ok (.aload_n 0, 1) := dk_42 (dk_at dksX5_fold_1 15 rfl rfl)
theorem dX5_fold_38 : decode cX5_fold 38 = .ok (.getfield 13, 3) := dk_180 0 13 (dk_at dksX5_fold_1 16 rfl rfl)
theorem dX5_fold_41 : decode cX5_fold 41 = .ok (.istore_n 3, 1) := dk_62 (dk_at dksX5_fold_1 19 rfl rfl)
theorem dX5_fold_42 : decode cX5_fold 42 = .ok (.iload_n 2, 1) := dk_28 (dk_at dksX5_fold_1 20 rfl rfl)
theorem dX5_fold_43 : decode cX5_fold 43 = .ok (.iload_n 3, 1) := dk_29 (dk_at dksX5_fold_1 21 rfl rfl)
theorem dX5_fold_44 : decode cX5_fold 44 = .ok (.imul, 1) := dk_104 (dk_at dksX5_fold_1 22 rfl rfl)
theorem dX5_fold_45 : decode cX5_fold 45 = .ok (.anewarray 42, 3) := dk_189 0 42 (dk_at dksX5_fold_2 0 rfl rfl)
theorem dX5_fold_48 : decode cX5_fold 48 = .ok (.astore 4, 2) := dk_58 4 (dk_at dksX5_fold_2 3 rfl rfl)
theorem dX5_fold_50 : decode cX5_fold 50 = .ok (.iconst 0, 1) := dk_3 (dk_at dksX5_fold_2 5 rfl rfl)
theorem dX5_fold_51 : decode cX5_fold 51 = .ok (.istore 5, 2) := dk_54 5 (dk_at dksX5_fold_2 6 rfl rfl)
theorem dX5_fold_53 : decode cX5_fold 53 = .ok (.iload 5, 2) := dk_21 5 (dk_at dksX5_fold_2 8 rfl rfl)
theorem dX5_fold_55 : decode cX5_fold 55 = .ok (.aload 4, 2) := dk_25 4 (dk_at dksX5_fold_2 10 rfl rfl)
theorem dX5_fold_57 : decode cX5_fold 57 = .ok (.arraylength, 1) := dk_190 (dk_at dksX5_fold_2 12 rfl rfl)
theorem dX5_fold_58 : decode cX5_fold 58 = .ok (.if_icmp .ge 27, 3) := dk_162 0 27 (dk_at dksX5_fold_2 13 rfl rfl)
theorem dX5_fold_61 : decode cX5_fold 61 = .ok (.aload 4, 2) := dk_25 4 (dk_at dksX5_fold_2 16 rfl rfl)
theorem dX5_fold_63 : decode cX5_fold 63 = .ok (.iload 5, 2) := dk_21 5 (dk_at dksX5_fold_2 18 rfl rfl)
theorem dX5_fold_65 : decode cX5_fold 65 = .ok (.aload_n 0, 1) := dk_42 (dk_at dksX5_fold_2 20 rfl rfl)
theorem dX5_fold_66 : decode cX5_fold 66 = .ok (.iload_n 1, 1) := dk_27 (dk_at dksX5_fold_2 21 rfl rfl)
theorem dX5_fold_67 : decode cX5_fold 67 = .ok (.iload 5, 2) := dk_21 5 (dk_at dksX5_fold_2 22 rfl rfl)
theorem dX5_fold_69 : decode cX5_fold 69 = .ok (.iload_n 3, 1) := dk_29 (dk_at dksX5_fold_3 0 rfl rfl)
theorem dX5_fold_70 : decode cX5_fold 70 = .ok (.idiv, 1) := dk_108 (dk_at dksX5_fold_3 1 rfl rfl)
theorem dX5_fold_71 : decode cX5_fold 71 = .ok (.iload 5, 2) := dk_21 5 (dk_at dksX5_fold_3 2 rfl rfl)
theorem dX5_fold_73 : decode cX5_fold 73 = .ok (.iload_n 3, 1) := dk_29 (dk_at dksX5_fold_3 4 rfl rfl)
theorem dX5_fold_74 : decode cX5_fold 74 = .ok (.irem, 1) := dk_112 (dk_at dksX5_fold_3 5 rfl rfl)
theorem dX5_fold_75 : decode cX5_fold 75 = .ok (.invokevirtual 44, 3) := dk_182 0 44 (dk_at dksX5_fold_3 6 rfl rfl)
theorem dX5_fold_78 : decode cX5_fold 78 = .ok (.aastore, 1) := dk_83 (dk_at dksX5_fold_3 9 rfl rfl)
theorem dX5_fold_79 : decode cX5_fold 79 = .ok (.iinc 5 1, 3) := dk_132 5 1 (dk_at dksX5_fold_3 10 rfl rfl)
theorem dX5_fold_82 : decode cX5_fold 82 = .ok (.goto (-29), 3) := dk_167 255 227 (dk_at dksX5_fold_3 13 rfl rfl)
theorem dX5_fold_85 : decode cX5_fold 85 = .ok (.aload_n 0, 1) := dk_42 (dk_at dksX5_fold_3 16 rfl rfl)
theorem dX5_fold_86 : decode cX5_fold 86 = .ok (.iload_n 2, 1) := dk_28 (dk_at dksX5_fold_3 17 rfl rfl)
theorem dX5_fold_87 : decode cX5_fold 87 = .ok (.putfield 7, 3) := dk_181 0 7 (dk_at dksX5_fold_3 18 rfl rfl)
theorem dX5_fold_90 : decode cX5_fold 90 = .ok (.aload_n 0, 1) := dk_42 (dk_at dksX5_fold_3 21 rfl rfl)
theorem dX5_fold_91 : decode cX5_fold 91 = .ok (.iload_n 3, 1) := dk_29 (dk_at dksX5_fold_3 22 rfl rfl)
theorem dX5_fold_92 : decode cX5_fold 92 = .ok (.putfield 13, 3) := dk_181 0 13 (dk_at dksX5_fold_4 0 rfl rfl)
theorem dX5_fold_95 : decode cX5_fold 95 = .ok (.aload_n 0, 1) := dk_42 (dk_at dksX5_fold_4 3 rfl rfl)
theorem dX5_fold_96 : decode cX5_fold 96 = .ok (.aload 4, 2) := dk_25 4 (dk_at dksX5_fold_4 4 rfl rfl)
theorem dX5_fold_98 : decode cX5_fold 98 = .ok (.putfield 18, 3) := dk_181 0 18 (dk_at dksX5_fold_4 6 rfl rfl)
theorem dX5_fold_101 : decode cX5_fold 101 = .ok (.return_, 1) := dk_177 (dk_at dksX5_fold_4 9 rfl rfl)
abbrev cX5_isAcross : ByteArray := prog_11_method_2_code
def yX5_isAcross : MethodName := ⟨RX5, "isAcross", "(I)Z"⟩
def dkwX5_isAcross_0 : List UInt8 := [26, 6, 162, 0, 7, 4, 167, 0, 4, 3, 172]
abbrev dktX5_isAcross_0 : List UInt8 := dkwX5_isAcross_0 ++ []
theorem dksX5_isAcross_0 : cX5_isAcross.data.toList.drop 0 = dktX5_isAcross_0 := by decide +kernel
theorem dX5_isAcross_0 : decode cX5_isAcross 0 = .ok (.iload_n 0, 1) := dk_26 (dk_at dksX5_isAcross_0 0 rfl rfl)
theorem dX5_isAcross_1 : decode cX5_isAcross 1 = .ok (.iconst 3, 1) := dk_6 (dk_at dksX5_isAcross_0 1 rfl rfl)
theorem dX5_isAcross_2 : decode cX5_isAcross 2 = .ok (.if_icmp .ge 7, 3) := dk_162 0 7 (dk_at dksX5_isAcross_0 2 rfl rfl)
theorem dX5_isAcross_5 : decode cX5_isAcross 5 = .ok (.iconst 1, 1) := dk_4 (dk_at dksX5_isAcross_0 5 rfl rfl)
theorem dX5_isAcross_6 : decode cX5_isAcross 6 = .ok (.goto 4, 3) := dk_167 0 4 (dk_at dksX5_isAcross_0 6 rfl rfl)
theorem dX5_isAcross_9 : decode cX5_isAcross 9 = .ok (.iconst 0, 1) := dk_3 (dk_at dksX5_isAcross_0 9 rfl rfl)
theorem dX5_isAcross_10 : decode cX5_isAcross 10 = .ok (.ireturn, 1) := dk_172 (dk_at dksX5_isAcross_0 10 rfl rfl)
abbrev cX5_folded : ByteArray := prog_11_method_5_code
def yX5_folded : MethodName := ⟨RX5, "folded", "(III)[LCribBooklet$Layer;"⟩
def dkwX5_folded_7 : List UInt8 := [184, 0, 34, 176]
abbrev dktX5_folded_7 : List UInt8 := dkwX5_folded_7 ++ []
def dkwX5_folded_6 : List UInt8 := [184, 0, 34, 176, 42, 42, 180, 0, 7, 4, 100, 28, 100, 29, 182, 0, 30, 42, 28, 29, 182, 0, 30, 3]
abbrev dktX5_folded_6 : List UInt8 := dkwX5_folded_6 ++ dktX5_folded_7
def dkwX5_folded_5 : List UInt8 := [176, 42, 21, 4, 4, 100, 28, 100, 29, 182, 0, 30, 42, 21, 4, 28, 96, 29, 182, 0, 30, 3]
abbrev dktX5_folded_5 : List UInt8 := dkwX5_folded_5 ++ dktX5_folded_6
def dkwX5_folded_4 : List UInt8 := [176, 42, 28, 42, 180, 0, 13, 4, 100, 29, 100, 182, 0, 30, 42, 28, 29, 182, 0, 30, 4, 184, 0, 34]
abbrev dktX5_folded_4 : List UInt8 := dkwX5_folded_4 ++ dktX5_folded_5
def dkwX5_folded_3 : List UInt8 := [42, 28, 21, 4, 4, 100, 29, 100, 182, 0, 30, 42, 28, 21, 4, 29, 96, 182, 0, 30, 4, 184, 0, 34]
abbrev dktX5_folded_3 : List UInt8 := dkwX5_folded_3 ++ dktX5_folded_4
def dkwX5_folded_2 : List UInt8 := [170, 0, 0, 0, 0, 0, 101, 0, 0, 0, 1, 0, 0, 0, 3, 0, 0, 0, 27, 0, 0, 0, 52, 0, 0, 0, 76]
abbrev dktX5_folded_2 : List UInt8 := dkwX5_folded_2 ++ dktX5_folded_3
def dkwX5_folded_1 : List UInt8 := [27]
abbrev dktX5_folded_1 : List UInt8 := dkwX5_folded_1 ++ dktX5_folded_2
def dkwX5_folded_0 : List UInt8 := [27, 184, 0, 26, 153, 0, 12, 42, 180, 0, 13, 5, 108, 167, 0, 9, 42, 180, 0, 7, 5, 108, 54, 4]
abbrev dktX5_folded_0 : List UInt8 := dkwX5_folded_0 ++ dktX5_folded_1
theorem dksX5_folded_0 : cX5_folded.data.toList.drop 0 = dktX5_folded_0 := by decide +kernel
theorem dksX5_folded_1 : cX5_folded.data.toList.drop 24 = dktX5_folded_1 := dk_seg dksX5_folded_0 24 rfl rfl
theorem dksX5_folded_2 : cX5_folded.data.toList.drop 25 = dktX5_folded_2 := dk_seg dksX5_folded_1 1 rfl rfl
theorem dksX5_folded_3 : cX5_folded.data.toList.drop 52 = dktX5_folded_3 := dk_seg dksX5_folded_2 27 rfl rfl
theorem dksX5_folded_4 : cX5_folded.data.toList.drop 76 = dktX5_folded_4 := dk_seg dksX5_folded_3 24 rfl rfl
theorem dksX5_folded_5 : cX5_folded.data.toList.drop 100 = dktX5_folded_5 := dk_seg dksX5_folded_4 24 rfl rfl
theorem dksX5_folded_6 : cX5_folded.data.toList.drop 122 = dktX5_folded_6 := dk_seg dksX5_folded_5 22 rfl rfl
theorem dksX5_folded_7 : cX5_folded.data.toList.drop 146 = dktX5_folded_7 := dk_seg dksX5_folded_6 24 rfl rfl
theorem dX5_folded_0 : decode cX5_folded 0 = .ok (.iload_n 1, 1) := dk_27 (dk_at dksX5_folded_0 0 rfl rfl)
theorem dX5_folded_1 : decode cX5_folded 1 = .ok (.invokestatic 26, 3) := dk_184 0 26 (dk_at dksX5_folded_0 1 rfl rfl)
theorem dX5_folded_4 : decode cX5_folded 4 = .ok (.ifCond .eq 12, 3) := dk_153 0 12 (dk_at dksX5_folded_0 4 rfl rfl)
theorem dX5_folded_7 : decode cX5_folded 7 = .ok (.aload_n 0, 1) := dk_42 (dk_at dksX5_folded_0 7 rfl rfl)
theorem dX5_folded_8 : decode cX5_folded 8 = .ok (.getfield 13, 3) := dk_180 0 13 (dk_at dksX5_folded_0 8 rfl rfl)
theorem dX5_folded_11 : decode cX5_folded 11 = .ok (.iconst 2, 1) := dk_5 (dk_at dksX5_folded_0 11 rfl rfl)
theorem dX5_folded_12 : decode cX5_folded 12 = .ok (.idiv, 1) := dk_108 (dk_at dksX5_folded_0 12 rfl rfl)
theorem dX5_folded_13 : decode cX5_folded 13 = .ok (.goto 9, 3) := dk_167 0 9 (dk_at dksX5_folded_0 13 rfl rfl)
theorem dX5_folded_16 : decode cX5_folded 16 = .ok (.aload_n 0, 1) := dk_42 (dk_at dksX5_folded_0 16 rfl rfl)
theorem dX5_folded_17 : decode cX5_folded 17 = .ok (.getfield 7, 3) := dk_180 0 7 (dk_at dksX5_folded_0 17 rfl rfl)
theorem dX5_folded_20 : decode cX5_folded 20 = .ok (.iconst 2, 1) := dk_5 (dk_at dksX5_folded_0 20 rfl rfl)
theorem dX5_folded_21 : decode cX5_folded 21 = .ok (.idiv, 1) := dk_108 (dk_at dksX5_folded_0 21 rfl rfl)
theorem dX5_folded_22 : decode cX5_folded 22 = .ok (.istore 4, 2) := dk_54 4 (dk_at dksX5_folded_0 22 rfl rfl)
theorem dX5_folded_24 : decode cX5_folded 24 = .ok (.iload_n 1, 1) := dk_27 (dk_at dksX5_folded_1 0 rfl rfl)
theorem dX5_folded_25 : decode cX5_folded 25 = .ok (.tableswitch 101 1 3 #[27, 52, 76], 27) := by decide +kernel
theorem dX5_folded_52 : decode cX5_folded 52 = .ok (.aload_n 0, 1) := dk_42 (dk_at dksX5_folded_3 0 rfl rfl)
theorem dX5_folded_53 : decode cX5_folded 53 = .ok (.iload_n 2, 1) := dk_28 (dk_at dksX5_folded_3 1 rfl rfl)
theorem dX5_folded_54 : decode cX5_folded 54 = .ok (.iload 4, 2) := dk_21 4 (dk_at dksX5_folded_3 2 rfl rfl)
theorem dX5_folded_56 : decode cX5_folded 56 = .ok (.iconst 1, 1) := dk_4 (dk_at dksX5_folded_3 4 rfl rfl)
theorem dX5_folded_57 : decode cX5_folded 57 = .ok (.isub, 1) := dk_100 (dk_at dksX5_folded_3 5 rfl rfl)
theorem dX5_folded_58 : decode cX5_folded 58 = .ok (.iload_n 3, 1) := dk_29 (dk_at dksX5_folded_3 6 rfl rfl)
theorem dX5_folded_59 : decode cX5_folded 59 = .ok (.isub, 1) := dk_100 (dk_at dksX5_folded_3 7 rfl rfl)
theorem dX5_folded_60 : decode cX5_folded 60 = .ok (.invokevirtual 30, 3) := dk_182 0 30 (dk_at dksX5_folded_3 8 rfl rfl)
theorem dX5_folded_63 : decode cX5_folded 63 = .ok (.aload_n 0, 1) := dk_42 (dk_at dksX5_folded_3 11 rfl rfl)
theorem dX5_folded_64 : decode cX5_folded 64 = .ok (.iload_n 2, 1) := dk_28 (dk_at dksX5_folded_3 12 rfl rfl)
theorem dX5_folded_65 : decode cX5_folded 65 = .ok (.iload 4, 2) := dk_21 4 (dk_at dksX5_folded_3 13 rfl rfl)
theorem dX5_folded_67 : decode cX5_folded 67 = .ok (.iload_n 3, 1) := dk_29 (dk_at dksX5_folded_3 15 rfl rfl)
theorem dX5_folded_68 : decode cX5_folded 68 = .ok (.iadd, 1) := dk_96 (dk_at dksX5_folded_3 16 rfl rfl)
theorem dX5_folded_69 : decode cX5_folded 69 = .ok (.invokevirtual 30, 3) := dk_182 0 30 (dk_at dksX5_folded_3 17 rfl rfl)
theorem dX5_folded_72 : decode cX5_folded 72 = .ok (.iconst 1, 1) := dk_4 (dk_at dksX5_folded_3 20 rfl rfl)
theorem dX5_folded_73 : decode cX5_folded 73 = .ok (.invokestatic 34, 3) := dk_184 0 34 (dk_at dksX5_folded_3 21 rfl rfl)
theorem dX5_folded_76 : decode cX5_folded 76 = .ok (.areturn, 1) := dk_176 (dk_at dksX5_folded_4 0 rfl rfl)
theorem dX5_folded_77 : decode cX5_folded 77 = .ok (.aload_n 0, 1) := dk_42 (dk_at dksX5_folded_4 1 rfl rfl)
theorem dX5_folded_78 : decode cX5_folded 78 = .ok (.iload_n 2, 1) := dk_28 (dk_at dksX5_folded_4 2 rfl rfl)
theorem dX5_folded_79 : decode cX5_folded 79 = .ok (.aload_n 0, 1) := dk_42 (dk_at dksX5_folded_4 3 rfl rfl)
theorem dX5_folded_80 : decode cX5_folded 80 = .ok (.getfield 13, 3) := dk_180 0 13 (dk_at dksX5_folded_4 4 rfl rfl)
theorem dX5_folded_83 : decode cX5_folded 83 = .ok (.iconst 1, 1) := dk_4 (dk_at dksX5_folded_4 7 rfl rfl)
theorem dX5_folded_84 : decode cX5_folded 84 = .ok (.isub, 1) := dk_100 (dk_at dksX5_folded_4 8 rfl rfl)
theorem dX5_folded_85 : decode cX5_folded 85 = .ok (.iload_n 3, 1) := dk_29 (dk_at dksX5_folded_4 9 rfl rfl)
theorem dX5_folded_86 : decode cX5_folded 86 = .ok (.isub, 1) := dk_100 (dk_at dksX5_folded_4 10 rfl rfl)
theorem dX5_folded_87 : decode cX5_folded 87 = .ok (.invokevirtual 30, 3) := dk_182 0 30 (dk_at dksX5_folded_4 11 rfl rfl)
theorem dX5_folded_90 : decode cX5_folded 90 = .ok (.aload_n 0, 1) := dk_42 (dk_at dksX5_folded_4 14 rfl rfl)
theorem dX5_folded_91 : decode cX5_folded 91 = .ok (.iload_n 2, 1) := dk_28 (dk_at dksX5_folded_4 15 rfl rfl)
theorem dX5_folded_92 : decode cX5_folded 92 = .ok (.iload_n 3, 1) := dk_29 (dk_at dksX5_folded_4 16 rfl rfl)
theorem dX5_folded_93 : decode cX5_folded 93 = .ok (.invokevirtual 30, 3) := dk_182 0 30 (dk_at dksX5_folded_4 17 rfl rfl)
theorem dX5_folded_96 : decode cX5_folded 96 = .ok (.iconst 1, 1) := dk_4 (dk_at dksX5_folded_4 20 rfl rfl)
theorem dX5_folded_97 : decode cX5_folded 97 = .ok (.invokestatic 34, 3) := dk_184 0 34 (dk_at dksX5_folded_4 21 rfl rfl)
theorem dX5_folded_100 : decode cX5_folded 100 = .ok (.areturn, 1) := dk_176 (dk_at dksX5_folded_5 0 rfl rfl)
theorem dX5_folded_101 : decode cX5_folded 101 = .ok (.aload_n 0, 1) := dk_42 (dk_at dksX5_folded_5 1 rfl rfl)
theorem dX5_folded_102 : decode cX5_folded 102 = .ok (.iload 4, 2) := dk_21 4 (dk_at dksX5_folded_5 2 rfl rfl)
theorem dX5_folded_104 : decode cX5_folded 104 = .ok (.iconst 1, 1) := dk_4 (dk_at dksX5_folded_5 4 rfl rfl)
theorem dX5_folded_105 : decode cX5_folded 105 = .ok (.isub, 1) := dk_100 (dk_at dksX5_folded_5 5 rfl rfl)
theorem dX5_folded_106 : decode cX5_folded 106 = .ok (.iload_n 2, 1) := dk_28 (dk_at dksX5_folded_5 6 rfl rfl)
theorem dX5_folded_107 : decode cX5_folded 107 = .ok (.isub, 1) := dk_100 (dk_at dksX5_folded_5 7 rfl rfl)
theorem dX5_folded_108 : decode cX5_folded 108 = .ok (.iload_n 3, 1) := dk_29 (dk_at dksX5_folded_5 8 rfl rfl)
theorem dX5_folded_109 : decode cX5_folded 109 = .ok (.invokevirtual 30, 3) := dk_182 0 30 (dk_at dksX5_folded_5 9 rfl rfl)
theorem dX5_folded_112 : decode cX5_folded 112 = .ok (.aload_n 0, 1) := dk_42 (dk_at dksX5_folded_5 12 rfl rfl)
theorem dX5_folded_113 : decode cX5_folded 113 = .ok (.iload 4, 2) := dk_21 4 (dk_at dksX5_folded_5 13 rfl rfl)
theorem dX5_folded_115 : decode cX5_folded 115 = .ok (.iload_n 2, 1) := dk_28 (dk_at dksX5_folded_5 15 rfl rfl)
theorem dX5_folded_116 : decode cX5_folded 116 = .ok (.iadd, 1) := dk_96 (dk_at dksX5_folded_5 16 rfl rfl)
theorem dX5_folded_117 : decode cX5_folded 117 = .ok (.iload_n 3, 1) := dk_29 (dk_at dksX5_folded_5 17 rfl rfl)
theorem dX5_folded_118 : decode cX5_folded 118 = .ok (.invokevirtual 30, 3) := dk_182 0 30 (dk_at dksX5_folded_5 18 rfl rfl)
theorem dX5_folded_121 : decode cX5_folded 121 = .ok (.iconst 0, 1) := dk_3 (dk_at dksX5_folded_5 21 rfl rfl)
theorem dX5_folded_122 : decode cX5_folded 122 = .ok (.invokestatic 34, 3) := dk_184 0 34 (dk_at dksX5_folded_6 0 rfl rfl)
theorem dX5_folded_125 : decode cX5_folded 125 = .ok (.areturn, 1) := dk_176 (dk_at dksX5_folded_6 3 rfl rfl)
theorem dX5_folded_126 : decode cX5_folded 126 = .ok (.aload_n 0, 1) := dk_42 (dk_at dksX5_folded_6 4 rfl rfl)
theorem dX5_folded_127 : decode cX5_folded 127 = .ok (.aload_n 0, 1) := dk_42 (dk_at dksX5_folded_6 5 rfl rfl)
theorem dX5_folded_128 : decode cX5_folded 128 = .ok (.getfield 7, 3) := dk_180 0 7 (dk_at dksX5_folded_6 6 rfl rfl)
theorem dX5_folded_131 : decode cX5_folded 131 = .ok (.iconst 1, 1) := dk_4 (dk_at dksX5_folded_6 9 rfl rfl)
theorem dX5_folded_132 : decode cX5_folded 132 = .ok (.isub, 1) := dk_100 (dk_at dksX5_folded_6 10 rfl rfl)
theorem dX5_folded_133 : decode cX5_folded 133 = .ok (.iload_n 2, 1) := dk_28 (dk_at dksX5_folded_6 11 rfl rfl)
theorem dX5_folded_134 : decode cX5_folded 134 = .ok (.isub, 1) := dk_100 (dk_at dksX5_folded_6 12 rfl rfl)
theorem dX5_folded_135 : decode cX5_folded 135 = .ok (.iload_n 3, 1) := dk_29 (dk_at dksX5_folded_6 13 rfl rfl)
theorem dX5_folded_136 : decode cX5_folded 136 = .ok (.invokevirtual 30, 3) := dk_182 0 30 (dk_at dksX5_folded_6 14 rfl rfl)
theorem dX5_folded_139 : decode cX5_folded 139 = .ok (.aload_n 0, 1) := dk_42 (dk_at dksX5_folded_6 17 rfl rfl)
theorem dX5_folded_140 : decode cX5_folded 140 = .ok (.iload_n 2, 1) := dk_28 (dk_at dksX5_folded_6 18 rfl rfl)
theorem dX5_folded_141 : decode cX5_folded 141 = .ok (.iload_n 3, 1) := dk_29 (dk_at dksX5_folded_6 19 rfl rfl)
theorem dX5_folded_142 : decode cX5_folded 142 = .ok (.invokevirtual 30, 3) := dk_182 0 30 (dk_at dksX5_folded_6 20 rfl rfl)
theorem dX5_folded_145 : decode cX5_folded 145 = .ok (.iconst 0, 1) := dk_3 (dk_at dksX5_folded_6 23 rfl rfl)
theorem dX5_folded_146 : decode cX5_folded 146 = .ok (.invokestatic 34, 3) := dk_184 0 34 (dk_at dksX5_folded_7 0 rfl rfl)
theorem dX5_folded_149 : decode cX5_folded 149 = .ok (.areturn, 1) := dk_176 (dk_at dksX5_folded_7 3 rfl rfl)
abbrev cX5_placeAt : ByteArray := prog_11_method_4_code
def yX5_placeAt : MethodName := ⟨RX5, "placeAt", "(II)[LCribBooklet$Layer;"⟩
def dkwX5_placeAt_0 : List UInt8 := [42, 180, 0, 18, 27, 42, 180, 0, 13, 104, 28, 96, 50, 176]
abbrev dktX5_placeAt_0 : List UInt8 := dkwX5_placeAt_0 ++ []
theorem dksX5_placeAt_0 : cX5_placeAt.data.toList.drop 0 = dktX5_placeAt_0 := by decide +kernel
theorem dX5_placeAt_0 : decode cX5_placeAt 0 = .ok (.aload_n 0, 1) := dk_42 (dk_at dksX5_placeAt_0 0 rfl rfl)
theorem dX5_placeAt_1 : decode cX5_placeAt 1 = .ok (.getfield 18, 3) := dk_180 0 18 (dk_at dksX5_placeAt_0 1 rfl rfl)
theorem dX5_placeAt_4 : decode cX5_placeAt 4 = .ok (.iload_n 1, 1) := dk_27 (dk_at dksX5_placeAt_0 4 rfl rfl)
theorem dX5_placeAt_5 : decode cX5_placeAt 5 = .ok (.aload_n 0, 1) := dk_42 (dk_at dksX5_placeAt_0 5 rfl rfl)
theorem dX5_placeAt_6 : decode cX5_placeAt 6 = .ok (.getfield 13, 3) := dk_180 0 13 (dk_at dksX5_placeAt_0 6 rfl rfl)
theorem dX5_placeAt_9 : decode cX5_placeAt 9 = .ok (.imul, 1) := dk_104 (dk_at dksX5_placeAt_0 9 rfl rfl)
theorem dX5_placeAt_10 : decode cX5_placeAt 10 = .ok (.iload_n 2, 1) := dk_28 (dk_at dksX5_placeAt_0 10 rfl rfl)
theorem dX5_placeAt_11 : decode cX5_placeAt 11 = .ok (.iadd, 1) := dk_96 (dk_at dksX5_placeAt_0 11 rfl rfl)
theorem dX5_placeAt_12 : decode cX5_placeAt 12 = .ok (.aaload, 1) := dk_50 (dk_at dksX5_placeAt_0 12 rfl rfl)
theorem dX5_placeAt_13 : decode cX5_placeAt 13 = .ok (.areturn, 1) := dk_176 (dk_at dksX5_placeAt_0 13 rfl rfl)
abbrev cX5_laid : ByteArray := prog_11_method_6_code
def yX5_laid : MethodName := ⟨RX5, "laid", "([LCribBooklet$Layer;[LCribBooklet$Layer;Z)[LCribBooklet$Layer;"⟩
def dkwX5_laid_2 : List UInt8 := [43, 21, 5, 50, 83, 132, 5, 1, 167, 255, 214, 25, 4, 176]
abbrev dktX5_laid_2 : List UInt8 := dkwX5_laid_2 ++ []
def dkwX5_laid_1 : List UInt8 := [42, 29, 4, 100, 21, 5, 100, 50, 83, 25, 4, 21, 5, 50, 28, 182, 0, 38, 25, 4, 29, 21, 5, 96]
abbrev dktX5_laid_1 : List UInt8 := dkwX5_laid_1 ++ dktX5_laid_2
def dkwX5_laid_0 : List UInt8 := [42, 190, 62, 5, 29, 104, 189, 0, 21, 58, 4, 3, 54, 5, 21, 5, 29, 162, 0, 42, 25, 4, 21, 5]
abbrev dktX5_laid_0 : List UInt8 := dkwX5_laid_0 ++ dktX5_laid_1
theorem dksX5_laid_0 : cX5_laid.data.toList.drop 0 = dktX5_laid_0 := by decide +kernel
theorem dksX5_laid_1 : cX5_laid.data.toList.drop 24 = dktX5_laid_1 := dk_seg dksX5_laid_0 24 rfl rfl
theorem dksX5_laid_2 : cX5_laid.data.toList.drop 48 = dktX5_laid_2 := dk_seg dksX5_laid_1 24 rfl rfl
theorem dX5_laid_0 : decode cX5_laid 0 = .ok (.aload_n 0, 1) := dk_42 (dk_at dksX5_laid_0 0 rfl rfl)
theorem dX5_laid_1 : decode cX5_laid 1 = .ok (.arraylength, 1) := dk_190 (dk_at dksX5_laid_0 1 rfl rfl)
theorem dX5_laid_2 : decode cX5_laid 2 = .ok (.istore_n 3, 1) := dk_62 (dk_at dksX5_laid_0 2 rfl rfl)
theorem dX5_laid_3 : decode cX5_laid 3 = .ok (.iconst 2, 1) := dk_5 (dk_at dksX5_laid_0 3 rfl rfl)
theorem dX5_laid_4 : decode cX5_laid 4 = .ok (.iload_n 3, 1) := dk_29 (dk_at dksX5_laid_0 4 rfl rfl)
theorem dX5_laid_5 : decode cX5_laid 5 = .ok (.imul, 1) := dk_104 (dk_at dksX5_laid_0 5 rfl rfl)
theorem dX5_laid_6 : decode cX5_laid 6 = .ok (.anewarray 21, 3) := dk_189 0 21 (dk_at dksX5_laid_0 6 rfl rfl)
theorem dX5_laid_9 : decode cX5_laid 9 = .ok (.astore 4, 2) := dk_58 4 (dk_at dksX5_laid_0 9 rfl rfl)
theorem dX5_laid_11 : decode cX5_laid 11 = .ok (.iconst 0, 1) := dk_3 (dk_at dksX5_laid_0 11 rfl rfl)
theorem dX5_laid_12 : decode cX5_laid 12 = .ok (.istore 5, 2) := dk_54 5 (dk_at dksX5_laid_0 12 rfl rfl)
theorem dX5_laid_14 : decode cX5_laid 14 = .ok (.iload 5, 2) := dk_21 5 (dk_at dksX5_laid_0 14 rfl rfl)
theorem dX5_laid_16 : decode cX5_laid 16 = .ok (.iload_n 3, 1) := dk_29 (dk_at dksX5_laid_0 16 rfl rfl)
theorem dX5_laid_17 : decode cX5_laid 17 = .ok (.if_icmp .ge 42, 3) := dk_162 0 42 (dk_at dksX5_laid_0 17 rfl rfl)
theorem dX5_laid_20 : decode cX5_laid 20 = .ok (.aload 4, 2) := dk_25 4 (dk_at dksX5_laid_0 20 rfl rfl)
theorem dX5_laid_22 : decode cX5_laid 22 = .ok (.iload 5, 2) := dk_21 5 (dk_at dksX5_laid_0 22 rfl rfl)
theorem dX5_laid_24 : decode cX5_laid 24 = .ok (.aload_n 0, 1) := dk_42 (dk_at dksX5_laid_1 0 rfl rfl)
theorem dX5_laid_25 : decode cX5_laid 25 = .ok (.iload_n 3, 1) := dk_29 (dk_at dksX5_laid_1 1 rfl rfl)
theorem dX5_laid_26 : decode cX5_laid 26 = .ok (.iconst 1, 1) := dk_4 (dk_at dksX5_laid_1 2 rfl rfl)
theorem dX5_laid_27 : decode cX5_laid 27 = .ok (.isub, 1) := dk_100 (dk_at dksX5_laid_1 3 rfl rfl)
theorem dX5_laid_28 : decode cX5_laid 28 = .ok (.iload 5, 2) := dk_21 5 (dk_at dksX5_laid_1 4 rfl rfl)
theorem dX5_laid_30 : decode cX5_laid 30 = .ok (.isub, 1) := dk_100 (dk_at dksX5_laid_1 6 rfl rfl)
theorem dX5_laid_31 : decode cX5_laid 31 = .ok (.aaload, 1) := dk_50 (dk_at dksX5_laid_1 7 rfl rfl)
theorem dX5_laid_32 : decode cX5_laid 32 = .ok (.aastore, 1) := dk_83 (dk_at dksX5_laid_1 8 rfl rfl)
theorem dX5_laid_33 : decode cX5_laid 33 = .ok (.aload 4, 2) := dk_25 4 (dk_at dksX5_laid_1 9 rfl rfl)
theorem dX5_laid_35 : decode cX5_laid 35 = .ok (.iload 5, 2) := dk_21 5 (dk_at dksX5_laid_1 11 rfl rfl)
theorem dX5_laid_37 : decode cX5_laid 37 = .ok (.aaload, 1) := dk_50 (dk_at dksX5_laid_1 13 rfl rfl)
theorem dX5_laid_38 : decode cX5_laid 38 = .ok (.iload_n 2, 1) := dk_28 (dk_at dksX5_laid_1 14 rfl rfl)
theorem dX5_laid_39 : decode cX5_laid 39 = .ok (.invokevirtual 38, 3) := dk_182 0 38 (dk_at dksX5_laid_1 15 rfl rfl)
theorem dX5_laid_42 : decode cX5_laid 42 = .ok (.aload 4, 2) := dk_25 4 (dk_at dksX5_laid_1 18 rfl rfl)
theorem dX5_laid_44 : decode cX5_laid 44 = .ok (.iload_n 3, 1) := dk_29 (dk_at dksX5_laid_1 20 rfl rfl)
theorem dX5_laid_45 : decode cX5_laid 45 = .ok (.iload 5, 2) := dk_21 5 (dk_at dksX5_laid_1 21 rfl rfl)
theorem dX5_laid_47 : decode cX5_laid 47 = .ok (.iadd, 1) := dk_96 (dk_at dksX5_laid_1 23 rfl rfl)
theorem dX5_laid_48 : decode cX5_laid 48 = .ok (.aload_n 1, 1) := dk_43 (dk_at dksX5_laid_2 0 rfl rfl)
theorem dX5_laid_49 : decode cX5_laid 49 = .ok (.iload 5, 2) := dk_21 5 (dk_at dksX5_laid_2 1 rfl rfl)
theorem dX5_laid_51 : decode cX5_laid 51 = .ok (.aaload, 1) := dk_50 (dk_at dksX5_laid_2 3 rfl rfl)
theorem dX5_laid_52 : decode cX5_laid 52 = .ok (.aastore, 1) := dk_83 (dk_at dksX5_laid_2 4 rfl rfl)
theorem dX5_laid_53 : decode cX5_laid 53 = .ok (.iinc 5 1, 3) := dk_132 5 1 (dk_at dksX5_laid_2 5 rfl rfl)
theorem dX5_laid_56 : decode cX5_laid 56 = .ok (.goto (-42), 3) := dk_167 255 214 (dk_at dksX5_laid_2 8 rfl rfl)
theorem dX5_laid_59 : decode cX5_laid 59 = .ok (.aload 4, 2) := dk_25 4 (dk_at dksX5_laid_2 11 rfl rfl)
theorem dX5_laid_61 : decode cX5_laid 61 = .ok (.areturn, 1) := dk_176 (dk_at dksX5_laid_2 13 rfl rfl)
abbrev cX5_canFold : ByteArray := prog_11_method_3_code
def yX5_canFold : MethodName := ⟨RX5, "canFold", "(I)Z"⟩
def dkwX5_canFold_1 : List UInt8 := [180, 0, 7, 4, 164, 0, 7, 4, 167, 0, 4, 3, 172]
abbrev dktX5_canFold_1 : List UInt8 := dkwX5_canFold_1 ++ []
def dkwX5_canFold_0 : List UInt8 := [27, 184, 0, 26, 153, 0, 19, 42, 180, 0, 13, 4, 164, 0, 7, 4, 167, 0, 20, 3, 167, 0, 16, 42]
abbrev dktX5_canFold_0 : List UInt8 := dkwX5_canFold_0 ++ dktX5_canFold_1
theorem dksX5_canFold_0 : cX5_canFold.data.toList.drop 0 = dktX5_canFold_0 := by decide +kernel
theorem dksX5_canFold_1 : cX5_canFold.data.toList.drop 24 = dktX5_canFold_1 := dk_seg dksX5_canFold_0 24 rfl rfl
theorem dX5_canFold_0 : decode cX5_canFold 0 = .ok (.iload_n 1, 1) := dk_27 (dk_at dksX5_canFold_0 0 rfl rfl)
theorem dX5_canFold_1 : decode cX5_canFold 1 = .ok (.invokestatic 26, 3) := dk_184 0 26 (dk_at dksX5_canFold_0 1 rfl rfl)
theorem dX5_canFold_4 : decode cX5_canFold 4 = .ok (.ifCond .eq 19, 3) := dk_153 0 19 (dk_at dksX5_canFold_0 4 rfl rfl)
theorem dX5_canFold_7 : decode cX5_canFold 7 = .ok (.aload_n 0, 1) := dk_42 (dk_at dksX5_canFold_0 7 rfl rfl)
theorem dX5_canFold_8 : decode cX5_canFold 8 = .ok (.getfield 13, 3) := dk_180 0 13 (dk_at dksX5_canFold_0 8 rfl rfl)
theorem dX5_canFold_11 : decode cX5_canFold 11 = .ok (.iconst 1, 1) := dk_4 (dk_at dksX5_canFold_0 11 rfl rfl)
theorem dX5_canFold_12 : decode cX5_canFold 12 = .ok (.if_icmp .le 7, 3) := dk_164 0 7 (dk_at dksX5_canFold_0 12 rfl rfl)
theorem dX5_canFold_15 : decode cX5_canFold 15 = .ok (.iconst 1, 1) := dk_4 (dk_at dksX5_canFold_0 15 rfl rfl)
theorem dX5_canFold_16 : decode cX5_canFold 16 = .ok (.goto 20, 3) := dk_167 0 20 (dk_at dksX5_canFold_0 16 rfl rfl)
theorem dX5_canFold_19 : decode cX5_canFold 19 = .ok (.iconst 0, 1) := dk_3 (dk_at dksX5_canFold_0 19 rfl rfl)
theorem dX5_canFold_20 : decode cX5_canFold 20 = .ok (.goto 16, 3) := dk_167 0 16 (dk_at dksX5_canFold_0 20 rfl rfl)
theorem dX5_canFold_23 : decode cX5_canFold 23 = .ok (.aload_n 0, 1) := dk_42 (dk_at dksX5_canFold_0 23 rfl rfl)
theorem dX5_canFold_24 : decode cX5_canFold 24 = .ok (.getfield 7, 3) := dk_180 0 7 (dk_at dksX5_canFold_1 0 rfl rfl)
theorem dX5_canFold_27 : decode cX5_canFold 27 = .ok (.iconst 1, 1) := dk_4 (dk_at dksX5_canFold_1 3 rfl rfl)
theorem dX5_canFold_28 : decode cX5_canFold 28 = .ok (.if_icmp .le 7, 3) := dk_164 0 7 (dk_at dksX5_canFold_1 4 rfl rfl)
theorem dX5_canFold_31 : decode cX5_canFold 31 = .ok (.iconst 1, 1) := dk_4 (dk_at dksX5_canFold_1 7 rfl rfl)
theorem dX5_canFold_32 : decode cX5_canFold 32 = .ok (.goto 4, 3) := dk_167 0 4 (dk_at dksX5_canFold_1 8 rfl rfl)
theorem dX5_canFold_35 : decode cX5_canFold 35 = .ok (.iconst 0, 1) := dk_3 (dk_at dksX5_canFold_1 11 rfl rfl)
theorem dX5_canFold_36 : decode cX5_canFold 36 = .ok (.ireturn, 1) := dk_172 (dk_at dksX5_canFold_1 12 rfl rfl)
theorem q101 : (Jvm.Cond.initialized "CribBooklet$Folding") ∈ lw_all := lw_g (lw_at lw_m1 15 rfl) rfl
theorem q461 : (Jvm.Cond.instantiable "CribBooklet$Folding" (3 : Nat)) ∈ lw_all := lw_g (lw_at lw_m2 135 rfl) rfl
theorem q463 : (Jvm.Cond.instanceMethod ({ cls := "CribBooklet$Folding", name := "<init>", desc := "(II)V" } : Jvm.MethodName)) ∈ lw_all := lw_g (lw_at lw_m2 137 rfl) rfl
theorem q464 : (Jvm.Cond.code ({ cls := "CribBooklet$Folding", name := "<init>", desc := "(II)V" } : Jvm.MethodName) prog_11_method_1_code (4 : Nat) (Option.none : Option Jvm.ClassFile.FieldType)) ∈ lw_all := lw_g (lw_at lw_m2 138 rfl) rfl
theorem q465 : (Jvm.Cond.methodLink "CribBooklet$Folding" (1 : Nat) ({ cls := "java/lang/Object", name := "<init>", desc := "()V" } : Jvm.MethodName)) ∈ lw_all := lw_g (lw_at lw_m2 139 rfl) rfl
theorem q466 : (Jvm.Cond.classLink "CribBooklet$Folding" (16 : Nat) "[[LCribBooklet$Layer;") ∈ lw_all := lw_g (lw_at lw_m2 140 rfl) rfl
theorem q470 : (Jvm.Cond.classLink "CribBooklet$Folding" (21 : Nat) "CribBooklet$Layer") ∈ lw_all := lw_g (lw_at lw_m2 144 rfl) rfl
theorem q472 : (Jvm.Cond.methodLink "CribBooklet$Folding" (23 : Nat) ({ cls := "CribBooklet$Layer", name := "<init>", desc := "(II)V" } : Jvm.MethodName)) ∈ lw_all := lw_g (lw_at lw_m2 146 rfl) rfl
theorem q493 : (Jvm.Cond.fieldLink "CribBooklet$Folding" (7 : Nat) "CribBooklet$Folding" "rows" "I") ∈ lw_all := lw_g (lw_at lw_m2 167 rfl) rfl
theorem q494 : (Jvm.Cond.fieldLink "CribBooklet$Folding" (13 : Nat) "CribBooklet$Folding" "columns" "I") ∈ lw_all := lw_g (lw_at lw_m2 168 rfl) rfl
theorem q496 : (Jvm.Cond.fieldLink "CribBooklet$Folding" (18 : Nat) "CribBooklet$Folding" "places" "[[LCribBooklet$Layer;") ∈ lw_all := lw_g (lw_at lw_m2 170 rfl) rfl
theorem q498 : (Jvm.Cond.lays "CribBooklet$Folding" "CribBooklet$Folding" "rows" "I") ∈ lw_all := lw_g (lw_at lw_m2 172 rfl) rfl
theorem q499 : (Jvm.Cond.soleField "CribBooklet$Folding" "rows") ∈ lw_all := lw_g (lw_at lw_m2 173 rfl) rfl
theorem q500 : (Jvm.Cond.lays "CribBooklet$Folding" "CribBooklet$Folding" "columns" "I") ∈ lw_all := lw_g (lw_at lw_m2 174 rfl) rfl
theorem q501 : (Jvm.Cond.soleField "CribBooklet$Folding" "columns") ∈ lw_all := lw_g (lw_at lw_m2 175 rfl) rfl
theorem q502 : (Jvm.Cond.lays "CribBooklet$Folding" "CribBooklet$Folding" "places" "[[LCribBooklet$Layer;") ∈ lw_all := lw_g (lw_at lw_m2 176 rfl) rfl
theorem q503 : (Jvm.Cond.soleField "CribBooklet$Folding" "places") ∈ lw_all := lw_g (lw_at lw_m2 177 rfl) rfl
theorem q504 : (Jvm.Cond.superclass "CribBooklet$Folding" "java/lang/Object") ∈ lw_all := lw_g (lw_at lw_m2 178 rfl) rfl
theorem q506 : (Jvm.Cond.instanceMethod ({ cls := "CribBooklet$Folding", name := "fold", desc := "(I)V" } : Jvm.MethodName)) ∈ lw_all := lw_g (lw_at lw_m2 180 rfl) rfl
theorem q507 : (Jvm.Cond.selects "CribBooklet$Folding" ({ cls := "CribBooklet$Folding", name := "fold", desc := "(I)V" } : Jvm.MethodName) ({ cls := "CribBooklet$Folding", name := "fold", desc := "(I)V" } : Jvm.MethodName)) ∈ lw_all := lw_g (lw_at lw_m2 181 rfl) rfl
theorem q508 : (Jvm.Cond.code ({ cls := "CribBooklet$Folding", name := "fold", desc := "(I)V" } : Jvm.MethodName) prog_11_method_7_code (6 : Nat) (Option.none : Option Jvm.ClassFile.FieldType)) ∈ lw_all := lw_g (lw_at lw_m2 182 rfl) rfl
theorem q509 : (Jvm.Cond.methodLink "CribBooklet$Folding" (26 : Nat) ({ cls := "CribBooklet$Folding", name := "isAcross", desc := "(I)Z" } : Jvm.MethodName)) ∈ lw_all := lw_g (lw_at lw_m2 183 rfl) rfl
theorem q510 : (Jvm.Cond.static ({ cls := "CribBooklet$Folding", name := "isAcross", desc := "(I)Z" } : Jvm.MethodName)) ∈ lw_all := lw_g (lw_at lw_m2 184 rfl) rfl
theorem q511 : (Jvm.Cond.code ({ cls := "CribBooklet$Folding", name := "isAcross", desc := "(I)Z" } : Jvm.MethodName) prog_11_method_2_code (1 : Nat) (Option.some Jvm.ClassFile.FieldType.boolean)) ∈ lw_all := lw_g (lw_at lw_m2 185 rfl) rfl
theorem q512 : (Jvm.Cond.classLink "CribBooklet$Folding" (42 : Nat) "[LCribBooklet$Layer;") ∈ lw_all := lw_g (lw_at lw_m2 186 rfl) rfl
theorem q513 : (Jvm.Cond.methodLink "CribBooklet$Folding" (44 : Nat) ({ cls := "CribBooklet$Folding", name := "folded", desc := "(III)[LCribBooklet$Layer;" } : Jvm.MethodName)) ∈ lw_all := lw_g (lw_at lw_m2 187 rfl) rfl
theorem q514 : (Jvm.Cond.privateMethod ({ cls := "CribBooklet$Folding", name := "folded", desc := "(III)[LCribBooklet$Layer;" } : Jvm.MethodName)) ∈ lw_tbl := lw_at lw_m2 188 rfl
theorem q515 : (Jvm.Cond.instanceMethod ({ cls := "CribBooklet$Folding", name := "folded", desc := "(III)[LCribBooklet$Layer;" } : Jvm.MethodName)) ∈ lw_all := lw_g (lw_at lw_m2 189 rfl) rfl
theorem q516 : (Jvm.Cond.code ({ cls := "CribBooklet$Folding", name := "folded", desc := "(III)[LCribBooklet$Layer;" } : Jvm.MethodName) prog_11_method_5_code (5 : Nat) (Option.some (Jvm.ClassFile.FieldType.array (Jvm.ClassFile.FieldType.object "CribBooklet$Layer")))) ∈ lw_all := lw_g (lw_at lw_m2 190 rfl) rfl
theorem q517 : (Jvm.Cond.methodLink "CribBooklet$Folding" (30 : Nat) ({ cls := "CribBooklet$Folding", name := "placeAt", desc := "(II)[LCribBooklet$Layer;" } : Jvm.MethodName)) ∈ lw_all := lw_g (lw_at lw_m2 191 rfl) rfl
theorem q518 : (Jvm.Cond.privateMethod ({ cls := "CribBooklet$Folding", name := "placeAt", desc := "(II)[LCribBooklet$Layer;" } : Jvm.MethodName)) ∈ lw_tbl := lw_at lw_m2 192 rfl
theorem q519 : (Jvm.Cond.instanceMethod ({ cls := "CribBooklet$Folding", name := "placeAt", desc := "(II)[LCribBooklet$Layer;" } : Jvm.MethodName)) ∈ lw_all := lw_g (lw_at lw_m2 193 rfl) rfl
theorem q520 : (Jvm.Cond.code ({ cls := "CribBooklet$Folding", name := "placeAt", desc := "(II)[LCribBooklet$Layer;" } : Jvm.MethodName) prog_11_method_4_code (3 : Nat) (Option.some (Jvm.ClassFile.FieldType.array (Jvm.ClassFile.FieldType.object "CribBooklet$Layer")))) ∈ lw_all := lw_g (lw_at lw_m2 194 rfl) rfl
theorem q521 : (Jvm.Cond.methodLink "CribBooklet$Folding" (34 : Nat) ({ cls := "CribBooklet$Folding", name := "laid", desc := "([LCribBooklet$Layer;[LCribBooklet$Layer;Z)[LCribBooklet$Layer;" } : Jvm.MethodName)) ∈ lw_all := lw_g (lw_at lw_m2 195 rfl) rfl
theorem q522 : (Jvm.Cond.static ({ cls := "CribBooklet$Folding", name := "laid", desc := "([LCribBooklet$Layer;[LCribBooklet$Layer;Z)[LCribBooklet$Layer;" } : Jvm.MethodName)) ∈ lw_all := lw_g (lw_at lw_m2 196 rfl) rfl
theorem q523 : (Jvm.Cond.code ({ cls := "CribBooklet$Folding", name := "laid", desc := "([LCribBooklet$Layer;[LCribBooklet$Layer;Z)[LCribBooklet$Layer;" } : Jvm.MethodName) prog_11_method_6_code (6 : Nat) (Option.some (Jvm.ClassFile.FieldType.array (Jvm.ClassFile.FieldType.object "CribBooklet$Layer")))) ∈ lw_all := lw_g (lw_at lw_m2 197 rfl) rfl
theorem q524 : (Jvm.Cond.methodLink "CribBooklet$Folding" (38 : Nat) ({ cls := "CribBooklet$Layer", name := "turnOver", desc := "(Z)V" } : Jvm.MethodName)) ∈ lw_all := lw_g (lw_at lw_m2 198 rfl) rfl
theorem q529 : (Jvm.Cond.instanceMethod ({ cls := "CribBooklet$Folding", name := "canFold", desc := "(I)Z" } : Jvm.MethodName)) ∈ lw_all := lw_g (lw_at lw_m2 203 rfl) rfl
theorem q530 : (Jvm.Cond.selects "CribBooklet$Folding" ({ cls := "CribBooklet$Folding", name := "canFold", desc := "(I)Z" } : Jvm.MethodName) ({ cls := "CribBooklet$Folding", name := "canFold", desc := "(I)Z" } : Jvm.MethodName)) ∈ lw_all := lw_g (lw_at lw_m2 204 rfl) rfl
theorem q531 : (Jvm.Cond.code ({ cls := "CribBooklet$Folding", name := "canFold", desc := "(I)Z" } : Jvm.MethodName) prog_11_method_3_code (2 : Nat) (Option.some Jvm.ClassFile.FieldType.boolean)) ∈ lw_all := lw_g (lw_at lw_m2 205 rfl) rfl
theorem q706 : (Jvm.Cond.selects "CribBooklet$Folding" ({ cls := "java/lang/Object", name := "getClass", desc := "()Ljava/lang/Class;" } : Jvm.MethodName) ({ cls := "java/lang/Object", name := "getClass", desc := "()Ljava/lang/Class;" } : Jvm.MethodName)) ∈ lw_all := lw_g (lw_at lw_m3 140 rfl) rfl
theorem q3343 : (Jvm.Cond.castable "CribBooklet$Folding" "java/lang/Object") ∈ lw_tbl := lw_at lw_m14 137 rfl
theorem in_X5 : ∀ w ∈ wsX50, w ∈ lw_all := lw_in wsX50 [498, 500, 502] (by decide +kernel) (by decide +kernel)

end
section
/-! CribBooklet$Layer -/
set_option maxRecDepth 100000
def RX6 : String := "CribBooklet$Layer"
def TX6 : u_T := fun k => match k with
  | 0 => ("CribBooklet$Layer", "row", "I", true)
  | 1 => ("CribBooklet$Layer", "column", "I", true)
  | 2 => ("CribBooklet$Layer", "isMirrored", "Z", false)
  | _ => ("CribBooklet$Layer", "isUpsideDown", "Z", false)
def tyX6 : Nat → FieldType := fun k => match k with
  | 0 => .int
  | 1 => .int
  | 2 => .boolean
  | _ => .boolean
abbrev wsX60 : List Cond := u_ws RX6 TX6 4
theorem nmX6 : ∀ a, a < 4 → ∀ b, b < 4 → a ≠ b → (TX6 a).2.1 ≠ (TX6 b).2.1 := by decide +kernel
theorem tyX6_ok : ∀ k, k < 4 → parseFieldDescriptor (TX6 k).2.2.1 = some (tyX6 k) := by decide +kernel
abbrev cX6_init : ByteArray := prog_14_method_1_code
def yX6_init : MethodName := ⟨RX6, "<init>", "(II)V"⟩
def dkwX6_init_0 : List UInt8 := [42, 183, 0, 1, 42, 27, 181, 0, 7, 42, 28, 181, 0, 13, 177]
abbrev dktX6_init_0 : List UInt8 := dkwX6_init_0 ++ []
theorem dksX6_init_0 : cX6_init.data.toList.drop 0 = dktX6_init_0 := by decide +kernel
theorem dX6_init_0 : decode cX6_init 0 = .ok (.aload_n 0, 1) := dk_42 (dk_at dksX6_init_0 0 rfl rfl)
theorem dX6_init_1 : decode cX6_init 1 = .ok (.invokespecial 1, 3) := dk_183 0 1 (dk_at dksX6_init_0 1 rfl rfl)
theorem dX6_init_4 : decode cX6_init 4 = .ok (.aload_n 0, 1) := dk_42 (dk_at dksX6_init_0 4 rfl rfl)
theorem dX6_init_5 : decode cX6_init 5 = .ok (.iload_n 1, 1) := dk_27 (dk_at dksX6_init_0 5 rfl rfl)
theorem dX6_init_6 : decode cX6_init 6 = .ok (.putfield 7, 3) := dk_181 0 7 (dk_at dksX6_init_0 6 rfl rfl)
theorem dX6_init_9 : decode cX6_init 9 = .ok (.aload_n 0, 1) := dk_42 (dk_at dksX6_init_0 9 rfl rfl)
theorem dX6_init_10 : decode cX6_init 10 = .ok (.iload_n 2, 1) := dk_28 (dk_at dksX6_init_0 10 rfl rfl)
theorem dX6_init_11 : decode cX6_init 11 = .ok (.putfield 13, 3) := dk_181 0 13 (dk_at dksX6_init_0 11 rfl rfl)
theorem dX6_init_14 : decode cX6_init 14 = .ok (.return_, 1) := dk_177 (dk_at dksX6_init_0 14 rfl rfl)
abbrev cX6_turnOver : ByteArray := prog_14_method_2_code
def yX6_turnOver : MethodName := ⟨RX6, "turnOver", "(Z)V"⟩
def dkwX6_turnOver_1 : List UInt8 := [42, 180, 0, 20, 154, 0, 7, 4, 167, 0, 4, 3, 181, 0, 20, 177]
abbrev dktX6_turnOver_1 : List UInt8 := dkwX6_turnOver_1 ++ []
def dkwX6_turnOver_0 : List UInt8 := [27, 153, 0, 22, 42, 42, 180, 0, 16, 154, 0, 7, 4, 167, 0, 4, 3, 181, 0, 16, 167, 0, 19, 42]
abbrev dktX6_turnOver_0 : List UInt8 := dkwX6_turnOver_0 ++ dktX6_turnOver_1
theorem dksX6_turnOver_0 : cX6_turnOver.data.toList.drop 0 = dktX6_turnOver_0 := by decide +kernel
theorem dksX6_turnOver_1 : cX6_turnOver.data.toList.drop 24 = dktX6_turnOver_1 := dk_seg dksX6_turnOver_0 24 rfl rfl
theorem dX6_turnOver_0 : decode cX6_turnOver 0 = .ok (.iload_n 1, 1) := dk_27 (dk_at dksX6_turnOver_0 0 rfl rfl)
theorem dX6_turnOver_1 : decode cX6_turnOver 1 = .ok (.ifCond .eq 22, 3) := dk_153 0 22 (dk_at dksX6_turnOver_0 1 rfl rfl)
theorem dX6_turnOver_4 : decode cX6_turnOver 4 = .ok (.aload_n 0, 1) := dk_42 (dk_at dksX6_turnOver_0 4 rfl rfl)
theorem dX6_turnOver_5 : decode cX6_turnOver 5 = .ok (.aload_n 0, 1) := dk_42 (dk_at dksX6_turnOver_0 5 rfl rfl)
theorem dX6_turnOver_6 : decode cX6_turnOver 6 = .ok (.getfield 16, 3) := dk_180 0 16 (dk_at dksX6_turnOver_0 6 rfl rfl)
theorem dX6_turnOver_9 : decode cX6_turnOver 9 = .ok (.ifCond .ne 7, 3) := dk_154 0 7 (dk_at dksX6_turnOver_0 9 rfl rfl)
theorem dX6_turnOver_12 : decode cX6_turnOver 12 = .ok (.iconst 1, 1) := dk_4 (dk_at dksX6_turnOver_0 12 rfl rfl)
theorem dX6_turnOver_13 : decode cX6_turnOver 13 = .ok (.goto 4, 3) := dk_167 0 4 (dk_at dksX6_turnOver_0 13 rfl rfl)
theorem dX6_turnOver_16 : decode cX6_turnOver 16 = .ok (.iconst 0, 1) := dk_3 (dk_at dksX6_turnOver_0 16 rfl rfl)
theorem dX6_turnOver_17 : decode cX6_turnOver 17 = .ok (.putfield 16, 3) := dk_181 0 16 (dk_at dksX6_turnOver_0 17 rfl rfl)
theorem dX6_turnOver_20 : decode cX6_turnOver 20 = .ok (.goto 19, 3) := dk_167 0 19 (dk_at dksX6_turnOver_0 20 rfl rfl)
theorem dX6_turnOver_23 : decode cX6_turnOver 23 = .ok (.aload_n 0, 1) := dk_42 (dk_at dksX6_turnOver_0 23 rfl rfl)
theorem dX6_turnOver_24 : decode cX6_turnOver 24 = .ok (.aload_n 0, 1) := dk_42 (dk_at dksX6_turnOver_1 0 rfl rfl)
theorem dX6_turnOver_25 : decode cX6_turnOver 25 = .ok (.getfield 20, 3) := dk_180 0 20 (dk_at dksX6_turnOver_1 1 rfl rfl)
theorem dX6_turnOver_28 : decode cX6_turnOver 28 = .ok (.ifCond .ne 7, 3) := dk_154 0 7 (dk_at dksX6_turnOver_1 4 rfl rfl)
theorem dX6_turnOver_31 : decode cX6_turnOver 31 = .ok (.iconst 1, 1) := dk_4 (dk_at dksX6_turnOver_1 7 rfl rfl)
theorem dX6_turnOver_32 : decode cX6_turnOver 32 = .ok (.goto 4, 3) := dk_167 0 4 (dk_at dksX6_turnOver_1 8 rfl rfl)
theorem dX6_turnOver_35 : decode cX6_turnOver 35 = .ok (.iconst 0, 1) := dk_3 (dk_at dksX6_turnOver_1 11 rfl rfl)
theorem dX6_turnOver_36 : decode cX6_turnOver 36 = .ok (.putfield 20, 3) := dk_181 0 20 (dk_at dksX6_turnOver_1 12 rfl rfl)
theorem dX6_turnOver_39 : decode cX6_turnOver 39 = .ok (.return_, 1) := dk_177 (dk_at dksX6_turnOver_1 15 rfl rfl)
abbrev cX6_sideUp : ByteArray := prog_14_method_3_code
def yX6_sideUp : MethodName := ⟨RX6, "sideUp", "()I"⟩
def dkwX6_sideUp_0 : List UInt8 := [42, 180, 0, 16, 42, 180, 0, 20, 160, 0, 7, 3, 167, 0, 4, 4, 172]
abbrev dktX6_sideUp_0 : List UInt8 := dkwX6_sideUp_0 ++ []
theorem dksX6_sideUp_0 : cX6_sideUp.data.toList.drop 0 = dktX6_sideUp_0 := by decide +kernel
theorem dX6_sideUp_0 : decode cX6_sideUp 0 = .ok (.aload_n 0, 1) := dk_42 (dk_at dksX6_sideUp_0 0 rfl rfl)
theorem dX6_sideUp_1 : decode cX6_sideUp 1 = .ok (.getfield 16, 3) := dk_180 0 16 (dk_at dksX6_sideUp_0 1 rfl rfl)
theorem dX6_sideUp_4 : decode cX6_sideUp 4 = .ok (.aload_n 0, 1) := dk_42 (dk_at dksX6_sideUp_0 4 rfl rfl)
theorem dX6_sideUp_5 : decode cX6_sideUp 5 = .ok (.getfield 20, 3) := dk_180 0 20 (dk_at dksX6_sideUp_0 5 rfl rfl)
theorem dX6_sideUp_8 : decode cX6_sideUp 8 = .ok (.if_icmp .ne 7, 3) := dk_160 0 7 (dk_at dksX6_sideUp_0 8 rfl rfl)
theorem dX6_sideUp_11 : decode cX6_sideUp 11 = .ok (.iconst 0, 1) := dk_3 (dk_at dksX6_sideUp_0 11 rfl rfl)
theorem dX6_sideUp_12 : decode cX6_sideUp 12 = .ok (.goto 4, 3) := dk_167 0 4 (dk_at dksX6_sideUp_0 12 rfl rfl)
theorem dX6_sideUp_15 : decode cX6_sideUp 15 = .ok (.iconst 1, 1) := dk_4 (dk_at dksX6_sideUp_0 15 rfl rfl)
theorem dX6_sideUp_16 : decode cX6_sideUp 16 = .ok (.ireturn, 1) := dk_172 (dk_at dksX6_sideUp_0 16 rfl rfl)
abbrev cX6_tells : ByteArray := prog_14_method_4_code
def yX6_tells : MethodName := ⟨RX6, "tells", "(I)I"⟩
def dkwX6_tells_3 : List UInt8 := [167, 0, 4, 3, 172, 42, 180, 0, 16, 153, 0, 7, 4, 167, 0, 4, 3, 172]
abbrev dktX6_tells_3 : List UInt8 := dkwX6_tells_3 ++ []
def dkwX6_tells_2 : List UInt8 := [42, 180, 0, 7, 172, 42, 180, 0, 13, 172, 42, 182, 0, 23, 172, 42, 180, 0, 20, 153, 0, 7, 4]
abbrev dktX6_tells_2 : List UInt8 := dkwX6_tells_2 ++ dktX6_tells_3
def dkwX6_tells_1 : List UInt8 := [170, 0, 0, 0, 0, 0, 59, 0, 0, 0, 0, 0, 0, 0, 3, 0, 0, 0, 31, 0, 0, 0, 36, 0, 0, 0, 41, 0, 0, 0, 46]
abbrev dktX6_tells_1 : List UInt8 := dkwX6_tells_1 ++ dktX6_tells_2
def dkwX6_tells_0 : List UInt8 := [27]
abbrev dktX6_tells_0 : List UInt8 := dkwX6_tells_0 ++ dktX6_tells_1
theorem dksX6_tells_0 : cX6_tells.data.toList.drop 0 = dktX6_tells_0 := by decide +kernel
theorem dksX6_tells_1 : cX6_tells.data.toList.drop 1 = dktX6_tells_1 := dk_seg dksX6_tells_0 1 rfl rfl
theorem dksX6_tells_2 : cX6_tells.data.toList.drop 32 = dktX6_tells_2 := dk_seg dksX6_tells_1 31 rfl rfl
theorem dksX6_tells_3 : cX6_tells.data.toList.drop 55 = dktX6_tells_3 := dk_seg dksX6_tells_2 23 rfl rfl
theorem dX6_tells_0 : decode cX6_tells 0 = .ok (.iload_n 1, 1) := dk_27 (dk_at dksX6_tells_0 0 rfl rfl)
theorem dX6_tells_1 : decode cX6_tells 1 = .ok (.tableswitch 59 0 3 #[31, 36, 41, 46], 31) := by decide +kernel
theorem dX6_tells_32 : decode cX6_tells 32 = .ok (.aload_n 0, 1) := dk_42 (dk_at dksX6_tells_2 0 rfl rfl)
theorem dX6_tells_33 : decode cX6_tells 33 = .ok (.getfield 7, 3) := dk_180 0 7 (dk_at dksX6_tells_2 1 rfl rfl)
theorem dX6_tells_36 : decode cX6_tells 36 = .ok (.ireturn, 1) := dk_172 (dk_at dksX6_tells_2 4 rfl rfl)
theorem dX6_tells_37 : decode cX6_tells 37 = .ok (.aload_n 0, 1) := dk_42 (dk_at dksX6_tells_2 5 rfl rfl)
theorem dX6_tells_38 : decode cX6_tells 38 = .ok (.getfield 13, 3) := dk_180 0 13 (dk_at dksX6_tells_2 6 rfl rfl)
theorem dX6_tells_41 : decode cX6_tells 41 = .ok (.ireturn, 1) := dk_172 (dk_at dksX6_tells_2 9 rfl rfl)
theorem dX6_tells_42 : decode cX6_tells 42 = .ok (.aload_n 0, 1) := dk_42 (dk_at dksX6_tells_2 10 rfl rfl)
theorem dX6_tells_43 : decode cX6_tells 43 = .ok (.invokevirtual 23, 3) := dk_182 0 23 (dk_at dksX6_tells_2 11 rfl rfl)
theorem dX6_tells_46 : decode cX6_tells 46 = .ok (.ireturn, 1) := dk_172 (dk_at dksX6_tells_2 14 rfl rfl)
theorem dX6_tells_47 : decode cX6_tells 47 = .ok (.aload_n 0, 1) := dk_42 (dk_at dksX6_tells_2 15 rfl rfl)
theorem dX6_tells_48 : decode cX6_tells 48 = .ok (.getfield 20, 3) := dk_180 0 20 (dk_at dksX6_tells_2 16 rfl rfl)
theorem dX6_tells_51 : decode cX6_tells 51 = .ok (.ifCond .eq 7, 3) := dk_153 0 7 (dk_at dksX6_tells_2 19 rfl rfl)
theorem dX6_tells_54 : decode cX6_tells 54 = .ok (.iconst 1, 1) := dk_4 (dk_at dksX6_tells_2 22 rfl rfl)
theorem dX6_tells_55 : decode cX6_tells 55 = .ok (.goto 4, 3) := dk_167 0 4 (dk_at dksX6_tells_3 0 rfl rfl)
theorem dX6_tells_58 : decode cX6_tells 58 = .ok (.iconst 0, 1) := dk_3 (dk_at dksX6_tells_3 3 rfl rfl)
theorem dX6_tells_59 : decode cX6_tells 59 = .ok (.ireturn, 1) := dk_172 (dk_at dksX6_tells_3 4 rfl rfl)
theorem dX6_tells_60 : decode cX6_tells 60 = .ok (.aload_n 0, 1) := dk_42 (dk_at dksX6_tells_3 5 rfl rfl)
theorem dX6_tells_61 : decode cX6_tells 61 = .ok (.getfield 16, 3) := dk_180 0 16 (dk_at dksX6_tells_3 6 rfl rfl)
theorem dX6_tells_64 : decode cX6_tells 64 = .ok (.ifCond .eq 7, 3) := dk_153 0 7 (dk_at dksX6_tells_3 9 rfl rfl)
theorem dX6_tells_67 : decode cX6_tells 67 = .ok (.iconst 1, 1) := dk_4 (dk_at dksX6_tells_3 12 rfl rfl)
theorem dX6_tells_68 : decode cX6_tells 68 = .ok (.goto 4, 3) := dk_167 0 4 (dk_at dksX6_tells_3 13 rfl rfl)
theorem dX6_tells_71 : decode cX6_tells 71 = .ok (.iconst 0, 1) := dk_3 (dk_at dksX6_tells_3 16 rfl rfl)
theorem dX6_tells_72 : decode cX6_tells 72 = .ok (.ireturn, 1) := dk_172 (dk_at dksX6_tells_3 17 rfl rfl)
theorem q102 : (Jvm.Cond.initialized "CribBooklet$Layer") ∈ lw_all := lw_g (lw_at lw_m1 16 rfl) rfl
theorem q471 : (Jvm.Cond.instantiable "CribBooklet$Layer" (4 : Nat)) ∈ lw_all := lw_g (lw_at lw_m2 145 rfl) rfl
theorem q473 : (Jvm.Cond.instanceMethod ({ cls := "CribBooklet$Layer", name := "<init>", desc := "(II)V" } : Jvm.MethodName)) ∈ lw_all := lw_g (lw_at lw_m2 147 rfl) rfl
theorem q474 : (Jvm.Cond.code ({ cls := "CribBooklet$Layer", name := "<init>", desc := "(II)V" } : Jvm.MethodName) prog_14_method_1_code (3 : Nat) (Option.none : Option Jvm.ClassFile.FieldType)) ∈ lw_all := lw_g (lw_at lw_m2 148 rfl) rfl
theorem q475 : (Jvm.Cond.methodLink "CribBooklet$Layer" (1 : Nat) ({ cls := "java/lang/Object", name := "<init>", desc := "()V" } : Jvm.MethodName)) ∈ lw_all := lw_g (lw_at lw_m2 149 rfl) rfl
theorem q476 : (Jvm.Cond.fieldLink "CribBooklet$Layer" (7 : Nat) "CribBooklet$Layer" "row" "I") ∈ lw_all := lw_g (lw_at lw_m2 150 rfl) rfl
theorem q478 : (Jvm.Cond.fieldLink "CribBooklet$Layer" (13 : Nat) "CribBooklet$Layer" "column" "I") ∈ lw_all := lw_g (lw_at lw_m2 152 rfl) rfl
theorem q480 : (Jvm.Cond.fieldLink "CribBooklet$Layer" (16 : Nat) "CribBooklet$Layer" "isMirrored" "Z") ∈ lw_all := lw_g (lw_at lw_m2 154 rfl) rfl
theorem q482 : (Jvm.Cond.fieldLink "CribBooklet$Layer" (20 : Nat) "CribBooklet$Layer" "isUpsideDown" "Z") ∈ lw_all := lw_g (lw_at lw_m2 156 rfl) rfl
theorem q484 : (Jvm.Cond.laysFinal "CribBooklet$Layer" "CribBooklet$Layer" "row" "I") ∈ lw_all := lw_g (lw_at lw_m2 158 rfl) rfl
theorem q485 : (Jvm.Cond.soleField "CribBooklet$Layer" "row") ∈ lw_all := lw_g (lw_at lw_m2 159 rfl) rfl
theorem q486 : (Jvm.Cond.laysFinal "CribBooklet$Layer" "CribBooklet$Layer" "column" "I") ∈ lw_all := lw_g (lw_at lw_m2 160 rfl) rfl
theorem q487 : (Jvm.Cond.soleField "CribBooklet$Layer" "column") ∈ lw_all := lw_g (lw_at lw_m2 161 rfl) rfl
theorem q488 : (Jvm.Cond.lays "CribBooklet$Layer" "CribBooklet$Layer" "isMirrored" "Z") ∈ lw_all := lw_g (lw_at lw_m2 162 rfl) rfl
theorem q489 : (Jvm.Cond.soleField "CribBooklet$Layer" "isMirrored") ∈ lw_all := lw_g (lw_at lw_m2 163 rfl) rfl
theorem q490 : (Jvm.Cond.lays "CribBooklet$Layer" "CribBooklet$Layer" "isUpsideDown" "Z") ∈ lw_all := lw_g (lw_at lw_m2 164 rfl) rfl
theorem q491 : (Jvm.Cond.soleField "CribBooklet$Layer" "isUpsideDown") ∈ lw_all := lw_g (lw_at lw_m2 165 rfl) rfl
theorem q492 : (Jvm.Cond.superclass "CribBooklet$Layer" "java/lang/Object") ∈ lw_all := lw_g (lw_at lw_m2 166 rfl) rfl
theorem q525 : (Jvm.Cond.instanceMethod ({ cls := "CribBooklet$Layer", name := "turnOver", desc := "(Z)V" } : Jvm.MethodName)) ∈ lw_all := lw_g (lw_at lw_m2 199 rfl) rfl
theorem q526 : (Jvm.Cond.selects "CribBooklet$Layer" ({ cls := "CribBooklet$Layer", name := "turnOver", desc := "(Z)V" } : Jvm.MethodName) ({ cls := "CribBooklet$Layer", name := "turnOver", desc := "(Z)V" } : Jvm.MethodName)) ∈ lw_all := lw_g (lw_at lw_m2 200 rfl) rfl
theorem q527 : (Jvm.Cond.code ({ cls := "CribBooklet$Layer", name := "turnOver", desc := "(Z)V" } : Jvm.MethodName) prog_14_method_2_code (2 : Nat) (Option.none : Option Jvm.ClassFile.FieldType)) ∈ lw_all := lw_g (lw_at lw_m2 201 rfl) rfl
theorem q709 : (Jvm.Cond.selects "CribBooklet$Layer" ({ cls := "java/lang/Object", name := "getClass", desc := "()Ljava/lang/Class;" } : Jvm.MethodName) ({ cls := "java/lang/Object", name := "getClass", desc := "()Ljava/lang/Class;" } : Jvm.MethodName)) ∈ lw_all := lw_g (lw_at lw_m3 143 rfl) rfl
theorem q1294 : (Jvm.Cond.instanceMethod ({ cls := "CribBooklet$Layer", name := "sideUp", desc := "()I" } : Jvm.MethodName)) ∈ lw_all := lw_g (lw_at lw_m6 8 rfl) rfl
theorem q1295 : (Jvm.Cond.selects "CribBooklet$Layer" ({ cls := "CribBooklet$Layer", name := "sideUp", desc := "()I" } : Jvm.MethodName) ({ cls := "CribBooklet$Layer", name := "sideUp", desc := "()I" } : Jvm.MethodName)) ∈ lw_all := lw_g (lw_at lw_m6 9 rfl) rfl
theorem q1296 : (Jvm.Cond.code ({ cls := "CribBooklet$Layer", name := "sideUp", desc := "()I" } : Jvm.MethodName) prog_14_method_3_code (1 : Nat) (Option.some Jvm.ClassFile.FieldType.int)) ∈ lw_all := lw_g (lw_at lw_m6 10 rfl) rfl
theorem q2037 : (Jvm.Cond.instanceMethod ({ cls := "CribBooklet$Layer", name := "tells", desc := "(I)I" } : Jvm.MethodName)) ∈ lw_all := lw_g (lw_at lw_m9 31 rfl) rfl
theorem q2038 : (Jvm.Cond.selects "CribBooklet$Layer" ({ cls := "CribBooklet$Layer", name := "tells", desc := "(I)I" } : Jvm.MethodName) ({ cls := "CribBooklet$Layer", name := "tells", desc := "(I)I" } : Jvm.MethodName)) ∈ lw_all := lw_g (lw_at lw_m9 32 rfl) rfl
theorem q2039 : (Jvm.Cond.code ({ cls := "CribBooklet$Layer", name := "tells", desc := "(I)I" } : Jvm.MethodName) prog_14_method_4_code (2 : Nat) (Option.some Jvm.ClassFile.FieldType.int)) ∈ lw_all := lw_g (lw_at lw_m9 33 rfl) rfl
theorem q2040 : (Jvm.Cond.methodLink "CribBooklet$Layer" (23 : Nat) ({ cls := "CribBooklet$Layer", name := "sideUp", desc := "()I" } : Jvm.MethodName)) ∈ lw_all := lw_g (lw_at lw_m9 34 rfl) rfl
theorem q3330 : (Jvm.Cond.castable "CribBooklet$Layer" "java/lang/Object") ∈ lw_tbl := lw_at lw_m14 124 rfl
theorem in_X6 : ∀ w ∈ wsX60, w ∈ lw_all := lw_in wsX60 [484, 486, 488, 490] (by decide +kernel) (by decide +kernel)

end
section
/-! CribBooklet$Note -/
set_option maxRecDepth 100000
def RX7 : String := "CribBooklet$Note"
def TX7 : u_T := fun k => match k with
  | 0 => ("CribBooklet$Note", "subject", "I", true)
  | 1 => ("CribBooklet$Note", "urgency", "I", true)
  | 2 => ("CribBooklet$Note", "lines", "I", true)
  | _ => ("CribBooklet$Note", "isWhole", "Z", true)
def tyX7 : Nat → FieldType := fun k => match k with
  | 0 => .int
  | 1 => .int
  | 2 => .int
  | _ => .boolean
abbrev wsX70 : List Cond := u_ws RX7 TX7 4
theorem nmX7 : ∀ a, a < 4 → ∀ b, b < 4 → a ≠ b → (TX7 a).2.1 ≠ (TX7 b).2.1 := by decide +kernel
theorem tyX7_ok : ∀ k, k < 4 → parseFieldDescriptor (TX7 k).2.2.1 = some (tyX7 k) := by decide +kernel
abbrev cX7_init : ByteArray := prog_19_method_1_code
def yX7_init : MethodName := ⟨RX7, "<init>", "(IIIZ)V"⟩
def dkwX7_init_1 : List UInt8 := [181, 0, 19, 177]
abbrev dktX7_init_1 : List UInt8 := dkwX7_init_1 ++ []
def dkwX7_init_0 : List UInt8 := [42, 183, 0, 1, 42, 27, 181, 0, 7, 42, 28, 181, 0, 13, 42, 29, 181, 0, 16, 42, 21, 4]
abbrev dktX7_init_0 : List UInt8 := dkwX7_init_0 ++ dktX7_init_1
theorem dksX7_init_0 : cX7_init.data.toList.drop 0 = dktX7_init_0 := by decide +kernel
theorem dksX7_init_1 : cX7_init.data.toList.drop 22 = dktX7_init_1 := dk_seg dksX7_init_0 22 rfl rfl
theorem dX7_init_0 : decode cX7_init 0 = .ok (.aload_n 0, 1) := dk_42 (dk_at dksX7_init_0 0 rfl rfl)
theorem dX7_init_1 : decode cX7_init 1 = .ok (.invokespecial 1, 3) := dk_183 0 1 (dk_at dksX7_init_0 1 rfl rfl)
theorem dX7_init_4 : decode cX7_init 4 = .ok (.aload_n 0, 1) := dk_42 (dk_at dksX7_init_0 4 rfl rfl)
theorem dX7_init_5 : decode cX7_init 5 = .ok (.iload_n 1, 1) := dk_27 (dk_at dksX7_init_0 5 rfl rfl)
theorem dX7_init_6 : decode cX7_init 6 = .ok (.putfield 7, 3) := dk_181 0 7 (dk_at dksX7_init_0 6 rfl rfl)
theorem dX7_init_9 : decode cX7_init 9 = .ok (.aload_n 0, 1) := dk_42 (dk_at dksX7_init_0 9 rfl rfl)
theorem dX7_init_10 : decode cX7_init 10 = .ok (.iload_n 2, 1) := dk_28 (dk_at dksX7_init_0 10 rfl rfl)
theorem dX7_init_11 : decode cX7_init 11 = .ok (.putfield 13, 3) := dk_181 0 13 (dk_at dksX7_init_0 11 rfl rfl)
theorem dX7_init_14 : decode cX7_init 14 = .ok (.aload_n 0, 1) := dk_42 (dk_at dksX7_init_0 14 rfl rfl)
theorem dX7_init_15 : decode cX7_init 15 = .ok (.iload_n 3, 1) := dk_29 (dk_at dksX7_init_0 15 rfl rfl)
theorem dX7_init_16 : decode cX7_init 16 = .ok (.putfield 16, 3) := dk_181 0 16 (dk_at dksX7_init_0 16 rfl rfl)
theorem dX7_init_19 : decode cX7_init 19 = .ok (.aload_n 0, 1) := dk_42 (dk_at dksX7_init_0 19 rfl rfl)
theorem dX7_init_20 : decode cX7_init 20 = .ok (.iload 4, 2) := dk_21 4 (dk_at dksX7_init_0 20 rfl rfl)
theorem dX7_init_22 : decode cX7_init 22 = .ok (.putfield 19, 3) := dk_181 0 19 (dk_at dksX7_init_1 0 rfl rfl)
theorem dX7_init_25 : decode cX7_init 25 = .ok (.return_, 1) := dk_177 (dk_at dksX7_init_1 3 rfl rfl)
abbrev cX7_urgency : ByteArray := prog_19_method_6_code
def yX7_urgency : MethodName := ⟨RX7, "urgency", "()I"⟩
theorem dX7_urgency_0 : decode cX7_urgency 0 = .ok (.aload_n 0, 1) := by decide +kernel
theorem dX7_urgency_1 : decode cX7_urgency 1 = .ok (.getfield 13, 3) := by decide +kernel
theorem dX7_urgency_4 : decode cX7_urgency 4 = .ok (.ireturn, 1) := by decide +kernel
abbrev cX7_subject : ByteArray := prog_19_method_5_code
def yX7_subject : MethodName := ⟨RX7, "subject", "()I"⟩
theorem dX7_subject_0 : decode cX7_subject 0 = .ok (.aload_n 0, 1) := by decide +kernel
theorem dX7_subject_1 : decode cX7_subject 1 = .ok (.getfield 7, 3) := by decide +kernel
theorem dX7_subject_4 : decode cX7_subject 4 = .ok (.ireturn, 1) := by decide +kernel
abbrev cX7_lines : ByteArray := prog_19_method_7_code
def yX7_lines : MethodName := ⟨RX7, "lines", "()I"⟩
theorem dX7_lines_0 : decode cX7_lines 0 = .ok (.aload_n 0, 1) := by decide +kernel
theorem dX7_lines_1 : decode cX7_lines 1 = .ok (.getfield 16, 3) := by decide +kernel
theorem dX7_lines_4 : decode cX7_lines 4 = .ok (.ireturn, 1) := by decide +kernel
abbrev cX7_isWhole : ByteArray := prog_19_method_8_code
def yX7_isWhole : MethodName := ⟨RX7, "isWhole", "()Z"⟩
theorem dX7_isWhole_0 : decode cX7_isWhole 0 = .ok (.aload_n 0, 1) := by decide +kernel
theorem dX7_isWhole_1 : decode cX7_isWhole 1 = .ok (.getfield 19, 3) := by decide +kernel
theorem dX7_isWhole_4 : decode cX7_isWhole 4 = .ok (.ireturn, 1) := by decide +kernel
theorem q118 : (Jvm.Cond.initialized "CribBooklet$Note") ∈ lw_all := lw_g (lw_at lw_m1 32 rfl) rfl
theorem q714 : (Jvm.Cond.selects "CribBooklet$Note" ({ cls := "java/lang/Object", name := "getClass", desc := "()Ljava/lang/Class;" } : Jvm.MethodName) ({ cls := "java/lang/Object", name := "getClass", desc := "()Ljava/lang/Class;" } : Jvm.MethodName)) ∈ lw_all := lw_g (lw_at lw_m3 148 rfl) rfl
theorem q1087 : (Jvm.Cond.instantiable "CribBooklet$Note" (4 : Nat)) ∈ lw_all := lw_g (lw_at lw_m5 41 rfl) rfl
theorem q1089 : (Jvm.Cond.instanceMethod ({ cls := "CribBooklet$Note", name := "<init>", desc := "(IIIZ)V" } : Jvm.MethodName)) ∈ lw_all := lw_g (lw_at lw_m5 43 rfl) rfl
theorem q1090 : (Jvm.Cond.code ({ cls := "CribBooklet$Note", name := "<init>", desc := "(IIIZ)V" } : Jvm.MethodName) prog_19_method_1_code (5 : Nat) (Option.none : Option Jvm.ClassFile.FieldType)) ∈ lw_all := lw_g (lw_at lw_m5 44 rfl) rfl
theorem q1091 : (Jvm.Cond.methodLink "CribBooklet$Note" (1 : Nat) ({ cls := "java/lang/Record", name := "<init>", desc := "()V" } : Jvm.MethodName)) ∈ lw_all := lw_g (lw_at lw_m5 45 rfl) rfl
theorem q1092 : (Jvm.Cond.fieldLink "CribBooklet$Note" (7 : Nat) "CribBooklet$Note" "subject" "I") ∈ lw_all := lw_g (lw_at lw_m5 46 rfl) rfl
theorem q1093 : (Jvm.Cond.fieldLink "CribBooklet$Note" (13 : Nat) "CribBooklet$Note" "urgency" "I") ∈ lw_all := lw_g (lw_at lw_m5 47 rfl) rfl
theorem q1094 : (Jvm.Cond.fieldLink "CribBooklet$Note" (16 : Nat) "CribBooklet$Note" "lines" "I") ∈ lw_all := lw_g (lw_at lw_m5 48 rfl) rfl
theorem q1095 : (Jvm.Cond.fieldLink "CribBooklet$Note" (19 : Nat) "CribBooklet$Note" "isWhole" "Z") ∈ lw_all := lw_g (lw_at lw_m5 49 rfl) rfl
theorem q1096 : (Jvm.Cond.laysFinal "CribBooklet$Note" "CribBooklet$Note" "subject" "I") ∈ lw_all := lw_g (lw_at lw_m5 50 rfl) rfl
theorem q1097 : (Jvm.Cond.soleField "CribBooklet$Note" "subject") ∈ lw_all := lw_g (lw_at lw_m5 51 rfl) rfl
theorem q1098 : (Jvm.Cond.laysFinal "CribBooklet$Note" "CribBooklet$Note" "urgency" "I") ∈ lw_all := lw_g (lw_at lw_m5 52 rfl) rfl
theorem q1099 : (Jvm.Cond.soleField "CribBooklet$Note" "urgency") ∈ lw_all := lw_g (lw_at lw_m5 53 rfl) rfl
theorem q1100 : (Jvm.Cond.laysFinal "CribBooklet$Note" "CribBooklet$Note" "lines" "I") ∈ lw_all := lw_g (lw_at lw_m5 54 rfl) rfl
theorem q1101 : (Jvm.Cond.soleField "CribBooklet$Note" "lines") ∈ lw_all := lw_g (lw_at lw_m5 55 rfl) rfl
theorem q1102 : (Jvm.Cond.laysFinal "CribBooklet$Note" "CribBooklet$Note" "isWhole" "Z") ∈ lw_all := lw_g (lw_at lw_m5 56 rfl) rfl
theorem q1103 : (Jvm.Cond.soleField "CribBooklet$Note" "isWhole") ∈ lw_all := lw_g (lw_at lw_m5 57 rfl) rfl
theorem q1104 : (Jvm.Cond.superclass "CribBooklet$Note" "java/lang/Record") ∈ lw_all := lw_g (lw_at lw_m5 58 rfl) rfl
theorem q2202 : (Jvm.Cond.instanceMethod ({ cls := "CribBooklet$Note", name := "urgency", desc := "()I" } : Jvm.MethodName)) ∈ lw_all := lw_g (lw_at lw_m9 196 rfl) rfl
theorem q2203 : (Jvm.Cond.selects "CribBooklet$Note" ({ cls := "CribBooklet$Note", name := "urgency", desc := "()I" } : Jvm.MethodName) ({ cls := "CribBooklet$Note", name := "urgency", desc := "()I" } : Jvm.MethodName)) ∈ lw_all := lw_g (lw_at lw_m9 197 rfl) rfl
theorem q2204 : (Jvm.Cond.code ({ cls := "CribBooklet$Note", name := "urgency", desc := "()I" } : Jvm.MethodName) prog_19_method_6_code (1 : Nat) (Option.some Jvm.ClassFile.FieldType.int)) ∈ lw_all := lw_g (lw_at lw_m9 198 rfl) rfl
theorem q2206 : (Jvm.Cond.instanceMethod ({ cls := "CribBooklet$Note", name := "subject", desc := "()I" } : Jvm.MethodName)) ∈ lw_all := lw_g (lw_at lw_m9 200 rfl) rfl
theorem q2207 : (Jvm.Cond.selects "CribBooklet$Note" ({ cls := "CribBooklet$Note", name := "subject", desc := "()I" } : Jvm.MethodName) ({ cls := "CribBooklet$Note", name := "subject", desc := "()I" } : Jvm.MethodName)) ∈ lw_all := lw_g (lw_at lw_m9 201 rfl) rfl
theorem q2208 : (Jvm.Cond.code ({ cls := "CribBooklet$Note", name := "subject", desc := "()I" } : Jvm.MethodName) prog_19_method_5_code (1 : Nat) (Option.some Jvm.ClassFile.FieldType.int)) ∈ lw_all := lw_g (lw_at lw_m9 202 rfl) rfl
theorem q2453 : (Jvm.Cond.instanceMethod ({ cls := "CribBooklet$Note", name := "lines", desc := "()I" } : Jvm.MethodName)) ∈ lw_all := lw_g (lw_at lw_m10 207 rfl) rfl
theorem q2454 : (Jvm.Cond.selects "CribBooklet$Note" ({ cls := "CribBooklet$Note", name := "lines", desc := "()I" } : Jvm.MethodName) ({ cls := "CribBooklet$Note", name := "lines", desc := "()I" } : Jvm.MethodName)) ∈ lw_all := lw_g (lw_at lw_m10 208 rfl) rfl
theorem q2455 : (Jvm.Cond.code ({ cls := "CribBooklet$Note", name := "lines", desc := "()I" } : Jvm.MethodName) prog_19_method_7_code (1 : Nat) (Option.some Jvm.ClassFile.FieldType.int)) ∈ lw_all := lw_g (lw_at lw_m10 209 rfl) rfl
theorem q2457 : (Jvm.Cond.instanceMethod ({ cls := "CribBooklet$Note", name := "isWhole", desc := "()Z" } : Jvm.MethodName)) ∈ lw_all := lw_g (lw_at lw_m10 211 rfl) rfl
theorem q2458 : (Jvm.Cond.selects "CribBooklet$Note" ({ cls := "CribBooklet$Note", name := "isWhole", desc := "()Z" } : Jvm.MethodName) ({ cls := "CribBooklet$Note", name := "isWhole", desc := "()Z" } : Jvm.MethodName)) ∈ lw_all := lw_g (lw_at lw_m10 212 rfl) rfl
theorem q2459 : (Jvm.Cond.code ({ cls := "CribBooklet$Note", name := "isWhole", desc := "()Z" } : Jvm.MethodName) prog_19_method_8_code (1 : Nat) (Option.some Jvm.ClassFile.FieldType.boolean)) ∈ lw_all := lw_g (lw_at lw_m10 213 rfl) rfl
theorem q3357 : (Jvm.Cond.castable "CribBooklet$Note" "java/lang/Object") ∈ lw_tbl := lw_at lw_m14 151 rfl
theorem in_X7 : ∀ w ∈ wsX70, w ∈ lw_all := lw_in wsX70 [1096, 1098, 1100, 1102] (by decide +kernel) (by decide +kernel)

end
section
/-! CribBooklet$Booklet -/
set_option maxRecDepth 100000
def RX8 : String := "CribBooklet$Booklet"
def TX8 : u_T := fun k => match k with
  | 0 => ("CribBooklet$Booklet", "sheet", "LCribBooklet$Sheet;", true)
  | 1 => ("CribBooklet$Booklet", "leaves", "[LCribBooklet$Layer;", true)
  | 2 => ("CribBooklet$Booklet", "joints", "Ljava/util/ArrayList;", true)
  | _ => ("CribBooklet$Booklet", "shutBy", "[I", true)
def tyX8 : Nat → FieldType := fun k => match k with
  | 0 => .object "CribBooklet$Sheet"
  | 1 => .array (.object "CribBooklet$Layer")
  | 2 => .object "java/util/ArrayList"
  | _ => .array .int
abbrev wsX80 : List Cond := u_ws RX8 TX8 4
theorem nmX8 : ∀ a, a < 4 → ∀ b, b < 4 → a ≠ b → (TX8 a).2.1 ≠ (TX8 b).2.1 := by decide +kernel
theorem tyX8_ok : ∀ k, k < 4 → parseFieldDescriptor (TX8 k).2.2.1 = some (tyX8 k) := by decide +kernel
abbrev cX8_init : ByteArray := prog_3_method_1_code
def yX8_init : MethodName := ⟨RX8, "<init>", "(LCribBooklet$Sheet;LCribBooklet$Folding;)V"⟩
def dkwX8_init_6 : List UInt8 := [167, 255, 226, 132, 3, 1, 167, 255, 163, 177]
abbrev dktX8_init_6 : List UInt8 := dkwX8_init_6 ++ []
def dkwX8_init_5 : List UInt8 := [163, 0, 26, 42, 180, 0, 32, 21, 5, 92, 46, 4, 25, 4, 182, 0, 53, 120, 128, 79, 132, 5, 1]
abbrev dktX8_init_5 : List UInt8 := dkwX8_init_5 ++ dktX8_init_6
def dkwX8_init_4 : List UInt8 := [182, 0, 56, 159, 0, 45, 25, 4, 182, 0, 61, 4, 96, 54, 5, 21, 5, 25, 4, 182, 0, 64]
abbrev dktX8_init_4 : List UInt8 := dkwX8_init_4 ++ dktX8_init_5
def dkwX8_init_3 : List UInt8 := [192, 0, 47, 58, 4, 42, 25, 4, 182, 0, 49, 153, 0, 60, 25, 4, 182, 0, 53, 42, 180, 0, 18]
abbrev dktX8_init_3 : List UInt8 := dkwX8_init_3 ++ dktX8_init_4
def dkwX8_init_2 : List UInt8 := [182, 0, 36, 3, 62, 29, 42, 180, 0, 12, 182, 0, 39, 162, 0, 88, 42, 180, 0, 12, 29, 182, 0, 43]
abbrev dktX8_init_2 : List UInt8 := dkwX8_init_2 ++ dktX8_init_3
def dkwX8_init_1 : List UInt8 := [180, 0, 22, 3, 50, 181, 0, 28, 42, 42, 180, 0, 28, 190, 4, 96, 188, 10, 181, 0, 32, 42]
abbrev dktX8_init_1 : List UInt8 := dkwX8_init_1 ++ dktX8_init_2
def dkwX8_init_0 : List UInt8 := [42, 183, 0, 3, 42, 187, 0, 9, 89, 183, 0, 11, 181, 0, 12, 42, 43, 181, 0, 18, 42, 44]
abbrev dktX8_init_0 : List UInt8 := dkwX8_init_0 ++ dktX8_init_1
theorem dksX8_init_0 : cX8_init.data.toList.drop 0 = dktX8_init_0 := by decide +kernel
theorem dksX8_init_1 : cX8_init.data.toList.drop 22 = dktX8_init_1 := dk_seg dksX8_init_0 22 rfl rfl
theorem dksX8_init_2 : cX8_init.data.toList.drop 44 = dktX8_init_2 := dk_seg dksX8_init_1 22 rfl rfl
theorem dksX8_init_3 : cX8_init.data.toList.drop 68 = dktX8_init_3 := dk_seg dksX8_init_2 24 rfl rfl
theorem dksX8_init_4 : cX8_init.data.toList.drop 91 = dktX8_init_4 := dk_seg dksX8_init_3 23 rfl rfl
theorem dksX8_init_5 : cX8_init.data.toList.drop 113 = dktX8_init_5 := dk_seg dksX8_init_4 22 rfl rfl
theorem dksX8_init_6 : cX8_init.data.toList.drop 136 = dktX8_init_6 := dk_seg dksX8_init_5 23 rfl rfl
theorem dX8_init_0 : decode cX8_init 0 = .ok (.aload_n 0, 1) := dk_42 (dk_at dksX8_init_0 0 rfl rfl)
theorem dX8_init_1 : decode cX8_init 1 = .ok (.invokespecial 3, 3) := dk_183 0 3 (dk_at dksX8_init_0 1 rfl rfl)
theorem dX8_init_4 : decode cX8_init 4 = .ok (.aload_n 0, 1) := dk_42 (dk_at dksX8_init_0 4 rfl rfl)
theorem dX8_init_5 : decode cX8_init 5 = .ok (.new 9, 3) := dk_187 0 9 (dk_at dksX8_init_0 5 rfl rfl)
theorem dX8_init_8 : decode cX8_init 8 = .ok (.dup, 1) := dk_89 (dk_at dksX8_init_0 8 rfl rfl)
theorem dX8_init_9 : decode cX8_init 9 = .ok (.invokespecial 11, 3) := dk_183 0 11 (dk_at dksX8_init_0 9 rfl rfl)
theorem dX8_init_12 : decode cX8_init 12 = .ok (.putfield 12, 3) := dk_181 0 12 (dk_at dksX8_init_0 12 rfl rfl)
theorem dX8_init_15 : decode cX8_init 15 = .ok (.aload_n 0, 1) := dk_42 (dk_at dksX8_init_0 15 rfl rfl)
theorem dX8_init_16 : decode cX8_init 16 = .ok (.aload_n 1, 1) := dk_43 (dk_at dksX8_init_0 16 rfl rfl)
theorem dX8_init_17 : decode cX8_init 17 = .ok (.putfield 18, 3) := dk_181 0 18 (dk_at dksX8_init_0 17 rfl rfl)
theorem dX8_init_20 : decode cX8_init 20 = .ok (.aload_n 0, 1) := dk_42 (dk_at dksX8_init_0 20 rfl rfl)
theorem dX8_init_21 : decode cX8_init 21 = .ok (.aload_n 2, 1) := dk_44 (dk_at dksX8_init_0 21 rfl rfl)
theorem dX8_init_22 : decode cX8_init 22 = .ok (.getfield 22, 3) := dk_180 0 22 (dk_at dksX8_init_1 0 rfl rfl)
theorem dX8_init_25 : decode cX8_init 25 = .ok (.iconst 0, 1) := dk_3 (dk_at dksX8_init_1 3 rfl rfl)
theorem dX8_init_26 : decode cX8_init 26 = .ok (.aaload, 1) := dk_50 (dk_at dksX8_init_1 4 rfl rfl)
theorem dX8_init_27 : decode cX8_init 27 = .ok (.putfield 28, 3) := dk_181 0 28 (dk_at dksX8_init_1 5 rfl rfl)
theorem dX8_init_30 : decode cX8_init 30 = .ok (.aload_n 0, 1) := dk_42 (dk_at dksX8_init_1 8 rfl rfl)
theorem dX8_init_31 : decode cX8_init 31 = .ok (.aload_n 0, 1) := dk_42 (dk_at dksX8_init_1 9 rfl rfl)
theorem dX8_init_32 : decode cX8_init 32 = .ok (.getfield 28, 3) := dk_180 0 28 (dk_at dksX8_init_1 10 rfl rfl)
theorem dX8_init_35 : decode cX8_init 35 = .ok (.arraylength, 1) := dk_190 (dk_at dksX8_init_1 13 rfl rfl)
theorem dX8_init_36 : decode cX8_init 36 = .ok (.iconst 1, 1) := dk_4 (dk_at dksX8_init_1 14 rfl rfl)
theorem dX8_init_37 : decode cX8_init 37 = .ok (.iadd, 1) := dk_96 (dk_at dksX8_init_1 15 rfl rfl)
theorem dX8_init_38 : decode cX8_init 38 = .ok (.newarray .int, 2) := dk_188_10 (dk_at dksX8_init_1 16 rfl rfl)
theorem dX8_init_40 : decode cX8_init 40 = .ok (.putfield 32, 3) := dk_181 0 32 (dk_at dksX8_init_1 18 rfl rfl)
theorem dX8_init_43 : decode cX8_init 43 = .ok (.aload_n 0, 1) := dk_42 (dk_at dksX8_init_1 21 rfl rfl)
theorem dX8_init_44 : decode cX8_init 44 = .ok (.invokevirtual 36, 3) := dk_182 0 36 (dk_at dksX8_init_2 0 rfl rfl)
theorem dX8_init_47 : decode cX8_init 47 = .ok (.iconst 0, 1) := dk_3 (dk_at dksX8_init_2 3 rfl rfl)
theorem dX8_init_48 : decode cX8_init 48 = .ok (.istore_n 3, 1) := dk_62 (dk_at dksX8_init_2 4 rfl rfl)
theorem dX8_init_49 : decode cX8_init 49 = .ok (.iload_n 3, 1) := dk_29 (dk_at dksX8_init_2 5 rfl rfl)
theorem dX8_init_50 : decode cX8_init 50 = .ok (.aload_n 0, 1) := dk_42 (dk_at dksX8_init_2 6 rfl rfl)
theorem dX8_init_51 : decode cX8_init 51 = .ok (.getfield 12, 3) := dk_180 0 12 (dk_at dksX8_init_2 7 rfl rfl)
theorem dX8_init_54 : decode cX8_init 54 = .ok (.invokevirtual 39, 3) := dk_182 0 39 (dk_at dksX8_init_2 10 rfl rfl)
theorem dX8_init_57 : decode cX8_init 57 = .ok (.if_icmp .ge 88, 3) := dk_162 0 88 (dk_at dksX8_init_2 13 rfl rfl)
theorem dX8_init_60 : decode cX8_init 60 = .ok (.aload_n 0, 1) := dk_42 (dk_at dksX8_init_2 16 rfl rfl)
theorem dX8_init_61 : decode cX8_init 61 = .ok (.getfield 12, 3) := dk_180 0 12 (dk_at dksX8_init_2 17 rfl rfl)
theorem dX8_init_64 : decode cX8_init 64 = .ok (.iload_n 3, 1) := dk_29 (dk_at dksX8_init_2 20 rfl rfl)
theorem dX8_init_65 : decode cX8_init 65 = .ok (.invokevirtual 43, 3) := dk_182 0 43 (dk_at dksX8_init_2 21 rfl rfl)
theorem dX8_init_68 : decode cX8_init 68 = .ok (.checkcast 47, 3) := dk_192 0 47 (dk_at dksX8_init_3 0 rfl rfl)
theorem dX8_init_71 : decode cX8_init 71 = .ok (.astore 4, 2) := dk_58 4 (dk_at dksX8_init_3 3 rfl rfl)
theorem dX8_init_73 : decode cX8_init 73 = .ok (.aload_n 0, 1) := dk_42 (dk_at dksX8_init_3 5 rfl rfl)
theorem dX8_init_74 : decode cX8_init 74 = .ok (.aload 4, 2) := dk_25 4 (dk_at dksX8_init_3 6 rfl rfl)
theorem dX8_init_76 : decode cX8_init 76 = .ok (.invokevirtual 49, 3) := dk_182 0 49 (dk_at dksX8_init_3 8 rfl rfl)
theorem dX8_init_79 : decode cX8_init 79 = .ok (.ifCond .eq 60, 3) := dk_153 0 60 (dk_at dksX8_init_3 11 rfl rfl)
theorem dX8_init_82 : decode cX8_init 82 = .ok (.aload 4, 2) := dk_25 4 (dk_at dksX8_init_3 14 rfl rfl)
theorem dX8_init_84 : decode cX8_init 84 = .ok (.invokevirtual 53, 3) := dk_182 0 53 (dk_at dksX8_init_3 16 rfl rfl)
theorem dX8_init_87 : decode cX8_init 87 = .ok (.aload_n 0, 1) := dk_42 (dk_at dksX8_init_3 19 rfl rfl)
theorem dX8_init_88 : decode cX8_init 88 = .ok (.getfield 18, 3) := dk_180 0 18 (dk_at dksX8_init_3 20 rfl rfl)
theorem dX8_init_91 : decode cX8_init 91 = .ok (.invokevirtual 56, 3) := dk_182 0 56 (dk_at dksX8_init_4 0 rfl rfl)
theorem dX8_init_94 : decode cX8_init 94 = .ok (.if_icmp .eq 45, 3) := dk_159 0 45 (dk_at dksX8_init_4 3 rfl rfl)
theorem dX8_init_97 : decode cX8_init 97 = .ok (.aload 4, 2) := dk_25 4 (dk_at dksX8_init_4 6 rfl rfl)
theorem dX8_init_99 : decode cX8_init 99 = .ok (.invokevirtual 61, 3) := dk_182 0 61 (dk_at dksX8_init_4 8 rfl rfl)
theorem dX8_init_102 : decode cX8_init 102 = .ok (.iconst 1, 1) := dk_4 (dk_at dksX8_init_4 11 rfl rfl)
theorem dX8_init_103 : decode cX8_init 103 = .ok (.iadd, 1) := dk_96 (dk_at dksX8_init_4 12 rfl rfl)
theorem dX8_init_104 : decode cX8_init 104 = .ok (.istore 5, 2) := dk_54 5 (dk_at dksX8_init_4 13 rfl rfl)
theorem dX8_init_106 : decode cX8_init 106 = .ok (.iload 5, 2) := dk_21 5 (dk_at dksX8_init_4 15 rfl rfl)
theorem dX8_init_108 : decode cX8_init 108 = .ok (.aload 4, 2) := dk_25 4 (dk_at dksX8_init_4 17 rfl rfl)
theorem dX8_init_110 : decode cX8_init 110 = .ok (.invokevirtual 64, 3) := dk_182 0 64 (dk_at dksX8_init_4 19 rfl rfl)
theorem dX8_init_113 : decode cX8_init 113 = .ok (.if_icmp .gt 26, 3) := dk_163 0 26 (dk_at dksX8_init_5 0 rfl rfl)
theorem dX8_init_116 : decode cX8_init 116 = .ok (.aload_n 0, 1) := dk_42 (dk_at dksX8_init_5 3 rfl rfl)
theorem dX8_init_117 : decode cX8_init 117 = .ok (.getfield 32, 3) := dk_180 0 32 (dk_at dksX8_init_5 4 rfl rfl)
theorem dX8_init_120 : decode cX8_init 120 = .ok (.iload 5, 2) := dk_21 5 (dk_at dksX8_init_5 7 rfl rfl)
theorem dX8_init_122 : decode cX8_init 122 = .ok (.dup2, 1) := dk_92 (dk_at dksX8_init_5 9 rfl rfl)
theorem dX8_init_123 : decode cX8_init 123 = .ok (.iaload, 1) := dk_46 (dk_at dksX8_init_5 10 rfl rfl)
theorem dX8_init_124 : decode cX8_init 124 = .ok (.iconst 1, 1) := dk_4 (dk_at dksX8_init_5 11 rfl rfl)
theorem dX8_init_125 : decode cX8_init 125 = .ok (.aload 4, 2) := dk_25 4 (dk_at dksX8_init_5 12 rfl rfl)
theorem dX8_init_127 : decode cX8_init 127 = .ok (.invokevirtual 53, 3) := dk_182 0 53 (dk_at dksX8_init_5 14 rfl rfl)
theorem dX8_init_130 : decode cX8_init 130 = .ok (.ishl, 1) := dk_120 (dk_at dksX8_init_5 17 rfl rfl)
theorem dX8_init_131 : decode cX8_init 131 = .ok (.ior, 1) := dk_128 (dk_at dksX8_init_5 18 rfl rfl)
theorem dX8_init_132 : decode cX8_init 132 = .ok (.iastore, 1) := dk_79 (dk_at dksX8_init_5 19 rfl rfl)
theorem dX8_init_133 : decode cX8_init 133 = .ok (.iinc 5 1, 3) := dk_132 5 1 (dk_at dksX8_init_5 20 rfl rfl)
theorem dX8_init_136 : decode cX8_init 136 = .ok (.goto (-30), 3) := dk_167 255 226 (dk_at dksX8_init_6 0 rfl rfl)
theorem dX8_init_139 : decode cX8_init 139 = .ok (.iinc 3 1, 3) := dk_132 3 1 (dk_at dksX8_init_6 3 rfl rfl)
theorem dX8_init_142 : decode cX8_init 142 = .ok (.goto (-93), 3) := dk_167 255 163 (dk_at dksX8_init_6 6 rfl rfl)
theorem dX8_init_145 : decode cX8_init 145 = .ok (.return_, 1) := dk_177 (dk_at dksX8_init_6 9 rfl rfl)
abbrev cX8_join : ByteArray := prog_3_method_2_code
def yX8_join : MethodName := ⟨RX8, "join", "()V"⟩
def dkwX8_join_6 : List UInt8 := [96, 46, 45, 180, 0, 90, 153, 0, 7, 5, 167, 0, 4, 6, 182, 0, 83, 132, 2, 1, 167, 255, 149, 177]
abbrev dktX8_join_6 : List UInt8 := dkwX8_join_6 ++ []
def dkwX8_join_5 : List UInt8 := [96, 42, 180, 0, 18, 180, 0, 87, 162, 0, 33, 42, 43, 28, 46, 43, 28, 42, 180, 0, 18, 180, 0, 73]
abbrev dktX8_join_5 : List UInt8 := dkwX8_join_5 ++ dktX8_join_6
def dkwX8_join_4 : List UInt8 := [28, 4, 96, 46, 45, 180, 0, 79, 153, 0, 7, 3, 167, 0, 4, 4, 182, 0, 83, 45, 180, 0, 67, 4]
abbrev dktX8_join_4 : List UInt8 := dkwX8_join_4 ++ dktX8_join_5
def dkwX8_join_3 : List UInt8 := [46, 50, 78, 45, 180, 0, 76, 4, 96, 42, 180, 0, 18, 180, 0, 73, 162, 0, 27, 42, 43, 28, 46, 43]
abbrev dktX8_join_3 : List UInt8 := dkwX8_join_3 ++ dktX8_join_4
def dkwX8_join_2 : List UInt8 := [79, 132, 2, 1, 167, 255, 214, 3, 61, 28, 42, 180, 0, 28, 190, 162, 0, 104, 42, 180, 0, 28, 43, 28]
abbrev dktX8_join_2 : List UInt8 := dkwX8_join_2 ++ dktX8_join_3
def dkwX8_join_1 : List UInt8 := [28, 50, 180, 0, 67, 42, 180, 0, 18, 180, 0, 73, 104, 42, 180, 0, 28, 28, 50, 180, 0, 76, 96, 28]
abbrev dktX8_join_1 : List UInt8 := dkwX8_join_1 ++ dktX8_join_2
def dkwX8_join_0 : List UInt8 := [42, 180, 0, 28, 190, 188, 10, 76, 3, 61, 28, 42, 180, 0, 28, 190, 162, 0, 39, 43, 42, 180, 0, 28]
abbrev dktX8_join_0 : List UInt8 := dkwX8_join_0 ++ dktX8_join_1
theorem dksX8_join_0 : cX8_join.data.toList.drop 0 = dktX8_join_0 := by decide +kernel
theorem dksX8_join_1 : cX8_join.data.toList.drop 24 = dktX8_join_1 := dk_seg dksX8_join_0 24 rfl rfl
theorem dksX8_join_2 : cX8_join.data.toList.drop 48 = dktX8_join_2 := dk_seg dksX8_join_1 24 rfl rfl
theorem dksX8_join_3 : cX8_join.data.toList.drop 72 = dktX8_join_3 := dk_seg dksX8_join_2 24 rfl rfl
theorem dksX8_join_4 : cX8_join.data.toList.drop 96 = dktX8_join_4 := dk_seg dksX8_join_3 24 rfl rfl
theorem dksX8_join_5 : cX8_join.data.toList.drop 120 = dktX8_join_5 := dk_seg dksX8_join_4 24 rfl rfl
theorem dksX8_join_6 : cX8_join.data.toList.drop 144 = dktX8_join_6 := dk_seg dksX8_join_5 24 rfl rfl
theorem dX8_join_0 : decode cX8_join 0 = .ok (.aload_n 0, 1) := dk_42 (dk_at dksX8_join_0 0 rfl rfl)
theorem dX8_join_1 : decode cX8_join 1 = .ok (.getfield 28, 3) := dk_180 0 28 (dk_at dksX8_join_0 1 rfl rfl)
theorem dX8_join_4 : decode cX8_join 4 = .ok (.arraylength, 1) := dk_190 (dk_at dksX8_join_0 4 rfl rfl)
theorem dX8_join_5 : decode cX8_join 5 = .ok (.newarray .int, 2) := dk_188_10 (dk_at dksX8_join_0 5 rfl rfl)
theorem dX8_join_7 : decode cX8_join 7 = .ok (.astore_n 1, 1) := dk_76 (dk_at dksX8_join_0 7 rfl rfl)
theorem dX8_join_8 : decode cX8_join 8 = .ok (.iconst 0, 1) := dk_3 (dk_at dksX8_join_0 8 rfl rfl)
theorem dX8_join_9 : decode cX8_join 9 = .ok (.istore_n 2, 1) := dk_61 (dk_at dksX8_join_0 9 rfl rfl)
theorem dX8_join_10 : decode cX8_join 10 = .ok (.iload_n 2, 1) := dk_28 (dk_at dksX8_join_0 10 rfl rfl)
theorem dX8_join_11 : decode cX8_join 11 = .ok (.aload_n 0, 1) := dk_42 (dk_at dksX8_join_0 11 rfl rfl)
theorem dX8_join_12 : decode cX8_join 12 = .ok (.getfield 28, 3) := dk_180 0 28 (dk_at dksX8_join_0 12 rfl rfl)
theorem dX8_join_15 : decode cX8_join 15 = .ok (.arraylength, 1) := dk_190 (dk_at dksX8_join_0 15 rfl rfl)
theorem dX8_join_16 : decode cX8_join 16 = .ok (.if_icmp .ge 39, 3) := dk_162 0 39 (dk_at dksX8_join_0 16 rfl rfl)
theorem dX8_join_19 : decode cX8_join 19 = .ok (.aload_n 1, 1) := dk_43 (dk_at dksX8_join_0 19 rfl rfl)
theorem dX8_join_20 : decode cX8_join 20 = .ok (.aload_n 0, 1) := dk_42 (dk_at dksX8_join_0 20 rfl rfl)
theorem dX8_join_21 : decode cX8_join 21 = .ok (.getfield 28, 3) := dk_180 0 28 (dk_at dksX8_join_0 21 rfl rfl)
theorem dX8_join_24 : decode cX8_join 24 = .ok (.iload_n 2, 1) := dk_28 (dk_at dksX8_join_1 0 rfl rfl)
theorem dX8_join_25 : decode cX8_join 25 = .ok (.aaload, 1) := dk_50 (dk_at dksX8_join_1 1 rfl rfl)
theorem dX8_join_26 : decode cX8_join 26 = .ok (.getfield 67, 3) := dk_180 0 67 (dk_at dksX8_join_1 2 rfl rfl)
theorem dX8_join_29 : decode cX8_join 29 = .ok (.aload_n 0, 1) := dk_42 (dk_at dksX8_join_1 5 rfl rfl)
theorem dX8_join_30 : decode cX8_join 30 = .ok (.getfield 18, 3) := dk_180 0 18 (dk_at dksX8_join_1 6 rfl rfl)
theorem dX8_join_33 : decode cX8_join 33 = .ok (.getfield 73, 3) := dk_180 0 73 (dk_at dksX8_join_1 9 rfl rfl)
theorem dX8_join_36 : decode cX8_join 36 = .ok (.imul, 1) := dk_104 (dk_at dksX8_join_1 12 rfl rfl)
theorem dX8_join_37 : decode cX8_join 37 = .ok (.aload_n 0, 1) := dk_42 (dk_at dksX8_join_1 13 rfl rfl)
theorem dX8_join_38 : decode cX8_join 38 = .ok (.getfield 28, 3) := dk_180 0 28 (dk_at dksX8_join_1 14 rfl rfl)
theorem dX8_join_41 : decode cX8_join 41 = .ok (.iload_n 2, 1) := dk_28 (dk_at dksX8_join_1 17 rfl rfl)
theorem dX8_join_42 : decode cX8_join 42 = .ok (.aaload, 1) := dk_50 (dk_at dksX8_join_1 18 rfl rfl)
theorem dX8_join_43 : decode cX8_join 43 = .ok (.getfield 76, 3) := dk_180 0 76 (dk_at dksX8_join_1 19 rfl rfl)
theorem dX8_join_46 : decode cX8_join 46 = .ok (.iadd, 1) := dk_96 (dk_at dksX8_join_1 22 rfl rfl)
theorem dX8_join_47 : decode cX8_join 47 = .ok (.iload_n 2, 1) := dk_28 (dk_at dksX8_join_1 23 rfl rfl)
theorem dX8_join_48 : decode cX8_join 48 = .ok (.iastore, 1) := dk_79 (dk_at dksX8_join_2 0 rfl rfl)
theorem dX8_join_49 : decode cX8_join 49 = .ok (.iinc 2 1, 3) := dk_132 2 1 (dk_at dksX8_join_2 1 rfl rfl)
theorem dX8_join_52 : decode cX8_join 52 = .ok (.goto (-42), 3) := dk_167 255 214 (dk_at dksX8_join_2 4 rfl rfl)
theorem dX8_join_55 : decode cX8_join 55 = .ok (.iconst 0, 1) := dk_3 (dk_at dksX8_join_2 7 rfl rfl)
theorem dX8_join_56 : decode cX8_join 56 = .ok (.istore_n 2, 1) := dk_61 (dk_at dksX8_join_2 8 rfl rfl)
theorem dX8_join_57 : decode cX8_join 57 = .ok (.iload_n 2, 1) := dk_28 (dk_at dksX8_join_2 9 rfl rfl)
theorem dX8_join_58 : decode cX8_join 58 = .ok (.aload_n 0, 1) := dk_42 (dk_at dksX8_join_2 10 rfl rfl)
theorem dX8_join_59 : decode cX8_join 59 = .ok (.getfield 28, 3) := dk_180 0 28 (dk_at dksX8_join_2 11 rfl rfl)
theorem dX8_join_62 : decode cX8_join 62 = .ok (.arraylength, 1) := dk_190 (dk_at dksX8_join_2 14 rfl rfl)
theorem dX8_join_63 : decode cX8_join 63 = .ok (.if_icmp .ge 104, 3) := dk_162 0 104 (dk_at dksX8_join_2 15 rfl rfl)
theorem dX8_join_66 : decode cX8_join 66 = .ok (.aload_n 0, 1) := dk_42 (dk_at dksX8_join_2 18 rfl rfl)
theorem dX8_join_67 : decode cX8_join 67 = .ok (.getfield 28, 3) := dk_180 0 28 (dk_at dksX8_join_2 19 rfl rfl)
theorem dX8_join_70 : decode cX8_join 70 = .ok (.aload_n 1, 1) := dk_43 (dk_at dksX8_join_2 22 rfl rfl)
theorem dX8_join_71 : decode cX8_join 71 = .ok (.iload_n 2, 1) := dk_28 (dk_at dksX8_join_2 23 rfl rfl)
theorem dX8_join_72 : decode cX8_join 72 = .ok (.iaload, 1) := dk_46 (dk_at dksX8_join_3 0 rfl rfl)
theorem dX8_join_73 : decode cX8_join 73 = .ok (.aaload, 1) := dk_50 (dk_at dksX8_join_3 1 rfl rfl)
theorem dX8_join_74 : decode cX8_join 74 = .ok (.astore_n 3, 1) := dk_78 (dk_at dksX8_join_3 2 rfl rfl)
theorem dX8_join_75 : decode cX8_join 75 = .ok (.aload_n 3, 1) := dk_45 (dk_at dksX8_join_3 3 rfl rfl)
theorem dX8_join_76 : decode cX8_join 76 = .ok (.getfield 76, 3) := dk_180 0 76 (dk_at dksX8_join_3 4 rfl rfl)
theorem dX8_join_79 : decode cX8_join 79 = .ok (.iconst 1, 1) := dk_4 (dk_at dksX8_join_3 7 rfl rfl)
theorem dX8_join_80 : decode cX8_join 80 = .ok (.iadd, 1) := dk_96 (dk_at dksX8_join_3 8 rfl rfl)
theorem dX8_join_81 : decode cX8_join 81 = .ok (.aload_n 0, 1) := dk_42 (dk_at dksX8_join_3 9 rfl rfl)
theorem dX8_join_82 : decode cX8_join 82 = .ok (.getfield 18, 3) := dk_180 0 18 (dk_at dksX8_join_3 10 rfl rfl)
theorem dX8_join_85 : decode cX8_join 85 = .ok (.getfield 73, 3) := dk_180 0 73 (dk_at dksX8_join_3 13 rfl rfl)
theorem dX8_join_88 : decode cX8_join 88 = .ok (.if_icmp .ge 27, 3) := dk_162 0 27 (dk_at dksX8_join_3 16 rfl rfl)
theorem dX8_join_91 : decode cX8_join 91 = .ok (.aload_n 0, 1) := dk_42 (dk_at dksX8_join_3 19 rfl rfl)
theorem dX8_join_92 : decode cX8_join 92 = .ok (.aload_n 1, 1) := dk_43 (dk_at dksX8_join_3 20 rfl rfl)
theorem dX8_join_93 : decode cX8_join 93 = .ok (.iload_n 2, 1) := dk_28 (dk_at dksX8_join_3 21 rfl rfl)
theorem dX8_join_94 : decode cX8_join 94 = .ok (.iaload, 1) := dk_46 (dk_at dksX8_join_3 22 rfl rfl)
theorem dX8_join_95 : decode cX8_join 95 = .ok (.aload_n 1, 1) := dk_43 (dk_at dksX8_join_3 23 rfl rfl)
theorem dX8_join_96 : decode cX8_join 96 = .ok (.iload_n 2, 1) := dk_28 (dk_at dksX8_join_4 0 rfl rfl)
theorem dX8_join_97 : decode cX8_join 97 = .ok (.iconst 1, 1) := dk_4 (dk_at dksX8_join_4 1 rfl rfl)
theorem dX8_join_98 : decode cX8_join 98 = .ok (.iadd, 1) := dk_96 (dk_at dksX8_join_4 2 rfl rfl)
theorem dX8_join_99 : decode cX8_join 99 = .ok (.iaload, 1) := dk_46 (dk_at dksX8_join_4 3 rfl rfl)
theorem dX8_join_100 : decode cX8_join 100 = .ok (.aload_n 3, 1) := dk_45 (dk_at dksX8_join_4 4 rfl rfl)
theorem dX8_join_101 : decode cX8_join 101 = .ok (.getfield 79, 3) := dk_180 0 79 (dk_at dksX8_join_4 5 rfl rfl)
theorem dX8_join_104 : decode cX8_join 104 = .ok (.ifCond .eq 7, 3) := dk_153 0 7 (dk_at dksX8_join_4 8 rfl rfl)
theorem dX8_join_107 : decode cX8_join 107 = .ok (.iconst 0, 1) := dk_3 (dk_at dksX8_join_4 11 rfl rfl)
theorem dX8_join_108 : decode cX8_join 108 = .ok (.goto 4, 3) := dk_167 0 4 (dk_at dksX8_join_4 12 rfl rfl)
theorem dX8_join_111 : decode cX8_join 111 = .ok (.iconst 1, 1) := dk_4 (dk_at dksX8_join_4 15 rfl rfl)
theorem dX8_join_112 : decode cX8_join 112 = .ok (.invokevirtual 83, 3) := dk_182 0 83 (dk_at dksX8_join_4 16 rfl rfl)
theorem dX8_join_115 : decode cX8_join 115 = .ok (.aload_n 3, 1) := dk_45 (dk_at dksX8_join_4 19 rfl rfl)
theorem dX8_join_116 : decode cX8_join 116 = .ok (.getfield 67, 3) := dk_180 0 67 (dk_at dksX8_join_4 20 rfl rfl)
theorem dX8_join_119 : decode cX8_join 119 = .ok (.iconst 1, 1) := dk_4 (dk_at dksX8_join_4 23 rfl rfl)
theorem dX8_join_120 : decode cX8_join 120 = .ok (.iadd, 1) := dk_96 (dk_at dksX8_join_5 0 rfl rfl)
theorem dX8_join_121 : decode cX8_join 121 = .ok (.aload_n 0, 1) := dk_42 (dk_at dksX8_join_5 1 rfl rfl)
theorem dX8_join_122 : decode cX8_join 122 = .ok (.getfield 18, 3) := dk_180 0 18 (dk_at dksX8_join_5 2 rfl rfl)
theorem dX8_join_125 : decode cX8_join 125 = .ok (.getfield 87, 3) := dk_180 0 87 (dk_at dksX8_join_5 5 rfl rfl)
theorem dX8_join_128 : decode cX8_join 128 = .ok (.if_icmp .ge 33, 3) := dk_162 0 33 (dk_at dksX8_join_5 8 rfl rfl)
theorem dX8_join_131 : decode cX8_join 131 = .ok (.aload_n 0, 1) := dk_42 (dk_at dksX8_join_5 11 rfl rfl)
theorem dX8_join_132 : decode cX8_join 132 = .ok (.aload_n 1, 1) := dk_43 (dk_at dksX8_join_5 12 rfl rfl)
theorem dX8_join_133 : decode cX8_join 133 = .ok (.iload_n 2, 1) := dk_28 (dk_at dksX8_join_5 13 rfl rfl)
theorem dX8_join_134 : decode cX8_join 134 = .ok (.iaload, 1) := dk_46 (dk_at dksX8_join_5 14 rfl rfl)
theorem dX8_join_135 : decode cX8_join 135 = .ok (.aload_n 1, 1) := dk_43 (dk_at dksX8_join_5 15 rfl rfl)
theorem dX8_join_136 : decode cX8_join 136 = .ok (.iload_n 2, 1) := dk_28 (dk_at dksX8_join_5 16 rfl rfl)
theorem dX8_join_137 : decode cX8_join 137 = .ok (.aload_n 0, 1) := dk_42 (dk_at dksX8_join_5 17 rfl rfl)
theorem dX8_join_138 : decode cX8_join 138 = .ok (.getfield 18, 3) := dk_180 0 18 (dk_at dksX8_join_5 18 rfl rfl)
theorem dX8_join_141 : decode cX8_join 141 = .ok (.getfield 73, 3) := dk_180 0 73 (dk_at dksX8_join_5 21 rfl rfl)
theorem dX8_join_144 : decode cX8_join 144 = .ok (.iadd, 1) := dk_96 (dk_at dksX8_join_6 0 rfl rfl)
theorem dX8_join_145 : decode cX8_join 145 = .ok (.iaload, 1) := dk_46 (dk_at dksX8_join_6 1 rfl rfl)
theorem dX8_join_146 : decode cX8_join 146 = .ok (.aload_n 3, 1) := dk_45 (dk_at dksX8_join_6 2 rfl rfl)
theorem dX8_join_147 : decode cX8_join 147 = .ok (.getfield 90, 3) := dk_180 0 90 (dk_at dksX8_join_6 3 rfl rfl)
theorem dX8_join_150 : decode cX8_join 150 = .ok (.ifCond .eq 7, 3) := dk_153 0 7 (dk_at dksX8_join_6 6 rfl rfl)
theorem dX8_join_153 : decode cX8_join 153 = .ok (.iconst 2, 1) := dk_5 (dk_at dksX8_join_6 9 rfl rfl)
theorem dX8_join_154 : decode cX8_join 154 = .ok (.goto 4, 3) := dk_167 0 4 (dk_at dksX8_join_6 10 rfl rfl)
theorem dX8_join_157 : decode cX8_join 157 = .ok (.iconst 3, 1) := dk_6 (dk_at dksX8_join_6 13 rfl rfl)
theorem dX8_join_158 : decode cX8_join 158 = .ok (.invokevirtual 83, 3) := dk_182 0 83 (dk_at dksX8_join_6 14 rfl rfl)
theorem dX8_join_161 : decode cX8_join 161 = .ok (.iinc 2 1, 3) := dk_132 2 1 (dk_at dksX8_join_6 17 rfl rfl)
theorem dX8_join_164 : decode cX8_join 164 = .ok (.goto (-107), 3) := dk_167 255 149 (dk_at dksX8_join_6 20 rfl rfl)
theorem dX8_join_167 : decode cX8_join 167 = .ok (.return_, 1) := dk_177 (dk_at dksX8_join_6 23 rfl rfl)
abbrev cX8_addJoint : ByteArray := prog_3_method_3_code
def yX8_addJoint : MethodName := ⟨RX8, "addJoint", "(III)V"⟩
def dkwX8_addJoint_1 : List UInt8 := [182, 0, 104, 87, 177]
abbrev dktX8_addJoint_1 : List UInt8 := dkwX8_addJoint_1 ++ []
def dkwX8_addJoint_0 : List UInt8 := [42, 180, 0, 12, 187, 0, 47, 89, 27, 28, 184, 0, 93, 27, 28, 184, 0, 99, 29, 183, 0, 102]
abbrev dktX8_addJoint_0 : List UInt8 := dkwX8_addJoint_0 ++ dktX8_addJoint_1
theorem dksX8_addJoint_0 : cX8_addJoint.data.toList.drop 0 = dktX8_addJoint_0 := by decide +kernel
theorem dksX8_addJoint_1 : cX8_addJoint.data.toList.drop 22 = dktX8_addJoint_1 := dk_seg dksX8_addJoint_0 22 rfl rfl
theorem dX8_addJoint_0 : decode cX8_addJoint 0 = .ok (.aload_n 0, 1) := dk_42 (dk_at dksX8_addJoint_0 0 rfl rfl)
theorem dX8_addJoint_1 : decode cX8_addJoint 1 = .ok (.getfield 12, 3) := dk_180 0 12 (dk_at dksX8_addJoint_0 1 rfl rfl)
theorem dX8_addJoint_4 : decode cX8_addJoint 4 = .ok (.new 47, 3) := dk_187 0 47 (dk_at dksX8_addJoint_0 4 rfl rfl)
theorem dX8_addJoint_7 : decode cX8_addJoint 7 = .ok (.dup, 1) := dk_89 (dk_at dksX8_addJoint_0 7 rfl rfl)
theorem dX8_addJoint_8 : decode cX8_addJoint 8 = .ok (.iload_n 1, 1) := dk_27 (dk_at dksX8_addJoint_0 8 rfl rfl)
theorem dX8_addJoint_9 : decode cX8_addJoint 9 = .ok (.iload_n 2, 1) := dk_28 (dk_at dksX8_addJoint_0 9 rfl rfl)
theorem dX8_addJoint_10 : decode cX8_addJoint 10 = .ok (.invokestatic 93, 3) := dk_184 0 93 (dk_at dksX8_addJoint_0 10 rfl rfl)
theorem dX8_addJoint_13 : decode cX8_addJoint 13 = .ok (.iload_n 1, 1) := dk_27 (dk_at dksX8_addJoint_0 13 rfl rfl)
theorem dX8_addJoint_14 : decode cX8_addJoint 14 = .ok (.iload_n 2, 1) := dk_28 (dk_at dksX8_addJoint_0 14 rfl rfl)
theorem dX8_addJoint_15 : decode cX8_addJoint 15 = .ok (.invokestatic 99, 3) := dk_184 0 99 (dk_at dksX8_addJoint_0 15 rfl rfl)
theorem dX8_addJoint_18 : decode cX8_addJoint 18 = .ok (.iload_n 3, 1) := dk_29 (dk_at dksX8_addJoint_0 18 rfl rfl)
theorem dX8_addJoint_19 : decode cX8_addJoint 19 = .ok (.invokespecial 102, 3) := dk_183 0 102 (dk_at dksX8_addJoint_0 19 rfl rfl)
theorem dX8_addJoint_22 : decode cX8_addJoint 22 = .ok (.invokevirtual 104, 3) := dk_182 0 104 (dk_at dksX8_addJoint_1 0 rfl rfl)
theorem dX8_addJoint_25 : decode cX8_addJoint 25 = .ok (.pop, 1) := dk_87 (dk_at dksX8_addJoint_1 3 rfl rfl)
theorem dX8_addJoint_26 : decode cX8_addJoint 26 = .ok (.return_, 1) := dk_177 (dk_at dksX8_addJoint_1 4 rfl rfl)
abbrev cX8_isHeld : ByteArray := prog_3_method_4_code
def yX8_isHeld : MethodName := ⟨RX8, "isHeld", "(LCribBooklet$Joint;)Z"⟩
def dkwX8_isHeld_0 : List UInt8 := [42, 180, 0, 18, 180, 0, 108, 43, 182, 0, 53, 184, 0, 111, 154, 0, 7, 4, 167, 0, 4, 3, 172]
abbrev dktX8_isHeld_0 : List UInt8 := dkwX8_isHeld_0 ++ []
theorem dksX8_isHeld_0 : cX8_isHeld.data.toList.drop 0 = dktX8_isHeld_0 := by decide +kernel
theorem dX8_isHeld_0 : decode cX8_isHeld 0 = .ok (.aload_n 0, 1) := dk_42 (dk_at dksX8_isHeld_0 0 rfl rfl)
theorem dX8_isHeld_1 : decode cX8_isHeld 1 = .ok (.getfield 18, 3) := dk_180 0 18 (dk_at dksX8_isHeld_0 1 rfl rfl)
theorem dX8_isHeld_4 : decode cX8_isHeld 4 = .ok (.getfield 108, 3) := dk_180 0 108 (dk_at dksX8_isHeld_0 4 rfl rfl)
theorem dX8_isHeld_7 : decode cX8_isHeld 7 = .ok (.aload_n 1, 1) := dk_43 (dk_at dksX8_isHeld_0 7 rfl rfl)
theorem dX8_isHeld_8 : decode cX8_isHeld 8 = .ok (.invokevirtual 53, 3) := dk_182 0 53 (dk_at dksX8_isHeld_0 8 rfl rfl)
theorem dX8_isHeld_11 : decode cX8_isHeld 11 = .ok (.invokestatic 111, 3) := dk_184 0 111 (dk_at dksX8_isHeld_0 11 rfl rfl)
theorem dX8_isHeld_14 : decode cX8_isHeld 14 = .ok (.ifCond .ne 7, 3) := dk_154 0 7 (dk_at dksX8_isHeld_0 14 rfl rfl)
theorem dX8_isHeld_17 : decode cX8_isHeld 17 = .ok (.iconst 1, 1) := dk_4 (dk_at dksX8_isHeld_0 17 rfl rfl)
theorem dX8_isHeld_18 : decode cX8_isHeld 18 = .ok (.goto 4, 3) := dk_167 0 4 (dk_at dksX8_isHeld_0 18 rfl rfl)
theorem dX8_isHeld_21 : decode cX8_isHeld 21 = .ok (.iconst 0, 1) := dk_3 (dk_at dksX8_isHeld_0 21 rfl rfl)
theorem dX8_isHeld_22 : decode cX8_isHeld 22 = .ok (.ireturn, 1) := dk_172 (dk_at dksX8_isHeld_0 22 rfl rfl)
abbrev cX8_hanging : ByteArray := prog_3_method_15_code
def yX8_hanging : MethodName := ⟨RX8, "hanging", "(I)I"⟩
def dkwX8_hanging_2 : List UInt8 := [182, 0, 49, 153, 0, 7, 4, 167, 0, 4, 3, 96, 61, 132, 3, 1, 167, 255, 198, 28, 172]
abbrev dktX8_hanging_2 : List UInt8 := dkwX8_hanging_2 ++ []
def dkwX8_hanging_1 : List UInt8 := [192, 0, 47, 182, 0, 53, 27, 160, 0, 25, 42, 42, 180, 0, 12, 29, 182, 0, 43, 192, 0, 47]
abbrev dktX8_hanging_1 : List UInt8 := dkwX8_hanging_1 ++ dktX8_hanging_2
def dkwX8_hanging_0 : List UInt8 := [3, 61, 3, 62, 29, 42, 180, 0, 12, 182, 0, 39, 162, 0, 53, 28, 42, 180, 0, 12, 29, 182, 0, 43]
abbrev dktX8_hanging_0 : List UInt8 := dkwX8_hanging_0 ++ dktX8_hanging_1
theorem dksX8_hanging_0 : cX8_hanging.data.toList.drop 0 = dktX8_hanging_0 := by decide +kernel
theorem dksX8_hanging_1 : cX8_hanging.data.toList.drop 24 = dktX8_hanging_1 := dk_seg dksX8_hanging_0 24 rfl rfl
theorem dksX8_hanging_2 : cX8_hanging.data.toList.drop 46 = dktX8_hanging_2 := dk_seg dksX8_hanging_1 22 rfl rfl
theorem dX8_hanging_0 : decode cX8_hanging 0 = .ok (.iconst 0, 1) := dk_3 (dk_at dksX8_hanging_0 0 rfl rfl)
theorem dX8_hanging_1 : decode cX8_hanging 1 = .ok (.istore_n 2, 1) := dk_61 (dk_at dksX8_hanging_0 1 rfl rfl)
theorem dX8_hanging_2 : decode cX8_hanging 2 = .ok (.iconst 0, 1) := dk_3 (dk_at dksX8_hanging_0 2 rfl rfl)
theorem dX8_hanging_3 : decode cX8_hanging 3 = .ok (.istore_n 3, 1) := dk_62 (dk_at dksX8_hanging_0 3 rfl rfl)
theorem dX8_hanging_4 : decode cX8_hanging 4 = .ok (.iload_n 3, 1) := dk_29 (dk_at dksX8_hanging_0 4 rfl rfl)
theorem dX8_hanging_5 : decode cX8_hanging 5 = .ok (.aload_n 0, 1) := dk_42 (dk_at dksX8_hanging_0 5 rfl rfl)
theorem dX8_hanging_6 : decode cX8_hanging 6 = .ok (.getfield 12, 3) := dk_180 0 12 (dk_at dksX8_hanging_0 6 rfl rfl)
theorem dX8_hanging_9 : decode cX8_hanging 9 = .ok (.invokevirtual 39, 3) := dk_182 0 39 (dk_at dksX8_hanging_0 9 rfl rfl)
theorem dX8_hanging_12 : decode cX8_hanging 12 = .ok (.if_icmp .ge 53, 3) := dk_162 0 53 (dk_at dksX8_hanging_0 12 rfl rfl)
theorem dX8_hanging_15 : decode cX8_hanging 15 = .ok (.iload_n 2, 1) := dk_28 (dk_at dksX8_hanging_0 15 rfl rfl)
theorem dX8_hanging_16 : decode cX8_hanging 16 = .ok (.aload_n 0, 1) := dk_42 (dk_at dksX8_hanging_0 16 rfl rfl)
theorem dX8_hanging_17 : decode cX8_hanging 17 = .ok (.getfield 12, 3) := dk_180 0 12 (dk_at dksX8_hanging_0 17 rfl rfl)
theorem dX8_hanging_20 : decode cX8_hanging 20 = .ok (.iload_n 3, 1) := dk_29 (dk_at dksX8_hanging_0 20 rfl rfl)
theorem dX8_hanging_21 : decode cX8_hanging 21 = .ok (.invokevirtual 43, 3) := dk_182 0 43 (dk_at dksX8_hanging_0 21 rfl rfl)
theorem dX8_hanging_24 : decode cX8_hanging 24 = .ok (.checkcast 47, 3) := dk_192 0 47 (dk_at dksX8_hanging_1 0 rfl rfl)
theorem dX8_hanging_27 : decode cX8_hanging 27 = .ok (.invokevirtual 53, 3) := dk_182 0 53 (dk_at dksX8_hanging_1 3 rfl rfl)
theorem dX8_hanging_30 : decode cX8_hanging 30 = .ok (.iload_n 1, 1) := dk_27 (dk_at dksX8_hanging_1 6 rfl rfl)
theorem dX8_hanging_31 : decode cX8_hanging 31 = .ok (.if_icmp .ne 25, 3) := dk_160 0 25 (dk_at dksX8_hanging_1 7 rfl rfl)
theorem dX8_hanging_34 : decode cX8_hanging 34 = .ok (.aload_n 0, 1) := dk_42 (dk_at dksX8_hanging_1 10 rfl rfl)
theorem dX8_hanging_35 : decode cX8_hanging 35 = .ok (.aload_n 0, 1) := dk_42 (dk_at dksX8_hanging_1 11 rfl rfl)
theorem dX8_hanging_36 : decode cX8_hanging 36 = .ok (.getfield 12, 3) := dk_180 0 12 (dk_at dksX8_hanging_1 12 rfl rfl)
theorem dX8_hanging_39 : decode cX8_hanging 39 = .ok (.iload_n 3, 1) := dk_29 (dk_at dksX8_hanging_1 15 rfl rfl)
theorem dX8_hanging_40 : decode cX8_hanging 40 = .ok (.invokevirtual 43, 3) := dk_182 0 43 (dk_at dksX8_hanging_1 16 rfl rfl)
theorem dX8_hanging_43 : decode cX8_hanging 43 = .ok (.checkcast 47, 3) := dk_192 0 47 (dk_at dksX8_hanging_1 19 rfl rfl)
theorem dX8_hanging_46 : decode cX8_hanging 46 = .ok (.invokevirtual 49, 3) := dk_182 0 49 (dk_at dksX8_hanging_2 0 rfl rfl)
theorem dX8_hanging_49 : decode cX8_hanging 49 = .ok (.ifCond .eq 7, 3) := dk_153 0 7 (dk_at dksX8_hanging_2 3 rfl rfl)
theorem dX8_hanging_52 : decode cX8_hanging 52 = .ok (.iconst 1, 1) := dk_4 (dk_at dksX8_hanging_2 6 rfl rfl)
theorem dX8_hanging_53 : decode cX8_hanging 53 = .ok (.goto 4, 3) := dk_167 0 4 (dk_at dksX8_hanging_2 7 rfl rfl)
theorem dX8_hanging_56 : decode cX8_hanging 56 = .ok (.iconst 0, 1) := dk_3 (dk_at dksX8_hanging_2 10 rfl rfl)
theorem dX8_hanging_57 : decode cX8_hanging 57 = .ok (.iadd, 1) := dk_96 (dk_at dksX8_hanging_2 11 rfl rfl)
theorem dX8_hanging_58 : decode cX8_hanging 58 = .ok (.istore_n 2, 1) := dk_61 (dk_at dksX8_hanging_2 12 rfl rfl)
theorem dX8_hanging_59 : decode cX8_hanging 59 = .ok (.iinc 3 1, 3) := dk_132 3 1 (dk_at dksX8_hanging_2 13 rfl rfl)
theorem dX8_hanging_62 : decode cX8_hanging 62 = .ok (.goto (-58), 3) := dk_167 255 198 (dk_at dksX8_hanging_2 16 rfl rfl)
theorem dX8_hanging_65 : decode cX8_hanging 65 = .ok (.iload_n 2, 1) := dk_28 (dk_at dksX8_hanging_2 19 rfl rfl)
theorem dX8_hanging_66 : decode cX8_hanging 66 = .ok (.ireturn, 1) := dk_172 (dk_at dksX8_hanging_2 20 rfl rfl)
abbrev cX8_printAll : ByteArray := prog_3_method_20_code
def yX8_printAll : MethodName := ⟨RX8, "printAll", "()V"⟩
def dkwX8_printAll_1 : List UInt8 := [182, 0, 136, 182, 0, 172, 87, 132, 1, 1, 167, 255, 226, 177]
abbrev dktX8_printAll_1 : List UInt8 := dkwX8_printAll_1 ++ []
def dkwX8_printAll_0 : List UInt8 := [3, 60, 27, 42, 182, 0, 153, 162, 0, 28, 42, 180, 0, 18, 42, 27, 182, 0, 131, 27, 42, 27]
abbrev dktX8_printAll_0 : List UInt8 := dkwX8_printAll_0 ++ dktX8_printAll_1
theorem dksX8_printAll_0 : cX8_printAll.data.toList.drop 0 = dktX8_printAll_0 := by decide +kernel
theorem dksX8_printAll_1 : cX8_printAll.data.toList.drop 22 = dktX8_printAll_1 := dk_seg dksX8_printAll_0 22 rfl rfl
theorem dX8_printAll_0 : decode cX8_printAll 0 = .ok (.iconst 0, 1) := dk_3 (dk_at dksX8_printAll_0 0 rfl rfl)
theorem dX8_printAll_1 : decode cX8_printAll 1 = .ok (.istore_n 1, 1) := dk_60 (dk_at dksX8_printAll_0 1 rfl rfl)
theorem dX8_printAll_2 : decode cX8_printAll 2 = .ok (.iload_n 1, 1) := dk_27 (dk_at dksX8_printAll_0 2 rfl rfl)
theorem dX8_printAll_3 : decode cX8_printAll 3 = .ok (.aload_n 0, 1) := dk_42 (dk_at dksX8_printAll_0 3 rfl rfl)
theorem dX8_printAll_4 : decode cX8_printAll 4 = .ok (.invokevirtual 153, 3) := dk_182 0 153 (dk_at dksX8_printAll_0 4 rfl rfl)
theorem dX8_printAll_7 : decode cX8_printAll 7 = .ok (.if_icmp .ge 28, 3) := dk_162 0 28 (dk_at dksX8_printAll_0 7 rfl rfl)
theorem dX8_printAll_10 : decode cX8_printAll 10 = .ok (.aload_n 0, 1) := dk_42 (dk_at dksX8_printAll_0 10 rfl rfl)
theorem dX8_printAll_11 : decode cX8_printAll 11 = .ok (.getfield 18, 3) := dk_180 0 18 (dk_at dksX8_printAll_0 11 rfl rfl)
theorem dX8_printAll_14 : decode cX8_printAll 14 = .ok (.aload_n 0, 1) := dk_42 (dk_at dksX8_printAll_0 14 rfl rfl)
theorem dX8_printAll_15 : decode cX8_printAll 15 = .ok (.iload_n 1, 1) := dk_27 (dk_at dksX8_printAll_0 15 rfl rfl)
theorem dX8_printAll_16 : decode cX8_printAll 16 = .ok (.invokevirtual 131, 3) := dk_182 0 131 (dk_at dksX8_printAll_0 16 rfl rfl)
theorem dX8_printAll_19 : decode cX8_printAll 19 = .ok (.iload_n 1, 1) := dk_27 (dk_at dksX8_printAll_0 19 rfl rfl)
theorem dX8_printAll_20 : decode cX8_printAll 20 = .ok (.aload_n 0, 1) := dk_42 (dk_at dksX8_printAll_0 20 rfl rfl)
theorem dX8_printAll_21 : decode cX8_printAll 21 = .ok (.iload_n 1, 1) := dk_27 (dk_at dksX8_printAll_0 21 rfl rfl)
theorem dX8_printAll_22 : decode cX8_printAll 22 = .ok (.invokevirtual 136, 3) := dk_182 0 136 (dk_at dksX8_printAll_1 0 rfl rfl)
theorem dX8_printAll_25 : decode cX8_printAll 25 = .ok (.invokevirtual 172, 3) := dk_182 0 172 (dk_at dksX8_printAll_1 3 rfl rfl)
theorem dX8_printAll_28 : decode cX8_printAll 28 = .ok (.pop, 1) := dk_87 (dk_at dksX8_printAll_1 6 rfl rfl)
theorem dX8_printAll_29 : decode cX8_printAll 29 = .ok (.iinc 1 1, 3) := dk_132 1 1 (dk_at dksX8_printAll_1 7 rfl rfl)
theorem dX8_printAll_32 : decode cX8_printAll 32 = .ok (.goto (-30), 3) := dk_167 255 226 (dk_at dksX8_printAll_1 10 rfl rfl)
theorem dX8_printAll_35 : decode cX8_printAll 35 = .ok (.return_, 1) := dk_177 (dk_at dksX8_printAll_1 13 rfl rfl)
abbrev cX8_pages : ByteArray := prog_3_method_5_code
def yX8_pages : MethodName := ⟨RX8, "pages", "()I"⟩
def dkwX8_pages_0 : List UInt8 := [5, 42, 180, 0, 28, 190, 104, 172]
abbrev dktX8_pages_0 : List UInt8 := dkwX8_pages_0 ++ []
theorem dksX8_pages_0 : cX8_pages.data.toList.drop 0 = dktX8_pages_0 := by decide +kernel
theorem dX8_pages_0 : decode cX8_pages 0 = .ok (.iconst 2, 1) := dk_5 (dk_at dksX8_pages_0 0 rfl rfl)
theorem dX8_pages_1 : decode cX8_pages 1 = .ok (.aload_n 0, 1) := dk_42 (dk_at dksX8_pages_0 1 rfl rfl)
theorem dX8_pages_2 : decode cX8_pages 2 = .ok (.getfield 28, 3) := dk_180 0 28 (dk_at dksX8_pages_0 2 rfl rfl)
theorem dX8_pages_5 : decode cX8_pages 5 = .ok (.arraylength, 1) := dk_190 (dk_at dksX8_pages_0 5 rfl rfl)
theorem dX8_pages_6 : decode cX8_pages 6 = .ok (.imul, 1) := dk_104 (dk_at dksX8_pages_0 6 rfl rfl)
theorem dX8_pages_7 : decode cX8_pages 7 = .ok (.ireturn, 1) := dk_172 (dk_at dksX8_pages_0 7 rfl rfl)
abbrev cX8_sideOf : ByteArray := prog_3_method_9_code
def yX8_sideOf : MethodName := ⟨RX8, "sideOf", "(I)I"⟩
def dkwX8_sideOf_1 : List UInt8 := [182, 0, 122, 182, 0, 124, 172]
abbrev dktX8_sideOf_1 : List UInt8 := dkwX8_sideOf_1 ++ []
def dkwX8_sideOf_0 : List UInt8 := [42, 180, 0, 28, 27, 5, 108, 50, 77, 42, 180, 0, 18, 44, 180, 0, 67, 44, 180, 0, 76, 42, 27]
abbrev dktX8_sideOf_0 : List UInt8 := dkwX8_sideOf_0 ++ dktX8_sideOf_1
theorem dksX8_sideOf_0 : cX8_sideOf.data.toList.drop 0 = dktX8_sideOf_0 := by decide +kernel
theorem dksX8_sideOf_1 : cX8_sideOf.data.toList.drop 23 = dktX8_sideOf_1 := dk_seg dksX8_sideOf_0 23 rfl rfl
theorem dX8_sideOf_0 : decode cX8_sideOf 0 = .ok (.aload_n 0, 1) := dk_42 (dk_at dksX8_sideOf_0 0 rfl rfl)
theorem dX8_sideOf_1 : decode cX8_sideOf 1 = .ok (.getfield 28, 3) := dk_180 0 28 (dk_at dksX8_sideOf_0 1 rfl rfl)
theorem dX8_sideOf_4 : decode cX8_sideOf 4 = .ok (.iload_n 1, 1) := dk_27 (dk_at dksX8_sideOf_0 4 rfl rfl)
theorem dX8_sideOf_5 : decode cX8_sideOf 5 = .ok (.iconst 2, 1) := dk_5 (dk_at dksX8_sideOf_0 5 rfl rfl)
theorem dX8_sideOf_6 : decode cX8_sideOf 6 = .ok (.idiv, 1) := dk_108 (dk_at dksX8_sideOf_0 6 rfl rfl)
theorem dX8_sideOf_7 : decode cX8_sideOf 7 = .ok (.aaload, 1) := dk_50 (dk_at dksX8_sideOf_0 7 rfl rfl)
theorem dX8_sideOf_8 : decode cX8_sideOf 8 = .ok (.astore_n 2, 1) := dk_77 (dk_at dksX8_sideOf_0 8 rfl rfl)
theorem dX8_sideOf_9 : decode cX8_sideOf 9 = .ok (.aload_n 0, 1) := dk_42 (dk_at dksX8_sideOf_0 9 rfl rfl)
theorem dX8_sideOf_10 : decode cX8_sideOf 10 = .ok (.getfield 18, 3) := dk_180 0 18 (dk_at dksX8_sideOf_0 10 rfl rfl)
theorem dX8_sideOf_13 : decode cX8_sideOf 13 = .ok (.aload_n 2, 1) := dk_44 (dk_at dksX8_sideOf_0 13 rfl rfl)
theorem dX8_sideOf_14 : decode cX8_sideOf 14 = .ok (.getfield 67, 3) := dk_180 0 67 (dk_at dksX8_sideOf_0 14 rfl rfl)
theorem dX8_sideOf_17 : decode cX8_sideOf 17 = .ok (.aload_n 2, 1) := dk_44 (dk_at dksX8_sideOf_0 17 rfl rfl)
theorem dX8_sideOf_18 : decode cX8_sideOf 18 = .ok (.getfield 76, 3) := dk_180 0 76 (dk_at dksX8_sideOf_0 18 rfl rfl)
theorem dX8_sideOf_21 : decode cX8_sideOf 21 = .ok (.aload_n 0, 1) := dk_42 (dk_at dksX8_sideOf_0 21 rfl rfl)
theorem dX8_sideOf_22 : decode cX8_sideOf 22 = .ok (.iload_n 1, 1) := dk_27 (dk_at dksX8_sideOf_0 22 rfl rfl)
theorem dX8_sideOf_23 : decode cX8_sideOf 23 = .ok (.invokevirtual 122, 3) := dk_182 0 122 (dk_at dksX8_sideOf_1 0 rfl rfl)
theorem dX8_sideOf_26 : decode cX8_sideOf 26 = .ok (.invokevirtual 124, 3) := dk_182 0 124 (dk_at dksX8_sideOf_1 3 rfl rfl)
theorem dX8_sideOf_29 : decode cX8_sideOf 29 = .ok (.ireturn, 1) := dk_172 (dk_at dksX8_sideOf_1 6 rfl rfl)
abbrev cX8_sideUp : ByteArray := prog_3_method_8_code
def yX8_sideUp : MethodName := ⟨RX8, "sideUp", "(I)I"⟩
def dkwX8_sideUp_1 : List UInt8 := [100, 172]
abbrev dktX8_sideUp_1 : List UInt8 := dkwX8_sideUp_1 ++ []
def dkwX8_sideUp_0 : List UInt8 := [42, 180, 0, 28, 27, 5, 108, 50, 182, 0, 119, 61, 27, 5, 112, 154, 0, 7, 28, 167, 0, 6, 4, 28]
abbrev dktX8_sideUp_0 : List UInt8 := dkwX8_sideUp_0 ++ dktX8_sideUp_1
theorem dksX8_sideUp_0 : cX8_sideUp.data.toList.drop 0 = dktX8_sideUp_0 := by decide +kernel
theorem dksX8_sideUp_1 : cX8_sideUp.data.toList.drop 24 = dktX8_sideUp_1 := dk_seg dksX8_sideUp_0 24 rfl rfl
theorem dX8_sideUp_0 : decode cX8_sideUp 0 = .ok (.aload_n 0, 1) := dk_42 (dk_at dksX8_sideUp_0 0 rfl rfl)
theorem dX8_sideUp_1 : decode cX8_sideUp 1 = .ok (.getfield 28, 3) := dk_180 0 28 (dk_at dksX8_sideUp_0 1 rfl rfl)
theorem dX8_sideUp_4 : decode cX8_sideUp 4 = .ok (.iload_n 1, 1) := dk_27 (dk_at dksX8_sideUp_0 4 rfl rfl)
theorem dX8_sideUp_5 : decode cX8_sideUp 5 = .ok (.iconst 2, 1) := dk_5 (dk_at dksX8_sideUp_0 5 rfl rfl)
theorem dX8_sideUp_6 : decode cX8_sideUp 6 = .ok (.idiv, 1) := dk_108 (dk_at dksX8_sideUp_0 6 rfl rfl)
theorem dX8_sideUp_7 : decode cX8_sideUp 7 = .ok (.aaload, 1) := dk_50 (dk_at dksX8_sideUp_0 7 rfl rfl)
theorem dX8_sideUp_8 : decode cX8_sideUp 8 = .ok (.invokevirtual 119, 3) := dk_182 0 119 (dk_at dksX8_sideUp_0 8 rfl rfl)
theorem dX8_sideUp_11 : decode cX8_sideUp 11 = .ok (.istore_n 2, 1) := dk_61 (dk_at dksX8_sideUp_0 11 rfl rfl)
theorem dX8_sideUp_12 : decode cX8_sideUp 12 = .ok (.iload_n 1, 1) := dk_27 (dk_at dksX8_sideUp_0 12 rfl rfl)
theorem dX8_sideUp_13 : decode cX8_sideUp 13 = .ok (.iconst 2, 1) := dk_5 (dk_at dksX8_sideUp_0 13 rfl rfl)
theorem dX8_sideUp_14 : decode cX8_sideUp 14 = .ok (.irem, 1) := dk_112 (dk_at dksX8_sideUp_0 14 rfl rfl)
theorem dX8_sideUp_15 : decode cX8_sideUp 15 = .ok (.ifCond .ne 7, 3) := dk_154 0 7 (dk_at dksX8_sideUp_0 15 rfl rfl)
theorem dX8_sideUp_18 : decode cX8_sideUp 18 = .ok (.iload_n 2, 1) := dk_28 (dk_at dksX8_sideUp_0 18 rfl rfl)
theorem dX8_sideUp_19 : decode cX8_sideUp 19 = .ok (.goto 6, 3) := dk_167 0 6 (dk_at dksX8_sideUp_0 19 rfl rfl)
theorem dX8_sideUp_22 : decode cX8_sideUp 22 = .ok (.iconst 1, 1) := dk_4 (dk_at dksX8_sideUp_0 22 rfl rfl)
theorem dX8_sideUp_23 : decode cX8_sideUp 23 = .ok (.iload_n 2, 1) := dk_28 (dk_at dksX8_sideUp_0 23 rfl rfl)
theorem dX8_sideUp_24 : decode cX8_sideUp 24 = .ok (.isub, 1) := dk_100 (dk_at dksX8_sideUp_1 0 rfl rfl)
theorem dX8_sideUp_25 : decode cX8_sideUp 25 = .ok (.ireturn, 1) := dk_172 (dk_at dksX8_sideUp_1 1 rfl rfl)
abbrev cX8_isTurning : ByteArray := prog_3_method_11_code
def yX8_isTurning : MethodName := ⟨RX8, "isTurning", "(I)Z"⟩
def dkwX8_isTurning_1 : List UInt8 := [112, 4, 160, 0, 7, 4, 167, 0, 4, 3, 159, 0, 7, 4, 167, 0, 4, 3, 172]
abbrev dktX8_isTurning_1 : List UInt8 := dkwX8_isTurning_1 ++ []
def dkwX8_isTurning_0 : List UInt8 := [42, 180, 0, 28, 27, 5, 108, 50, 180, 0, 90, 42, 180, 0, 18, 180, 0, 133, 4, 160, 0, 14, 27, 5]
abbrev dktX8_isTurning_0 : List UInt8 := dkwX8_isTurning_0 ++ dktX8_isTurning_1
theorem dksX8_isTurning_0 : cX8_isTurning.data.toList.drop 0 = dktX8_isTurning_0 := by decide +kernel
theorem dksX8_isTurning_1 : cX8_isTurning.data.toList.drop 24 = dktX8_isTurning_1 := dk_seg dksX8_isTurning_0 24 rfl rfl
theorem dX8_isTurning_0 : decode cX8_isTurning 0 = .ok (.aload_n 0, 1) := dk_42 (dk_at dksX8_isTurning_0 0 rfl rfl)
theorem dX8_isTurning_1 : decode cX8_isTurning 1 = .ok (.getfield 28, 3) := dk_180 0 28 (dk_at dksX8_isTurning_0 1 rfl rfl)
theorem dX8_isTurning_4 : decode cX8_isTurning 4 = .ok (.iload_n 1, 1) := dk_27 (dk_at dksX8_isTurning_0 4 rfl rfl)
theorem dX8_isTurning_5 : decode cX8_isTurning 5 = .ok (.iconst 2, 1) := dk_5 (dk_at dksX8_isTurning_0 5 rfl rfl)
theorem dX8_isTurning_6 : decode cX8_isTurning 6 = .ok (.idiv, 1) := dk_108 (dk_at dksX8_isTurning_0 6 rfl rfl)
theorem dX8_isTurning_7 : decode cX8_isTurning 7 = .ok (.aaload, 1) := dk_50 (dk_at dksX8_isTurning_0 7 rfl rfl)
theorem dX8_isTurning_8 : decode cX8_isTurning 8 = .ok (.getfield 90, 3) := dk_180 0 90 (dk_at dksX8_isTurning_0 8 rfl rfl)
theorem dX8_isTurning_11 : decode cX8_isTurning 11 = .ok (.aload_n 0, 1) := dk_42 (dk_at dksX8_isTurning_0 11 rfl rfl)
theorem dX8_isTurning_12 : decode cX8_isTurning 12 = .ok (.getfield 18, 3) := dk_180 0 18 (dk_at dksX8_isTurning_0 12 rfl rfl)
theorem dX8_isTurning_15 : decode cX8_isTurning 15 = .ok (.getfield 133, 3) := dk_180 0 133 (dk_at dksX8_isTurning_0 15 rfl rfl)
theorem dX8_isTurning_18 : decode cX8_isTurning 18 = .ok (.iconst 1, 1) := dk_4 (dk_at dksX8_isTurning_0 18 rfl rfl)
theorem dX8_isTurning_19 : decode cX8_isTurning 19 = .ok (.if_icmp .ne 14, 3) := dk_160 0 14 (dk_at dksX8_isTurning_0 19 rfl rfl)
theorem dX8_isTurning_22 : decode cX8_isTurning 22 = .ok (.iload_n 1, 1) := dk_27 (dk_at dksX8_isTurning_0 22 rfl rfl)
theorem dX8_isTurning_23 : decode cX8_isTurning 23 = .ok (.iconst 2, 1) := dk_5 (dk_at dksX8_isTurning_0 23 rfl rfl)
theorem dX8_isTurning_24 : decode cX8_isTurning 24 = .ok (.irem, 1) := dk_112 (dk_at dksX8_isTurning_1 0 rfl rfl)
theorem dX8_isTurning_25 : decode cX8_isTurning 25 = .ok (.iconst 1, 1) := dk_4 (dk_at dksX8_isTurning_1 1 rfl rfl)
theorem dX8_isTurning_26 : decode cX8_isTurning 26 = .ok (.if_icmp .ne 7, 3) := dk_160 0 7 (dk_at dksX8_isTurning_1 2 rfl rfl)
theorem dX8_isTurning_29 : decode cX8_isTurning 29 = .ok (.iconst 1, 1) := dk_4 (dk_at dksX8_isTurning_1 5 rfl rfl)
theorem dX8_isTurning_30 : decode cX8_isTurning 30 = .ok (.goto 4, 3) := dk_167 0 4 (dk_at dksX8_isTurning_1 6 rfl rfl)
theorem dX8_isTurning_33 : decode cX8_isTurning 33 = .ok (.iconst 0, 1) := dk_3 (dk_at dksX8_isTurning_1 9 rfl rfl)
theorem dX8_isTurning_34 : decode cX8_isTurning 34 = .ok (.if_icmp .eq 7, 3) := dk_159 0 7 (dk_at dksX8_isTurning_1 10 rfl rfl)
theorem dX8_isTurning_37 : decode cX8_isTurning 37 = .ok (.iconst 1, 1) := dk_4 (dk_at dksX8_isTurning_1 13 rfl rfl)
theorem dX8_isTurning_38 : decode cX8_isTurning 38 = .ok (.goto 4, 3) := dk_167 0 4 (dk_at dksX8_isTurning_1 14 rfl rfl)
theorem dX8_isTurning_41 : decode cX8_isTurning 41 = .ok (.iconst 0, 1) := dk_3 (dk_at dksX8_isTurning_1 17 rfl rfl)
theorem dX8_isTurning_42 : decode cX8_isTurning 42 = .ok (.ireturn, 1) := dk_172 (dk_at dksX8_isTurning_1 18 rfl rfl)
abbrev cX8_stapled : ByteArray := prog_3_method_17_code
def yX8_stapled : MethodName := ⟨RX8, "stapled", "()I"⟩
def dkwX8_stapled_1 : List UInt8 := [180, 0, 28, 190, 184, 0, 93, 172]
abbrev dktX8_stapled_1 : List UInt8 := dkwX8_stapled_1 ++ []
def dkwX8_stapled_0 : List UInt8 := [42, 180, 0, 18, 180, 0, 159, 154, 0, 7, 3, 167, 0, 18, 42, 180, 0, 18, 180, 0, 162, 42]
abbrev dktX8_stapled_0 : List UInt8 := dkwX8_stapled_0 ++ dktX8_stapled_1
theorem dksX8_stapled_0 : cX8_stapled.data.toList.drop 0 = dktX8_stapled_0 := by decide +kernel
theorem dksX8_stapled_1 : cX8_stapled.data.toList.drop 22 = dktX8_stapled_1 := dk_seg dksX8_stapled_0 22 rfl rfl
theorem dX8_stapled_0 : decode cX8_stapled 0 = .ok (.aload_n 0, 1) := dk_42 (dk_at dksX8_stapled_0 0 rfl rfl)
theorem dX8_stapled_1 : decode cX8_stapled 1 = .ok (.getfield 18, 3) := dk_180 0 18 (dk_at dksX8_stapled_0 1 rfl rfl)
theorem dX8_stapled_4 : decode cX8_stapled 4 = .ok (.getfield 159, 3) := dk_180 0 159 (dk_at dksX8_stapled_0 4 rfl rfl)
theorem dX8_stapled_7 : decode cX8_stapled 7 = .ok (.ifCond .ne 7, 3) := dk_154 0 7 (dk_at dksX8_stapled_0 7 rfl rfl)
theorem dX8_stapled_10 : decode cX8_stapled 10 = .ok (.iconst 0, 1) := dk_3 (dk_at dksX8_stapled_0 10 rfl rfl)
theorem dX8_stapled_11 : decode cX8_stapled 11 = .ok (.goto 18, 3) := dk_167 0 18 (dk_at dksX8_stapled_0 11 rfl rfl)
theorem dX8_stapled_14 : decode cX8_stapled 14 = .ok (.aload_n 0, 1) := dk_42 (dk_at dksX8_stapled_0 14 rfl rfl)
theorem dX8_stapled_15 : decode cX8_stapled 15 = .ok (.getfield 18, 3) := dk_180 0 18 (dk_at dksX8_stapled_0 15 rfl rfl)
theorem dX8_stapled_18 : decode cX8_stapled 18 = .ok (.getfield 162, 3) := dk_180 0 162 (dk_at dksX8_stapled_0 18 rfl rfl)
theorem dX8_stapled_21 : decode cX8_stapled 21 = .ok (.aload_n 0, 1) := dk_42 (dk_at dksX8_stapled_0 21 rfl rfl)
theorem dX8_stapled_22 : decode cX8_stapled 22 = .ok (.getfield 28, 3) := dk_180 0 28 (dk_at dksX8_stapled_1 0 rfl rfl)
theorem dX8_stapled_25 : decode cX8_stapled 25 = .ok (.arraylength, 1) := dk_190 (dk_at dksX8_stapled_1 3 rfl rfl)
theorem dX8_stapled_26 : decode cX8_stapled 26 = .ok (.invokestatic 93, 3) := dk_184 0 93 (dk_at dksX8_stapled_1 4 rfl rfl)
theorem dX8_stapled_29 : decode cX8_stapled 29 = .ok (.ireturn, 1) := dk_172 (dk_at dksX8_stapled_1 7 rfl rfl)
abbrev cX8_numberOn : ByteArray := prog_3_method_10_code
def yX8_numberOn : MethodName := ⟨RX8, "numberOn", "(I)I"⟩
def dkwX8_numberOn_0 : List UInt8 := [42, 180, 0, 18, 180, 0, 128, 42, 27, 182, 0, 131, 46, 172]
abbrev dktX8_numberOn_0 : List UInt8 := dkwX8_numberOn_0 ++ []
theorem dksX8_numberOn_0 : cX8_numberOn.data.toList.drop 0 = dktX8_numberOn_0 := by decide +kernel
theorem dX8_numberOn_0 : decode cX8_numberOn 0 = .ok (.aload_n 0, 1) := dk_42 (dk_at dksX8_numberOn_0 0 rfl rfl)
theorem dX8_numberOn_1 : decode cX8_numberOn 1 = .ok (.getfield 18, 3) := dk_180 0 18 (dk_at dksX8_numberOn_0 1 rfl rfl)
theorem dX8_numberOn_4 : decode cX8_numberOn 4 = .ok (.getfield 128, 3) := dk_180 0 128 (dk_at dksX8_numberOn_0 4 rfl rfl)
theorem dX8_numberOn_7 : decode cX8_numberOn 7 = .ok (.aload_n 0, 1) := dk_42 (dk_at dksX8_numberOn_0 7 rfl rfl)
theorem dX8_numberOn_8 : decode cX8_numberOn 8 = .ok (.iload_n 1, 1) := dk_27 (dk_at dksX8_numberOn_0 8 rfl rfl)
theorem dX8_numberOn_9 : decode cX8_numberOn 9 = .ok (.invokevirtual 131, 3) := dk_182 0 131 (dk_at dksX8_numberOn_0 9 rfl rfl)
theorem dX8_numberOn_12 : decode cX8_numberOn 12 = .ok (.iaload, 1) := dk_46 (dk_at dksX8_numberOn_0 12 rfl rfl)
theorem dX8_numberOn_13 : decode cX8_numberOn 13 = .ok (.ireturn, 1) := dk_172 (dk_at dksX8_numberOn_0 13 rfl rfl)
abbrev cX8_isUpright : ByteArray := prog_3_method_12_code
def yX8_isUpright : MethodName := ⟨RX8, "isUpright", "(I)Z"⟩
def dkwX8_isUpright_1 : List UInt8 := [167, 0, 4, 3, 172]
abbrev dktX8_isUpright_1 : List UInt8 := dkwX8_isUpright_1 ++ []
def dkwX8_isUpright_0 : List UInt8 := [42, 27, 182, 0, 136, 42, 180, 0, 18, 180, 0, 140, 42, 27, 182, 0, 131, 51, 160, 0, 7, 4]
abbrev dktX8_isUpright_0 : List UInt8 := dkwX8_isUpright_0 ++ dktX8_isUpright_1
theorem dksX8_isUpright_0 : cX8_isUpright.data.toList.drop 0 = dktX8_isUpright_0 := by decide +kernel
theorem dksX8_isUpright_1 : cX8_isUpright.data.toList.drop 22 = dktX8_isUpright_1 := dk_seg dksX8_isUpright_0 22 rfl rfl
theorem dX8_isUpright_0 : decode cX8_isUpright 0 = .ok (.aload_n 0, 1) := dk_42 (dk_at dksX8_isUpright_0 0 rfl rfl)
theorem dX8_isUpright_1 : decode cX8_isUpright 1 = .ok (.iload_n 1, 1) := dk_27 (dk_at dksX8_isUpright_0 1 rfl rfl)
theorem dX8_isUpright_2 : decode cX8_isUpright 2 = .ok (.invokevirtual 136, 3) := dk_182 0 136 (dk_at dksX8_isUpright_0 2 rfl rfl)
theorem dX8_isUpright_5 : decode cX8_isUpright 5 = .ok (.aload_n 0, 1) := dk_42 (dk_at dksX8_isUpright_0 5 rfl rfl)
theorem dX8_isUpright_6 : decode cX8_isUpright 6 = .ok (.getfield 18, 3) := dk_180 0 18 (dk_at dksX8_isUpright_0 6 rfl rfl)
theorem dX8_isUpright_9 : decode cX8_isUpright 9 = .ok (.getfield 140, 3) := dk_180 0 140 (dk_at dksX8_isUpright_0 9 rfl rfl)
theorem dX8_isUpright_12 : decode cX8_isUpright 12 = .ok (.aload_n 0, 1) := dk_42 (dk_at dksX8_isUpright_0 12 rfl rfl)
theorem dX8_isUpright_13 : decode cX8_isUpright 13 = .ok (.iload_n 1, 1) := dk_27 (dk_at dksX8_isUpright_0 13 rfl rfl)
theorem dX8_isUpright_14 : decode cX8_isUpright 14 = .ok (.invokevirtual 131, 3) := dk_182 0 131 (dk_at dksX8_isUpright_0 14 rfl rfl)
theorem dX8_isUpright_17 : decode cX8_isUpright 17 = .ok (.baload, 1) := dk_51 (dk_at dksX8_isUpright_0 17 rfl rfl)
theorem dX8_isUpright_18 : decode cX8_isUpright 18 = .ok (.if_icmp .ne 7, 3) := dk_160 0 7 (dk_at dksX8_isUpright_0 18 rfl rfl)
theorem dX8_isUpright_21 : decode cX8_isUpright 21 = .ok (.iconst 1, 1) := dk_4 (dk_at dksX8_isUpright_0 21 rfl rfl)
theorem dX8_isUpright_22 : decode cX8_isUpright 22 = .ok (.goto 4, 3) := dk_167 0 4 (dk_at dksX8_isUpright_1 0 rfl rfl)
theorem dX8_isUpright_25 : decode cX8_isUpright 25 = .ok (.iconst 0, 1) := dk_3 (dk_at dksX8_isUpright_1 3 rfl rfl)
theorem dX8_isUpright_26 : decode cX8_isUpright 26 = .ok (.ireturn, 1) := dk_172 (dk_at dksX8_isUpright_1 4 rfl rfl)
abbrev cX8_isHidden : ByteArray := prog_3_method_7_code
def yX8_isHidden : MethodName := ⟨RX8, "isHidden", "(I)Z"⟩
def dkwX8_isHidden_0 : List UInt8 := [42, 180, 0, 32, 42, 27, 182, 0, 115, 46, 153, 0, 7, 4, 167, 0, 4, 3, 172]
abbrev dktX8_isHidden_0 : List UInt8 := dkwX8_isHidden_0 ++ []
theorem dksX8_isHidden_0 : cX8_isHidden.data.toList.drop 0 = dktX8_isHidden_0 := by decide +kernel
theorem dX8_isHidden_0 : decode cX8_isHidden 0 = .ok (.aload_n 0, 1) := dk_42 (dk_at dksX8_isHidden_0 0 rfl rfl)
theorem dX8_isHidden_1 : decode cX8_isHidden 1 = .ok (.getfield 32, 3) := dk_180 0 32 (dk_at dksX8_isHidden_0 1 rfl rfl)
theorem dX8_isHidden_4 : decode cX8_isHidden 4 = .ok (.aload_n 0, 1) := dk_42 (dk_at dksX8_isHidden_0 4 rfl rfl)
theorem dX8_isHidden_5 : decode cX8_isHidden 5 = .ok (.iload_n 1, 1) := dk_27 (dk_at dksX8_isHidden_0 5 rfl rfl)
theorem dX8_isHidden_6 : decode cX8_isHidden 6 = .ok (.invokevirtual 115, 3) := dk_182 0 115 (dk_at dksX8_isHidden_0 6 rfl rfl)
theorem dX8_isHidden_9 : decode cX8_isHidden 9 = .ok (.iaload, 1) := dk_46 (dk_at dksX8_isHidden_0 9 rfl rfl)
theorem dX8_isHidden_10 : decode cX8_isHidden 10 = .ok (.ifCond .eq 7, 3) := dk_153 0 7 (dk_at dksX8_isHidden_0 10 rfl rfl)
theorem dX8_isHidden_13 : decode cX8_isHidden 13 = .ok (.iconst 1, 1) := dk_4 (dk_at dksX8_isHidden_0 13 rfl rfl)
theorem dX8_isHidden_14 : decode cX8_isHidden 14 = .ok (.goto 4, 3) := dk_167 0 4 (dk_at dksX8_isHidden_0 14 rfl rfl)
theorem dX8_isHidden_17 : decode cX8_isHidden 17 = .ok (.iconst 0, 1) := dk_3 (dk_at dksX8_isHidden_0 17 rfl rfl)
theorem dX8_isHidden_18 : decode cX8_isHidden 18 = .ok (.ireturn, 1) := dk_172 (dk_at dksX8_isHidden_0 18 rfl rfl)
abbrev cX8_openingOf : ByteArray := prog_3_method_6_code
def yX8_openingOf : MethodName := ⟨RX8, "openingOf", "(I)I"⟩
def dkwX8_openingOf_0 : List UInt8 := [27, 4, 96, 5, 108, 172]
abbrev dktX8_openingOf_0 : List UInt8 := dkwX8_openingOf_0 ++ []
theorem dksX8_openingOf_0 : cX8_openingOf.data.toList.drop 0 = dktX8_openingOf_0 := by decide +kernel
theorem dX8_openingOf_0 : decode cX8_openingOf 0 = .ok (.iload_n 1, 1) := dk_27 (dk_at dksX8_openingOf_0 0 rfl rfl)
theorem dX8_openingOf_1 : decode cX8_openingOf 1 = .ok (.iconst 1, 1) := dk_4 (dk_at dksX8_openingOf_0 1 rfl rfl)
theorem dX8_openingOf_2 : decode cX8_openingOf 2 = .ok (.iadd, 1) := dk_96 (dk_at dksX8_openingOf_0 2 rfl rfl)
theorem dX8_openingOf_3 : decode cX8_openingOf 3 = .ok (.iconst 2, 1) := dk_5 (dk_at dksX8_openingOf_0 3 rfl rfl)
theorem dX8_openingOf_4 : decode cX8_openingOf 4 = .ok (.idiv, 1) := dk_108 (dk_at dksX8_openingOf_0 4 rfl rfl)
theorem dX8_openingOf_5 : decode cX8_openingOf 5 = .ok (.ireturn, 1) := dk_172 (dk_at dksX8_openingOf_0 5 rfl rfl)
abbrev cX8_reasonAgainst : ByteArray := prog_3_method_13_code
def yX8_reasonAgainst : MethodName := ⟨RX8, "reasonAgainst", "(I)I"⟩
def dkwX8_reasonAgainst_1 : List UInt8 := [28, 27, 159, 0, 7, 6, 167, 0, 16, 42, 27, 182, 0, 150, 153, 0, 7, 3, 167, 0, 4, 7, 172]
abbrev dktX8_reasonAgainst_1 : List UInt8 := dkwX8_reasonAgainst_1 ++ []
def dkwX8_reasonAgainst_0 : List UInt8 := [42, 27, 182, 0, 144, 61, 42, 27, 182, 0, 147, 153, 0, 5, 4, 172, 28, 16, 247, 160, 0, 5, 5, 172]
abbrev dktX8_reasonAgainst_0 : List UInt8 := dkwX8_reasonAgainst_0 ++ dktX8_reasonAgainst_1
theorem dksX8_reasonAgainst_0 : cX8_reasonAgainst.data.toList.drop 0 = dktX8_reasonAgainst_0 := by decide +kernel
theorem dksX8_reasonAgainst_1 : cX8_reasonAgainst.data.toList.drop 24 = dktX8_reasonAgainst_1 := dk_seg dksX8_reasonAgainst_0 24 rfl rfl
theorem dX8_reasonAgainst_0 : decode cX8_reasonAgainst 0 = .ok (.aload_n 0, 1) := dk_42 (dk_at dksX8_reasonAgainst_0 0 rfl rfl)
theorem dX8_reasonAgainst_1 : decode cX8_reasonAgainst 1 = .ok (.iload_n 1, 1) := dk_27 (dk_at dksX8_reasonAgainst_0 1 rfl rfl)
theorem dX8_reasonAgainst_2 : decode cX8_reasonAgainst 2 = .ok (.invokevirtual 144, 3) := dk_182 0 144 (dk_at dksX8_reasonAgainst_0 2 rfl rfl)
theorem dX8_reasonAgainst_5 : decode cX8_reasonAgainst 5 = .ok (.istore_n 2, 1) := dk_61 (dk_at dksX8_reasonAgainst_0 5 rfl rfl)
theorem dX8_reasonAgainst_6 : decode cX8_reasonAgainst 6 = .ok (.aload_n 0, 1) := dk_42 (dk_at dksX8_reasonAgainst_0 6 rfl rfl)
theorem dX8_reasonAgainst_7 : decode cX8_reasonAgainst 7 = .ok (.iload_n 1, 1) := dk_27 (dk_at dksX8_reasonAgainst_0 7 rfl rfl)
theorem dX8_reasonAgainst_8 : decode cX8_reasonAgainst 8 = .ok (.invokevirtual 147, 3) := dk_182 0 147 (dk_at dksX8_reasonAgainst_0 8 rfl rfl)
theorem dX8_reasonAgainst_11 : decode cX8_reasonAgainst 11 = .ok (.ifCond .eq 5, 3) := dk_153 0 5 (dk_at dksX8_reasonAgainst_0 11 rfl rfl)
theorem dX8_reasonAgainst_14 : decode cX8_reasonAgainst 14 = .ok (.iconst 1, 1) := dk_4 (dk_at dksX8_reasonAgainst_0 14 rfl rfl)
theorem dX8_reasonAgainst_15 : decode cX8_reasonAgainst 15 = .ok (.ireturn, 1) := dk_172 (dk_at dksX8_reasonAgainst_0 15 rfl rfl)
theorem dX8_reasonAgainst_16 : decode cX8_reasonAgainst 16 = .ok (.iload_n 2, 1) := dk_28 (dk_at dksX8_reasonAgainst_0 16 rfl rfl)
theorem dX8_reasonAgainst_17 : decode cX8_reasonAgainst 17 = .ok (.bipush (-9), 2) := dk_16 247 (dk_at dksX8_reasonAgainst_0 17 rfl rfl)
theorem dX8_reasonAgainst_19 : decode cX8_reasonAgainst 19 = .ok (.if_icmp .ne 5, 3) := dk_160 0 5 (dk_at dksX8_reasonAgainst_0 19 rfl rfl)
theorem dX8_reasonAgainst_22 : decode cX8_reasonAgainst 22 = .ok (.iconst 2, 1) := dk_5 (dk_at dksX8_reasonAgainst_0 22 rfl rfl)
theorem dX8_reasonAgainst_23 : decode cX8_reasonAgainst 23 = .ok (.ireturn, 1) := dk_172 (dk_at dksX8_reasonAgainst_0 23 rfl rfl)
theorem dX8_reasonAgainst_24 : decode cX8_reasonAgainst 24 = .ok (.iload_n 2, 1) := dk_28 (dk_at dksX8_reasonAgainst_1 0 rfl rfl)
theorem dX8_reasonAgainst_25 : decode cX8_reasonAgainst 25 = .ok (.iload_n 1, 1) := dk_27 (dk_at dksX8_reasonAgainst_1 1 rfl rfl)
theorem dX8_reasonAgainst_26 : decode cX8_reasonAgainst 26 = .ok (.if_icmp .eq 7, 3) := dk_159 0 7 (dk_at dksX8_reasonAgainst_1 2 rfl rfl)
theorem dX8_reasonAgainst_29 : decode cX8_reasonAgainst 29 = .ok (.iconst 3, 1) := dk_6 (dk_at dksX8_reasonAgainst_1 5 rfl rfl)
theorem dX8_reasonAgainst_30 : decode cX8_reasonAgainst 30 = .ok (.goto 16, 3) := dk_167 0 16 (dk_at dksX8_reasonAgainst_1 6 rfl rfl)
theorem dX8_reasonAgainst_33 : decode cX8_reasonAgainst 33 = .ok (.aload_n 0, 1) := dk_42 (dk_at dksX8_reasonAgainst_1 9 rfl rfl)
theorem dX8_reasonAgainst_34 : decode cX8_reasonAgainst 34 = .ok (.iload_n 1, 1) := dk_27 (dk_at dksX8_reasonAgainst_1 10 rfl rfl)
theorem dX8_reasonAgainst_35 : decode cX8_reasonAgainst 35 = .ok (.invokevirtual 150, 3) := dk_182 0 150 (dk_at dksX8_reasonAgainst_1 11 rfl rfl)
theorem dX8_reasonAgainst_38 : decode cX8_reasonAgainst 38 = .ok (.ifCond .eq 7, 3) := dk_153 0 7 (dk_at dksX8_reasonAgainst_1 14 rfl rfl)
theorem dX8_reasonAgainst_41 : decode cX8_reasonAgainst 41 = .ok (.iconst 0, 1) := dk_3 (dk_at dksX8_reasonAgainst_1 17 rfl rfl)
theorem dX8_reasonAgainst_42 : decode cX8_reasonAgainst 42 = .ok (.goto 4, 3) := dk_167 0 4 (dk_at dksX8_reasonAgainst_1 18 rfl rfl)
theorem dX8_reasonAgainst_45 : decode cX8_reasonAgainst 45 = .ok (.iconst 4, 1) := dk_7 (dk_at dksX8_reasonAgainst_1 21 rfl rfl)
theorem dX8_reasonAgainst_46 : decode cX8_reasonAgainst 46 = .ok (.ireturn, 1) := dk_172 (dk_at dksX8_reasonAgainst_1 22 rfl rfl)
abbrev cX8_together : ByteArray := prog_3_method_16_code
def yX8_together : MethodName := ⟨RX8, "together", "(II)I"⟩
def dkwX8_together_4 : List UInt8 := [132, 4, 1, 167, 255, 166, 29, 172]
abbrev dktX8_together_4 : List UInt8 := dkwX8_together_4 ++ []
def dkwX8_together_3 : List UInt8 := [42, 25, 5, 182, 0, 49, 153, 0, 13, 4, 25, 5, 182, 0, 53, 120, 167, 0, 4, 3, 128, 62]
abbrev dktX8_together_3 : List UInt8 := dkwX8_together_3 ++ dktX8_together_4
def dkwX8_together_2 : List UInt8 := [182, 0, 64, 27, 28, 184, 0, 99, 160, 0, 7, 4, 167, 0, 4, 3, 54, 6, 29, 21, 6, 153, 0, 22]
abbrev dktX8_together_2 : List UInt8 := dkwX8_together_2 ++ dktX8_together_3
def dkwX8_together_1 : List UInt8 := [182, 0, 43, 192, 0, 47, 58, 5, 25, 5, 182, 0, 61, 27, 28, 184, 0, 93, 160, 0, 20, 25, 5]
abbrev dktX8_together_1 : List UInt8 := dkwX8_together_1 ++ dktX8_together_2
def dkwX8_together_0 : List UInt8 := [3, 62, 3, 54, 4, 21, 4, 42, 180, 0, 12, 182, 0, 39, 162, 0, 84, 42, 180, 0, 12, 21, 4]
abbrev dktX8_together_0 : List UInt8 := dkwX8_together_0 ++ dktX8_together_1
theorem dksX8_together_0 : cX8_together.data.toList.drop 0 = dktX8_together_0 := by decide +kernel
theorem dksX8_together_1 : cX8_together.data.toList.drop 23 = dktX8_together_1 := dk_seg dksX8_together_0 23 rfl rfl
theorem dksX8_together_2 : cX8_together.data.toList.drop 46 = dktX8_together_2 := dk_seg dksX8_together_1 23 rfl rfl
theorem dksX8_together_3 : cX8_together.data.toList.drop 70 = dktX8_together_3 := dk_seg dksX8_together_2 24 rfl rfl
theorem dksX8_together_4 : cX8_together.data.toList.drop 92 = dktX8_together_4 := dk_seg dksX8_together_3 22 rfl rfl
theorem dX8_together_0 : decode cX8_together 0 = .ok (.iconst 0, 1) := dk_3 (dk_at dksX8_together_0 0 rfl rfl)
theorem dX8_together_1 : decode cX8_together 1 = .ok (.istore_n 3, 1) := dk_62 (dk_at dksX8_together_0 1 rfl rfl)
theorem dX8_together_2 : decode cX8_together 2 = .ok (.iconst 0, 1) := dk_3 (dk_at dksX8_together_0 2 rfl rfl)
theorem dX8_together_3 : decode cX8_together 3 = .ok (.istore 4, 2) := dk_54 4 (dk_at dksX8_together_0 3 rfl rfl)
theorem dX8_together_5 : decode cX8_together 5 = .ok (.iload 4, 2) := dk_21 4 (dk_at dksX8_together_0 5 rfl rfl)
theorem dX8_together_7 : decode cX8_together 7 = .ok (.aload_n 0, 1) := dk_42 (dk_at dksX8_together_0 7 rfl rfl)
theorem dX8_together_8 : decode cX8_together 8 = .ok (.getfield 12, 3) := dk_180 0 12 (dk_at dksX8_together_0 8 rfl rfl)
theorem dX8_together_11 : decode cX8_together 11 = .ok (.invokevirtual 39, 3) := dk_182 0 39 (dk_at dksX8_together_0 11 rfl rfl)
theorem dX8_together_14 : decode cX8_together 14 = .ok (.if_icmp .ge 84, 3) := dk_162 0 84 (dk_at dksX8_together_0 14 rfl rfl)
theorem dX8_together_17 : decode cX8_together 17 = .ok (.aload_n 0, 1) := dk_42 (dk_at dksX8_together_0 17 rfl rfl)
theorem dX8_together_18 : decode cX8_together 18 = .ok (.getfield 12, 3) := dk_180 0 12 (dk_at dksX8_together_0 18 rfl rfl)
theorem dX8_together_21 : decode cX8_together 21 = .ok (.iload 4, 2) := dk_21 4 (dk_at dksX8_together_0 21 rfl rfl)
theorem dX8_together_23 : decode cX8_together 23 = .ok (.invokevirtual 43, 3) := dk_182 0 43 (dk_at dksX8_together_1 0 rfl rfl)
theorem dX8_together_26 : decode cX8_together 26 = .ok (.checkcast 47, 3) := dk_192 0 47 (dk_at dksX8_together_1 3 rfl rfl)
theorem dX8_together_29 : decode cX8_together 29 = .ok (.astore 5, 2) := dk_58 5 (dk_at dksX8_together_1 6 rfl rfl)
theorem dX8_together_31 : decode cX8_together 31 = .ok (.aload 5, 2) := dk_25 5 (dk_at dksX8_together_1 8 rfl rfl)
theorem dX8_together_33 : decode cX8_together 33 = .ok (.invokevirtual 61, 3) := dk_182 0 61 (dk_at dksX8_together_1 10 rfl rfl)
theorem dX8_together_36 : decode cX8_together 36 = .ok (.iload_n 1, 1) := dk_27 (dk_at dksX8_together_1 13 rfl rfl)
theorem dX8_together_37 : decode cX8_together 37 = .ok (.iload_n 2, 1) := dk_28 (dk_at dksX8_together_1 14 rfl rfl)
theorem dX8_together_38 : decode cX8_together 38 = .ok (.invokestatic 93, 3) := dk_184 0 93 (dk_at dksX8_together_1 15 rfl rfl)
theorem dX8_together_41 : decode cX8_together 41 = .ok (.if_icmp .ne 20, 3) := dk_160 0 20 (dk_at dksX8_together_1 18 rfl rfl)
theorem dX8_together_44 : decode cX8_together 44 = .ok (.aload 5, 2) := dk_25 5 (dk_at dksX8_together_1 21 rfl rfl)
theorem dX8_together_46 : decode cX8_together 46 = .ok (.invokevirtual 64, 3) := dk_182 0 64 (dk_at dksX8_together_2 0 rfl rfl)
theorem dX8_together_49 : decode cX8_together 49 = .ok (.iload_n 1, 1) := dk_27 (dk_at dksX8_together_2 3 rfl rfl)
theorem dX8_together_50 : decode cX8_together 50 = .ok (.iload_n 2, 1) := dk_28 (dk_at dksX8_together_2 4 rfl rfl)
theorem dX8_together_51 : decode cX8_together 51 = .ok (.invokestatic 99, 3) := dk_184 0 99 (dk_at dksX8_together_2 5 rfl rfl)
theorem dX8_together_54 : decode cX8_together 54 = .ok (.if_icmp .ne 7, 3) := dk_160 0 7 (dk_at dksX8_together_2 8 rfl rfl)
theorem dX8_together_57 : decode cX8_together 57 = .ok (.iconst 1, 1) := dk_4 (dk_at dksX8_together_2 11 rfl rfl)
theorem dX8_together_58 : decode cX8_together 58 = .ok (.goto 4, 3) := dk_167 0 4 (dk_at dksX8_together_2 12 rfl rfl)
theorem dX8_together_61 : decode cX8_together 61 = .ok (.iconst 0, 1) := dk_3 (dk_at dksX8_together_2 15 rfl rfl)
theorem dX8_together_62 : decode cX8_together 62 = .ok (.istore 6, 2) := dk_54 6 (dk_at dksX8_together_2 16 rfl rfl)
theorem dX8_together_64 : decode cX8_together 64 = .ok (.iload_n 3, 1) := dk_29 (dk_at dksX8_together_2 18 rfl rfl)
theorem dX8_together_65 : decode cX8_together 65 = .ok (.iload 6, 2) := dk_21 6 (dk_at dksX8_together_2 19 rfl rfl)
theorem dX8_together_67 : decode cX8_together 67 = .ok (.ifCond .eq 22, 3) := dk_153 0 22 (dk_at dksX8_together_2 21 rfl rfl)
theorem dX8_together_70 : decode cX8_together 70 = .ok (.aload_n 0, 1) := dk_42 (dk_at dksX8_together_3 0 rfl rfl)
theorem dX8_together_71 : decode cX8_together 71 = .ok (.aload 5, 2) := dk_25 5 (dk_at dksX8_together_3 1 rfl rfl)
theorem dX8_together_73 : decode cX8_together 73 = .ok (.invokevirtual 49, 3) := dk_182 0 49 (dk_at dksX8_together_3 3 rfl rfl)
theorem dX8_together_76 : decode cX8_together 76 = .ok (.ifCond .eq 13, 3) := dk_153 0 13 (dk_at dksX8_together_3 6 rfl rfl)
theorem dX8_together_79 : decode cX8_together 79 = .ok (.iconst 1, 1) := dk_4 (dk_at dksX8_together_3 9 rfl rfl)
theorem dX8_together_80 : decode cX8_together 80 = .ok (.aload 5, 2) := dk_25 5 (dk_at dksX8_together_3 10 rfl rfl)
theorem dX8_together_82 : decode cX8_together 82 = .ok (.invokevirtual 53, 3) := dk_182 0 53 (dk_at dksX8_together_3 12 rfl rfl)
theorem dX8_together_85 : decode cX8_together 85 = .ok (.ishl, 1) := dk_120 (dk_at dksX8_together_3 15 rfl rfl)
theorem dX8_together_86 : decode cX8_together 86 = .ok (.goto 4, 3) := dk_167 0 4 (dk_at dksX8_together_3 16 rfl rfl)
theorem dX8_together_89 : decode cX8_together 89 = .ok (.iconst 0, 1) := dk_3 (dk_at dksX8_together_3 19 rfl rfl)
theorem dX8_together_90 : decode cX8_together 90 = .ok (.ior, 1) := dk_128 (dk_at dksX8_together_3 20 rfl rfl)
theorem dX8_together_91 : decode cX8_together 91 = .ok (.istore_n 3, 1) := dk_62 (dk_at dksX8_together_3 21 rfl rfl)
theorem dX8_together_92 : decode cX8_together 92 = .ok (.iinc 4 1, 3) := dk_132 4 1 (dk_at dksX8_together_4 0 rfl rfl)
theorem dX8_together_95 : decode cX8_together 95 = .ok (.goto (-90), 3) := dk_167 255 166 (dk_at dksX8_together_4 3 rfl rfl)
theorem dX8_together_98 : decode cX8_together 98 = .ok (.iload_n 3, 1) := dk_29 (dk_at dksX8_together_4 6 rfl rfl)
theorem dX8_together_99 : decode cX8_together 99 = .ok (.ireturn, 1) := dk_172 (dk_at dksX8_together_4 7 rfl rfl)
abbrev cX8_pieces : ByteArray := prog_3_method_18_code
def yX8_pieces : MethodName := ⟨RX8, "pieces", "()I"⟩
def dkwX8_pieces_5 : List UInt8 := [29, 184, 0, 165, 153, 0, 7, 4, 167, 0, 4, 3, 100, 61, 132, 3, 1, 167, 255, 226, 28, 172]
abbrev dktX8_pieces_5 : List UInt8 := dkwX8_pieces_5 ++ []
def dkwX8_pieces_4 : List UInt8 := [3, 100, 61, 132, 3, 1, 167, 255, 195, 4, 62, 29, 42, 182, 0, 169, 162, 0, 28, 28, 43, 29, 4, 100]
abbrev dktX8_pieces_4 : List UInt8 := dkwX8_pieces_4 ++ dktX8_pieces_5
def dkwX8_pieces_3 : List UInt8 := [153, 0, 24, 43, 25, 4, 182, 0, 61, 25, 4, 182, 0, 64, 184, 0, 165, 153, 0, 7, 4, 167, 0, 4]
abbrev dktX8_pieces_3 : List UInt8 := dkwX8_pieces_3 ++ dktX8_pieces_4
def dkwX8_pieces_2 : List UInt8 := [162, 0, 56, 42, 180, 0, 12, 29, 182, 0, 43, 192, 0, 47, 58, 4, 28, 42, 25, 4, 182, 0, 49]
abbrev dktX8_pieces_2 : List UInt8 := dkwX8_pieces_2 ++ dktX8_pieces_3
def dkwX8_pieces_1 : List UInt8 := [132, 2, 1, 167, 255, 240, 42, 180, 0, 28, 190, 61, 3, 62, 29, 42, 180, 0, 12, 182, 0, 39]
abbrev dktX8_pieces_1 : List UInt8 := dkwX8_pieces_1 ++ dktX8_pieces_2
def dkwX8_pieces_0 : List UInt8 := [42, 180, 0, 28, 190, 188, 10, 76, 3, 61, 28, 42, 180, 0, 28, 190, 162, 0, 13, 43, 28, 28, 79]
abbrev dktX8_pieces_0 : List UInt8 := dkwX8_pieces_0 ++ dktX8_pieces_1
theorem dksX8_pieces_0 : cX8_pieces.data.toList.drop 0 = dktX8_pieces_0 := by decide +kernel
theorem dksX8_pieces_1 : cX8_pieces.data.toList.drop 23 = dktX8_pieces_1 := dk_seg dksX8_pieces_0 23 rfl rfl
theorem dksX8_pieces_2 : cX8_pieces.data.toList.drop 45 = dktX8_pieces_2 := dk_seg dksX8_pieces_1 22 rfl rfl
theorem dksX8_pieces_3 : cX8_pieces.data.toList.drop 68 = dktX8_pieces_3 := dk_seg dksX8_pieces_2 23 rfl rfl
theorem dksX8_pieces_4 : cX8_pieces.data.toList.drop 92 = dktX8_pieces_4 := dk_seg dksX8_pieces_3 24 rfl rfl
theorem dksX8_pieces_5 : cX8_pieces.data.toList.drop 116 = dktX8_pieces_5 := dk_seg dksX8_pieces_4 24 rfl rfl
theorem dX8_pieces_0 : decode cX8_pieces 0 = .ok (.aload_n 0, 1) := dk_42 (dk_at dksX8_pieces_0 0 rfl rfl)
theorem dX8_pieces_1 : decode cX8_pieces 1 = .ok (.getfield 28, 3) := dk_180 0 28 (dk_at dksX8_pieces_0 1 rfl rfl)
theorem dX8_pieces_4 : decode cX8_pieces 4 = .ok (.arraylength, 1) := dk_190 (dk_at dksX8_pieces_0 4 rfl rfl)
theorem dX8_pieces_5 : decode cX8_pieces 5 = .ok (.newarray .int, 2) := dk_188_10 (dk_at dksX8_pieces_0 5 rfl rfl)
theorem dX8_pieces_7 : decode cX8_pieces 7 = .ok (.astore_n 1, 1) := dk_76 (dk_at dksX8_pieces_0 7 rfl rfl)
theorem dX8_pieces_8 : decode cX8_pieces 8 = .ok (.iconst 0, 1) := dk_3 (dk_at dksX8_pieces_0 8 rfl rfl)
theorem dX8_pieces_9 : decode cX8_pieces 9 = .ok (.istore_n 2, 1) := dk_61 (dk_at dksX8_pieces_0 9 rfl rfl)
theorem dX8_pieces_10 : decode cX8_pieces 10 = .ok (.iload_n 2, 1) := dk_28 (dk_at dksX8_pieces_0 10 rfl rfl)
theorem dX8_pieces_11 : decode cX8_pieces 11 = .ok (.aload_n 0, 1) := dk_42 (dk_at dksX8_pieces_0 11 rfl rfl)
theorem dX8_pieces_12 : decode cX8_pieces 12 = .ok (.getfield 28, 3) := dk_180 0 28 (dk_at dksX8_pieces_0 12 rfl rfl)
theorem dX8_pieces_15 : decode cX8_pieces 15 = .ok (.arraylength, 1) := dk_190 (dk_at dksX8_pieces_0 15 rfl rfl)
theorem dX8_pieces_16 : decode cX8_pieces 16 = .ok (.if_icmp .ge 13, 3) := dk_162 0 13 (dk_at dksX8_pieces_0 16 rfl rfl)
theorem dX8_pieces_19 : decode cX8_pieces 19 = .ok (.aload_n 1, 1) := dk_43 (dk_at dksX8_pieces_0 19 rfl rfl)
theorem dX8_pieces_20 : decode cX8_pieces 20 = .ok (.iload_n 2, 1) := dk_28 (dk_at dksX8_pieces_0 20 rfl rfl)
theorem dX8_pieces_21 : decode cX8_pieces 21 = .ok (.iload_n 2, 1) := dk_28 (dk_at dksX8_pieces_0 21 rfl rfl)
theorem dX8_pieces_22 : decode cX8_pieces 22 = .ok (.iastore, 1) := dk_79 (dk_at dksX8_pieces_0 22 rfl rfl)
theorem dX8_pieces_23 : decode cX8_pieces 23 = .ok (.iinc 2 1, 3) := dk_132 2 1 (dk_at dksX8_pieces_1 0 rfl rfl)
theorem dX8_pieces_26 : decode cX8_pieces 26 = .ok (.goto (-16), 3) := dk_167 255 240 (dk_at dksX8_pieces_1 3 rfl rfl)
theorem dX8_pieces_29 : decode cX8_pieces 29 = .ok (.aload_n 0, 1) := dk_42 (dk_at dksX8_pieces_1 6 rfl rfl)
theorem dX8_pieces_30 : decode cX8_pieces 30 = .ok (.getfield 28, 3) := dk_180 0 28 (dk_at dksX8_pieces_1 7 rfl rfl)
theorem dX8_pieces_33 : decode cX8_pieces 33 = .ok (.arraylength, 1) := dk_190 (dk_at dksX8_pieces_1 10 rfl rfl)
theorem dX8_pieces_34 : decode cX8_pieces 34 = .ok (.istore_n 2, 1) := dk_61 (dk_at dksX8_pieces_1 11 rfl rfl)
theorem dX8_pieces_35 : decode cX8_pieces 35 = .ok (.iconst 0, 1) := dk_3 (dk_at dksX8_pieces_1 12 rfl rfl)
theorem dX8_pieces_36 : decode cX8_pieces 36 = .ok (.istore_n 3, 1) := dk_62 (dk_at dksX8_pieces_1 13 rfl rfl)
theorem dX8_pieces_37 : decode cX8_pieces 37 = .ok (.iload_n 3, 1) := dk_29 (dk_at dksX8_pieces_1 14 rfl rfl)
theorem dX8_pieces_38 : decode cX8_pieces 38 = .ok (.aload_n 0, 1) := dk_42 (dk_at dksX8_pieces_1 15 rfl rfl)
theorem dX8_pieces_39 : decode cX8_pieces 39 = .ok (.getfield 12, 3) := dk_180 0 12 (dk_at dksX8_pieces_1 16 rfl rfl)
theorem dX8_pieces_42 : decode cX8_pieces 42 = .ok (.invokevirtual 39, 3) := dk_182 0 39 (dk_at dksX8_pieces_1 19 rfl rfl)
theorem dX8_pieces_45 : decode cX8_pieces 45 = .ok (.if_icmp .ge 56, 3) := dk_162 0 56 (dk_at dksX8_pieces_2 0 rfl rfl)
theorem dX8_pieces_48 : decode cX8_pieces 48 = .ok (.aload_n 0, 1) := dk_42 (dk_at dksX8_pieces_2 3 rfl rfl)
theorem dX8_pieces_49 : decode cX8_pieces 49 = .ok (.getfield 12, 3) := dk_180 0 12 (dk_at dksX8_pieces_2 4 rfl rfl)
theorem dX8_pieces_52 : decode cX8_pieces 52 = .ok (.iload_n 3, 1) := dk_29 (dk_at dksX8_pieces_2 7 rfl rfl)
theorem dX8_pieces_53 : decode cX8_pieces 53 = .ok (.invokevirtual 43, 3) := dk_182 0 43 (dk_at dksX8_pieces_2 8 rfl rfl)
theorem dX8_pieces_56 : decode cX8_pieces 56 = .ok (.checkcast 47, 3) := dk_192 0 47 (dk_at dksX8_pieces_2 11 rfl rfl)
theorem dX8_pieces_59 : decode cX8_pieces 59 = .ok (.astore 4, 2) := dk_58 4 (dk_at dksX8_pieces_2 14 rfl rfl)
theorem dX8_pieces_61 : decode cX8_pieces 61 = .ok (.iload_n 2, 1) := dk_28 (dk_at dksX8_pieces_2 16 rfl rfl)
theorem dX8_pieces_62 : decode cX8_pieces 62 = .ok (.aload_n 0, 1) := dk_42 (dk_at dksX8_pieces_2 17 rfl rfl)
theorem dX8_pieces_63 : decode cX8_pieces 63 = .ok (.aload 4, 2) := dk_25 4 (dk_at dksX8_pieces_2 18 rfl rfl)
theorem dX8_pieces_65 : decode cX8_pieces 65 = .ok (.invokevirtual 49, 3) := dk_182 0 49 (dk_at dksX8_pieces_2 20 rfl rfl)
theorem dX8_pieces_68 : decode cX8_pieces 68 = .ok (.ifCond .eq 24, 3) := dk_153 0 24 (dk_at dksX8_pieces_3 0 rfl rfl)
theorem dX8_pieces_71 : decode cX8_pieces 71 = .ok (.aload_n 1, 1) := dk_43 (dk_at dksX8_pieces_3 3 rfl rfl)
theorem dX8_pieces_72 : decode cX8_pieces 72 = .ok (.aload 4, 2) := dk_25 4 (dk_at dksX8_pieces_3 4 rfl rfl)
theorem dX8_pieces_74 : decode cX8_pieces 74 = .ok (.invokevirtual 61, 3) := dk_182 0 61 (dk_at dksX8_pieces_3 6 rfl rfl)
theorem dX8_pieces_77 : decode cX8_pieces 77 = .ok (.aload 4, 2) := dk_25 4 (dk_at dksX8_pieces_3 9 rfl rfl)
theorem dX8_pieces_79 : decode cX8_pieces 79 = .ok (.invokevirtual 64, 3) := dk_182 0 64 (dk_at dksX8_pieces_3 11 rfl rfl)
theorem dX8_pieces_82 : decode cX8_pieces 82 = .ok (.invokestatic 165, 3) := dk_184 0 165 (dk_at dksX8_pieces_3 14 rfl rfl)
theorem dX8_pieces_85 : decode cX8_pieces 85 = .ok (.ifCond .eq 7, 3) := dk_153 0 7 (dk_at dksX8_pieces_3 17 rfl rfl)
theorem dX8_pieces_88 : decode cX8_pieces 88 = .ok (.iconst 1, 1) := dk_4 (dk_at dksX8_pieces_3 20 rfl rfl)
theorem dX8_pieces_89 : decode cX8_pieces 89 = .ok (.goto 4, 3) := dk_167 0 4 (dk_at dksX8_pieces_3 21 rfl rfl)
theorem dX8_pieces_92 : decode cX8_pieces 92 = .ok (.iconst 0, 1) := dk_3 (dk_at dksX8_pieces_4 0 rfl rfl)
theorem dX8_pieces_93 : decode cX8_pieces 93 = .ok (.isub, 1) := dk_100 (dk_at dksX8_pieces_4 1 rfl rfl)
theorem dX8_pieces_94 : decode cX8_pieces 94 = .ok (.istore_n 2, 1) := dk_61 (dk_at dksX8_pieces_4 2 rfl rfl)
theorem dX8_pieces_95 : decode cX8_pieces 95 = .ok (.iinc 3 1, 3) := dk_132 3 1 (dk_at dksX8_pieces_4 3 rfl rfl)
theorem dX8_pieces_98 : decode cX8_pieces 98 = .ok (.goto (-61), 3) := dk_167 255 195 (dk_at dksX8_pieces_4 6 rfl rfl)
theorem dX8_pieces_101 : decode cX8_pieces 101 = .ok (.iconst 1, 1) := dk_4 (dk_at dksX8_pieces_4 9 rfl rfl)
theorem dX8_pieces_102 : decode cX8_pieces 102 = .ok (.istore_n 3, 1) := dk_62 (dk_at dksX8_pieces_4 10 rfl rfl)
theorem dX8_pieces_103 : decode cX8_pieces 103 = .ok (.iload_n 3, 1) := dk_29 (dk_at dksX8_pieces_4 11 rfl rfl)
theorem dX8_pieces_104 : decode cX8_pieces 104 = .ok (.aload_n 0, 1) := dk_42 (dk_at dksX8_pieces_4 12 rfl rfl)
theorem dX8_pieces_105 : decode cX8_pieces 105 = .ok (.invokevirtual 169, 3) := dk_182 0 169 (dk_at dksX8_pieces_4 13 rfl rfl)
theorem dX8_pieces_108 : decode cX8_pieces 108 = .ok (.if_icmp .ge 28, 3) := dk_162 0 28 (dk_at dksX8_pieces_4 16 rfl rfl)
theorem dX8_pieces_111 : decode cX8_pieces 111 = .ok (.iload_n 2, 1) := dk_28 (dk_at dksX8_pieces_4 19 rfl rfl)
theorem dX8_pieces_112 : decode cX8_pieces 112 = .ok (.aload_n 1, 1) := dk_43 (dk_at dksX8_pieces_4 20 rfl rfl)
theorem dX8_pieces_113 : decode cX8_pieces 113 = .ok (.iload_n 3, 1) := dk_29 (dk_at dksX8_pieces_4 21 rfl rfl)
theorem dX8_pieces_114 : decode cX8_pieces 114 = .ok (.iconst 1, 1) := dk_4 (dk_at dksX8_pieces_4 22 rfl rfl)
theorem dX8_pieces_115 : decode cX8_pieces 115 = .ok (.isub, 1) := dk_100 (dk_at dksX8_pieces_4 23 rfl rfl)
theorem dX8_pieces_116 : decode cX8_pieces 116 = .ok (.iload_n 3, 1) := dk_29 (dk_at dksX8_pieces_5 0 rfl rfl)
theorem dX8_pieces_117 : decode cX8_pieces 117 = .ok (.invokestatic 165, 3) := dk_184 0 165 (dk_at dksX8_pieces_5 1 rfl rfl)
theorem dX8_pieces_120 : decode cX8_pieces 120 = .ok (.ifCond .eq 7, 3) := dk_153 0 7 (dk_at dksX8_pieces_5 4 rfl rfl)
theorem dX8_pieces_123 : decode cX8_pieces 123 = .ok (.iconst 1, 1) := dk_4 (dk_at dksX8_pieces_5 7 rfl rfl)
theorem dX8_pieces_124 : decode cX8_pieces 124 = .ok (.goto 4, 3) := dk_167 0 4 (dk_at dksX8_pieces_5 8 rfl rfl)
theorem dX8_pieces_127 : decode cX8_pieces 127 = .ok (.iconst 0, 1) := dk_3 (dk_at dksX8_pieces_5 11 rfl rfl)
theorem dX8_pieces_128 : decode cX8_pieces 128 = .ok (.isub, 1) := dk_100 (dk_at dksX8_pieces_5 12 rfl rfl)
theorem dX8_pieces_129 : decode cX8_pieces 129 = .ok (.istore_n 2, 1) := dk_61 (dk_at dksX8_pieces_5 13 rfl rfl)
theorem dX8_pieces_130 : decode cX8_pieces 130 = .ok (.iinc 3 1, 3) := dk_132 3 1 (dk_at dksX8_pieces_5 14 rfl rfl)
theorem dX8_pieces_133 : decode cX8_pieces 133 = .ok (.goto (-30), 3) := dk_167 255 226 (dk_at dksX8_pieces_5 17 rfl rfl)
theorem dX8_pieces_136 : decode cX8_pieces 136 = .ok (.iload_n 2, 1) := dk_28 (dk_at dksX8_pieces_5 20 rfl rfl)
theorem dX8_pieces_137 : decode cX8_pieces 137 = .ok (.ireturn, 1) := dk_172 (dk_at dksX8_pieces_5 21 rfl rfl)
abbrev cX8_merges : ByteArray := prog_3_method_19_code
def yX8_merges : MethodName := ⟨RX8, "merges", "([III)Z"⟩
def dkwX8_merges_2 : List UInt8 := [132, 5, 1, 167, 255, 219, 29, 21, 4, 159, 0, 7, 4, 167, 0, 4, 3, 172]
abbrev dktX8_merges_2 : List UInt8 := dkwX8_merges_2 ++ []
def dkwX8_merges_1 : List UInt8 := [159, 0, 30, 42, 21, 5, 42, 21, 5, 46, 29, 160, 0, 8, 21, 4, 167, 0, 7, 42, 21, 5, 46, 79]
abbrev dktX8_merges_1 : List UInt8 := dkwX8_merges_1 ++ dktX8_merges_2
def dkwX8_merges_0 : List UInt8 := [42, 28, 46, 62, 42, 27, 46, 54, 4, 3, 54, 5, 21, 5, 42, 190, 162, 0, 36, 29, 21, 4]
abbrev dktX8_merges_0 : List UInt8 := dkwX8_merges_0 ++ dktX8_merges_1
theorem dksX8_merges_0 : cX8_merges.data.toList.drop 0 = dktX8_merges_0 := by decide +kernel
theorem dksX8_merges_1 : cX8_merges.data.toList.drop 22 = dktX8_merges_1 := dk_seg dksX8_merges_0 22 rfl rfl
theorem dksX8_merges_2 : cX8_merges.data.toList.drop 46 = dktX8_merges_2 := dk_seg dksX8_merges_1 24 rfl rfl
theorem dX8_merges_0 : decode cX8_merges 0 = .ok (.aload_n 0, 1) := dk_42 (dk_at dksX8_merges_0 0 rfl rfl)
theorem dX8_merges_1 : decode cX8_merges 1 = .ok (.iload_n 2, 1) := dk_28 (dk_at dksX8_merges_0 1 rfl rfl)
theorem dX8_merges_2 : decode cX8_merges 2 = .ok (.iaload, 1) := dk_46 (dk_at dksX8_merges_0 2 rfl rfl)
theorem dX8_merges_3 : decode cX8_merges 3 = .ok (.istore_n 3, 1) := dk_62 (dk_at dksX8_merges_0 3 rfl rfl)
theorem dX8_merges_4 : decode cX8_merges 4 = .ok (.aload_n 0, 1) := dk_42 (dk_at dksX8_merges_0 4 rfl rfl)
theorem dX8_merges_5 : decode cX8_merges 5 = .ok (.iload_n 1, 1) := dk_27 (dk_at dksX8_merges_0 5 rfl rfl)
theorem dX8_merges_6 : decode cX8_merges 6 = .ok (.iaload, 1) := dk_46 (dk_at dksX8_merges_0 6 rfl rfl)
theorem dX8_merges_7 : decode cX8_merges 7 = .ok (.istore 4, 2) := dk_54 4 (dk_at dksX8_merges_0 7 rfl rfl)
theorem dX8_merges_9 : decode cX8_merges 9 = .ok (.iconst 0, 1) := dk_3 (dk_at dksX8_merges_0 9 rfl rfl)
theorem dX8_merges_10 : decode cX8_merges 10 = .ok (.istore 5, 2) := dk_54 5 (dk_at dksX8_merges_0 10 rfl rfl)
theorem dX8_merges_12 : decode cX8_merges 12 = .ok (.iload 5, 2) := dk_21 5 (dk_at dksX8_merges_0 12 rfl rfl)
theorem dX8_merges_14 : decode cX8_merges 14 = .ok (.aload_n 0, 1) := dk_42 (dk_at dksX8_merges_0 14 rfl rfl)
theorem dX8_merges_15 : decode cX8_merges 15 = .ok (.arraylength, 1) := dk_190 (dk_at dksX8_merges_0 15 rfl rfl)
theorem dX8_merges_16 : decode cX8_merges 16 = .ok (.if_icmp .ge 36, 3) := dk_162 0 36 (dk_at dksX8_merges_0 16 rfl rfl)
theorem dX8_merges_19 : decode cX8_merges 19 = .ok (.iload_n 3, 1) := dk_29 (dk_at dksX8_merges_0 19 rfl rfl)
theorem dX8_merges_20 : decode cX8_merges 20 = .ok (.iload 4, 2) := dk_21 4 (dk_at dksX8_merges_0 20 rfl rfl)
theorem dX8_merges_22 : decode cX8_merges 22 = .ok (.if_icmp .eq 30, 3) := dk_159 0 30 (dk_at dksX8_merges_1 0 rfl rfl)
theorem dX8_merges_25 : decode cX8_merges 25 = .ok (.aload_n 0, 1) := dk_42 (dk_at dksX8_merges_1 3 rfl rfl)
theorem dX8_merges_26 : decode cX8_merges 26 = .ok (.iload 5, 2) := dk_21 5 (dk_at dksX8_merges_1 4 rfl rfl)
theorem dX8_merges_28 : decode cX8_merges 28 = .ok (.aload_n 0, 1) := dk_42 (dk_at dksX8_merges_1 6 rfl rfl)
theorem dX8_merges_29 : decode cX8_merges 29 = .ok (.iload 5, 2) := dk_21 5 (dk_at dksX8_merges_1 7 rfl rfl)
theorem dX8_merges_31 : decode cX8_merges 31 = .ok (.iaload, 1) := dk_46 (dk_at dksX8_merges_1 9 rfl rfl)
theorem dX8_merges_32 : decode cX8_merges 32 = .ok (.iload_n 3, 1) := dk_29 (dk_at dksX8_merges_1 10 rfl rfl)
theorem dX8_merges_33 : decode cX8_merges 33 = .ok (.if_icmp .ne 8, 3) := dk_160 0 8 (dk_at dksX8_merges_1 11 rfl rfl)
theorem dX8_merges_36 : decode cX8_merges 36 = .ok (.iload 4, 2) := dk_21 4 (dk_at dksX8_merges_1 14 rfl rfl)
theorem dX8_merges_38 : decode cX8_merges 38 = .ok (.goto 7, 3) := dk_167 0 7 (dk_at dksX8_merges_1 16 rfl rfl)
theorem dX8_merges_41 : decode cX8_merges 41 = .ok (.aload_n 0, 1) := dk_42 (dk_at dksX8_merges_1 19 rfl rfl)
theorem dX8_merges_42 : decode cX8_merges 42 = .ok (.iload 5, 2) := dk_21 5 (dk_at dksX8_merges_1 20 rfl rfl)
theorem dX8_merges_44 : decode cX8_merges 44 = .ok (.iaload, 1) := dk_46 (dk_at dksX8_merges_1 22 rfl rfl)
theorem dX8_merges_45 : decode cX8_merges 45 = .ok (.iastore, 1) := dk_79 (dk_at dksX8_merges_1 23 rfl rfl)
theorem dX8_merges_46 : decode cX8_merges 46 = .ok (.iinc 5 1, 3) := dk_132 5 1 (dk_at dksX8_merges_2 0 rfl rfl)
theorem dX8_merges_49 : decode cX8_merges 49 = .ok (.goto (-37), 3) := dk_167 255 219 (dk_at dksX8_merges_2 3 rfl rfl)
theorem dX8_merges_52 : decode cX8_merges 52 = .ok (.iload_n 3, 1) := dk_29 (dk_at dksX8_merges_2 6 rfl rfl)
theorem dX8_merges_53 : decode cX8_merges 53 = .ok (.iload 4, 2) := dk_21 4 (dk_at dksX8_merges_2 7 rfl rfl)
theorem dX8_merges_55 : decode cX8_merges 55 = .ok (.if_icmp .eq 7, 3) := dk_159 0 7 (dk_at dksX8_merges_2 9 rfl rfl)
theorem dX8_merges_58 : decode cX8_merges 58 = .ok (.iconst 1, 1) := dk_4 (dk_at dksX8_merges_2 12 rfl rfl)
theorem dX8_merges_59 : decode cX8_merges 59 = .ok (.goto 4, 3) := dk_167 0 4 (dk_at dksX8_merges_2 13 rfl rfl)
theorem dX8_merges_62 : decode cX8_merges 62 = .ok (.iconst 0, 1) := dk_3 (dk_at dksX8_merges_2 16 rfl rfl)
theorem dX8_merges_63 : decode cX8_merges 63 = .ok (.ireturn, 1) := dk_172 (dk_at dksX8_merges_2 17 rfl rfl)
abbrev cX8_readsTo : ByteArray := prog_3_method_14_code
def yX8_readsTo : MethodName := ⟨RX8, "readsTo", "()I"⟩
def dkwX8_readsTo_1 : List UInt8 := [27, 172]
abbrev dktX8_readsTo_1 : List UInt8 := dkwX8_readsTo_1 ++ []
def dkwX8_readsTo_0 : List UInt8 := [3, 60, 27, 42, 182, 0, 153, 162, 0, 17, 42, 27, 182, 0, 156, 154, 0, 9, 132, 1, 1, 167, 255, 237]
abbrev dktX8_readsTo_0 : List UInt8 := dkwX8_readsTo_0 ++ dktX8_readsTo_1
theorem dksX8_readsTo_0 : cX8_readsTo.data.toList.drop 0 = dktX8_readsTo_0 := by decide +kernel
theorem dksX8_readsTo_1 : cX8_readsTo.data.toList.drop 24 = dktX8_readsTo_1 := dk_seg dksX8_readsTo_0 24 rfl rfl
theorem dX8_readsTo_0 : decode cX8_readsTo 0 = .ok (.iconst 0, 1) := dk_3 (dk_at dksX8_readsTo_0 0 rfl rfl)
theorem dX8_readsTo_1 : decode cX8_readsTo 1 = .ok (.istore_n 1, 1) := dk_60 (dk_at dksX8_readsTo_0 1 rfl rfl)
theorem dX8_readsTo_2 : decode cX8_readsTo 2 = .ok (.iload_n 1, 1) := dk_27 (dk_at dksX8_readsTo_0 2 rfl rfl)
theorem dX8_readsTo_3 : decode cX8_readsTo 3 = .ok (.aload_n 0, 1) := dk_42 (dk_at dksX8_readsTo_0 3 rfl rfl)
theorem dX8_readsTo_4 : decode cX8_readsTo 4 = .ok (.invokevirtual 153, 3) := dk_182 0 153 (dk_at dksX8_readsTo_0 4 rfl rfl)
theorem dX8_readsTo_7 : decode cX8_readsTo 7 = .ok (.if_icmp .ge 17, 3) := dk_162 0 17 (dk_at dksX8_readsTo_0 7 rfl rfl)
theorem dX8_readsTo_10 : decode cX8_readsTo 10 = .ok (.aload_n 0, 1) := dk_42 (dk_at dksX8_readsTo_0 10 rfl rfl)
theorem dX8_readsTo_11 : decode cX8_readsTo 11 = .ok (.iload_n 1, 1) := dk_27 (dk_at dksX8_readsTo_0 11 rfl rfl)
theorem dX8_readsTo_12 : decode cX8_readsTo 12 = .ok (.invokevirtual 156, 3) := dk_182 0 156 (dk_at dksX8_readsTo_0 12 rfl rfl)
theorem dX8_readsTo_15 : decode cX8_readsTo 15 = .ok (.ifCond .ne 9, 3) := dk_154 0 9 (dk_at dksX8_readsTo_0 15 rfl rfl)
theorem dX8_readsTo_18 : decode cX8_readsTo 18 = .ok (.iinc 1 1, 3) := dk_132 1 1 (dk_at dksX8_readsTo_0 18 rfl rfl)
theorem dX8_readsTo_21 : decode cX8_readsTo 21 = .ok (.goto (-19), 3) := dk_167 255 237 (dk_at dksX8_readsTo_0 21 rfl rfl)
theorem dX8_readsTo_24 : decode cX8_readsTo 24 = .ok (.iload_n 1, 1) := dk_27 (dk_at dksX8_readsTo_1 0 rfl rfl)
theorem dX8_readsTo_25 : decode cX8_readsTo 25 = .ok (.ireturn, 1) := dk_172 (dk_at dksX8_readsTo_1 1 rfl rfl)
abbrev cX8_showsAll : ByteArray := prog_3_method_22_code
def yX8_showsAll : MethodName := ⟨RX8, "showsAll", "()Z"⟩
def dkwX8_showsAll_2 : List UInt8 := [172]
abbrev dktX8_showsAll_2 : List UInt8 := dkwX8_showsAll_2 ++ []
def dkwX8_showsAll_1 : List UInt8 := [180, 0, 18, 180, 0, 187, 28, 182, 0, 43, 192, 0, 177, 182, 0, 190, 60, 132, 2, 1, 167, 255, 216, 27]
abbrev dktX8_showsAll_1 : List UInt8 := dkwX8_showsAll_1 ++ dktX8_showsAll_2
def dkwX8_showsAll_0 : List UInt8 := [4, 60, 3, 61, 28, 42, 180, 0, 18, 180, 0, 187, 182, 0, 39, 162, 0, 32, 27, 153, 0, 28, 42, 42]
abbrev dktX8_showsAll_0 : List UInt8 := dkwX8_showsAll_0 ++ dktX8_showsAll_1
theorem dksX8_showsAll_0 : cX8_showsAll.data.toList.drop 0 = dktX8_showsAll_0 := by decide +kernel
theorem dksX8_showsAll_1 : cX8_showsAll.data.toList.drop 24 = dktX8_showsAll_1 := dk_seg dksX8_showsAll_0 24 rfl rfl
theorem dksX8_showsAll_2 : cX8_showsAll.data.toList.drop 48 = dktX8_showsAll_2 := dk_seg dksX8_showsAll_1 24 rfl rfl
theorem dX8_showsAll_0 : decode cX8_showsAll 0 = .ok (.iconst 1, 1) := dk_4 (dk_at dksX8_showsAll_0 0 rfl rfl)
theorem dX8_showsAll_1 : decode cX8_showsAll 1 = .ok (.istore_n 1, 1) := dk_60 (dk_at dksX8_showsAll_0 1 rfl rfl)
theorem dX8_showsAll_2 : decode cX8_showsAll 2 = .ok (.iconst 0, 1) := dk_3 (dk_at dksX8_showsAll_0 2 rfl rfl)
theorem dX8_showsAll_3 : decode cX8_showsAll 3 = .ok (.istore_n 2, 1) := dk_61 (dk_at dksX8_showsAll_0 3 rfl rfl)
theorem dX8_showsAll_4 : decode cX8_showsAll 4 = .ok (.iload_n 2, 1) := dk_28 (dk_at dksX8_showsAll_0 4 rfl rfl)
theorem dX8_showsAll_5 : decode cX8_showsAll 5 = .ok (.aload_n 0, 1) := dk_42 (dk_at dksX8_showsAll_0 5 rfl rfl)
theorem dX8_showsAll_6 : decode cX8_showsAll 6 = .ok (.getfield 18, 3) := dk_180 0 18 (dk_at dksX8_showsAll_0 6 rfl rfl)
theorem dX8_showsAll_9 : decode cX8_showsAll 9 = .ok (.getfield 187, 3) := dk_180 0 187 (dk_at dksX8_showsAll_0 9 rfl rfl)
theorem dX8_showsAll_12 : decode cX8_showsAll 12 = .ok (.invokevirtual 39, 3) := dk_182 0 39 (dk_at dksX8_showsAll_0 12 rfl rfl)
theorem dX8_showsAll_15 : decode cX8_showsAll 15 = .ok (.if_icmp .ge 32, 3) := dk_162 0 32 (dk_at dksX8_showsAll_0 15 rfl rfl)
theorem dX8_showsAll_18 : decode cX8_showsAll 18 = .ok (.iload_n 1, 1) := dk_27 (dk_at dksX8_showsAll_0 18 rfl rfl)
theorem dX8_showsAll_19 : decode cX8_showsAll 19 = .ok (.ifCond .eq 28, 3) := dk_153 0 28 (dk_at dksX8_showsAll_0 19 rfl rfl)
theorem dX8_showsAll_22 : decode cX8_showsAll 22 = .ok (.aload_n 0, 1) := dk_42 (dk_at dksX8_showsAll_0 22 rfl rfl)
theorem dX8_showsAll_23 : decode cX8_showsAll 23 = .ok (.aload_n 0, 1) := dk_42 (dk_at dksX8_showsAll_0 23 rfl rfl)
theorem dX8_showsAll_24 : decode cX8_showsAll 24 = .ok (.getfield 18, 3) := dk_180 0 18 (dk_at dksX8_showsAll_1 0 rfl rfl)
theorem dX8_showsAll_27 : decode cX8_showsAll 27 = .ok (.getfield 187, 3) := dk_180 0 187 (dk_at dksX8_showsAll_1 3 rfl rfl)
theorem dX8_showsAll_30 : decode cX8_showsAll 30 = .ok (.iload_n 2, 1) := dk_28 (dk_at dksX8_showsAll_1 6 rfl rfl)
theorem dX8_showsAll_31 : decode cX8_showsAll 31 = .ok (.invokevirtual 43, 3) := dk_182 0 43 (dk_at dksX8_showsAll_1 7 rfl rfl)
theorem dX8_showsAll_34 : decode cX8_showsAll 34 = .ok (.checkcast 177, 3) := dk_192 0 177 (dk_at dksX8_showsAll_1 10 rfl rfl)
theorem dX8_showsAll_37 : decode cX8_showsAll 37 = .ok (.invokevirtual 190, 3) := dk_182 0 190 (dk_at dksX8_showsAll_1 13 rfl rfl)
theorem dX8_showsAll_40 : decode cX8_showsAll 40 = .ok (.istore_n 1, 1) := dk_60 (dk_at dksX8_showsAll_1 16 rfl rfl)
theorem dX8_showsAll_41 : decode cX8_showsAll 41 = .ok (.iinc 2 1, 3) := dk_132 2 1 (dk_at dksX8_showsAll_1 17 rfl rfl)
theorem dX8_showsAll_44 : decode cX8_showsAll 44 = .ok (.goto (-40), 3) := dk_167 255 216 (dk_at dksX8_showsAll_1 20 rfl rfl)
theorem dX8_showsAll_47 : decode cX8_showsAll 47 = .ok (.iload_n 1, 1) := dk_27 (dk_at dksX8_showsAll_1 23 rfl rfl)
theorem dX8_showsAll_48 : decode cX8_showsAll 48 = .ok (.ireturn, 1) := dk_172 (dk_at dksX8_showsAll_2 0 rfl rfl)
abbrev cX8_shows : ByteArray := prog_3_method_21_code
def yX8_shows : MethodName := ⟨RX8, "shows", "(LCribBooklet$Sight;)Z"⟩
def dkwX8_shows_1 : List UInt8 := [182, 0, 184, 159, 0, 7, 4, 167, 0, 4, 3, 172]
abbrev dktX8_shows_1 : List UInt8 := dkwX8_shows_1 ++ []
def dkwX8_shows_0 : List UInt8 := [42, 43, 182, 0, 176, 182, 0, 144, 43, 182, 0, 181, 160, 0, 22, 42, 43, 182, 0, 176, 182, 0, 150, 43]
abbrev dktX8_shows_0 : List UInt8 := dkwX8_shows_0 ++ dktX8_shows_1
theorem dksX8_shows_0 : cX8_shows.data.toList.drop 0 = dktX8_shows_0 := by decide +kernel
theorem dksX8_shows_1 : cX8_shows.data.toList.drop 24 = dktX8_shows_1 := dk_seg dksX8_shows_0 24 rfl rfl
theorem dX8_shows_0 : decode cX8_shows 0 = .ok (.aload_n 0, 1) := dk_42 (dk_at dksX8_shows_0 0 rfl rfl)
theorem dX8_shows_1 : decode cX8_shows 1 = .ok (.aload_n 1, 1) := dk_43 (dk_at dksX8_shows_0 1 rfl rfl)
theorem dX8_shows_2 : decode cX8_shows 2 = .ok (.invokevirtual 176, 3) := dk_182 0 176 (dk_at dksX8_shows_0 2 rfl rfl)
theorem dX8_shows_5 : decode cX8_shows 5 = .ok (.invokevirtual 144, 3) := dk_182 0 144 (dk_at dksX8_shows_0 5 rfl rfl)
theorem dX8_shows_8 : decode cX8_shows 8 = .ok (.aload_n 1, 1) := dk_43 (dk_at dksX8_shows_0 8 rfl rfl)
theorem dX8_shows_9 : decode cX8_shows 9 = .ok (.invokevirtual 181, 3) := dk_182 0 181 (dk_at dksX8_shows_0 9 rfl rfl)
theorem dX8_shows_12 : decode cX8_shows 12 = .ok (.if_icmp .ne 22, 3) := dk_160 0 22 (dk_at dksX8_shows_0 12 rfl rfl)
theorem dX8_shows_15 : decode cX8_shows 15 = .ok (.aload_n 0, 1) := dk_42 (dk_at dksX8_shows_0 15 rfl rfl)
theorem dX8_shows_16 : decode cX8_shows 16 = .ok (.aload_n 1, 1) := dk_43 (dk_at dksX8_shows_0 16 rfl rfl)
theorem dX8_shows_17 : decode cX8_shows 17 = .ok (.invokevirtual 176, 3) := dk_182 0 176 (dk_at dksX8_shows_0 17 rfl rfl)
theorem dX8_shows_20 : decode cX8_shows 20 = .ok (.invokevirtual 150, 3) := dk_182 0 150 (dk_at dksX8_shows_0 20 rfl rfl)
theorem dX8_shows_23 : decode cX8_shows 23 = .ok (.aload_n 1, 1) := dk_43 (dk_at dksX8_shows_0 23 rfl rfl)
theorem dX8_shows_24 : decode cX8_shows 24 = .ok (.invokevirtual 184, 3) := dk_182 0 184 (dk_at dksX8_shows_1 0 rfl rfl)
theorem dX8_shows_27 : decode cX8_shows 27 = .ok (.if_icmp .eq 7, 3) := dk_159 0 7 (dk_at dksX8_shows_1 3 rfl rfl)
theorem dX8_shows_30 : decode cX8_shows 30 = .ok (.iconst 1, 1) := dk_4 (dk_at dksX8_shows_1 6 rfl rfl)
theorem dX8_shows_31 : decode cX8_shows 31 = .ok (.goto 4, 3) := dk_167 0 4 (dk_at dksX8_shows_1 7 rfl rfl)
theorem dX8_shows_34 : decode cX8_shows 34 = .ok (.iconst 0, 1) := dk_3 (dk_at dksX8_shows_1 10 rfl rfl)
theorem dX8_shows_35 : decode cX8_shows 35 = .ok (.ireturn, 1) := dk_172 (dk_at dksX8_shows_1 11 rfl rfl)
abbrev cX8_ownNumbers : ByteArray := prog_3_method_23_code
def yX8_ownNumbers : MethodName := ⟨RX8, "ownNumbers", "()I"⟩
def dkwX8_ownNumbers_1 : List UInt8 := [153, 0, 9, 132, 1, 1, 167, 255, 228, 27, 172]
abbrev dktX8_ownNumbers_1 : List UInt8 := dkwX8_ownNumbers_1 ++ []
def dkwX8_ownNumbers_0 : List UInt8 := [3, 60, 27, 42, 182, 0, 153, 162, 0, 26, 42, 27, 182, 0, 144, 27, 160, 0, 17, 42, 27, 182, 0, 150]
abbrev dktX8_ownNumbers_0 : List UInt8 := dkwX8_ownNumbers_0 ++ dktX8_ownNumbers_1
theorem dksX8_ownNumbers_0 : cX8_ownNumbers.data.toList.drop 0 = dktX8_ownNumbers_0 := by decide +kernel
theorem dksX8_ownNumbers_1 : cX8_ownNumbers.data.toList.drop 24 = dktX8_ownNumbers_1 := dk_seg dksX8_ownNumbers_0 24 rfl rfl
theorem dX8_ownNumbers_0 : decode cX8_ownNumbers 0 = .ok (.iconst 0, 1) := dk_3 (dk_at dksX8_ownNumbers_0 0 rfl rfl)
theorem dX8_ownNumbers_1 : decode cX8_ownNumbers 1 = .ok (.istore_n 1, 1) := dk_60 (dk_at dksX8_ownNumbers_0 1 rfl rfl)
theorem dX8_ownNumbers_2 : decode cX8_ownNumbers 2 = .ok (.iload_n 1, 1) := dk_27 (dk_at dksX8_ownNumbers_0 2 rfl rfl)
theorem dX8_ownNumbers_3 : decode cX8_ownNumbers 3 = .ok (.aload_n 0, 1) := dk_42 (dk_at dksX8_ownNumbers_0 3 rfl rfl)
theorem dX8_ownNumbers_4 : decode cX8_ownNumbers 4 = .ok (.invokevirtual 153, 3) := dk_182 0 153 (dk_at dksX8_ownNumbers_0 4 rfl rfl)
theorem dX8_ownNumbers_7 : decode cX8_ownNumbers 7 = .ok (.if_icmp .ge 26, 3) := dk_162 0 26 (dk_at dksX8_ownNumbers_0 7 rfl rfl)
theorem dX8_ownNumbers_10 : decode cX8_ownNumbers 10 = .ok (.aload_n 0, 1) := dk_42 (dk_at dksX8_ownNumbers_0 10 rfl rfl)
theorem dX8_ownNumbers_11 : decode cX8_ownNumbers 11 = .ok (.iload_n 1, 1) := dk_27 (dk_at dksX8_ownNumbers_0 11 rfl rfl)
theorem dX8_ownNumbers_12 : decode cX8_ownNumbers 12 = .ok (.invokevirtual 144, 3) := dk_182 0 144 (dk_at dksX8_ownNumbers_0 12 rfl rfl)
theorem dX8_ownNumbers_15 : decode cX8_ownNumbers 15 = .ok (.iload_n 1, 1) := dk_27 (dk_at dksX8_ownNumbers_0 15 rfl rfl)
theorem dX8_ownNumbers_16 : decode cX8_ownNumbers 16 = .ok (.if_icmp .ne 17, 3) := dk_160 0 17 (dk_at dksX8_ownNumbers_0 16 rfl rfl)
theorem dX8_ownNumbers_19 : decode cX8_ownNumbers 19 = .ok (.aload_n 0, 1) := dk_42 (dk_at dksX8_ownNumbers_0 19 rfl rfl)
theorem dX8_ownNumbers_20 : decode cX8_ownNumbers 20 = .ok (.iload_n 1, 1) := dk_27 (dk_at dksX8_ownNumbers_0 20 rfl rfl)
theorem dX8_ownNumbers_21 : decode cX8_ownNumbers 21 = .ok (.invokevirtual 150, 3) := dk_182 0 150 (dk_at dksX8_ownNumbers_0 21 rfl rfl)
theorem dX8_ownNumbers_24 : decode cX8_ownNumbers 24 = .ok (.ifCond .eq 9, 3) := dk_153 0 9 (dk_at dksX8_ownNumbers_1 0 rfl rfl)
theorem dX8_ownNumbers_27 : decode cX8_ownNumbers 27 = .ok (.iinc 1 1, 3) := dk_132 1 1 (dk_at dksX8_ownNumbers_1 3 rfl rfl)
theorem dX8_ownNumbers_30 : decode cX8_ownNumbers 30 = .ok (.goto (-28), 3) := dk_167 255 228 (dk_at dksX8_ownNumbers_1 6 rfl rfl)
theorem dX8_ownNumbers_33 : decode cX8_ownNumbers 33 = .ok (.iload_n 1, 1) := dk_27 (dk_at dksX8_ownNumbers_1 9 rfl rfl)
theorem dX8_ownNumbers_34 : decode cX8_ownNumbers 34 = .ok (.ireturn, 1) := dk_172 (dk_at dksX8_ownNumbers_1 10 rfl rfl)
abbrev cX8_otherEdges : ByteArray := prog_3_method_24_code
def yX8_otherEdges : MethodName := ⟨RX8, "otherEdges", "()I"⟩
def dkwX8_otherEdges_2 : List UInt8 := [182, 0, 56, 120, 2, 130, 126, 172]
abbrev dktX8_otherEdges_2 : List UInt8 := dkwX8_otherEdges_2 ++ []
def dkwX8_otherEdges_1 : List UInt8 := [182, 0, 43, 192, 0, 47, 182, 0, 53, 120, 128, 60, 132, 2, 1, 167, 255, 223, 27, 4, 42, 180, 0, 18]
abbrev dktX8_otherEdges_1 : List UInt8 := dkwX8_otherEdges_1 ++ dktX8_otherEdges_2
def dkwX8_otherEdges_0 : List UInt8 := [3, 60, 3, 61, 28, 42, 180, 0, 12, 182, 0, 39, 162, 0, 28, 27, 4, 42, 180, 0, 12, 28]
abbrev dktX8_otherEdges_0 : List UInt8 := dkwX8_otherEdges_0 ++ dktX8_otherEdges_1
theorem dksX8_otherEdges_0 : cX8_otherEdges.data.toList.drop 0 = dktX8_otherEdges_0 := by decide +kernel
theorem dksX8_otherEdges_1 : cX8_otherEdges.data.toList.drop 22 = dktX8_otherEdges_1 := dk_seg dksX8_otherEdges_0 22 rfl rfl
theorem dksX8_otherEdges_2 : cX8_otherEdges.data.toList.drop 46 = dktX8_otherEdges_2 := dk_seg dksX8_otherEdges_1 24 rfl rfl
theorem dX8_otherEdges_0 : decode cX8_otherEdges 0 = .ok (.iconst 0, 1) := dk_3 (dk_at dksX8_otherEdges_0 0 rfl rfl)
theorem dX8_otherEdges_1 : decode cX8_otherEdges 1 = .ok (.istore_n 1, 1) := dk_60 (dk_at dksX8_otherEdges_0 1 rfl rfl)
theorem dX8_otherEdges_2 : decode cX8_otherEdges 2 = .ok (.iconst 0, 1) := dk_3 (dk_at dksX8_otherEdges_0 2 rfl rfl)
theorem dX8_otherEdges_3 : decode cX8_otherEdges 3 = .ok (.istore_n 2, 1) := dk_61 (dk_at dksX8_otherEdges_0 3 rfl rfl)
theorem dX8_otherEdges_4 : decode cX8_otherEdges 4 = .ok (.iload_n 2, 1) := dk_28 (dk_at dksX8_otherEdges_0 4 rfl rfl)
theorem dX8_otherEdges_5 : decode cX8_otherEdges 5 = .ok (.aload_n 0, 1) := dk_42 (dk_at dksX8_otherEdges_0 5 rfl rfl)
theorem dX8_otherEdges_6 : decode cX8_otherEdges 6 = .ok (.getfield 12, 3) := dk_180 0 12 (dk_at dksX8_otherEdges_0 6 rfl rfl)
theorem dX8_otherEdges_9 : decode cX8_otherEdges 9 = .ok (.invokevirtual 39, 3) := dk_182 0 39 (dk_at dksX8_otherEdges_0 9 rfl rfl)
theorem dX8_otherEdges_12 : decode cX8_otherEdges 12 = .ok (.if_icmp .ge 28, 3) := dk_162 0 28 (dk_at dksX8_otherEdges_0 12 rfl rfl)
theorem dX8_otherEdges_15 : decode cX8_otherEdges 15 = .ok (.iload_n 1, 1) := dk_27 (dk_at dksX8_otherEdges_0 15 rfl rfl)
theorem dX8_otherEdges_16 : decode cX8_otherEdges 16 = .ok (.iconst 1, 1) := dk_4 (dk_at dksX8_otherEdges_0 16 rfl rfl)
theorem dX8_otherEdges_17 : decode cX8_otherEdges 17 = .ok (.aload_n 0, 1) := dk_42 (dk_at dksX8_otherEdges_0 17 rfl rfl)
theorem dX8_otherEdges_18 : decode cX8_otherEdges 18 = .ok (.getfield 12, 3) := dk_180 0 12 (dk_at dksX8_otherEdges_0 18 rfl rfl)
theorem dX8_otherEdges_21 : decode cX8_otherEdges 21 = .ok (.iload_n 2, 1) := dk_28 (dk_at dksX8_otherEdges_0 21 rfl rfl)
theorem dX8_otherEdges_22 : decode cX8_otherEdges 22 = .ok (.invokevirtual 43, 3) := dk_182 0 43 (dk_at dksX8_otherEdges_1 0 rfl rfl)
theorem dX8_otherEdges_25 : decode cX8_otherEdges 25 = .ok (.checkcast 47, 3) := dk_192 0 47 (dk_at dksX8_otherEdges_1 3 rfl rfl)
theorem dX8_otherEdges_28 : decode cX8_otherEdges 28 = .ok (.invokevirtual 53, 3) := dk_182 0 53 (dk_at dksX8_otherEdges_1 6 rfl rfl)
theorem dX8_otherEdges_31 : decode cX8_otherEdges 31 = .ok (.ishl, 1) := dk_120 (dk_at dksX8_otherEdges_1 9 rfl rfl)
theorem dX8_otherEdges_32 : decode cX8_otherEdges 32 = .ok (.ior, 1) := dk_128 (dk_at dksX8_otherEdges_1 10 rfl rfl)
theorem dX8_otherEdges_33 : decode cX8_otherEdges 33 = .ok (.istore_n 1, 1) := dk_60 (dk_at dksX8_otherEdges_1 11 rfl rfl)
theorem dX8_otherEdges_34 : decode cX8_otherEdges 34 = .ok (.iinc 2 1, 3) := dk_132 2 1 (dk_at dksX8_otherEdges_1 12 rfl rfl)
theorem dX8_otherEdges_37 : decode cX8_otherEdges 37 = .ok (.goto (-33), 3) := dk_167 255 223 (dk_at dksX8_otherEdges_1 15 rfl rfl)
theorem dX8_otherEdges_40 : decode cX8_otherEdges 40 = .ok (.iload_n 1, 1) := dk_27 (dk_at dksX8_otherEdges_1 18 rfl rfl)
theorem dX8_otherEdges_41 : decode cX8_otherEdges 41 = .ok (.iconst 1, 1) := dk_4 (dk_at dksX8_otherEdges_1 19 rfl rfl)
theorem dX8_otherEdges_42 : decode cX8_otherEdges 42 = .ok (.aload_n 0, 1) := dk_42 (dk_at dksX8_otherEdges_1 20 rfl rfl)
theorem dX8_otherEdges_43 : decode cX8_otherEdges 43 = .ok (.getfield 18, 3) := dk_180 0 18 (dk_at dksX8_otherEdges_1 21 rfl rfl)
theorem dX8_otherEdges_46 : decode cX8_otherEdges 46 = .ok (.invokevirtual 56, 3) := dk_182 0 56 (dk_at dksX8_otherEdges_2 0 rfl rfl)
theorem dX8_otherEdges_49 : decode cX8_otherEdges 49 = .ok (.ishl, 1) := dk_120 (dk_at dksX8_otherEdges_2 3 rfl rfl)
theorem dX8_otherEdges_50 : decode cX8_otherEdges 50 = .ok (.iconst (-1), 1) := dk_2 (dk_at dksX8_otherEdges_2 4 rfl rfl)
theorem dX8_otherEdges_51 : decode cX8_otherEdges 51 = .ok (.ixor, 1) := dk_130 (dk_at dksX8_otherEdges_2 5 rfl rfl)
theorem dX8_otherEdges_52 : decode cX8_otherEdges 52 = .ok (.iand, 1) := dk_126 (dk_at dksX8_otherEdges_2 6 rfl rfl)
theorem dX8_otherEdges_53 : decode cX8_otherEdges 53 = .ok (.ireturn, 1) := dk_172 (dk_at dksX8_otherEdges_2 7 rfl rfl)
theorem q119 : (Jvm.Cond.initialized "CribBooklet$Booklet") ∈ lw_all := lw_g (lw_at lw_m1 33 rfl) rfl
theorem q211 : (Jvm.Cond.fieldLinkNest "CribBooklet$Booklet" (87 : Nat) "CribBooklet$Sheet" "rows" "I" "CribBooklet") ∈ lw_tbl := lw_at lw_m1 125 rfl
theorem q215 : (Jvm.Cond.fieldLinkNest "CribBooklet$Booklet" (73 : Nat) "CribBooklet$Sheet" "columns" "I" "CribBooklet") ∈ lw_tbl := lw_at lw_m1 129 rfl
theorem q229 : (Jvm.Cond.fieldLinkNest "CribBooklet$Booklet" (128 : Nat) "CribBooklet$Sheet" "numbers" "[I" "CribBooklet") ∈ lw_tbl := lw_at lw_m1 143 rfl
theorem q232 : (Jvm.Cond.fieldLinkNest "CribBooklet$Booklet" (140 : Nat) "CribBooklet$Sheet" "turned" "[Z" "CribBooklet") ∈ lw_tbl := lw_at lw_m1 146 rfl
theorem q236 : (Jvm.Cond.fieldLinkNest "CribBooklet$Booklet" (133 : Nat) "CribBooklet$Sheet" "spine" "I" "CribBooklet") ∈ lw_tbl := lw_at lw_m1 150 rfl
theorem q240 : (Jvm.Cond.fieldLinkNest "CribBooklet$Booklet" (108 : Nat) "CribBooklet$Sheet" "cuts" "I" "CribBooklet") ∈ lw_tbl := lw_at lw_m1 154 rfl
theorem q248 : (Jvm.Cond.fieldLinkNest "CribBooklet$Booklet" (159 : Nat) "CribBooklet$Sheet" "staples" "I" "CribBooklet") ∈ lw_tbl := lw_at lw_m1 162 rfl
theorem q252 : (Jvm.Cond.fieldLinkNest "CribBooklet$Booklet" (162 : Nat) "CribBooklet$Sheet" "legs" "I" "CribBooklet") ∈ lw_tbl := lw_at lw_m1 166 rfl
theorem q262 : (Jvm.Cond.fieldLinkNest "CribBooklet$Booklet" (187 : Nat) "CribBooklet$Sheet" "sights" "Ljava/util/ArrayList;" "CribBooklet") ∈ lw_tbl := lw_at lw_m1 176 rfl
theorem q477 : (Jvm.Cond.fieldLinkNest "CribBooklet$Booklet" (67 : Nat) "CribBooklet$Layer" "row" "I" "CribBooklet") ∈ lw_tbl := lw_at lw_m2 151 rfl
theorem q479 : (Jvm.Cond.fieldLinkNest "CribBooklet$Booklet" (76 : Nat) "CribBooklet$Layer" "column" "I" "CribBooklet") ∈ lw_tbl := lw_at lw_m2 153 rfl
theorem q481 : (Jvm.Cond.fieldLinkNest "CribBooklet$Booklet" (79 : Nat) "CribBooklet$Layer" "isMirrored" "Z" "CribBooklet") ∈ lw_tbl := lw_at lw_m2 155 rfl
theorem q483 : (Jvm.Cond.fieldLinkNest "CribBooklet$Booklet" (90 : Nat) "CribBooklet$Layer" "isUpsideDown" "Z" "CribBooklet") ∈ lw_tbl := lw_at lw_m2 157 rfl
theorem q495 : (Jvm.Cond.fieldLinkNest "CribBooklet$Booklet" (22 : Nat) "CribBooklet$Folding" "places" "[[LCribBooklet$Layer;" "CribBooklet") ∈ lw_tbl := lw_at lw_m2 169 rfl
theorem q699 : (Jvm.Cond.selects "CribBooklet$Booklet" ({ cls := "java/lang/Object", name := "getClass", desc := "()Ljava/lang/Class;" } : Jvm.MethodName) ({ cls := "java/lang/Object", name := "getClass", desc := "()Ljava/lang/Class;" } : Jvm.MethodName)) ∈ lw_all := lw_g (lw_at lw_m3 133 rfl) rfl
theorem q1127 : (Jvm.Cond.instantiable "CribBooklet$Booklet" (4 : Nat)) ∈ lw_all := lw_g (lw_at lw_m5 81 rfl) rfl
theorem q1130 : (Jvm.Cond.instanceMethod ({ cls := "CribBooklet$Booklet", name := "<init>", desc := "(LCribBooklet$Sheet;LCribBooklet$Folding;)V" } : Jvm.MethodName)) ∈ lw_all := lw_g (lw_at lw_m5 84 rfl) rfl
theorem q1131 : (Jvm.Cond.code ({ cls := "CribBooklet$Booklet", name := "<init>", desc := "(LCribBooklet$Sheet;LCribBooklet$Folding;)V" } : Jvm.MethodName) prog_3_method_1_code (6 : Nat) (Option.none : Option Jvm.ClassFile.FieldType)) ∈ lw_all := lw_g (lw_at lw_m5 85 rfl) rfl
theorem q1132 : (Jvm.Cond.methodLink "CribBooklet$Booklet" (3 : Nat) ({ cls := "java/lang/Object", name := "<init>", desc := "()V" } : Jvm.MethodName)) ∈ lw_all := lw_g (lw_at lw_m5 86 rfl) rfl
theorem q1133 : (Jvm.Cond.classLink "CribBooklet$Booklet" (9 : Nat) "java/util/ArrayList") ∈ lw_all := lw_g (lw_at lw_m5 87 rfl) rfl
theorem q1134 : (Jvm.Cond.methodLink "CribBooklet$Booklet" (11 : Nat) ({ cls := "java/util/ArrayList", name := "<init>", desc := "()V" } : Jvm.MethodName)) ∈ lw_all := lw_g (lw_at lw_m5 88 rfl) rfl
theorem q1135 : (Jvm.Cond.methodLink "CribBooklet$Booklet" (36 : Nat) ({ cls := "CribBooklet$Booklet", name := "join", desc := "()V" } : Jvm.MethodName)) ∈ lw_all := lw_g (lw_at lw_m5 89 rfl) rfl
theorem q1136 : (Jvm.Cond.privateMethod ({ cls := "CribBooklet$Booklet", name := "join", desc := "()V" } : Jvm.MethodName)) ∈ lw_tbl := lw_at lw_m5 90 rfl
theorem q1137 : (Jvm.Cond.instanceMethod ({ cls := "CribBooklet$Booklet", name := "join", desc := "()V" } : Jvm.MethodName)) ∈ lw_all := lw_g (lw_at lw_m5 91 rfl) rfl
theorem q1138 : (Jvm.Cond.code ({ cls := "CribBooklet$Booklet", name := "join", desc := "()V" } : Jvm.MethodName) prog_3_method_2_code (4 : Nat) (Option.none : Option Jvm.ClassFile.FieldType)) ∈ lw_all := lw_g (lw_at lw_m5 92 rfl) rfl
theorem q1139 : (Jvm.Cond.methodLink "CribBooklet$Booklet" (83 : Nat) ({ cls := "CribBooklet$Booklet", name := "addJoint", desc := "(III)V" } : Jvm.MethodName)) ∈ lw_all := lw_g (lw_at lw_m5 93 rfl) rfl
theorem q1140 : (Jvm.Cond.privateMethod ({ cls := "CribBooklet$Booklet", name := "addJoint", desc := "(III)V" } : Jvm.MethodName)) ∈ lw_tbl := lw_at lw_m5 94 rfl
theorem q1141 : (Jvm.Cond.instanceMethod ({ cls := "CribBooklet$Booklet", name := "addJoint", desc := "(III)V" } : Jvm.MethodName)) ∈ lw_all := lw_g (lw_at lw_m5 95 rfl) rfl
theorem q1142 : (Jvm.Cond.code ({ cls := "CribBooklet$Booklet", name := "addJoint", desc := "(III)V" } : Jvm.MethodName) prog_3_method_3_code (4 : Nat) (Option.none : Option Jvm.ClassFile.FieldType)) ∈ lw_all := lw_g (lw_at lw_m5 96 rfl) rfl
theorem q1143 : (Jvm.Cond.classLink "CribBooklet$Booklet" (47 : Nat) "CribBooklet$Joint") ∈ lw_all := lw_g (lw_at lw_m5 97 rfl) rfl
theorem q1145 : (Jvm.Cond.methodLink "CribBooklet$Booklet" (93 : Nat) ({ cls := "java/lang/Math", name := "min", desc := "(II)I" } : Jvm.MethodName)) ∈ lw_all := lw_g (lw_at lw_m5 99 rfl) rfl
theorem q1146 : (Jvm.Cond.methodLink "CribBooklet$Booklet" (99 : Nat) ({ cls := "java/lang/Math", name := "max", desc := "(II)I" } : Jvm.MethodName)) ∈ lw_all := lw_g (lw_at lw_m5 100 rfl) rfl
theorem q1147 : (Jvm.Cond.methodLinkNest "CribBooklet$Booklet" (102 : Nat) ({ cls := "CribBooklet$Joint", name := "<init>", desc := "(III)V" } : Jvm.MethodName) "CribBooklet") ∈ lw_tbl := lw_at lw_m5 101 rfl
theorem q1161 : (Jvm.Cond.methodLink "CribBooklet$Booklet" (104 : Nat) ({ cls := "java/util/ArrayList", name := "add", desc := "(Ljava/lang/Object;)Z" } : Jvm.MethodName)) ∈ lw_all := lw_g (lw_at lw_m5 115 rfl) rfl
theorem q1162 : (Jvm.Cond.methodLink "CribBooklet$Booklet" (39 : Nat) ({ cls := "java/util/ArrayList", name := "size", desc := "()I" } : Jvm.MethodName)) ∈ lw_all := lw_g (lw_at lw_m5 116 rfl) rfl
theorem q1163 : (Jvm.Cond.methodLink "CribBooklet$Booklet" (43 : Nat) ({ cls := "java/util/ArrayList", name := "get", desc := "(I)Ljava/lang/Object;" } : Jvm.MethodName)) ∈ lw_all := lw_g (lw_at lw_m5 117 rfl) rfl
theorem q1177 : (Jvm.Cond.methodLink "CribBooklet$Booklet" (49 : Nat) ({ cls := "CribBooklet$Booklet", name := "isHeld", desc := "(LCribBooklet$Joint;)Z" } : Jvm.MethodName)) ∈ lw_all := lw_g (lw_at lw_m5 131 rfl) rfl
theorem q1178 : (Jvm.Cond.privateMethod ({ cls := "CribBooklet$Booklet", name := "isHeld", desc := "(LCribBooklet$Joint;)Z" } : Jvm.MethodName)) ∈ lw_tbl := lw_at lw_m5 132 rfl
theorem q1179 : (Jvm.Cond.instanceMethod ({ cls := "CribBooklet$Booklet", name := "isHeld", desc := "(LCribBooklet$Joint;)Z" } : Jvm.MethodName)) ∈ lw_all := lw_g (lw_at lw_m5 133 rfl) rfl
theorem q1180 : (Jvm.Cond.code ({ cls := "CribBooklet$Booklet", name := "isHeld", desc := "(LCribBooklet$Joint;)Z" } : Jvm.MethodName) prog_3_method_4_code (2 : Nat) (Option.some Jvm.ClassFile.FieldType.boolean)) ∈ lw_all := lw_g (lw_at lw_m5 134 rfl) rfl
theorem q1181 : (Jvm.Cond.methodLink "CribBooklet$Booklet" (53 : Nat) ({ cls := "CribBooklet$Joint", name := "edge", desc := "()I" } : Jvm.MethodName)) ∈ lw_all := lw_g (lw_at lw_m5 135 rfl) rfl
theorem q1185 : (Jvm.Cond.methodLinkNest "CribBooklet$Booklet" (111 : Nat) ({ cls := "CribBooklet", name := "has", desc := "(II)Z" } : Jvm.MethodName) "CribBooklet") ∈ lw_tbl := lw_at lw_m5 139 rfl
theorem q1186 : (Jvm.Cond.methodLink "CribBooklet$Booklet" (56 : Nat) ({ cls := "CribBooklet$Sheet", name := "spineEdge", desc := "()I" } : Jvm.MethodName)) ∈ lw_all := lw_g (lw_at lw_m5 140 rfl) rfl
theorem q1190 : (Jvm.Cond.methodLink "CribBooklet$Booklet" (61 : Nat) ({ cls := "CribBooklet$Joint", name := "upper", desc := "()I" } : Jvm.MethodName)) ∈ lw_all := lw_g (lw_at lw_m5 144 rfl) rfl
theorem q1194 : (Jvm.Cond.methodLink "CribBooklet$Booklet" (64 : Nat) ({ cls := "CribBooklet$Joint", name := "lower", desc := "()I" } : Jvm.MethodName)) ∈ lw_all := lw_g (lw_at lw_m5 148 rfl) rfl
theorem q1198 : (Jvm.Cond.fieldLink "CribBooklet$Booklet" (18 : Nat) "CribBooklet$Booklet" "sheet" "LCribBooklet$Sheet;") ∈ lw_all := lw_g (lw_at lw_m5 152 rfl) rfl
theorem q1200 : (Jvm.Cond.fieldLink "CribBooklet$Booklet" (28 : Nat) "CribBooklet$Booklet" "leaves" "[LCribBooklet$Layer;") ∈ lw_all := lw_g (lw_at lw_m5 154 rfl) rfl
theorem q1202 : (Jvm.Cond.fieldLink "CribBooklet$Booklet" (12 : Nat) "CribBooklet$Booklet" "joints" "Ljava/util/ArrayList;") ∈ lw_all := lw_g (lw_at lw_m5 156 rfl) rfl
theorem q1203 : (Jvm.Cond.fieldLink "CribBooklet$Booklet" (32 : Nat) "CribBooklet$Booklet" "shutBy" "[I") ∈ lw_all := lw_g (lw_at lw_m5 157 rfl) rfl
theorem q1205 : (Jvm.Cond.laysFinal "CribBooklet$Booklet" "CribBooklet$Booklet" "sheet" "LCribBooklet$Sheet;") ∈ lw_all := lw_g (lw_at lw_m5 159 rfl) rfl
theorem q1206 : (Jvm.Cond.soleField "CribBooklet$Booklet" "sheet") ∈ lw_all := lw_g (lw_at lw_m5 160 rfl) rfl
theorem q1207 : (Jvm.Cond.laysFinal "CribBooklet$Booklet" "CribBooklet$Booklet" "leaves" "[LCribBooklet$Layer;") ∈ lw_all := lw_g (lw_at lw_m5 161 rfl) rfl
theorem q1208 : (Jvm.Cond.soleField "CribBooklet$Booklet" "leaves") ∈ lw_all := lw_g (lw_at lw_m5 162 rfl) rfl
theorem q1209 : (Jvm.Cond.laysFinal "CribBooklet$Booklet" "CribBooklet$Booklet" "joints" "Ljava/util/ArrayList;") ∈ lw_all := lw_g (lw_at lw_m5 163 rfl) rfl
theorem q1210 : (Jvm.Cond.soleField "CribBooklet$Booklet" "joints") ∈ lw_all := lw_g (lw_at lw_m5 164 rfl) rfl
theorem q1211 : (Jvm.Cond.laysFinal "CribBooklet$Booklet" "CribBooklet$Booklet" "shutBy" "[I") ∈ lw_all := lw_g (lw_at lw_m5 165 rfl) rfl
theorem q1212 : (Jvm.Cond.soleField "CribBooklet$Booklet" "shutBy") ∈ lw_all := lw_g (lw_at lw_m5 166 rfl) rfl
theorem q1213 : (Jvm.Cond.superclass "CribBooklet$Booklet" "java/lang/Object") ∈ lw_all := lw_g (lw_at lw_m5 167 rfl) rfl
theorem q1215 : (Jvm.Cond.instanceMethod ({ cls := "CribBooklet$Booklet", name := "hanging", desc := "(I)I" } : Jvm.MethodName)) ∈ lw_all := lw_g (lw_at lw_m5 169 rfl) rfl
theorem q1216 : (Jvm.Cond.selects "CribBooklet$Booklet" ({ cls := "CribBooklet$Booklet", name := "hanging", desc := "(I)I" } : Jvm.MethodName) ({ cls := "CribBooklet$Booklet", name := "hanging", desc := "(I)I" } : Jvm.MethodName)) ∈ lw_all := lw_g (lw_at lw_m5 170 rfl) rfl
theorem q1217 : (Jvm.Cond.code ({ cls := "CribBooklet$Booklet", name := "hanging", desc := "(I)I" } : Jvm.MethodName) prog_3_method_15_code (4 : Nat) (Option.some Jvm.ClassFile.FieldType.int)) ∈ lw_all := lw_g (lw_at lw_m5 171 rfl) rfl
theorem q1278 : (Jvm.Cond.instanceMethod ({ cls := "CribBooklet$Booklet", name := "printAll", desc := "()V" } : Jvm.MethodName)) ∈ lw_all := lw_g (lw_at lw_m5 232 rfl) rfl
theorem q1279 : (Jvm.Cond.selects "CribBooklet$Booklet" ({ cls := "CribBooklet$Booklet", name := "printAll", desc := "()V" } : Jvm.MethodName) ({ cls := "CribBooklet$Booklet", name := "printAll", desc := "()V" } : Jvm.MethodName)) ∈ lw_all := lw_g (lw_at lw_m5 233 rfl) rfl
theorem q1280 : (Jvm.Cond.code ({ cls := "CribBooklet$Booklet", name := "printAll", desc := "()V" } : Jvm.MethodName) prog_3_method_20_code (2 : Nat) (Option.none : Option Jvm.ClassFile.FieldType)) ∈ lw_all := lw_g (lw_at lw_m5 234 rfl) rfl
theorem q1281 : (Jvm.Cond.methodLink "CribBooklet$Booklet" (153 : Nat) ({ cls := "CribBooklet$Booklet", name := "pages", desc := "()I" } : Jvm.MethodName)) ∈ lw_all := lw_g (lw_at lw_m5 235 rfl) rfl
theorem q1282 : (Jvm.Cond.instanceMethod ({ cls := "CribBooklet$Booklet", name := "pages", desc := "()I" } : Jvm.MethodName)) ∈ lw_all := lw_g (lw_at lw_m5 236 rfl) rfl
theorem q1283 : (Jvm.Cond.selects "CribBooklet$Booklet" ({ cls := "CribBooklet$Booklet", name := "pages", desc := "()I" } : Jvm.MethodName) ({ cls := "CribBooklet$Booklet", name := "pages", desc := "()I" } : Jvm.MethodName)) ∈ lw_all := lw_g (lw_at lw_m5 237 rfl) rfl
theorem q1284 : (Jvm.Cond.code ({ cls := "CribBooklet$Booklet", name := "pages", desc := "()I" } : Jvm.MethodName) prog_3_method_5_code (1 : Nat) (Option.some Jvm.ClassFile.FieldType.int)) ∈ lw_all := lw_g (lw_at lw_m5 238 rfl) rfl
theorem q1285 : (Jvm.Cond.methodLink "CribBooklet$Booklet" (131 : Nat) ({ cls := "CribBooklet$Booklet", name := "sideOf", desc := "(I)I" } : Jvm.MethodName)) ∈ lw_all := lw_g (lw_at lw_m5 239 rfl) rfl
theorem q1286 : (Jvm.Cond.privateMethod ({ cls := "CribBooklet$Booklet", name := "sideOf", desc := "(I)I" } : Jvm.MethodName)) ∈ lw_tbl := lw_at lw_m6 0 rfl
theorem q1287 : (Jvm.Cond.instanceMethod ({ cls := "CribBooklet$Booklet", name := "sideOf", desc := "(I)I" } : Jvm.MethodName)) ∈ lw_all := lw_g (lw_at lw_m6 1 rfl) rfl
theorem q1288 : (Jvm.Cond.code ({ cls := "CribBooklet$Booklet", name := "sideOf", desc := "(I)I" } : Jvm.MethodName) prog_3_method_9_code (3 : Nat) (Option.some Jvm.ClassFile.FieldType.int)) ∈ lw_all := lw_g (lw_at lw_m6 2 rfl) rfl
theorem q1289 : (Jvm.Cond.methodLink "CribBooklet$Booklet" (122 : Nat) ({ cls := "CribBooklet$Booklet", name := "sideUp", desc := "(I)I" } : Jvm.MethodName)) ∈ lw_all := lw_g (lw_at lw_m6 3 rfl) rfl
theorem q1290 : (Jvm.Cond.instanceMethod ({ cls := "CribBooklet$Booklet", name := "sideUp", desc := "(I)I" } : Jvm.MethodName)) ∈ lw_all := lw_g (lw_at lw_m6 4 rfl) rfl
theorem q1291 : (Jvm.Cond.selects "CribBooklet$Booklet" ({ cls := "CribBooklet$Booklet", name := "sideUp", desc := "(I)I" } : Jvm.MethodName) ({ cls := "CribBooklet$Booklet", name := "sideUp", desc := "(I)I" } : Jvm.MethodName)) ∈ lw_all := lw_g (lw_at lw_m6 5 rfl) rfl
theorem q1292 : (Jvm.Cond.code ({ cls := "CribBooklet$Booklet", name := "sideUp", desc := "(I)I" } : Jvm.MethodName) prog_3_method_8_code (3 : Nat) (Option.some Jvm.ClassFile.FieldType.int)) ∈ lw_all := lw_g (lw_at lw_m6 6 rfl) rfl
theorem q1293 : (Jvm.Cond.methodLink "CribBooklet$Booklet" (119 : Nat) ({ cls := "CribBooklet$Layer", name := "sideUp", desc := "()I" } : Jvm.MethodName)) ∈ lw_all := lw_g (lw_at lw_m6 7 rfl) rfl
theorem q1297 : (Jvm.Cond.methodLink "CribBooklet$Booklet" (124 : Nat) ({ cls := "CribBooklet$Sheet", name := "sideOf", desc := "(III)I" } : Jvm.MethodName)) ∈ lw_all := lw_g (lw_at lw_m6 11 rfl) rfl
theorem q1298 : (Jvm.Cond.methodLink "CribBooklet$Booklet" (136 : Nat) ({ cls := "CribBooklet$Booklet", name := "isTurning", desc := "(I)Z" } : Jvm.MethodName)) ∈ lw_all := lw_g (lw_at lw_m6 12 rfl) rfl
theorem q1299 : (Jvm.Cond.privateMethod ({ cls := "CribBooklet$Booklet", name := "isTurning", desc := "(I)Z" } : Jvm.MethodName)) ∈ lw_tbl := lw_at lw_m6 13 rfl
theorem q1300 : (Jvm.Cond.instanceMethod ({ cls := "CribBooklet$Booklet", name := "isTurning", desc := "(I)Z" } : Jvm.MethodName)) ∈ lw_all := lw_g (lw_at lw_m6 14 rfl) rfl
theorem q1301 : (Jvm.Cond.code ({ cls := "CribBooklet$Booklet", name := "isTurning", desc := "(I)Z" } : Jvm.MethodName) prog_3_method_11_code (2 : Nat) (Option.some Jvm.ClassFile.FieldType.boolean)) ∈ lw_all := lw_g (lw_at lw_m6 15 rfl) rfl
theorem q1302 : (Jvm.Cond.methodLink "CribBooklet$Booklet" (172 : Nat) ({ cls := "CribBooklet$Sheet", name := "print", desc := "(IIZ)Z" } : Jvm.MethodName)) ∈ lw_all := lw_g (lw_at lw_m6 16 rfl) rfl
theorem q1350 : (Jvm.Cond.instanceMethod ({ cls := "CribBooklet$Booklet", name := "stapled", desc := "()I" } : Jvm.MethodName)) ∈ lw_all := lw_g (lw_at lw_m6 64 rfl) rfl
theorem q1351 : (Jvm.Cond.selects "CribBooklet$Booklet" ({ cls := "CribBooklet$Booklet", name := "stapled", desc := "()I" } : Jvm.MethodName) ({ cls := "CribBooklet$Booklet", name := "stapled", desc := "()I" } : Jvm.MethodName)) ∈ lw_all := lw_g (lw_at lw_m6 65 rfl) rfl
theorem q1352 : (Jvm.Cond.code ({ cls := "CribBooklet$Booklet", name := "stapled", desc := "()I" } : Jvm.MethodName) prog_3_method_17_code (1 : Nat) (Option.some Jvm.ClassFile.FieldType.int)) ∈ lw_all := lw_g (lw_at lw_m6 66 rfl) rfl
theorem q2048 : (Jvm.Cond.instanceMethod ({ cls := "CribBooklet$Booklet", name := "numberOn", desc := "(I)I" } : Jvm.MethodName)) ∈ lw_all := lw_g (lw_at lw_m9 42 rfl) rfl
theorem q2049 : (Jvm.Cond.selects "CribBooklet$Booklet" ({ cls := "CribBooklet$Booklet", name := "numberOn", desc := "(I)I" } : Jvm.MethodName) ({ cls := "CribBooklet$Booklet", name := "numberOn", desc := "(I)I" } : Jvm.MethodName)) ∈ lw_all := lw_g (lw_at lw_m9 43 rfl) rfl
theorem q2050 : (Jvm.Cond.code ({ cls := "CribBooklet$Booklet", name := "numberOn", desc := "(I)I" } : Jvm.MethodName) prog_3_method_10_code (2 : Nat) (Option.some Jvm.ClassFile.FieldType.int)) ∈ lw_all := lw_g (lw_at lw_m9 44 rfl) rfl
theorem q2053 : (Jvm.Cond.instanceMethod ({ cls := "CribBooklet$Booklet", name := "isUpright", desc := "(I)Z" } : Jvm.MethodName)) ∈ lw_all := lw_g (lw_at lw_m9 47 rfl) rfl
theorem q2054 : (Jvm.Cond.selects "CribBooklet$Booklet" ({ cls := "CribBooklet$Booklet", name := "isUpright", desc := "(I)Z" } : Jvm.MethodName) ({ cls := "CribBooklet$Booklet", name := "isUpright", desc := "(I)Z" } : Jvm.MethodName)) ∈ lw_all := lw_g (lw_at lw_m9 48 rfl) rfl
theorem q2055 : (Jvm.Cond.code ({ cls := "CribBooklet$Booklet", name := "isUpright", desc := "(I)Z" } : Jvm.MethodName) prog_3_method_12_code (2 : Nat) (Option.some Jvm.ClassFile.FieldType.boolean)) ∈ lw_all := lw_g (lw_at lw_m9 49 rfl) rfl
theorem q2057 : (Jvm.Cond.instanceMethod ({ cls := "CribBooklet$Booklet", name := "isHidden", desc := "(I)Z" } : Jvm.MethodName)) ∈ lw_all := lw_g (lw_at lw_m9 51 rfl) rfl
theorem q2058 : (Jvm.Cond.selects "CribBooklet$Booklet" ({ cls := "CribBooklet$Booklet", name := "isHidden", desc := "(I)Z" } : Jvm.MethodName) ({ cls := "CribBooklet$Booklet", name := "isHidden", desc := "(I)Z" } : Jvm.MethodName)) ∈ lw_all := lw_g (lw_at lw_m9 52 rfl) rfl
theorem q2059 : (Jvm.Cond.code ({ cls := "CribBooklet$Booklet", name := "isHidden", desc := "(I)Z" } : Jvm.MethodName) prog_3_method_7_code (2 : Nat) (Option.some Jvm.ClassFile.FieldType.boolean)) ∈ lw_all := lw_g (lw_at lw_m9 53 rfl) rfl
theorem q2060 : (Jvm.Cond.methodLink "CribBooklet$Booklet" (115 : Nat) ({ cls := "CribBooklet$Booklet", name := "openingOf", desc := "(I)I" } : Jvm.MethodName)) ∈ lw_all := lw_g (lw_at lw_m9 54 rfl) rfl
theorem q2061 : (Jvm.Cond.instanceMethod ({ cls := "CribBooklet$Booklet", name := "openingOf", desc := "(I)I" } : Jvm.MethodName)) ∈ lw_all := lw_g (lw_at lw_m9 55 rfl) rfl
theorem q2062 : (Jvm.Cond.selects "CribBooklet$Booklet" ({ cls := "CribBooklet$Booklet", name := "openingOf", desc := "(I)I" } : Jvm.MethodName) ({ cls := "CribBooklet$Booklet", name := "openingOf", desc := "(I)I" } : Jvm.MethodName)) ∈ lw_all := lw_g (lw_at lw_m9 56 rfl) rfl
theorem q2063 : (Jvm.Cond.code ({ cls := "CribBooklet$Booklet", name := "openingOf", desc := "(I)I" } : Jvm.MethodName) prog_3_method_6_code (2 : Nat) (Option.some Jvm.ClassFile.FieldType.int)) ∈ lw_all := lw_g (lw_at lw_m9 57 rfl) rfl
theorem q2065 : (Jvm.Cond.instanceMethod ({ cls := "CribBooklet$Booklet", name := "reasonAgainst", desc := "(I)I" } : Jvm.MethodName)) ∈ lw_all := lw_g (lw_at lw_m9 59 rfl) rfl
theorem q2066 : (Jvm.Cond.selects "CribBooklet$Booklet" ({ cls := "CribBooklet$Booklet", name := "reasonAgainst", desc := "(I)I" } : Jvm.MethodName) ({ cls := "CribBooklet$Booklet", name := "reasonAgainst", desc := "(I)I" } : Jvm.MethodName)) ∈ lw_all := lw_g (lw_at lw_m9 60 rfl) rfl
theorem q2067 : (Jvm.Cond.code ({ cls := "CribBooklet$Booklet", name := "reasonAgainst", desc := "(I)I" } : Jvm.MethodName) prog_3_method_13_code (3 : Nat) (Option.some Jvm.ClassFile.FieldType.int)) ∈ lw_all := lw_g (lw_at lw_m9 61 rfl) rfl
theorem q2068 : (Jvm.Cond.methodLink "CribBooklet$Booklet" (144 : Nat) ({ cls := "CribBooklet$Booklet", name := "numberOn", desc := "(I)I" } : Jvm.MethodName)) ∈ lw_all := lw_g (lw_at lw_m9 62 rfl) rfl
theorem q2069 : (Jvm.Cond.methodLink "CribBooklet$Booklet" (147 : Nat) ({ cls := "CribBooklet$Booklet", name := "isHidden", desc := "(I)Z" } : Jvm.MethodName)) ∈ lw_all := lw_g (lw_at lw_m9 63 rfl) rfl
theorem q2070 : (Jvm.Cond.methodLink "CribBooklet$Booklet" (150 : Nat) ({ cls := "CribBooklet$Booklet", name := "isUpright", desc := "(I)Z" } : Jvm.MethodName)) ∈ lw_all := lw_g (lw_at lw_m9 64 rfl) rfl
theorem q2642 : (Jvm.Cond.instanceMethod ({ cls := "CribBooklet$Booklet", name := "together", desc := "(II)I" } : Jvm.MethodName)) ∈ lw_all := lw_g (lw_at lw_m11 156 rfl) rfl
theorem q2643 : (Jvm.Cond.selects "CribBooklet$Booklet" ({ cls := "CribBooklet$Booklet", name := "together", desc := "(II)I" } : Jvm.MethodName) ({ cls := "CribBooklet$Booklet", name := "together", desc := "(II)I" } : Jvm.MethodName)) ∈ lw_all := lw_g (lw_at lw_m11 157 rfl) rfl
theorem q2644 : (Jvm.Cond.code ({ cls := "CribBooklet$Booklet", name := "together", desc := "(II)I" } : Jvm.MethodName) prog_3_method_16_code (7 : Nat) (Option.some Jvm.ClassFile.FieldType.int)) ∈ lw_all := lw_g (lw_at lw_m11 158 rfl) rfl
theorem q2650 : (Jvm.Cond.instanceMethod ({ cls := "CribBooklet$Booklet", name := "pieces", desc := "()I" } : Jvm.MethodName)) ∈ lw_all := lw_g (lw_at lw_m11 164 rfl) rfl
theorem q2651 : (Jvm.Cond.selects "CribBooklet$Booklet" ({ cls := "CribBooklet$Booklet", name := "pieces", desc := "()I" } : Jvm.MethodName) ({ cls := "CribBooklet$Booklet", name := "pieces", desc := "()I" } : Jvm.MethodName)) ∈ lw_all := lw_g (lw_at lw_m11 165 rfl) rfl
theorem q2652 : (Jvm.Cond.code ({ cls := "CribBooklet$Booklet", name := "pieces", desc := "()I" } : Jvm.MethodName) prog_3_method_18_code (5 : Nat) (Option.some Jvm.ClassFile.FieldType.int)) ∈ lw_all := lw_g (lw_at lw_m11 166 rfl) rfl
theorem q2653 : (Jvm.Cond.methodLink "CribBooklet$Booklet" (165 : Nat) ({ cls := "CribBooklet$Booklet", name := "merges", desc := "([III)Z" } : Jvm.MethodName)) ∈ lw_all := lw_g (lw_at lw_m11 167 rfl) rfl
theorem q2654 : (Jvm.Cond.static ({ cls := "CribBooklet$Booklet", name := "merges", desc := "([III)Z" } : Jvm.MethodName)) ∈ lw_all := lw_g (lw_at lw_m11 168 rfl) rfl
theorem q2655 : (Jvm.Cond.code ({ cls := "CribBooklet$Booklet", name := "merges", desc := "([III)Z" } : Jvm.MethodName) prog_3_method_19_code (6 : Nat) (Option.some Jvm.ClassFile.FieldType.boolean)) ∈ lw_all := lw_g (lw_at lw_m11 169 rfl) rfl
theorem q2656 : (Jvm.Cond.methodLink "CribBooklet$Booklet" (169 : Nat) ({ cls := "CribBooklet$Booklet", name := "stapled", desc := "()I" } : Jvm.MethodName)) ∈ lw_all := lw_g (lw_at lw_m11 170 rfl) rfl
theorem q2662 : (Jvm.Cond.instanceMethod ({ cls := "CribBooklet$Booklet", name := "readsTo", desc := "()I" } : Jvm.MethodName)) ∈ lw_all := lw_g (lw_at lw_m11 176 rfl) rfl
theorem q2663 : (Jvm.Cond.selects "CribBooklet$Booklet" ({ cls := "CribBooklet$Booklet", name := "readsTo", desc := "()I" } : Jvm.MethodName) ({ cls := "CribBooklet$Booklet", name := "readsTo", desc := "()I" } : Jvm.MethodName)) ∈ lw_all := lw_g (lw_at lw_m11 177 rfl) rfl
theorem q2664 : (Jvm.Cond.code ({ cls := "CribBooklet$Booklet", name := "readsTo", desc := "()I" } : Jvm.MethodName) prog_3_method_14_code (2 : Nat) (Option.some Jvm.ClassFile.FieldType.int)) ∈ lw_all := lw_g (lw_at lw_m11 178 rfl) rfl
theorem q2665 : (Jvm.Cond.methodLink "CribBooklet$Booklet" (156 : Nat) ({ cls := "CribBooklet$Booklet", name := "reasonAgainst", desc := "(I)I" } : Jvm.MethodName)) ∈ lw_all := lw_g (lw_at lw_m11 179 rfl) rfl
theorem q2732 : (Jvm.Cond.instanceMethod ({ cls := "CribBooklet$Booklet", name := "showsAll", desc := "()Z" } : Jvm.MethodName)) ∈ lw_all := lw_g (lw_at lw_m12 6 rfl) rfl
theorem q2733 : (Jvm.Cond.selects "CribBooklet$Booklet" ({ cls := "CribBooklet$Booklet", name := "showsAll", desc := "()Z" } : Jvm.MethodName) ({ cls := "CribBooklet$Booklet", name := "showsAll", desc := "()Z" } : Jvm.MethodName)) ∈ lw_all := lw_g (lw_at lw_m12 7 rfl) rfl
theorem q2734 : (Jvm.Cond.code ({ cls := "CribBooklet$Booklet", name := "showsAll", desc := "()Z" } : Jvm.MethodName) prog_3_method_22_code (3 : Nat) (Option.some Jvm.ClassFile.FieldType.boolean)) ∈ lw_all := lw_g (lw_at lw_m12 8 rfl) rfl
theorem q2735 : (Jvm.Cond.classLink "CribBooklet$Booklet" (177 : Nat) "CribBooklet$Sight") ∈ lw_all := lw_g (lw_at lw_m12 9 rfl) rfl
theorem q2736 : (Jvm.Cond.methodLink "CribBooklet$Booklet" (190 : Nat) ({ cls := "CribBooklet$Booklet", name := "shows", desc := "(LCribBooklet$Sight;)Z" } : Jvm.MethodName)) ∈ lw_all := lw_g (lw_at lw_m12 10 rfl) rfl
theorem q2737 : (Jvm.Cond.instanceMethod ({ cls := "CribBooklet$Booklet", name := "shows", desc := "(LCribBooklet$Sight;)Z" } : Jvm.MethodName)) ∈ lw_all := lw_g (lw_at lw_m12 11 rfl) rfl
theorem q2738 : (Jvm.Cond.selects "CribBooklet$Booklet" ({ cls := "CribBooklet$Booklet", name := "shows", desc := "(LCribBooklet$Sight;)Z" } : Jvm.MethodName) ({ cls := "CribBooklet$Booklet", name := "shows", desc := "(LCribBooklet$Sight;)Z" } : Jvm.MethodName)) ∈ lw_all := lw_g (lw_at lw_m12 12 rfl) rfl
theorem q2739 : (Jvm.Cond.code ({ cls := "CribBooklet$Booklet", name := "shows", desc := "(LCribBooklet$Sight;)Z" } : Jvm.MethodName) prog_3_method_21_code (2 : Nat) (Option.some Jvm.ClassFile.FieldType.boolean)) ∈ lw_all := lw_g (lw_at lw_m12 13 rfl) rfl
theorem q2740 : (Jvm.Cond.methodLink "CribBooklet$Booklet" (176 : Nat) ({ cls := "CribBooklet$Sight", name := "page", desc := "()I" } : Jvm.MethodName)) ∈ lw_all := lw_g (lw_at lw_m12 14 rfl) rfl
theorem q2744 : (Jvm.Cond.methodLink "CribBooklet$Booklet" (181 : Nat) ({ cls := "CribBooklet$Sight", name := "number", desc := "()I" } : Jvm.MethodName)) ∈ lw_all := lw_g (lw_at lw_m12 18 rfl) rfl
theorem q2748 : (Jvm.Cond.methodLink "CribBooklet$Booklet" (184 : Nat) ({ cls := "CribBooklet$Sight", name := "isUpsideDown", desc := "()Z" } : Jvm.MethodName)) ∈ lw_all := lw_g (lw_at lw_m12 22 rfl) rfl
theorem q2757 : (Jvm.Cond.instanceMethod ({ cls := "CribBooklet$Booklet", name := "ownNumbers", desc := "()I" } : Jvm.MethodName)) ∈ lw_all := lw_g (lw_at lw_m12 31 rfl) rfl
theorem q2758 : (Jvm.Cond.selects "CribBooklet$Booklet" ({ cls := "CribBooklet$Booklet", name := "ownNumbers", desc := "()I" } : Jvm.MethodName) ({ cls := "CribBooklet$Booklet", name := "ownNumbers", desc := "()I" } : Jvm.MethodName)) ∈ lw_all := lw_g (lw_at lw_m12 32 rfl) rfl
theorem q2759 : (Jvm.Cond.code ({ cls := "CribBooklet$Booklet", name := "ownNumbers", desc := "()I" } : Jvm.MethodName) prog_3_method_23_code (2 : Nat) (Option.some Jvm.ClassFile.FieldType.int)) ∈ lw_all := lw_g (lw_at lw_m12 33 rfl) rfl
theorem q2765 : (Jvm.Cond.instanceMethod ({ cls := "CribBooklet$Booklet", name := "otherEdges", desc := "()I" } : Jvm.MethodName)) ∈ lw_all := lw_g (lw_at lw_m12 39 rfl) rfl
theorem q2766 : (Jvm.Cond.selects "CribBooklet$Booklet" ({ cls := "CribBooklet$Booklet", name := "otherEdges", desc := "()I" } : Jvm.MethodName) ({ cls := "CribBooklet$Booklet", name := "otherEdges", desc := "()I" } : Jvm.MethodName)) ∈ lw_all := lw_g (lw_at lw_m12 40 rfl) rfl
theorem q2767 : (Jvm.Cond.code ({ cls := "CribBooklet$Booklet", name := "otherEdges", desc := "()I" } : Jvm.MethodName) prog_3_method_24_code (3 : Nat) (Option.some Jvm.ClassFile.FieldType.int)) ∈ lw_all := lw_g (lw_at lw_m12 41 rfl) rfl
theorem q3358 : (Jvm.Cond.castable "CribBooklet$Booklet" "java/lang/Object") ∈ lw_tbl := lw_at lw_m14 152 rfl
theorem in_X8 : ∀ w ∈ wsX80, w ∈ lw_all := lw_in wsX80 [1205, 1207, 1209, 1211] (by decide +kernel) (by decide +kernel)

end
section
/-! CribBooklet$Joint -/
set_option maxRecDepth 100000
def RX9 : String := "CribBooklet$Joint"
def TX9 : u_T := fun k => match k with
  | 0 => ("CribBooklet$Joint", "upper", "I", true)
  | 1 => ("CribBooklet$Joint", "lower", "I", true)
  | _ => ("CribBooklet$Joint", "edge", "I", true)
def tyX9 : Nat → FieldType := fun k => match k with
  | 0 => .int
  | 1 => .int
  | _ => .int
abbrev wsX90 : List Cond := u_ws RX9 TX9 3
theorem nmX9 : ∀ a, a < 3 → ∀ b, b < 3 → a ≠ b → (TX9 a).2.1 ≠ (TX9 b).2.1 := by decide +kernel
theorem tyX9_ok : ∀ k, k < 3 → parseFieldDescriptor (TX9 k).2.2.1 = some (tyX9 k) := by decide +kernel
abbrev cX9_init : ByteArray := prog_13_method_1_code
def yX9_init : MethodName := ⟨RX9, "<init>", "(III)V"⟩
def dkwX9_init_0 : List UInt8 := [42, 183, 0, 1, 42, 27, 181, 0, 7, 42, 28, 181, 0, 13, 42, 29, 181, 0, 16, 177]
abbrev dktX9_init_0 : List UInt8 := dkwX9_init_0 ++ []
theorem dksX9_init_0 : cX9_init.data.toList.drop 0 = dktX9_init_0 := by decide +kernel
theorem dX9_init_0 : decode cX9_init 0 = .ok (.aload_n 0, 1) := dk_42 (dk_at dksX9_init_0 0 rfl rfl)
theorem dX9_init_1 : decode cX9_init 1 = .ok (.invokespecial 1, 3) := dk_183 0 1 (dk_at dksX9_init_0 1 rfl rfl)
theorem dX9_init_4 : decode cX9_init 4 = .ok (.aload_n 0, 1) := dk_42 (dk_at dksX9_init_0 4 rfl rfl)
theorem dX9_init_5 : decode cX9_init 5 = .ok (.iload_n 1, 1) := dk_27 (dk_at dksX9_init_0 5 rfl rfl)
theorem dX9_init_6 : decode cX9_init 6 = .ok (.putfield 7, 3) := dk_181 0 7 (dk_at dksX9_init_0 6 rfl rfl)
theorem dX9_init_9 : decode cX9_init 9 = .ok (.aload_n 0, 1) := dk_42 (dk_at dksX9_init_0 9 rfl rfl)
theorem dX9_init_10 : decode cX9_init 10 = .ok (.iload_n 2, 1) := dk_28 (dk_at dksX9_init_0 10 rfl rfl)
theorem dX9_init_11 : decode cX9_init 11 = .ok (.putfield 13, 3) := dk_181 0 13 (dk_at dksX9_init_0 11 rfl rfl)
theorem dX9_init_14 : decode cX9_init 14 = .ok (.aload_n 0, 1) := dk_42 (dk_at dksX9_init_0 14 rfl rfl)
theorem dX9_init_15 : decode cX9_init 15 = .ok (.iload_n 3, 1) := dk_29 (dk_at dksX9_init_0 15 rfl rfl)
theorem dX9_init_16 : decode cX9_init 16 = .ok (.putfield 16, 3) := dk_181 0 16 (dk_at dksX9_init_0 16 rfl rfl)
theorem dX9_init_19 : decode cX9_init 19 = .ok (.return_, 1) := dk_177 (dk_at dksX9_init_0 19 rfl rfl)
abbrev cX9_edge : ByteArray := prog_13_method_7_code
def yX9_edge : MethodName := ⟨RX9, "edge", "()I"⟩
theorem dX9_edge_0 : decode cX9_edge 0 = .ok (.aload_n 0, 1) := by decide +kernel
theorem dX9_edge_1 : decode cX9_edge 1 = .ok (.getfield 16, 3) := by decide +kernel
theorem dX9_edge_4 : decode cX9_edge 4 = .ok (.ireturn, 1) := by decide +kernel
abbrev cX9_upper : ByteArray := prog_13_method_5_code
def yX9_upper : MethodName := ⟨RX9, "upper", "()I"⟩
theorem dX9_upper_0 : decode cX9_upper 0 = .ok (.aload_n 0, 1) := by decide +kernel
theorem dX9_upper_1 : decode cX9_upper 1 = .ok (.getfield 7, 3) := by decide +kernel
theorem dX9_upper_4 : decode cX9_upper 4 = .ok (.ireturn, 1) := by decide +kernel
abbrev cX9_lower : ByteArray := prog_13_method_6_code
def yX9_lower : MethodName := ⟨RX9, "lower", "()I"⟩
theorem dX9_lower_0 : decode cX9_lower 0 = .ok (.aload_n 0, 1) := by decide +kernel
theorem dX9_lower_1 : decode cX9_lower 1 = .ok (.getfield 13, 3) := by decide +kernel
theorem dX9_lower_4 : decode cX9_lower 4 = .ok (.ireturn, 1) := by decide +kernel
theorem q120 : (Jvm.Cond.initialized "CribBooklet$Joint") ∈ lw_all := lw_g (lw_at lw_m1 34 rfl) rfl
theorem q708 : (Jvm.Cond.selects "CribBooklet$Joint" ({ cls := "java/lang/Object", name := "getClass", desc := "()Ljava/lang/Class;" } : Jvm.MethodName) ({ cls := "java/lang/Object", name := "getClass", desc := "()Ljava/lang/Class;" } : Jvm.MethodName)) ∈ lw_all := lw_g (lw_at lw_m3 142 rfl) rfl
theorem q1144 : (Jvm.Cond.instantiable "CribBooklet$Joint" (3 : Nat)) ∈ lw_all := lw_g (lw_at lw_m5 98 rfl) rfl
theorem q1148 : (Jvm.Cond.instanceMethod ({ cls := "CribBooklet$Joint", name := "<init>", desc := "(III)V" } : Jvm.MethodName)) ∈ lw_all := lw_g (lw_at lw_m5 102 rfl) rfl
theorem q1149 : (Jvm.Cond.code ({ cls := "CribBooklet$Joint", name := "<init>", desc := "(III)V" } : Jvm.MethodName) prog_13_method_1_code (4 : Nat) (Option.none : Option Jvm.ClassFile.FieldType)) ∈ lw_all := lw_g (lw_at lw_m5 103 rfl) rfl
theorem q1150 : (Jvm.Cond.methodLink "CribBooklet$Joint" (1 : Nat) ({ cls := "java/lang/Record", name := "<init>", desc := "()V" } : Jvm.MethodName)) ∈ lw_all := lw_g (lw_at lw_m5 104 rfl) rfl
theorem q1151 : (Jvm.Cond.fieldLink "CribBooklet$Joint" (7 : Nat) "CribBooklet$Joint" "upper" "I") ∈ lw_all := lw_g (lw_at lw_m5 105 rfl) rfl
theorem q1152 : (Jvm.Cond.fieldLink "CribBooklet$Joint" (13 : Nat) "CribBooklet$Joint" "lower" "I") ∈ lw_all := lw_g (lw_at lw_m5 106 rfl) rfl
theorem q1153 : (Jvm.Cond.fieldLink "CribBooklet$Joint" (16 : Nat) "CribBooklet$Joint" "edge" "I") ∈ lw_all := lw_g (lw_at lw_m5 107 rfl) rfl
theorem q1154 : (Jvm.Cond.laysFinal "CribBooklet$Joint" "CribBooklet$Joint" "upper" "I") ∈ lw_all := lw_g (lw_at lw_m5 108 rfl) rfl
theorem q1155 : (Jvm.Cond.soleField "CribBooklet$Joint" "upper") ∈ lw_all := lw_g (lw_at lw_m5 109 rfl) rfl
theorem q1156 : (Jvm.Cond.laysFinal "CribBooklet$Joint" "CribBooklet$Joint" "lower" "I") ∈ lw_all := lw_g (lw_at lw_m5 110 rfl) rfl
theorem q1157 : (Jvm.Cond.soleField "CribBooklet$Joint" "lower") ∈ lw_all := lw_g (lw_at lw_m5 111 rfl) rfl
theorem q1158 : (Jvm.Cond.laysFinal "CribBooklet$Joint" "CribBooklet$Joint" "edge" "I") ∈ lw_all := lw_g (lw_at lw_m5 112 rfl) rfl
theorem q1159 : (Jvm.Cond.soleField "CribBooklet$Joint" "edge") ∈ lw_all := lw_g (lw_at lw_m5 113 rfl) rfl
theorem q1160 : (Jvm.Cond.superclass "CribBooklet$Joint" "java/lang/Record") ∈ lw_all := lw_g (lw_at lw_m5 114 rfl) rfl
theorem q1182 : (Jvm.Cond.instanceMethod ({ cls := "CribBooklet$Joint", name := "edge", desc := "()I" } : Jvm.MethodName)) ∈ lw_all := lw_g (lw_at lw_m5 136 rfl) rfl
theorem q1183 : (Jvm.Cond.selects "CribBooklet$Joint" ({ cls := "CribBooklet$Joint", name := "edge", desc := "()I" } : Jvm.MethodName) ({ cls := "CribBooklet$Joint", name := "edge", desc := "()I" } : Jvm.MethodName)) ∈ lw_all := lw_g (lw_at lw_m5 137 rfl) rfl
theorem q1184 : (Jvm.Cond.code ({ cls := "CribBooklet$Joint", name := "edge", desc := "()I" } : Jvm.MethodName) prog_13_method_7_code (1 : Nat) (Option.some Jvm.ClassFile.FieldType.int)) ∈ lw_all := lw_g (lw_at lw_m5 138 rfl) rfl
theorem q1191 : (Jvm.Cond.instanceMethod ({ cls := "CribBooklet$Joint", name := "upper", desc := "()I" } : Jvm.MethodName)) ∈ lw_all := lw_g (lw_at lw_m5 145 rfl) rfl
theorem q1192 : (Jvm.Cond.selects "CribBooklet$Joint" ({ cls := "CribBooklet$Joint", name := "upper", desc := "()I" } : Jvm.MethodName) ({ cls := "CribBooklet$Joint", name := "upper", desc := "()I" } : Jvm.MethodName)) ∈ lw_all := lw_g (lw_at lw_m5 146 rfl) rfl
theorem q1193 : (Jvm.Cond.code ({ cls := "CribBooklet$Joint", name := "upper", desc := "()I" } : Jvm.MethodName) prog_13_method_5_code (1 : Nat) (Option.some Jvm.ClassFile.FieldType.int)) ∈ lw_all := lw_g (lw_at lw_m5 147 rfl) rfl
theorem q1195 : (Jvm.Cond.instanceMethod ({ cls := "CribBooklet$Joint", name := "lower", desc := "()I" } : Jvm.MethodName)) ∈ lw_all := lw_g (lw_at lw_m5 149 rfl) rfl
theorem q1196 : (Jvm.Cond.selects "CribBooklet$Joint" ({ cls := "CribBooklet$Joint", name := "lower", desc := "()I" } : Jvm.MethodName) ({ cls := "CribBooklet$Joint", name := "lower", desc := "()I" } : Jvm.MethodName)) ∈ lw_all := lw_g (lw_at lw_m5 150 rfl) rfl
theorem q1197 : (Jvm.Cond.code ({ cls := "CribBooklet$Joint", name := "lower", desc := "()I" } : Jvm.MethodName) prog_13_method_6_code (1 : Nat) (Option.some Jvm.ClassFile.FieldType.int)) ∈ lw_all := lw_g (lw_at lw_m5 151 rfl) rfl
theorem q3359 : (Jvm.Cond.castable "CribBooklet$Joint" "java/lang/Object") ∈ lw_tbl := lw_at lw_m14 153 rfl
theorem in_X9 : ∀ w ∈ wsX90, w ∈ lw_all := lw_in wsX90 [1154, 1156, 1158] (by decide +kernel) (by decide +kernel)

end
section
/-! CribBooklet$Sight -/
set_option maxRecDepth 100000
def RX10 : String := "CribBooklet$Sight"
def TX10 : u_T := fun k => match k with
  | 0 => ("CribBooklet$Sight", "page", "I", true)
  | 1 => ("CribBooklet$Sight", "number", "I", true)
  | _ => ("CribBooklet$Sight", "isUpsideDown", "Z", true)
def tyX10 : Nat → FieldType := fun k => match k with
  | 0 => .int
  | 1 => .int
  | _ => .boolean
abbrev wsX100 : List Cond := u_ws RX10 TX10 3
theorem nmX10 : ∀ a, a < 3 → ∀ b, b < 3 → a ≠ b → (TX10 a).2.1 ≠ (TX10 b).2.1 := by decide +kernel
theorem tyX10_ok : ∀ k, k < 3 → parseFieldDescriptor (TX10 k).2.2.1 = some (tyX10 k) := by decide +kernel
abbrev cX10_init : ByteArray := prog_27_method_1_code
def yX10_init : MethodName := ⟨RX10, "<init>", "(IIZ)V"⟩
def dkwX10_init_0 : List UInt8 := [42, 183, 0, 1, 42, 27, 181, 0, 7, 42, 28, 181, 0, 13, 42, 29, 181, 0, 16, 177]
abbrev dktX10_init_0 : List UInt8 := dkwX10_init_0 ++ []
theorem dksX10_init_0 : cX10_init.data.toList.drop 0 = dktX10_init_0 := by decide +kernel
theorem dX10_init_0 : decode cX10_init 0 = .ok (.aload_n 0, 1) := dk_42 (dk_at dksX10_init_0 0 rfl rfl)
theorem dX10_init_1 : decode cX10_init 1 = .ok (.invokespecial 1, 3) := dk_183 0 1 (dk_at dksX10_init_0 1 rfl rfl)
theorem dX10_init_4 : decode cX10_init 4 = .ok (.aload_n 0, 1) := dk_42 (dk_at dksX10_init_0 4 rfl rfl)
theorem dX10_init_5 : decode cX10_init 5 = .ok (.iload_n 1, 1) := dk_27 (dk_at dksX10_init_0 5 rfl rfl)
theorem dX10_init_6 : decode cX10_init 6 = .ok (.putfield 7, 3) := dk_181 0 7 (dk_at dksX10_init_0 6 rfl rfl)
theorem dX10_init_9 : decode cX10_init 9 = .ok (.aload_n 0, 1) := dk_42 (dk_at dksX10_init_0 9 rfl rfl)
theorem dX10_init_10 : decode cX10_init 10 = .ok (.iload_n 2, 1) := dk_28 (dk_at dksX10_init_0 10 rfl rfl)
theorem dX10_init_11 : decode cX10_init 11 = .ok (.putfield 13, 3) := dk_181 0 13 (dk_at dksX10_init_0 11 rfl rfl)
theorem dX10_init_14 : decode cX10_init 14 = .ok (.aload_n 0, 1) := dk_42 (dk_at dksX10_init_0 14 rfl rfl)
theorem dX10_init_15 : decode cX10_init 15 = .ok (.iload_n 3, 1) := dk_29 (dk_at dksX10_init_0 15 rfl rfl)
theorem dX10_init_16 : decode cX10_init 16 = .ok (.putfield 16, 3) := dk_181 0 16 (dk_at dksX10_init_0 16 rfl rfl)
theorem dX10_init_19 : decode cX10_init 19 = .ok (.return_, 1) := dk_177 (dk_at dksX10_init_0 19 rfl rfl)
abbrev cX10_page : ByteArray := prog_27_method_5_code
def yX10_page : MethodName := ⟨RX10, "page", "()I"⟩
theorem dX10_page_0 : decode cX10_page 0 = .ok (.aload_n 0, 1) := by decide +kernel
theorem dX10_page_1 : decode cX10_page 1 = .ok (.getfield 7, 3) := by decide +kernel
theorem dX10_page_4 : decode cX10_page 4 = .ok (.ireturn, 1) := by decide +kernel
abbrev cX10_number : ByteArray := prog_27_method_6_code
def yX10_number : MethodName := ⟨RX10, "number", "()I"⟩
theorem dX10_number_0 : decode cX10_number 0 = .ok (.aload_n 0, 1) := by decide +kernel
theorem dX10_number_1 : decode cX10_number 1 = .ok (.getfield 13, 3) := by decide +kernel
theorem dX10_number_4 : decode cX10_number 4 = .ok (.ireturn, 1) := by decide +kernel
abbrev cX10_isUpsideDown : ByteArray := prog_27_method_7_code
def yX10_isUpsideDown : MethodName := ⟨RX10, "isUpsideDown", "()Z"⟩
theorem dX10_isUpsideDown_0 : decode cX10_isUpsideDown 0 = .ok (.aload_n 0, 1) := by decide +kernel
theorem dX10_isUpsideDown_1 : decode cX10_isUpsideDown 1 = .ok (.getfield 16, 3) := by decide +kernel
theorem dX10_isUpsideDown_4 : decode cX10_isUpsideDown 4 = .ok (.ireturn, 1) := by decide +kernel
theorem q123 : (Jvm.Cond.initialized "CribBooklet$Sight") ∈ lw_all := lw_g (lw_at lw_m1 37 rfl) rfl
theorem q722 : (Jvm.Cond.selects "CribBooklet$Sight" ({ cls := "java/lang/Object", name := "getClass", desc := "()Ljava/lang/Class;" } : Jvm.MethodName) ({ cls := "java/lang/Object", name := "getClass", desc := "()Ljava/lang/Class;" } : Jvm.MethodName)) ∈ lw_all := lw_g (lw_at lw_m3 156 rfl) rfl
theorem q1322 : (Jvm.Cond.instantiable "CribBooklet$Sight" (3 : Nat)) ∈ lw_all := lw_g (lw_at lw_m6 36 rfl) rfl
theorem q1324 : (Jvm.Cond.instanceMethod ({ cls := "CribBooklet$Sight", name := "<init>", desc := "(IIZ)V" } : Jvm.MethodName)) ∈ lw_all := lw_g (lw_at lw_m6 38 rfl) rfl
theorem q1325 : (Jvm.Cond.code ({ cls := "CribBooklet$Sight", name := "<init>", desc := "(IIZ)V" } : Jvm.MethodName) prog_27_method_1_code (4 : Nat) (Option.none : Option Jvm.ClassFile.FieldType)) ∈ lw_all := lw_g (lw_at lw_m6 39 rfl) rfl
theorem q1326 : (Jvm.Cond.methodLink "CribBooklet$Sight" (1 : Nat) ({ cls := "java/lang/Record", name := "<init>", desc := "()V" } : Jvm.MethodName)) ∈ lw_all := lw_g (lw_at lw_m6 40 rfl) rfl
theorem q1327 : (Jvm.Cond.fieldLink "CribBooklet$Sight" (7 : Nat) "CribBooklet$Sight" "page" "I") ∈ lw_all := lw_g (lw_at lw_m6 41 rfl) rfl
theorem q1328 : (Jvm.Cond.fieldLink "CribBooklet$Sight" (13 : Nat) "CribBooklet$Sight" "number" "I") ∈ lw_all := lw_g (lw_at lw_m6 42 rfl) rfl
theorem q1329 : (Jvm.Cond.fieldLink "CribBooklet$Sight" (16 : Nat) "CribBooklet$Sight" "isUpsideDown" "Z") ∈ lw_all := lw_g (lw_at lw_m6 43 rfl) rfl
theorem q1330 : (Jvm.Cond.laysFinal "CribBooklet$Sight" "CribBooklet$Sight" "page" "I") ∈ lw_all := lw_g (lw_at lw_m6 44 rfl) rfl
theorem q1331 : (Jvm.Cond.soleField "CribBooklet$Sight" "page") ∈ lw_all := lw_g (lw_at lw_m6 45 rfl) rfl
theorem q1332 : (Jvm.Cond.laysFinal "CribBooklet$Sight" "CribBooklet$Sight" "number" "I") ∈ lw_all := lw_g (lw_at lw_m6 46 rfl) rfl
theorem q1333 : (Jvm.Cond.soleField "CribBooklet$Sight" "number") ∈ lw_all := lw_g (lw_at lw_m6 47 rfl) rfl
theorem q1334 : (Jvm.Cond.laysFinal "CribBooklet$Sight" "CribBooklet$Sight" "isUpsideDown" "Z") ∈ lw_all := lw_g (lw_at lw_m6 48 rfl) rfl
theorem q1335 : (Jvm.Cond.soleField "CribBooklet$Sight" "isUpsideDown") ∈ lw_all := lw_g (lw_at lw_m6 49 rfl) rfl
theorem q1336 : (Jvm.Cond.superclass "CribBooklet$Sight" "java/lang/Record") ∈ lw_all := lw_g (lw_at lw_m6 50 rfl) rfl
theorem q2741 : (Jvm.Cond.instanceMethod ({ cls := "CribBooklet$Sight", name := "page", desc := "()I" } : Jvm.MethodName)) ∈ lw_all := lw_g (lw_at lw_m12 15 rfl) rfl
theorem q2742 : (Jvm.Cond.selects "CribBooklet$Sight" ({ cls := "CribBooklet$Sight", name := "page", desc := "()I" } : Jvm.MethodName) ({ cls := "CribBooklet$Sight", name := "page", desc := "()I" } : Jvm.MethodName)) ∈ lw_all := lw_g (lw_at lw_m12 16 rfl) rfl
theorem q2743 : (Jvm.Cond.code ({ cls := "CribBooklet$Sight", name := "page", desc := "()I" } : Jvm.MethodName) prog_27_method_5_code (1 : Nat) (Option.some Jvm.ClassFile.FieldType.int)) ∈ lw_all := lw_g (lw_at lw_m12 17 rfl) rfl
theorem q2745 : (Jvm.Cond.instanceMethod ({ cls := "CribBooklet$Sight", name := "number", desc := "()I" } : Jvm.MethodName)) ∈ lw_all := lw_g (lw_at lw_m12 19 rfl) rfl
theorem q2746 : (Jvm.Cond.selects "CribBooklet$Sight" ({ cls := "CribBooklet$Sight", name := "number", desc := "()I" } : Jvm.MethodName) ({ cls := "CribBooklet$Sight", name := "number", desc := "()I" } : Jvm.MethodName)) ∈ lw_all := lw_g (lw_at lw_m12 20 rfl) rfl
theorem q2747 : (Jvm.Cond.code ({ cls := "CribBooklet$Sight", name := "number", desc := "()I" } : Jvm.MethodName) prog_27_method_6_code (1 : Nat) (Option.some Jvm.ClassFile.FieldType.int)) ∈ lw_all := lw_g (lw_at lw_m12 21 rfl) rfl
theorem q2749 : (Jvm.Cond.instanceMethod ({ cls := "CribBooklet$Sight", name := "isUpsideDown", desc := "()Z" } : Jvm.MethodName)) ∈ lw_all := lw_g (lw_at lw_m12 23 rfl) rfl
theorem q2750 : (Jvm.Cond.selects "CribBooklet$Sight" ({ cls := "CribBooklet$Sight", name := "isUpsideDown", desc := "()Z" } : Jvm.MethodName) ({ cls := "CribBooklet$Sight", name := "isUpsideDown", desc := "()Z" } : Jvm.MethodName)) ∈ lw_all := lw_g (lw_at lw_m12 24 rfl) rfl
theorem q2751 : (Jvm.Cond.code ({ cls := "CribBooklet$Sight", name := "isUpsideDown", desc := "()Z" } : Jvm.MethodName) prog_27_method_7_code (1 : Nat) (Option.some Jvm.ClassFile.FieldType.boolean)) ∈ lw_all := lw_g (lw_at lw_m12 25 rfl) rfl
theorem q3360 : (Jvm.Cond.castable "CribBooklet$Sight" "java/lang/Object") ∈ lw_tbl := lw_at lw_m14 154 rfl
theorem in_X10 : ∀ w ∈ wsX100, w ∈ lw_all := lw_in wsX100 [1330, 1332, 1334] (by decide +kernel) (by decide +kernel)

end
section
/-! CribBooklet$Fold -/
set_option maxRecDepth 100000
def RX11 : String := "CribBooklet$Fold"
def TX11 : u_T := fun k => match k with
  | _ => ("CribBooklet$Fold", "fold", "I", true)
def tyX11 : Nat → FieldType := fun k => match k with
  | _ => .int
abbrev wsX110 : List Cond := u_ws RX11 TX11 1
theorem nmX11 : ∀ a, a < 1 → ∀ b, b < 1 → a ≠ b → (TX11 a).2.1 ≠ (TX11 b).2.1 := by decide +kernel
theorem tyX11_ok : ∀ k, k < 1 → parseFieldDescriptor (TX11 k).2.2.1 = some (tyX11 k) := by decide +kernel
abbrev cX11_check : ByteArray := prog_10_method_2_code
def yX11_check : MethodName := ⟨RX11, "check", "(LCribBooklet$Sheet;)I"⟩
def dkwX11_check_1 : List UInt8 := [182, 0, 25, 42, 180, 0, 9, 182, 0, 29, 154, 0, 8, 16, 254, 167, 0, 4, 3, 172]
abbrev dktX11_check_1 : List UInt8 := dkwX11_check_1 ++ []
def dkwX11_check_0 : List UInt8 := [42, 180, 0, 9, 4, 7, 184, 0, 15, 154, 0, 5, 2, 172, 43, 182, 0, 19, 154, 0, 17, 43]
abbrev dktX11_check_0 : List UInt8 := dkwX11_check_0 ++ dktX11_check_1
theorem dksX11_check_0 : cX11_check.data.toList.drop 0 = dktX11_check_0 := by decide +kernel
theorem dksX11_check_1 : cX11_check.data.toList.drop 22 = dktX11_check_1 := dk_seg dksX11_check_0 22 rfl rfl
theorem dX11_check_0 : decode cX11_check 0 = .ok (.aload_n 0, 1) := dk_42 (dk_at dksX11_check_0 0 rfl rfl)
theorem dX11_check_1 : decode cX11_check 1 = .ok (.getfield 9, 3) := dk_180 0 9 (dk_at dksX11_check_0 1 rfl rfl)
theorem dX11_check_4 : decode cX11_check 4 = .ok (.iconst 1, 1) := dk_4 (dk_at dksX11_check_0 4 rfl rfl)
theorem dX11_check_5 : decode cX11_check 5 = .ok (.iconst 4, 1) := dk_7 (dk_at dksX11_check_0 5 rfl rfl)
theorem dX11_check_6 : decode cX11_check 6 = .ok (.invokestatic 15, 3) := dk_184 0 15 (dk_at dksX11_check_0 6 rfl rfl)
theorem dX11_check_9 : decode cX11_check 9 = .ok (.ifCond .ne 5, 3) := dk_154 0 5 (dk_at dksX11_check_0 9 rfl rfl)
theorem dX11_check_12 : decode cX11_check 12 = .ok (.iconst (-1), 1) := dk_2 (dk_at dksX11_check_0 12 rfl rfl)
theorem dX11_check_13 : decode cX11_check 13 = .ok (.ireturn, 1) := dk_172 (dk_at dksX11_check_0 13 rfl rfl)
theorem dX11_check_14 : decode cX11_check 14 = .ok (.aload_n 1, 1) := dk_43 (dk_at dksX11_check_0 14 rfl rfl)
theorem dX11_check_15 : decode cX11_check 15 = .ok (.invokevirtual 19, 3) := dk_182 0 19 (dk_at dksX11_check_0 15 rfl rfl)
theorem dX11_check_18 : decode cX11_check 18 = .ok (.ifCond .ne 17, 3) := dk_154 0 17 (dk_at dksX11_check_0 18 rfl rfl)
theorem dX11_check_21 : decode cX11_check 21 = .ok (.aload_n 1, 1) := dk_43 (dk_at dksX11_check_0 21 rfl rfl)
theorem dX11_check_22 : decode cX11_check 22 = .ok (.invokevirtual 25, 3) := dk_182 0 25 (dk_at dksX11_check_1 0 rfl rfl)
theorem dX11_check_25 : decode cX11_check 25 = .ok (.aload_n 0, 1) := dk_42 (dk_at dksX11_check_1 3 rfl rfl)
theorem dX11_check_26 : decode cX11_check 26 = .ok (.getfield 9, 3) := dk_180 0 9 (dk_at dksX11_check_1 4 rfl rfl)
theorem dX11_check_29 : decode cX11_check 29 = .ok (.invokevirtual 29, 3) := dk_182 0 29 (dk_at dksX11_check_1 7 rfl rfl)
theorem dX11_check_32 : decode cX11_check 32 = .ok (.ifCond .ne 8, 3) := dk_154 0 8 (dk_at dksX11_check_1 10 rfl rfl)
theorem dX11_check_35 : decode cX11_check 35 = .ok (.bipush (-2), 2) := dk_16 254 (dk_at dksX11_check_1 13 rfl rfl)
theorem dX11_check_37 : decode cX11_check 37 = .ok (.goto 4, 3) := dk_167 0 4 (dk_at dksX11_check_1 15 rfl rfl)
theorem dX11_check_40 : decode cX11_check 40 = .ok (.iconst 0, 1) := dk_3 (dk_at dksX11_check_1 18 rfl rfl)
theorem dX11_check_41 : decode cX11_check 41 = .ok (.ireturn, 1) := dk_172 (dk_at dksX11_check_1 19 rfl rfl)
abbrev cX11_carryOut : ByteArray := prog_10_method_3_code
def yX11_carryOut : MethodName := ⟨RX11, "carryOut", "(LCribBooklet$Sheet;)I"⟩
def dkwX11_carryOut_1 : List UInt8 := [180, 0, 9, 79, 43, 89, 180, 0, 46, 4, 96, 181, 0, 46, 43, 182, 0, 39, 172]
abbrev dktX11_carryOut_1 : List UInt8 := dkwX11_carryOut_1 ++ []
def dkwX11_carryOut_0 : List UInt8 := [43, 180, 0, 35, 3, 92, 46, 43, 182, 0, 39, 96, 79, 43, 180, 0, 43, 43, 180, 0, 46, 42]
abbrev dktX11_carryOut_0 : List UInt8 := dkwX11_carryOut_0 ++ dktX11_carryOut_1
theorem dksX11_carryOut_0 : cX11_carryOut.data.toList.drop 0 = dktX11_carryOut_0 := by decide +kernel
theorem dksX11_carryOut_1 : cX11_carryOut.data.toList.drop 22 = dktX11_carryOut_1 := dk_seg dksX11_carryOut_0 22 rfl rfl
theorem dX11_carryOut_0 : decode cX11_carryOut 0 = .ok (.aload_n 1, 1) := dk_43 (dk_at dksX11_carryOut_0 0 rfl rfl)
theorem dX11_carryOut_1 : decode cX11_carryOut 1 = .ok (.getfield 35, 3) := dk_180 0 35 (dk_at dksX11_carryOut_0 1 rfl rfl)
theorem dX11_carryOut_4 : decode cX11_carryOut 4 = .ok (.iconst 0, 1) := dk_3 (dk_at dksX11_carryOut_0 4 rfl rfl)
theorem dX11_carryOut_5 : decode cX11_carryOut 5 = .ok (.dup2, 1) := dk_92 (dk_at dksX11_carryOut_0 5 rfl rfl)
theorem dX11_carryOut_6 : decode cX11_carryOut 6 = .ok (.iaload, 1) := dk_46 (dk_at dksX11_carryOut_0 6 rfl rfl)
theorem dX11_carryOut_7 : decode cX11_carryOut 7 = .ok (.aload_n 1, 1) := dk_43 (dk_at dksX11_carryOut_0 7 rfl rfl)
theorem dX11_carryOut_8 : decode cX11_carryOut 8 = .ok (.invokevirtual 39, 3) := dk_182 0 39 (dk_at dksX11_carryOut_0 8 rfl rfl)
theorem dX11_carryOut_11 : decode cX11_carryOut 11 = .ok (.iadd, 1) := dk_96 (dk_at dksX11_carryOut_0 11 rfl rfl)
theorem dX11_carryOut_12 : decode cX11_carryOut 12 = .ok (.iastore, 1) := dk_79 (dk_at dksX11_carryOut_0 12 rfl rfl)
theorem dX11_carryOut_13 : decode cX11_carryOut 13 = .ok (.aload_n 1, 1) := dk_43 (dk_at dksX11_carryOut_0 13 rfl rfl)
theorem dX11_carryOut_14 : decode cX11_carryOut 14 = .ok (.getfield 43, 3) := dk_180 0 43 (dk_at dksX11_carryOut_0 14 rfl rfl)
theorem dX11_carryOut_17 : decode cX11_carryOut 17 = .ok (.aload_n 1, 1) := dk_43 (dk_at dksX11_carryOut_0 17 rfl rfl)
theorem dX11_carryOut_18 : decode cX11_carryOut 18 = .ok (.getfield 46, 3) := dk_180 0 46 (dk_at dksX11_carryOut_0 18 rfl rfl)
theorem dX11_carryOut_21 : decode cX11_carryOut 21 = .ok (.aload_n 0, 1) := dk_42 (dk_at dksX11_carryOut_0 21 rfl rfl)
theorem dX11_carryOut_22 : decode cX11_carryOut 22 = .ok (.getfield 9, 3) := dk_180 0 9 (dk_at dksX11_carryOut_1 0 rfl rfl)
theorem dX11_carryOut_25 : decode cX11_carryOut 25 = .ok (.iastore, 1) := dk_79 (dk_at dksX11_carryOut_1 3 rfl rfl)
theorem dX11_carryOut_26 : decode cX11_carryOut 26 = .ok (.aload_n 1, 1) := dk_43 (dk_at dksX11_carryOut_1 4 rfl rfl)
theorem dX11_carryOut_27 : decode cX11_carryOut 27 = .ok (.dup, 1) := dk_89 (dk_at dksX11_carryOut_1 5 rfl rfl)
theorem dX11_carryOut_28 : decode cX11_carryOut 28 = .ok (.getfield 46, 3) := dk_180 0 46 (dk_at dksX11_carryOut_1 6 rfl rfl)
theorem dX11_carryOut_31 : decode cX11_carryOut 31 = .ok (.iconst 1, 1) := dk_4 (dk_at dksX11_carryOut_1 9 rfl rfl)
theorem dX11_carryOut_32 : decode cX11_carryOut 32 = .ok (.iadd, 1) := dk_96 (dk_at dksX11_carryOut_1 10 rfl rfl)
theorem dX11_carryOut_33 : decode cX11_carryOut 33 = .ok (.putfield 46, 3) := dk_181 0 46 (dk_at dksX11_carryOut_1 11 rfl rfl)
theorem dX11_carryOut_36 : decode cX11_carryOut 36 = .ok (.aload_n 1, 1) := dk_43 (dk_at dksX11_carryOut_1 14 rfl rfl)
theorem dX11_carryOut_37 : decode cX11_carryOut 37 = .ok (.invokevirtual 39, 3) := dk_182 0 39 (dk_at dksX11_carryOut_1 15 rfl rfl)
theorem dX11_carryOut_40 : decode cX11_carryOut 40 = .ok (.ireturn, 1) := dk_172 (dk_at dksX11_carryOut_1 18 rfl rfl)
abbrev cX11_init : ByteArray := prog_10_method_1_code
def yX11_init : MethodName := ⟨RX11, "<init>", "(I)V"⟩
def dkwX11_init_0 : List UInt8 := [42, 183, 0, 3, 42, 27, 181, 0, 9, 177]
abbrev dktX11_init_0 : List UInt8 := dkwX11_init_0 ++ []
theorem dksX11_init_0 : cX11_init.data.toList.drop 0 = dktX11_init_0 := by decide +kernel
theorem dX11_init_0 : decode cX11_init 0 = .ok (.aload_n 0, 1) := dk_42 (dk_at dksX11_init_0 0 rfl rfl)
theorem dX11_init_1 : decode cX11_init 1 = .ok (.invokespecial 3, 3) := dk_183 0 3 (dk_at dksX11_init_0 1 rfl rfl)
theorem dX11_init_4 : decode cX11_init 4 = .ok (.aload_n 0, 1) := dk_42 (dk_at dksX11_init_0 4 rfl rfl)
theorem dX11_init_5 : decode cX11_init 5 = .ok (.iload_n 1, 1) := dk_27 (dk_at dksX11_init_0 5 rfl rfl)
theorem dX11_init_6 : decode cX11_init 6 = .ok (.putfield 9, 3) := dk_181 0 9 (dk_at dksX11_init_0 6 rfl rfl)
theorem dX11_init_9 : decode cX11_init 9 = .ok (.return_, 1) := dk_177 (dk_at dksX11_init_0 9 rfl rfl)
theorem q124 : (Jvm.Cond.initialized "CribBooklet$Fold") ∈ lw_all := lw_g (lw_at lw_m1 38 rfl) rfl
theorem q219 : (Jvm.Cond.fieldLinkNest "CribBooklet$Fold" (43 : Nat) "CribBooklet$Sheet" "folds" "[I" "CribBooklet") ∈ lw_tbl := lw_at lw_m1 133 rfl
theorem q223 : (Jvm.Cond.fieldLinkNest "CribBooklet$Fold" (46 : Nat) "CribBooklet$Sheet" "foldMany" "I" "CribBooklet") ∈ lw_tbl := lw_at lw_m1 137 rfl
theorem q270 : (Jvm.Cond.fieldLinkNest "CribBooklet$Fold" (35 : Nat) "CribBooklet$Sheet" "efforts" "[I" "CribBooklet") ∈ lw_tbl := lw_at lw_m1 184 rfl
theorem q445 : (Jvm.Cond.castable "CribBooklet$Fold" "CribBooklet$Command") ∈ lw_tbl := lw_at lw_m2 119 rfl
theorem q446 : (Jvm.Cond.selects "CribBooklet$Fold" ({ cls := "CribBooklet$Command", name := "check", desc := "(LCribBooklet$Sheet;)I" } : Jvm.MethodName) ({ cls := "CribBooklet$Fold", name := "check", desc := "(LCribBooklet$Sheet;)I" } : Jvm.MethodName)) ∈ lw_all := lw_g (lw_at lw_m2 120 rfl) rfl
theorem q447 : (Jvm.Cond.unhidden "CribBooklet$Fold" "check" "(LCribBooklet$Sheet;)I") ∈ lw_tbl := lw_at lw_m2 121 rfl
theorem q448 : (Jvm.Cond.instanceMethod ({ cls := "CribBooklet$Fold", name := "check", desc := "(LCribBooklet$Sheet;)I" } : Jvm.MethodName)) ∈ lw_all := lw_g (lw_at lw_m2 122 rfl) rfl
theorem q449 : (Jvm.Cond.publicMethod ({ cls := "CribBooklet$Fold", name := "check", desc := "(LCribBooklet$Sheet;)I" } : Jvm.MethodName)) ∈ lw_tbl := lw_at lw_m2 123 rfl
theorem q450 : (Jvm.Cond.code ({ cls := "CribBooklet$Fold", name := "check", desc := "(LCribBooklet$Sheet;)I" } : Jvm.MethodName) prog_10_method_2_code (2 : Nat) (Option.some Jvm.ClassFile.FieldType.int)) ∈ lw_all := lw_g (lw_at lw_m2 124 rfl) rfl
theorem q451 : (Jvm.Cond.methodLinkNest "CribBooklet$Fold" (15 : Nat) ({ cls := "CribBooklet", name := "isIn", desc := "(III)Z" } : Jvm.MethodName) "CribBooklet") ∈ lw_tbl := lw_at lw_m2 125 rfl
theorem q452 : (Jvm.Cond.methodLink "CribBooklet$Fold" (19 : Nat) ({ cls := "CribBooklet$Sheet", name := "isWorked", desc := "()Z" } : Jvm.MethodName)) ∈ lw_all := lw_g (lw_at lw_m2 126 rfl) rfl
theorem q456 : (Jvm.Cond.methodLink "CribBooklet$Fold" (25 : Nat) ({ cls := "CribBooklet$Sheet", name := "folding", desc := "()LCribBooklet$Folding;" } : Jvm.MethodName)) ∈ lw_all := lw_g (lw_at lw_m2 130 rfl) rfl
theorem q528 : (Jvm.Cond.methodLink "CribBooklet$Fold" (29 : Nat) ({ cls := "CribBooklet$Folding", name := "canFold", desc := "(I)Z" } : Jvm.MethodName)) ∈ lw_all := lw_g (lw_at lw_m2 202 rfl) rfl
theorem q705 : (Jvm.Cond.selects "CribBooklet$Fold" ({ cls := "java/lang/Object", name := "getClass", desc := "()Ljava/lang/Class;" } : Jvm.MethodName) ({ cls := "java/lang/Object", name := "getClass", desc := "()Ljava/lang/Class;" } : Jvm.MethodName)) ∈ lw_all := lw_g (lw_at lw_m3 139 rfl) rfl
theorem q1219 : (Jvm.Cond.selects "CribBooklet$Fold" ({ cls := "CribBooklet$Command", name := "carryOut", desc := "(LCribBooklet$Sheet;)I" } : Jvm.MethodName) ({ cls := "CribBooklet$Fold", name := "carryOut", desc := "(LCribBooklet$Sheet;)I" } : Jvm.MethodName)) ∈ lw_all := lw_g (lw_at lw_m5 173 rfl) rfl
theorem q1220 : (Jvm.Cond.unhidden "CribBooklet$Fold" "carryOut" "(LCribBooklet$Sheet;)I") ∈ lw_tbl := lw_at lw_m5 174 rfl
theorem q1221 : (Jvm.Cond.instanceMethod ({ cls := "CribBooklet$Fold", name := "carryOut", desc := "(LCribBooklet$Sheet;)I" } : Jvm.MethodName)) ∈ lw_all := lw_g (lw_at lw_m5 175 rfl) rfl
theorem q1222 : (Jvm.Cond.publicMethod ({ cls := "CribBooklet$Fold", name := "carryOut", desc := "(LCribBooklet$Sheet;)I" } : Jvm.MethodName)) ∈ lw_tbl := lw_at lw_m5 176 rfl
theorem q1223 : (Jvm.Cond.code ({ cls := "CribBooklet$Fold", name := "carryOut", desc := "(LCribBooklet$Sheet;)I" } : Jvm.MethodName) prog_10_method_3_code (2 : Nat) (Option.some Jvm.ClassFile.FieldType.int)) ∈ lw_all := lw_g (lw_at lw_m5 177 rfl) rfl
theorem q1224 : (Jvm.Cond.methodLink "CribBooklet$Fold" (39 : Nat) ({ cls := "CribBooklet$Sheet", name := "layers", desc := "()I" } : Jvm.MethodName)) ∈ lw_all := lw_g (lw_at lw_m5 178 rfl) rfl
theorem q1369 : (Jvm.Cond.instantiable "CribBooklet$Fold" (1 : Nat)) ∈ lw_all := lw_g (lw_at lw_m6 83 rfl) rfl
theorem q1371 : (Jvm.Cond.instanceMethod ({ cls := "CribBooklet$Fold", name := "<init>", desc := "(I)V" } : Jvm.MethodName)) ∈ lw_all := lw_g (lw_at lw_m6 85 rfl) rfl
theorem q1372 : (Jvm.Cond.code ({ cls := "CribBooklet$Fold", name := "<init>", desc := "(I)V" } : Jvm.MethodName) prog_10_method_1_code (2 : Nat) (Option.none : Option Jvm.ClassFile.FieldType)) ∈ lw_all := lw_g (lw_at lw_m6 86 rfl) rfl
theorem q1373 : (Jvm.Cond.methodLink "CribBooklet$Fold" (3 : Nat) ({ cls := "java/lang/Record", name := "<init>", desc := "()V" } : Jvm.MethodName)) ∈ lw_all := lw_g (lw_at lw_m6 87 rfl) rfl
theorem q1374 : (Jvm.Cond.fieldLink "CribBooklet$Fold" (9 : Nat) "CribBooklet$Fold" "fold" "I") ∈ lw_all := lw_g (lw_at lw_m6 88 rfl) rfl
theorem q1375 : (Jvm.Cond.laysFinal "CribBooklet$Fold" "CribBooklet$Fold" "fold" "I") ∈ lw_all := lw_g (lw_at lw_m6 89 rfl) rfl
theorem q1376 : (Jvm.Cond.soleField "CribBooklet$Fold" "fold") ∈ lw_all := lw_g (lw_at lw_m6 90 rfl) rfl
theorem q1377 : (Jvm.Cond.superclass "CribBooklet$Fold" "java/lang/Record") ∈ lw_all := lw_g (lw_at lw_m6 91 rfl) rfl
theorem q3339 : (Jvm.Cond.castable "CribBooklet$Fold" "java/lang/Object") ∈ lw_tbl := lw_at lw_m14 133 rfl
theorem in_X11 : ∀ w ∈ wsX110, w ∈ lw_all := lw_in wsX110 [1375] (by decide +kernel) (by decide +kernel)

end
section
/-! CribBooklet$Unfold -/
set_option maxRecDepth 100000
def RX12 : String := "CribBooklet$Unfold"
abbrev cX12_check : ByteArray := prog_30_method_2_code
def yX12_check : MethodName := ⟨RX12, "check", "(LCribBooklet$Sheet;)I"⟩
def dkwX12_check_0 : List UInt8 := [43, 182, 0, 9, 154, 0, 10, 43, 180, 0, 15, 154, 0, 8, 16, 254, 167, 0, 4, 3, 172]
abbrev dktX12_check_0 : List UInt8 := dkwX12_check_0 ++ []
theorem dksX12_check_0 : cX12_check.data.toList.drop 0 = dktX12_check_0 := by decide +kernel
theorem dX12_check_0 : decode cX12_check 0 = .ok (.aload_n 1, 1) := dk_43 (dk_at dksX12_check_0 0 rfl rfl)
theorem dX12_check_1 : decode cX12_check 1 = .ok (.invokevirtual 9, 3) := dk_182 0 9 (dk_at dksX12_check_0 1 rfl rfl)
theorem dX12_check_4 : decode cX12_check 4 = .ok (.ifCond .ne 10, 3) := dk_154 0 10 (dk_at dksX12_check_0 4 rfl rfl)
theorem dX12_check_7 : decode cX12_check 7 = .ok (.aload_n 1, 1) := dk_43 (dk_at dksX12_check_0 7 rfl rfl)
theorem dX12_check_8 : decode cX12_check 8 = .ok (.getfield 15, 3) := dk_180 0 15 (dk_at dksX12_check_0 8 rfl rfl)
theorem dX12_check_11 : decode cX12_check 11 = .ok (.ifCond .ne 8, 3) := dk_154 0 8 (dk_at dksX12_check_0 11 rfl rfl)
theorem dX12_check_14 : decode cX12_check 14 = .ok (.bipush (-2), 2) := dk_16 254 (dk_at dksX12_check_0 14 rfl rfl)
theorem dX12_check_16 : decode cX12_check 16 = .ok (.goto 4, 3) := dk_167 0 4 (dk_at dksX12_check_0 16 rfl rfl)
theorem dX12_check_19 : decode cX12_check 19 = .ok (.iconst 0, 1) := dk_3 (dk_at dksX12_check_0 19 rfl rfl)
theorem dX12_check_20 : decode cX12_check 20 = .ok (.ireturn, 1) := dk_172 (dk_at dksX12_check_0 20 rfl rfl)
abbrev cX12_carryOut : ByteArray := prog_30_method_3_code
def yX12_carryOut : MethodName := ⟨RX12, "carryOut", "(LCribBooklet$Sheet;)I"⟩
def dkwX12_carryOut_1 : List UInt8 := [172]
abbrev dktX12_carryOut_1 : List UInt8 := dkwX12_carryOut_1 ++ []
def dkwX12_carryOut_0 : List UInt8 := [43, 180, 0, 19, 3, 92, 46, 4, 96, 79, 43, 89, 180, 0, 15, 4, 100, 181, 0, 15, 43, 180, 0, 15]
abbrev dktX12_carryOut_0 : List UInt8 := dkwX12_carryOut_0 ++ dktX12_carryOut_1
theorem dksX12_carryOut_0 : cX12_carryOut.data.toList.drop 0 = dktX12_carryOut_0 := by decide +kernel
theorem dksX12_carryOut_1 : cX12_carryOut.data.toList.drop 24 = dktX12_carryOut_1 := dk_seg dksX12_carryOut_0 24 rfl rfl
theorem dX12_carryOut_0 : decode cX12_carryOut 0 = .ok (.aload_n 1, 1) := dk_43 (dk_at dksX12_carryOut_0 0 rfl rfl)
theorem dX12_carryOut_1 : decode cX12_carryOut 1 = .ok (.getfield 19, 3) := dk_180 0 19 (dk_at dksX12_carryOut_0 1 rfl rfl)
theorem dX12_carryOut_4 : decode cX12_carryOut 4 = .ok (.iconst 0, 1) := dk_3 (dk_at dksX12_carryOut_0 4 rfl rfl)
theorem dX12_carryOut_5 : decode cX12_carryOut 5 = .ok (.dup2, 1) := dk_92 (dk_at dksX12_carryOut_0 5 rfl rfl)
theorem dX12_carryOut_6 : decode cX12_carryOut 6 = .ok (.iaload, 1) := dk_46 (dk_at dksX12_carryOut_0 6 rfl rfl)
theorem dX12_carryOut_7 : decode cX12_carryOut 7 = .ok (.iconst 1, 1) := dk_4 (dk_at dksX12_carryOut_0 7 rfl rfl)
theorem dX12_carryOut_8 : decode cX12_carryOut 8 = .ok (.iadd, 1) := dk_96 (dk_at dksX12_carryOut_0 8 rfl rfl)
theorem dX12_carryOut_9 : decode cX12_carryOut 9 = .ok (.iastore, 1) := dk_79 (dk_at dksX12_carryOut_0 9 rfl rfl)
theorem dX12_carryOut_10 : decode cX12_carryOut 10 = .ok (.aload_n 1, 1) := dk_43 (dk_at dksX12_carryOut_0 10 rfl rfl)
theorem dX12_carryOut_11 : decode cX12_carryOut 11 = .ok (.dup, 1) := dk_89 (dk_at dksX12_carryOut_0 11 rfl rfl)
theorem dX12_carryOut_12 : decode cX12_carryOut 12 = .ok (.getfield 15, 3) := dk_180 0 15 (dk_at dksX12_carryOut_0 12 rfl rfl)
theorem dX12_carryOut_15 : decode cX12_carryOut 15 = .ok (.iconst 1, 1) := dk_4 (dk_at dksX12_carryOut_0 15 rfl rfl)
theorem dX12_carryOut_16 : decode cX12_carryOut 16 = .ok (.isub, 1) := dk_100 (dk_at dksX12_carryOut_0 16 rfl rfl)
theorem dX12_carryOut_17 : decode cX12_carryOut 17 = .ok (.putfield 15, 3) := dk_181 0 15 (dk_at dksX12_carryOut_0 17 rfl rfl)
theorem dX12_carryOut_20 : decode cX12_carryOut 20 = .ok (.aload_n 1, 1) := dk_43 (dk_at dksX12_carryOut_0 20 rfl rfl)
theorem dX12_carryOut_21 : decode cX12_carryOut 21 = .ok (.getfield 15, 3) := dk_180 0 15 (dk_at dksX12_carryOut_0 21 rfl rfl)
theorem dX12_carryOut_24 : decode cX12_carryOut 24 = .ok (.ireturn, 1) := dk_172 (dk_at dksX12_carryOut_1 0 rfl rfl)
abbrev cX12_init : ByteArray := prog_30_method_1_code
def yX12_init : MethodName := ⟨RX12, "<init>", "()V"⟩
theorem dX12_init_0 : decode cX12_init 0 = .ok (.aload_n 0, 1) := by decide +kernel
theorem dX12_init_1 : decode cX12_init 1 = .ok (.invokespecial 3, 3) := by decide +kernel
theorem dX12_init_4 : decode cX12_init 4 = .ok (.return_, 1) := by decide +kernel
theorem q125 : (Jvm.Cond.initialized "CribBooklet$Unfold") ∈ lw_all := lw_g (lw_at lw_m1 39 rfl) rfl
theorem q220 : (Jvm.Cond.fieldLinkNest "CribBooklet$Unfold" (15 : Nat) "CribBooklet$Sheet" "foldMany" "I" "CribBooklet") ∈ lw_tbl := lw_at lw_m1 134 rfl
theorem q272 : (Jvm.Cond.fieldLinkNest "CribBooklet$Unfold" (19 : Nat) "CribBooklet$Sheet" "efforts" "[I" "CribBooklet") ∈ lw_tbl := lw_at lw_m1 186 rfl
theorem q626 : (Jvm.Cond.castable "CribBooklet$Unfold" "CribBooklet$Command") ∈ lw_tbl := lw_at lw_m3 60 rfl
theorem q627 : (Jvm.Cond.selects "CribBooklet$Unfold" ({ cls := "CribBooklet$Command", name := "check", desc := "(LCribBooklet$Sheet;)I" } : Jvm.MethodName) ({ cls := "CribBooklet$Unfold", name := "check", desc := "(LCribBooklet$Sheet;)I" } : Jvm.MethodName)) ∈ lw_all := lw_g (lw_at lw_m3 61 rfl) rfl
theorem q628 : (Jvm.Cond.unhidden "CribBooklet$Unfold" "check" "(LCribBooklet$Sheet;)I") ∈ lw_tbl := lw_at lw_m3 62 rfl
theorem q629 : (Jvm.Cond.instanceMethod ({ cls := "CribBooklet$Unfold", name := "check", desc := "(LCribBooklet$Sheet;)I" } : Jvm.MethodName)) ∈ lw_all := lw_g (lw_at lw_m3 63 rfl) rfl
theorem q630 : (Jvm.Cond.publicMethod ({ cls := "CribBooklet$Unfold", name := "check", desc := "(LCribBooklet$Sheet;)I" } : Jvm.MethodName)) ∈ lw_tbl := lw_at lw_m3 64 rfl
theorem q631 : (Jvm.Cond.code ({ cls := "CribBooklet$Unfold", name := "check", desc := "(LCribBooklet$Sheet;)I" } : Jvm.MethodName) prog_30_method_2_code (2 : Nat) (Option.some Jvm.ClassFile.FieldType.int)) ∈ lw_all := lw_g (lw_at lw_m3 65 rfl) rfl
theorem q632 : (Jvm.Cond.methodLink "CribBooklet$Unfold" (9 : Nat) ({ cls := "CribBooklet$Sheet", name := "isWorked", desc := "()Z" } : Jvm.MethodName)) ∈ lw_all := lw_g (lw_at lw_m3 66 rfl) rfl
theorem q725 : (Jvm.Cond.selects "CribBooklet$Unfold" ({ cls := "java/lang/Object", name := "getClass", desc := "()Ljava/lang/Class;" } : Jvm.MethodName) ({ cls := "java/lang/Object", name := "getClass", desc := "()Ljava/lang/Class;" } : Jvm.MethodName)) ∈ lw_all := lw_g (lw_at lw_m3 159 rfl) rfl
theorem q1353 : (Jvm.Cond.selects "CribBooklet$Unfold" ({ cls := "CribBooklet$Command", name := "carryOut", desc := "(LCribBooklet$Sheet;)I" } : Jvm.MethodName) ({ cls := "CribBooklet$Unfold", name := "carryOut", desc := "(LCribBooklet$Sheet;)I" } : Jvm.MethodName)) ∈ lw_all := lw_g (lw_at lw_m6 67 rfl) rfl
theorem q1354 : (Jvm.Cond.unhidden "CribBooklet$Unfold" "carryOut" "(LCribBooklet$Sheet;)I") ∈ lw_tbl := lw_at lw_m6 68 rfl
theorem q1355 : (Jvm.Cond.instanceMethod ({ cls := "CribBooklet$Unfold", name := "carryOut", desc := "(LCribBooklet$Sheet;)I" } : Jvm.MethodName)) ∈ lw_all := lw_g (lw_at lw_m6 69 rfl) rfl
theorem q1356 : (Jvm.Cond.publicMethod ({ cls := "CribBooklet$Unfold", name := "carryOut", desc := "(LCribBooklet$Sheet;)I" } : Jvm.MethodName)) ∈ lw_tbl := lw_at lw_m6 70 rfl
theorem q1357 : (Jvm.Cond.code ({ cls := "CribBooklet$Unfold", name := "carryOut", desc := "(LCribBooklet$Sheet;)I" } : Jvm.MethodName) prog_30_method_3_code (2 : Nat) (Option.some Jvm.ClassFile.FieldType.int)) ∈ lw_all := lw_g (lw_at lw_m6 71 rfl) rfl
theorem q1383 : (Jvm.Cond.instantiable "CribBooklet$Unfold" (0 : Nat)) ∈ lw_all := lw_g (lw_at lw_m6 97 rfl) rfl
theorem q1385 : (Jvm.Cond.instanceMethod ({ cls := "CribBooklet$Unfold", name := "<init>", desc := "()V" } : Jvm.MethodName)) ∈ lw_all := lw_g (lw_at lw_m6 99 rfl) rfl
theorem q1386 : (Jvm.Cond.code ({ cls := "CribBooklet$Unfold", name := "<init>", desc := "()V" } : Jvm.MethodName) prog_30_method_1_code (1 : Nat) (Option.none : Option Jvm.ClassFile.FieldType)) ∈ lw_all := lw_g (lw_at lw_m6 100 rfl) rfl
theorem q1387 : (Jvm.Cond.methodLink "CribBooklet$Unfold" (3 : Nat) ({ cls := "java/lang/Record", name := "<init>", desc := "()V" } : Jvm.MethodName)) ∈ lw_all := lw_g (lw_at lw_m6 101 rfl) rfl
theorem q1388 : (Jvm.Cond.superclass "CribBooklet$Unfold" "java/lang/Record") ∈ lw_all := lw_g (lw_at lw_m6 102 rfl) rfl
theorem q3340 : (Jvm.Cond.castable "CribBooklet$Unfold" "java/lang/Object") ∈ lw_tbl := lw_at lw_m14 134 rfl

end
section
/-! CribBooklet$Spine -/
set_option maxRecDepth 100000
def RX13 : String := "CribBooklet$Spine"
def TX13 : u_T := fun k => match k with
  | _ => ("CribBooklet$Spine", "spine", "I", true)
def tyX13 : Nat → FieldType := fun k => match k with
  | _ => .int
abbrev wsX130 : List Cond := u_ws RX13 TX13 1
theorem nmX13 : ∀ a, a < 1 → ∀ b, b < 1 → a ≠ b → (TX13 a).2.1 ≠ (TX13 b).2.1 := by decide +kernel
theorem tyX13_ok : ∀ k, k < 1 → parseFieldDescriptor (TX13 k).2.2.1 = some (tyX13 k) := by decide +kernel
abbrev cX13_check : ByteArray := prog_28_method_2_code
def yX13_check : MethodName := ⟨RX13, "check", "(LCribBooklet$Sheet;)I"⟩
def dkwX13_check_1 : List UInt8 := [167, 0, 4, 3, 172]
abbrev dktX13_check_1 : List UInt8 := dkwX13_check_1 ++ []
def dkwX13_check_0 : List UInt8 := [42, 180, 0, 9, 184, 0, 15, 154, 0, 7, 2, 167, 0, 16, 43, 180, 0, 19, 153, 0, 8, 16, 254]
abbrev dktX13_check_0 : List UInt8 := dkwX13_check_0 ++ dktX13_check_1
theorem dksX13_check_0 : cX13_check.data.toList.drop 0 = dktX13_check_0 := by decide +kernel
theorem dksX13_check_1 : cX13_check.data.toList.drop 23 = dktX13_check_1 := dk_seg dksX13_check_0 23 rfl rfl
theorem dX13_check_0 : decode cX13_check 0 = .ok (.aload_n 0, 1) := dk_42 (dk_at dksX13_check_0 0 rfl rfl)
theorem dX13_check_1 : decode cX13_check 1 = .ok (.getfield 9, 3) := dk_180 0 9 (dk_at dksX13_check_0 1 rfl rfl)
theorem dX13_check_4 : decode cX13_check 4 = .ok (.invokestatic 15, 3) := dk_184 0 15 (dk_at dksX13_check_0 4 rfl rfl)
theorem dX13_check_7 : decode cX13_check 7 = .ok (.ifCond .ne 7, 3) := dk_154 0 7 (dk_at dksX13_check_0 7 rfl rfl)
theorem dX13_check_10 : decode cX13_check 10 = .ok (.iconst (-1), 1) := dk_2 (dk_at dksX13_check_0 10 rfl rfl)
theorem dX13_check_11 : decode cX13_check 11 = .ok (.goto 16, 3) := dk_167 0 16 (dk_at dksX13_check_0 11 rfl rfl)
theorem dX13_check_14 : decode cX13_check 14 = .ok (.aload_n 1, 1) := dk_43 (dk_at dksX13_check_0 14 rfl rfl)
theorem dX13_check_15 : decode cX13_check 15 = .ok (.getfield 19, 3) := dk_180 0 19 (dk_at dksX13_check_0 15 rfl rfl)
theorem dX13_check_18 : decode cX13_check 18 = .ok (.ifCond .eq 8, 3) := dk_153 0 8 (dk_at dksX13_check_0 18 rfl rfl)
theorem dX13_check_21 : decode cX13_check 21 = .ok (.bipush (-2), 2) := dk_16 254 (dk_at dksX13_check_0 21 rfl rfl)
theorem dX13_check_23 : decode cX13_check 23 = .ok (.goto 4, 3) := dk_167 0 4 (dk_at dksX13_check_1 0 rfl rfl)
theorem dX13_check_26 : decode cX13_check 26 = .ok (.iconst 0, 1) := dk_3 (dk_at dksX13_check_1 3 rfl rfl)
theorem dX13_check_27 : decode cX13_check 27 = .ok (.ireturn, 1) := dk_172 (dk_at dksX13_check_1 4 rfl rfl)
abbrev cX13_carryOut : ByteArray := prog_28_method_3_code
def yX13_carryOut : MethodName := ⟨RX13, "carryOut", "(LCribBooklet$Sheet;)I"⟩
def dkwX13_carryOut_0 : List UInt8 := [43, 180, 0, 24, 61, 43, 42, 180, 0, 9, 181, 0, 24, 28, 172]
abbrev dktX13_carryOut_0 : List UInt8 := dkwX13_carryOut_0 ++ []
theorem dksX13_carryOut_0 : cX13_carryOut.data.toList.drop 0 = dktX13_carryOut_0 := by decide +kernel
theorem dX13_carryOut_0 : decode cX13_carryOut 0 = .ok (.aload_n 1, 1) := dk_43 (dk_at dksX13_carryOut_0 0 rfl rfl)
theorem dX13_carryOut_1 : decode cX13_carryOut 1 = .ok (.getfield 24, 3) := dk_180 0 24 (dk_at dksX13_carryOut_0 1 rfl rfl)
theorem dX13_carryOut_4 : decode cX13_carryOut 4 = .ok (.istore_n 2, 1) := dk_61 (dk_at dksX13_carryOut_0 4 rfl rfl)
theorem dX13_carryOut_5 : decode cX13_carryOut 5 = .ok (.aload_n 1, 1) := dk_43 (dk_at dksX13_carryOut_0 5 rfl rfl)
theorem dX13_carryOut_6 : decode cX13_carryOut 6 = .ok (.aload_n 0, 1) := dk_42 (dk_at dksX13_carryOut_0 6 rfl rfl)
theorem dX13_carryOut_7 : decode cX13_carryOut 7 = .ok (.getfield 9, 3) := dk_180 0 9 (dk_at dksX13_carryOut_0 7 rfl rfl)
theorem dX13_carryOut_10 : decode cX13_carryOut 10 = .ok (.putfield 24, 3) := dk_181 0 24 (dk_at dksX13_carryOut_0 10 rfl rfl)
theorem dX13_carryOut_13 : decode cX13_carryOut 13 = .ok (.iload_n 2, 1) := dk_28 (dk_at dksX13_carryOut_0 13 rfl rfl)
theorem dX13_carryOut_14 : decode cX13_carryOut 14 = .ok (.ireturn, 1) := dk_172 (dk_at dksX13_carryOut_0 14 rfl rfl)
abbrev cX13_init : ByteArray := prog_28_method_1_code
def yX13_init : MethodName := ⟨RX13, "<init>", "(I)V"⟩
def dkwX13_init_0 : List UInt8 := [42, 183, 0, 3, 42, 27, 181, 0, 9, 177]
abbrev dktX13_init_0 : List UInt8 := dkwX13_init_0 ++ []
theorem dksX13_init_0 : cX13_init.data.toList.drop 0 = dktX13_init_0 := by decide +kernel
theorem dX13_init_0 : decode cX13_init 0 = .ok (.aload_n 0, 1) := dk_42 (dk_at dksX13_init_0 0 rfl rfl)
theorem dX13_init_1 : decode cX13_init 1 = .ok (.invokespecial 3, 3) := dk_183 0 3 (dk_at dksX13_init_0 1 rfl rfl)
theorem dX13_init_4 : decode cX13_init 4 = .ok (.aload_n 0, 1) := dk_42 (dk_at dksX13_init_0 4 rfl rfl)
theorem dX13_init_5 : decode cX13_init 5 = .ok (.iload_n 1, 1) := dk_27 (dk_at dksX13_init_0 5 rfl rfl)
theorem dX13_init_6 : decode cX13_init 6 = .ok (.putfield 9, 3) := dk_181 0 9 (dk_at dksX13_init_0 6 rfl rfl)
theorem dX13_init_9 : decode cX13_init 9 = .ok (.return_, 1) := dk_177 (dk_at dksX13_init_0 9 rfl rfl)
theorem q126 : (Jvm.Cond.initialized "CribBooklet$Spine") ∈ lw_all := lw_g (lw_at lw_m1 40 rfl) rfl
theorem q234 : (Jvm.Cond.fieldLinkNest "CribBooklet$Spine" (24 : Nat) "CribBooklet$Sheet" "spine" "I" "CribBooklet") ∈ lw_tbl := lw_at lw_m1 148 rfl
theorem q243 : (Jvm.Cond.fieldLinkNest "CribBooklet$Spine" (19 : Nat) "CribBooklet$Sheet" "staples" "I" "CribBooklet") ∈ lw_tbl := lw_at lw_m1 157 rfl
theorem q604 : (Jvm.Cond.castable "CribBooklet$Spine" "CribBooklet$Command") ∈ lw_tbl := lw_at lw_m3 38 rfl
theorem q605 : (Jvm.Cond.selects "CribBooklet$Spine" ({ cls := "CribBooklet$Command", name := "check", desc := "(LCribBooklet$Sheet;)I" } : Jvm.MethodName) ({ cls := "CribBooklet$Spine", name := "check", desc := "(LCribBooklet$Sheet;)I" } : Jvm.MethodName)) ∈ lw_all := lw_g (lw_at lw_m3 39 rfl) rfl
theorem q606 : (Jvm.Cond.unhidden "CribBooklet$Spine" "check" "(LCribBooklet$Sheet;)I") ∈ lw_tbl := lw_at lw_m3 40 rfl
theorem q607 : (Jvm.Cond.instanceMethod ({ cls := "CribBooklet$Spine", name := "check", desc := "(LCribBooklet$Sheet;)I" } : Jvm.MethodName)) ∈ lw_all := lw_g (lw_at lw_m3 41 rfl) rfl
theorem q608 : (Jvm.Cond.publicMethod ({ cls := "CribBooklet$Spine", name := "check", desc := "(LCribBooklet$Sheet;)I" } : Jvm.MethodName)) ∈ lw_tbl := lw_at lw_m3 42 rfl
theorem q609 : (Jvm.Cond.code ({ cls := "CribBooklet$Spine", name := "check", desc := "(LCribBooklet$Sheet;)I" } : Jvm.MethodName) prog_28_method_2_code (2 : Nat) (Option.some Jvm.ClassFile.FieldType.int)) ∈ lw_all := lw_g (lw_at lw_m3 43 rfl) rfl
theorem q610 : (Jvm.Cond.methodLinkNest "CribBooklet$Spine" (15 : Nat) ({ cls := "CribBooklet", name := "isBit", desc := "(I)Z" } : Jvm.MethodName) "CribBooklet") ∈ lw_tbl := lw_at lw_m3 44 rfl
theorem q723 : (Jvm.Cond.selects "CribBooklet$Spine" ({ cls := "java/lang/Object", name := "getClass", desc := "()Ljava/lang/Class;" } : Jvm.MethodName) ({ cls := "java/lang/Object", name := "getClass", desc := "()Ljava/lang/Class;" } : Jvm.MethodName)) ∈ lw_all := lw_g (lw_at lw_m3 157 rfl) rfl
theorem q1338 : (Jvm.Cond.selects "CribBooklet$Spine" ({ cls := "CribBooklet$Command", name := "carryOut", desc := "(LCribBooklet$Sheet;)I" } : Jvm.MethodName) ({ cls := "CribBooklet$Spine", name := "carryOut", desc := "(LCribBooklet$Sheet;)I" } : Jvm.MethodName)) ∈ lw_all := lw_g (lw_at lw_m6 52 rfl) rfl
theorem q1339 : (Jvm.Cond.unhidden "CribBooklet$Spine" "carryOut" "(LCribBooklet$Sheet;)I") ∈ lw_tbl := lw_at lw_m6 53 rfl
theorem q1340 : (Jvm.Cond.instanceMethod ({ cls := "CribBooklet$Spine", name := "carryOut", desc := "(LCribBooklet$Sheet;)I" } : Jvm.MethodName)) ∈ lw_all := lw_g (lw_at lw_m6 54 rfl) rfl
theorem q1341 : (Jvm.Cond.publicMethod ({ cls := "CribBooklet$Spine", name := "carryOut", desc := "(LCribBooklet$Sheet;)I" } : Jvm.MethodName)) ∈ lw_tbl := lw_at lw_m6 55 rfl
theorem q1342 : (Jvm.Cond.code ({ cls := "CribBooklet$Spine", name := "carryOut", desc := "(LCribBooklet$Sheet;)I" } : Jvm.MethodName) prog_28_method_3_code (3 : Nat) (Option.some Jvm.ClassFile.FieldType.int)) ∈ lw_all := lw_g (lw_at lw_m6 56 rfl) rfl
theorem q1394 : (Jvm.Cond.instantiable "CribBooklet$Spine" (1 : Nat)) ∈ lw_all := lw_g (lw_at lw_m6 108 rfl) rfl
theorem q1396 : (Jvm.Cond.instanceMethod ({ cls := "CribBooklet$Spine", name := "<init>", desc := "(I)V" } : Jvm.MethodName)) ∈ lw_all := lw_g (lw_at lw_m6 110 rfl) rfl
theorem q1397 : (Jvm.Cond.code ({ cls := "CribBooklet$Spine", name := "<init>", desc := "(I)V" } : Jvm.MethodName) prog_28_method_1_code (2 : Nat) (Option.none : Option Jvm.ClassFile.FieldType)) ∈ lw_all := lw_g (lw_at lw_m6 111 rfl) rfl
theorem q1398 : (Jvm.Cond.methodLink "CribBooklet$Spine" (3 : Nat) ({ cls := "java/lang/Record", name := "<init>", desc := "()V" } : Jvm.MethodName)) ∈ lw_all := lw_g (lw_at lw_m6 112 rfl) rfl
theorem q1399 : (Jvm.Cond.fieldLink "CribBooklet$Spine" (9 : Nat) "CribBooklet$Spine" "spine" "I") ∈ lw_all := lw_g (lw_at lw_m6 113 rfl) rfl
theorem q1400 : (Jvm.Cond.laysFinal "CribBooklet$Spine" "CribBooklet$Spine" "spine" "I") ∈ lw_all := lw_g (lw_at lw_m6 114 rfl) rfl
theorem q1401 : (Jvm.Cond.soleField "CribBooklet$Spine" "spine") ∈ lw_all := lw_g (lw_at lw_m6 115 rfl) rfl
theorem q1402 : (Jvm.Cond.superclass "CribBooklet$Spine" "java/lang/Record") ∈ lw_all := lw_g (lw_at lw_m6 116 rfl) rfl
theorem q3341 : (Jvm.Cond.castable "CribBooklet$Spine" "java/lang/Object") ∈ lw_tbl := lw_at lw_m14 135 rfl
theorem in_X13 : ∀ w ∈ wsX130, w ∈ lw_all := lw_in wsX130 [1400] (by decide +kernel) (by decide +kernel)

end
section
/-! CribBooklet$Print -/
set_option maxRecDepth 100000
def RX14 : String := "CribBooklet$Print"
def TX14 : u_T := fun k => match k with
  | 0 => ("CribBooklet$Print", "row", "I", true)
  | 1 => ("CribBooklet$Print", "column", "I", true)
  | 2 => ("CribBooklet$Print", "side", "I", true)
  | 3 => ("CribBooklet$Print", "number", "I", true)
  | _ => ("CribBooklet$Print", "turned", "I", true)
def tyX14 : Nat → FieldType := fun k => match k with
  | 0 => .int
  | 1 => .int
  | 2 => .int
  | 3 => .int
  | _ => .int
abbrev wsX140 : List Cond := u_ws RX14 TX14 5
theorem nmX14 : ∀ a, a < 5 → ∀ b, b < 5 → a ≠ b → (TX14 a).2.1 ≠ (TX14 b).2.1 := by decide +kernel
theorem tyX14_ok : ∀ k, k < 5 → parseFieldDescriptor (TX14 k).2.2.1 = some (tyX14 k) := by decide +kernel
abbrev cX14_check : ByteArray := prog_21_method_2_code
def yX14_check : MethodName := ⟨RX14, "check", "(LCribBooklet$Sheet;)I"⟩
def dkwX14_check_3 : List UInt8 := [3, 172]
abbrev dktX14_check_3 : List UInt8 := dkwX14_check_3 ++ []
def dkwX14_check_2 : List UInt8 := [154, 0, 5, 2, 172, 43, 180, 0, 41, 157, 0, 10, 43, 182, 0, 44, 153, 0, 8, 16, 254, 167, 0, 4]
abbrev dktX14_check_2 : List UInt8 := dkwX14_check_2 ++ dktX14_check_3
def dkwX14_check_1 : List UInt8 := [153, 0, 26, 42, 180, 0, 21, 2, 16, 31, 184, 0, 37, 153, 0, 13, 42, 180, 0, 24, 184, 0, 33]
abbrev dktX14_check_1 : List UInt8 := dkwX14_check_1 ++ dktX14_check_2
def dkwX14_check_0 : List UInt8 := [43, 42, 180, 0, 9, 42, 180, 0, 15, 182, 0, 27, 153, 0, 36, 42, 180, 0, 18, 184, 0, 33]
abbrev dktX14_check_0 : List UInt8 := dkwX14_check_0 ++ dktX14_check_1
theorem dksX14_check_0 : cX14_check.data.toList.drop 0 = dktX14_check_0 := by decide +kernel
theorem dksX14_check_1 : cX14_check.data.toList.drop 22 = dktX14_check_1 := dk_seg dksX14_check_0 22 rfl rfl
theorem dksX14_check_2 : cX14_check.data.toList.drop 45 = dktX14_check_2 := dk_seg dksX14_check_1 23 rfl rfl
theorem dksX14_check_3 : cX14_check.data.toList.drop 69 = dktX14_check_3 := dk_seg dksX14_check_2 24 rfl rfl
theorem dX14_check_0 : decode cX14_check 0 = .ok (.aload_n 1, 1) := dk_43 (dk_at dksX14_check_0 0 rfl rfl)
theorem dX14_check_1 : decode cX14_check 1 = .ok (.aload_n 0, 1) := dk_42 (dk_at dksX14_check_0 1 rfl rfl)
theorem dX14_check_2 : decode cX14_check 2 = .ok (.getfield 9, 3) := dk_180 0 9 (dk_at dksX14_check_0 2 rfl rfl)
theorem dX14_check_5 : decode cX14_check 5 = .ok (.aload_n 0, 1) := dk_42 (dk_at dksX14_check_0 5 rfl rfl)
theorem dX14_check_6 : decode cX14_check 6 = .ok (.getfield 15, 3) := dk_180 0 15 (dk_at dksX14_check_0 6 rfl rfl)
theorem dX14_check_9 : decode cX14_check 9 = .ok (.invokevirtual 27, 3) := dk_182 0 27 (dk_at dksX14_check_0 9 rfl rfl)
theorem dX14_check_12 : decode cX14_check 12 = .ok (.ifCond .eq 36, 3) := dk_153 0 36 (dk_at dksX14_check_0 12 rfl rfl)
theorem dX14_check_15 : decode cX14_check 15 = .ok (.aload_n 0, 1) := dk_42 (dk_at dksX14_check_0 15 rfl rfl)
theorem dX14_check_16 : decode cX14_check 16 = .ok (.getfield 18, 3) := dk_180 0 18 (dk_at dksX14_check_0 16 rfl rfl)
theorem dX14_check_19 : decode cX14_check 19 = .ok (.invokestatic 33, 3) := dk_184 0 33 (dk_at dksX14_check_0 19 rfl rfl)
theorem dX14_check_22 : decode cX14_check 22 = .ok (.ifCond .eq 26, 3) := dk_153 0 26 (dk_at dksX14_check_1 0 rfl rfl)
theorem dX14_check_25 : decode cX14_check 25 = .ok (.aload_n 0, 1) := dk_42 (dk_at dksX14_check_1 3 rfl rfl)
theorem dX14_check_26 : decode cX14_check 26 = .ok (.getfield 21, 3) := dk_180 0 21 (dk_at dksX14_check_1 4 rfl rfl)
theorem dX14_check_29 : decode cX14_check 29 = .ok (.iconst (-1), 1) := dk_2 (dk_at dksX14_check_1 7 rfl rfl)
theorem dX14_check_30 : decode cX14_check 30 = .ok (.bipush 31, 2) := dk_16 31 (dk_at dksX14_check_1 8 rfl rfl)
theorem dX14_check_32 : decode cX14_check 32 = .ok (.invokestatic 37, 3) := dk_184 0 37 (dk_at dksX14_check_1 10 rfl rfl)
theorem dX14_check_35 : decode cX14_check 35 = .ok (.ifCond .eq 13, 3) := dk_153 0 13 (dk_at dksX14_check_1 13 rfl rfl)
theorem dX14_check_38 : decode cX14_check 38 = .ok (.aload_n 0, 1) := dk_42 (dk_at dksX14_check_1 16 rfl rfl)
theorem dX14_check_39 : decode cX14_check 39 = .ok (.getfield 24, 3) := dk_180 0 24 (dk_at dksX14_check_1 17 rfl rfl)
theorem dX14_check_42 : decode cX14_check 42 = .ok (.invokestatic 33, 3) := dk_184 0 33 (dk_at dksX14_check_1 20 rfl rfl)
theorem dX14_check_45 : decode cX14_check 45 = .ok (.ifCond .ne 5, 3) := dk_154 0 5 (dk_at dksX14_check_2 0 rfl rfl)
theorem dX14_check_48 : decode cX14_check 48 = .ok (.iconst (-1), 1) := dk_2 (dk_at dksX14_check_2 3 rfl rfl)
theorem dX14_check_49 : decode cX14_check 49 = .ok (.ireturn, 1) := dk_172 (dk_at dksX14_check_2 4 rfl rfl)
theorem dX14_check_50 : decode cX14_check 50 = .ok (.aload_n 1, 1) := dk_43 (dk_at dksX14_check_2 5 rfl rfl)
theorem dX14_check_51 : decode cX14_check 51 = .ok (.getfield 41, 3) := dk_180 0 41 (dk_at dksX14_check_2 6 rfl rfl)
theorem dX14_check_54 : decode cX14_check 54 = .ok (.ifCond .gt 10, 3) := dk_157 0 10 (dk_at dksX14_check_2 9 rfl rfl)
theorem dX14_check_57 : decode cX14_check 57 = .ok (.aload_n 1, 1) := dk_43 (dk_at dksX14_check_2 12 rfl rfl)
theorem dX14_check_58 : decode cX14_check 58 = .ok (.invokevirtual 44, 3) := dk_182 0 44 (dk_at dksX14_check_2 13 rfl rfl)
theorem dX14_check_61 : decode cX14_check 61 = .ok (.ifCond .eq 8, 3) := dk_153 0 8 (dk_at dksX14_check_2 16 rfl rfl)
theorem dX14_check_64 : decode cX14_check 64 = .ok (.bipush (-2), 2) := dk_16 254 (dk_at dksX14_check_2 19 rfl rfl)
theorem dX14_check_66 : decode cX14_check 66 = .ok (.goto 4, 3) := dk_167 0 4 (dk_at dksX14_check_2 21 rfl rfl)
theorem dX14_check_69 : decode cX14_check 69 = .ok (.iconst 0, 1) := dk_3 (dk_at dksX14_check_3 0 rfl rfl)
theorem dX14_check_70 : decode cX14_check 70 = .ok (.ireturn, 1) := dk_172 (dk_at dksX14_check_3 1 rfl rfl)
abbrev cX14_carryOut : ByteArray := prog_21_method_3_code
def yX14_carryOut : MethodName := ⟨RX14, "carryOut", "(LCribBooklet$Sheet;)I"⟩
def dkwX14_carryOut_2 : List UInt8 := [159, 0, 15, 42, 180, 0, 24, 4, 160, 0, 7, 4, 167, 0, 4, 3, 182, 0, 56, 87, 29, 172]
abbrev dktX14_carryOut_2 : List UInt8 := dkwX14_carryOut_2 ++ []
def dkwX14_carryOut_1 : List UInt8 := [43, 28, 42, 180, 0, 21, 2, 160, 0, 8, 16, 247, 167, 0, 7, 42, 180, 0, 21, 42, 180, 0, 21, 2]
abbrev dktX14_carryOut_1 : List UInt8 := dkwX14_carryOut_1 ++ dktX14_carryOut_2
def dkwX14_carryOut_0 : List UInt8 := [43, 42, 180, 0, 9, 42, 180, 0, 15, 42, 180, 0, 18, 182, 0, 48, 61, 43, 180, 0, 52, 28, 46, 62]
abbrev dktX14_carryOut_0 : List UInt8 := dkwX14_carryOut_0 ++ dktX14_carryOut_1
theorem dksX14_carryOut_0 : cX14_carryOut.data.toList.drop 0 = dktX14_carryOut_0 := by decide +kernel
theorem dksX14_carryOut_1 : cX14_carryOut.data.toList.drop 24 = dktX14_carryOut_1 := dk_seg dksX14_carryOut_0 24 rfl rfl
theorem dksX14_carryOut_2 : cX14_carryOut.data.toList.drop 48 = dktX14_carryOut_2 := dk_seg dksX14_carryOut_1 24 rfl rfl
theorem dX14_carryOut_0 : decode cX14_carryOut 0 = .ok (.aload_n 1, 1) := dk_43 (dk_at dksX14_carryOut_0 0 rfl rfl)
theorem dX14_carryOut_1 : decode cX14_carryOut 1 = .ok (.aload_n 0, 1) := dk_42 (dk_at dksX14_carryOut_0 1 rfl rfl)
theorem dX14_carryOut_2 : decode cX14_carryOut 2 = .ok (.getfield 9, 3) := dk_180 0 9 (dk_at dksX14_carryOut_0 2 rfl rfl)
theorem dX14_carryOut_5 : decode cX14_carryOut 5 = .ok (.aload_n 0, 1) := dk_42 (dk_at dksX14_carryOut_0 5 rfl rfl)
theorem dX14_carryOut_6 : decode cX14_carryOut 6 = .ok (.getfield 15, 3) := dk_180 0 15 (dk_at dksX14_carryOut_0 6 rfl rfl)
theorem dX14_carryOut_9 : decode cX14_carryOut 9 = .ok (.aload_n 0, 1) := dk_42 (dk_at dksX14_carryOut_0 9 rfl rfl)
theorem dX14_carryOut_10 : decode cX14_carryOut 10 = .ok (.getfield 18, 3) := dk_180 0 18 (dk_at dksX14_carryOut_0 10 rfl rfl)
theorem dX14_carryOut_13 : decode cX14_carryOut 13 = .ok (.invokevirtual 48, 3) := dk_182 0 48 (dk_at dksX14_carryOut_0 13 rfl rfl)
theorem dX14_carryOut_16 : decode cX14_carryOut 16 = .ok (.istore_n 2, 1) := dk_61 (dk_at dksX14_carryOut_0 16 rfl rfl)
theorem dX14_carryOut_17 : decode cX14_carryOut 17 = .ok (.aload_n 1, 1) := dk_43 (dk_at dksX14_carryOut_0 17 rfl rfl)
theorem dX14_carryOut_18 : decode cX14_carryOut 18 = .ok (.getfield 52, 3) := dk_180 0 52 (dk_at dksX14_carryOut_0 18 rfl rfl)
theorem dX14_carryOut_21 : decode cX14_carryOut 21 = .ok (.iload_n 2, 1) := dk_28 (dk_at dksX14_carryOut_0 21 rfl rfl)
theorem dX14_carryOut_22 : decode cX14_carryOut 22 = .ok (.iaload, 1) := dk_46 (dk_at dksX14_carryOut_0 22 rfl rfl)
theorem dX14_carryOut_23 : decode cX14_carryOut 23 = .ok (.istore_n 3, 1) := dk_62 (dk_at dksX14_carryOut_0 23 rfl rfl)
theorem dX14_carryOut_24 : decode cX14_carryOut 24 = .ok (.aload_n 1, 1) := dk_43 (dk_at dksX14_carryOut_1 0 rfl rfl)
theorem dX14_carryOut_25 : decode cX14_carryOut 25 = .ok (.iload_n 2, 1) := dk_28 (dk_at dksX14_carryOut_1 1 rfl rfl)
theorem dX14_carryOut_26 : decode cX14_carryOut 26 = .ok (.aload_n 0, 1) := dk_42 (dk_at dksX14_carryOut_1 2 rfl rfl)
theorem dX14_carryOut_27 : decode cX14_carryOut 27 = .ok (.getfield 21, 3) := dk_180 0 21 (dk_at dksX14_carryOut_1 3 rfl rfl)
theorem dX14_carryOut_30 : decode cX14_carryOut 30 = .ok (.iconst (-1), 1) := dk_2 (dk_at dksX14_carryOut_1 6 rfl rfl)
theorem dX14_carryOut_31 : decode cX14_carryOut 31 = .ok (.if_icmp .ne 8, 3) := dk_160 0 8 (dk_at dksX14_carryOut_1 7 rfl rfl)
theorem dX14_carryOut_34 : decode cX14_carryOut 34 = .ok (.bipush (-9), 2) := dk_16 247 (dk_at dksX14_carryOut_1 10 rfl rfl)
theorem dX14_carryOut_36 : decode cX14_carryOut 36 = .ok (.goto 7, 3) := dk_167 0 7 (dk_at dksX14_carryOut_1 12 rfl rfl)
theorem dX14_carryOut_39 : decode cX14_carryOut 39 = .ok (.aload_n 0, 1) := dk_42 (dk_at dksX14_carryOut_1 15 rfl rfl)
theorem dX14_carryOut_40 : decode cX14_carryOut 40 = .ok (.getfield 21, 3) := dk_180 0 21 (dk_at dksX14_carryOut_1 16 rfl rfl)
theorem dX14_carryOut_43 : decode cX14_carryOut 43 = .ok (.aload_n 0, 1) := dk_42 (dk_at dksX14_carryOut_1 19 rfl rfl)
theorem dX14_carryOut_44 : decode cX14_carryOut 44 = .ok (.getfield 21, 3) := dk_180 0 21 (dk_at dksX14_carryOut_1 20 rfl rfl)
theorem dX14_carryOut_47 : decode cX14_carryOut 47 = .ok (.iconst (-1), 1) := dk_2 (dk_at dksX14_carryOut_1 23 rfl rfl)
theorem dX14_carryOut_48 : decode cX14_carryOut 48 = .ok (.if_icmp .eq 15, 3) := dk_159 0 15 (dk_at dksX14_carryOut_2 0 rfl rfl)
theorem dX14_carryOut_51 : decode cX14_carryOut 51 = .ok (.aload_n 0, 1) := dk_42 (dk_at dksX14_carryOut_2 3 rfl rfl)
theorem dX14_carryOut_52 : decode cX14_carryOut 52 = .ok (.getfield 24, 3) := dk_180 0 24 (dk_at dksX14_carryOut_2 4 rfl rfl)
theorem dX14_carryOut_55 : decode cX14_carryOut 55 = .ok (.iconst 1, 1) := dk_4 (dk_at dksX14_carryOut_2 7 rfl rfl)
theorem dX14_carryOut_56 : decode cX14_carryOut 56 = .ok (.if_icmp .ne 7, 3) := dk_160 0 7 (dk_at dksX14_carryOut_2 8 rfl rfl)
theorem dX14_carryOut_59 : decode cX14_carryOut 59 = .ok (.iconst 1, 1) := dk_4 (dk_at dksX14_carryOut_2 11 rfl rfl)
theorem dX14_carryOut_60 : decode cX14_carryOut 60 = .ok (.goto 4, 3) := dk_167 0 4 (dk_at dksX14_carryOut_2 12 rfl rfl)
theorem dX14_carryOut_63 : decode cX14_carryOut 63 = .ok (.iconst 0, 1) := dk_3 (dk_at dksX14_carryOut_2 15 rfl rfl)
theorem dX14_carryOut_64 : decode cX14_carryOut 64 = .ok (.invokevirtual 56, 3) := dk_182 0 56 (dk_at dksX14_carryOut_2 16 rfl rfl)
theorem dX14_carryOut_67 : decode cX14_carryOut 67 = .ok (.pop, 1) := dk_87 (dk_at dksX14_carryOut_2 19 rfl rfl)
theorem dX14_carryOut_68 : decode cX14_carryOut 68 = .ok (.iload_n 3, 1) := dk_29 (dk_at dksX14_carryOut_2 20 rfl rfl)
theorem dX14_carryOut_69 : decode cX14_carryOut 69 = .ok (.ireturn, 1) := dk_172 (dk_at dksX14_carryOut_2 21 rfl rfl)
abbrev cX14_init : ByteArray := prog_21_method_1_code
def yX14_init : MethodName := ⟨RX14, "<init>", "(IIIII)V"⟩
def dkwX14_init_1 : List UInt8 := [181, 0, 21, 42, 21, 5, 181, 0, 24, 177]
abbrev dktX14_init_1 : List UInt8 := dkwX14_init_1 ++ []
def dkwX14_init_0 : List UInt8 := [42, 183, 0, 3, 42, 27, 181, 0, 9, 42, 28, 181, 0, 15, 42, 29, 181, 0, 18, 42, 21, 4]
abbrev dktX14_init_0 : List UInt8 := dkwX14_init_0 ++ dktX14_init_1
theorem dksX14_init_0 : cX14_init.data.toList.drop 0 = dktX14_init_0 := by decide +kernel
theorem dksX14_init_1 : cX14_init.data.toList.drop 22 = dktX14_init_1 := dk_seg dksX14_init_0 22 rfl rfl
theorem dX14_init_0 : decode cX14_init 0 = .ok (.aload_n 0, 1) := dk_42 (dk_at dksX14_init_0 0 rfl rfl)
theorem dX14_init_1 : decode cX14_init 1 = .ok (.invokespecial 3, 3) := dk_183 0 3 (dk_at dksX14_init_0 1 rfl rfl)
theorem dX14_init_4 : decode cX14_init 4 = .ok (.aload_n 0, 1) := dk_42 (dk_at dksX14_init_0 4 rfl rfl)
theorem dX14_init_5 : decode cX14_init 5 = .ok (.iload_n 1, 1) := dk_27 (dk_at dksX14_init_0 5 rfl rfl)
theorem dX14_init_6 : decode cX14_init 6 = .ok (.putfield 9, 3) := dk_181 0 9 (dk_at dksX14_init_0 6 rfl rfl)
theorem dX14_init_9 : decode cX14_init 9 = .ok (.aload_n 0, 1) := dk_42 (dk_at dksX14_init_0 9 rfl rfl)
theorem dX14_init_10 : decode cX14_init 10 = .ok (.iload_n 2, 1) := dk_28 (dk_at dksX14_init_0 10 rfl rfl)
theorem dX14_init_11 : decode cX14_init 11 = .ok (.putfield 15, 3) := dk_181 0 15 (dk_at dksX14_init_0 11 rfl rfl)
theorem dX14_init_14 : decode cX14_init 14 = .ok (.aload_n 0, 1) := dk_42 (dk_at dksX14_init_0 14 rfl rfl)
theorem dX14_init_15 : decode cX14_init 15 = .ok (.iload_n 3, 1) := dk_29 (dk_at dksX14_init_0 15 rfl rfl)
theorem dX14_init_16 : decode cX14_init 16 = .ok (.putfield 18, 3) := dk_181 0 18 (dk_at dksX14_init_0 16 rfl rfl)
theorem dX14_init_19 : decode cX14_init 19 = .ok (.aload_n 0, 1) := dk_42 (dk_at dksX14_init_0 19 rfl rfl)
theorem dX14_init_20 : decode cX14_init 20 = .ok (.iload 4, 2) := dk_21 4 (dk_at dksX14_init_0 20 rfl rfl)
theorem dX14_init_22 : decode cX14_init 22 = .ok (.putfield 21, 3) := dk_181 0 21 (dk_at dksX14_init_1 0 rfl rfl)
theorem dX14_init_25 : decode cX14_init 25 = .ok (.aload_n 0, 1) := dk_42 (dk_at dksX14_init_1 3 rfl rfl)
theorem dX14_init_26 : decode cX14_init 26 = .ok (.iload 5, 2) := dk_21 5 (dk_at dksX14_init_1 4 rfl rfl)
theorem dX14_init_28 : decode cX14_init 28 = .ok (.putfield 24, 3) := dk_181 0 24 (dk_at dksX14_init_1 6 rfl rfl)
theorem dX14_init_31 : decode cX14_init 31 = .ok (.return_, 1) := dk_177 (dk_at dksX14_init_1 9 rfl rfl)
theorem q127 : (Jvm.Cond.initialized "CribBooklet$Print") ∈ lw_all := lw_g (lw_at lw_m1 41 rfl) rfl
theorem q222 : (Jvm.Cond.fieldLinkNest "CribBooklet$Print" (41 : Nat) "CribBooklet$Sheet" "foldMany" "I" "CribBooklet") ∈ lw_tbl := lw_at lw_m1 136 rfl
theorem q228 : (Jvm.Cond.fieldLinkNest "CribBooklet$Print" (52 : Nat) "CribBooklet$Sheet" "numbers" "[I" "CribBooklet") ∈ lw_tbl := lw_at lw_m1 142 rfl
theorem q561 : (Jvm.Cond.castable "CribBooklet$Print" "CribBooklet$Command") ∈ lw_tbl := lw_at lw_m2 235 rfl
theorem q562 : (Jvm.Cond.selects "CribBooklet$Print" ({ cls := "CribBooklet$Command", name := "check", desc := "(LCribBooklet$Sheet;)I" } : Jvm.MethodName) ({ cls := "CribBooklet$Print", name := "check", desc := "(LCribBooklet$Sheet;)I" } : Jvm.MethodName)) ∈ lw_all := lw_g (lw_at lw_m2 236 rfl) rfl
theorem q563 : (Jvm.Cond.unhidden "CribBooklet$Print" "check" "(LCribBooklet$Sheet;)I") ∈ lw_tbl := lw_at lw_m2 237 rfl
theorem q564 : (Jvm.Cond.instanceMethod ({ cls := "CribBooklet$Print", name := "check", desc := "(LCribBooklet$Sheet;)I" } : Jvm.MethodName)) ∈ lw_all := lw_g (lw_at lw_m2 238 rfl) rfl
theorem q565 : (Jvm.Cond.publicMethod ({ cls := "CribBooklet$Print", name := "check", desc := "(LCribBooklet$Sheet;)I" } : Jvm.MethodName)) ∈ lw_tbl := lw_at lw_m2 239 rfl
theorem q566 : (Jvm.Cond.code ({ cls := "CribBooklet$Print", name := "check", desc := "(LCribBooklet$Sheet;)I" } : Jvm.MethodName) prog_21_method_2_code (2 : Nat) (Option.some Jvm.ClassFile.FieldType.int)) ∈ lw_all := lw_g (lw_at lw_m3 0 rfl) rfl
theorem q567 : (Jvm.Cond.methodLink "CribBooklet$Print" (27 : Nat) ({ cls := "CribBooklet$Sheet", name := "isCell", desc := "(II)Z" } : Jvm.MethodName)) ∈ lw_all := lw_g (lw_at lw_m3 1 rfl) rfl
theorem q572 : (Jvm.Cond.methodLinkNest "CribBooklet$Print" (33 : Nat) ({ cls := "CribBooklet", name := "isBit", desc := "(I)Z" } : Jvm.MethodName) "CribBooklet") ∈ lw_tbl := lw_at lw_m3 6 rfl
theorem q573 : (Jvm.Cond.methodLinkNest "CribBooklet$Print" (37 : Nat) ({ cls := "CribBooklet", name := "isIn", desc := "(III)Z" } : Jvm.MethodName) "CribBooklet") ∈ lw_tbl := lw_at lw_m3 7 rfl
theorem q574 : (Jvm.Cond.methodLink "CribBooklet$Print" (44 : Nat) ({ cls := "CribBooklet$Sheet", name := "isWorked", desc := "()Z" } : Jvm.MethodName)) ∈ lw_all := lw_g (lw_at lw_m3 8 rfl) rfl
theorem q716 : (Jvm.Cond.selects "CribBooklet$Print" ({ cls := "java/lang/Object", name := "getClass", desc := "()Ljava/lang/Class;" } : Jvm.MethodName) ({ cls := "java/lang/Object", name := "getClass", desc := "()Ljava/lang/Class;" } : Jvm.MethodName)) ∈ lw_all := lw_g (lw_at lw_m3 150 rfl) rfl
theorem q1253 : (Jvm.Cond.selects "CribBooklet$Print" ({ cls := "CribBooklet$Command", name := "carryOut", desc := "(LCribBooklet$Sheet;)I" } : Jvm.MethodName) ({ cls := "CribBooklet$Print", name := "carryOut", desc := "(LCribBooklet$Sheet;)I" } : Jvm.MethodName)) ∈ lw_all := lw_g (lw_at lw_m5 207 rfl) rfl
theorem q1254 : (Jvm.Cond.unhidden "CribBooklet$Print" "carryOut" "(LCribBooklet$Sheet;)I") ∈ lw_tbl := lw_at lw_m5 208 rfl
theorem q1255 : (Jvm.Cond.instanceMethod ({ cls := "CribBooklet$Print", name := "carryOut", desc := "(LCribBooklet$Sheet;)I" } : Jvm.MethodName)) ∈ lw_all := lw_g (lw_at lw_m5 209 rfl) rfl
theorem q1256 : (Jvm.Cond.publicMethod ({ cls := "CribBooklet$Print", name := "carryOut", desc := "(LCribBooklet$Sheet;)I" } : Jvm.MethodName)) ∈ lw_tbl := lw_at lw_m5 210 rfl
theorem q1257 : (Jvm.Cond.code ({ cls := "CribBooklet$Print", name := "carryOut", desc := "(LCribBooklet$Sheet;)I" } : Jvm.MethodName) prog_21_method_3_code (4 : Nat) (Option.some Jvm.ClassFile.FieldType.int)) ∈ lw_all := lw_g (lw_at lw_m5 211 rfl) rfl
theorem q1258 : (Jvm.Cond.methodLink "CribBooklet$Print" (48 : Nat) ({ cls := "CribBooklet$Sheet", name := "sideOf", desc := "(III)I" } : Jvm.MethodName)) ∈ lw_all := lw_g (lw_at lw_m5 212 rfl) rfl
theorem q1262 : (Jvm.Cond.methodLink "CribBooklet$Print" (56 : Nat) ({ cls := "CribBooklet$Sheet", name := "print", desc := "(IIZ)Z" } : Jvm.MethodName)) ∈ lw_all := lw_g (lw_at lw_m5 216 rfl) rfl
theorem q1408 : (Jvm.Cond.instantiable "CribBooklet$Print" (5 : Nat)) ∈ lw_all := lw_g (lw_at lw_m6 122 rfl) rfl
theorem q1410 : (Jvm.Cond.instanceMethod ({ cls := "CribBooklet$Print", name := "<init>", desc := "(IIIII)V" } : Jvm.MethodName)) ∈ lw_all := lw_g (lw_at lw_m6 124 rfl) rfl
theorem q1411 : (Jvm.Cond.code ({ cls := "CribBooklet$Print", name := "<init>", desc := "(IIIII)V" } : Jvm.MethodName) prog_21_method_1_code (6 : Nat) (Option.none : Option Jvm.ClassFile.FieldType)) ∈ lw_all := lw_g (lw_at lw_m6 125 rfl) rfl
theorem q1412 : (Jvm.Cond.methodLink "CribBooklet$Print" (3 : Nat) ({ cls := "java/lang/Record", name := "<init>", desc := "()V" } : Jvm.MethodName)) ∈ lw_all := lw_g (lw_at lw_m6 126 rfl) rfl
theorem q1413 : (Jvm.Cond.fieldLink "CribBooklet$Print" (9 : Nat) "CribBooklet$Print" "row" "I") ∈ lw_all := lw_g (lw_at lw_m6 127 rfl) rfl
theorem q1414 : (Jvm.Cond.fieldLink "CribBooklet$Print" (15 : Nat) "CribBooklet$Print" "column" "I") ∈ lw_all := lw_g (lw_at lw_m6 128 rfl) rfl
theorem q1415 : (Jvm.Cond.fieldLink "CribBooklet$Print" (18 : Nat) "CribBooklet$Print" "side" "I") ∈ lw_all := lw_g (lw_at lw_m6 129 rfl) rfl
theorem q1416 : (Jvm.Cond.fieldLink "CribBooklet$Print" (21 : Nat) "CribBooklet$Print" "number" "I") ∈ lw_all := lw_g (lw_at lw_m6 130 rfl) rfl
theorem q1417 : (Jvm.Cond.fieldLink "CribBooklet$Print" (24 : Nat) "CribBooklet$Print" "turned" "I") ∈ lw_all := lw_g (lw_at lw_m6 131 rfl) rfl
theorem q1418 : (Jvm.Cond.laysFinal "CribBooklet$Print" "CribBooklet$Print" "row" "I") ∈ lw_all := lw_g (lw_at lw_m6 132 rfl) rfl
theorem q1419 : (Jvm.Cond.soleField "CribBooklet$Print" "row") ∈ lw_all := lw_g (lw_at lw_m6 133 rfl) rfl
theorem q1420 : (Jvm.Cond.laysFinal "CribBooklet$Print" "CribBooklet$Print" "column" "I") ∈ lw_all := lw_g (lw_at lw_m6 134 rfl) rfl
theorem q1421 : (Jvm.Cond.soleField "CribBooklet$Print" "column") ∈ lw_all := lw_g (lw_at lw_m6 135 rfl) rfl
theorem q1422 : (Jvm.Cond.laysFinal "CribBooklet$Print" "CribBooklet$Print" "side" "I") ∈ lw_all := lw_g (lw_at lw_m6 136 rfl) rfl
theorem q1423 : (Jvm.Cond.soleField "CribBooklet$Print" "side") ∈ lw_all := lw_g (lw_at lw_m6 137 rfl) rfl
theorem q1424 : (Jvm.Cond.laysFinal "CribBooklet$Print" "CribBooklet$Print" "number" "I") ∈ lw_all := lw_g (lw_at lw_m6 138 rfl) rfl
theorem q1425 : (Jvm.Cond.soleField "CribBooklet$Print" "number") ∈ lw_all := lw_g (lw_at lw_m6 139 rfl) rfl
theorem q1426 : (Jvm.Cond.laysFinal "CribBooklet$Print" "CribBooklet$Print" "turned" "I") ∈ lw_all := lw_g (lw_at lw_m6 140 rfl) rfl
theorem q1427 : (Jvm.Cond.soleField "CribBooklet$Print" "turned") ∈ lw_all := lw_g (lw_at lw_m6 141 rfl) rfl
theorem q1428 : (Jvm.Cond.superclass "CribBooklet$Print" "java/lang/Record") ∈ lw_all := lw_g (lw_at lw_m6 142 rfl) rfl
theorem q3342 : (Jvm.Cond.castable "CribBooklet$Print" "java/lang/Object") ∈ lw_tbl := lw_at lw_m14 136 rfl
theorem in_X14 : ∀ w ∈ wsX140, w ∈ lw_all := lw_in wsX140 [1418, 1420, 1422, 1424, 1426] (by decide +kernel) (by decide +kernel)

end
section
/-! CribBooklet$PrintAll -/
set_option maxRecDepth 100000
def RX15 : String := "CribBooklet$PrintAll"
def TX15 : u_T := fun k => match k with
  | _ => ("CribBooklet$PrintAll", "row", "I", true)
def tyX15 : Nat → FieldType := fun k => match k with
  | _ => .int
abbrev wsX150 : List Cond := u_ws RX15 TX15 1
theorem nmX15 : ∀ a, a < 1 → ∀ b, b < 1 → a ≠ b → (TX15 a).2.1 ≠ (TX15 b).2.1 := by decide +kernel
theorem tyX15_ok : ∀ k, k < 1 → parseFieldDescriptor (TX15 k).2.2.1 = some (tyX15 k) := by decide +kernel
abbrev cX15_check : ByteArray := prog_22_method_2_code
def yX15_check : MethodName := ⟨RX15, "check", "(LCribBooklet$Sheet;)I"⟩
def dkwX15_check_1 : List UInt8 := [153, 0, 8, 16, 254, 167, 0, 4, 3, 172]
abbrev dktX15_check_1 : List UInt8 := dkwX15_check_1 ++ []
def dkwX15_check_0 : List UInt8 := [43, 42, 180, 0, 9, 182, 0, 15, 154, 0, 5, 2, 172, 43, 180, 0, 21, 157, 0, 10, 43, 182, 0, 24]
abbrev dktX15_check_0 : List UInt8 := dkwX15_check_0 ++ dktX15_check_1
theorem dksX15_check_0 : cX15_check.data.toList.drop 0 = dktX15_check_0 := by decide +kernel
theorem dksX15_check_1 : cX15_check.data.toList.drop 24 = dktX15_check_1 := dk_seg dksX15_check_0 24 rfl rfl
theorem dX15_check_0 : decode cX15_check 0 = .ok (.aload_n 1, 1) := dk_43 (dk_at dksX15_check_0 0 rfl rfl)
theorem dX15_check_1 : decode cX15_check 1 = .ok (.aload_n 0, 1) := dk_42 (dk_at dksX15_check_0 1 rfl rfl)
theorem dX15_check_2 : decode cX15_check 2 = .ok (.getfield 9, 3) := dk_180 0 9 (dk_at dksX15_check_0 2 rfl rfl)
theorem dX15_check_5 : decode cX15_check 5 = .ok (.invokevirtual 15, 3) := dk_182 0 15 (dk_at dksX15_check_0 5 rfl rfl)
theorem dX15_check_8 : decode cX15_check 8 = .ok (.ifCond .ne 5, 3) := dk_154 0 5 (dk_at dksX15_check_0 8 rfl rfl)
theorem dX15_check_11 : decode cX15_check 11 = .ok (.iconst (-1), 1) := dk_2 (dk_at dksX15_check_0 11 rfl rfl)
theorem dX15_check_12 : decode cX15_check 12 = .ok (.ireturn, 1) := dk_172 (dk_at dksX15_check_0 12 rfl rfl)
theorem dX15_check_13 : decode cX15_check 13 = .ok (.aload_n 1, 1) := dk_43 (dk_at dksX15_check_0 13 rfl rfl)
theorem dX15_check_14 : decode cX15_check 14 = .ok (.getfield 21, 3) := dk_180 0 21 (dk_at dksX15_check_0 14 rfl rfl)
theorem dX15_check_17 : decode cX15_check 17 = .ok (.ifCond .gt 10, 3) := dk_157 0 10 (dk_at dksX15_check_0 17 rfl rfl)
theorem dX15_check_20 : decode cX15_check 20 = .ok (.aload_n 1, 1) := dk_43 (dk_at dksX15_check_0 20 rfl rfl)
theorem dX15_check_21 : decode cX15_check 21 = .ok (.invokevirtual 24, 3) := dk_182 0 24 (dk_at dksX15_check_0 21 rfl rfl)
theorem dX15_check_24 : decode cX15_check 24 = .ok (.ifCond .eq 8, 3) := dk_153 0 8 (dk_at dksX15_check_1 0 rfl rfl)
theorem dX15_check_27 : decode cX15_check 27 = .ok (.bipush (-2), 2) := dk_16 254 (dk_at dksX15_check_1 3 rfl rfl)
theorem dX15_check_29 : decode cX15_check 29 = .ok (.goto 4, 3) := dk_167 0 4 (dk_at dksX15_check_1 5 rfl rfl)
theorem dX15_check_32 : decode cX15_check 32 = .ok (.iconst 0, 1) := dk_3 (dk_at dksX15_check_1 8 rfl rfl)
theorem dX15_check_33 : decode cX15_check 33 = .ok (.ireturn, 1) := dk_172 (dk_at dksX15_check_1 9 rfl rfl)
abbrev cX15_carryOut : ByteArray := prog_22_method_3_code
def yX15_carryOut : MethodName := ⟨RX15, "carryOut", "(LCribBooklet$Sheet;)I"⟩
def dkwX15_carryOut_1 : List UInt8 := [182, 0, 41, 43, 180, 0, 28, 4, 46, 28, 100, 172]
abbrev dktX15_carryOut_1 : List UInt8 := dkwX15_carryOut_1 ++ []
def dkwX15_carryOut_0 : List UInt8 := [43, 180, 0, 28, 4, 46, 61, 187, 0, 32, 89, 43, 43, 42, 180, 0, 9, 182, 0, 34, 183, 0, 38]
abbrev dktX15_carryOut_0 : List UInt8 := dkwX15_carryOut_0 ++ dktX15_carryOut_1
theorem dksX15_carryOut_0 : cX15_carryOut.data.toList.drop 0 = dktX15_carryOut_0 := by decide +kernel
theorem dksX15_carryOut_1 : cX15_carryOut.data.toList.drop 23 = dktX15_carryOut_1 := dk_seg dksX15_carryOut_0 23 rfl rfl
theorem dX15_carryOut_0 : decode cX15_carryOut 0 = .ok (.aload_n 1, 1) := dk_43 (dk_at dksX15_carryOut_0 0 rfl rfl)
theorem dX15_carryOut_1 : decode cX15_carryOut 1 = .ok (.getfield 28, 3) := dk_180 0 28 (dk_at dksX15_carryOut_0 1 rfl rfl)
theorem dX15_carryOut_4 : decode cX15_carryOut 4 = .ok (.iconst 1, 1) := dk_4 (dk_at dksX15_carryOut_0 4 rfl rfl)
theorem dX15_carryOut_5 : decode cX15_carryOut 5 = .ok (.iaload, 1) := dk_46 (dk_at dksX15_carryOut_0 5 rfl rfl)
theorem dX15_carryOut_6 : decode cX15_carryOut 6 = .ok (.istore_n 2, 1) := dk_61 (dk_at dksX15_carryOut_0 6 rfl rfl)
theorem dX15_carryOut_7 : decode cX15_carryOut 7 = .ok (.new 32, 3) := dk_187 0 32 (dk_at dksX15_carryOut_0 7 rfl rfl)
theorem dX15_carryOut_10 : decode cX15_carryOut 10 = .ok (.dup, 1) := dk_89 (dk_at dksX15_carryOut_0 10 rfl rfl)
theorem dX15_carryOut_11 : decode cX15_carryOut 11 = .ok (.aload_n 1, 1) := dk_43 (dk_at dksX15_carryOut_0 11 rfl rfl)
theorem dX15_carryOut_12 : decode cX15_carryOut 12 = .ok (.aload_n 1, 1) := dk_43 (dk_at dksX15_carryOut_0 12 rfl rfl)
theorem dX15_carryOut_13 : decode cX15_carryOut 13 = .ok (.aload_n 0, 1) := dk_42 (dk_at dksX15_carryOut_0 13 rfl rfl)
theorem dX15_carryOut_14 : decode cX15_carryOut 14 = .ok (.getfield 9, 3) := dk_180 0 9 (dk_at dksX15_carryOut_0 14 rfl rfl)
theorem dX15_carryOut_17 : decode cX15_carryOut 17 = .ok (.invokevirtual 34, 3) := dk_182 0 34 (dk_at dksX15_carryOut_0 17 rfl rfl)
theorem dX15_carryOut_20 : decode cX15_carryOut 20 = .ok (.invokespecial 38, 3) := dk_183 0 38 (dk_at dksX15_carryOut_0 20 rfl rfl)
theorem dX15_carryOut_23 : decode cX15_carryOut 23 = .ok (.invokevirtual 41, 3) := dk_182 0 41 (dk_at dksX15_carryOut_1 0 rfl rfl)
theorem dX15_carryOut_26 : decode cX15_carryOut 26 = .ok (.aload_n 1, 1) := dk_43 (dk_at dksX15_carryOut_1 3 rfl rfl)
theorem dX15_carryOut_27 : decode cX15_carryOut 27 = .ok (.getfield 28, 3) := dk_180 0 28 (dk_at dksX15_carryOut_1 4 rfl rfl)
theorem dX15_carryOut_30 : decode cX15_carryOut 30 = .ok (.iconst 1, 1) := dk_4 (dk_at dksX15_carryOut_1 7 rfl rfl)
theorem dX15_carryOut_31 : decode cX15_carryOut 31 = .ok (.iaload, 1) := dk_46 (dk_at dksX15_carryOut_1 8 rfl rfl)
theorem dX15_carryOut_32 : decode cX15_carryOut 32 = .ok (.iload_n 2, 1) := dk_28 (dk_at dksX15_carryOut_1 9 rfl rfl)
theorem dX15_carryOut_33 : decode cX15_carryOut 33 = .ok (.isub, 1) := dk_100 (dk_at dksX15_carryOut_1 10 rfl rfl)
theorem dX15_carryOut_34 : decode cX15_carryOut 34 = .ok (.ireturn, 1) := dk_172 (dk_at dksX15_carryOut_1 11 rfl rfl)
abbrev cX15_init : ByteArray := prog_22_method_1_code
def yX15_init : MethodName := ⟨RX15, "<init>", "(I)V"⟩
def dkwX15_init_0 : List UInt8 := [42, 183, 0, 3, 42, 27, 181, 0, 9, 177]
abbrev dktX15_init_0 : List UInt8 := dkwX15_init_0 ++ []
theorem dksX15_init_0 : cX15_init.data.toList.drop 0 = dktX15_init_0 := by decide +kernel
theorem dX15_init_0 : decode cX15_init 0 = .ok (.aload_n 0, 1) := dk_42 (dk_at dksX15_init_0 0 rfl rfl)
theorem dX15_init_1 : decode cX15_init 1 = .ok (.invokespecial 3, 3) := dk_183 0 3 (dk_at dksX15_init_0 1 rfl rfl)
theorem dX15_init_4 : decode cX15_init 4 = .ok (.aload_n 0, 1) := dk_42 (dk_at dksX15_init_0 4 rfl rfl)
theorem dX15_init_5 : decode cX15_init 5 = .ok (.iload_n 1, 1) := dk_27 (dk_at dksX15_init_0 5 rfl rfl)
theorem dX15_init_6 : decode cX15_init 6 = .ok (.putfield 9, 3) := dk_181 0 9 (dk_at dksX15_init_0 6 rfl rfl)
theorem dX15_init_9 : decode cX15_init 9 = .ok (.return_, 1) := dk_177 (dk_at dksX15_init_0 9 rfl rfl)
theorem q128 : (Jvm.Cond.initialized "CribBooklet$PrintAll") ∈ lw_all := lw_g (lw_at lw_m1 42 rfl) rfl
theorem q221 : (Jvm.Cond.fieldLinkNest "CribBooklet$PrintAll" (21 : Nat) "CribBooklet$Sheet" "foldMany" "I" "CribBooklet") ∈ lw_tbl := lw_at lw_m1 135 rfl
theorem q271 : (Jvm.Cond.fieldLinkNest "CribBooklet$PrintAll" (28 : Nat) "CribBooklet$Sheet" "efforts" "[I" "CribBooklet") ∈ lw_tbl := lw_at lw_m1 185 rfl
theorem q575 : (Jvm.Cond.castable "CribBooklet$PrintAll" "CribBooklet$Command") ∈ lw_tbl := lw_at lw_m3 9 rfl
theorem q576 : (Jvm.Cond.selects "CribBooklet$PrintAll" ({ cls := "CribBooklet$Command", name := "check", desc := "(LCribBooklet$Sheet;)I" } : Jvm.MethodName) ({ cls := "CribBooklet$PrintAll", name := "check", desc := "(LCribBooklet$Sheet;)I" } : Jvm.MethodName)) ∈ lw_all := lw_g (lw_at lw_m3 10 rfl) rfl
theorem q577 : (Jvm.Cond.unhidden "CribBooklet$PrintAll" "check" "(LCribBooklet$Sheet;)I") ∈ lw_tbl := lw_at lw_m3 11 rfl
theorem q578 : (Jvm.Cond.instanceMethod ({ cls := "CribBooklet$PrintAll", name := "check", desc := "(LCribBooklet$Sheet;)I" } : Jvm.MethodName)) ∈ lw_all := lw_g (lw_at lw_m3 12 rfl) rfl
theorem q579 : (Jvm.Cond.publicMethod ({ cls := "CribBooklet$PrintAll", name := "check", desc := "(LCribBooklet$Sheet;)I" } : Jvm.MethodName)) ∈ lw_tbl := lw_at lw_m3 13 rfl
theorem q580 : (Jvm.Cond.code ({ cls := "CribBooklet$PrintAll", name := "check", desc := "(LCribBooklet$Sheet;)I" } : Jvm.MethodName) prog_22_method_2_code (2 : Nat) (Option.some Jvm.ClassFile.FieldType.int)) ∈ lw_all := lw_g (lw_at lw_m3 14 rfl) rfl
theorem q581 : (Jvm.Cond.methodLink "CribBooklet$PrintAll" (15 : Nat) ({ cls := "CribBooklet$Sheet", name := "isRow", desc := "(I)Z" } : Jvm.MethodName)) ∈ lw_all := lw_g (lw_at lw_m3 15 rfl) rfl
theorem q585 : (Jvm.Cond.methodLink "CribBooklet$PrintAll" (24 : Nat) ({ cls := "CribBooklet$Sheet", name := "isWorked", desc := "()Z" } : Jvm.MethodName)) ∈ lw_all := lw_g (lw_at lw_m3 19 rfl) rfl
theorem q717 : (Jvm.Cond.selects "CribBooklet$PrintAll" ({ cls := "java/lang/Object", name := "getClass", desc := "()Ljava/lang/Class;" } : Jvm.MethodName) ({ cls := "java/lang/Object", name := "getClass", desc := "()Ljava/lang/Class;" } : Jvm.MethodName)) ∈ lw_all := lw_g (lw_at lw_m3 151 rfl) rfl
theorem q1266 : (Jvm.Cond.selects "CribBooklet$PrintAll" ({ cls := "CribBooklet$Command", name := "carryOut", desc := "(LCribBooklet$Sheet;)I" } : Jvm.MethodName) ({ cls := "CribBooklet$PrintAll", name := "carryOut", desc := "(LCribBooklet$Sheet;)I" } : Jvm.MethodName)) ∈ lw_all := lw_g (lw_at lw_m5 220 rfl) rfl
theorem q1267 : (Jvm.Cond.unhidden "CribBooklet$PrintAll" "carryOut" "(LCribBooklet$Sheet;)I") ∈ lw_tbl := lw_at lw_m5 221 rfl
theorem q1268 : (Jvm.Cond.instanceMethod ({ cls := "CribBooklet$PrintAll", name := "carryOut", desc := "(LCribBooklet$Sheet;)I" } : Jvm.MethodName)) ∈ lw_all := lw_g (lw_at lw_m5 222 rfl) rfl
theorem q1269 : (Jvm.Cond.publicMethod ({ cls := "CribBooklet$PrintAll", name := "carryOut", desc := "(LCribBooklet$Sheet;)I" } : Jvm.MethodName)) ∈ lw_tbl := lw_at lw_m5 223 rfl
theorem q1270 : (Jvm.Cond.code ({ cls := "CribBooklet$PrintAll", name := "carryOut", desc := "(LCribBooklet$Sheet;)I" } : Jvm.MethodName) prog_22_method_3_code (3 : Nat) (Option.some Jvm.ClassFile.FieldType.int)) ∈ lw_all := lw_g (lw_at lw_m5 224 rfl) rfl
theorem q1271 : (Jvm.Cond.classLink "CribBooklet$PrintAll" (32 : Nat) "CribBooklet$Booklet") ∈ lw_all := lw_g (lw_at lw_m5 225 rfl) rfl
theorem q1272 : (Jvm.Cond.methodLink "CribBooklet$PrintAll" (34 : Nat) ({ cls := "CribBooklet$Sheet", name := "foldedBy", desc := "(I)LCribBooklet$Folding;" } : Jvm.MethodName)) ∈ lw_all := lw_g (lw_at lw_m5 226 rfl) rfl
theorem q1276 : (Jvm.Cond.methodLink "CribBooklet$PrintAll" (38 : Nat) ({ cls := "CribBooklet$Booklet", name := "<init>", desc := "(LCribBooklet$Sheet;LCribBooklet$Folding;)V" } : Jvm.MethodName)) ∈ lw_all := lw_g (lw_at lw_m5 230 rfl) rfl
theorem q1277 : (Jvm.Cond.methodLink "CribBooklet$PrintAll" (41 : Nat) ({ cls := "CribBooklet$Booklet", name := "printAll", desc := "()V" } : Jvm.MethodName)) ∈ lw_all := lw_g (lw_at lw_m5 231 rfl) rfl
theorem q1434 : (Jvm.Cond.instantiable "CribBooklet$PrintAll" (1 : Nat)) ∈ lw_all := lw_g (lw_at lw_m6 148 rfl) rfl
theorem q1436 : (Jvm.Cond.instanceMethod ({ cls := "CribBooklet$PrintAll", name := "<init>", desc := "(I)V" } : Jvm.MethodName)) ∈ lw_all := lw_g (lw_at lw_m6 150 rfl) rfl
theorem q1437 : (Jvm.Cond.code ({ cls := "CribBooklet$PrintAll", name := "<init>", desc := "(I)V" } : Jvm.MethodName) prog_22_method_1_code (2 : Nat) (Option.none : Option Jvm.ClassFile.FieldType)) ∈ lw_all := lw_g (lw_at lw_m6 151 rfl) rfl
theorem q1438 : (Jvm.Cond.methodLink "CribBooklet$PrintAll" (3 : Nat) ({ cls := "java/lang/Record", name := "<init>", desc := "()V" } : Jvm.MethodName)) ∈ lw_all := lw_g (lw_at lw_m6 152 rfl) rfl
theorem q1439 : (Jvm.Cond.fieldLink "CribBooklet$PrintAll" (9 : Nat) "CribBooklet$PrintAll" "row" "I") ∈ lw_all := lw_g (lw_at lw_m6 153 rfl) rfl
theorem q1440 : (Jvm.Cond.laysFinal "CribBooklet$PrintAll" "CribBooklet$PrintAll" "row" "I") ∈ lw_all := lw_g (lw_at lw_m6 154 rfl) rfl
theorem q1441 : (Jvm.Cond.soleField "CribBooklet$PrintAll" "row") ∈ lw_all := lw_g (lw_at lw_m6 155 rfl) rfl
theorem q1442 : (Jvm.Cond.superclass "CribBooklet$PrintAll" "java/lang/Record") ∈ lw_all := lw_g (lw_at lw_m6 156 rfl) rfl
theorem q3344 : (Jvm.Cond.castable "CribBooklet$PrintAll" "java/lang/Object") ∈ lw_tbl := lw_at lw_m14 138 rfl
theorem in_X15 : ∀ w ∈ wsX150, w ∈ lw_all := lw_in wsX150 [1440] (by decide +kernel) (by decide +kernel)

end
section
/-! CribBooklet$Cut -/
set_option maxRecDepth 100000
def RX16 : String := "CribBooklet$Cut"
def TX16 : u_T := fun k => match k with
  | _ => ("CribBooklet$Cut", "edge", "I", true)
def tyX16 : Nat → FieldType := fun k => match k with
  | _ => .int
abbrev wsX160 : List Cond := u_ws RX16 TX16 1
theorem nmX16 : ∀ a, a < 1 → ∀ b, b < 1 → a ≠ b → (TX16 a).2.1 ≠ (TX16 b).2.1 := by decide +kernel
theorem tyX16_ok : ∀ k, k < 1 → parseFieldDescriptor (TX16 k).2.2.1 = some (tyX16 k) := by decide +kernel
abbrev cX16_check : ByteArray := prog_7_method_2_code
def yX16_check : MethodName := ⟨RX16, "check", "(LCribBooklet$Sheet;)I"⟩
def dkwX16_check_1 : List UInt8 := [180, 0, 25, 42, 180, 0, 9, 184, 0, 28, 153, 0, 8, 16, 254, 167, 0, 4, 3, 172]
abbrev dktX16_check_1 : List UInt8 := dkwX16_check_1 ++ []
def dkwX16_check_0 : List UInt8 := [42, 180, 0, 9, 3, 6, 184, 0, 15, 154, 0, 5, 2, 172, 43, 182, 0, 19, 153, 0, 17, 43]
abbrev dktX16_check_0 : List UInt8 := dkwX16_check_0 ++ dktX16_check_1
theorem dksX16_check_0 : cX16_check.data.toList.drop 0 = dktX16_check_0 := by decide +kernel
theorem dksX16_check_1 : cX16_check.data.toList.drop 22 = dktX16_check_1 := dk_seg dksX16_check_0 22 rfl rfl
theorem dX16_check_0 : decode cX16_check 0 = .ok (.aload_n 0, 1) := dk_42 (dk_at dksX16_check_0 0 rfl rfl)
theorem dX16_check_1 : decode cX16_check 1 = .ok (.getfield 9, 3) := dk_180 0 9 (dk_at dksX16_check_0 1 rfl rfl)
theorem dX16_check_4 : decode cX16_check 4 = .ok (.iconst 0, 1) := dk_3 (dk_at dksX16_check_0 4 rfl rfl)
theorem dX16_check_5 : decode cX16_check 5 = .ok (.iconst 3, 1) := dk_6 (dk_at dksX16_check_0 5 rfl rfl)
theorem dX16_check_6 : decode cX16_check 6 = .ok (.invokestatic 15, 3) := dk_184 0 15 (dk_at dksX16_check_0 6 rfl rfl)
theorem dX16_check_9 : decode cX16_check 9 = .ok (.ifCond .ne 5, 3) := dk_154 0 5 (dk_at dksX16_check_0 9 rfl rfl)
theorem dX16_check_12 : decode cX16_check 12 = .ok (.iconst (-1), 1) := dk_2 (dk_at dksX16_check_0 12 rfl rfl)
theorem dX16_check_13 : decode cX16_check 13 = .ok (.ireturn, 1) := dk_172 (dk_at dksX16_check_0 13 rfl rfl)
theorem dX16_check_14 : decode cX16_check 14 = .ok (.aload_n 1, 1) := dk_43 (dk_at dksX16_check_0 14 rfl rfl)
theorem dX16_check_15 : decode cX16_check 15 = .ok (.invokevirtual 19, 3) := dk_182 0 19 (dk_at dksX16_check_0 15 rfl rfl)
theorem dX16_check_18 : decode cX16_check 18 = .ok (.ifCond .eq 17, 3) := dk_153 0 17 (dk_at dksX16_check_0 18 rfl rfl)
theorem dX16_check_21 : decode cX16_check 21 = .ok (.aload_n 1, 1) := dk_43 (dk_at dksX16_check_0 21 rfl rfl)
theorem dX16_check_22 : decode cX16_check 22 = .ok (.getfield 25, 3) := dk_180 0 25 (dk_at dksX16_check_1 0 rfl rfl)
theorem dX16_check_25 : decode cX16_check 25 = .ok (.aload_n 0, 1) := dk_42 (dk_at dksX16_check_1 3 rfl rfl)
theorem dX16_check_26 : decode cX16_check 26 = .ok (.getfield 9, 3) := dk_180 0 9 (dk_at dksX16_check_1 4 rfl rfl)
theorem dX16_check_29 : decode cX16_check 29 = .ok (.invokestatic 28, 3) := dk_184 0 28 (dk_at dksX16_check_1 7 rfl rfl)
theorem dX16_check_32 : decode cX16_check 32 = .ok (.ifCond .eq 8, 3) := dk_153 0 8 (dk_at dksX16_check_1 10 rfl rfl)
theorem dX16_check_35 : decode cX16_check 35 = .ok (.bipush (-2), 2) := dk_16 254 (dk_at dksX16_check_1 13 rfl rfl)
theorem dX16_check_37 : decode cX16_check 37 = .ok (.goto 4, 3) := dk_167 0 4 (dk_at dksX16_check_1 15 rfl rfl)
theorem dX16_check_40 : decode cX16_check 40 = .ok (.iconst 0, 1) := dk_3 (dk_at dksX16_check_1 18 rfl rfl)
theorem dX16_check_41 : decode cX16_check 41 = .ok (.ireturn, 1) := dk_172 (dk_at dksX16_check_1 19 rfl rfl)
abbrev cX16_carryOut : ByteArray := prog_7_method_3_code
def yX16_carryOut : MethodName := ⟨RX16, "carryOut", "(LCribBooklet$Sheet;)I"⟩
def dkwX16_carryOut_1 : List UInt8 := [181, 0, 25, 43, 180, 0, 42, 5, 92, 46, 43, 182, 0, 46, 96, 79, 28, 172]
abbrev dktX16_carryOut_1 : List UInt8 := dkwX16_carryOut_1 ++ []
def dkwX16_carryOut_0 : List UInt8 := [43, 182, 0, 32, 42, 180, 0, 9, 182, 0, 36, 61, 43, 89, 180, 0, 25, 4, 42, 180, 0, 9, 120, 128]
abbrev dktX16_carryOut_0 : List UInt8 := dkwX16_carryOut_0 ++ dktX16_carryOut_1
theorem dksX16_carryOut_0 : cX16_carryOut.data.toList.drop 0 = dktX16_carryOut_0 := by decide +kernel
theorem dksX16_carryOut_1 : cX16_carryOut.data.toList.drop 24 = dktX16_carryOut_1 := dk_seg dksX16_carryOut_0 24 rfl rfl
theorem dX16_carryOut_0 : decode cX16_carryOut 0 = .ok (.aload_n 1, 1) := dk_43 (dk_at dksX16_carryOut_0 0 rfl rfl)
theorem dX16_carryOut_1 : decode cX16_carryOut 1 = .ok (.invokevirtual 32, 3) := dk_182 0 32 (dk_at dksX16_carryOut_0 1 rfl rfl)
theorem dX16_carryOut_4 : decode cX16_carryOut 4 = .ok (.aload_n 0, 1) := dk_42 (dk_at dksX16_carryOut_0 4 rfl rfl)
theorem dX16_carryOut_5 : decode cX16_carryOut 5 = .ok (.getfield 9, 3) := dk_180 0 9 (dk_at dksX16_carryOut_0 5 rfl rfl)
theorem dX16_carryOut_8 : decode cX16_carryOut 8 = .ok (.invokevirtual 36, 3) := dk_182 0 36 (dk_at dksX16_carryOut_0 8 rfl rfl)
theorem dX16_carryOut_11 : decode cX16_carryOut 11 = .ok (.istore_n 2, 1) := dk_61 (dk_at dksX16_carryOut_0 11 rfl rfl)
theorem dX16_carryOut_12 : decode cX16_carryOut 12 = .ok (.aload_n 1, 1) := dk_43 (dk_at dksX16_carryOut_0 12 rfl rfl)
theorem dX16_carryOut_13 : decode cX16_carryOut 13 = .ok (.dup, 1) := dk_89 (dk_at dksX16_carryOut_0 13 rfl rfl)
theorem dX16_carryOut_14 : decode cX16_carryOut 14 = .ok (.getfield 25, 3) := dk_180 0 25 (dk_at dksX16_carryOut_0 14 rfl rfl)
theorem dX16_carryOut_17 : decode cX16_carryOut 17 = .ok (.iconst 1, 1) := dk_4 (dk_at dksX16_carryOut_0 17 rfl rfl)
theorem dX16_carryOut_18 : decode cX16_carryOut 18 = .ok (.aload_n 0, 1) := dk_42 (dk_at dksX16_carryOut_0 18 rfl rfl)
theorem dX16_carryOut_19 : decode cX16_carryOut 19 = .ok (.getfield 9, 3) := dk_180 0 9 (dk_at dksX16_carryOut_0 19 rfl rfl)
theorem dX16_carryOut_22 : decode cX16_carryOut 22 = .ok (.ishl, 1) := dk_120 (dk_at dksX16_carryOut_0 22 rfl rfl)
theorem dX16_carryOut_23 : decode cX16_carryOut 23 = .ok (.ior, 1) := dk_128 (dk_at dksX16_carryOut_0 23 rfl rfl)
theorem dX16_carryOut_24 : decode cX16_carryOut 24 = .ok (.putfield 25, 3) := dk_181 0 25 (dk_at dksX16_carryOut_1 0 rfl rfl)
theorem dX16_carryOut_27 : decode cX16_carryOut 27 = .ok (.aload_n 1, 1) := dk_43 (dk_at dksX16_carryOut_1 3 rfl rfl)
theorem dX16_carryOut_28 : decode cX16_carryOut 28 = .ok (.getfield 42, 3) := dk_180 0 42 (dk_at dksX16_carryOut_1 4 rfl rfl)
theorem dX16_carryOut_31 : decode cX16_carryOut 31 = .ok (.iconst 2, 1) := dk_5 (dk_at dksX16_carryOut_1 7 rfl rfl)
theorem dX16_carryOut_32 : decode cX16_carryOut 32 = .ok (.dup2, 1) := dk_92 (dk_at dksX16_carryOut_1 8 rfl rfl)
theorem dX16_carryOut_33 : decode cX16_carryOut 33 = .ok (.iaload, 1) := dk_46 (dk_at dksX16_carryOut_1 9 rfl rfl)
theorem dX16_carryOut_34 : decode cX16_carryOut 34 = .ok (.aload_n 1, 1) := dk_43 (dk_at dksX16_carryOut_1 10 rfl rfl)
theorem dX16_carryOut_35 : decode cX16_carryOut 35 = .ok (.invokevirtual 46, 3) := dk_182 0 46 (dk_at dksX16_carryOut_1 11 rfl rfl)
theorem dX16_carryOut_38 : decode cX16_carryOut 38 = .ok (.iadd, 1) := dk_96 (dk_at dksX16_carryOut_1 14 rfl rfl)
theorem dX16_carryOut_39 : decode cX16_carryOut 39 = .ok (.iastore, 1) := dk_79 (dk_at dksX16_carryOut_1 15 rfl rfl)
theorem dX16_carryOut_40 : decode cX16_carryOut 40 = .ok (.iload_n 2, 1) := dk_28 (dk_at dksX16_carryOut_1 16 rfl rfl)
theorem dX16_carryOut_41 : decode cX16_carryOut 41 = .ok (.ireturn, 1) := dk_172 (dk_at dksX16_carryOut_1 17 rfl rfl)
abbrev cX16_init : ByteArray := prog_7_method_1_code
def yX16_init : MethodName := ⟨RX16, "<init>", "(I)V"⟩
def dkwX16_init_0 : List UInt8 := [42, 183, 0, 3, 42, 27, 181, 0, 9, 177]
abbrev dktX16_init_0 : List UInt8 := dkwX16_init_0 ++ []
theorem dksX16_init_0 : cX16_init.data.toList.drop 0 = dktX16_init_0 := by decide +kernel
theorem dX16_init_0 : decode cX16_init 0 = .ok (.aload_n 0, 1) := dk_42 (dk_at dksX16_init_0 0 rfl rfl)
theorem dX16_init_1 : decode cX16_init 1 = .ok (.invokespecial 3, 3) := dk_183 0 3 (dk_at dksX16_init_0 1 rfl rfl)
theorem dX16_init_4 : decode cX16_init 4 = .ok (.aload_n 0, 1) := dk_42 (dk_at dksX16_init_0 4 rfl rfl)
theorem dX16_init_5 : decode cX16_init 5 = .ok (.iload_n 1, 1) := dk_27 (dk_at dksX16_init_0 5 rfl rfl)
theorem dX16_init_6 : decode cX16_init 6 = .ok (.putfield 9, 3) := dk_181 0 9 (dk_at dksX16_init_0 6 rfl rfl)
theorem dX16_init_9 : decode cX16_init 9 = .ok (.return_, 1) := dk_177 (dk_at dksX16_init_0 9 rfl rfl)
theorem q129 : (Jvm.Cond.initialized "CribBooklet$Cut") ∈ lw_all := lw_g (lw_at lw_m1 43 rfl) rfl
theorem q238 : (Jvm.Cond.fieldLinkNest "CribBooklet$Cut" (25 : Nat) "CribBooklet$Sheet" "cuts" "I" "CribBooklet") ∈ lw_tbl := lw_at lw_m1 152 rfl
theorem q275 : (Jvm.Cond.fieldLinkNest "CribBooklet$Cut" (42 : Nat) "CribBooklet$Sheet" "efforts" "[I" "CribBooklet") ∈ lw_tbl := lw_at lw_m1 189 rfl
theorem q423 : (Jvm.Cond.castable "CribBooklet$Cut" "CribBooklet$Command") ∈ lw_tbl := lw_at lw_m2 97 rfl
theorem q424 : (Jvm.Cond.selects "CribBooklet$Cut" ({ cls := "CribBooklet$Command", name := "check", desc := "(LCribBooklet$Sheet;)I" } : Jvm.MethodName) ({ cls := "CribBooklet$Cut", name := "check", desc := "(LCribBooklet$Sheet;)I" } : Jvm.MethodName)) ∈ lw_all := lw_g (lw_at lw_m2 98 rfl) rfl
theorem q425 : (Jvm.Cond.unhidden "CribBooklet$Cut" "check" "(LCribBooklet$Sheet;)I") ∈ lw_tbl := lw_at lw_m2 99 rfl
theorem q426 : (Jvm.Cond.instanceMethod ({ cls := "CribBooklet$Cut", name := "check", desc := "(LCribBooklet$Sheet;)I" } : Jvm.MethodName)) ∈ lw_all := lw_g (lw_at lw_m2 100 rfl) rfl
theorem q427 : (Jvm.Cond.publicMethod ({ cls := "CribBooklet$Cut", name := "check", desc := "(LCribBooklet$Sheet;)I" } : Jvm.MethodName)) ∈ lw_tbl := lw_at lw_m2 101 rfl
theorem q428 : (Jvm.Cond.code ({ cls := "CribBooklet$Cut", name := "check", desc := "(LCribBooklet$Sheet;)I" } : Jvm.MethodName) prog_7_method_2_code (2 : Nat) (Option.some Jvm.ClassFile.FieldType.int)) ∈ lw_all := lw_g (lw_at lw_m2 102 rfl) rfl
theorem q429 : (Jvm.Cond.methodLinkNest "CribBooklet$Cut" (15 : Nat) ({ cls := "CribBooklet", name := "isIn", desc := "(III)Z" } : Jvm.MethodName) "CribBooklet") ∈ lw_tbl := lw_at lw_m2 103 rfl
theorem q430 : (Jvm.Cond.methodLink "CribBooklet$Cut" (19 : Nat) ({ cls := "CribBooklet$Sheet", name := "isBooklet", desc := "()Z" } : Jvm.MethodName)) ∈ lw_all := lw_g (lw_at lw_m2 104 rfl) rfl
theorem q442 : (Jvm.Cond.methodLinkNest "CribBooklet$Cut" (28 : Nat) ({ cls := "CribBooklet", name := "has", desc := "(II)Z" } : Jvm.MethodName) "CribBooklet") ∈ lw_tbl := lw_at lw_m2 116 rfl
theorem q702 : (Jvm.Cond.selects "CribBooklet$Cut" ({ cls := "java/lang/Object", name := "getClass", desc := "()Ljava/lang/Class;" } : Jvm.MethodName) ({ cls := "java/lang/Object", name := "getClass", desc := "()Ljava/lang/Class;" } : Jvm.MethodName)) ∈ lw_all := lw_g (lw_at lw_m3 136 rfl) rfl
theorem q1117 : (Jvm.Cond.selects "CribBooklet$Cut" ({ cls := "CribBooklet$Command", name := "carryOut", desc := "(LCribBooklet$Sheet;)I" } : Jvm.MethodName) ({ cls := "CribBooklet$Cut", name := "carryOut", desc := "(LCribBooklet$Sheet;)I" } : Jvm.MethodName)) ∈ lw_all := lw_g (lw_at lw_m5 71 rfl) rfl
theorem q1118 : (Jvm.Cond.unhidden "CribBooklet$Cut" "carryOut" "(LCribBooklet$Sheet;)I") ∈ lw_tbl := lw_at lw_m5 72 rfl
theorem q1119 : (Jvm.Cond.instanceMethod ({ cls := "CribBooklet$Cut", name := "carryOut", desc := "(LCribBooklet$Sheet;)I" } : Jvm.MethodName)) ∈ lw_all := lw_g (lw_at lw_m5 73 rfl) rfl
theorem q1120 : (Jvm.Cond.publicMethod ({ cls := "CribBooklet$Cut", name := "carryOut", desc := "(LCribBooklet$Sheet;)I" } : Jvm.MethodName)) ∈ lw_tbl := lw_at lw_m5 74 rfl
theorem q1121 : (Jvm.Cond.code ({ cls := "CribBooklet$Cut", name := "carryOut", desc := "(LCribBooklet$Sheet;)I" } : Jvm.MethodName) prog_7_method_3_code (3 : Nat) (Option.some Jvm.ClassFile.FieldType.int)) ∈ lw_all := lw_g (lw_at lw_m5 75 rfl) rfl
theorem q1122 : (Jvm.Cond.methodLink "CribBooklet$Cut" (32 : Nat) ({ cls := "CribBooklet$Sheet", name := "booklet", desc := "()LCribBooklet$Booklet;" } : Jvm.MethodName)) ∈ lw_all := lw_g (lw_at lw_m5 76 rfl) rfl
theorem q1214 : (Jvm.Cond.methodLink "CribBooklet$Cut" (36 : Nat) ({ cls := "CribBooklet$Booklet", name := "hanging", desc := "(I)I" } : Jvm.MethodName)) ∈ lw_all := lw_g (lw_at lw_m5 168 rfl) rfl
theorem q1218 : (Jvm.Cond.methodLink "CribBooklet$Cut" (46 : Nat) ({ cls := "CribBooklet$Sheet", name := "cells", desc := "()I" } : Jvm.MethodName)) ∈ lw_all := lw_g (lw_at lw_m5 172 rfl) rfl
theorem q1448 : (Jvm.Cond.instantiable "CribBooklet$Cut" (1 : Nat)) ∈ lw_all := lw_g (lw_at lw_m6 162 rfl) rfl
theorem q1450 : (Jvm.Cond.instanceMethod ({ cls := "CribBooklet$Cut", name := "<init>", desc := "(I)V" } : Jvm.MethodName)) ∈ lw_all := lw_g (lw_at lw_m6 164 rfl) rfl
theorem q1451 : (Jvm.Cond.code ({ cls := "CribBooklet$Cut", name := "<init>", desc := "(I)V" } : Jvm.MethodName) prog_7_method_1_code (2 : Nat) (Option.none : Option Jvm.ClassFile.FieldType)) ∈ lw_all := lw_g (lw_at lw_m6 165 rfl) rfl
theorem q1452 : (Jvm.Cond.methodLink "CribBooklet$Cut" (3 : Nat) ({ cls := "java/lang/Record", name := "<init>", desc := "()V" } : Jvm.MethodName)) ∈ lw_all := lw_g (lw_at lw_m6 166 rfl) rfl
theorem q1453 : (Jvm.Cond.fieldLink "CribBooklet$Cut" (9 : Nat) "CribBooklet$Cut" "edge" "I") ∈ lw_all := lw_g (lw_at lw_m6 167 rfl) rfl
theorem q1454 : (Jvm.Cond.laysFinal "CribBooklet$Cut" "CribBooklet$Cut" "edge" "I") ∈ lw_all := lw_g (lw_at lw_m6 168 rfl) rfl
theorem q1455 : (Jvm.Cond.soleField "CribBooklet$Cut" "edge") ∈ lw_all := lw_g (lw_at lw_m6 169 rfl) rfl
theorem q1456 : (Jvm.Cond.superclass "CribBooklet$Cut" "java/lang/Record") ∈ lw_all := lw_g (lw_at lw_m6 170 rfl) rfl
theorem q3345 : (Jvm.Cond.castable "CribBooklet$Cut" "java/lang/Object") ∈ lw_tbl := lw_at lw_m14 139 rfl
theorem in_X16 : ∀ w ∈ wsX160, w ∈ lw_all := lw_in wsX160 [1454] (by decide +kernel) (by decide +kernel)

end
section
/-! CribBooklet$Staple -/
set_option maxRecDepth 100000
def RX17 : String := "CribBooklet$Staple"
def TX17 : u_T := fun k => match k with
  | _ => ("CribBooklet$Staple", "place", "I", true)
def tyX17 : Nat → FieldType := fun k => match k with
  | _ => .int
abbrev wsX170 : List Cond := u_ws RX17 TX17 1
theorem nmX17 : ∀ a, a < 1 → ∀ b, b < 1 → a ≠ b → (TX17 a).2.1 ≠ (TX17 b).2.1 := by decide +kernel
theorem tyX17_ok : ∀ k, k < 1 → parseFieldDescriptor (TX17 k).2.2.1 = some (tyX17 k) := by decide +kernel
abbrev cX17_check : ByteArray := prog_29_method_2_code
def yX17_check : MethodName := ⟨RX17, "check", "(LCribBooklet$Sheet;)I"⟩
def dkwX17_check_2 : List UInt8 := [160, 0, 8, 16, 253, 167, 0, 4, 3, 172]
abbrev dktX17_check_2 : List UInt8 := dkwX17_check_2 ++ []
def dkwX17_check_1 : List UInt8 := [180, 0, 25, 42, 180, 0, 9, 184, 0, 28, 153, 0, 6, 16, 254, 172, 43, 180, 0, 25, 184, 0, 32, 6]
abbrev dktX17_check_1 : List UInt8 := dkwX17_check_1 ++ dktX17_check_2
def dkwX17_check_0 : List UInt8 := [42, 180, 0, 9, 3, 16, 9, 184, 0, 15, 154, 0, 5, 2, 172, 43, 182, 0, 19, 153, 0, 17, 43]
abbrev dktX17_check_0 : List UInt8 := dkwX17_check_0 ++ dktX17_check_1
theorem dksX17_check_0 : cX17_check.data.toList.drop 0 = dktX17_check_0 := by decide +kernel
theorem dksX17_check_1 : cX17_check.data.toList.drop 23 = dktX17_check_1 := dk_seg dksX17_check_0 23 rfl rfl
theorem dksX17_check_2 : cX17_check.data.toList.drop 47 = dktX17_check_2 := dk_seg dksX17_check_1 24 rfl rfl
theorem dX17_check_0 : decode cX17_check 0 = .ok (.aload_n 0, 1) := dk_42 (dk_at dksX17_check_0 0 rfl rfl)
theorem dX17_check_1 : decode cX17_check 1 = .ok (.getfield 9, 3) := dk_180 0 9 (dk_at dksX17_check_0 1 rfl rfl)
theorem dX17_check_4 : decode cX17_check 4 = .ok (.iconst 0, 1) := dk_3 (dk_at dksX17_check_0 4 rfl rfl)
theorem dX17_check_5 : decode cX17_check 5 = .ok (.bipush 9, 2) := dk_16 9 (dk_at dksX17_check_0 5 rfl rfl)
theorem dX17_check_7 : decode cX17_check 7 = .ok (.invokestatic 15, 3) := dk_184 0 15 (dk_at dksX17_check_0 7 rfl rfl)
theorem dX17_check_10 : decode cX17_check 10 = .ok (.ifCond .ne 5, 3) := dk_154 0 5 (dk_at dksX17_check_0 10 rfl rfl)
theorem dX17_check_13 : decode cX17_check 13 = .ok (.iconst (-1), 1) := dk_2 (dk_at dksX17_check_0 13 rfl rfl)
theorem dX17_check_14 : decode cX17_check 14 = .ok (.ireturn, 1) := dk_172 (dk_at dksX17_check_0 14 rfl rfl)
theorem dX17_check_15 : decode cX17_check 15 = .ok (.aload_n 1, 1) := dk_43 (dk_at dksX17_check_0 15 rfl rfl)
theorem dX17_check_16 : decode cX17_check 16 = .ok (.invokevirtual 19, 3) := dk_182 0 19 (dk_at dksX17_check_0 16 rfl rfl)
theorem dX17_check_19 : decode cX17_check 19 = .ok (.ifCond .eq 17, 3) := dk_153 0 17 (dk_at dksX17_check_0 19 rfl rfl)
theorem dX17_check_22 : decode cX17_check 22 = .ok (.aload_n 1, 1) := dk_43 (dk_at dksX17_check_0 22 rfl rfl)
theorem dX17_check_23 : decode cX17_check 23 = .ok (.getfield 25, 3) := dk_180 0 25 (dk_at dksX17_check_1 0 rfl rfl)
theorem dX17_check_26 : decode cX17_check 26 = .ok (.aload_n 0, 1) := dk_42 (dk_at dksX17_check_1 3 rfl rfl)
theorem dX17_check_27 : decode cX17_check 27 = .ok (.getfield 9, 3) := dk_180 0 9 (dk_at dksX17_check_1 4 rfl rfl)
theorem dX17_check_30 : decode cX17_check 30 = .ok (.invokestatic 28, 3) := dk_184 0 28 (dk_at dksX17_check_1 7 rfl rfl)
theorem dX17_check_33 : decode cX17_check 33 = .ok (.ifCond .eq 6, 3) := dk_153 0 6 (dk_at dksX17_check_1 10 rfl rfl)
theorem dX17_check_36 : decode cX17_check 36 = .ok (.bipush (-2), 2) := dk_16 254 (dk_at dksX17_check_1 13 rfl rfl)
theorem dX17_check_38 : decode cX17_check 38 = .ok (.ireturn, 1) := dk_172 (dk_at dksX17_check_1 15 rfl rfl)
theorem dX17_check_39 : decode cX17_check 39 = .ok (.aload_n 1, 1) := dk_43 (dk_at dksX17_check_1 16 rfl rfl)
theorem dX17_check_40 : decode cX17_check 40 = .ok (.getfield 25, 3) := dk_180 0 25 (dk_at dksX17_check_1 17 rfl rfl)
theorem dX17_check_43 : decode cX17_check 43 = .ok (.invokestatic 32, 3) := dk_184 0 32 (dk_at dksX17_check_1 20 rfl rfl)
theorem dX17_check_46 : decode cX17_check 46 = .ok (.iconst 3, 1) := dk_6 (dk_at dksX17_check_1 23 rfl rfl)
theorem dX17_check_47 : decode cX17_check 47 = .ok (.if_icmp .ne 8, 3) := dk_160 0 8 (dk_at dksX17_check_2 0 rfl rfl)
theorem dX17_check_50 : decode cX17_check 50 = .ok (.bipush (-3), 2) := dk_16 253 (dk_at dksX17_check_2 3 rfl rfl)
theorem dX17_check_52 : decode cX17_check 52 = .ok (.goto 4, 3) := dk_167 0 4 (dk_at dksX17_check_2 5 rfl rfl)
theorem dX17_check_55 : decode cX17_check 55 = .ok (.iconst 0, 1) := dk_3 (dk_at dksX17_check_2 8 rfl rfl)
theorem dX17_check_56 : decode cX17_check 56 = .ok (.ireturn, 1) := dk_172 (dk_at dksX17_check_2 9 rfl rfl)
abbrev cX17_carryOut : ByteArray := prog_29_method_3_code
def yX17_carryOut : MethodName := ⟨RX17, "carryOut", "(LCribBooklet$Sheet;)I"⟩
def dkwX17_carryOut_1 : List UInt8 := [79, 43, 182, 0, 42, 182, 0, 46, 172]
abbrev dktX17_carryOut_1 : List UInt8 := dkwX17_carryOut_1 ++ []
def dkwX17_carryOut_0 : List UInt8 := [43, 89, 180, 0, 25, 4, 42, 180, 0, 9, 120, 128, 181, 0, 25, 43, 180, 0, 38, 6, 92, 46, 6, 96]
abbrev dktX17_carryOut_0 : List UInt8 := dkwX17_carryOut_0 ++ dktX17_carryOut_1
theorem dksX17_carryOut_0 : cX17_carryOut.data.toList.drop 0 = dktX17_carryOut_0 := by decide +kernel
theorem dksX17_carryOut_1 : cX17_carryOut.data.toList.drop 24 = dktX17_carryOut_1 := dk_seg dksX17_carryOut_0 24 rfl rfl
theorem dX17_carryOut_0 : decode cX17_carryOut 0 = .ok (.aload_n 1, 1) := dk_43 (dk_at dksX17_carryOut_0 0 rfl rfl)
theorem dX17_carryOut_1 : decode cX17_carryOut 1 = .ok (.dup, 1) := dk_89 (dk_at dksX17_carryOut_0 1 rfl rfl)
theorem dX17_carryOut_2 : decode cX17_carryOut 2 = .ok (.getfield 25, 3) := dk_180 0 25 (dk_at dksX17_carryOut_0 2 rfl rfl)
theorem dX17_carryOut_5 : decode cX17_carryOut 5 = .ok (.iconst 1, 1) := dk_4 (dk_at dksX17_carryOut_0 5 rfl rfl)
theorem dX17_carryOut_6 : decode cX17_carryOut 6 = .ok (.aload_n 0, 1) := dk_42 (dk_at dksX17_carryOut_0 6 rfl rfl)
theorem dX17_carryOut_7 : decode cX17_carryOut 7 = .ok (.getfield 9, 3) := dk_180 0 9 (dk_at dksX17_carryOut_0 7 rfl rfl)
theorem dX17_carryOut_10 : decode cX17_carryOut 10 = .ok (.ishl, 1) := dk_120 (dk_at dksX17_carryOut_0 10 rfl rfl)
theorem dX17_carryOut_11 : decode cX17_carryOut 11 = .ok (.ior, 1) := dk_128 (dk_at dksX17_carryOut_0 11 rfl rfl)
theorem dX17_carryOut_12 : decode cX17_carryOut 12 = .ok (.putfield 25, 3) := dk_181 0 25 (dk_at dksX17_carryOut_0 12 rfl rfl)
theorem dX17_carryOut_15 : decode cX17_carryOut 15 = .ok (.aload_n 1, 1) := dk_43 (dk_at dksX17_carryOut_0 15 rfl rfl)
theorem dX17_carryOut_16 : decode cX17_carryOut 16 = .ok (.getfield 38, 3) := dk_180 0 38 (dk_at dksX17_carryOut_0 16 rfl rfl)
theorem dX17_carryOut_19 : decode cX17_carryOut 19 = .ok (.iconst 3, 1) := dk_6 (dk_at dksX17_carryOut_0 19 rfl rfl)
theorem dX17_carryOut_20 : decode cX17_carryOut 20 = .ok (.dup2, 1) := dk_92 (dk_at dksX17_carryOut_0 20 rfl rfl)
theorem dX17_carryOut_21 : decode cX17_carryOut 21 = .ok (.iaload, 1) := dk_46 (dk_at dksX17_carryOut_0 21 rfl rfl)
theorem dX17_carryOut_22 : decode cX17_carryOut 22 = .ok (.iconst 3, 1) := dk_6 (dk_at dksX17_carryOut_0 22 rfl rfl)
theorem dX17_carryOut_23 : decode cX17_carryOut 23 = .ok (.iadd, 1) := dk_96 (dk_at dksX17_carryOut_0 23 rfl rfl)
theorem dX17_carryOut_24 : decode cX17_carryOut 24 = .ok (.iastore, 1) := dk_79 (dk_at dksX17_carryOut_1 0 rfl rfl)
theorem dX17_carryOut_25 : decode cX17_carryOut 25 = .ok (.aload_n 1, 1) := dk_43 (dk_at dksX17_carryOut_1 1 rfl rfl)
theorem dX17_carryOut_26 : decode cX17_carryOut 26 = .ok (.invokevirtual 42, 3) := dk_182 0 42 (dk_at dksX17_carryOut_1 2 rfl rfl)
theorem dX17_carryOut_29 : decode cX17_carryOut 29 = .ok (.invokevirtual 46, 3) := dk_182 0 46 (dk_at dksX17_carryOut_1 5 rfl rfl)
theorem dX17_carryOut_32 : decode cX17_carryOut 32 = .ok (.ireturn, 1) := dk_172 (dk_at dksX17_carryOut_1 8 rfl rfl)
abbrev cX17_init : ByteArray := prog_29_method_1_code
def yX17_init : MethodName := ⟨RX17, "<init>", "(I)V"⟩
def dkwX17_init_0 : List UInt8 := [42, 183, 0, 3, 42, 27, 181, 0, 9, 177]
abbrev dktX17_init_0 : List UInt8 := dkwX17_init_0 ++ []
theorem dksX17_init_0 : cX17_init.data.toList.drop 0 = dktX17_init_0 := by decide +kernel
theorem dX17_init_0 : decode cX17_init 0 = .ok (.aload_n 0, 1) := dk_42 (dk_at dksX17_init_0 0 rfl rfl)
theorem dX17_init_1 : decode cX17_init 1 = .ok (.invokespecial 3, 3) := dk_183 0 3 (dk_at dksX17_init_0 1 rfl rfl)
theorem dX17_init_4 : decode cX17_init 4 = .ok (.aload_n 0, 1) := dk_42 (dk_at dksX17_init_0 4 rfl rfl)
theorem dX17_init_5 : decode cX17_init 5 = .ok (.iload_n 1, 1) := dk_27 (dk_at dksX17_init_0 5 rfl rfl)
theorem dX17_init_6 : decode cX17_init 6 = .ok (.putfield 9, 3) := dk_181 0 9 (dk_at dksX17_init_0 6 rfl rfl)
theorem dX17_init_9 : decode cX17_init 9 = .ok (.return_, 1) := dk_177 (dk_at dksX17_init_0 9 rfl rfl)
theorem q130 : (Jvm.Cond.initialized "CribBooklet$Staple") ∈ lw_all := lw_g (lw_at lw_m1 44 rfl) rfl
theorem q245 : (Jvm.Cond.fieldLinkNest "CribBooklet$Staple" (25 : Nat) "CribBooklet$Sheet" "staples" "I" "CribBooklet") ∈ lw_tbl := lw_at lw_m1 159 rfl
theorem q273 : (Jvm.Cond.fieldLinkNest "CribBooklet$Staple" (38 : Nat) "CribBooklet$Sheet" "efforts" "[I" "CribBooklet") ∈ lw_tbl := lw_at lw_m1 187 rfl
theorem q611 : (Jvm.Cond.castable "CribBooklet$Staple" "CribBooklet$Command") ∈ lw_tbl := lw_at lw_m3 45 rfl
theorem q612 : (Jvm.Cond.selects "CribBooklet$Staple" ({ cls := "CribBooklet$Command", name := "check", desc := "(LCribBooklet$Sheet;)I" } : Jvm.MethodName) ({ cls := "CribBooklet$Staple", name := "check", desc := "(LCribBooklet$Sheet;)I" } : Jvm.MethodName)) ∈ lw_all := lw_g (lw_at lw_m3 46 rfl) rfl
theorem q613 : (Jvm.Cond.unhidden "CribBooklet$Staple" "check" "(LCribBooklet$Sheet;)I") ∈ lw_tbl := lw_at lw_m3 47 rfl
theorem q614 : (Jvm.Cond.instanceMethod ({ cls := "CribBooklet$Staple", name := "check", desc := "(LCribBooklet$Sheet;)I" } : Jvm.MethodName)) ∈ lw_all := lw_g (lw_at lw_m3 48 rfl) rfl
theorem q615 : (Jvm.Cond.publicMethod ({ cls := "CribBooklet$Staple", name := "check", desc := "(LCribBooklet$Sheet;)I" } : Jvm.MethodName)) ∈ lw_tbl := lw_at lw_m3 49 rfl
theorem q616 : (Jvm.Cond.code ({ cls := "CribBooklet$Staple", name := "check", desc := "(LCribBooklet$Sheet;)I" } : Jvm.MethodName) prog_29_method_2_code (2 : Nat) (Option.some Jvm.ClassFile.FieldType.int)) ∈ lw_all := lw_g (lw_at lw_m3 50 rfl) rfl
theorem q617 : (Jvm.Cond.methodLinkNest "CribBooklet$Staple" (15 : Nat) ({ cls := "CribBooklet", name := "isIn", desc := "(III)Z" } : Jvm.MethodName) "CribBooklet") ∈ lw_tbl := lw_at lw_m3 51 rfl
theorem q618 : (Jvm.Cond.methodLink "CribBooklet$Staple" (19 : Nat) ({ cls := "CribBooklet$Sheet", name := "isBooklet", desc := "()Z" } : Jvm.MethodName)) ∈ lw_all := lw_g (lw_at lw_m3 52 rfl) rfl
theorem q619 : (Jvm.Cond.methodLinkNest "CribBooklet$Staple" (28 : Nat) ({ cls := "CribBooklet", name := "has", desc := "(II)Z" } : Jvm.MethodName) "CribBooklet") ∈ lw_tbl := lw_at lw_m3 53 rfl
theorem q620 : (Jvm.Cond.methodLink "CribBooklet$Staple" (32 : Nat) ({ cls := "java/lang/Integer", name := "bitCount", desc := "(I)I" } : Jvm.MethodName)) ∈ lw_all := lw_g (lw_at lw_m3 54 rfl) rfl
theorem q724 : (Jvm.Cond.selects "CribBooklet$Staple" ({ cls := "java/lang/Object", name := "getClass", desc := "()Ljava/lang/Class;" } : Jvm.MethodName) ({ cls := "java/lang/Object", name := "getClass", desc := "()Ljava/lang/Class;" } : Jvm.MethodName)) ∈ lw_all := lw_g (lw_at lw_m3 158 rfl) rfl
theorem q1343 : (Jvm.Cond.selects "CribBooklet$Staple" ({ cls := "CribBooklet$Command", name := "carryOut", desc := "(LCribBooklet$Sheet;)I" } : Jvm.MethodName) ({ cls := "CribBooklet$Staple", name := "carryOut", desc := "(LCribBooklet$Sheet;)I" } : Jvm.MethodName)) ∈ lw_all := lw_g (lw_at lw_m6 57 rfl) rfl
theorem q1344 : (Jvm.Cond.unhidden "CribBooklet$Staple" "carryOut" "(LCribBooklet$Sheet;)I") ∈ lw_tbl := lw_at lw_m6 58 rfl
theorem q1345 : (Jvm.Cond.instanceMethod ({ cls := "CribBooklet$Staple", name := "carryOut", desc := "(LCribBooklet$Sheet;)I" } : Jvm.MethodName)) ∈ lw_all := lw_g (lw_at lw_m6 59 rfl) rfl
theorem q1346 : (Jvm.Cond.publicMethod ({ cls := "CribBooklet$Staple", name := "carryOut", desc := "(LCribBooklet$Sheet;)I" } : Jvm.MethodName)) ∈ lw_tbl := lw_at lw_m6 60 rfl
theorem q1347 : (Jvm.Cond.code ({ cls := "CribBooklet$Staple", name := "carryOut", desc := "(LCribBooklet$Sheet;)I" } : Jvm.MethodName) prog_29_method_3_code (2 : Nat) (Option.some Jvm.ClassFile.FieldType.int)) ∈ lw_all := lw_g (lw_at lw_m6 61 rfl) rfl
theorem q1348 : (Jvm.Cond.methodLink "CribBooklet$Staple" (42 : Nat) ({ cls := "CribBooklet$Sheet", name := "booklet", desc := "()LCribBooklet$Booklet;" } : Jvm.MethodName)) ∈ lw_all := lw_g (lw_at lw_m6 62 rfl) rfl
theorem q1349 : (Jvm.Cond.methodLink "CribBooklet$Staple" (46 : Nat) ({ cls := "CribBooklet$Booklet", name := "stapled", desc := "()I" } : Jvm.MethodName)) ∈ lw_all := lw_g (lw_at lw_m6 63 rfl) rfl
theorem q1462 : (Jvm.Cond.instantiable "CribBooklet$Staple" (1 : Nat)) ∈ lw_all := lw_g (lw_at lw_m6 176 rfl) rfl
theorem q1464 : (Jvm.Cond.instanceMethod ({ cls := "CribBooklet$Staple", name := "<init>", desc := "(I)V" } : Jvm.MethodName)) ∈ lw_all := lw_g (lw_at lw_m6 178 rfl) rfl
theorem q1465 : (Jvm.Cond.code ({ cls := "CribBooklet$Staple", name := "<init>", desc := "(I)V" } : Jvm.MethodName) prog_29_method_1_code (2 : Nat) (Option.none : Option Jvm.ClassFile.FieldType)) ∈ lw_all := lw_g (lw_at lw_m6 179 rfl) rfl
theorem q1466 : (Jvm.Cond.methodLink "CribBooklet$Staple" (3 : Nat) ({ cls := "java/lang/Record", name := "<init>", desc := "()V" } : Jvm.MethodName)) ∈ lw_all := lw_g (lw_at lw_m6 180 rfl) rfl
theorem q1467 : (Jvm.Cond.fieldLink "CribBooklet$Staple" (9 : Nat) "CribBooklet$Staple" "place" "I") ∈ lw_all := lw_g (lw_at lw_m6 181 rfl) rfl
theorem q1468 : (Jvm.Cond.laysFinal "CribBooklet$Staple" "CribBooklet$Staple" "place" "I") ∈ lw_all := lw_g (lw_at lw_m6 182 rfl) rfl
theorem q1469 : (Jvm.Cond.soleField "CribBooklet$Staple" "place") ∈ lw_all := lw_g (lw_at lw_m6 183 rfl) rfl
theorem q1470 : (Jvm.Cond.superclass "CribBooklet$Staple" "java/lang/Record") ∈ lw_all := lw_g (lw_at lw_m6 184 rfl) rfl
theorem q3346 : (Jvm.Cond.castable "CribBooklet$Staple" "java/lang/Object") ∈ lw_tbl := lw_at lw_m14 140 rfl
theorem in_X17 : ∀ w ∈ wsX170, w ∈ lw_all := lw_in wsX170 [1468] (by decide +kernel) (by decide +kernel)

end
section
/-! CribBooklet$Unstaple -/
set_option maxRecDepth 100000
def RX18 : String := "CribBooklet$Unstaple"
def TX18 : u_T := fun k => match k with
  | _ => ("CribBooklet$Unstaple", "place", "I", true)
def tyX18 : Nat → FieldType := fun k => match k with
  | _ => .int
abbrev wsX180 : List Cond := u_ws RX18 TX18 1
theorem nmX18 : ∀ a, a < 1 → ∀ b, b < 1 → a ≠ b → (TX18 a).2.1 ≠ (TX18 b).2.1 := by decide +kernel
theorem tyX18_ok : ∀ k, k < 1 → parseFieldDescriptor (TX18 k).2.2.1 = some (tyX18 k) := by decide +kernel
abbrev cX18_check : ByteArray := prog_31_method_2_code
def yX18_check : MethodName := ⟨RX18, "check", "(LCribBooklet$Sheet;)I"⟩
def dkwX18_check_1 : List UInt8 := [180, 0, 9, 184, 0, 24, 153, 0, 7, 3, 167, 0, 5, 16, 254, 172]
abbrev dktX18_check_1 : List UInt8 := dkwX18_check_1 ++ []
def dkwX18_check_0 : List UInt8 := [42, 180, 0, 9, 3, 16, 9, 184, 0, 15, 154, 0, 7, 2, 167, 0, 23, 43, 180, 0, 19, 42]
abbrev dktX18_check_0 : List UInt8 := dkwX18_check_0 ++ dktX18_check_1
theorem dksX18_check_0 : cX18_check.data.toList.drop 0 = dktX18_check_0 := by decide +kernel
theorem dksX18_check_1 : cX18_check.data.toList.drop 22 = dktX18_check_1 := dk_seg dksX18_check_0 22 rfl rfl
theorem dX18_check_0 : decode cX18_check 0 = .ok (.aload_n 0, 1) := dk_42 (dk_at dksX18_check_0 0 rfl rfl)
theorem dX18_check_1 : decode cX18_check 1 = .ok (.getfield 9, 3) := dk_180 0 9 (dk_at dksX18_check_0 1 rfl rfl)
theorem dX18_check_4 : decode cX18_check 4 = .ok (.iconst 0, 1) := dk_3 (dk_at dksX18_check_0 4 rfl rfl)
theorem dX18_check_5 : decode cX18_check 5 = .ok (.bipush 9, 2) := dk_16 9 (dk_at dksX18_check_0 5 rfl rfl)
theorem dX18_check_7 : decode cX18_check 7 = .ok (.invokestatic 15, 3) := dk_184 0 15 (dk_at dksX18_check_0 7 rfl rfl)
theorem dX18_check_10 : decode cX18_check 10 = .ok (.ifCond .ne 7, 3) := dk_154 0 7 (dk_at dksX18_check_0 10 rfl rfl)
theorem dX18_check_13 : decode cX18_check 13 = .ok (.iconst (-1), 1) := dk_2 (dk_at dksX18_check_0 13 rfl rfl)
theorem dX18_check_14 : decode cX18_check 14 = .ok (.goto 23, 3) := dk_167 0 23 (dk_at dksX18_check_0 14 rfl rfl)
theorem dX18_check_17 : decode cX18_check 17 = .ok (.aload_n 1, 1) := dk_43 (dk_at dksX18_check_0 17 rfl rfl)
theorem dX18_check_18 : decode cX18_check 18 = .ok (.getfield 19, 3) := dk_180 0 19 (dk_at dksX18_check_0 18 rfl rfl)
theorem dX18_check_21 : decode cX18_check 21 = .ok (.aload_n 0, 1) := dk_42 (dk_at dksX18_check_0 21 rfl rfl)
theorem dX18_check_22 : decode cX18_check 22 = .ok (.getfield 9, 3) := dk_180 0 9 (dk_at dksX18_check_1 0 rfl rfl)
theorem dX18_check_25 : decode cX18_check 25 = .ok (.invokestatic 24, 3) := dk_184 0 24 (dk_at dksX18_check_1 3 rfl rfl)
theorem dX18_check_28 : decode cX18_check 28 = .ok (.ifCond .eq 7, 3) := dk_153 0 7 (dk_at dksX18_check_1 6 rfl rfl)
theorem dX18_check_31 : decode cX18_check 31 = .ok (.iconst 0, 1) := dk_3 (dk_at dksX18_check_1 9 rfl rfl)
theorem dX18_check_32 : decode cX18_check 32 = .ok (.goto 5, 3) := dk_167 0 5 (dk_at dksX18_check_1 10 rfl rfl)
theorem dX18_check_35 : decode cX18_check 35 = .ok (.bipush (-2), 2) := dk_16 254 (dk_at dksX18_check_1 13 rfl rfl)
theorem dX18_check_37 : decode cX18_check 37 = .ok (.ireturn, 1) := dk_172 (dk_at dksX18_check_1 15 rfl rfl)
abbrev cX18_carryOut : ByteArray := prog_31_method_3_code
def yX18_carryOut : MethodName := ⟨RX18, "carryOut", "(LCribBooklet$Sheet;)I"⟩
def dkwX18_carryOut_1 : List UInt8 := [4, 96, 79, 43, 180, 0, 19, 184, 0, 32, 172]
abbrev dktX18_carryOut_1 : List UInt8 := dkwX18_carryOut_1 ++ []
def dkwX18_carryOut_0 : List UInt8 := [43, 89, 180, 0, 19, 4, 42, 180, 0, 9, 120, 2, 130, 126, 181, 0, 19, 43, 180, 0, 28, 6, 92, 46]
abbrev dktX18_carryOut_0 : List UInt8 := dkwX18_carryOut_0 ++ dktX18_carryOut_1
theorem dksX18_carryOut_0 : cX18_carryOut.data.toList.drop 0 = dktX18_carryOut_0 := by decide +kernel
theorem dksX18_carryOut_1 : cX18_carryOut.data.toList.drop 24 = dktX18_carryOut_1 := dk_seg dksX18_carryOut_0 24 rfl rfl
theorem dX18_carryOut_0 : decode cX18_carryOut 0 = .ok (.aload_n 1, 1) := dk_43 (dk_at dksX18_carryOut_0 0 rfl rfl)
theorem dX18_carryOut_1 : decode cX18_carryOut 1 = .ok (.dup, 1) := dk_89 (dk_at dksX18_carryOut_0 1 rfl rfl)
theorem dX18_carryOut_2 : decode cX18_carryOut 2 = .ok (.getfield 19, 3) := dk_180 0 19 (dk_at dksX18_carryOut_0 2 rfl rfl)
theorem dX18_carryOut_5 : decode cX18_carryOut 5 = .ok (.iconst 1, 1) := dk_4 (dk_at dksX18_carryOut_0 5 rfl rfl)
theorem dX18_carryOut_6 : decode cX18_carryOut 6 = .ok (.aload_n 0, 1) := dk_42 (dk_at dksX18_carryOut_0 6 rfl rfl)
theorem dX18_carryOut_7 : decode cX18_carryOut 7 = .ok (.getfield 9, 3) := dk_180 0 9 (dk_at dksX18_carryOut_0 7 rfl rfl)
theorem dX18_carryOut_10 : decode cX18_carryOut 10 = .ok (.ishl, 1) := dk_120 (dk_at dksX18_carryOut_0 10 rfl rfl)
theorem dX18_carryOut_11 : decode cX18_carryOut 11 = .ok (.iconst (-1), 1) := dk_2 (dk_at dksX18_carryOut_0 11 rfl rfl)
theorem dX18_carryOut_12 : decode cX18_carryOut 12 = .ok (.ixor, 1) := dk_130 (dk_at dksX18_carryOut_0 12 rfl rfl)
theorem dX18_carryOut_13 : decode cX18_carryOut 13 = .ok (.iand, 1) := dk_126 (dk_at dksX18_carryOut_0 13 rfl rfl)
theorem dX18_carryOut_14 : decode cX18_carryOut 14 = .ok (.putfield 19, 3) := dk_181 0 19 (dk_at dksX18_carryOut_0 14 rfl rfl)
theorem dX18_carryOut_17 : decode cX18_carryOut 17 = .ok (.aload_n 1, 1) := dk_43 (dk_at dksX18_carryOut_0 17 rfl rfl)
theorem dX18_carryOut_18 : decode cX18_carryOut 18 = .ok (.getfield 28, 3) := dk_180 0 28 (dk_at dksX18_carryOut_0 18 rfl rfl)
theorem dX18_carryOut_21 : decode cX18_carryOut 21 = .ok (.iconst 3, 1) := dk_6 (dk_at dksX18_carryOut_0 21 rfl rfl)
theorem dX18_carryOut_22 : decode cX18_carryOut 22 = .ok (.dup2, 1) := dk_92 (dk_at dksX18_carryOut_0 22 rfl rfl)
theorem dX18_carryOut_23 : decode cX18_carryOut 23 = .ok (.iaload, 1) := dk_46 (dk_at dksX18_carryOut_0 23 rfl rfl)
theorem dX18_carryOut_24 : decode cX18_carryOut 24 = .ok (.iconst 1, 1) := dk_4 (dk_at dksX18_carryOut_1 0 rfl rfl)
theorem dX18_carryOut_25 : decode cX18_carryOut 25 = .ok (.iadd, 1) := dk_96 (dk_at dksX18_carryOut_1 1 rfl rfl)
theorem dX18_carryOut_26 : decode cX18_carryOut 26 = .ok (.iastore, 1) := dk_79 (dk_at dksX18_carryOut_1 2 rfl rfl)
theorem dX18_carryOut_27 : decode cX18_carryOut 27 = .ok (.aload_n 1, 1) := dk_43 (dk_at dksX18_carryOut_1 3 rfl rfl)
theorem dX18_carryOut_28 : decode cX18_carryOut 28 = .ok (.getfield 19, 3) := dk_180 0 19 (dk_at dksX18_carryOut_1 4 rfl rfl)
theorem dX18_carryOut_31 : decode cX18_carryOut 31 = .ok (.invokestatic 32, 3) := dk_184 0 32 (dk_at dksX18_carryOut_1 7 rfl rfl)
theorem dX18_carryOut_34 : decode cX18_carryOut 34 = .ok (.ireturn, 1) := dk_172 (dk_at dksX18_carryOut_1 10 rfl rfl)
abbrev cX18_init : ByteArray := prog_31_method_1_code
def yX18_init : MethodName := ⟨RX18, "<init>", "(I)V"⟩
def dkwX18_init_0 : List UInt8 := [42, 183, 0, 3, 42, 27, 181, 0, 9, 177]
abbrev dktX18_init_0 : List UInt8 := dkwX18_init_0 ++ []
theorem dksX18_init_0 : cX18_init.data.toList.drop 0 = dktX18_init_0 := by decide +kernel
theorem dX18_init_0 : decode cX18_init 0 = .ok (.aload_n 0, 1) := dk_42 (dk_at dksX18_init_0 0 rfl rfl)
theorem dX18_init_1 : decode cX18_init 1 = .ok (.invokespecial 3, 3) := dk_183 0 3 (dk_at dksX18_init_0 1 rfl rfl)
theorem dX18_init_4 : decode cX18_init 4 = .ok (.aload_n 0, 1) := dk_42 (dk_at dksX18_init_0 4 rfl rfl)
theorem dX18_init_5 : decode cX18_init 5 = .ok (.iload_n 1, 1) := dk_27 (dk_at dksX18_init_0 5 rfl rfl)
theorem dX18_init_6 : decode cX18_init 6 = .ok (.putfield 9, 3) := dk_181 0 9 (dk_at dksX18_init_0 6 rfl rfl)
theorem dX18_init_9 : decode cX18_init 9 = .ok (.return_, 1) := dk_177 (dk_at dksX18_init_0 9 rfl rfl)
theorem q131 : (Jvm.Cond.initialized "CribBooklet$Unstaple") ∈ lw_all := lw_g (lw_at lw_m1 45 rfl) rfl
theorem q244 : (Jvm.Cond.fieldLinkNest "CribBooklet$Unstaple" (19 : Nat) "CribBooklet$Sheet" "staples" "I" "CribBooklet") ∈ lw_tbl := lw_at lw_m1 158 rfl
theorem q274 : (Jvm.Cond.fieldLinkNest "CribBooklet$Unstaple" (28 : Nat) "CribBooklet$Sheet" "efforts" "[I" "CribBooklet") ∈ lw_tbl := lw_at lw_m1 188 rfl
theorem q633 : (Jvm.Cond.castable "CribBooklet$Unstaple" "CribBooklet$Command") ∈ lw_tbl := lw_at lw_m3 67 rfl
theorem q634 : (Jvm.Cond.selects "CribBooklet$Unstaple" ({ cls := "CribBooklet$Command", name := "check", desc := "(LCribBooklet$Sheet;)I" } : Jvm.MethodName) ({ cls := "CribBooklet$Unstaple", name := "check", desc := "(LCribBooklet$Sheet;)I" } : Jvm.MethodName)) ∈ lw_all := lw_g (lw_at lw_m3 68 rfl) rfl
theorem q635 : (Jvm.Cond.unhidden "CribBooklet$Unstaple" "check" "(LCribBooklet$Sheet;)I") ∈ lw_tbl := lw_at lw_m3 69 rfl
theorem q636 : (Jvm.Cond.instanceMethod ({ cls := "CribBooklet$Unstaple", name := "check", desc := "(LCribBooklet$Sheet;)I" } : Jvm.MethodName)) ∈ lw_all := lw_g (lw_at lw_m3 70 rfl) rfl
theorem q637 : (Jvm.Cond.publicMethod ({ cls := "CribBooklet$Unstaple", name := "check", desc := "(LCribBooklet$Sheet;)I" } : Jvm.MethodName)) ∈ lw_tbl := lw_at lw_m3 71 rfl
theorem q638 : (Jvm.Cond.code ({ cls := "CribBooklet$Unstaple", name := "check", desc := "(LCribBooklet$Sheet;)I" } : Jvm.MethodName) prog_31_method_2_code (2 : Nat) (Option.some Jvm.ClassFile.FieldType.int)) ∈ lw_all := lw_g (lw_at lw_m3 72 rfl) rfl
theorem q639 : (Jvm.Cond.methodLinkNest "CribBooklet$Unstaple" (15 : Nat) ({ cls := "CribBooklet", name := "isIn", desc := "(III)Z" } : Jvm.MethodName) "CribBooklet") ∈ lw_tbl := lw_at lw_m3 73 rfl
theorem q640 : (Jvm.Cond.methodLinkNest "CribBooklet$Unstaple" (24 : Nat) ({ cls := "CribBooklet", name := "has", desc := "(II)Z" } : Jvm.MethodName) "CribBooklet") ∈ lw_tbl := lw_at lw_m3 74 rfl
theorem q726 : (Jvm.Cond.selects "CribBooklet$Unstaple" ({ cls := "java/lang/Object", name := "getClass", desc := "()Ljava/lang/Class;" } : Jvm.MethodName) ({ cls := "java/lang/Object", name := "getClass", desc := "()Ljava/lang/Class;" } : Jvm.MethodName)) ∈ lw_all := lw_g (lw_at lw_m3 160 rfl) rfl
theorem q1358 : (Jvm.Cond.selects "CribBooklet$Unstaple" ({ cls := "CribBooklet$Command", name := "carryOut", desc := "(LCribBooklet$Sheet;)I" } : Jvm.MethodName) ({ cls := "CribBooklet$Unstaple", name := "carryOut", desc := "(LCribBooklet$Sheet;)I" } : Jvm.MethodName)) ∈ lw_all := lw_g (lw_at lw_m6 72 rfl) rfl
theorem q1359 : (Jvm.Cond.unhidden "CribBooklet$Unstaple" "carryOut" "(LCribBooklet$Sheet;)I") ∈ lw_tbl := lw_at lw_m6 73 rfl
theorem q1360 : (Jvm.Cond.instanceMethod ({ cls := "CribBooklet$Unstaple", name := "carryOut", desc := "(LCribBooklet$Sheet;)I" } : Jvm.MethodName)) ∈ lw_all := lw_g (lw_at lw_m6 74 rfl) rfl
theorem q1361 : (Jvm.Cond.publicMethod ({ cls := "CribBooklet$Unstaple", name := "carryOut", desc := "(LCribBooklet$Sheet;)I" } : Jvm.MethodName)) ∈ lw_tbl := lw_at lw_m6 75 rfl
theorem q1362 : (Jvm.Cond.code ({ cls := "CribBooklet$Unstaple", name := "carryOut", desc := "(LCribBooklet$Sheet;)I" } : Jvm.MethodName) prog_31_method_3_code (2 : Nat) (Option.some Jvm.ClassFile.FieldType.int)) ∈ lw_all := lw_g (lw_at lw_m6 76 rfl) rfl
theorem q1363 : (Jvm.Cond.methodLink "CribBooklet$Unstaple" (32 : Nat) ({ cls := "java/lang/Integer", name := "bitCount", desc := "(I)I" } : Jvm.MethodName)) ∈ lw_all := lw_g (lw_at lw_m6 77 rfl) rfl
theorem q1476 : (Jvm.Cond.instantiable "CribBooklet$Unstaple" (1 : Nat)) ∈ lw_all := lw_g (lw_at lw_m6 190 rfl) rfl
theorem q1478 : (Jvm.Cond.instanceMethod ({ cls := "CribBooklet$Unstaple", name := "<init>", desc := "(I)V" } : Jvm.MethodName)) ∈ lw_all := lw_g (lw_at lw_m6 192 rfl) rfl
theorem q1479 : (Jvm.Cond.code ({ cls := "CribBooklet$Unstaple", name := "<init>", desc := "(I)V" } : Jvm.MethodName) prog_31_method_1_code (2 : Nat) (Option.none : Option Jvm.ClassFile.FieldType)) ∈ lw_all := lw_g (lw_at lw_m6 193 rfl) rfl
theorem q1480 : (Jvm.Cond.methodLink "CribBooklet$Unstaple" (3 : Nat) ({ cls := "java/lang/Record", name := "<init>", desc := "()V" } : Jvm.MethodName)) ∈ lw_all := lw_g (lw_at lw_m6 194 rfl) rfl
theorem q1481 : (Jvm.Cond.fieldLink "CribBooklet$Unstaple" (9 : Nat) "CribBooklet$Unstaple" "place" "I") ∈ lw_all := lw_g (lw_at lw_m6 195 rfl) rfl
theorem q1482 : (Jvm.Cond.laysFinal "CribBooklet$Unstaple" "CribBooklet$Unstaple" "place" "I") ∈ lw_all := lw_g (lw_at lw_m6 196 rfl) rfl
theorem q1483 : (Jvm.Cond.soleField "CribBooklet$Unstaple" "place") ∈ lw_all := lw_g (lw_at lw_m6 197 rfl) rfl
theorem q1484 : (Jvm.Cond.superclass "CribBooklet$Unstaple" "java/lang/Record") ∈ lw_all := lw_g (lw_at lw_m6 198 rfl) rfl
theorem q3347 : (Jvm.Cond.castable "CribBooklet$Unstaple" "java/lang/Object") ∈ lw_tbl := lw_at lw_m14 141 rfl
theorem in_X18 : ∀ w ∈ wsX180, w ∈ lw_all := lw_in wsX180 [1482] (by decide +kernel) (by decide +kernel)

end
section
/-! CribBooklet$Legs -/
set_option maxRecDepth 100000
def RX19 : String := "CribBooklet$Legs"
def TX19 : u_T := fun k => match k with
  | _ => ("CribBooklet$Legs", "legs", "I", true)
def tyX19 : Nat → FieldType := fun k => match k with
  | _ => .int
abbrev wsX190 : List Cond := u_ws RX19 TX19 1
theorem nmX19 : ∀ a, a < 1 → ∀ b, b < 1 → a ≠ b → (TX19 a).2.1 ≠ (TX19 b).2.1 := by decide +kernel
theorem tyX19_ok : ∀ k, k < 1 → parseFieldDescriptor (TX19 k).2.2.1 = some (tyX19 k) := by decide +kernel
abbrev cX19_check : ByteArray := prog_16_method_2_code
def yX19_check : MethodName := ⟨RX19, "check", "(LCribBooklet$Sheet;)I"⟩
def dkwX19_check_0 : List UInt8 := [42, 180, 0, 9, 4, 16, 16, 184, 0, 15, 153, 0, 7, 3, 167, 0, 4, 2, 172]
abbrev dktX19_check_0 : List UInt8 := dkwX19_check_0 ++ []
theorem dksX19_check_0 : cX19_check.data.toList.drop 0 = dktX19_check_0 := by decide +kernel
theorem dX19_check_0 : decode cX19_check 0 = .ok (.aload_n 0, 1) := dk_42 (dk_at dksX19_check_0 0 rfl rfl)
theorem dX19_check_1 : decode cX19_check 1 = .ok (.getfield 9, 3) := dk_180 0 9 (dk_at dksX19_check_0 1 rfl rfl)
theorem dX19_check_4 : decode cX19_check 4 = .ok (.iconst 1, 1) := dk_4 (dk_at dksX19_check_0 4 rfl rfl)
theorem dX19_check_5 : decode cX19_check 5 = .ok (.bipush 16, 2) := dk_16 16 (dk_at dksX19_check_0 5 rfl rfl)
theorem dX19_check_7 : decode cX19_check 7 = .ok (.invokestatic 15, 3) := dk_184 0 15 (dk_at dksX19_check_0 7 rfl rfl)
theorem dX19_check_10 : decode cX19_check 10 = .ok (.ifCond .eq 7, 3) := dk_153 0 7 (dk_at dksX19_check_0 10 rfl rfl)
theorem dX19_check_13 : decode cX19_check 13 = .ok (.iconst 0, 1) := dk_3 (dk_at dksX19_check_0 13 rfl rfl)
theorem dX19_check_14 : decode cX19_check 14 = .ok (.goto 4, 3) := dk_167 0 4 (dk_at dksX19_check_0 14 rfl rfl)
theorem dX19_check_17 : decode cX19_check 17 = .ok (.iconst (-1), 1) := dk_2 (dk_at dksX19_check_0 17 rfl rfl)
theorem dX19_check_18 : decode cX19_check 18 = .ok (.ireturn, 1) := dk_172 (dk_at dksX19_check_0 18 rfl rfl)
abbrev cX19_carryOut : ByteArray := prog_16_method_3_code
def yX19_carryOut : MethodName := ⟨RX19, "carryOut", "(LCribBooklet$Sheet;)I"⟩
def dkwX19_carryOut_0 : List UInt8 := [43, 180, 0, 19, 61, 43, 42, 180, 0, 9, 181, 0, 19, 28, 172]
abbrev dktX19_carryOut_0 : List UInt8 := dkwX19_carryOut_0 ++ []
theorem dksX19_carryOut_0 : cX19_carryOut.data.toList.drop 0 = dktX19_carryOut_0 := by decide +kernel
theorem dX19_carryOut_0 : decode cX19_carryOut 0 = .ok (.aload_n 1, 1) := dk_43 (dk_at dksX19_carryOut_0 0 rfl rfl)
theorem dX19_carryOut_1 : decode cX19_carryOut 1 = .ok (.getfield 19, 3) := dk_180 0 19 (dk_at dksX19_carryOut_0 1 rfl rfl)
theorem dX19_carryOut_4 : decode cX19_carryOut 4 = .ok (.istore_n 2, 1) := dk_61 (dk_at dksX19_carryOut_0 4 rfl rfl)
theorem dX19_carryOut_5 : decode cX19_carryOut 5 = .ok (.aload_n 1, 1) := dk_43 (dk_at dksX19_carryOut_0 5 rfl rfl)
theorem dX19_carryOut_6 : decode cX19_carryOut 6 = .ok (.aload_n 0, 1) := dk_42 (dk_at dksX19_carryOut_0 6 rfl rfl)
theorem dX19_carryOut_7 : decode cX19_carryOut 7 = .ok (.getfield 9, 3) := dk_180 0 9 (dk_at dksX19_carryOut_0 7 rfl rfl)
theorem dX19_carryOut_10 : decode cX19_carryOut 10 = .ok (.putfield 19, 3) := dk_181 0 19 (dk_at dksX19_carryOut_0 10 rfl rfl)
theorem dX19_carryOut_13 : decode cX19_carryOut 13 = .ok (.iload_n 2, 1) := dk_28 (dk_at dksX19_carryOut_0 13 rfl rfl)
theorem dX19_carryOut_14 : decode cX19_carryOut 14 = .ok (.ireturn, 1) := dk_172 (dk_at dksX19_carryOut_0 14 rfl rfl)
abbrev cX19_init : ByteArray := prog_16_method_1_code
def yX19_init : MethodName := ⟨RX19, "<init>", "(I)V"⟩
def dkwX19_init_0 : List UInt8 := [42, 183, 0, 3, 42, 27, 181, 0, 9, 177]
abbrev dktX19_init_0 : List UInt8 := dkwX19_init_0 ++ []
theorem dksX19_init_0 : cX19_init.data.toList.drop 0 = dktX19_init_0 := by decide +kernel
theorem dX19_init_0 : decode cX19_init 0 = .ok (.aload_n 0, 1) := dk_42 (dk_at dksX19_init_0 0 rfl rfl)
theorem dX19_init_1 : decode cX19_init 1 = .ok (.invokespecial 3, 3) := dk_183 0 3 (dk_at dksX19_init_0 1 rfl rfl)
theorem dX19_init_4 : decode cX19_init 4 = .ok (.aload_n 0, 1) := dk_42 (dk_at dksX19_init_0 4 rfl rfl)
theorem dX19_init_5 : decode cX19_init 5 = .ok (.iload_n 1, 1) := dk_27 (dk_at dksX19_init_0 5 rfl rfl)
theorem dX19_init_6 : decode cX19_init 6 = .ok (.putfield 9, 3) := dk_181 0 9 (dk_at dksX19_init_0 6 rfl rfl)
theorem dX19_init_9 : decode cX19_init 9 = .ok (.return_, 1) := dk_177 (dk_at dksX19_init_0 9 rfl rfl)
theorem q132 : (Jvm.Cond.initialized "CribBooklet$Legs") ∈ lw_all := lw_g (lw_at lw_m1 46 rfl) rfl
theorem q251 : (Jvm.Cond.fieldLinkNest "CribBooklet$Legs" (19 : Nat) "CribBooklet$Sheet" "legs" "I" "CribBooklet") ∈ lw_tbl := lw_at lw_m1 165 rfl
theorem q538 : (Jvm.Cond.castable "CribBooklet$Legs" "CribBooklet$Command") ∈ lw_tbl := lw_at lw_m2 212 rfl
theorem q539 : (Jvm.Cond.selects "CribBooklet$Legs" ({ cls := "CribBooklet$Command", name := "check", desc := "(LCribBooklet$Sheet;)I" } : Jvm.MethodName) ({ cls := "CribBooklet$Legs", name := "check", desc := "(LCribBooklet$Sheet;)I" } : Jvm.MethodName)) ∈ lw_all := lw_g (lw_at lw_m2 213 rfl) rfl
theorem q540 : (Jvm.Cond.unhidden "CribBooklet$Legs" "check" "(LCribBooklet$Sheet;)I") ∈ lw_tbl := lw_at lw_m2 214 rfl
theorem q541 : (Jvm.Cond.instanceMethod ({ cls := "CribBooklet$Legs", name := "check", desc := "(LCribBooklet$Sheet;)I" } : Jvm.MethodName)) ∈ lw_all := lw_g (lw_at lw_m2 215 rfl) rfl
theorem q542 : (Jvm.Cond.publicMethod ({ cls := "CribBooklet$Legs", name := "check", desc := "(LCribBooklet$Sheet;)I" } : Jvm.MethodName)) ∈ lw_tbl := lw_at lw_m2 216 rfl
theorem q543 : (Jvm.Cond.code ({ cls := "CribBooklet$Legs", name := "check", desc := "(LCribBooklet$Sheet;)I" } : Jvm.MethodName) prog_16_method_2_code (2 : Nat) (Option.some Jvm.ClassFile.FieldType.int)) ∈ lw_all := lw_g (lw_at lw_m2 217 rfl) rfl
theorem q544 : (Jvm.Cond.methodLinkNest "CribBooklet$Legs" (15 : Nat) ({ cls := "CribBooklet", name := "isIn", desc := "(III)Z" } : Jvm.MethodName) "CribBooklet") ∈ lw_tbl := lw_at lw_m2 218 rfl
theorem q711 : (Jvm.Cond.selects "CribBooklet$Legs" ({ cls := "java/lang/Object", name := "getClass", desc := "()Ljava/lang/Class;" } : Jvm.MethodName) ({ cls := "java/lang/Object", name := "getClass", desc := "()Ljava/lang/Class;" } : Jvm.MethodName)) ∈ lw_all := lw_g (lw_at lw_m3 145 rfl) rfl
theorem q1235 : (Jvm.Cond.selects "CribBooklet$Legs" ({ cls := "CribBooklet$Command", name := "carryOut", desc := "(LCribBooklet$Sheet;)I" } : Jvm.MethodName) ({ cls := "CribBooklet$Legs", name := "carryOut", desc := "(LCribBooklet$Sheet;)I" } : Jvm.MethodName)) ∈ lw_all := lw_g (lw_at lw_m5 189 rfl) rfl
theorem q1236 : (Jvm.Cond.unhidden "CribBooklet$Legs" "carryOut" "(LCribBooklet$Sheet;)I") ∈ lw_tbl := lw_at lw_m5 190 rfl
theorem q1237 : (Jvm.Cond.instanceMethod ({ cls := "CribBooklet$Legs", name := "carryOut", desc := "(LCribBooklet$Sheet;)I" } : Jvm.MethodName)) ∈ lw_all := lw_g (lw_at lw_m5 191 rfl) rfl
theorem q1238 : (Jvm.Cond.publicMethod ({ cls := "CribBooklet$Legs", name := "carryOut", desc := "(LCribBooklet$Sheet;)I" } : Jvm.MethodName)) ∈ lw_tbl := lw_at lw_m5 192 rfl
theorem q1239 : (Jvm.Cond.code ({ cls := "CribBooklet$Legs", name := "carryOut", desc := "(LCribBooklet$Sheet;)I" } : Jvm.MethodName) prog_16_method_3_code (3 : Nat) (Option.some Jvm.ClassFile.FieldType.int)) ∈ lw_all := lw_g (lw_at lw_m5 193 rfl) rfl
theorem q1490 : (Jvm.Cond.instantiable "CribBooklet$Legs" (1 : Nat)) ∈ lw_all := lw_g (lw_at lw_m6 204 rfl) rfl
theorem q1492 : (Jvm.Cond.instanceMethod ({ cls := "CribBooklet$Legs", name := "<init>", desc := "(I)V" } : Jvm.MethodName)) ∈ lw_all := lw_g (lw_at lw_m6 206 rfl) rfl
theorem q1493 : (Jvm.Cond.code ({ cls := "CribBooklet$Legs", name := "<init>", desc := "(I)V" } : Jvm.MethodName) prog_16_method_1_code (2 : Nat) (Option.none : Option Jvm.ClassFile.FieldType)) ∈ lw_all := lw_g (lw_at lw_m6 207 rfl) rfl
theorem q1494 : (Jvm.Cond.methodLink "CribBooklet$Legs" (3 : Nat) ({ cls := "java/lang/Record", name := "<init>", desc := "()V" } : Jvm.MethodName)) ∈ lw_all := lw_g (lw_at lw_m6 208 rfl) rfl
theorem q1495 : (Jvm.Cond.fieldLink "CribBooklet$Legs" (9 : Nat) "CribBooklet$Legs" "legs" "I") ∈ lw_all := lw_g (lw_at lw_m6 209 rfl) rfl
theorem q1496 : (Jvm.Cond.laysFinal "CribBooklet$Legs" "CribBooklet$Legs" "legs" "I") ∈ lw_all := lw_g (lw_at lw_m6 210 rfl) rfl
theorem q1497 : (Jvm.Cond.soleField "CribBooklet$Legs" "legs") ∈ lw_all := lw_g (lw_at lw_m6 211 rfl) rfl
theorem q1498 : (Jvm.Cond.superclass "CribBooklet$Legs" "java/lang/Record") ∈ lw_all := lw_g (lw_at lw_m6 212 rfl) rfl
theorem q3348 : (Jvm.Cond.castable "CribBooklet$Legs" "java/lang/Object") ∈ lw_tbl := lw_at lw_m14 142 rfl
theorem in_X19 : ∀ w ∈ wsX190, w ∈ lw_all := lw_in wsX190 [1496] (by decide +kernel) (by decide +kernel)

end
section
/-! CribBooklet$See -/
set_option maxRecDepth 100000
def RX20 : String := "CribBooklet$See"
def TX20 : u_T := fun k => match k with
  | 0 => ("CribBooklet$See", "page", "I", true)
  | 1 => ("CribBooklet$See", "number", "I", true)
  | _ => ("CribBooklet$See", "turned", "I", true)
def tyX20 : Nat → FieldType := fun k => match k with
  | 0 => .int
  | 1 => .int
  | _ => .int
abbrev wsX200 : List Cond := u_ws RX20 TX20 3
theorem nmX20 : ∀ a, a < 3 → ∀ b, b < 3 → a ≠ b → (TX20 a).2.1 ≠ (TX20 b).2.1 := by decide +kernel
theorem tyX20_ok : ∀ k, k < 3 → parseFieldDescriptor (TX20 k).2.2.1 = some (tyX20 k) := by decide +kernel
abbrev cX20_check : ByteArray := prog_25_method_2_code
def yX20_check : MethodName := ⟨RX20, "check", "(LCribBooklet$Sheet;)I"⟩
def dkwX20_check_2 : List UInt8 := [182, 0, 39, 16, 8, 160, 0, 8, 16, 253, 167, 0, 4, 3, 172]
abbrev dktX20_check_2 : List UInt8 := dkwX20_check_2 ++ []
def dkwX20_check_1 : List UInt8 := [16, 31, 184, 0, 27, 153, 0, 13, 42, 180, 0, 18, 184, 0, 31, 154, 0, 5, 2, 172, 43, 180, 0, 35]
abbrev dktX20_check_1 : List UInt8 := dkwX20_check_1 ++ dktX20_check_2
def dkwX20_check_0 : List UInt8 := [42, 180, 0, 9, 3, 5, 43, 182, 0, 21, 104, 4, 100, 184, 0, 27, 153, 0, 26, 42, 180, 0, 15, 3]
abbrev dktX20_check_0 : List UInt8 := dkwX20_check_0 ++ dktX20_check_1
theorem dksX20_check_0 : cX20_check.data.toList.drop 0 = dktX20_check_0 := by decide +kernel
theorem dksX20_check_1 : cX20_check.data.toList.drop 24 = dktX20_check_1 := dk_seg dksX20_check_0 24 rfl rfl
theorem dksX20_check_2 : cX20_check.data.toList.drop 48 = dktX20_check_2 := dk_seg dksX20_check_1 24 rfl rfl
theorem dX20_check_0 : decode cX20_check 0 = .ok (.aload_n 0, 1) := dk_42 (dk_at dksX20_check_0 0 rfl rfl)
theorem dX20_check_1 : decode cX20_check 1 = .ok (.getfield 9, 3) := dk_180 0 9 (dk_at dksX20_check_0 1 rfl rfl)
theorem dX20_check_4 : decode cX20_check 4 = .ok (.iconst 0, 1) := dk_3 (dk_at dksX20_check_0 4 rfl rfl)
theorem dX20_check_5 : decode cX20_check 5 = .ok (.iconst 2, 1) := dk_5 (dk_at dksX20_check_0 5 rfl rfl)
theorem dX20_check_6 : decode cX20_check 6 = .ok (.aload_n 1, 1) := dk_43 (dk_at dksX20_check_0 6 rfl rfl)
theorem dX20_check_7 : decode cX20_check 7 = .ok (.invokevirtual 21, 3) := dk_182 0 21 (dk_at dksX20_check_0 7 rfl rfl)
theorem dX20_check_10 : decode cX20_check 10 = .ok (.imul, 1) := dk_104 (dk_at dksX20_check_0 10 rfl rfl)
theorem dX20_check_11 : decode cX20_check 11 = .ok (.iconst 1, 1) := dk_4 (dk_at dksX20_check_0 11 rfl rfl)
theorem dX20_check_12 : decode cX20_check 12 = .ok (.isub, 1) := dk_100 (dk_at dksX20_check_0 12 rfl rfl)
theorem dX20_check_13 : decode cX20_check 13 = .ok (.invokestatic 27, 3) := dk_184 0 27 (dk_at dksX20_check_0 13 rfl rfl)
theorem dX20_check_16 : decode cX20_check 16 = .ok (.ifCond .eq 26, 3) := dk_153 0 26 (dk_at dksX20_check_0 16 rfl rfl)
theorem dX20_check_19 : decode cX20_check 19 = .ok (.aload_n 0, 1) := dk_42 (dk_at dksX20_check_0 19 rfl rfl)
theorem dX20_check_20 : decode cX20_check 20 = .ok (.getfield 15, 3) := dk_180 0 15 (dk_at dksX20_check_0 20 rfl rfl)
theorem dX20_check_23 : decode cX20_check 23 = .ok (.iconst 0, 1) := dk_3 (dk_at dksX20_check_0 23 rfl rfl)
theorem dX20_check_24 : decode cX20_check 24 = .ok (.bipush 31, 2) := dk_16 31 (dk_at dksX20_check_1 0 rfl rfl)
theorem dX20_check_26 : decode cX20_check 26 = .ok (.invokestatic 27, 3) := dk_184 0 27 (dk_at dksX20_check_1 2 rfl rfl)
theorem dX20_check_29 : decode cX20_check 29 = .ok (.ifCond .eq 13, 3) := dk_153 0 13 (dk_at dksX20_check_1 5 rfl rfl)
theorem dX20_check_32 : decode cX20_check 32 = .ok (.aload_n 0, 1) := dk_42 (dk_at dksX20_check_1 8 rfl rfl)
theorem dX20_check_33 : decode cX20_check 33 = .ok (.getfield 18, 3) := dk_180 0 18 (dk_at dksX20_check_1 9 rfl rfl)
theorem dX20_check_36 : decode cX20_check 36 = .ok (.invokestatic 31, 3) := dk_184 0 31 (dk_at dksX20_check_1 12 rfl rfl)
theorem dX20_check_39 : decode cX20_check 39 = .ok (.ifCond .ne 5, 3) := dk_154 0 5 (dk_at dksX20_check_1 15 rfl rfl)
theorem dX20_check_42 : decode cX20_check 42 = .ok (.iconst (-1), 1) := dk_2 (dk_at dksX20_check_1 18 rfl rfl)
theorem dX20_check_43 : decode cX20_check 43 = .ok (.ireturn, 1) := dk_172 (dk_at dksX20_check_1 19 rfl rfl)
theorem dX20_check_44 : decode cX20_check 44 = .ok (.aload_n 1, 1) := dk_43 (dk_at dksX20_check_1 20 rfl rfl)
theorem dX20_check_45 : decode cX20_check 45 = .ok (.getfield 35, 3) := dk_180 0 35 (dk_at dksX20_check_1 21 rfl rfl)
theorem dX20_check_48 : decode cX20_check 48 = .ok (.invokevirtual 39, 3) := dk_182 0 39 (dk_at dksX20_check_2 0 rfl rfl)
theorem dX20_check_51 : decode cX20_check 51 = .ok (.bipush 8, 2) := dk_16 8 (dk_at dksX20_check_2 3 rfl rfl)
theorem dX20_check_53 : decode cX20_check 53 = .ok (.if_icmp .ne 8, 3) := dk_160 0 8 (dk_at dksX20_check_2 5 rfl rfl)
theorem dX20_check_56 : decode cX20_check 56 = .ok (.bipush (-3), 2) := dk_16 253 (dk_at dksX20_check_2 8 rfl rfl)
theorem dX20_check_58 : decode cX20_check 58 = .ok (.goto 4, 3) := dk_167 0 4 (dk_at dksX20_check_2 10 rfl rfl)
theorem dX20_check_61 : decode cX20_check 61 = .ok (.iconst 0, 1) := dk_3 (dk_at dksX20_check_2 13 rfl rfl)
theorem dX20_check_62 : decode cX20_check 62 = .ok (.ireturn, 1) := dk_172 (dk_at dksX20_check_2 14 rfl rfl)
abbrev cX20_carryOut : ByteArray := prog_25_method_3_code
def yX20_carryOut : MethodName := ⟨RX20, "carryOut", "(LCribBooklet$Sheet;)I"⟩
def dkwX20_carryOut_1 : List UInt8 := [4, 167, 0, 4, 3, 183, 0, 46, 182, 0, 49, 87, 43, 180, 0, 35, 182, 0, 39, 172]
abbrev dktX20_carryOut_1 : List UInt8 := dkwX20_carryOut_1 ++ []
def dkwX20_carryOut_0 : List UInt8 := [43, 180, 0, 35, 187, 0, 44, 89, 42, 180, 0, 9, 42, 180, 0, 15, 42, 180, 0, 18, 4, 160, 0, 7]
abbrev dktX20_carryOut_0 : List UInt8 := dkwX20_carryOut_0 ++ dktX20_carryOut_1
theorem dksX20_carryOut_0 : cX20_carryOut.data.toList.drop 0 = dktX20_carryOut_0 := by decide +kernel
theorem dksX20_carryOut_1 : cX20_carryOut.data.toList.drop 24 = dktX20_carryOut_1 := dk_seg dksX20_carryOut_0 24 rfl rfl
theorem dX20_carryOut_0 : decode cX20_carryOut 0 = .ok (.aload_n 1, 1) := dk_43 (dk_at dksX20_carryOut_0 0 rfl rfl)
theorem dX20_carryOut_1 : decode cX20_carryOut 1 = .ok (.getfield 35, 3) := dk_180 0 35 (dk_at dksX20_carryOut_0 1 rfl rfl)
theorem dX20_carryOut_4 : decode cX20_carryOut 4 = .ok (.new 44, 3) := dk_187 0 44 (dk_at dksX20_carryOut_0 4 rfl rfl)
theorem dX20_carryOut_7 : decode cX20_carryOut 7 = .ok (.dup, 1) := dk_89 (dk_at dksX20_carryOut_0 7 rfl rfl)
theorem dX20_carryOut_8 : decode cX20_carryOut 8 = .ok (.aload_n 0, 1) := dk_42 (dk_at dksX20_carryOut_0 8 rfl rfl)
theorem dX20_carryOut_9 : decode cX20_carryOut 9 = .ok (.getfield 9, 3) := dk_180 0 9 (dk_at dksX20_carryOut_0 9 rfl rfl)
theorem dX20_carryOut_12 : decode cX20_carryOut 12 = .ok (.aload_n 0, 1) := dk_42 (dk_at dksX20_carryOut_0 12 rfl rfl)
theorem dX20_carryOut_13 : decode cX20_carryOut 13 = .ok (.getfield 15, 3) := dk_180 0 15 (dk_at dksX20_carryOut_0 13 rfl rfl)
theorem dX20_carryOut_16 : decode cX20_carryOut 16 = .ok (.aload_n 0, 1) := dk_42 (dk_at dksX20_carryOut_0 16 rfl rfl)
theorem dX20_carryOut_17 : decode cX20_carryOut 17 = .ok (.getfield 18, 3) := dk_180 0 18 (dk_at dksX20_carryOut_0 17 rfl rfl)
theorem dX20_carryOut_20 : decode cX20_carryOut 20 = .ok (.iconst 1, 1) := dk_4 (dk_at dksX20_carryOut_0 20 rfl rfl)
theorem dX20_carryOut_21 : decode cX20_carryOut 21 = .ok (.if_icmp .ne 7, 3) := dk_160 0 7 (dk_at dksX20_carryOut_0 21 rfl rfl)
theorem dX20_carryOut_24 : decode cX20_carryOut 24 = .ok (.iconst 1, 1) := dk_4 (dk_at dksX20_carryOut_1 0 rfl rfl)
theorem dX20_carryOut_25 : decode cX20_carryOut 25 = .ok (.goto 4, 3) := dk_167 0 4 (dk_at dksX20_carryOut_1 1 rfl rfl)
theorem dX20_carryOut_28 : decode cX20_carryOut 28 = .ok (.iconst 0, 1) := dk_3 (dk_at dksX20_carryOut_1 4 rfl rfl)
theorem dX20_carryOut_29 : decode cX20_carryOut 29 = .ok (.invokespecial 46, 3) := dk_183 0 46 (dk_at dksX20_carryOut_1 5 rfl rfl)
theorem dX20_carryOut_32 : decode cX20_carryOut 32 = .ok (.invokevirtual 49, 3) := dk_182 0 49 (dk_at dksX20_carryOut_1 8 rfl rfl)
theorem dX20_carryOut_35 : decode cX20_carryOut 35 = .ok (.pop, 1) := dk_87 (dk_at dksX20_carryOut_1 11 rfl rfl)
theorem dX20_carryOut_36 : decode cX20_carryOut 36 = .ok (.aload_n 1, 1) := dk_43 (dk_at dksX20_carryOut_1 12 rfl rfl)
theorem dX20_carryOut_37 : decode cX20_carryOut 37 = .ok (.getfield 35, 3) := dk_180 0 35 (dk_at dksX20_carryOut_1 13 rfl rfl)
theorem dX20_carryOut_40 : decode cX20_carryOut 40 = .ok (.invokevirtual 39, 3) := dk_182 0 39 (dk_at dksX20_carryOut_1 16 rfl rfl)
theorem dX20_carryOut_43 : decode cX20_carryOut 43 = .ok (.ireturn, 1) := dk_172 (dk_at dksX20_carryOut_1 19 rfl rfl)
abbrev cX20_init : ByteArray := prog_25_method_1_code
def yX20_init : MethodName := ⟨RX20, "<init>", "(III)V"⟩
def dkwX20_init_0 : List UInt8 := [42, 183, 0, 3, 42, 27, 181, 0, 9, 42, 28, 181, 0, 15, 42, 29, 181, 0, 18, 177]
abbrev dktX20_init_0 : List UInt8 := dkwX20_init_0 ++ []
theorem dksX20_init_0 : cX20_init.data.toList.drop 0 = dktX20_init_0 := by decide +kernel
theorem dX20_init_0 : decode cX20_init 0 = .ok (.aload_n 0, 1) := dk_42 (dk_at dksX20_init_0 0 rfl rfl)
theorem dX20_init_1 : decode cX20_init 1 = .ok (.invokespecial 3, 3) := dk_183 0 3 (dk_at dksX20_init_0 1 rfl rfl)
theorem dX20_init_4 : decode cX20_init 4 = .ok (.aload_n 0, 1) := dk_42 (dk_at dksX20_init_0 4 rfl rfl)
theorem dX20_init_5 : decode cX20_init 5 = .ok (.iload_n 1, 1) := dk_27 (dk_at dksX20_init_0 5 rfl rfl)
theorem dX20_init_6 : decode cX20_init 6 = .ok (.putfield 9, 3) := dk_181 0 9 (dk_at dksX20_init_0 6 rfl rfl)
theorem dX20_init_9 : decode cX20_init 9 = .ok (.aload_n 0, 1) := dk_42 (dk_at dksX20_init_0 9 rfl rfl)
theorem dX20_init_10 : decode cX20_init 10 = .ok (.iload_n 2, 1) := dk_28 (dk_at dksX20_init_0 10 rfl rfl)
theorem dX20_init_11 : decode cX20_init 11 = .ok (.putfield 15, 3) := dk_181 0 15 (dk_at dksX20_init_0 11 rfl rfl)
theorem dX20_init_14 : decode cX20_init 14 = .ok (.aload_n 0, 1) := dk_42 (dk_at dksX20_init_0 14 rfl rfl)
theorem dX20_init_15 : decode cX20_init 15 = .ok (.iload_n 3, 1) := dk_29 (dk_at dksX20_init_0 15 rfl rfl)
theorem dX20_init_16 : decode cX20_init 16 = .ok (.putfield 18, 3) := dk_181 0 18 (dk_at dksX20_init_0 16 rfl rfl)
theorem dX20_init_19 : decode cX20_init 19 = .ok (.return_, 1) := dk_177 (dk_at dksX20_init_0 19 rfl rfl)
theorem q133 : (Jvm.Cond.initialized "CribBooklet$See") ∈ lw_all := lw_g (lw_at lw_m1 47 rfl) rfl
theorem q259 : (Jvm.Cond.fieldLinkNest "CribBooklet$See" (35 : Nat) "CribBooklet$Sheet" "sights" "Ljava/util/ArrayList;" "CribBooklet") ∈ lw_tbl := lw_at lw_m1 173 rfl
theorem q594 : (Jvm.Cond.castable "CribBooklet$See" "CribBooklet$Command") ∈ lw_tbl := lw_at lw_m3 28 rfl
theorem q595 : (Jvm.Cond.selects "CribBooklet$See" ({ cls := "CribBooklet$Command", name := "check", desc := "(LCribBooklet$Sheet;)I" } : Jvm.MethodName) ({ cls := "CribBooklet$See", name := "check", desc := "(LCribBooklet$Sheet;)I" } : Jvm.MethodName)) ∈ lw_all := lw_g (lw_at lw_m3 29 rfl) rfl
theorem q596 : (Jvm.Cond.unhidden "CribBooklet$See" "check" "(LCribBooklet$Sheet;)I") ∈ lw_tbl := lw_at lw_m3 30 rfl
theorem q597 : (Jvm.Cond.instanceMethod ({ cls := "CribBooklet$See", name := "check", desc := "(LCribBooklet$Sheet;)I" } : Jvm.MethodName)) ∈ lw_all := lw_g (lw_at lw_m3 31 rfl) rfl
theorem q598 : (Jvm.Cond.publicMethod ({ cls := "CribBooklet$See", name := "check", desc := "(LCribBooklet$Sheet;)I" } : Jvm.MethodName)) ∈ lw_tbl := lw_at lw_m3 32 rfl
theorem q599 : (Jvm.Cond.code ({ cls := "CribBooklet$See", name := "check", desc := "(LCribBooklet$Sheet;)I" } : Jvm.MethodName) prog_25_method_2_code (2 : Nat) (Option.some Jvm.ClassFile.FieldType.int)) ∈ lw_all := lw_g (lw_at lw_m3 33 rfl) rfl
theorem q600 : (Jvm.Cond.methodLink "CribBooklet$See" (21 : Nat) ({ cls := "CribBooklet$Sheet", name := "cells", desc := "()I" } : Jvm.MethodName)) ∈ lw_all := lw_g (lw_at lw_m3 34 rfl) rfl
theorem q601 : (Jvm.Cond.methodLinkNest "CribBooklet$See" (27 : Nat) ({ cls := "CribBooklet", name := "isIn", desc := "(III)Z" } : Jvm.MethodName) "CribBooklet") ∈ lw_tbl := lw_at lw_m3 35 rfl
theorem q602 : (Jvm.Cond.methodLinkNest "CribBooklet$See" (31 : Nat) ({ cls := "CribBooklet", name := "isBit", desc := "(I)Z" } : Jvm.MethodName) "CribBooklet") ∈ lw_tbl := lw_at lw_m3 36 rfl
theorem q603 : (Jvm.Cond.methodLink "CribBooklet$See" (39 : Nat) ({ cls := "java/util/ArrayList", name := "size", desc := "()I" } : Jvm.MethodName)) ∈ lw_all := lw_g (lw_at lw_m3 37 rfl) rfl
theorem q720 : (Jvm.Cond.selects "CribBooklet$See" ({ cls := "java/lang/Object", name := "getClass", desc := "()Ljava/lang/Class;" } : Jvm.MethodName) ({ cls := "java/lang/Object", name := "getClass", desc := "()Ljava/lang/Class;" } : Jvm.MethodName)) ∈ lw_all := lw_g (lw_at lw_m3 154 rfl) rfl
theorem q1316 : (Jvm.Cond.selects "CribBooklet$See" ({ cls := "CribBooklet$Command", name := "carryOut", desc := "(LCribBooklet$Sheet;)I" } : Jvm.MethodName) ({ cls := "CribBooklet$See", name := "carryOut", desc := "(LCribBooklet$Sheet;)I" } : Jvm.MethodName)) ∈ lw_all := lw_g (lw_at lw_m6 30 rfl) rfl
theorem q1317 : (Jvm.Cond.unhidden "CribBooklet$See" "carryOut" "(LCribBooklet$Sheet;)I") ∈ lw_tbl := lw_at lw_m6 31 rfl
theorem q1318 : (Jvm.Cond.instanceMethod ({ cls := "CribBooklet$See", name := "carryOut", desc := "(LCribBooklet$Sheet;)I" } : Jvm.MethodName)) ∈ lw_all := lw_g (lw_at lw_m6 32 rfl) rfl
theorem q1319 : (Jvm.Cond.publicMethod ({ cls := "CribBooklet$See", name := "carryOut", desc := "(LCribBooklet$Sheet;)I" } : Jvm.MethodName)) ∈ lw_tbl := lw_at lw_m6 33 rfl
theorem q1320 : (Jvm.Cond.code ({ cls := "CribBooklet$See", name := "carryOut", desc := "(LCribBooklet$Sheet;)I" } : Jvm.MethodName) prog_25_method_3_code (2 : Nat) (Option.some Jvm.ClassFile.FieldType.int)) ∈ lw_all := lw_g (lw_at lw_m6 34 rfl) rfl
theorem q1321 : (Jvm.Cond.classLink "CribBooklet$See" (44 : Nat) "CribBooklet$Sight") ∈ lw_all := lw_g (lw_at lw_m6 35 rfl) rfl
theorem q1323 : (Jvm.Cond.methodLinkNest "CribBooklet$See" (46 : Nat) ({ cls := "CribBooklet$Sight", name := "<init>", desc := "(IIZ)V" } : Jvm.MethodName) "CribBooklet") ∈ lw_tbl := lw_at lw_m6 37 rfl
theorem q1337 : (Jvm.Cond.methodLink "CribBooklet$See" (49 : Nat) ({ cls := "java/util/ArrayList", name := "add", desc := "(Ljava/lang/Object;)Z" } : Jvm.MethodName)) ∈ lw_all := lw_g (lw_at lw_m6 51 rfl) rfl
theorem q1504 : (Jvm.Cond.instantiable "CribBooklet$See" (3 : Nat)) ∈ lw_all := lw_g (lw_at lw_m6 218 rfl) rfl
theorem q1506 : (Jvm.Cond.instanceMethod ({ cls := "CribBooklet$See", name := "<init>", desc := "(III)V" } : Jvm.MethodName)) ∈ lw_all := lw_g (lw_at lw_m6 220 rfl) rfl
theorem q1507 : (Jvm.Cond.code ({ cls := "CribBooklet$See", name := "<init>", desc := "(III)V" } : Jvm.MethodName) prog_25_method_1_code (4 : Nat) (Option.none : Option Jvm.ClassFile.FieldType)) ∈ lw_all := lw_g (lw_at lw_m6 221 rfl) rfl
theorem q1508 : (Jvm.Cond.methodLink "CribBooklet$See" (3 : Nat) ({ cls := "java/lang/Record", name := "<init>", desc := "()V" } : Jvm.MethodName)) ∈ lw_all := lw_g (lw_at lw_m6 222 rfl) rfl
theorem q1509 : (Jvm.Cond.fieldLink "CribBooklet$See" (9 : Nat) "CribBooklet$See" "page" "I") ∈ lw_all := lw_g (lw_at lw_m6 223 rfl) rfl
theorem q1510 : (Jvm.Cond.fieldLink "CribBooklet$See" (15 : Nat) "CribBooklet$See" "number" "I") ∈ lw_all := lw_g (lw_at lw_m6 224 rfl) rfl
theorem q1511 : (Jvm.Cond.fieldLink "CribBooklet$See" (18 : Nat) "CribBooklet$See" "turned" "I") ∈ lw_all := lw_g (lw_at lw_m6 225 rfl) rfl
theorem q1512 : (Jvm.Cond.laysFinal "CribBooklet$See" "CribBooklet$See" "page" "I") ∈ lw_all := lw_g (lw_at lw_m6 226 rfl) rfl
theorem q1513 : (Jvm.Cond.soleField "CribBooklet$See" "page") ∈ lw_all := lw_g (lw_at lw_m6 227 rfl) rfl
theorem q1514 : (Jvm.Cond.laysFinal "CribBooklet$See" "CribBooklet$See" "number" "I") ∈ lw_all := lw_g (lw_at lw_m6 228 rfl) rfl
theorem q1515 : (Jvm.Cond.soleField "CribBooklet$See" "number") ∈ lw_all := lw_g (lw_at lw_m6 229 rfl) rfl
theorem q1516 : (Jvm.Cond.laysFinal "CribBooklet$See" "CribBooklet$See" "turned" "I") ∈ lw_all := lw_g (lw_at lw_m6 230 rfl) rfl
theorem q1517 : (Jvm.Cond.soleField "CribBooklet$See" "turned") ∈ lw_all := lw_g (lw_at lw_m6 231 rfl) rfl
theorem q1518 : (Jvm.Cond.superclass "CribBooklet$See" "java/lang/Record") ∈ lw_all := lw_g (lw_at lw_m6 232 rfl) rfl
theorem q3349 : (Jvm.Cond.castable "CribBooklet$See" "java/lang/Object") ∈ lw_tbl := lw_at lw_m14 143 rfl
theorem in_X20 : ∀ w ∈ wsX200, w ∈ lw_all := lw_in wsX200 [1512, 1514, 1516] (by decide +kernel) (by decide +kernel)

end
section
/-! CribBooklet$Forget -/
set_option maxRecDepth 100000
def RX21 : String := "CribBooklet$Forget"
abbrev cX21_check : ByteArray := prog_12_method_2_code
def yX21_check : MethodName := ⟨RX21, "check", "(LCribBooklet$Sheet;)I"⟩
theorem dX21_check_0 : decode cX21_check 0 = .ok (.iconst 0, 1) := by decide +kernel
theorem dX21_check_1 : decode cX21_check 1 = .ok (.ireturn, 1) := by decide +kernel
abbrev cX21_carryOut : ByteArray := prog_12_method_3_code
def yX21_carryOut : MethodName := ⟨RX21, "carryOut", "(LCribBooklet$Sheet;)I"⟩
def dkwX21_carryOut_0 : List UInt8 := [43, 180, 0, 7, 182, 0, 13, 61, 43, 180, 0, 7, 182, 0, 19, 28, 172]
abbrev dktX21_carryOut_0 : List UInt8 := dkwX21_carryOut_0 ++ []
theorem dksX21_carryOut_0 : cX21_carryOut.data.toList.drop 0 = dktX21_carryOut_0 := by decide +kernel
theorem dX21_carryOut_0 : decode cX21_carryOut 0 = .ok (.aload_n 1, 1) := dk_43 (dk_at dksX21_carryOut_0 0 rfl rfl)
theorem dX21_carryOut_1 : decode cX21_carryOut 1 = .ok (.getfield 7, 3) := dk_180 0 7 (dk_at dksX21_carryOut_0 1 rfl rfl)
theorem dX21_carryOut_4 : decode cX21_carryOut 4 = .ok (.invokevirtual 13, 3) := dk_182 0 13 (dk_at dksX21_carryOut_0 4 rfl rfl)
theorem dX21_carryOut_7 : decode cX21_carryOut 7 = .ok (.istore_n 2, 1) := dk_61 (dk_at dksX21_carryOut_0 7 rfl rfl)
theorem dX21_carryOut_8 : decode cX21_carryOut 8 = .ok (.aload_n 1, 1) := dk_43 (dk_at dksX21_carryOut_0 8 rfl rfl)
theorem dX21_carryOut_9 : decode cX21_carryOut 9 = .ok (.getfield 7, 3) := dk_180 0 7 (dk_at dksX21_carryOut_0 9 rfl rfl)
theorem dX21_carryOut_12 : decode cX21_carryOut 12 = .ok (.invokevirtual 19, 3) := dk_182 0 19 (dk_at dksX21_carryOut_0 12 rfl rfl)
theorem dX21_carryOut_15 : decode cX21_carryOut 15 = .ok (.iload_n 2, 1) := dk_28 (dk_at dksX21_carryOut_0 15 rfl rfl)
theorem dX21_carryOut_16 : decode cX21_carryOut 16 = .ok (.ireturn, 1) := dk_172 (dk_at dksX21_carryOut_0 16 rfl rfl)
abbrev cX21_init : ByteArray := prog_12_method_1_code
def yX21_init : MethodName := ⟨RX21, "<init>", "()V"⟩
theorem dX21_init_0 : decode cX21_init 0 = .ok (.aload_n 0, 1) := by decide +kernel
theorem dX21_init_1 : decode cX21_init 1 = .ok (.invokespecial 1, 3) := by decide +kernel
theorem dX21_init_4 : decode cX21_init 4 = .ok (.return_, 1) := by decide +kernel
theorem q134 : (Jvm.Cond.initialized "CribBooklet$Forget") ∈ lw_all := lw_g (lw_at lw_m1 48 rfl) rfl
theorem q260 : (Jvm.Cond.fieldLinkNest "CribBooklet$Forget" (7 : Nat) "CribBooklet$Sheet" "sights" "Ljava/util/ArrayList;" "CribBooklet") ∈ lw_tbl := lw_at lw_m1 174 rfl
theorem q532 : (Jvm.Cond.castable "CribBooklet$Forget" "CribBooklet$Command") ∈ lw_tbl := lw_at lw_m2 206 rfl
theorem q533 : (Jvm.Cond.selects "CribBooklet$Forget" ({ cls := "CribBooklet$Command", name := "check", desc := "(LCribBooklet$Sheet;)I" } : Jvm.MethodName) ({ cls := "CribBooklet$Forget", name := "check", desc := "(LCribBooklet$Sheet;)I" } : Jvm.MethodName)) ∈ lw_all := lw_g (lw_at lw_m2 207 rfl) rfl
theorem q534 : (Jvm.Cond.unhidden "CribBooklet$Forget" "check" "(LCribBooklet$Sheet;)I") ∈ lw_tbl := lw_at lw_m2 208 rfl
theorem q535 : (Jvm.Cond.instanceMethod ({ cls := "CribBooklet$Forget", name := "check", desc := "(LCribBooklet$Sheet;)I" } : Jvm.MethodName)) ∈ lw_all := lw_g (lw_at lw_m2 209 rfl) rfl
theorem q536 : (Jvm.Cond.publicMethod ({ cls := "CribBooklet$Forget", name := "check", desc := "(LCribBooklet$Sheet;)I" } : Jvm.MethodName)) ∈ lw_tbl := lw_at lw_m2 210 rfl
theorem q537 : (Jvm.Cond.code ({ cls := "CribBooklet$Forget", name := "check", desc := "(LCribBooklet$Sheet;)I" } : Jvm.MethodName) prog_12_method_2_code (2 : Nat) (Option.some Jvm.ClassFile.FieldType.int)) ∈ lw_all := lw_g (lw_at lw_m2 211 rfl) rfl
theorem q707 : (Jvm.Cond.selects "CribBooklet$Forget" ({ cls := "java/lang/Object", name := "getClass", desc := "()Ljava/lang/Class;" } : Jvm.MethodName) ({ cls := "java/lang/Object", name := "getClass", desc := "()Ljava/lang/Class;" } : Jvm.MethodName)) ∈ lw_all := lw_g (lw_at lw_m3 141 rfl) rfl
theorem q1225 : (Jvm.Cond.selects "CribBooklet$Forget" ({ cls := "CribBooklet$Command", name := "carryOut", desc := "(LCribBooklet$Sheet;)I" } : Jvm.MethodName) ({ cls := "CribBooklet$Forget", name := "carryOut", desc := "(LCribBooklet$Sheet;)I" } : Jvm.MethodName)) ∈ lw_all := lw_g (lw_at lw_m5 179 rfl) rfl
theorem q1226 : (Jvm.Cond.unhidden "CribBooklet$Forget" "carryOut" "(LCribBooklet$Sheet;)I") ∈ lw_tbl := lw_at lw_m5 180 rfl
theorem q1227 : (Jvm.Cond.instanceMethod ({ cls := "CribBooklet$Forget", name := "carryOut", desc := "(LCribBooklet$Sheet;)I" } : Jvm.MethodName)) ∈ lw_all := lw_g (lw_at lw_m5 181 rfl) rfl
theorem q1228 : (Jvm.Cond.publicMethod ({ cls := "CribBooklet$Forget", name := "carryOut", desc := "(LCribBooklet$Sheet;)I" } : Jvm.MethodName)) ∈ lw_tbl := lw_at lw_m5 182 rfl
theorem q1229 : (Jvm.Cond.code ({ cls := "CribBooklet$Forget", name := "carryOut", desc := "(LCribBooklet$Sheet;)I" } : Jvm.MethodName) prog_12_method_3_code (3 : Nat) (Option.some Jvm.ClassFile.FieldType.int)) ∈ lw_all := lw_g (lw_at lw_m5 183 rfl) rfl
theorem q1230 : (Jvm.Cond.methodLink "CribBooklet$Forget" (13 : Nat) ({ cls := "java/util/ArrayList", name := "size", desc := "()I" } : Jvm.MethodName)) ∈ lw_all := lw_g (lw_at lw_m5 184 rfl) rfl
theorem q1231 : (Jvm.Cond.methodLink "CribBooklet$Forget" (19 : Nat) ({ cls := "java/util/ArrayList", name := "clear", desc := "()V" } : Jvm.MethodName)) ∈ lw_all := lw_g (lw_at lw_m5 185 rfl) rfl
theorem q1524 : (Jvm.Cond.instantiable "CribBooklet$Forget" (0 : Nat)) ∈ lw_all := lw_g (lw_at lw_m6 238 rfl) rfl
theorem q1526 : (Jvm.Cond.instanceMethod ({ cls := "CribBooklet$Forget", name := "<init>", desc := "()V" } : Jvm.MethodName)) ∈ lw_all := lw_g (lw_at lw_m7 0 rfl) rfl
theorem q1527 : (Jvm.Cond.code ({ cls := "CribBooklet$Forget", name := "<init>", desc := "()V" } : Jvm.MethodName) prog_12_method_1_code (1 : Nat) (Option.none : Option Jvm.ClassFile.FieldType)) ∈ lw_all := lw_g (lw_at lw_m7 1 rfl) rfl
theorem q1528 : (Jvm.Cond.methodLink "CribBooklet$Forget" (1 : Nat) ({ cls := "java/lang/Record", name := "<init>", desc := "()V" } : Jvm.MethodName)) ∈ lw_all := lw_g (lw_at lw_m7 2 rfl) rfl
theorem q1529 : (Jvm.Cond.superclass "CribBooklet$Forget" "java/lang/Record") ∈ lw_all := lw_g (lw_at lw_m7 3 rfl) rfl
theorem q3350 : (Jvm.Cond.castable "CribBooklet$Forget" "java/lang/Object") ∈ lw_tbl := lw_at lw_m14 144 rfl

end
section
/-! CribBooklet$AddNote -/
set_option maxRecDepth 100000
def RX22 : String := "CribBooklet$AddNote"
def TX22 : u_T := fun k => match k with
  | 0 => ("CribBooklet$AddNote", "subject", "I", true)
  | 1 => ("CribBooklet$AddNote", "urgency", "I", true)
  | 2 => ("CribBooklet$AddNote", "lines", "I", true)
  | _ => ("CribBooklet$AddNote", "whole", "I", true)
def tyX22 : Nat → FieldType := fun k => match k with
  | 0 => .int
  | 1 => .int
  | 2 => .int
  | _ => .int
abbrev wsX220 : List Cond := u_ws RX22 TX22 4
theorem nmX22 : ∀ a, a < 4 → ∀ b, b < 4 → a ≠ b → (TX22 a).2.1 ≠ (TX22 b).2.1 := by decide +kernel
theorem tyX22_ok : ∀ k, k < 4 → parseFieldDescriptor (TX22 k).2.2.1 = some (tyX22 k) := by decide +kernel
abbrev cX22_check : ByteArray := prog_2_method_2_code
def yX22_check : MethodName := ⟨RX22, "check", "(LCribBooklet$Sheet;)I"⟩
def dkwX22_check_2 : List UInt8 := [154, 0, 5, 2, 172, 43, 180, 0, 32, 182, 0, 38, 16, 12, 160, 0, 8, 16, 253, 167, 0, 4, 3, 172]
abbrev dktX22_check_2 : List UInt8 := dkwX22_check_2 ++ []
def dkwX22_check_1 : List UInt8 := [153, 0, 26, 42, 180, 0, 18, 4, 16, 20, 184, 0, 24, 153, 0, 13, 42, 180, 0, 21, 184, 0, 28]
abbrev dktX22_check_1 : List UInt8 := dkwX22_check_1 ++ dktX22_check_2
def dkwX22_check_0 : List UInt8 := [42, 180, 0, 9, 3, 16, 99, 184, 0, 24, 153, 0, 39, 42, 180, 0, 15, 3, 16, 9, 184, 0, 24]
abbrev dktX22_check_0 : List UInt8 := dkwX22_check_0 ++ dktX22_check_1
theorem dksX22_check_0 : cX22_check.data.toList.drop 0 = dktX22_check_0 := by decide +kernel
theorem dksX22_check_1 : cX22_check.data.toList.drop 23 = dktX22_check_1 := dk_seg dksX22_check_0 23 rfl rfl
theorem dksX22_check_2 : cX22_check.data.toList.drop 46 = dktX22_check_2 := dk_seg dksX22_check_1 23 rfl rfl
theorem dX22_check_0 : decode cX22_check 0 = .ok (.aload_n 0, 1) := dk_42 (dk_at dksX22_check_0 0 rfl rfl)
theorem dX22_check_1 : decode cX22_check 1 = .ok (.getfield 9, 3) := dk_180 0 9 (dk_at dksX22_check_0 1 rfl rfl)
theorem dX22_check_4 : decode cX22_check 4 = .ok (.iconst 0, 1) := dk_3 (dk_at dksX22_check_0 4 rfl rfl)
theorem dX22_check_5 : decode cX22_check 5 = .ok (.bipush 99, 2) := dk_16 99 (dk_at dksX22_check_0 5 rfl rfl)
theorem dX22_check_7 : decode cX22_check 7 = .ok (.invokestatic 24, 3) := dk_184 0 24 (dk_at dksX22_check_0 7 rfl rfl)
theorem dX22_check_10 : decode cX22_check 10 = .ok (.ifCond .eq 39, 3) := dk_153 0 39 (dk_at dksX22_check_0 10 rfl rfl)
theorem dX22_check_13 : decode cX22_check 13 = .ok (.aload_n 0, 1) := dk_42 (dk_at dksX22_check_0 13 rfl rfl)
theorem dX22_check_14 : decode cX22_check 14 = .ok (.getfield 15, 3) := dk_180 0 15 (dk_at dksX22_check_0 14 rfl rfl)
theorem dX22_check_17 : decode cX22_check 17 = .ok (.iconst 0, 1) := dk_3 (dk_at dksX22_check_0 17 rfl rfl)
theorem dX22_check_18 : decode cX22_check 18 = .ok (.bipush 9, 2) := dk_16 9 (dk_at dksX22_check_0 18 rfl rfl)
theorem dX22_check_20 : decode cX22_check 20 = .ok (.invokestatic 24, 3) := dk_184 0 24 (dk_at dksX22_check_0 20 rfl rfl)
theorem dX22_check_23 : decode cX22_check 23 = .ok (.ifCond .eq 26, 3) := dk_153 0 26 (dk_at dksX22_check_1 0 rfl rfl)
theorem dX22_check_26 : decode cX22_check 26 = .ok (.aload_n 0, 1) := dk_42 (dk_at dksX22_check_1 3 rfl rfl)
theorem dX22_check_27 : decode cX22_check 27 = .ok (.getfield 18, 3) := dk_180 0 18 (dk_at dksX22_check_1 4 rfl rfl)
theorem dX22_check_30 : decode cX22_check 30 = .ok (.iconst 1, 1) := dk_4 (dk_at dksX22_check_1 7 rfl rfl)
theorem dX22_check_31 : decode cX22_check 31 = .ok (.bipush 20, 2) := dk_16 20 (dk_at dksX22_check_1 8 rfl rfl)
theorem dX22_check_33 : decode cX22_check 33 = .ok (.invokestatic 24, 3) := dk_184 0 24 (dk_at dksX22_check_1 10 rfl rfl)
theorem dX22_check_36 : decode cX22_check 36 = .ok (.ifCond .eq 13, 3) := dk_153 0 13 (dk_at dksX22_check_1 13 rfl rfl)
theorem dX22_check_39 : decode cX22_check 39 = .ok (.aload_n 0, 1) := dk_42 (dk_at dksX22_check_1 16 rfl rfl)
theorem dX22_check_40 : decode cX22_check 40 = .ok (.getfield 21, 3) := dk_180 0 21 (dk_at dksX22_check_1 17 rfl rfl)
theorem dX22_check_43 : decode cX22_check 43 = .ok (.invokestatic 28, 3) := dk_184 0 28 (dk_at dksX22_check_1 20 rfl rfl)
theorem dX22_check_46 : decode cX22_check 46 = .ok (.ifCond .ne 5, 3) := dk_154 0 5 (dk_at dksX22_check_2 0 rfl rfl)
theorem dX22_check_49 : decode cX22_check 49 = .ok (.iconst (-1), 1) := dk_2 (dk_at dksX22_check_2 3 rfl rfl)
theorem dX22_check_50 : decode cX22_check 50 = .ok (.ireturn, 1) := dk_172 (dk_at dksX22_check_2 4 rfl rfl)
theorem dX22_check_51 : decode cX22_check 51 = .ok (.aload_n 1, 1) := dk_43 (dk_at dksX22_check_2 5 rfl rfl)
theorem dX22_check_52 : decode cX22_check 52 = .ok (.getfield 32, 3) := dk_180 0 32 (dk_at dksX22_check_2 6 rfl rfl)
theorem dX22_check_55 : decode cX22_check 55 = .ok (.invokevirtual 38, 3) := dk_182 0 38 (dk_at dksX22_check_2 9 rfl rfl)
theorem dX22_check_58 : decode cX22_check 58 = .ok (.bipush 12, 2) := dk_16 12 (dk_at dksX22_check_2 12 rfl rfl)
theorem dX22_check_60 : decode cX22_check 60 = .ok (.if_icmp .ne 8, 3) := dk_160 0 8 (dk_at dksX22_check_2 14 rfl rfl)
theorem dX22_check_63 : decode cX22_check 63 = .ok (.bipush (-3), 2) := dk_16 253 (dk_at dksX22_check_2 17 rfl rfl)
theorem dX22_check_65 : decode cX22_check 65 = .ok (.goto 4, 3) := dk_167 0 4 (dk_at dksX22_check_2 19 rfl rfl)
theorem dX22_check_68 : decode cX22_check 68 = .ok (.iconst 0, 1) := dk_3 (dk_at dksX22_check_2 22 rfl rfl)
theorem dX22_check_69 : decode cX22_check 69 = .ok (.ireturn, 1) := dk_172 (dk_at dksX22_check_2 23 rfl rfl)
abbrev cX22_carryOut : ByteArray := prog_2_method_3_code
def yX22_carryOut : MethodName := ⟨RX22, "carryOut", "(LCribBooklet$Sheet;)I"⟩
def dkwX22_carryOut_2 : List UInt8 := [100, 172]
abbrev dktX22_carryOut_2 : List UInt8 := dkwX22_carryOut_2 ++ []
def dkwX22_carryOut_1 : List UInt8 := [4, 160, 0, 7, 4, 167, 0, 4, 3, 183, 0, 46, 182, 0, 49, 87, 43, 180, 0, 32, 182, 0, 38, 4]
abbrev dktX22_carryOut_1 : List UInt8 := dkwX22_carryOut_1 ++ dktX22_carryOut_2
def dkwX22_carryOut_0 : List UInt8 := [43, 180, 0, 32, 187, 0, 44, 89, 42, 180, 0, 9, 42, 180, 0, 15, 42, 180, 0, 18, 42, 180, 0, 21]
abbrev dktX22_carryOut_0 : List UInt8 := dkwX22_carryOut_0 ++ dktX22_carryOut_1
theorem dksX22_carryOut_0 : cX22_carryOut.data.toList.drop 0 = dktX22_carryOut_0 := by decide +kernel
theorem dksX22_carryOut_1 : cX22_carryOut.data.toList.drop 24 = dktX22_carryOut_1 := dk_seg dksX22_carryOut_0 24 rfl rfl
theorem dksX22_carryOut_2 : cX22_carryOut.data.toList.drop 48 = dktX22_carryOut_2 := dk_seg dksX22_carryOut_1 24 rfl rfl
theorem dX22_carryOut_0 : decode cX22_carryOut 0 = .ok (.aload_n 1, 1) := dk_43 (dk_at dksX22_carryOut_0 0 rfl rfl)
theorem dX22_carryOut_1 : decode cX22_carryOut 1 = .ok (.getfield 32, 3) := dk_180 0 32 (dk_at dksX22_carryOut_0 1 rfl rfl)
theorem dX22_carryOut_4 : decode cX22_carryOut 4 = .ok (.new 44, 3) := dk_187 0 44 (dk_at dksX22_carryOut_0 4 rfl rfl)
theorem dX22_carryOut_7 : decode cX22_carryOut 7 = .ok (.dup, 1) := dk_89 (dk_at dksX22_carryOut_0 7 rfl rfl)
theorem dX22_carryOut_8 : decode cX22_carryOut 8 = .ok (.aload_n 0, 1) := dk_42 (dk_at dksX22_carryOut_0 8 rfl rfl)
theorem dX22_carryOut_9 : decode cX22_carryOut 9 = .ok (.getfield 9, 3) := dk_180 0 9 (dk_at dksX22_carryOut_0 9 rfl rfl)
theorem dX22_carryOut_12 : decode cX22_carryOut 12 = .ok (.aload_n 0, 1) := dk_42 (dk_at dksX22_carryOut_0 12 rfl rfl)
theorem dX22_carryOut_13 : decode cX22_carryOut 13 = .ok (.getfield 15, 3) := dk_180 0 15 (dk_at dksX22_carryOut_0 13 rfl rfl)
theorem dX22_carryOut_16 : decode cX22_carryOut 16 = .ok (.aload_n 0, 1) := dk_42 (dk_at dksX22_carryOut_0 16 rfl rfl)
theorem dX22_carryOut_17 : decode cX22_carryOut 17 = .ok (.getfield 18, 3) := dk_180 0 18 (dk_at dksX22_carryOut_0 17 rfl rfl)
theorem dX22_carryOut_20 : decode cX22_carryOut 20 = .ok (.aload_n 0, 1) := dk_42 (dk_at dksX22_carryOut_0 20 rfl rfl)
theorem dX22_carryOut_21 : decode cX22_carryOut 21 = .ok (.getfield 21, 3) := dk_180 0 21 (dk_at dksX22_carryOut_0 21 rfl rfl)
theorem dX22_carryOut_24 : decode cX22_carryOut 24 = .ok (.iconst 1, 1) := dk_4 (dk_at dksX22_carryOut_1 0 rfl rfl)
theorem dX22_carryOut_25 : decode cX22_carryOut 25 = .ok (.if_icmp .ne 7, 3) := dk_160 0 7 (dk_at dksX22_carryOut_1 1 rfl rfl)
theorem dX22_carryOut_28 : decode cX22_carryOut 28 = .ok (.iconst 1, 1) := dk_4 (dk_at dksX22_carryOut_1 4 rfl rfl)
theorem dX22_carryOut_29 : decode cX22_carryOut 29 = .ok (.goto 4, 3) := dk_167 0 4 (dk_at dksX22_carryOut_1 5 rfl rfl)
theorem dX22_carryOut_32 : decode cX22_carryOut 32 = .ok (.iconst 0, 1) := dk_3 (dk_at dksX22_carryOut_1 8 rfl rfl)
theorem dX22_carryOut_33 : decode cX22_carryOut 33 = .ok (.invokespecial 46, 3) := dk_183 0 46 (dk_at dksX22_carryOut_1 9 rfl rfl)
theorem dX22_carryOut_36 : decode cX22_carryOut 36 = .ok (.invokevirtual 49, 3) := dk_182 0 49 (dk_at dksX22_carryOut_1 12 rfl rfl)
theorem dX22_carryOut_39 : decode cX22_carryOut 39 = .ok (.pop, 1) := dk_87 (dk_at dksX22_carryOut_1 15 rfl rfl)
theorem dX22_carryOut_40 : decode cX22_carryOut 40 = .ok (.aload_n 1, 1) := dk_43 (dk_at dksX22_carryOut_1 16 rfl rfl)
theorem dX22_carryOut_41 : decode cX22_carryOut 41 = .ok (.getfield 32, 3) := dk_180 0 32 (dk_at dksX22_carryOut_1 17 rfl rfl)
theorem dX22_carryOut_44 : decode cX22_carryOut 44 = .ok (.invokevirtual 38, 3) := dk_182 0 38 (dk_at dksX22_carryOut_1 20 rfl rfl)
theorem dX22_carryOut_47 : decode cX22_carryOut 47 = .ok (.iconst 1, 1) := dk_4 (dk_at dksX22_carryOut_1 23 rfl rfl)
theorem dX22_carryOut_48 : decode cX22_carryOut 48 = .ok (.isub, 1) := dk_100 (dk_at dksX22_carryOut_2 0 rfl rfl)
theorem dX22_carryOut_49 : decode cX22_carryOut 49 = .ok (.ireturn, 1) := dk_172 (dk_at dksX22_carryOut_2 1 rfl rfl)
abbrev cX22_init : ByteArray := prog_2_method_1_code
def yX22_init : MethodName := ⟨RX22, "<init>", "(IIII)V"⟩
def dkwX22_init_1 : List UInt8 := [181, 0, 21, 177]
abbrev dktX22_init_1 : List UInt8 := dkwX22_init_1 ++ []
def dkwX22_init_0 : List UInt8 := [42, 183, 0, 3, 42, 27, 181, 0, 9, 42, 28, 181, 0, 15, 42, 29, 181, 0, 18, 42, 21, 4]
abbrev dktX22_init_0 : List UInt8 := dkwX22_init_0 ++ dktX22_init_1
theorem dksX22_init_0 : cX22_init.data.toList.drop 0 = dktX22_init_0 := by decide +kernel
theorem dksX22_init_1 : cX22_init.data.toList.drop 22 = dktX22_init_1 := dk_seg dksX22_init_0 22 rfl rfl
theorem dX22_init_0 : decode cX22_init 0 = .ok (.aload_n 0, 1) := dk_42 (dk_at dksX22_init_0 0 rfl rfl)
theorem dX22_init_1 : decode cX22_init 1 = .ok (.invokespecial 3, 3) := dk_183 0 3 (dk_at dksX22_init_0 1 rfl rfl)
theorem dX22_init_4 : decode cX22_init 4 = .ok (.aload_n 0, 1) := dk_42 (dk_at dksX22_init_0 4 rfl rfl)
theorem dX22_init_5 : decode cX22_init 5 = .ok (.iload_n 1, 1) := dk_27 (dk_at dksX22_init_0 5 rfl rfl)
theorem dX22_init_6 : decode cX22_init 6 = .ok (.putfield 9, 3) := dk_181 0 9 (dk_at dksX22_init_0 6 rfl rfl)
theorem dX22_init_9 : decode cX22_init 9 = .ok (.aload_n 0, 1) := dk_42 (dk_at dksX22_init_0 9 rfl rfl)
theorem dX22_init_10 : decode cX22_init 10 = .ok (.iload_n 2, 1) := dk_28 (dk_at dksX22_init_0 10 rfl rfl)
theorem dX22_init_11 : decode cX22_init 11 = .ok (.putfield 15, 3) := dk_181 0 15 (dk_at dksX22_init_0 11 rfl rfl)
theorem dX22_init_14 : decode cX22_init 14 = .ok (.aload_n 0, 1) := dk_42 (dk_at dksX22_init_0 14 rfl rfl)
theorem dX22_init_15 : decode cX22_init 15 = .ok (.iload_n 3, 1) := dk_29 (dk_at dksX22_init_0 15 rfl rfl)
theorem dX22_init_16 : decode cX22_init 16 = .ok (.putfield 18, 3) := dk_181 0 18 (dk_at dksX22_init_0 16 rfl rfl)
theorem dX22_init_19 : decode cX22_init 19 = .ok (.aload_n 0, 1) := dk_42 (dk_at dksX22_init_0 19 rfl rfl)
theorem dX22_init_20 : decode cX22_init 20 = .ok (.iload 4, 2) := dk_21 4 (dk_at dksX22_init_0 20 rfl rfl)
theorem dX22_init_22 : decode cX22_init 22 = .ok (.putfield 21, 3) := dk_181 0 21 (dk_at dksX22_init_1 0 rfl rfl)
theorem dX22_init_25 : decode cX22_init 25 = .ok (.return_, 1) := dk_177 (dk_at dksX22_init_1 3 rfl rfl)
theorem q135 : (Jvm.Cond.initialized "CribBooklet$AddNote") ∈ lw_all := lw_g (lw_at lw_m1 49 rfl) rfl
theorem q267 : (Jvm.Cond.fieldLinkNest "CribBooklet$AddNote" (32 : Nat) "CribBooklet$Sheet" "notes" "Ljava/util/ArrayList;" "CribBooklet") ∈ lw_tbl := lw_at lw_m1 181 rfl
theorem q406 : (Jvm.Cond.castable "CribBooklet$AddNote" "CribBooklet$Command") ∈ lw_tbl := lw_at lw_m2 80 rfl
theorem q407 : (Jvm.Cond.selects "CribBooklet$AddNote" ({ cls := "CribBooklet$Command", name := "check", desc := "(LCribBooklet$Sheet;)I" } : Jvm.MethodName) ({ cls := "CribBooklet$AddNote", name := "check", desc := "(LCribBooklet$Sheet;)I" } : Jvm.MethodName)) ∈ lw_all := lw_g (lw_at lw_m2 81 rfl) rfl
theorem q408 : (Jvm.Cond.unhidden "CribBooklet$AddNote" "check" "(LCribBooklet$Sheet;)I") ∈ lw_tbl := lw_at lw_m2 82 rfl
theorem q409 : (Jvm.Cond.instanceMethod ({ cls := "CribBooklet$AddNote", name := "check", desc := "(LCribBooklet$Sheet;)I" } : Jvm.MethodName)) ∈ lw_all := lw_g (lw_at lw_m2 83 rfl) rfl
theorem q410 : (Jvm.Cond.publicMethod ({ cls := "CribBooklet$AddNote", name := "check", desc := "(LCribBooklet$Sheet;)I" } : Jvm.MethodName)) ∈ lw_tbl := lw_at lw_m2 84 rfl
theorem q411 : (Jvm.Cond.code ({ cls := "CribBooklet$AddNote", name := "check", desc := "(LCribBooklet$Sheet;)I" } : Jvm.MethodName) prog_2_method_2_code (2 : Nat) (Option.some Jvm.ClassFile.FieldType.int)) ∈ lw_all := lw_g (lw_at lw_m2 85 rfl) rfl
theorem q412 : (Jvm.Cond.methodLinkNest "CribBooklet$AddNote" (24 : Nat) ({ cls := "CribBooklet", name := "isIn", desc := "(III)Z" } : Jvm.MethodName) "CribBooklet") ∈ lw_tbl := lw_at lw_m2 86 rfl
theorem q415 : (Jvm.Cond.methodLinkNest "CribBooklet$AddNote" (28 : Nat) ({ cls := "CribBooklet", name := "isBit", desc := "(I)Z" } : Jvm.MethodName) "CribBooklet") ∈ lw_tbl := lw_at lw_m2 89 rfl
theorem q419 : (Jvm.Cond.methodLink "CribBooklet$AddNote" (38 : Nat) ({ cls := "java/util/ArrayList", name := "size", desc := "()I" } : Jvm.MethodName)) ∈ lw_all := lw_g (lw_at lw_m2 93 rfl) rfl
theorem q698 : (Jvm.Cond.selects "CribBooklet$AddNote" ({ cls := "java/lang/Object", name := "getClass", desc := "()Ljava/lang/Class;" } : Jvm.MethodName) ({ cls := "java/lang/Object", name := "getClass", desc := "()Ljava/lang/Class;" } : Jvm.MethodName)) ∈ lw_all := lw_g (lw_at lw_m3 132 rfl) rfl
theorem q1081 : (Jvm.Cond.selects "CribBooklet$AddNote" ({ cls := "CribBooklet$Command", name := "carryOut", desc := "(LCribBooklet$Sheet;)I" } : Jvm.MethodName) ({ cls := "CribBooklet$AddNote", name := "carryOut", desc := "(LCribBooklet$Sheet;)I" } : Jvm.MethodName)) ∈ lw_all := lw_g (lw_at lw_m5 35 rfl) rfl
theorem q1082 : (Jvm.Cond.unhidden "CribBooklet$AddNote" "carryOut" "(LCribBooklet$Sheet;)I") ∈ lw_tbl := lw_at lw_m5 36 rfl
theorem q1083 : (Jvm.Cond.instanceMethod ({ cls := "CribBooklet$AddNote", name := "carryOut", desc := "(LCribBooklet$Sheet;)I" } : Jvm.MethodName)) ∈ lw_all := lw_g (lw_at lw_m5 37 rfl) rfl
theorem q1084 : (Jvm.Cond.publicMethod ({ cls := "CribBooklet$AddNote", name := "carryOut", desc := "(LCribBooklet$Sheet;)I" } : Jvm.MethodName)) ∈ lw_tbl := lw_at lw_m5 38 rfl
theorem q1085 : (Jvm.Cond.code ({ cls := "CribBooklet$AddNote", name := "carryOut", desc := "(LCribBooklet$Sheet;)I" } : Jvm.MethodName) prog_2_method_3_code (2 : Nat) (Option.some Jvm.ClassFile.FieldType.int)) ∈ lw_all := lw_g (lw_at lw_m5 39 rfl) rfl
theorem q1086 : (Jvm.Cond.classLink "CribBooklet$AddNote" (44 : Nat) "CribBooklet$Note") ∈ lw_all := lw_g (lw_at lw_m5 40 rfl) rfl
theorem q1088 : (Jvm.Cond.methodLinkNest "CribBooklet$AddNote" (46 : Nat) ({ cls := "CribBooklet$Note", name := "<init>", desc := "(IIIZ)V" } : Jvm.MethodName) "CribBooklet") ∈ lw_tbl := lw_at lw_m5 42 rfl
theorem q1105 : (Jvm.Cond.methodLink "CribBooklet$AddNote" (49 : Nat) ({ cls := "java/util/ArrayList", name := "add", desc := "(Ljava/lang/Object;)Z" } : Jvm.MethodName)) ∈ lw_all := lw_g (lw_at lw_m5 59 rfl) rfl
theorem q1535 : (Jvm.Cond.instantiable "CribBooklet$AddNote" (4 : Nat)) ∈ lw_all := lw_g (lw_at lw_m7 9 rfl) rfl
theorem q1537 : (Jvm.Cond.instanceMethod ({ cls := "CribBooklet$AddNote", name := "<init>", desc := "(IIII)V" } : Jvm.MethodName)) ∈ lw_all := lw_g (lw_at lw_m7 11 rfl) rfl
theorem q1538 : (Jvm.Cond.code ({ cls := "CribBooklet$AddNote", name := "<init>", desc := "(IIII)V" } : Jvm.MethodName) prog_2_method_1_code (5 : Nat) (Option.none : Option Jvm.ClassFile.FieldType)) ∈ lw_all := lw_g (lw_at lw_m7 12 rfl) rfl
theorem q1539 : (Jvm.Cond.methodLink "CribBooklet$AddNote" (3 : Nat) ({ cls := "java/lang/Record", name := "<init>", desc := "()V" } : Jvm.MethodName)) ∈ lw_all := lw_g (lw_at lw_m7 13 rfl) rfl
theorem q1540 : (Jvm.Cond.fieldLink "CribBooklet$AddNote" (9 : Nat) "CribBooklet$AddNote" "subject" "I") ∈ lw_all := lw_g (lw_at lw_m7 14 rfl) rfl
theorem q1541 : (Jvm.Cond.fieldLink "CribBooklet$AddNote" (15 : Nat) "CribBooklet$AddNote" "urgency" "I") ∈ lw_all := lw_g (lw_at lw_m7 15 rfl) rfl
theorem q1542 : (Jvm.Cond.fieldLink "CribBooklet$AddNote" (18 : Nat) "CribBooklet$AddNote" "lines" "I") ∈ lw_all := lw_g (lw_at lw_m7 16 rfl) rfl
theorem q1543 : (Jvm.Cond.fieldLink "CribBooklet$AddNote" (21 : Nat) "CribBooklet$AddNote" "whole" "I") ∈ lw_all := lw_g (lw_at lw_m7 17 rfl) rfl
theorem q1544 : (Jvm.Cond.laysFinal "CribBooklet$AddNote" "CribBooklet$AddNote" "subject" "I") ∈ lw_all := lw_g (lw_at lw_m7 18 rfl) rfl
theorem q1545 : (Jvm.Cond.soleField "CribBooklet$AddNote" "subject") ∈ lw_all := lw_g (lw_at lw_m7 19 rfl) rfl
theorem q1546 : (Jvm.Cond.laysFinal "CribBooklet$AddNote" "CribBooklet$AddNote" "urgency" "I") ∈ lw_all := lw_g (lw_at lw_m7 20 rfl) rfl
theorem q1547 : (Jvm.Cond.soleField "CribBooklet$AddNote" "urgency") ∈ lw_all := lw_g (lw_at lw_m7 21 rfl) rfl
theorem q1548 : (Jvm.Cond.laysFinal "CribBooklet$AddNote" "CribBooklet$AddNote" "lines" "I") ∈ lw_all := lw_g (lw_at lw_m7 22 rfl) rfl
theorem q1549 : (Jvm.Cond.soleField "CribBooklet$AddNote" "lines") ∈ lw_all := lw_g (lw_at lw_m7 23 rfl) rfl
theorem q1550 : (Jvm.Cond.laysFinal "CribBooklet$AddNote" "CribBooklet$AddNote" "whole" "I") ∈ lw_all := lw_g (lw_at lw_m7 24 rfl) rfl
theorem q1551 : (Jvm.Cond.soleField "CribBooklet$AddNote" "whole") ∈ lw_all := lw_g (lw_at lw_m7 25 rfl) rfl
theorem q1552 : (Jvm.Cond.superclass "CribBooklet$AddNote" "java/lang/Record") ∈ lw_all := lw_g (lw_at lw_m7 26 rfl) rfl
theorem q3351 : (Jvm.Cond.castable "CribBooklet$AddNote" "java/lang/Object") ∈ lw_tbl := lw_at lw_m14 145 rfl
theorem in_X22 : ∀ w ∈ wsX220, w ∈ lw_all := lw_in wsX220 [1544, 1546, 1548, 1550] (by decide +kernel) (by decide +kernel)

end
section
/-! CribBooklet$RemoveNote -/
set_option maxRecDepth 100000
def RX23 : String := "CribBooklet$RemoveNote"
def TX23 : u_T := fun k => match k with
  | _ => ("CribBooklet$RemoveNote", "note", "I", true)
def tyX23 : Nat → FieldType := fun k => match k with
  | _ => .int
abbrev wsX230 : List Cond := u_ws RX23 TX23 1
theorem nmX23 : ∀ a, a < 1 → ∀ b, b < 1 → a ≠ b → (TX23 a).2.1 ≠ (TX23 b).2.1 := by decide +kernel
theorem tyX23_ok : ∀ k, k < 1 → parseFieldDescriptor (TX23 k).2.2.1 = some (tyX23 k) := by decide +kernel
abbrev cX23_check : ByteArray := prog_24_method_2_code
def yX23_check : MethodName := ⟨RX23, "check", "(LCribBooklet$Sheet;)I"⟩
def dkwX23_check_1 : List UInt8 := [2, 172]
abbrev dktX23_check_1 : List UInt8 := dkwX23_check_1 ++ []
def dkwX23_check_0 : List UInt8 := [42, 180, 0, 9, 3, 43, 180, 0, 15, 182, 0, 21, 4, 100, 184, 0, 27, 153, 0, 7, 3, 167, 0, 4]
abbrev dktX23_check_0 : List UInt8 := dkwX23_check_0 ++ dktX23_check_1
theorem dksX23_check_0 : cX23_check.data.toList.drop 0 = dktX23_check_0 := by decide +kernel
theorem dksX23_check_1 : cX23_check.data.toList.drop 24 = dktX23_check_1 := dk_seg dksX23_check_0 24 rfl rfl
theorem dX23_check_0 : decode cX23_check 0 = .ok (.aload_n 0, 1) := dk_42 (dk_at dksX23_check_0 0 rfl rfl)
theorem dX23_check_1 : decode cX23_check 1 = .ok (.getfield 9, 3) := dk_180 0 9 (dk_at dksX23_check_0 1 rfl rfl)
theorem dX23_check_4 : decode cX23_check 4 = .ok (.iconst 0, 1) := dk_3 (dk_at dksX23_check_0 4 rfl rfl)
theorem dX23_check_5 : decode cX23_check 5 = .ok (.aload_n 1, 1) := dk_43 (dk_at dksX23_check_0 5 rfl rfl)
theorem dX23_check_6 : decode cX23_check 6 = .ok (.getfield 15, 3) := dk_180 0 15 (dk_at dksX23_check_0 6 rfl rfl)
theorem dX23_check_9 : decode cX23_check 9 = .ok (.invokevirtual 21, 3) := dk_182 0 21 (dk_at dksX23_check_0 9 rfl rfl)
theorem dX23_check_12 : decode cX23_check 12 = .ok (.iconst 1, 1) := dk_4 (dk_at dksX23_check_0 12 rfl rfl)
theorem dX23_check_13 : decode cX23_check 13 = .ok (.isub, 1) := dk_100 (dk_at dksX23_check_0 13 rfl rfl)
theorem dX23_check_14 : decode cX23_check 14 = .ok (.invokestatic 27, 3) := dk_184 0 27 (dk_at dksX23_check_0 14 rfl rfl)
theorem dX23_check_17 : decode cX23_check 17 = .ok (.ifCond .eq 7, 3) := dk_153 0 7 (dk_at dksX23_check_0 17 rfl rfl)
theorem dX23_check_20 : decode cX23_check 20 = .ok (.iconst 0, 1) := dk_3 (dk_at dksX23_check_0 20 rfl rfl)
theorem dX23_check_21 : decode cX23_check 21 = .ok (.goto 4, 3) := dk_167 0 4 (dk_at dksX23_check_0 21 rfl rfl)
theorem dX23_check_24 : decode cX23_check 24 = .ok (.iconst (-1), 1) := dk_2 (dk_at dksX23_check_1 0 rfl rfl)
theorem dX23_check_25 : decode cX23_check 25 = .ok (.ireturn, 1) := dk_172 (dk_at dksX23_check_1 1 rfl rfl)
abbrev cX23_carryOut : ByteArray := prog_24_method_3_code
def yX23_carryOut : MethodName := ⟨RX23, "carryOut", "(LCribBooklet$Sheet;)I"⟩
def dkwX23_carryOut_0 : List UInt8 := [43, 180, 0, 15, 42, 180, 0, 9, 182, 0, 31, 87, 43, 180, 0, 15, 182, 0, 21, 172]
abbrev dktX23_carryOut_0 : List UInt8 := dkwX23_carryOut_0 ++ []
theorem dksX23_carryOut_0 : cX23_carryOut.data.toList.drop 0 = dktX23_carryOut_0 := by decide +kernel
theorem dX23_carryOut_0 : decode cX23_carryOut 0 = .ok (.aload_n 1, 1) := dk_43 (dk_at dksX23_carryOut_0 0 rfl rfl)
theorem dX23_carryOut_1 : decode cX23_carryOut 1 = .ok (.getfield 15, 3) := dk_180 0 15 (dk_at dksX23_carryOut_0 1 rfl rfl)
theorem dX23_carryOut_4 : decode cX23_carryOut 4 = .ok (.aload_n 0, 1) := dk_42 (dk_at dksX23_carryOut_0 4 rfl rfl)
theorem dX23_carryOut_5 : decode cX23_carryOut 5 = .ok (.getfield 9, 3) := dk_180 0 9 (dk_at dksX23_carryOut_0 5 rfl rfl)
theorem dX23_carryOut_8 : decode cX23_carryOut 8 = .ok (.invokevirtual 31, 3) := dk_182 0 31 (dk_at dksX23_carryOut_0 8 rfl rfl)
theorem dX23_carryOut_11 : decode cX23_carryOut 11 = .ok (.pop, 1) := dk_87 (dk_at dksX23_carryOut_0 11 rfl rfl)
theorem dX23_carryOut_12 : decode cX23_carryOut 12 = .ok (.aload_n 1, 1) := dk_43 (dk_at dksX23_carryOut_0 12 rfl rfl)
theorem dX23_carryOut_13 : decode cX23_carryOut 13 = .ok (.getfield 15, 3) := dk_180 0 15 (dk_at dksX23_carryOut_0 13 rfl rfl)
theorem dX23_carryOut_16 : decode cX23_carryOut 16 = .ok (.invokevirtual 21, 3) := dk_182 0 21 (dk_at dksX23_carryOut_0 16 rfl rfl)
theorem dX23_carryOut_19 : decode cX23_carryOut 19 = .ok (.ireturn, 1) := dk_172 (dk_at dksX23_carryOut_0 19 rfl rfl)
abbrev cX23_init : ByteArray := prog_24_method_1_code
def yX23_init : MethodName := ⟨RX23, "<init>", "(I)V"⟩
def dkwX23_init_0 : List UInt8 := [42, 183, 0, 3, 42, 27, 181, 0, 9, 177]
abbrev dktX23_init_0 : List UInt8 := dkwX23_init_0 ++ []
theorem dksX23_init_0 : cX23_init.data.toList.drop 0 = dktX23_init_0 := by decide +kernel
theorem dX23_init_0 : decode cX23_init 0 = .ok (.aload_n 0, 1) := dk_42 (dk_at dksX23_init_0 0 rfl rfl)
theorem dX23_init_1 : decode cX23_init 1 = .ok (.invokespecial 3, 3) := dk_183 0 3 (dk_at dksX23_init_0 1 rfl rfl)
theorem dX23_init_4 : decode cX23_init 4 = .ok (.aload_n 0, 1) := dk_42 (dk_at dksX23_init_0 4 rfl rfl)
theorem dX23_init_5 : decode cX23_init 5 = .ok (.iload_n 1, 1) := dk_27 (dk_at dksX23_init_0 5 rfl rfl)
theorem dX23_init_6 : decode cX23_init 6 = .ok (.putfield 9, 3) := dk_181 0 9 (dk_at dksX23_init_0 6 rfl rfl)
theorem dX23_init_9 : decode cX23_init 9 = .ok (.return_, 1) := dk_177 (dk_at dksX23_init_0 9 rfl rfl)
theorem q136 : (Jvm.Cond.initialized "CribBooklet$RemoveNote") ∈ lw_all := lw_g (lw_at lw_m1 50 rfl) rfl
theorem q266 : (Jvm.Cond.fieldLinkNest "CribBooklet$RemoveNote" (15 : Nat) "CribBooklet$Sheet" "notes" "Ljava/util/ArrayList;" "CribBooklet") ∈ lw_tbl := lw_at lw_m1 180 rfl
theorem q586 : (Jvm.Cond.castable "CribBooklet$RemoveNote" "CribBooklet$Command") ∈ lw_tbl := lw_at lw_m3 20 rfl
theorem q587 : (Jvm.Cond.selects "CribBooklet$RemoveNote" ({ cls := "CribBooklet$Command", name := "check", desc := "(LCribBooklet$Sheet;)I" } : Jvm.MethodName) ({ cls := "CribBooklet$RemoveNote", name := "check", desc := "(LCribBooklet$Sheet;)I" } : Jvm.MethodName)) ∈ lw_all := lw_g (lw_at lw_m3 21 rfl) rfl
theorem q588 : (Jvm.Cond.unhidden "CribBooklet$RemoveNote" "check" "(LCribBooklet$Sheet;)I") ∈ lw_tbl := lw_at lw_m3 22 rfl
theorem q589 : (Jvm.Cond.instanceMethod ({ cls := "CribBooklet$RemoveNote", name := "check", desc := "(LCribBooklet$Sheet;)I" } : Jvm.MethodName)) ∈ lw_all := lw_g (lw_at lw_m3 23 rfl) rfl
theorem q590 : (Jvm.Cond.publicMethod ({ cls := "CribBooklet$RemoveNote", name := "check", desc := "(LCribBooklet$Sheet;)I" } : Jvm.MethodName)) ∈ lw_tbl := lw_at lw_m3 24 rfl
theorem q591 : (Jvm.Cond.code ({ cls := "CribBooklet$RemoveNote", name := "check", desc := "(LCribBooklet$Sheet;)I" } : Jvm.MethodName) prog_24_method_2_code (2 : Nat) (Option.some Jvm.ClassFile.FieldType.int)) ∈ lw_all := lw_g (lw_at lw_m3 25 rfl) rfl
theorem q592 : (Jvm.Cond.methodLink "CribBooklet$RemoveNote" (21 : Nat) ({ cls := "java/util/ArrayList", name := "size", desc := "()I" } : Jvm.MethodName)) ∈ lw_all := lw_g (lw_at lw_m3 26 rfl) rfl
theorem q593 : (Jvm.Cond.methodLinkNest "CribBooklet$RemoveNote" (27 : Nat) ({ cls := "CribBooklet", name := "isIn", desc := "(III)Z" } : Jvm.MethodName) "CribBooklet") ∈ lw_tbl := lw_at lw_m3 27 rfl
theorem q719 : (Jvm.Cond.selects "CribBooklet$RemoveNote" ({ cls := "java/lang/Object", name := "getClass", desc := "()Ljava/lang/Class;" } : Jvm.MethodName) ({ cls := "java/lang/Object", name := "getClass", desc := "()Ljava/lang/Class;" } : Jvm.MethodName)) ∈ lw_all := lw_g (lw_at lw_m3 153 rfl) rfl
theorem q1303 : (Jvm.Cond.selects "CribBooklet$RemoveNote" ({ cls := "CribBooklet$Command", name := "carryOut", desc := "(LCribBooklet$Sheet;)I" } : Jvm.MethodName) ({ cls := "CribBooklet$RemoveNote", name := "carryOut", desc := "(LCribBooklet$Sheet;)I" } : Jvm.MethodName)) ∈ lw_all := lw_g (lw_at lw_m6 17 rfl) rfl
theorem q1304 : (Jvm.Cond.unhidden "CribBooklet$RemoveNote" "carryOut" "(LCribBooklet$Sheet;)I") ∈ lw_tbl := lw_at lw_m6 18 rfl
theorem q1305 : (Jvm.Cond.instanceMethod ({ cls := "CribBooklet$RemoveNote", name := "carryOut", desc := "(LCribBooklet$Sheet;)I" } : Jvm.MethodName)) ∈ lw_all := lw_g (lw_at lw_m6 19 rfl) rfl
theorem q1306 : (Jvm.Cond.publicMethod ({ cls := "CribBooklet$RemoveNote", name := "carryOut", desc := "(LCribBooklet$Sheet;)I" } : Jvm.MethodName)) ∈ lw_tbl := lw_at lw_m6 20 rfl
theorem q1307 : (Jvm.Cond.code ({ cls := "CribBooklet$RemoveNote", name := "carryOut", desc := "(LCribBooklet$Sheet;)I" } : Jvm.MethodName) prog_24_method_3_code (2 : Nat) (Option.some Jvm.ClassFile.FieldType.int)) ∈ lw_all := lw_g (lw_at lw_m6 21 rfl) rfl
theorem q1308 : (Jvm.Cond.methodLink "CribBooklet$RemoveNote" (31 : Nat) ({ cls := "java/util/ArrayList", name := "remove", desc := "(I)Ljava/lang/Object;" } : Jvm.MethodName)) ∈ lw_all := lw_g (lw_at lw_m6 22 rfl) rfl
theorem q1558 : (Jvm.Cond.instantiable "CribBooklet$RemoveNote" (1 : Nat)) ∈ lw_all := lw_g (lw_at lw_m7 32 rfl) rfl
theorem q1560 : (Jvm.Cond.instanceMethod ({ cls := "CribBooklet$RemoveNote", name := "<init>", desc := "(I)V" } : Jvm.MethodName)) ∈ lw_all := lw_g (lw_at lw_m7 34 rfl) rfl
theorem q1561 : (Jvm.Cond.code ({ cls := "CribBooklet$RemoveNote", name := "<init>", desc := "(I)V" } : Jvm.MethodName) prog_24_method_1_code (2 : Nat) (Option.none : Option Jvm.ClassFile.FieldType)) ∈ lw_all := lw_g (lw_at lw_m7 35 rfl) rfl
theorem q1562 : (Jvm.Cond.methodLink "CribBooklet$RemoveNote" (3 : Nat) ({ cls := "java/lang/Record", name := "<init>", desc := "()V" } : Jvm.MethodName)) ∈ lw_all := lw_g (lw_at lw_m7 36 rfl) rfl
theorem q1563 : (Jvm.Cond.fieldLink "CribBooklet$RemoveNote" (9 : Nat) "CribBooklet$RemoveNote" "note" "I") ∈ lw_all := lw_g (lw_at lw_m7 37 rfl) rfl
theorem q1564 : (Jvm.Cond.laysFinal "CribBooklet$RemoveNote" "CribBooklet$RemoveNote" "note" "I") ∈ lw_all := lw_g (lw_at lw_m7 38 rfl) rfl
theorem q1565 : (Jvm.Cond.soleField "CribBooklet$RemoveNote" "note") ∈ lw_all := lw_g (lw_at lw_m7 39 rfl) rfl
theorem q1566 : (Jvm.Cond.superclass "CribBooklet$RemoveNote" "java/lang/Record") ∈ lw_all := lw_g (lw_at lw_m7 40 rfl) rfl
theorem q3352 : (Jvm.Cond.castable "CribBooklet$RemoveNote" "java/lang/Object") ∈ lw_tbl := lw_at lw_m14 146 rfl
theorem in_X23 : ∀ w ∈ wsX230, w ∈ lw_all := lw_in wsX230 [1564] (by decide +kernel) (by decide +kernel)

end
section
/-! CribBooklet$Lines -/
set_option maxRecDepth 100000
def RX24 : String := "CribBooklet$Lines"
def TX24 : u_T := fun k => match k with
  | _ => ("CribBooklet$Lines", "lines", "I", true)
def tyX24 : Nat → FieldType := fun k => match k with
  | _ => .int
abbrev wsX240 : List Cond := u_ws RX24 TX24 1
theorem nmX24 : ∀ a, a < 1 → ∀ b, b < 1 → a ≠ b → (TX24 a).2.1 ≠ (TX24 b).2.1 := by decide +kernel
theorem tyX24_ok : ∀ k, k < 1 → parseFieldDescriptor (TX24 k).2.2.1 = some (tyX24 k) := by decide +kernel
abbrev cX24_check : ByteArray := prog_17_method_2_code
def yX24_check : MethodName := ⟨RX24, "check", "(LCribBooklet$Sheet;)I"⟩
def dkwX24_check_0 : List UInt8 := [42, 180, 0, 9, 4, 16, 9, 184, 0, 15, 153, 0, 7, 3, 167, 0, 4, 2, 172]
abbrev dktX24_check_0 : List UInt8 := dkwX24_check_0 ++ []
theorem dksX24_check_0 : cX24_check.data.toList.drop 0 = dktX24_check_0 := by decide +kernel
theorem dX24_check_0 : decode cX24_check 0 = .ok (.aload_n 0, 1) := dk_42 (dk_at dksX24_check_0 0 rfl rfl)
theorem dX24_check_1 : decode cX24_check 1 = .ok (.getfield 9, 3) := dk_180 0 9 (dk_at dksX24_check_0 1 rfl rfl)
theorem dX24_check_4 : decode cX24_check 4 = .ok (.iconst 1, 1) := dk_4 (dk_at dksX24_check_0 4 rfl rfl)
theorem dX24_check_5 : decode cX24_check 5 = .ok (.bipush 9, 2) := dk_16 9 (dk_at dksX24_check_0 5 rfl rfl)
theorem dX24_check_7 : decode cX24_check 7 = .ok (.invokestatic 15, 3) := dk_184 0 15 (dk_at dksX24_check_0 7 rfl rfl)
theorem dX24_check_10 : decode cX24_check 10 = .ok (.ifCond .eq 7, 3) := dk_153 0 7 (dk_at dksX24_check_0 10 rfl rfl)
theorem dX24_check_13 : decode cX24_check 13 = .ok (.iconst 0, 1) := dk_3 (dk_at dksX24_check_0 13 rfl rfl)
theorem dX24_check_14 : decode cX24_check 14 = .ok (.goto 4, 3) := dk_167 0 4 (dk_at dksX24_check_0 14 rfl rfl)
theorem dX24_check_17 : decode cX24_check 17 = .ok (.iconst (-1), 1) := dk_2 (dk_at dksX24_check_0 17 rfl rfl)
theorem dX24_check_18 : decode cX24_check 18 = .ok (.ireturn, 1) := dk_172 (dk_at dksX24_check_0 18 rfl rfl)
abbrev cX24_carryOut : ByteArray := prog_17_method_3_code
def yX24_carryOut : MethodName := ⟨RX24, "carryOut", "(LCribBooklet$Sheet;)I"⟩
def dkwX24_carryOut_0 : List UInt8 := [43, 180, 0, 19, 61, 43, 42, 180, 0, 9, 181, 0, 19, 28, 172]
abbrev dktX24_carryOut_0 : List UInt8 := dkwX24_carryOut_0 ++ []
theorem dksX24_carryOut_0 : cX24_carryOut.data.toList.drop 0 = dktX24_carryOut_0 := by decide +kernel
theorem dX24_carryOut_0 : decode cX24_carryOut 0 = .ok (.aload_n 1, 1) := dk_43 (dk_at dksX24_carryOut_0 0 rfl rfl)
theorem dX24_carryOut_1 : decode cX24_carryOut 1 = .ok (.getfield 19, 3) := dk_180 0 19 (dk_at dksX24_carryOut_0 1 rfl rfl)
theorem dX24_carryOut_4 : decode cX24_carryOut 4 = .ok (.istore_n 2, 1) := dk_61 (dk_at dksX24_carryOut_0 4 rfl rfl)
theorem dX24_carryOut_5 : decode cX24_carryOut 5 = .ok (.aload_n 1, 1) := dk_43 (dk_at dksX24_carryOut_0 5 rfl rfl)
theorem dX24_carryOut_6 : decode cX24_carryOut 6 = .ok (.aload_n 0, 1) := dk_42 (dk_at dksX24_carryOut_0 6 rfl rfl)
theorem dX24_carryOut_7 : decode cX24_carryOut 7 = .ok (.getfield 9, 3) := dk_180 0 9 (dk_at dksX24_carryOut_0 7 rfl rfl)
theorem dX24_carryOut_10 : decode cX24_carryOut 10 = .ok (.putfield 19, 3) := dk_181 0 19 (dk_at dksX24_carryOut_0 10 rfl rfl)
theorem dX24_carryOut_13 : decode cX24_carryOut 13 = .ok (.iload_n 2, 1) := dk_28 (dk_at dksX24_carryOut_0 13 rfl rfl)
theorem dX24_carryOut_14 : decode cX24_carryOut 14 = .ok (.ireturn, 1) := dk_172 (dk_at dksX24_carryOut_0 14 rfl rfl)
abbrev cX24_init : ByteArray := prog_17_method_1_code
def yX24_init : MethodName := ⟨RX24, "<init>", "(I)V"⟩
def dkwX24_init_0 : List UInt8 := [42, 183, 0, 3, 42, 27, 181, 0, 9, 177]
abbrev dktX24_init_0 : List UInt8 := dkwX24_init_0 ++ []
theorem dksX24_init_0 : cX24_init.data.toList.drop 0 = dktX24_init_0 := by decide +kernel
theorem dX24_init_0 : decode cX24_init 0 = .ok (.aload_n 0, 1) := dk_42 (dk_at dksX24_init_0 0 rfl rfl)
theorem dX24_init_1 : decode cX24_init 1 = .ok (.invokespecial 3, 3) := dk_183 0 3 (dk_at dksX24_init_0 1 rfl rfl)
theorem dX24_init_4 : decode cX24_init 4 = .ok (.aload_n 0, 1) := dk_42 (dk_at dksX24_init_0 4 rfl rfl)
theorem dX24_init_5 : decode cX24_init 5 = .ok (.iload_n 1, 1) := dk_27 (dk_at dksX24_init_0 5 rfl rfl)
theorem dX24_init_6 : decode cX24_init 6 = .ok (.putfield 9, 3) := dk_181 0 9 (dk_at dksX24_init_0 6 rfl rfl)
theorem dX24_init_9 : decode cX24_init 9 = .ok (.return_, 1) := dk_177 (dk_at dksX24_init_0 9 rfl rfl)
theorem q137 : (Jvm.Cond.initialized "CribBooklet$Lines") ∈ lw_all := lw_g (lw_at lw_m1 51 rfl) rfl
theorem q256 : (Jvm.Cond.fieldLinkNest "CribBooklet$Lines" (19 : Nat) "CribBooklet$Sheet" "lines" "I" "CribBooklet") ∈ lw_tbl := lw_at lw_m1 170 rfl
theorem q545 : (Jvm.Cond.castable "CribBooklet$Lines" "CribBooklet$Command") ∈ lw_tbl := lw_at lw_m2 219 rfl
theorem q546 : (Jvm.Cond.selects "CribBooklet$Lines" ({ cls := "CribBooklet$Command", name := "check", desc := "(LCribBooklet$Sheet;)I" } : Jvm.MethodName) ({ cls := "CribBooklet$Lines", name := "check", desc := "(LCribBooklet$Sheet;)I" } : Jvm.MethodName)) ∈ lw_all := lw_g (lw_at lw_m2 220 rfl) rfl
theorem q547 : (Jvm.Cond.unhidden "CribBooklet$Lines" "check" "(LCribBooklet$Sheet;)I") ∈ lw_tbl := lw_at lw_m2 221 rfl
theorem q548 : (Jvm.Cond.instanceMethod ({ cls := "CribBooklet$Lines", name := "check", desc := "(LCribBooklet$Sheet;)I" } : Jvm.MethodName)) ∈ lw_all := lw_g (lw_at lw_m2 222 rfl) rfl
theorem q549 : (Jvm.Cond.publicMethod ({ cls := "CribBooklet$Lines", name := "check", desc := "(LCribBooklet$Sheet;)I" } : Jvm.MethodName)) ∈ lw_tbl := lw_at lw_m2 223 rfl
theorem q550 : (Jvm.Cond.code ({ cls := "CribBooklet$Lines", name := "check", desc := "(LCribBooklet$Sheet;)I" } : Jvm.MethodName) prog_17_method_2_code (2 : Nat) (Option.some Jvm.ClassFile.FieldType.int)) ∈ lw_all := lw_g (lw_at lw_m2 224 rfl) rfl
theorem q551 : (Jvm.Cond.methodLinkNest "CribBooklet$Lines" (15 : Nat) ({ cls := "CribBooklet", name := "isIn", desc := "(III)Z" } : Jvm.MethodName) "CribBooklet") ∈ lw_tbl := lw_at lw_m2 225 rfl
theorem q712 : (Jvm.Cond.selects "CribBooklet$Lines" ({ cls := "java/lang/Object", name := "getClass", desc := "()Ljava/lang/Class;" } : Jvm.MethodName) ({ cls := "java/lang/Object", name := "getClass", desc := "()Ljava/lang/Class;" } : Jvm.MethodName)) ∈ lw_all := lw_g (lw_at lw_m3 146 rfl) rfl
theorem q1240 : (Jvm.Cond.selects "CribBooklet$Lines" ({ cls := "CribBooklet$Command", name := "carryOut", desc := "(LCribBooklet$Sheet;)I" } : Jvm.MethodName) ({ cls := "CribBooklet$Lines", name := "carryOut", desc := "(LCribBooklet$Sheet;)I" } : Jvm.MethodName)) ∈ lw_all := lw_g (lw_at lw_m5 194 rfl) rfl
theorem q1241 : (Jvm.Cond.unhidden "CribBooklet$Lines" "carryOut" "(LCribBooklet$Sheet;)I") ∈ lw_tbl := lw_at lw_m5 195 rfl
theorem q1242 : (Jvm.Cond.instanceMethod ({ cls := "CribBooklet$Lines", name := "carryOut", desc := "(LCribBooklet$Sheet;)I" } : Jvm.MethodName)) ∈ lw_all := lw_g (lw_at lw_m5 196 rfl) rfl
theorem q1243 : (Jvm.Cond.publicMethod ({ cls := "CribBooklet$Lines", name := "carryOut", desc := "(LCribBooklet$Sheet;)I" } : Jvm.MethodName)) ∈ lw_tbl := lw_at lw_m5 197 rfl
theorem q1244 : (Jvm.Cond.code ({ cls := "CribBooklet$Lines", name := "carryOut", desc := "(LCribBooklet$Sheet;)I" } : Jvm.MethodName) prog_17_method_3_code (3 : Nat) (Option.some Jvm.ClassFile.FieldType.int)) ∈ lw_all := lw_g (lw_at lw_m5 198 rfl) rfl
theorem q1572 : (Jvm.Cond.instantiable "CribBooklet$Lines" (1 : Nat)) ∈ lw_all := lw_g (lw_at lw_m7 46 rfl) rfl
theorem q1574 : (Jvm.Cond.instanceMethod ({ cls := "CribBooklet$Lines", name := "<init>", desc := "(I)V" } : Jvm.MethodName)) ∈ lw_all := lw_g (lw_at lw_m7 48 rfl) rfl
theorem q1575 : (Jvm.Cond.code ({ cls := "CribBooklet$Lines", name := "<init>", desc := "(I)V" } : Jvm.MethodName) prog_17_method_1_code (2 : Nat) (Option.none : Option Jvm.ClassFile.FieldType)) ∈ lw_all := lw_g (lw_at lw_m7 49 rfl) rfl
theorem q1576 : (Jvm.Cond.methodLink "CribBooklet$Lines" (3 : Nat) ({ cls := "java/lang/Record", name := "<init>", desc := "()V" } : Jvm.MethodName)) ∈ lw_all := lw_g (lw_at lw_m7 50 rfl) rfl
theorem q1577 : (Jvm.Cond.fieldLink "CribBooklet$Lines" (9 : Nat) "CribBooklet$Lines" "lines" "I") ∈ lw_all := lw_g (lw_at lw_m7 51 rfl) rfl
theorem q1578 : (Jvm.Cond.laysFinal "CribBooklet$Lines" "CribBooklet$Lines" "lines" "I") ∈ lw_all := lw_g (lw_at lw_m7 52 rfl) rfl
theorem q1579 : (Jvm.Cond.soleField "CribBooklet$Lines" "lines") ∈ lw_all := lw_g (lw_at lw_m7 53 rfl) rfl
theorem q1580 : (Jvm.Cond.superclass "CribBooklet$Lines" "java/lang/Record") ∈ lw_all := lw_g (lw_at lw_m7 54 rfl) rfl
theorem q3353 : (Jvm.Cond.castable "CribBooklet$Lines" "java/lang/Object") ∈ lw_tbl := lw_at lw_m14 147 rfl
theorem in_X24 : ∀ w ∈ wsX240, w ∈ lw_all := lw_in wsX240 [1578] (by decide +kernel) (by decide +kernel)

end
section
/-! CribBooklet$Reader -/
set_option maxRecDepth 100000
def RX25 : String := "CribBooklet$Reader"
def TX25 : u_T := fun k => match k with
  | 0 => ("CribBooklet$Reader", "text", "Ljava/lang/StringBuilder;", true)
  | 1 => ("CribBooklet$Reader", "sheet", "LCribBooklet$Sheet;", true)
  | 2 => ("CribBooklet$Reader", "begun", "I", false)
  | 3 => ("CribBooklet$Reader", "ended", "I", false)
  | _ => ("CribBooklet$Reader", "commands", "Ljava/util/ArrayList;", true)
def tyX25 : Nat → FieldType := fun k => match k with
  | 0 => .object "java/lang/StringBuilder"
  | 1 => .object "CribBooklet$Sheet"
  | 2 => .int
  | 3 => .int
  | _ => .object "java/util/ArrayList"
abbrev wsX250 : List Cond := u_ws RX25 TX25 5
theorem nmX25 : ∀ a, a < 5 → ∀ b, b < 5 → a ≠ b → (TX25 a).2.1 ≠ (TX25 b).2.1 := by decide +kernel
theorem tyX25_ok : ∀ k, k < 5 → parseFieldDescriptor (TX25 k).2.2.1 = some (tyX25 k) := by decide +kernel
abbrev cX25_init : ByteArray := prog_23_method_1_code
def yX25_init : MethodName := ⟨RX25, "<init>", "(Ljava/lang/StringBuilder;LCribBooklet$Sheet;)V"⟩
def dkwX25_init_1 : List UInt8 := [181, 0, 22, 177]
abbrev dktX25_init_1 : List UInt8 := dkwX25_init_1 ++ []
def dkwX25_init_0 : List UInt8 := [42, 183, 0, 3, 42, 187, 0, 9, 89, 183, 0, 11, 181, 0, 12, 42, 43, 181, 0, 18, 42, 44]
abbrev dktX25_init_0 : List UInt8 := dkwX25_init_0 ++ dktX25_init_1
theorem dksX25_init_0 : cX25_init.data.toList.drop 0 = dktX25_init_0 := by decide +kernel
theorem dksX25_init_1 : cX25_init.data.toList.drop 22 = dktX25_init_1 := dk_seg dksX25_init_0 22 rfl rfl
theorem dX25_init_0 : decode cX25_init 0 = .ok (.aload_n 0, 1) := dk_42 (dk_at dksX25_init_0 0 rfl rfl)
theorem dX25_init_1 : decode cX25_init 1 = .ok (.invokespecial 3, 3) := dk_183 0 3 (dk_at dksX25_init_0 1 rfl rfl)
theorem dX25_init_4 : decode cX25_init 4 = .ok (.aload_n 0, 1) := dk_42 (dk_at dksX25_init_0 4 rfl rfl)
theorem dX25_init_5 : decode cX25_init 5 = .ok (.new 9, 3) := dk_187 0 9 (dk_at dksX25_init_0 5 rfl rfl)
theorem dX25_init_8 : decode cX25_init 8 = .ok (.dup, 1) := dk_89 (dk_at dksX25_init_0 8 rfl rfl)
theorem dX25_init_9 : decode cX25_init 9 = .ok (.invokespecial 11, 3) := dk_183 0 11 (dk_at dksX25_init_0 9 rfl rfl)
theorem dX25_init_12 : decode cX25_init 12 = .ok (.putfield 12, 3) := dk_181 0 12 (dk_at dksX25_init_0 12 rfl rfl)
theorem dX25_init_15 : decode cX25_init 15 = .ok (.aload_n 0, 1) := dk_42 (dk_at dksX25_init_0 15 rfl rfl)
theorem dX25_init_16 : decode cX25_init 16 = .ok (.aload_n 1, 1) := dk_43 (dk_at dksX25_init_0 16 rfl rfl)
theorem dX25_init_17 : decode cX25_init 17 = .ok (.putfield 18, 3) := dk_181 0 18 (dk_at dksX25_init_0 17 rfl rfl)
theorem dX25_init_20 : decode cX25_init 20 = .ok (.aload_n 0, 1) := dk_42 (dk_at dksX25_init_0 20 rfl rfl)
theorem dX25_init_21 : decode cX25_init 21 = .ok (.aload_n 2, 1) := dk_44 (dk_at dksX25_init_0 21 rfl rfl)
theorem dX25_init_22 : decode cX25_init 22 = .ok (.putfield 22, 3) := dk_181 0 22 (dk_at dksX25_init_1 0 rfl rfl)
theorem dX25_init_25 : decode cX25_init 25 = .ok (.return_, 1) := dk_177 (dk_at dksX25_init_1 3 rfl rfl)
abbrev cX25_runAll : ByteArray := prog_23_method_16_code
def yX25_runAll : MethodName := ⟨RX25, "runAll", "()I"⟩
def dkwX25_runAll_1 : List UInt8 := [132, 1, 1, 167, 255, 235, 27, 172]
abbrev dktX25_runAll_1 : List UInt8 := dkwX25_runAll_1 ++ []
def dkwX25_runAll_0 : List UInt8 := [3, 60, 42, 182, 0, 71, 42, 180, 0, 44, 42, 180, 0, 18, 182, 0, 26, 162, 0, 13, 42, 182, 0, 192]
abbrev dktX25_runAll_0 : List UInt8 := dkwX25_runAll_0 ++ dktX25_runAll_1
theorem dksX25_runAll_0 : cX25_runAll.data.toList.drop 0 = dktX25_runAll_0 := by decide +kernel
theorem dksX25_runAll_1 : cX25_runAll.data.toList.drop 24 = dktX25_runAll_1 := dk_seg dksX25_runAll_0 24 rfl rfl
theorem dX25_runAll_0 : decode cX25_runAll 0 = .ok (.iconst 0, 1) := dk_3 (dk_at dksX25_runAll_0 0 rfl rfl)
theorem dX25_runAll_1 : decode cX25_runAll 1 = .ok (.istore_n 1, 1) := dk_60 (dk_at dksX25_runAll_0 1 rfl rfl)
theorem dX25_runAll_2 : decode cX25_runAll 2 = .ok (.aload_n 0, 1) := dk_42 (dk_at dksX25_runAll_0 2 rfl rfl)
theorem dX25_runAll_3 : decode cX25_runAll 3 = .ok (.invokevirtual 71, 3) := dk_182 0 71 (dk_at dksX25_runAll_0 3 rfl rfl)
theorem dX25_runAll_6 : decode cX25_runAll 6 = .ok (.aload_n 0, 1) := dk_42 (dk_at dksX25_runAll_0 6 rfl rfl)
theorem dX25_runAll_7 : decode cX25_runAll 7 = .ok (.getfield 44, 3) := dk_180 0 44 (dk_at dksX25_runAll_0 7 rfl rfl)
theorem dX25_runAll_10 : decode cX25_runAll 10 = .ok (.aload_n 0, 1) := dk_42 (dk_at dksX25_runAll_0 10 rfl rfl)
theorem dX25_runAll_11 : decode cX25_runAll 11 = .ok (.getfield 18, 3) := dk_180 0 18 (dk_at dksX25_runAll_0 11 rfl rfl)
theorem dX25_runAll_14 : decode cX25_runAll 14 = .ok (.invokevirtual 26, 3) := dk_182 0 26 (dk_at dksX25_runAll_0 14 rfl rfl)
theorem dX25_runAll_17 : decode cX25_runAll 17 = .ok (.if_icmp .ge 13, 3) := dk_162 0 13 (dk_at dksX25_runAll_0 17 rfl rfl)
theorem dX25_runAll_20 : decode cX25_runAll 20 = .ok (.aload_n 0, 1) := dk_42 (dk_at dksX25_runAll_0 20 rfl rfl)
theorem dX25_runAll_21 : decode cX25_runAll 21 = .ok (.invokevirtual 192, 3) := dk_182 0 192 (dk_at dksX25_runAll_0 21 rfl rfl)
theorem dX25_runAll_24 : decode cX25_runAll 24 = .ok (.iinc 1 1, 3) := dk_132 1 1 (dk_at dksX25_runAll_1 0 rfl rfl)
theorem dX25_runAll_27 : decode cX25_runAll 27 = .ok (.goto (-21), 3) := dk_167 255 235 (dk_at dksX25_runAll_1 3 rfl rfl)
theorem dX25_runAll_30 : decode cX25_runAll 30 = .ok (.iload_n 1, 1) := dk_27 (dk_at dksX25_runAll_1 6 rfl rfl)
theorem dX25_runAll_31 : decode cX25_runAll 31 = .ok (.ireturn, 1) := dk_172 (dk_at dksX25_runAll_1 7 rfl rfl)
abbrev cX25_advance : ByteArray := prog_23_method_5_code
def yX25_advance : MethodName := ⟨RX25, "advance", "()V"⟩
def dkwX25_advance_5 : List UInt8 := [153, 0, 16, 42, 89, 180, 0, 40, 4, 96, 181, 0, 40, 167, 255, 190, 177]
abbrev dktX25_advance_5 : List UInt8 := dkwX25_advance_5 ++ []
def dkwX25_advance_4 : List UInt8 := [180, 0, 44, 182, 0, 47, 184, 0, 55, 153, 0, 30, 42, 42, 180, 0, 40, 182, 0, 47, 184, 0, 55]
abbrev dktX25_advance_4 : List UInt8 := dkwX25_advance_4 ++ dktX25_advance_5
def dkwX25_advance_3 : List UInt8 := [184, 0, 51, 153, 0, 17, 42, 42, 180, 0, 40, 182, 0, 47, 184, 0, 51, 154, 0, 31, 42, 42]
abbrev dktX25_advance_3 : List UInt8 := dkwX25_advance_3 ++ dktX25_advance_4
def dkwX25_advance_2 : List UInt8 := [182, 0, 26, 162, 0, 7, 4, 167, 0, 4, 3, 96, 181, 0, 40, 42, 42, 180, 0, 44, 182, 0, 47]
abbrev dktX25_advance_2 : List UInt8 := dkwX25_advance_2 ++ dktX25_advance_3
def dkwX25_advance_1 : List UInt8 := [180, 0, 44, 4, 96, 181, 0, 44, 167, 255, 233, 42, 42, 180, 0, 44, 42, 180, 0, 44, 42, 180, 0, 18]
abbrev dktX25_advance_1 : List UInt8 := dkwX25_advance_1 ++ dktX25_advance_2
def dkwX25_advance_0 : List UInt8 := [42, 42, 180, 0, 40, 181, 0, 44, 42, 42, 180, 0, 44, 182, 0, 47, 16, 32, 160, 0, 16, 42, 89]
abbrev dktX25_advance_0 : List UInt8 := dkwX25_advance_0 ++ dktX25_advance_1
theorem dksX25_advance_0 : cX25_advance.data.toList.drop 0 = dktX25_advance_0 := by decide +kernel
theorem dksX25_advance_1 : cX25_advance.data.toList.drop 23 = dktX25_advance_1 := dk_seg dksX25_advance_0 23 rfl rfl
theorem dksX25_advance_2 : cX25_advance.data.toList.drop 47 = dktX25_advance_2 := dk_seg dksX25_advance_1 24 rfl rfl
theorem dksX25_advance_3 : cX25_advance.data.toList.drop 70 = dktX25_advance_3 := dk_seg dksX25_advance_2 23 rfl rfl
theorem dksX25_advance_4 : cX25_advance.data.toList.drop 92 = dktX25_advance_4 := dk_seg dksX25_advance_3 22 rfl rfl
theorem dksX25_advance_5 : cX25_advance.data.toList.drop 115 = dktX25_advance_5 := dk_seg dksX25_advance_4 23 rfl rfl
theorem dX25_advance_0 : decode cX25_advance 0 = .ok (.aload_n 0, 1) := dk_42 (dk_at dksX25_advance_0 0 rfl rfl)
theorem dX25_advance_1 : decode cX25_advance 1 = .ok (.aload_n 0, 1) := dk_42 (dk_at dksX25_advance_0 1 rfl rfl)
theorem dX25_advance_2 : decode cX25_advance 2 = .ok (.getfield 40, 3) := dk_180 0 40 (dk_at dksX25_advance_0 2 rfl rfl)
theorem dX25_advance_5 : decode cX25_advance 5 = .ok (.putfield 44, 3) := dk_181 0 44 (dk_at dksX25_advance_0 5 rfl rfl)
theorem dX25_advance_8 : decode cX25_advance 8 = .ok (.aload_n 0, 1) := dk_42 (dk_at dksX25_advance_0 8 rfl rfl)
theorem dX25_advance_9 : decode cX25_advance 9 = .ok (.aload_n 0, 1) := dk_42 (dk_at dksX25_advance_0 9 rfl rfl)
theorem dX25_advance_10 : decode cX25_advance 10 = .ok (.getfield 44, 3) := dk_180 0 44 (dk_at dksX25_advance_0 10 rfl rfl)
theorem dX25_advance_13 : decode cX25_advance 13 = .ok (.invokevirtual 47, 3) := dk_182 0 47 (dk_at dksX25_advance_0 13 rfl rfl)
theorem dX25_advance_16 : decode cX25_advance 16 = .ok (.bipush 32, 2) := dk_16 32 (dk_at dksX25_advance_0 16 rfl rfl)
theorem dX25_advance_18 : decode cX25_advance 18 = .ok (.if_icmp .ne 16, 3) := dk_160 0 16 (dk_at dksX25_advance_0 18 rfl rfl)
theorem dX25_advance_21 : decode cX25_advance 21 = .ok (.aload_n 0, 1) := dk_42 (dk_at dksX25_advance_0 21 rfl rfl)
theorem dX25_advance_22 : decode cX25_advance 22 = .ok (.dup, 1) := dk_89 (dk_at dksX25_advance_0 22 rfl rfl)
theorem dX25_advance_23 : decode cX25_advance 23 = .ok (.getfield 44, 3) := dk_180 0 44 (dk_at dksX25_advance_1 0 rfl rfl)
theorem dX25_advance_26 : decode cX25_advance 26 = .ok (.iconst 1, 1) := dk_4 (dk_at dksX25_advance_1 3 rfl rfl)
theorem dX25_advance_27 : decode cX25_advance 27 = .ok (.iadd, 1) := dk_96 (dk_at dksX25_advance_1 4 rfl rfl)
theorem dX25_advance_28 : decode cX25_advance 28 = .ok (.putfield 44, 3) := dk_181 0 44 (dk_at dksX25_advance_1 5 rfl rfl)
theorem dX25_advance_31 : decode cX25_advance 31 = .ok (.goto (-23), 3) := dk_167 255 233 (dk_at dksX25_advance_1 8 rfl rfl)
theorem dX25_advance_34 : decode cX25_advance 34 = .ok (.aload_n 0, 1) := dk_42 (dk_at dksX25_advance_1 11 rfl rfl)
theorem dX25_advance_35 : decode cX25_advance 35 = .ok (.aload_n 0, 1) := dk_42 (dk_at dksX25_advance_1 12 rfl rfl)
theorem dX25_advance_36 : decode cX25_advance 36 = .ok (.getfield 44, 3) := dk_180 0 44 (dk_at dksX25_advance_1 13 rfl rfl)
theorem dX25_advance_39 : decode cX25_advance 39 = .ok (.aload_n 0, 1) := dk_42 (dk_at dksX25_advance_1 16 rfl rfl)
theorem dX25_advance_40 : decode cX25_advance 40 = .ok (.getfield 44, 3) := dk_180 0 44 (dk_at dksX25_advance_1 17 rfl rfl)
theorem dX25_advance_43 : decode cX25_advance 43 = .ok (.aload_n 0, 1) := dk_42 (dk_at dksX25_advance_1 20 rfl rfl)
theorem dX25_advance_44 : decode cX25_advance 44 = .ok (.getfield 18, 3) := dk_180 0 18 (dk_at dksX25_advance_1 21 rfl rfl)
theorem dX25_advance_47 : decode cX25_advance 47 = .ok (.invokevirtual 26, 3) := dk_182 0 26 (dk_at dksX25_advance_2 0 rfl rfl)
theorem dX25_advance_50 : decode cX25_advance 50 = .ok (.if_icmp .ge 7, 3) := dk_162 0 7 (dk_at dksX25_advance_2 3 rfl rfl)
theorem dX25_advance_53 : decode cX25_advance 53 = .ok (.iconst 1, 1) := dk_4 (dk_at dksX25_advance_2 6 rfl rfl)
theorem dX25_advance_54 : decode cX25_advance 54 = .ok (.goto 4, 3) := dk_167 0 4 (dk_at dksX25_advance_2 7 rfl rfl)
theorem dX25_advance_57 : decode cX25_advance 57 = .ok (.iconst 0, 1) := dk_3 (dk_at dksX25_advance_2 10 rfl rfl)
theorem dX25_advance_58 : decode cX25_advance 58 = .ok (.iadd, 1) := dk_96 (dk_at dksX25_advance_2 11 rfl rfl)
theorem dX25_advance_59 : decode cX25_advance 59 = .ok (.putfield 40, 3) := dk_181 0 40 (dk_at dksX25_advance_2 12 rfl rfl)
theorem dX25_advance_62 : decode cX25_advance 62 = .ok (.aload_n 0, 1) := dk_42 (dk_at dksX25_advance_2 15 rfl rfl)
theorem dX25_advance_63 : decode cX25_advance 63 = .ok (.aload_n 0, 1) := dk_42 (dk_at dksX25_advance_2 16 rfl rfl)
theorem dX25_advance_64 : decode cX25_advance 64 = .ok (.getfield 44, 3) := dk_180 0 44 (dk_at dksX25_advance_2 17 rfl rfl)
theorem dX25_advance_67 : decode cX25_advance 67 = .ok (.invokevirtual 47, 3) := dk_182 0 47 (dk_at dksX25_advance_2 20 rfl rfl)
theorem dX25_advance_70 : decode cX25_advance 70 = .ok (.invokestatic 51, 3) := dk_184 0 51 (dk_at dksX25_advance_3 0 rfl rfl)
theorem dX25_advance_73 : decode cX25_advance 73 = .ok (.ifCond .eq 17, 3) := dk_153 0 17 (dk_at dksX25_advance_3 3 rfl rfl)
theorem dX25_advance_76 : decode cX25_advance 76 = .ok (.aload_n 0, 1) := dk_42 (dk_at dksX25_advance_3 6 rfl rfl)
theorem dX25_advance_77 : decode cX25_advance 77 = .ok (.aload_n 0, 1) := dk_42 (dk_at dksX25_advance_3 7 rfl rfl)
theorem dX25_advance_78 : decode cX25_advance 78 = .ok (.getfield 40, 3) := dk_180 0 40 (dk_at dksX25_advance_3 8 rfl rfl)
theorem dX25_advance_81 : decode cX25_advance 81 = .ok (.invokevirtual 47, 3) := dk_182 0 47 (dk_at dksX25_advance_3 11 rfl rfl)
theorem dX25_advance_84 : decode cX25_advance 84 = .ok (.invokestatic 51, 3) := dk_184 0 51 (dk_at dksX25_advance_3 14 rfl rfl)
theorem dX25_advance_87 : decode cX25_advance 87 = .ok (.ifCond .ne 31, 3) := dk_154 0 31 (dk_at dksX25_advance_3 17 rfl rfl)
theorem dX25_advance_90 : decode cX25_advance 90 = .ok (.aload_n 0, 1) := dk_42 (dk_at dksX25_advance_3 20 rfl rfl)
theorem dX25_advance_91 : decode cX25_advance 91 = .ok (.aload_n 0, 1) := dk_42 (dk_at dksX25_advance_3 21 rfl rfl)
theorem dX25_advance_92 : decode cX25_advance 92 = .ok (.getfield 44, 3) := dk_180 0 44 (dk_at dksX25_advance_4 0 rfl rfl)
theorem dX25_advance_95 : decode cX25_advance 95 = .ok (.invokevirtual 47, 3) := dk_182 0 47 (dk_at dksX25_advance_4 3 rfl rfl)
theorem dX25_advance_98 : decode cX25_advance 98 = .ok (.invokestatic 55, 3) := dk_184 0 55 (dk_at dksX25_advance_4 6 rfl rfl)
theorem dX25_advance_101 : decode cX25_advance 101 = .ok (.ifCond .eq 30, 3) := dk_153 0 30 (dk_at dksX25_advance_4 9 rfl rfl)
theorem dX25_advance_104 : decode cX25_advance 104 = .ok (.aload_n 0, 1) := dk_42 (dk_at dksX25_advance_4 12 rfl rfl)
theorem dX25_advance_105 : decode cX25_advance 105 = .ok (.aload_n 0, 1) := dk_42 (dk_at dksX25_advance_4 13 rfl rfl)
theorem dX25_advance_106 : decode cX25_advance 106 = .ok (.getfield 40, 3) := dk_180 0 40 (dk_at dksX25_advance_4 14 rfl rfl)
theorem dX25_advance_109 : decode cX25_advance 109 = .ok (.invokevirtual 47, 3) := dk_182 0 47 (dk_at dksX25_advance_4 17 rfl rfl)
theorem dX25_advance_112 : decode cX25_advance 112 = .ok (.invokestatic 55, 3) := dk_184 0 55 (dk_at dksX25_advance_4 20 rfl rfl)
theorem dX25_advance_115 : decode cX25_advance 115 = .ok (.ifCond .eq 16, 3) := dk_153 0 16 (dk_at dksX25_advance_5 0 rfl rfl)
theorem dX25_advance_118 : decode cX25_advance 118 = .ok (.aload_n 0, 1) := dk_42 (dk_at dksX25_advance_5 3 rfl rfl)
theorem dX25_advance_119 : decode cX25_advance 119 = .ok (.dup, 1) := dk_89 (dk_at dksX25_advance_5 4 rfl rfl)
theorem dX25_advance_120 : decode cX25_advance 120 = .ok (.getfield 40, 3) := dk_180 0 40 (dk_at dksX25_advance_5 5 rfl rfl)
theorem dX25_advance_123 : decode cX25_advance 123 = .ok (.iconst 1, 1) := dk_4 (dk_at dksX25_advance_5 8 rfl rfl)
theorem dX25_advance_124 : decode cX25_advance 124 = .ok (.iadd, 1) := dk_96 (dk_at dksX25_advance_5 9 rfl rfl)
theorem dX25_advance_125 : decode cX25_advance 125 = .ok (.putfield 40, 3) := dk_181 0 40 (dk_at dksX25_advance_5 10 rfl rfl)
theorem dX25_advance_128 : decode cX25_advance 128 = .ok (.goto (-66), 3) := dk_167 255 190 (dk_at dksX25_advance_5 13 rfl rfl)
theorem dX25_advance_131 : decode cX25_advance 131 = .ok (.return_, 1) := dk_177 (dk_at dksX25_advance_5 16 rfl rfl)
abbrev cX25_at : ByteArray := prog_23_method_2_code
def yX25_at : MethodName := ⟨RX25, "at", "(I)I"⟩
def dkwX25_at_0 : List UInt8 := [27, 42, 180, 0, 18, 182, 0, 26, 162, 0, 14, 42, 180, 0, 18, 27, 182, 0, 32, 167, 0, 4, 2, 172]
abbrev dktX25_at_0 : List UInt8 := dkwX25_at_0 ++ []
theorem dksX25_at_0 : cX25_at.data.toList.drop 0 = dktX25_at_0 := by decide +kernel
theorem dX25_at_0 : decode cX25_at 0 = .ok (.iload_n 1, 1) := dk_27 (dk_at dksX25_at_0 0 rfl rfl)
theorem dX25_at_1 : decode cX25_at 1 = .ok (.aload_n 0, 1) := dk_42 (dk_at dksX25_at_0 1 rfl rfl)
theorem dX25_at_2 : decode cX25_at 2 = .ok (.getfield 18, 3) := dk_180 0 18 (dk_at dksX25_at_0 2 rfl rfl)
theorem dX25_at_5 : decode cX25_at 5 = .ok (.invokevirtual 26, 3) := dk_182 0 26 (dk_at dksX25_at_0 5 rfl rfl)
theorem dX25_at_8 : decode cX25_at 8 = .ok (.if_icmp .ge 14, 3) := dk_162 0 14 (dk_at dksX25_at_0 8 rfl rfl)
theorem dX25_at_11 : decode cX25_at 11 = .ok (.aload_n 0, 1) := dk_42 (dk_at dksX25_at_0 11 rfl rfl)
theorem dX25_at_12 : decode cX25_at 12 = .ok (.getfield 18, 3) := dk_180 0 18 (dk_at dksX25_at_0 12 rfl rfl)
theorem dX25_at_15 : decode cX25_at 15 = .ok (.iload_n 1, 1) := dk_27 (dk_at dksX25_at_0 15 rfl rfl)
theorem dX25_at_16 : decode cX25_at 16 = .ok (.invokevirtual 32, 3) := dk_182 0 32 (dk_at dksX25_at_0 16 rfl rfl)
theorem dX25_at_19 : decode cX25_at 19 = .ok (.goto 4, 3) := dk_167 0 4 (dk_at dksX25_at_0 19 rfl rfl)
theorem dX25_at_22 : decode cX25_at 22 = .ok (.iconst (-1), 1) := dk_2 (dk_at dksX25_at_0 22 rfl rfl)
theorem dX25_at_23 : decode cX25_at 23 = .ok (.ireturn, 1) := dk_172 (dk_at dksX25_at_0 23 rfl rfl)
abbrev cX25_isLetter : ByteArray := prog_23_method_3_code
def yX25_isLetter : MethodName := ⟨RX25, "isLetter", "(I)Z"⟩
def dkwX25_isLetter_0 : List UInt8 := [26, 16, 97, 16, 122, 184, 0, 36, 172]
abbrev dktX25_isLetter_0 : List UInt8 := dkwX25_isLetter_0 ++ []
theorem dksX25_isLetter_0 : cX25_isLetter.data.toList.drop 0 = dktX25_isLetter_0 := by decide +kernel
theorem dX25_isLetter_0 : decode cX25_isLetter 0 = .ok (.iload_n 0, 1) := dk_26 (dk_at dksX25_isLetter_0 0 rfl rfl)
theorem dX25_isLetter_1 : decode cX25_isLetter 1 = .ok (.bipush 97, 2) := dk_16 97 (dk_at dksX25_isLetter_0 1 rfl rfl)
theorem dX25_isLetter_3 : decode cX25_isLetter 3 = .ok (.bipush 122, 2) := dk_16 122 (dk_at dksX25_isLetter_0 3 rfl rfl)
theorem dX25_isLetter_5 : decode cX25_isLetter 5 = .ok (.invokestatic 36, 3) := dk_184 0 36 (dk_at dksX25_isLetter_0 5 rfl rfl)
theorem dX25_isLetter_8 : decode cX25_isLetter 8 = .ok (.ireturn, 1) := dk_172 (dk_at dksX25_isLetter_0 8 rfl rfl)
abbrev cX25_isDigit : ByteArray := prog_23_method_4_code
def yX25_isDigit : MethodName := ⟨RX25, "isDigit", "(I)Z"⟩
def dkwX25_isDigit_0 : List UInt8 := [26, 16, 48, 16, 57, 184, 0, 36, 172]
abbrev dktX25_isDigit_0 : List UInt8 := dkwX25_isDigit_0 ++ []
theorem dksX25_isDigit_0 : cX25_isDigit.data.toList.drop 0 = dktX25_isDigit_0 := by decide +kernel
theorem dX25_isDigit_0 : decode cX25_isDigit 0 = .ok (.iload_n 0, 1) := dk_26 (dk_at dksX25_isDigit_0 0 rfl rfl)
theorem dX25_isDigit_1 : decode cX25_isDigit 1 = .ok (.bipush 48, 2) := dk_16 48 (dk_at dksX25_isDigit_0 1 rfl rfl)
theorem dX25_isDigit_3 : decode cX25_isDigit 3 = .ok (.bipush 57, 2) := dk_16 57 (dk_at dksX25_isDigit_0 3 rfl rfl)
theorem dX25_isDigit_5 : decode cX25_isDigit 5 = .ok (.invokestatic 36, 3) := dk_184 0 36 (dk_at dksX25_isDigit_0 5 rfl rfl)
theorem dX25_isDigit_8 : decode cX25_isDigit 8 = .ok (.ireturn, 1) := dk_172 (dk_at dksX25_isDigit_0 8 rfl rfl)
abbrev cX25_run : ByteArray := prog_23_method_15_code
def yX25_run : MethodName := ⟨RX25, "run", "()V"⟩
def dkwX25_run_5 : List UInt8 := [185, 0, 189, 2, 0, 87, 132, 3, 1, 167, 255, 189, 42, 182, 0, 71, 177]
abbrev dktX25_run_5 : List UInt8 := dkwX25_run_5 ++ []
def dkwX25_run_4 : List UInt8 := [187, 0, 62, 89, 27, 183, 0, 64, 191, 42, 180, 0, 12, 29, 182, 0, 179, 192, 0, 183, 42, 180, 0, 22]
abbrev dktX25_run_4 : List UInt8 := dkwX25_run_4 ++ dktX25_run_5
def dkwX25_run_3 : List UInt8 := [180, 0, 12, 29, 182, 0, 179, 192, 0, 183, 42, 180, 0, 22, 185, 0, 185, 2, 0, 156, 0, 12]
abbrev dktX25_run_3 : List UInt8 := dkwX25_run_3 ++ dktX25_run_4
def dkwX25_run_2 : List UInt8 := [42, 18, 177, 182, 0, 76, 182, 0, 67, 3, 62, 29, 42, 180, 0, 12, 182, 0, 96, 162, 0, 62, 42]
abbrev dktX25_run_2 : List UInt8 := dkwX25_run_2 ++ dktX25_run_3
def dkwX25_run_1 : List UInt8 := [153, 0, 10, 42, 182, 0, 170, 167, 0, 16, 42, 180, 0, 12, 42, 44, 182, 0, 173, 182, 0, 92, 87, 42]
abbrev dktX25_run_1 : List UInt8 := dkwX25_run_1 ++ dktX25_run_2
def dkwX25_run_0 : List UInt8 := [42, 180, 0, 44, 60, 42, 182, 0, 161, 77, 42, 180, 0, 12, 182, 0, 165, 44, 18, 168, 182, 0, 115]
abbrev dktX25_run_0 : List UInt8 := dkwX25_run_0 ++ dktX25_run_1
theorem dksX25_run_0 : cX25_run.data.toList.drop 0 = dktX25_run_0 := by decide +kernel
theorem dksX25_run_1 : cX25_run.data.toList.drop 23 = dktX25_run_1 := dk_seg dksX25_run_0 23 rfl rfl
theorem dksX25_run_2 : cX25_run.data.toList.drop 47 = dktX25_run_2 := dk_seg dksX25_run_1 24 rfl rfl
theorem dksX25_run_3 : cX25_run.data.toList.drop 70 = dktX25_run_3 := dk_seg dksX25_run_2 23 rfl rfl
theorem dksX25_run_4 : cX25_run.data.toList.drop 92 = dktX25_run_4 := dk_seg dksX25_run_3 22 rfl rfl
theorem dksX25_run_5 : cX25_run.data.toList.drop 116 = dktX25_run_5 := dk_seg dksX25_run_4 24 rfl rfl
theorem dX25_run_0 : decode cX25_run 0 = .ok (.aload_n 0, 1) := dk_42 (dk_at dksX25_run_0 0 rfl rfl)
theorem dX25_run_1 : decode cX25_run 1 = .ok (.getfield 44, 3) := dk_180 0 44 (dk_at dksX25_run_0 1 rfl rfl)
theorem dX25_run_4 : decode cX25_run 4 = .ok (.istore_n 1, 1) := dk_60 (dk_at dksX25_run_0 4 rfl rfl)
theorem dX25_run_5 : decode cX25_run 5 = .ok (.aload_n 0, 1) := dk_42 (dk_at dksX25_run_0 5 rfl rfl)
theorem dX25_run_6 : decode cX25_run 6 = .ok (.invokevirtual 161, 3) := dk_182 0 161 (dk_at dksX25_run_0 6 rfl rfl)
theorem dX25_run_9 : decode cX25_run 9 = .ok (.astore_n 2, 1) := dk_77 (dk_at dksX25_run_0 9 rfl rfl)
theorem dX25_run_10 : decode cX25_run 10 = .ok (.aload_n 0, 1) := dk_42 (dk_at dksX25_run_0 10 rfl rfl)
theorem dX25_run_11 : decode cX25_run 11 = .ok (.getfield 12, 3) := dk_180 0 12 (dk_at dksX25_run_0 11 rfl rfl)
theorem dX25_run_14 : decode cX25_run 14 = .ok (.invokevirtual 165, 3) := dk_182 0 165 (dk_at dksX25_run_0 14 rfl rfl)
theorem dX25_run_17 : decode cX25_run 17 = .ok (.aload_n 2, 1) := dk_44 (dk_at dksX25_run_0 17 rfl rfl)
theorem dX25_run_18 : decode cX25_run 18 = .ok (.ldc 168, 2) := dk_18 168 (dk_at dksX25_run_0 18 rfl rfl)
theorem dX25_run_20 : decode cX25_run 20 = .ok (.invokevirtual 115, 3) := dk_182 0 115 (dk_at dksX25_run_0 20 rfl rfl)
theorem dX25_run_23 : decode cX25_run 23 = .ok (.ifCond .eq 10, 3) := dk_153 0 10 (dk_at dksX25_run_1 0 rfl rfl)
theorem dX25_run_26 : decode cX25_run 26 = .ok (.aload_n 0, 1) := dk_42 (dk_at dksX25_run_1 3 rfl rfl)
theorem dX25_run_27 : decode cX25_run 27 = .ok (.invokevirtual 170, 3) := dk_182 0 170 (dk_at dksX25_run_1 4 rfl rfl)
theorem dX25_run_30 : decode cX25_run 30 = .ok (.goto 16, 3) := dk_167 0 16 (dk_at dksX25_run_1 7 rfl rfl)
theorem dX25_run_33 : decode cX25_run 33 = .ok (.aload_n 0, 1) := dk_42 (dk_at dksX25_run_1 10 rfl rfl)
theorem dX25_run_34 : decode cX25_run 34 = .ok (.getfield 12, 3) := dk_180 0 12 (dk_at dksX25_run_1 11 rfl rfl)
theorem dX25_run_37 : decode cX25_run 37 = .ok (.aload_n 0, 1) := dk_42 (dk_at dksX25_run_1 14 rfl rfl)
theorem dX25_run_38 : decode cX25_run 38 = .ok (.aload_n 2, 1) := dk_44 (dk_at dksX25_run_1 15 rfl rfl)
theorem dX25_run_39 : decode cX25_run 39 = .ok (.invokevirtual 173, 3) := dk_182 0 173 (dk_at dksX25_run_1 16 rfl rfl)
theorem dX25_run_42 : decode cX25_run 42 = .ok (.invokevirtual 92, 3) := dk_182 0 92 (dk_at dksX25_run_1 19 rfl rfl)
theorem dX25_run_45 : decode cX25_run 45 = .ok (.pop, 1) := dk_87 (dk_at dksX25_run_1 22 rfl rfl)
theorem dX25_run_46 : decode cX25_run 46 = .ok (.aload_n 0, 1) := dk_42 (dk_at dksX25_run_1 23 rfl rfl)
theorem dX25_run_47 : decode cX25_run 47 = .ok (.aload_n 0, 1) := dk_42 (dk_at dksX25_run_2 0 rfl rfl)
theorem dX25_run_48 : decode cX25_run 48 = .ok (.ldc 177, 2) := dk_18 177 (dk_at dksX25_run_2 1 rfl rfl)
theorem dX25_run_50 : decode cX25_run 50 = .ok (.invokevirtual 76, 3) := dk_182 0 76 (dk_at dksX25_run_2 3 rfl rfl)
theorem dX25_run_53 : decode cX25_run 53 = .ok (.invokevirtual 67, 3) := dk_182 0 67 (dk_at dksX25_run_2 6 rfl rfl)
theorem dX25_run_56 : decode cX25_run 56 = .ok (.iconst 0, 1) := dk_3 (dk_at dksX25_run_2 9 rfl rfl)
theorem dX25_run_57 : decode cX25_run 57 = .ok (.istore_n 3, 1) := dk_62 (dk_at dksX25_run_2 10 rfl rfl)
theorem dX25_run_58 : decode cX25_run 58 = .ok (.iload_n 3, 1) := dk_29 (dk_at dksX25_run_2 11 rfl rfl)
theorem dX25_run_59 : decode cX25_run 59 = .ok (.aload_n 0, 1) := dk_42 (dk_at dksX25_run_2 12 rfl rfl)
theorem dX25_run_60 : decode cX25_run 60 = .ok (.getfield 12, 3) := dk_180 0 12 (dk_at dksX25_run_2 13 rfl rfl)
theorem dX25_run_63 : decode cX25_run 63 = .ok (.invokevirtual 96, 3) := dk_182 0 96 (dk_at dksX25_run_2 16 rfl rfl)
theorem dX25_run_66 : decode cX25_run 66 = .ok (.if_icmp .ge 62, 3) := dk_162 0 62 (dk_at dksX25_run_2 19 rfl rfl)
theorem dX25_run_69 : decode cX25_run 69 = .ok (.aload_n 0, 1) := dk_42 (dk_at dksX25_run_2 22 rfl rfl)
theorem dX25_run_70 : decode cX25_run 70 = .ok (.getfield 12, 3) := dk_180 0 12 (dk_at dksX25_run_3 0 rfl rfl)
theorem dX25_run_73 : decode cX25_run 73 = .ok (.iload_n 3, 1) := dk_29 (dk_at dksX25_run_3 3 rfl rfl)
theorem dX25_run_74 : decode cX25_run 74 = .ok (.invokevirtual 179, 3) := dk_182 0 179 (dk_at dksX25_run_3 4 rfl rfl)
theorem dX25_run_77 : decode cX25_run 77 = .ok (.checkcast 183, 3) := dk_192 0 183 (dk_at dksX25_run_3 7 rfl rfl)
theorem dX25_run_80 : decode cX25_run 80 = .ok (.aload_n 0, 1) := dk_42 (dk_at dksX25_run_3 10 rfl rfl)
theorem dX25_run_81 : decode cX25_run 81 = .ok (.getfield 22, 3) := dk_180 0 22 (dk_at dksX25_run_3 11 rfl rfl)
theorem dX25_run_84 : decode cX25_run 84 = .ok (.invokeinterface 185 2, 5) := by decide +kernel
theorem dX25_run_89 : decode cX25_run 89 = .ok (.ifCond .ge 12, 3) := dk_156 0 12 (dk_at dksX25_run_3 19 rfl rfl)
theorem dX25_run_92 : decode cX25_run 92 = .ok (.new 62, 3) := dk_187 0 62 (dk_at dksX25_run_4 0 rfl rfl)
theorem dX25_run_95 : decode cX25_run 95 = .ok (.dup, 1) := dk_89 (dk_at dksX25_run_4 3 rfl rfl)
theorem dX25_run_96 : decode cX25_run 96 = .ok (.iload_n 1, 1) := dk_27 (dk_at dksX25_run_4 4 rfl rfl)
theorem dX25_run_97 : decode cX25_run 97 = .ok (.invokespecial 64, 3) := dk_183 0 64 (dk_at dksX25_run_4 5 rfl rfl)
theorem dX25_run_100 : decode cX25_run 100 = .ok (.athrow, 1) := dk_191 (dk_at dksX25_run_4 8 rfl rfl)
theorem dX25_run_101 : decode cX25_run 101 = .ok (.aload_n 0, 1) := dk_42 (dk_at dksX25_run_4 9 rfl rfl)
theorem dX25_run_102 : decode cX25_run 102 = .ok (.getfield 12, 3) := dk_180 0 12 (dk_at dksX25_run_4 10 rfl rfl)
theorem dX25_run_105 : decode cX25_run 105 = .ok (.iload_n 3, 1) := dk_29 (dk_at dksX25_run_4 13 rfl rfl)
theorem dX25_run_106 : decode cX25_run 106 = .ok (.invokevirtual 179, 3) := dk_182 0 179 (dk_at dksX25_run_4 14 rfl rfl)
theorem dX25_run_109 : decode cX25_run 109 = .ok (.checkcast 183, 3) := dk_192 0 183 (dk_at dksX25_run_4 17 rfl rfl)
theorem dX25_run_112 : decode cX25_run 112 = .ok (.aload_n 0, 1) := dk_42 (dk_at dksX25_run_4 20 rfl rfl)
theorem dX25_run_113 : decode cX25_run 113 = .ok (.getfield 22, 3) := dk_180 0 22 (dk_at dksX25_run_4 21 rfl rfl)
theorem dX25_run_116 : decode cX25_run 116 = .ok (.invokeinterface 189 2, 5) := by decide +kernel
theorem dX25_run_121 : decode cX25_run 121 = .ok (.pop, 1) := dk_87 (dk_at dksX25_run_5 5 rfl rfl)
theorem dX25_run_122 : decode cX25_run 122 = .ok (.iinc 3 1, 3) := dk_132 3 1 (dk_at dksX25_run_5 6 rfl rfl)
theorem dX25_run_125 : decode cX25_run 125 = .ok (.goto (-67), 3) := dk_167 255 189 (dk_at dksX25_run_5 9 rfl rfl)
theorem dX25_run_128 : decode cX25_run 128 = .ok (.aload_n 0, 1) := dk_42 (dk_at dksX25_run_5 12 rfl rfl)
theorem dX25_run_129 : decode cX25_run 129 = .ok (.invokevirtual 71, 3) := dk_182 0 71 (dk_at dksX25_run_5 13 rfl rfl)
theorem dX25_run_132 : decode cX25_run 132 = .ok (.return_, 1) := dk_177 (dk_at dksX25_run_5 16 rfl rfl)
abbrev cX25_word : ByteArray := prog_23_method_14_code
def yX25_word : MethodName := ⟨RX25, "word", "()Ljava/lang/String;"⟩
def dkwX25_word_2 : List UInt8 := [183, 0, 64, 191]
abbrev dktX25_word_2 : List UInt8 := dkwX25_word_2 ++ []
def dkwX25_word_1 : List UInt8 := [182, 0, 71, 178, 0, 157, 27, 50, 176, 132, 1, 1, 167, 255, 223, 187, 0, 62, 89, 42, 180, 0, 44]
abbrev dktX25_word_1 : List UInt8 := dkwX25_word_1 ++ dktX25_word_2
def dkwX25_word_0 : List UInt8 := [3, 60, 27, 178, 0, 157, 190, 162, 0, 31, 42, 178, 0, 157, 27, 50, 182, 0, 76, 153, 0, 13, 42]
abbrev dktX25_word_0 : List UInt8 := dkwX25_word_0 ++ dktX25_word_1
theorem dksX25_word_0 : cX25_word.data.toList.drop 0 = dktX25_word_0 := by decide +kernel
theorem dksX25_word_1 : cX25_word.data.toList.drop 23 = dktX25_word_1 := dk_seg dksX25_word_0 23 rfl rfl
theorem dksX25_word_2 : cX25_word.data.toList.drop 46 = dktX25_word_2 := dk_seg dksX25_word_1 23 rfl rfl
theorem dX25_word_0 : decode cX25_word 0 = .ok (.iconst 0, 1) := dk_3 (dk_at dksX25_word_0 0 rfl rfl)
theorem dX25_word_1 : decode cX25_word 1 = .ok (.istore_n 1, 1) := dk_60 (dk_at dksX25_word_0 1 rfl rfl)
theorem dX25_word_2 : decode cX25_word 2 = .ok (.iload_n 1, 1) := dk_27 (dk_at dksX25_word_0 2 rfl rfl)
theorem dX25_word_3 : decode cX25_word 3 = .ok (.getstatic 157, 3) := dk_178 0 157 (dk_at dksX25_word_0 3 rfl rfl)
theorem dX25_word_6 : decode cX25_word 6 = .ok (.arraylength, 1) := dk_190 (dk_at dksX25_word_0 6 rfl rfl)
theorem dX25_word_7 : decode cX25_word 7 = .ok (.if_icmp .ge 31, 3) := dk_162 0 31 (dk_at dksX25_word_0 7 rfl rfl)
theorem dX25_word_10 : decode cX25_word 10 = .ok (.aload_n 0, 1) := dk_42 (dk_at dksX25_word_0 10 rfl rfl)
theorem dX25_word_11 : decode cX25_word 11 = .ok (.getstatic 157, 3) := dk_178 0 157 (dk_at dksX25_word_0 11 rfl rfl)
theorem dX25_word_14 : decode cX25_word 14 = .ok (.iload_n 1, 1) := dk_27 (dk_at dksX25_word_0 14 rfl rfl)
theorem dX25_word_15 : decode cX25_word 15 = .ok (.aaload, 1) := dk_50 (dk_at dksX25_word_0 15 rfl rfl)
theorem dX25_word_16 : decode cX25_word 16 = .ok (.invokevirtual 76, 3) := dk_182 0 76 (dk_at dksX25_word_0 16 rfl rfl)
theorem dX25_word_19 : decode cX25_word 19 = .ok (.ifCond .eq 13, 3) := dk_153 0 13 (dk_at dksX25_word_0 19 rfl rfl)
theorem dX25_word_22 : decode cX25_word 22 = .ok (.aload_n 0, 1) := dk_42 (dk_at dksX25_word_0 22 rfl rfl)
theorem dX25_word_23 : decode cX25_word 23 = .ok (.invokevirtual 71, 3) := dk_182 0 71 (dk_at dksX25_word_1 0 rfl rfl)
theorem dX25_word_26 : decode cX25_word 26 = .ok (.getstatic 157, 3) := dk_178 0 157 (dk_at dksX25_word_1 3 rfl rfl)
theorem dX25_word_29 : decode cX25_word 29 = .ok (.iload_n 1, 1) := dk_27 (dk_at dksX25_word_1 6 rfl rfl)
theorem dX25_word_30 : decode cX25_word 30 = .ok (.aaload, 1) := dk_50 (dk_at dksX25_word_1 7 rfl rfl)
theorem dX25_word_31 : decode cX25_word 31 = .ok (.areturn, 1) := dk_176 (dk_at dksX25_word_1 8 rfl rfl)
theorem dX25_word_32 : decode cX25_word 32 = .ok (.iinc 1 1, 3) := dk_132 1 1 (dk_at dksX25_word_1 9 rfl rfl)
theorem dX25_word_35 : decode cX25_word 35 = .ok (.goto (-33), 3) := dk_167 255 223 (dk_at dksX25_word_1 12 rfl rfl)
theorem dX25_word_38 : decode cX25_word 38 = .ok (.new 62, 3) := dk_187 0 62 (dk_at dksX25_word_1 15 rfl rfl)
theorem dX25_word_41 : decode cX25_word 41 = .ok (.dup, 1) := dk_89 (dk_at dksX25_word_1 18 rfl rfl)
theorem dX25_word_42 : decode cX25_word 42 = .ok (.aload_n 0, 1) := dk_42 (dk_at dksX25_word_1 19 rfl rfl)
theorem dX25_word_43 : decode cX25_word 43 = .ok (.getfield 44, 3) := dk_180 0 44 (dk_at dksX25_word_1 20 rfl rfl)
theorem dX25_word_46 : decode cX25_word 46 = .ok (.invokespecial 64, 3) := dk_183 0 64 (dk_at dksX25_word_2 0 rfl rfl)
theorem dX25_word_49 : decode cX25_word 49 = .ok (.athrow, 1) := dk_191 (dk_at dksX25_word_2 3 rfl rfl)
abbrev cX25_isWord : ByteArray := prog_23_method_6_code
def yX25_isWord : MethodName := ⟨RX25, "isWord", "(Ljava/lang/String;)Z"⟩
def dkwX25_isWord_2 : List UInt8 := [182, 0, 61, 160, 0, 7, 4, 167, 0, 4, 3, 61, 132, 3, 1, 167, 255, 217, 28, 172]
abbrev dktX25_isWord_2 : List UInt8 := dkwX25_isWord_2 ++ []
def dkwX25_isWord_1 : List UInt8 := [29, 43, 182, 0, 58, 162, 0, 37, 28, 153, 0, 33, 42, 42, 180, 0, 44, 29, 96, 182, 0, 47, 43, 29]
abbrev dktX25_isWord_1 : List UInt8 := dkwX25_isWord_1 ++ dktX25_isWord_2
def dkwX25_isWord_0 : List UInt8 := [42, 180, 0, 40, 42, 180, 0, 44, 100, 43, 182, 0, 58, 160, 0, 7, 4, 167, 0, 4, 3, 61, 3, 62]
abbrev dktX25_isWord_0 : List UInt8 := dkwX25_isWord_0 ++ dktX25_isWord_1
theorem dksX25_isWord_0 : cX25_isWord.data.toList.drop 0 = dktX25_isWord_0 := by decide +kernel
theorem dksX25_isWord_1 : cX25_isWord.data.toList.drop 24 = dktX25_isWord_1 := dk_seg dksX25_isWord_0 24 rfl rfl
theorem dksX25_isWord_2 : cX25_isWord.data.toList.drop 48 = dktX25_isWord_2 := dk_seg dksX25_isWord_1 24 rfl rfl
theorem dX25_isWord_0 : decode cX25_isWord 0 = .ok (.aload_n 0, 1) := dk_42 (dk_at dksX25_isWord_0 0 rfl rfl)
theorem dX25_isWord_1 : decode cX25_isWord 1 = .ok (.getfield 40, 3) := dk_180 0 40 (dk_at dksX25_isWord_0 1 rfl rfl)
theorem dX25_isWord_4 : decode cX25_isWord 4 = .ok (.aload_n 0, 1) := dk_42 (dk_at dksX25_isWord_0 4 rfl rfl)
theorem dX25_isWord_5 : decode cX25_isWord 5 = .ok (.getfield 44, 3) := dk_180 0 44 (dk_at dksX25_isWord_0 5 rfl rfl)
theorem dX25_isWord_8 : decode cX25_isWord 8 = .ok (.isub, 1) := dk_100 (dk_at dksX25_isWord_0 8 rfl rfl)
theorem dX25_isWord_9 : decode cX25_isWord 9 = .ok (.aload_n 1, 1) := dk_43 (dk_at dksX25_isWord_0 9 rfl rfl)
theorem dX25_isWord_10 : decode cX25_isWord 10 = .ok (.invokevirtual 58, 3) := dk_182 0 58 (dk_at dksX25_isWord_0 10 rfl rfl)
theorem dX25_isWord_13 : decode cX25_isWord 13 = .ok (.if_icmp .ne 7, 3) := dk_160 0 7 (dk_at dksX25_isWord_0 13 rfl rfl)
theorem dX25_isWord_16 : decode cX25_isWord 16 = .ok (.iconst 1, 1) := dk_4 (dk_at dksX25_isWord_0 16 rfl rfl)
theorem dX25_isWord_17 : decode cX25_isWord 17 = .ok (.goto 4, 3) := dk_167 0 4 (dk_at dksX25_isWord_0 17 rfl rfl)
theorem dX25_isWord_20 : decode cX25_isWord 20 = .ok (.iconst 0, 1) := dk_3 (dk_at dksX25_isWord_0 20 rfl rfl)
theorem dX25_isWord_21 : decode cX25_isWord 21 = .ok (.istore_n 2, 1) := dk_61 (dk_at dksX25_isWord_0 21 rfl rfl)
theorem dX25_isWord_22 : decode cX25_isWord 22 = .ok (.iconst 0, 1) := dk_3 (dk_at dksX25_isWord_0 22 rfl rfl)
theorem dX25_isWord_23 : decode cX25_isWord 23 = .ok (.istore_n 3, 1) := dk_62 (dk_at dksX25_isWord_0 23 rfl rfl)
theorem dX25_isWord_24 : decode cX25_isWord 24 = .ok (.iload_n 3, 1) := dk_29 (dk_at dksX25_isWord_1 0 rfl rfl)
theorem dX25_isWord_25 : decode cX25_isWord 25 = .ok (.aload_n 1, 1) := dk_43 (dk_at dksX25_isWord_1 1 rfl rfl)
theorem dX25_isWord_26 : decode cX25_isWord 26 = .ok (.invokevirtual 58, 3) := dk_182 0 58 (dk_at dksX25_isWord_1 2 rfl rfl)
theorem dX25_isWord_29 : decode cX25_isWord 29 = .ok (.if_icmp .ge 37, 3) := dk_162 0 37 (dk_at dksX25_isWord_1 5 rfl rfl)
theorem dX25_isWord_32 : decode cX25_isWord 32 = .ok (.iload_n 2, 1) := dk_28 (dk_at dksX25_isWord_1 8 rfl rfl)
theorem dX25_isWord_33 : decode cX25_isWord 33 = .ok (.ifCond .eq 33, 3) := dk_153 0 33 (dk_at dksX25_isWord_1 9 rfl rfl)
theorem dX25_isWord_36 : decode cX25_isWord 36 = .ok (.aload_n 0, 1) := dk_42 (dk_at dksX25_isWord_1 12 rfl rfl)
theorem dX25_isWord_37 : decode cX25_isWord 37 = .ok (.aload_n 0, 1) := dk_42 (dk_at dksX25_isWord_1 13 rfl rfl)
theorem dX25_isWord_38 : decode cX25_isWord 38 = .ok (.getfield 44, 3) := dk_180 0 44 (dk_at dksX25_isWord_1 14 rfl rfl)
theorem dX25_isWord_41 : decode cX25_isWord 41 = .ok (.iload_n 3, 1) := dk_29 (dk_at dksX25_isWord_1 17 rfl rfl)
theorem dX25_isWord_42 : decode cX25_isWord 42 = .ok (.iadd, 1) := dk_96 (dk_at dksX25_isWord_1 18 rfl rfl)
theorem dX25_isWord_43 : decode cX25_isWord 43 = .ok (.invokevirtual 47, 3) := dk_182 0 47 (dk_at dksX25_isWord_1 19 rfl rfl)
theorem dX25_isWord_46 : decode cX25_isWord 46 = .ok (.aload_n 1, 1) := dk_43 (dk_at dksX25_isWord_1 22 rfl rfl)
theorem dX25_isWord_47 : decode cX25_isWord 47 = .ok (.iload_n 3, 1) := dk_29 (dk_at dksX25_isWord_1 23 rfl rfl)
theorem dX25_isWord_48 : decode cX25_isWord 48 = .ok (.invokevirtual 61, 3) := dk_182 0 61 (dk_at dksX25_isWord_2 0 rfl rfl)
theorem dX25_isWord_51 : decode cX25_isWord 51 = .ok (.if_icmp .ne 7, 3) := dk_160 0 7 (dk_at dksX25_isWord_2 3 rfl rfl)
theorem dX25_isWord_54 : decode cX25_isWord 54 = .ok (.iconst 1, 1) := dk_4 (dk_at dksX25_isWord_2 6 rfl rfl)
theorem dX25_isWord_55 : decode cX25_isWord 55 = .ok (.goto 4, 3) := dk_167 0 4 (dk_at dksX25_isWord_2 7 rfl rfl)
theorem dX25_isWord_58 : decode cX25_isWord 58 = .ok (.iconst 0, 1) := dk_3 (dk_at dksX25_isWord_2 10 rfl rfl)
theorem dX25_isWord_59 : decode cX25_isWord 59 = .ok (.istore_n 2, 1) := dk_61 (dk_at dksX25_isWord_2 11 rfl rfl)
theorem dX25_isWord_60 : decode cX25_isWord 60 = .ok (.iinc 3 1, 3) := dk_132 3 1 (dk_at dksX25_isWord_2 12 rfl rfl)
theorem dX25_isWord_63 : decode cX25_isWord 63 = .ok (.goto (-39), 3) := dk_167 255 217 (dk_at dksX25_isWord_2 15 rfl rfl)
theorem dX25_isWord_66 : decode cX25_isWord 66 = .ok (.iload_n 2, 1) := dk_28 (dk_at dksX25_isWord_2 18 rfl rfl)
theorem dX25_isWord_67 : decode cX25_isWord 67 = .ok (.ireturn, 1) := dk_172 (dk_at dksX25_isWord_2 19 rfl rfl)
abbrev cX25_folds : ByteArray := prog_23_method_10_code
def yX25_folds : MethodName := ⟨RX25, "folds", "()V"⟩
def dkwX25_folds_2 : List UInt8 := [187, 0, 86, 89, 42, 182, 0, 88, 183, 0, 91, 182, 0, 92, 87, 167, 255, 212, 177]
abbrev dktX25_folds_2 : List UInt8 := dkwX25_folds_2 ++ []
def dkwX25_folds_1 : List UInt8 := [182, 0, 47, 184, 0, 55, 153, 0, 36, 42, 180, 0, 12, 182, 0, 96, 7, 162, 0, 25, 42, 180, 0, 12]
abbrev dktX25_folds_1 : List UInt8 := dkwX25_folds_1 ++ dktX25_folds_2
def dkwX25_folds_0 : List UInt8 := [42, 180, 0, 12, 187, 0, 86, 89, 42, 182, 0, 88, 183, 0, 91, 182, 0, 92, 87, 42, 42, 180, 0, 44]
abbrev dktX25_folds_0 : List UInt8 := dkwX25_folds_0 ++ dktX25_folds_1
theorem dksX25_folds_0 : cX25_folds.data.toList.drop 0 = dktX25_folds_0 := by decide +kernel
theorem dksX25_folds_1 : cX25_folds.data.toList.drop 24 = dktX25_folds_1 := dk_seg dksX25_folds_0 24 rfl rfl
theorem dksX25_folds_2 : cX25_folds.data.toList.drop 48 = dktX25_folds_2 := dk_seg dksX25_folds_1 24 rfl rfl
theorem dX25_folds_0 : decode cX25_folds 0 = .ok (.aload_n 0, 1) := dk_42 (dk_at dksX25_folds_0 0 rfl rfl)
theorem dX25_folds_1 : decode cX25_folds 1 = .ok (.getfield 12, 3) := dk_180 0 12 (dk_at dksX25_folds_0 1 rfl rfl)
theorem dX25_folds_4 : decode cX25_folds 4 = .ok (.new 86, 3) := dk_187 0 86 (dk_at dksX25_folds_0 4 rfl rfl)
theorem dX25_folds_7 : decode cX25_folds 7 = .ok (.dup, 1) := dk_89 (dk_at dksX25_folds_0 7 rfl rfl)
theorem dX25_folds_8 : decode cX25_folds 8 = .ok (.aload_n 0, 1) := dk_42 (dk_at dksX25_folds_0 8 rfl rfl)
theorem dX25_folds_9 : decode cX25_folds 9 = .ok (.invokevirtual 88, 3) := dk_182 0 88 (dk_at dksX25_folds_0 9 rfl rfl)
theorem dX25_folds_12 : decode cX25_folds 12 = .ok (.invokespecial 91, 3) := dk_183 0 91 (dk_at dksX25_folds_0 12 rfl rfl)
theorem dX25_folds_15 : decode cX25_folds 15 = .ok (.invokevirtual 92, 3) := dk_182 0 92 (dk_at dksX25_folds_0 15 rfl rfl)
theorem dX25_folds_18 : decode cX25_folds 18 = .ok (.pop, 1) := dk_87 (dk_at dksX25_folds_0 18 rfl rfl)
theorem dX25_folds_19 : decode cX25_folds 19 = .ok (.aload_n 0, 1) := dk_42 (dk_at dksX25_folds_0 19 rfl rfl)
theorem dX25_folds_20 : decode cX25_folds 20 = .ok (.aload_n 0, 1) := dk_42 (dk_at dksX25_folds_0 20 rfl rfl)
theorem dX25_folds_21 : decode cX25_folds 21 = .ok (.getfield 44, 3) := dk_180 0 44 (dk_at dksX25_folds_0 21 rfl rfl)
theorem dX25_folds_24 : decode cX25_folds 24 = .ok (.invokevirtual 47, 3) := dk_182 0 47 (dk_at dksX25_folds_1 0 rfl rfl)
theorem dX25_folds_27 : decode cX25_folds 27 = .ok (.invokestatic 55, 3) := dk_184 0 55 (dk_at dksX25_folds_1 3 rfl rfl)
theorem dX25_folds_30 : decode cX25_folds 30 = .ok (.ifCond .eq 36, 3) := dk_153 0 36 (dk_at dksX25_folds_1 6 rfl rfl)
theorem dX25_folds_33 : decode cX25_folds 33 = .ok (.aload_n 0, 1) := dk_42 (dk_at dksX25_folds_1 9 rfl rfl)
theorem dX25_folds_34 : decode cX25_folds 34 = .ok (.getfield 12, 3) := dk_180 0 12 (dk_at dksX25_folds_1 10 rfl rfl)
theorem dX25_folds_37 : decode cX25_folds 37 = .ok (.invokevirtual 96, 3) := dk_182 0 96 (dk_at dksX25_folds_1 13 rfl rfl)
theorem dX25_folds_40 : decode cX25_folds 40 = .ok (.iconst 4, 1) := dk_7 (dk_at dksX25_folds_1 16 rfl rfl)
theorem dX25_folds_41 : decode cX25_folds 41 = .ok (.if_icmp .ge 25, 3) := dk_162 0 25 (dk_at dksX25_folds_1 17 rfl rfl)
theorem dX25_folds_44 : decode cX25_folds 44 = .ok (.aload_n 0, 1) := dk_42 (dk_at dksX25_folds_1 20 rfl rfl)
theorem dX25_folds_45 : decode cX25_folds 45 = .ok (.getfield 12, 3) := dk_180 0 12 (dk_at dksX25_folds_1 21 rfl rfl)
theorem dX25_folds_48 : decode cX25_folds 48 = .ok (.new 86, 3) := dk_187 0 86 (dk_at dksX25_folds_2 0 rfl rfl)
theorem dX25_folds_51 : decode cX25_folds 51 = .ok (.dup, 1) := dk_89 (dk_at dksX25_folds_2 3 rfl rfl)
theorem dX25_folds_52 : decode cX25_folds 52 = .ok (.aload_n 0, 1) := dk_42 (dk_at dksX25_folds_2 4 rfl rfl)
theorem dX25_folds_53 : decode cX25_folds 53 = .ok (.invokevirtual 88, 3) := dk_182 0 88 (dk_at dksX25_folds_2 5 rfl rfl)
theorem dX25_folds_56 : decode cX25_folds 56 = .ok (.invokespecial 91, 3) := dk_183 0 91 (dk_at dksX25_folds_2 8 rfl rfl)
theorem dX25_folds_59 : decode cX25_folds 59 = .ok (.invokevirtual 92, 3) := dk_182 0 92 (dk_at dksX25_folds_2 11 rfl rfl)
theorem dX25_folds_62 : decode cX25_folds 62 = .ok (.pop, 1) := dk_87 (dk_at dksX25_folds_2 14 rfl rfl)
theorem dX25_folds_63 : decode cX25_folds 63 = .ok (.goto (-44), 3) := dk_167 255 212 (dk_at dksX25_folds_2 15 rfl rfl)
theorem dX25_folds_66 : decode cX25_folds 66 = .ok (.return_, 1) := dk_177 (dk_at dksX25_folds_2 18 rfl rfl)
abbrev cX25_number : ByteArray := prog_23_method_8_code
def yX25_number : MethodName := ⟨RX25, "number", "()I"⟩
def dkwX25_number_4 : List UInt8 := [167, 255, 231, 42, 182, 0, 71, 27, 172]
abbrev dktX25_number_4 : List UInt8 := dkwX25_number_4 ++ []
def dkwX25_number_3 : List UInt8 := [42, 180, 0, 40, 162, 0, 23, 16, 10, 27, 104, 42, 28, 182, 0, 47, 96, 16, 48, 100, 60, 132, 2, 1]
abbrev dktX25_number_3 : List UInt8 := dkwX25_number_3 ++ dktX25_number_4
def dkwX25_number_2 : List UInt8 := [182, 0, 47, 16, 48, 159, 0, 7, 4, 167, 0, 4, 3, 182, 0, 67, 3, 60, 42, 180, 0, 44, 61, 28]
abbrev dktX25_number_2 : List UInt8 := dkwX25_number_2 ++ dktX25_number_3
def dkwX25_number_1 : List UInt8 := [7, 163, 0, 33, 42, 180, 0, 40, 42, 180, 0, 44, 4, 96, 159, 0, 16, 42, 42, 180, 0, 44]
abbrev dktX25_number_1 : List UInt8 := dkwX25_number_1 ++ dktX25_number_2
def dkwX25_number_0 : List UInt8 := [42, 42, 42, 180, 0, 44, 182, 0, 47, 184, 0, 55, 153, 0, 46, 42, 180, 0, 40, 42, 180, 0, 44, 100]
abbrev dktX25_number_0 : List UInt8 := dkwX25_number_0 ++ dktX25_number_1
theorem dksX25_number_0 : cX25_number.data.toList.drop 0 = dktX25_number_0 := by decide +kernel
theorem dksX25_number_1 : cX25_number.data.toList.drop 24 = dktX25_number_1 := dk_seg dksX25_number_0 24 rfl rfl
theorem dksX25_number_2 : cX25_number.data.toList.drop 46 = dktX25_number_2 := dk_seg dksX25_number_1 22 rfl rfl
theorem dksX25_number_3 : cX25_number.data.toList.drop 70 = dktX25_number_3 := dk_seg dksX25_number_2 24 rfl rfl
theorem dksX25_number_4 : cX25_number.data.toList.drop 94 = dktX25_number_4 := dk_seg dksX25_number_3 24 rfl rfl
theorem dX25_number_0 : decode cX25_number 0 = .ok (.aload_n 0, 1) := dk_42 (dk_at dksX25_number_0 0 rfl rfl)
theorem dX25_number_1 : decode cX25_number 1 = .ok (.aload_n 0, 1) := dk_42 (dk_at dksX25_number_0 1 rfl rfl)
theorem dX25_number_2 : decode cX25_number 2 = .ok (.aload_n 0, 1) := dk_42 (dk_at dksX25_number_0 2 rfl rfl)
theorem dX25_number_3 : decode cX25_number 3 = .ok (.getfield 44, 3) := dk_180 0 44 (dk_at dksX25_number_0 3 rfl rfl)
theorem dX25_number_6 : decode cX25_number 6 = .ok (.invokevirtual 47, 3) := dk_182 0 47 (dk_at dksX25_number_0 6 rfl rfl)
theorem dX25_number_9 : decode cX25_number 9 = .ok (.invokestatic 55, 3) := dk_184 0 55 (dk_at dksX25_number_0 9 rfl rfl)
theorem dX25_number_12 : decode cX25_number 12 = .ok (.ifCond .eq 46, 3) := dk_153 0 46 (dk_at dksX25_number_0 12 rfl rfl)
theorem dX25_number_15 : decode cX25_number 15 = .ok (.aload_n 0, 1) := dk_42 (dk_at dksX25_number_0 15 rfl rfl)
theorem dX25_number_16 : decode cX25_number 16 = .ok (.getfield 40, 3) := dk_180 0 40 (dk_at dksX25_number_0 16 rfl rfl)
theorem dX25_number_19 : decode cX25_number 19 = .ok (.aload_n 0, 1) := dk_42 (dk_at dksX25_number_0 19 rfl rfl)
theorem dX25_number_20 : decode cX25_number 20 = .ok (.getfield 44, 3) := dk_180 0 44 (dk_at dksX25_number_0 20 rfl rfl)
theorem dX25_number_23 : decode cX25_number 23 = .ok (.isub, 1) := dk_100 (dk_at dksX25_number_0 23 rfl rfl)
theorem dX25_number_24 : decode cX25_number 24 = .ok (.iconst 4, 1) := dk_7 (dk_at dksX25_number_1 0 rfl rfl)
theorem dX25_number_25 : decode cX25_number 25 = .ok (.if_icmp .gt 33, 3) := dk_163 0 33 (dk_at dksX25_number_1 1 rfl rfl)
theorem dX25_number_28 : decode cX25_number 28 = .ok (.aload_n 0, 1) := dk_42 (dk_at dksX25_number_1 4 rfl rfl)
theorem dX25_number_29 : decode cX25_number 29 = .ok (.getfield 40, 3) := dk_180 0 40 (dk_at dksX25_number_1 5 rfl rfl)
theorem dX25_number_32 : decode cX25_number 32 = .ok (.aload_n 0, 1) := dk_42 (dk_at dksX25_number_1 8 rfl rfl)
theorem dX25_number_33 : decode cX25_number 33 = .ok (.getfield 44, 3) := dk_180 0 44 (dk_at dksX25_number_1 9 rfl rfl)
theorem dX25_number_36 : decode cX25_number 36 = .ok (.iconst 1, 1) := dk_4 (dk_at dksX25_number_1 12 rfl rfl)
theorem dX25_number_37 : decode cX25_number 37 = .ok (.iadd, 1) := dk_96 (dk_at dksX25_number_1 13 rfl rfl)
theorem dX25_number_38 : decode cX25_number 38 = .ok (.if_icmp .eq 16, 3) := dk_159 0 16 (dk_at dksX25_number_1 14 rfl rfl)
theorem dX25_number_41 : decode cX25_number 41 = .ok (.aload_n 0, 1) := dk_42 (dk_at dksX25_number_1 17 rfl rfl)
theorem dX25_number_42 : decode cX25_number 42 = .ok (.aload_n 0, 1) := dk_42 (dk_at dksX25_number_1 18 rfl rfl)
theorem dX25_number_43 : decode cX25_number 43 = .ok (.getfield 44, 3) := dk_180 0 44 (dk_at dksX25_number_1 19 rfl rfl)
theorem dX25_number_46 : decode cX25_number 46 = .ok (.invokevirtual 47, 3) := dk_182 0 47 (dk_at dksX25_number_2 0 rfl rfl)
theorem dX25_number_49 : decode cX25_number 49 = .ok (.bipush 48, 2) := dk_16 48 (dk_at dksX25_number_2 3 rfl rfl)
theorem dX25_number_51 : decode cX25_number 51 = .ok (.if_icmp .eq 7, 3) := dk_159 0 7 (dk_at dksX25_number_2 5 rfl rfl)
theorem dX25_number_54 : decode cX25_number 54 = .ok (.iconst 1, 1) := dk_4 (dk_at dksX25_number_2 8 rfl rfl)
theorem dX25_number_55 : decode cX25_number 55 = .ok (.goto 4, 3) := dk_167 0 4 (dk_at dksX25_number_2 9 rfl rfl)
theorem dX25_number_58 : decode cX25_number 58 = .ok (.iconst 0, 1) := dk_3 (dk_at dksX25_number_2 12 rfl rfl)
theorem dX25_number_59 : decode cX25_number 59 = .ok (.invokevirtual 67, 3) := dk_182 0 67 (dk_at dksX25_number_2 13 rfl rfl)
theorem dX25_number_62 : decode cX25_number 62 = .ok (.iconst 0, 1) := dk_3 (dk_at dksX25_number_2 16 rfl rfl)
theorem dX25_number_63 : decode cX25_number 63 = .ok (.istore_n 1, 1) := dk_60 (dk_at dksX25_number_2 17 rfl rfl)
theorem dX25_number_64 : decode cX25_number 64 = .ok (.aload_n 0, 1) := dk_42 (dk_at dksX25_number_2 18 rfl rfl)
theorem dX25_number_65 : decode cX25_number 65 = .ok (.getfield 44, 3) := dk_180 0 44 (dk_at dksX25_number_2 19 rfl rfl)
theorem dX25_number_68 : decode cX25_number 68 = .ok (.istore_n 2, 1) := dk_61 (dk_at dksX25_number_2 22 rfl rfl)
theorem dX25_number_69 : decode cX25_number 69 = .ok (.iload_n 2, 1) := dk_28 (dk_at dksX25_number_2 23 rfl rfl)
theorem dX25_number_70 : decode cX25_number 70 = .ok (.aload_n 0, 1) := dk_42 (dk_at dksX25_number_3 0 rfl rfl)
theorem dX25_number_71 : decode cX25_number 71 = .ok (.getfield 40, 3) := dk_180 0 40 (dk_at dksX25_number_3 1 rfl rfl)
theorem dX25_number_74 : decode cX25_number 74 = .ok (.if_icmp .ge 23, 3) := dk_162 0 23 (dk_at dksX25_number_3 4 rfl rfl)
theorem dX25_number_77 : decode cX25_number 77 = .ok (.bipush 10, 2) := dk_16 10 (dk_at dksX25_number_3 7 rfl rfl)
theorem dX25_number_79 : decode cX25_number 79 = .ok (.iload_n 1, 1) := dk_27 (dk_at dksX25_number_3 9 rfl rfl)
theorem dX25_number_80 : decode cX25_number 80 = .ok (.imul, 1) := dk_104 (dk_at dksX25_number_3 10 rfl rfl)
theorem dX25_number_81 : decode cX25_number 81 = .ok (.aload_n 0, 1) := dk_42 (dk_at dksX25_number_3 11 rfl rfl)
theorem dX25_number_82 : decode cX25_number 82 = .ok (.iload_n 2, 1) := dk_28 (dk_at dksX25_number_3 12 rfl rfl)
theorem dX25_number_83 : decode cX25_number 83 = .ok (.invokevirtual 47, 3) := dk_182 0 47 (dk_at dksX25_number_3 13 rfl rfl)
theorem dX25_number_86 : decode cX25_number 86 = .ok (.iadd, 1) := dk_96 (dk_at dksX25_number_3 16 rfl rfl)
theorem dX25_number_87 : decode cX25_number 87 = .ok (.bipush 48, 2) := dk_16 48 (dk_at dksX25_number_3 17 rfl rfl)
theorem dX25_number_89 : decode cX25_number 89 = .ok (.isub, 1) := dk_100 (dk_at dksX25_number_3 19 rfl rfl)
theorem dX25_number_90 : decode cX25_number 90 = .ok (.istore_n 1, 1) := dk_60 (dk_at dksX25_number_3 20 rfl rfl)
theorem dX25_number_91 : decode cX25_number 91 = .ok (.iinc 2 1, 3) := dk_132 2 1 (dk_at dksX25_number_3 21 rfl rfl)
theorem dX25_number_94 : decode cX25_number 94 = .ok (.goto (-25), 3) := dk_167 255 231 (dk_at dksX25_number_4 0 rfl rfl)
theorem dX25_number_97 : decode cX25_number 97 = .ok (.aload_n 0, 1) := dk_42 (dk_at dksX25_number_4 3 rfl rfl)
theorem dX25_number_98 : decode cX25_number 98 = .ok (.invokevirtual 71, 3) := dk_182 0 71 (dk_at dksX25_number_4 4 rfl rfl)
theorem dX25_number_101 : decode cX25_number 101 = .ok (.iload_n 1, 1) := dk_27 (dk_at dksX25_number_4 7 rfl rfl)
theorem dX25_number_102 : decode cX25_number 102 = .ok (.ireturn, 1) := dk_172 (dk_at dksX25_number_4 8 rfl rfl)
abbrev cX25_want : ByteArray := prog_23_method_7_code
def yX25_want : MethodName := ⟨RX25, "want", "(Z)V"⟩
def dkwX25_want_0 : List UInt8 := [27, 154, 0, 15, 187, 0, 62, 89, 42, 180, 0, 44, 183, 0, 64, 191, 177]
abbrev dktX25_want_0 : List UInt8 := dkwX25_want_0 ++ []
theorem dksX25_want_0 : cX25_want.data.toList.drop 0 = dktX25_want_0 := by decide +kernel
theorem dX25_want_0 : decode cX25_want 0 = .ok (.iload_n 1, 1) := dk_27 (dk_at dksX25_want_0 0 rfl rfl)
theorem dX25_want_1 : decode cX25_want 1 = .ok (.ifCond .ne 15, 3) := dk_154 0 15 (dk_at dksX25_want_0 1 rfl rfl)
theorem dX25_want_4 : decode cX25_want 4 = .ok (.new 62, 3) := dk_187 0 62 (dk_at dksX25_want_0 4 rfl rfl)
theorem dX25_want_7 : decode cX25_want 7 = .ok (.dup, 1) := dk_89 (dk_at dksX25_want_0 7 rfl rfl)
theorem dX25_want_8 : decode cX25_want 8 = .ok (.aload_n 0, 1) := dk_42 (dk_at dksX25_want_0 8 rfl rfl)
theorem dX25_want_9 : decode cX25_want 9 = .ok (.getfield 44, 3) := dk_180 0 44 (dk_at dksX25_want_0 9 rfl rfl)
theorem dX25_want_12 : decode cX25_want 12 = .ok (.invokespecial 64, 3) := dk_183 0 64 (dk_at dksX25_want_0 12 rfl rfl)
theorem dX25_want_15 : decode cX25_want 15 = .ok (.athrow, 1) := dk_191 (dk_at dksX25_want_0 15 rfl rfl)
theorem dX25_want_16 : decode cX25_want 16 = .ok (.return_, 1) := dk_177 (dk_at dksX25_want_0 16 rfl rfl)
abbrev cX25_commandFor : ByteArray := prog_23_method_13_code
def yX25_commandFor : MethodName := ⟨RX25, "commandFor", "(Ljava/lang/String;)LCribBooklet$Command;"⟩
def dkwX25_commandFor_11 : List UInt8 := [176, 42, 182, 0, 152, 176, 187, 0, 154, 89, 42, 182, 0, 88, 183, 0, 156, 176]
abbrev dktX25_commandFor_11 : List UInt8 := dkwX25_commandFor_11 ++ []
def dkwX25_commandFor_10 : List UInt8 := [187, 0, 146, 89, 42, 6, 182, 0, 139, 183, 0, 148, 176, 187, 0, 149, 89, 42, 182, 0, 88, 183, 0, 151]
abbrev dktX25_commandFor_10 : List UInt8 := dkwX25_commandFor_10 ++ dktX25_commandFor_11
def dkwX25_commandFor_9 : List UInt8 := [160, 0, 7, 4, 167, 0, 4, 3, 183, 0, 142, 176, 187, 0, 143, 89, 42, 182, 0, 88, 183, 0, 145, 176]
abbrev dktX25_commandFor_9 : List UInt8 := dkwX25_commandFor_9 ++ dktX25_commandFor_10
def dkwX25_commandFor_8 : List UInt8 := [42, 182, 0, 130, 176, 187, 0, 134, 89, 183, 0, 136, 176, 187, 0, 137, 89, 42, 5, 182, 0, 139, 5]
abbrev dktX25_commandFor_8 : List UInt8 := dkwX25_commandFor_8 ++ dktX25_commandFor_9
def dkwX25_commandFor_7 : List UInt8 := [170, 0, 0, 0, 0, 0, 120, 0, 0, 0, 0, 0, 0, 0, 6, 0, 0, 0, 43, 0, 0, 0, 48, 0, 0, 0, 56, 0, 0, 0, 78, 0, 0, 0, 90, 0, 0, 0, 103, 0, 0, 0, 115]
abbrev dktX25_commandFor_7 : List UInt8 := dkwX25_commandFor_7 ++ dktX25_commandFor_8
def dkwX25_commandFor_6 : List UInt8 := [62, 29]
abbrev dktX25_commandFor_6 : List UInt8 := dkwX25_commandFor_6 ++ dktX25_commandFor_7
def dkwX25_commandFor_5 : List UInt8 := [18, 126, 182, 0, 115, 153, 0, 20, 8, 62, 167, 0, 15, 44, 18, 128, 182, 0, 115, 153, 0, 6, 16, 6]
abbrev dktX25_commandFor_5 : List UInt8 := dkwX25_commandFor_5 ++ dktX25_commandFor_6
def dkwX25_commandFor_4 : List UInt8 := [153, 0, 48, 6, 62, 167, 0, 43, 44, 18, 124, 182, 0, 115, 153, 0, 34, 7, 62, 167, 0, 29, 44]
abbrev dktX25_commandFor_4 : List UInt8 := dkwX25_commandFor_4 ++ dktX25_commandFor_5
def dkwX25_commandFor_3 : List UInt8 := [62, 167, 0, 71, 44, 18, 120, 182, 0, 115, 153, 0, 62, 5, 62, 167, 0, 57, 44, 18, 122, 182, 0, 115]
abbrev dktX25_commandFor_3 : List UInt8 := dkwX25_commandFor_3 ++ dktX25_commandFor_4
def dkwX25_commandFor_2 : List UInt8 := [44, 18, 114, 182, 0, 115, 153, 0, 90, 3, 62, 167, 0, 85, 44, 18, 118, 182, 0, 115, 153, 0, 76, 4]
abbrev dktX25_commandFor_2 : List UInt8 := dkwX25_commandFor_2 ++ dktX25_commandFor_3
def dkwX25_commandFor_1 : List UInt8 := [171, 0, 0, 0, 0, 0, 0, 164, 0, 0, 0, 7, 202, 205, 191, 201, 0, 0, 0, 138, 205, 229, 38, 26, 0, 0, 0, 82, 0, 1, 130, 66, 0, 0, 0, 124, 0, 51, 175, 242, 0, 0, 0, 152, 6, 95, 178, 173, 0, 0, 0, 110, 6, 133, 93, 95, 0, 0, 0, 68, 6, 137, 16, 99, 0, 0, 0, 96]
abbrev dktX25_commandFor_1 : List UInt8 := dkwX25_commandFor_1 ++ dktX25_commandFor_2
def dkwX25_commandFor_0 : List UInt8 := [43, 77, 2, 62, 44, 182, 0, 111]
abbrev dktX25_commandFor_0 : List UInt8 := dkwX25_commandFor_0 ++ dktX25_commandFor_1
theorem dksX25_commandFor_0 : cX25_commandFor.data.toList.drop 0 = dktX25_commandFor_0 := by decide +kernel
theorem dksX25_commandFor_1 : cX25_commandFor.data.toList.drop 8 = dktX25_commandFor_1 := dk_seg dksX25_commandFor_0 8 rfl rfl
theorem dksX25_commandFor_2 : cX25_commandFor.data.toList.drop 76 = dktX25_commandFor_2 := dk_seg dksX25_commandFor_1 68 rfl rfl
theorem dksX25_commandFor_3 : cX25_commandFor.data.toList.drop 100 = dktX25_commandFor_3 := dk_seg dksX25_commandFor_2 24 rfl rfl
theorem dksX25_commandFor_4 : cX25_commandFor.data.toList.drop 124 = dktX25_commandFor_4 := dk_seg dksX25_commandFor_3 24 rfl rfl
theorem dksX25_commandFor_5 : cX25_commandFor.data.toList.drop 147 = dktX25_commandFor_5 := dk_seg dksX25_commandFor_4 23 rfl rfl
theorem dksX25_commandFor_6 : cX25_commandFor.data.toList.drop 171 = dktX25_commandFor_6 := dk_seg dksX25_commandFor_5 24 rfl rfl
theorem dksX25_commandFor_7 : cX25_commandFor.data.toList.drop 173 = dktX25_commandFor_7 := dk_seg dksX25_commandFor_6 2 rfl rfl
theorem dksX25_commandFor_8 : cX25_commandFor.data.toList.drop 216 = dktX25_commandFor_8 := dk_seg dksX25_commandFor_7 43 rfl rfl
theorem dksX25_commandFor_9 : cX25_commandFor.data.toList.drop 239 = dktX25_commandFor_9 := dk_seg dksX25_commandFor_8 23 rfl rfl
theorem dksX25_commandFor_10 : cX25_commandFor.data.toList.drop 263 = dktX25_commandFor_10 := dk_seg dksX25_commandFor_9 24 rfl rfl
theorem dksX25_commandFor_11 : cX25_commandFor.data.toList.drop 287 = dktX25_commandFor_11 := dk_seg dksX25_commandFor_10 24 rfl rfl
theorem dX25_commandFor_0 : decode cX25_commandFor 0 = .ok (.aload_n 1, 1) := dk_43 (dk_at dksX25_commandFor_0 0 rfl rfl)
theorem dX25_commandFor_1 : decode cX25_commandFor 1 = .ok (.astore_n 2, 1) := dk_77 (dk_at dksX25_commandFor_0 1 rfl rfl)
theorem dX25_commandFor_2 : decode cX25_commandFor 2 = .ok (.iconst (-1), 1) := dk_2 (dk_at dksX25_commandFor_0 2 rfl rfl)
theorem dX25_commandFor_3 : decode cX25_commandFor 3 = .ok (.istore_n 3, 1) := dk_62 (dk_at dksX25_commandFor_0 3 rfl rfl)
theorem dX25_commandFor_4 : decode cX25_commandFor 4 = .ok (.aload_n 2, 1) := dk_44 (dk_at dksX25_commandFor_0 4 rfl rfl)
theorem dX25_commandFor_5 : decode cX25_commandFor 5 = .ok (.invokevirtual 111, 3) := dk_182 0 111 (dk_at dksX25_commandFor_0 5 rfl rfl)
theorem dX25_commandFor_8 : decode cX25_commandFor 8 = .ok (.lookupswitch 164 #[(-892485687, 138), (-840620518, 82), (98882, 124), (3387378, 152), (106934957, 110), (109403487, 68), (109645923, 96)], 68) := by decide +kernel
theorem dX25_commandFor_76 : decode cX25_commandFor 76 = .ok (.aload_n 2, 1) := dk_44 (dk_at dksX25_commandFor_2 0 rfl rfl)
theorem dX25_commandFor_77 : decode cX25_commandFor 77 = .ok (.ldc 114, 2) := dk_18 114 (dk_at dksX25_commandFor_2 1 rfl rfl)
theorem dX25_commandFor_79 : decode cX25_commandFor 79 = .ok (.invokevirtual 115, 3) := dk_182 0 115 (dk_at dksX25_commandFor_2 3 rfl rfl)
theorem dX25_commandFor_82 : decode cX25_commandFor 82 = .ok (.ifCond .eq 90, 3) := dk_153 0 90 (dk_at dksX25_commandFor_2 6 rfl rfl)
theorem dX25_commandFor_85 : decode cX25_commandFor 85 = .ok (.iconst 0, 1) := dk_3 (dk_at dksX25_commandFor_2 9 rfl rfl)
theorem dX25_commandFor_86 : decode cX25_commandFor 86 = .ok (.istore_n 3, 1) := dk_62 (dk_at dksX25_commandFor_2 10 rfl rfl)
theorem dX25_commandFor_87 : decode cX25_commandFor 87 = .ok (.goto 85, 3) := dk_167 0 85 (dk_at dksX25_commandFor_2 11 rfl rfl)
theorem dX25_commandFor_90 : decode cX25_commandFor 90 = .ok (.aload_n 2, 1) := dk_44 (dk_at dksX25_commandFor_2 14 rfl rfl)
theorem dX25_commandFor_91 : decode cX25_commandFor 91 = .ok (.ldc 118, 2) := dk_18 118 (dk_at dksX25_commandFor_2 15 rfl rfl)
theorem dX25_commandFor_93 : decode cX25_commandFor 93 = .ok (.invokevirtual 115, 3) := dk_182 0 115 (dk_at dksX25_commandFor_2 17 rfl rfl)
theorem dX25_commandFor_96 : decode cX25_commandFor 96 = .ok (.ifCond .eq 76, 3) := dk_153 0 76 (dk_at dksX25_commandFor_2 20 rfl rfl)
theorem dX25_commandFor_99 : decode cX25_commandFor 99 = .ok (.iconst 1, 1) := dk_4 (dk_at dksX25_commandFor_2 23 rfl rfl)
theorem dX25_commandFor_100 : decode cX25_commandFor 100 = .ok (.istore_n 3, 1) := dk_62 (dk_at dksX25_commandFor_3 0 rfl rfl)
theorem dX25_commandFor_101 : decode cX25_commandFor 101 = .ok (.goto 71, 3) := dk_167 0 71 (dk_at dksX25_commandFor_3 1 rfl rfl)
theorem dX25_commandFor_104 : decode cX25_commandFor 104 = .ok (.aload_n 2, 1) := dk_44 (dk_at dksX25_commandFor_3 4 rfl rfl)
theorem dX25_commandFor_105 : decode cX25_commandFor 105 = .ok (.ldc 120, 2) := dk_18 120 (dk_at dksX25_commandFor_3 5 rfl rfl)
theorem dX25_commandFor_107 : decode cX25_commandFor 107 = .ok (.invokevirtual 115, 3) := dk_182 0 115 (dk_at dksX25_commandFor_3 7 rfl rfl)
theorem dX25_commandFor_110 : decode cX25_commandFor 110 = .ok (.ifCond .eq 62, 3) := dk_153 0 62 (dk_at dksX25_commandFor_3 10 rfl rfl)
theorem dX25_commandFor_113 : decode cX25_commandFor 113 = .ok (.iconst 2, 1) := dk_5 (dk_at dksX25_commandFor_3 13 rfl rfl)
theorem dX25_commandFor_114 : decode cX25_commandFor 114 = .ok (.istore_n 3, 1) := dk_62 (dk_at dksX25_commandFor_3 14 rfl rfl)
theorem dX25_commandFor_115 : decode cX25_commandFor 115 = .ok (.goto 57, 3) := dk_167 0 57 (dk_at dksX25_commandFor_3 15 rfl rfl)
theorem dX25_commandFor_118 : decode cX25_commandFor 118 = .ok (.aload_n 2, 1) := dk_44 (dk_at dksX25_commandFor_3 18 rfl rfl)
theorem dX25_commandFor_119 : decode cX25_commandFor 119 = .ok (.ldc 122, 2) := dk_18 122 (dk_at dksX25_commandFor_3 19 rfl rfl)
theorem dX25_commandFor_121 : decode cX25_commandFor 121 = .ok (.invokevirtual 115, 3) := dk_182 0 115 (dk_at dksX25_commandFor_3 21 rfl rfl)
theorem dX25_commandFor_124 : decode cX25_commandFor 124 = .ok (.ifCond .eq 48, 3) := dk_153 0 48 (dk_at dksX25_commandFor_4 0 rfl rfl)
theorem dX25_commandFor_127 : decode cX25_commandFor 127 = .ok (.iconst 3, 1) := dk_6 (dk_at dksX25_commandFor_4 3 rfl rfl)
theorem dX25_commandFor_128 : decode cX25_commandFor 128 = .ok (.istore_n 3, 1) := dk_62 (dk_at dksX25_commandFor_4 4 rfl rfl)
theorem dX25_commandFor_129 : decode cX25_commandFor 129 = .ok (.goto 43, 3) := dk_167 0 43 (dk_at dksX25_commandFor_4 5 rfl rfl)
theorem dX25_commandFor_132 : decode cX25_commandFor 132 = .ok (.aload_n 2, 1) := dk_44 (dk_at dksX25_commandFor_4 8 rfl rfl)
theorem dX25_commandFor_133 : decode cX25_commandFor 133 = .ok (.ldc 124, 2) := dk_18 124 (dk_at dksX25_commandFor_4 9 rfl rfl)
theorem dX25_commandFor_135 : decode cX25_commandFor 135 = .ok (.invokevirtual 115, 3) := dk_182 0 115 (dk_at dksX25_commandFor_4 11 rfl rfl)
theorem dX25_commandFor_138 : decode cX25_commandFor 138 = .ok (.ifCond .eq 34, 3) := dk_153 0 34 (dk_at dksX25_commandFor_4 14 rfl rfl)
theorem dX25_commandFor_141 : decode cX25_commandFor 141 = .ok (.iconst 4, 1) := dk_7 (dk_at dksX25_commandFor_4 17 rfl rfl)
theorem dX25_commandFor_142 : decode cX25_commandFor 142 = .ok (.istore_n 3, 1) := dk_62 (dk_at dksX25_commandFor_4 18 rfl rfl)
theorem dX25_commandFor_143 : decode cX25_commandFor 143 = .ok (.goto 29, 3) := dk_167 0 29 (dk_at dksX25_commandFor_4 19 rfl rfl)
theorem dX25_commandFor_146 : decode cX25_commandFor 146 = .ok (.aload_n 2, 1) := dk_44 (dk_at dksX25_commandFor_4 22 rfl rfl)
theorem dX25_commandFor_147 : decode cX25_commandFor 147 = .ok (.ldc 126, 2) := dk_18 126 (dk_at dksX25_commandFor_5 0 rfl rfl)
theorem dX25_commandFor_149 : decode cX25_commandFor 149 = .ok (.invokevirtual 115, 3) := dk_182 0 115 (dk_at dksX25_commandFor_5 2 rfl rfl)
theorem dX25_commandFor_152 : decode cX25_commandFor 152 = .ok (.ifCond .eq 20, 3) := dk_153 0 20 (dk_at dksX25_commandFor_5 5 rfl rfl)
theorem dX25_commandFor_155 : decode cX25_commandFor 155 = .ok (.iconst 5, 1) := dk_8 (dk_at dksX25_commandFor_5 8 rfl rfl)
theorem dX25_commandFor_156 : decode cX25_commandFor 156 = .ok (.istore_n 3, 1) := dk_62 (dk_at dksX25_commandFor_5 9 rfl rfl)
theorem dX25_commandFor_157 : decode cX25_commandFor 157 = .ok (.goto 15, 3) := dk_167 0 15 (dk_at dksX25_commandFor_5 10 rfl rfl)
theorem dX25_commandFor_160 : decode cX25_commandFor 160 = .ok (.aload_n 2, 1) := dk_44 (dk_at dksX25_commandFor_5 13 rfl rfl)
theorem dX25_commandFor_161 : decode cX25_commandFor 161 = .ok (.ldc 128, 2) := dk_18 128 (dk_at dksX25_commandFor_5 14 rfl rfl)
theorem dX25_commandFor_163 : decode cX25_commandFor 163 = .ok (.invokevirtual 115, 3) := dk_182 0 115 (dk_at dksX25_commandFor_5 16 rfl rfl)
theorem dX25_commandFor_166 : decode cX25_commandFor 166 = .ok (.ifCond .eq 6, 3) := dk_153 0 6 (dk_at dksX25_commandFor_5 19 rfl rfl)
theorem dX25_commandFor_169 : decode cX25_commandFor 169 = .ok (.bipush 6, 2) := dk_16 6 (dk_at dksX25_commandFor_5 22 rfl rfl)
theorem dX25_commandFor_171 : decode cX25_commandFor 171 = .ok (.istore_n 3, 1) := dk_62 (dk_at dksX25_commandFor_6 0 rfl rfl)
theorem dX25_commandFor_172 : decode cX25_commandFor 172 = .ok (.iload_n 3, 1) := dk_29 (dk_at dksX25_commandFor_6 1 rfl rfl)
theorem dX25_commandFor_173 : decode cX25_commandFor 173 = .ok (.tableswitch 120 0 6 #[43, 48, 56, 78, 90, 103, 115], 43) := by decide +kernel
theorem dX25_commandFor_216 : decode cX25_commandFor 216 = .ok (.aload_n 0, 1) := dk_42 (dk_at dksX25_commandFor_8 0 rfl rfl)
theorem dX25_commandFor_217 : decode cX25_commandFor 217 = .ok (.invokevirtual 130, 3) := dk_182 0 130 (dk_at dksX25_commandFor_8 1 rfl rfl)
theorem dX25_commandFor_220 : decode cX25_commandFor 220 = .ok (.areturn, 1) := dk_176 (dk_at dksX25_commandFor_8 4 rfl rfl)
theorem dX25_commandFor_221 : decode cX25_commandFor 221 = .ok (.new 134, 3) := dk_187 0 134 (dk_at dksX25_commandFor_8 5 rfl rfl)
theorem dX25_commandFor_224 : decode cX25_commandFor 224 = .ok (.dup, 1) := dk_89 (dk_at dksX25_commandFor_8 8 rfl rfl)
theorem dX25_commandFor_225 : decode cX25_commandFor 225 = .ok (.invokespecial 136, 3) := dk_183 0 136 (dk_at dksX25_commandFor_8 9 rfl rfl)
theorem dX25_commandFor_228 : decode cX25_commandFor 228 = .ok (.areturn, 1) := dk_176 (dk_at dksX25_commandFor_8 12 rfl rfl)
theorem dX25_commandFor_229 : decode cX25_commandFor 229 = .ok (.new 137, 3) := dk_187 0 137 (dk_at dksX25_commandFor_8 13 rfl rfl)
theorem dX25_commandFor_232 : decode cX25_commandFor 232 = .ok (.dup, 1) := dk_89 (dk_at dksX25_commandFor_8 16 rfl rfl)
theorem dX25_commandFor_233 : decode cX25_commandFor 233 = .ok (.aload_n 0, 1) := dk_42 (dk_at dksX25_commandFor_8 17 rfl rfl)
theorem dX25_commandFor_234 : decode cX25_commandFor 234 = .ok (.iconst 2, 1) := dk_5 (dk_at dksX25_commandFor_8 18 rfl rfl)
theorem dX25_commandFor_235 : decode cX25_commandFor 235 = .ok (.invokevirtual 139, 3) := dk_182 0 139 (dk_at dksX25_commandFor_8 19 rfl rfl)
theorem dX25_commandFor_238 : decode cX25_commandFor 238 = .ok (.iconst 2, 1) := dk_5 (dk_at dksX25_commandFor_8 22 rfl rfl)
theorem dX25_commandFor_239 : decode cX25_commandFor 239 = .ok (.if_icmp .ne 7, 3) := dk_160 0 7 (dk_at dksX25_commandFor_9 0 rfl rfl)
theorem dX25_commandFor_242 : decode cX25_commandFor 242 = .ok (.iconst 1, 1) := dk_4 (dk_at dksX25_commandFor_9 3 rfl rfl)
theorem dX25_commandFor_243 : decode cX25_commandFor 243 = .ok (.goto 4, 3) := dk_167 0 4 (dk_at dksX25_commandFor_9 4 rfl rfl)
theorem dX25_commandFor_246 : decode cX25_commandFor 246 = .ok (.iconst 0, 1) := dk_3 (dk_at dksX25_commandFor_9 7 rfl rfl)
theorem dX25_commandFor_247 : decode cX25_commandFor 247 = .ok (.invokespecial 142, 3) := dk_183 0 142 (dk_at dksX25_commandFor_9 8 rfl rfl)
theorem dX25_commandFor_250 : decode cX25_commandFor 250 = .ok (.areturn, 1) := dk_176 (dk_at dksX25_commandFor_9 11 rfl rfl)
theorem dX25_commandFor_251 : decode cX25_commandFor 251 = .ok (.new 143, 3) := dk_187 0 143 (dk_at dksX25_commandFor_9 12 rfl rfl)
theorem dX25_commandFor_254 : decode cX25_commandFor 254 = .ok (.dup, 1) := dk_89 (dk_at dksX25_commandFor_9 15 rfl rfl)
theorem dX25_commandFor_255 : decode cX25_commandFor 255 = .ok (.aload_n 0, 1) := dk_42 (dk_at dksX25_commandFor_9 16 rfl rfl)
theorem dX25_commandFor_256 : decode cX25_commandFor 256 = .ok (.invokevirtual 88, 3) := dk_182 0 88 (dk_at dksX25_commandFor_9 17 rfl rfl)
theorem dX25_commandFor_259 : decode cX25_commandFor 259 = .ok (.invokespecial 145, 3) := dk_183 0 145 (dk_at dksX25_commandFor_9 20 rfl rfl)
theorem dX25_commandFor_262 : decode cX25_commandFor 262 = .ok (.areturn, 1) := dk_176 (dk_at dksX25_commandFor_9 23 rfl rfl)
theorem dX25_commandFor_263 : decode cX25_commandFor 263 = .ok (.new 146, 3) := dk_187 0 146 (dk_at dksX25_commandFor_10 0 rfl rfl)
theorem dX25_commandFor_266 : decode cX25_commandFor 266 = .ok (.dup, 1) := dk_89 (dk_at dksX25_commandFor_10 3 rfl rfl)
theorem dX25_commandFor_267 : decode cX25_commandFor 267 = .ok (.aload_n 0, 1) := dk_42 (dk_at dksX25_commandFor_10 4 rfl rfl)
theorem dX25_commandFor_268 : decode cX25_commandFor 268 = .ok (.iconst 3, 1) := dk_6 (dk_at dksX25_commandFor_10 5 rfl rfl)
theorem dX25_commandFor_269 : decode cX25_commandFor 269 = .ok (.invokevirtual 139, 3) := dk_182 0 139 (dk_at dksX25_commandFor_10 6 rfl rfl)
theorem dX25_commandFor_272 : decode cX25_commandFor 272 = .ok (.invokespecial 148, 3) := dk_183 0 148 (dk_at dksX25_commandFor_10 9 rfl rfl)
theorem dX25_commandFor_275 : decode cX25_commandFor 275 = .ok (.areturn, 1) := dk_176 (dk_at dksX25_commandFor_10 12 rfl rfl)
theorem dX25_commandFor_276 : decode cX25_commandFor 276 = .ok (.new 149, 3) := dk_187 0 149 (dk_at dksX25_commandFor_10 13 rfl rfl)
theorem dX25_commandFor_279 : decode cX25_commandFor 279 = .ok (.dup, 1) := dk_89 (dk_at dksX25_commandFor_10 16 rfl rfl)
theorem dX25_commandFor_280 : decode cX25_commandFor 280 = .ok (.aload_n 0, 1) := dk_42 (dk_at dksX25_commandFor_10 17 rfl rfl)
theorem dX25_commandFor_281 : decode cX25_commandFor 281 = .ok (.invokevirtual 88, 3) := dk_182 0 88 (dk_at dksX25_commandFor_10 18 rfl rfl)
theorem dX25_commandFor_284 : decode cX25_commandFor 284 = .ok (.invokespecial 151, 3) := dk_183 0 151 (dk_at dksX25_commandFor_10 21 rfl rfl)
theorem dX25_commandFor_287 : decode cX25_commandFor 287 = .ok (.areturn, 1) := dk_176 (dk_at dksX25_commandFor_11 0 rfl rfl)
theorem dX25_commandFor_288 : decode cX25_commandFor 288 = .ok (.aload_n 0, 1) := dk_42 (dk_at dksX25_commandFor_11 1 rfl rfl)
theorem dX25_commandFor_289 : decode cX25_commandFor 289 = .ok (.invokevirtual 152, 3) := dk_182 0 152 (dk_at dksX25_commandFor_11 2 rfl rfl)
theorem dX25_commandFor_292 : decode cX25_commandFor 292 = .ok (.areturn, 1) := dk_176 (dk_at dksX25_commandFor_11 5 rfl rfl)
theorem dX25_commandFor_293 : decode cX25_commandFor 293 = .ok (.new 154, 3) := dk_187 0 154 (dk_at dksX25_commandFor_11 6 rfl rfl)
theorem dX25_commandFor_296 : decode cX25_commandFor 296 = .ok (.dup, 1) := dk_89 (dk_at dksX25_commandFor_11 9 rfl rfl)
theorem dX25_commandFor_297 : decode cX25_commandFor 297 = .ok (.aload_n 0, 1) := dk_42 (dk_at dksX25_commandFor_11 10 rfl rfl)
theorem dX25_commandFor_298 : decode cX25_commandFor 298 = .ok (.invokevirtual 88, 3) := dk_182 0 88 (dk_at dksX25_commandFor_11 11 rfl rfl)
theorem dX25_commandFor_301 : decode cX25_commandFor 301 = .ok (.invokespecial 156, 3) := dk_183 0 156 (dk_at dksX25_commandFor_11 14 rfl rfl)
theorem dX25_commandFor_304 : decode cX25_commandFor 304 = .ok (.areturn, 1) := dk_176 (dk_at dksX25_commandFor_11 17 rfl rfl)
abbrev cX25_sheetOfSize : ByteArray := prog_23_method_12_code
def yX25_sheetOfSize : MethodName := ⟨RX25, "sheetOfSize", "()LCribBooklet$Command;"⟩
def dkwX25_sheetOfSize_0 : List UInt8 := [42, 182, 0, 88, 60, 187, 0, 106, 89, 27, 42, 182, 0, 88, 183, 0, 108, 176]
abbrev dktX25_sheetOfSize_0 : List UInt8 := dkwX25_sheetOfSize_0 ++ []
theorem dksX25_sheetOfSize_0 : cX25_sheetOfSize.data.toList.drop 0 = dktX25_sheetOfSize_0 := by decide +kernel
theorem dX25_sheetOfSize_0 : decode cX25_sheetOfSize 0 = .ok (.aload_n 0, 1) := dk_42 (dk_at dksX25_sheetOfSize_0 0 rfl rfl)
theorem dX25_sheetOfSize_1 : decode cX25_sheetOfSize 1 = .ok (.invokevirtual 88, 3) := dk_182 0 88 (dk_at dksX25_sheetOfSize_0 1 rfl rfl)
theorem dX25_sheetOfSize_4 : decode cX25_sheetOfSize 4 = .ok (.istore_n 1, 1) := dk_60 (dk_at dksX25_sheetOfSize_0 4 rfl rfl)
theorem dX25_sheetOfSize_5 : decode cX25_sheetOfSize 5 = .ok (.new 106, 3) := dk_187 0 106 (dk_at dksX25_sheetOfSize_0 5 rfl rfl)
theorem dX25_sheetOfSize_8 : decode cX25_sheetOfSize 8 = .ok (.dup, 1) := dk_89 (dk_at dksX25_sheetOfSize_0 8 rfl rfl)
theorem dX25_sheetOfSize_9 : decode cX25_sheetOfSize 9 = .ok (.iload_n 1, 1) := dk_27 (dk_at dksX25_sheetOfSize_0 9 rfl rfl)
theorem dX25_sheetOfSize_10 : decode cX25_sheetOfSize 10 = .ok (.aload_n 0, 1) := dk_42 (dk_at dksX25_sheetOfSize_0 10 rfl rfl)
theorem dX25_sheetOfSize_11 : decode cX25_sheetOfSize 11 = .ok (.invokevirtual 88, 3) := dk_182 0 88 (dk_at dksX25_sheetOfSize_0 11 rfl rfl)
theorem dX25_sheetOfSize_14 : decode cX25_sheetOfSize 14 = .ok (.invokespecial 108, 3) := dk_183 0 108 (dk_at dksX25_sheetOfSize_0 14 rfl rfl)
theorem dX25_sheetOfSize_17 : decode cX25_sheetOfSize 17 = .ok (.areturn, 1) := dk_176 (dk_at dksX25_sheetOfSize_0 17 rfl rfl)
abbrev cX25_edge : ByteArray := prog_23_method_9_code
def yX25_edge : MethodName := ⟨RX25, "edge", "(I)I"⟩
def dkwX25_edge_3 : List UInt8 := [153, 0, 8, 28, 5, 160, 0, 7, 4, 167, 0, 4, 3, 182, 0, 67, 42, 182, 0, 71, 28, 172]
abbrev dktX25_edge_3 : List UInt8 := dkwX25_edge_3 ++ []
def dkwX25_edge_2 : List UInt8 := [153, 0, 7, 6, 167, 0, 5, 16, 247, 61, 42, 28, 16, 247, 159, 0, 21, 27, 6, 159, 0, 12, 28]
abbrev dktX25_edge_2 : List UInt8 := dkwX25_edge_2 ++ dktX25_edge_3
def dkwX25_edge_1 : List UInt8 := [167, 0, 31, 42, 18, 82, 182, 0, 76, 153, 0, 7, 4, 167, 0, 18, 42, 18, 84, 182, 0, 76]
abbrev dktX25_edge_1 : List UInt8 := dkwX25_edge_1 ++ dktX25_edge_2
def dkwX25_edge_0 : List UInt8 := [42, 18, 74, 182, 0, 76, 153, 0, 7, 3, 167, 0, 44, 42, 18, 80, 182, 0, 76, 153, 0, 7, 5]
abbrev dktX25_edge_0 : List UInt8 := dkwX25_edge_0 ++ dktX25_edge_1
theorem dksX25_edge_0 : cX25_edge.data.toList.drop 0 = dktX25_edge_0 := by decide +kernel
theorem dksX25_edge_1 : cX25_edge.data.toList.drop 23 = dktX25_edge_1 := dk_seg dksX25_edge_0 23 rfl rfl
theorem dksX25_edge_2 : cX25_edge.data.toList.drop 45 = dktX25_edge_2 := dk_seg dksX25_edge_1 22 rfl rfl
theorem dksX25_edge_3 : cX25_edge.data.toList.drop 68 = dktX25_edge_3 := dk_seg dksX25_edge_2 23 rfl rfl
theorem dX25_edge_0 : decode cX25_edge 0 = .ok (.aload_n 0, 1) := dk_42 (dk_at dksX25_edge_0 0 rfl rfl)
theorem dX25_edge_1 : decode cX25_edge 1 = .ok (.ldc 74, 2) := dk_18 74 (dk_at dksX25_edge_0 1 rfl rfl)
theorem dX25_edge_3 : decode cX25_edge 3 = .ok (.invokevirtual 76, 3) := dk_182 0 76 (dk_at dksX25_edge_0 3 rfl rfl)
theorem dX25_edge_6 : decode cX25_edge 6 = .ok (.ifCond .eq 7, 3) := dk_153 0 7 (dk_at dksX25_edge_0 6 rfl rfl)
theorem dX25_edge_9 : decode cX25_edge 9 = .ok (.iconst 0, 1) := dk_3 (dk_at dksX25_edge_0 9 rfl rfl)
theorem dX25_edge_10 : decode cX25_edge 10 = .ok (.goto 44, 3) := dk_167 0 44 (dk_at dksX25_edge_0 10 rfl rfl)
theorem dX25_edge_13 : decode cX25_edge 13 = .ok (.aload_n 0, 1) := dk_42 (dk_at dksX25_edge_0 13 rfl rfl)
theorem dX25_edge_14 : decode cX25_edge 14 = .ok (.ldc 80, 2) := dk_18 80 (dk_at dksX25_edge_0 14 rfl rfl)
theorem dX25_edge_16 : decode cX25_edge 16 = .ok (.invokevirtual 76, 3) := dk_182 0 76 (dk_at dksX25_edge_0 16 rfl rfl)
theorem dX25_edge_19 : decode cX25_edge 19 = .ok (.ifCond .eq 7, 3) := dk_153 0 7 (dk_at dksX25_edge_0 19 rfl rfl)
theorem dX25_edge_22 : decode cX25_edge 22 = .ok (.iconst 2, 1) := dk_5 (dk_at dksX25_edge_0 22 rfl rfl)
theorem dX25_edge_23 : decode cX25_edge 23 = .ok (.goto 31, 3) := dk_167 0 31 (dk_at dksX25_edge_1 0 rfl rfl)
theorem dX25_edge_26 : decode cX25_edge 26 = .ok (.aload_n 0, 1) := dk_42 (dk_at dksX25_edge_1 3 rfl rfl)
theorem dX25_edge_27 : decode cX25_edge 27 = .ok (.ldc 82, 2) := dk_18 82 (dk_at dksX25_edge_1 4 rfl rfl)
theorem dX25_edge_29 : decode cX25_edge 29 = .ok (.invokevirtual 76, 3) := dk_182 0 76 (dk_at dksX25_edge_1 6 rfl rfl)
theorem dX25_edge_32 : decode cX25_edge 32 = .ok (.ifCond .eq 7, 3) := dk_153 0 7 (dk_at dksX25_edge_1 9 rfl rfl)
theorem dX25_edge_35 : decode cX25_edge 35 = .ok (.iconst 1, 1) := dk_4 (dk_at dksX25_edge_1 12 rfl rfl)
theorem dX25_edge_36 : decode cX25_edge 36 = .ok (.goto 18, 3) := dk_167 0 18 (dk_at dksX25_edge_1 13 rfl rfl)
theorem dX25_edge_39 : decode cX25_edge 39 = .ok (.aload_n 0, 1) := dk_42 (dk_at dksX25_edge_1 16 rfl rfl)
theorem dX25_edge_40 : decode cX25_edge 40 = .ok (.ldc 84, 2) := dk_18 84 (dk_at dksX25_edge_1 17 rfl rfl)
theorem dX25_edge_42 : decode cX25_edge 42 = .ok (.invokevirtual 76, 3) := dk_182 0 76 (dk_at dksX25_edge_1 19 rfl rfl)
theorem dX25_edge_45 : decode cX25_edge 45 = .ok (.ifCond .eq 7, 3) := dk_153 0 7 (dk_at dksX25_edge_2 0 rfl rfl)
theorem dX25_edge_48 : decode cX25_edge 48 = .ok (.iconst 3, 1) := dk_6 (dk_at dksX25_edge_2 3 rfl rfl)
theorem dX25_edge_49 : decode cX25_edge 49 = .ok (.goto 5, 3) := dk_167 0 5 (dk_at dksX25_edge_2 4 rfl rfl)
theorem dX25_edge_52 : decode cX25_edge 52 = .ok (.bipush (-9), 2) := dk_16 247 (dk_at dksX25_edge_2 7 rfl rfl)
theorem dX25_edge_54 : decode cX25_edge 54 = .ok (.istore_n 2, 1) := dk_61 (dk_at dksX25_edge_2 9 rfl rfl)
theorem dX25_edge_55 : decode cX25_edge 55 = .ok (.aload_n 0, 1) := dk_42 (dk_at dksX25_edge_2 10 rfl rfl)
theorem dX25_edge_56 : decode cX25_edge 56 = .ok (.iload_n 2, 1) := dk_28 (dk_at dksX25_edge_2 11 rfl rfl)
theorem dX25_edge_57 : decode cX25_edge 57 = .ok (.bipush (-9), 2) := dk_16 247 (dk_at dksX25_edge_2 12 rfl rfl)
theorem dX25_edge_59 : decode cX25_edge 59 = .ok (.if_icmp .eq 21, 3) := dk_159 0 21 (dk_at dksX25_edge_2 14 rfl rfl)
theorem dX25_edge_62 : decode cX25_edge 62 = .ok (.iload_n 1, 1) := dk_27 (dk_at dksX25_edge_2 17 rfl rfl)
theorem dX25_edge_63 : decode cX25_edge 63 = .ok (.iconst 3, 1) := dk_6 (dk_at dksX25_edge_2 18 rfl rfl)
theorem dX25_edge_64 : decode cX25_edge 64 = .ok (.if_icmp .eq 12, 3) := dk_159 0 12 (dk_at dksX25_edge_2 19 rfl rfl)
theorem dX25_edge_67 : decode cX25_edge 67 = .ok (.iload_n 2, 1) := dk_28 (dk_at dksX25_edge_2 22 rfl rfl)
theorem dX25_edge_68 : decode cX25_edge 68 = .ok (.ifCond .eq 8, 3) := dk_153 0 8 (dk_at dksX25_edge_3 0 rfl rfl)
theorem dX25_edge_71 : decode cX25_edge 71 = .ok (.iload_n 2, 1) := dk_28 (dk_at dksX25_edge_3 3 rfl rfl)
theorem dX25_edge_72 : decode cX25_edge 72 = .ok (.iconst 2, 1) := dk_5 (dk_at dksX25_edge_3 4 rfl rfl)
theorem dX25_edge_73 : decode cX25_edge 73 = .ok (.if_icmp .ne 7, 3) := dk_160 0 7 (dk_at dksX25_edge_3 5 rfl rfl)
theorem dX25_edge_76 : decode cX25_edge 76 = .ok (.iconst 1, 1) := dk_4 (dk_at dksX25_edge_3 8 rfl rfl)
theorem dX25_edge_77 : decode cX25_edge 77 = .ok (.goto 4, 3) := dk_167 0 4 (dk_at dksX25_edge_3 9 rfl rfl)
theorem dX25_edge_80 : decode cX25_edge 80 = .ok (.iconst 0, 1) := dk_3 (dk_at dksX25_edge_3 12 rfl rfl)
theorem dX25_edge_81 : decode cX25_edge 81 = .ok (.invokevirtual 67, 3) := dk_182 0 67 (dk_at dksX25_edge_3 13 rfl rfl)
theorem dX25_edge_84 : decode cX25_edge 84 = .ok (.aload_n 0, 1) := dk_42 (dk_at dksX25_edge_3 16 rfl rfl)
theorem dX25_edge_85 : decode cX25_edge 85 = .ok (.invokevirtual 71, 3) := dk_182 0 71 (dk_at dksX25_edge_3 17 rfl rfl)
theorem dX25_edge_88 : decode cX25_edge 88 = .ok (.iload_n 2, 1) := dk_28 (dk_at dksX25_edge_3 20 rfl rfl)
theorem dX25_edge_89 : decode cX25_edge 89 = .ok (.ireturn, 1) := dk_172 (dk_at dksX25_edge_3 21 rfl rfl)
abbrev cX25_note : ByteArray := prog_23_method_11_code
def yX25_note : MethodName := ⟨RX25, "note", "()LCribBooklet$Command;"⟩
def dkwX25_note_2 : List UInt8 := [167, 0, 4, 3, 183, 0, 103, 176]
abbrev dktX25_note_2 : List UInt8 := dkwX25_note_2 ++ []
def dkwX25_note_1 : List UInt8 := [21, 4, 153, 0, 7, 42, 182, 0, 71, 187, 0, 101, 89, 27, 28, 29, 21, 4, 153, 0, 7, 4]
abbrev dktX25_note_1 : List UInt8 := dkwX25_note_1 ++ dktX25_note_2
def dkwX25_note_0 : List UInt8 := [42, 182, 0, 88, 60, 42, 182, 0, 88, 61, 42, 182, 0, 88, 62, 42, 18, 99, 182, 0, 76, 54, 4]
abbrev dktX25_note_0 : List UInt8 := dkwX25_note_0 ++ dktX25_note_1
theorem dksX25_note_0 : cX25_note.data.toList.drop 0 = dktX25_note_0 := by decide +kernel
theorem dksX25_note_1 : cX25_note.data.toList.drop 23 = dktX25_note_1 := dk_seg dksX25_note_0 23 rfl rfl
theorem dksX25_note_2 : cX25_note.data.toList.drop 45 = dktX25_note_2 := dk_seg dksX25_note_1 22 rfl rfl
theorem dX25_note_0 : decode cX25_note 0 = .ok (.aload_n 0, 1) := dk_42 (dk_at dksX25_note_0 0 rfl rfl)
theorem dX25_note_1 : decode cX25_note 1 = .ok (.invokevirtual 88, 3) := dk_182 0 88 (dk_at dksX25_note_0 1 rfl rfl)
theorem dX25_note_4 : decode cX25_note 4 = .ok (.istore_n 1, 1) := dk_60 (dk_at dksX25_note_0 4 rfl rfl)
theorem dX25_note_5 : decode cX25_note 5 = .ok (.aload_n 0, 1) := dk_42 (dk_at dksX25_note_0 5 rfl rfl)
theorem dX25_note_6 : decode cX25_note 6 = .ok (.invokevirtual 88, 3) := dk_182 0 88 (dk_at dksX25_note_0 6 rfl rfl)
theorem dX25_note_9 : decode cX25_note 9 = .ok (.istore_n 2, 1) := dk_61 (dk_at dksX25_note_0 9 rfl rfl)
theorem dX25_note_10 : decode cX25_note 10 = .ok (.aload_n 0, 1) := dk_42 (dk_at dksX25_note_0 10 rfl rfl)
theorem dX25_note_11 : decode cX25_note 11 = .ok (.invokevirtual 88, 3) := dk_182 0 88 (dk_at dksX25_note_0 11 rfl rfl)
theorem dX25_note_14 : decode cX25_note 14 = .ok (.istore_n 3, 1) := dk_62 (dk_at dksX25_note_0 14 rfl rfl)
theorem dX25_note_15 : decode cX25_note 15 = .ok (.aload_n 0, 1) := dk_42 (dk_at dksX25_note_0 15 rfl rfl)
theorem dX25_note_16 : decode cX25_note 16 = .ok (.ldc 99, 2) := dk_18 99 (dk_at dksX25_note_0 16 rfl rfl)
theorem dX25_note_18 : decode cX25_note 18 = .ok (.invokevirtual 76, 3) := dk_182 0 76 (dk_at dksX25_note_0 18 rfl rfl)
theorem dX25_note_21 : decode cX25_note 21 = .ok (.istore 4, 2) := dk_54 4 (dk_at dksX25_note_0 21 rfl rfl)
theorem dX25_note_23 : decode cX25_note 23 = .ok (.iload 4, 2) := dk_21 4 (dk_at dksX25_note_1 0 rfl rfl)
theorem dX25_note_25 : decode cX25_note 25 = .ok (.ifCond .eq 7, 3) := dk_153 0 7 (dk_at dksX25_note_1 2 rfl rfl)
theorem dX25_note_28 : decode cX25_note 28 = .ok (.aload_n 0, 1) := dk_42 (dk_at dksX25_note_1 5 rfl rfl)
theorem dX25_note_29 : decode cX25_note 29 = .ok (.invokevirtual 71, 3) := dk_182 0 71 (dk_at dksX25_note_1 6 rfl rfl)
theorem dX25_note_32 : decode cX25_note 32 = .ok (.new 101, 3) := dk_187 0 101 (dk_at dksX25_note_1 9 rfl rfl)
theorem dX25_note_35 : decode cX25_note 35 = .ok (.dup, 1) := dk_89 (dk_at dksX25_note_1 12 rfl rfl)
theorem dX25_note_36 : decode cX25_note 36 = .ok (.iload_n 1, 1) := dk_27 (dk_at dksX25_note_1 13 rfl rfl)
theorem dX25_note_37 : decode cX25_note 37 = .ok (.iload_n 2, 1) := dk_28 (dk_at dksX25_note_1 14 rfl rfl)
theorem dX25_note_38 : decode cX25_note 38 = .ok (.iload_n 3, 1) := dk_29 (dk_at dksX25_note_1 15 rfl rfl)
theorem dX25_note_39 : decode cX25_note 39 = .ok (.iload 4, 2) := dk_21 4 (dk_at dksX25_note_1 16 rfl rfl)
theorem dX25_note_41 : decode cX25_note 41 = .ok (.ifCond .eq 7, 3) := dk_153 0 7 (dk_at dksX25_note_1 18 rfl rfl)
theorem dX25_note_44 : decode cX25_note 44 = .ok (.iconst 1, 1) := dk_4 (dk_at dksX25_note_1 21 rfl rfl)
theorem dX25_note_45 : decode cX25_note 45 = .ok (.goto 4, 3) := dk_167 0 4 (dk_at dksX25_note_2 0 rfl rfl)
theorem dX25_note_48 : decode cX25_note 48 = .ok (.iconst 0, 1) := dk_3 (dk_at dksX25_note_2 3 rfl rfl)
theorem dX25_note_49 : decode cX25_note 49 = .ok (.invokespecial 103, 3) := dk_183 0 103 (dk_at dksX25_note_2 4 rfl rfl)
theorem dX25_note_52 : decode cX25_note 52 = .ok (.areturn, 1) := dk_176 (dk_at dksX25_note_2 7 rfl rfl)
theorem q139 : (Jvm.Cond.initialized "CribBooklet$Reader") ∈ lw_all := lw_g (lw_at lw_m1 53 rfl) rfl
theorem q718 : (Jvm.Cond.selects "CribBooklet$Reader" ({ cls := "java/lang/Object", name := "getClass", desc := "()Ljava/lang/Class;" } : Jvm.MethodName) ({ cls := "java/lang/Object", name := "getClass", desc := "()Ljava/lang/Class;" } : Jvm.MethodName)) ∈ lw_all := lw_g (lw_at lw_m3 152 rfl) rfl
theorem q1726 : (Jvm.Cond.instantiable "CribBooklet$Reader" (5 : Nat)) ∈ lw_all := lw_g (lw_at lw_m7 200 rfl) rfl
theorem q1728 : (Jvm.Cond.instanceMethod ({ cls := "CribBooklet$Reader", name := "<init>", desc := "(Ljava/lang/StringBuilder;LCribBooklet$Sheet;)V" } : Jvm.MethodName)) ∈ lw_all := lw_g (lw_at lw_m7 202 rfl) rfl
theorem q1729 : (Jvm.Cond.code ({ cls := "CribBooklet$Reader", name := "<init>", desc := "(Ljava/lang/StringBuilder;LCribBooklet$Sheet;)V" } : Jvm.MethodName) prog_23_method_1_code (3 : Nat) (Option.none : Option Jvm.ClassFile.FieldType)) ∈ lw_all := lw_g (lw_at lw_m7 203 rfl) rfl
theorem q1730 : (Jvm.Cond.methodLink "CribBooklet$Reader" (3 : Nat) ({ cls := "java/lang/Object", name := "<init>", desc := "()V" } : Jvm.MethodName)) ∈ lw_all := lw_g (lw_at lw_m7 204 rfl) rfl
theorem q1731 : (Jvm.Cond.classLink "CribBooklet$Reader" (9 : Nat) "java/util/ArrayList") ∈ lw_all := lw_g (lw_at lw_m7 205 rfl) rfl
theorem q1732 : (Jvm.Cond.methodLink "CribBooklet$Reader" (11 : Nat) ({ cls := "java/util/ArrayList", name := "<init>", desc := "()V" } : Jvm.MethodName)) ∈ lw_all := lw_g (lw_at lw_m7 206 rfl) rfl
theorem q1733 : (Jvm.Cond.fieldLink "CribBooklet$Reader" (18 : Nat) "CribBooklet$Reader" "text" "Ljava/lang/StringBuilder;") ∈ lw_all := lw_g (lw_at lw_m7 207 rfl) rfl
theorem q1734 : (Jvm.Cond.fieldLink "CribBooklet$Reader" (22 : Nat) "CribBooklet$Reader" "sheet" "LCribBooklet$Sheet;") ∈ lw_all := lw_g (lw_at lw_m7 208 rfl) rfl
theorem q1735 : (Jvm.Cond.fieldLink "CribBooklet$Reader" (44 : Nat) "CribBooklet$Reader" "begun" "I") ∈ lw_all := lw_g (lw_at lw_m7 209 rfl) rfl
theorem q1736 : (Jvm.Cond.fieldLink "CribBooklet$Reader" (40 : Nat) "CribBooklet$Reader" "ended" "I") ∈ lw_all := lw_g (lw_at lw_m7 210 rfl) rfl
theorem q1737 : (Jvm.Cond.fieldLink "CribBooklet$Reader" (12 : Nat) "CribBooklet$Reader" "commands" "Ljava/util/ArrayList;") ∈ lw_all := lw_g (lw_at lw_m7 211 rfl) rfl
theorem q1738 : (Jvm.Cond.laysFinal "CribBooklet$Reader" "CribBooklet$Reader" "text" "Ljava/lang/StringBuilder;") ∈ lw_all := lw_g (lw_at lw_m7 212 rfl) rfl
theorem q1739 : (Jvm.Cond.soleField "CribBooklet$Reader" "text") ∈ lw_all := lw_g (lw_at lw_m7 213 rfl) rfl
theorem q1740 : (Jvm.Cond.laysFinal "CribBooklet$Reader" "CribBooklet$Reader" "sheet" "LCribBooklet$Sheet;") ∈ lw_all := lw_g (lw_at lw_m7 214 rfl) rfl
theorem q1741 : (Jvm.Cond.soleField "CribBooklet$Reader" "sheet") ∈ lw_all := lw_g (lw_at lw_m7 215 rfl) rfl
theorem q1742 : (Jvm.Cond.lays "CribBooklet$Reader" "CribBooklet$Reader" "begun" "I") ∈ lw_all := lw_g (lw_at lw_m7 216 rfl) rfl
theorem q1743 : (Jvm.Cond.soleField "CribBooklet$Reader" "begun") ∈ lw_all := lw_g (lw_at lw_m7 217 rfl) rfl
theorem q1744 : (Jvm.Cond.lays "CribBooklet$Reader" "CribBooklet$Reader" "ended" "I") ∈ lw_all := lw_g (lw_at lw_m7 218 rfl) rfl
theorem q1745 : (Jvm.Cond.soleField "CribBooklet$Reader" "ended") ∈ lw_all := lw_g (lw_at lw_m7 219 rfl) rfl
theorem q1746 : (Jvm.Cond.laysFinal "CribBooklet$Reader" "CribBooklet$Reader" "commands" "Ljava/util/ArrayList;") ∈ lw_all := lw_g (lw_at lw_m7 220 rfl) rfl
theorem q1747 : (Jvm.Cond.soleField "CribBooklet$Reader" "commands") ∈ lw_all := lw_g (lw_at lw_m7 221 rfl) rfl
theorem q1748 : (Jvm.Cond.superclass "CribBooklet$Reader" "java/lang/Object") ∈ lw_all := lw_g (lw_at lw_m7 222 rfl) rfl
theorem q1750 : (Jvm.Cond.instanceMethod ({ cls := "CribBooklet$Reader", name := "runAll", desc := "()I" } : Jvm.MethodName)) ∈ lw_all := lw_g (lw_at lw_m7 224 rfl) rfl
theorem q1751 : (Jvm.Cond.selects "CribBooklet$Reader" ({ cls := "CribBooklet$Reader", name := "runAll", desc := "()I" } : Jvm.MethodName) ({ cls := "CribBooklet$Reader", name := "runAll", desc := "()I" } : Jvm.MethodName)) ∈ lw_all := lw_g (lw_at lw_m7 225 rfl) rfl
theorem q1752 : (Jvm.Cond.code ({ cls := "CribBooklet$Reader", name := "runAll", desc := "()I" } : Jvm.MethodName) prog_23_method_16_code (2 : Nat) (Option.some Jvm.ClassFile.FieldType.int)) ∈ lw_all := lw_g (lw_at lw_m7 226 rfl) rfl
theorem q1753 : (Jvm.Cond.methodLink "CribBooklet$Reader" (71 : Nat) ({ cls := "CribBooklet$Reader", name := "advance", desc := "()V" } : Jvm.MethodName)) ∈ lw_all := lw_g (lw_at lw_m7 227 rfl) rfl
theorem q1754 : (Jvm.Cond.privateMethod ({ cls := "CribBooklet$Reader", name := "advance", desc := "()V" } : Jvm.MethodName)) ∈ lw_tbl := lw_at lw_m7 228 rfl
theorem q1755 : (Jvm.Cond.instanceMethod ({ cls := "CribBooklet$Reader", name := "advance", desc := "()V" } : Jvm.MethodName)) ∈ lw_all := lw_g (lw_at lw_m7 229 rfl) rfl
theorem q1756 : (Jvm.Cond.code ({ cls := "CribBooklet$Reader", name := "advance", desc := "()V" } : Jvm.MethodName) prog_23_method_5_code (1 : Nat) (Option.none : Option Jvm.ClassFile.FieldType)) ∈ lw_all := lw_g (lw_at lw_m7 230 rfl) rfl
theorem q1757 : (Jvm.Cond.methodLink "CribBooklet$Reader" (47 : Nat) ({ cls := "CribBooklet$Reader", name := "at", desc := "(I)I" } : Jvm.MethodName)) ∈ lw_all := lw_g (lw_at lw_m7 231 rfl) rfl
theorem q1758 : (Jvm.Cond.privateMethod ({ cls := "CribBooklet$Reader", name := "at", desc := "(I)I" } : Jvm.MethodName)) ∈ lw_tbl := lw_at lw_m7 232 rfl
theorem q1759 : (Jvm.Cond.instanceMethod ({ cls := "CribBooklet$Reader", name := "at", desc := "(I)I" } : Jvm.MethodName)) ∈ lw_all := lw_g (lw_at lw_m7 233 rfl) rfl
theorem q1760 : (Jvm.Cond.code ({ cls := "CribBooklet$Reader", name := "at", desc := "(I)I" } : Jvm.MethodName) prog_23_method_2_code (2 : Nat) (Option.some Jvm.ClassFile.FieldType.int)) ∈ lw_all := lw_g (lw_at lw_m7 234 rfl) rfl
theorem q1761 : (Jvm.Cond.methodLink "CribBooklet$Reader" (26 : Nat) ({ cls := "java/lang/StringBuilder", name := "length", desc := "()I" } : Jvm.MethodName)) ∈ lw_all := lw_g (lw_at lw_m7 235 rfl) rfl
theorem q1762 : (Jvm.Cond.methodLink "CribBooklet$Reader" (32 : Nat) ({ cls := "java/lang/StringBuilder", name := "charAt", desc := "(I)C" } : Jvm.MethodName)) ∈ lw_all := lw_g (lw_at lw_m7 236 rfl) rfl
theorem q1774 : (Jvm.Cond.methodLink "CribBooklet$Reader" (51 : Nat) ({ cls := "CribBooklet$Reader", name := "isLetter", desc := "(I)Z" } : Jvm.MethodName)) ∈ lw_all := lw_g (lw_at lw_m8 8 rfl) rfl
theorem q1775 : (Jvm.Cond.static ({ cls := "CribBooklet$Reader", name := "isLetter", desc := "(I)Z" } : Jvm.MethodName)) ∈ lw_all := lw_g (lw_at lw_m8 9 rfl) rfl
theorem q1776 : (Jvm.Cond.code ({ cls := "CribBooklet$Reader", name := "isLetter", desc := "(I)Z" } : Jvm.MethodName) prog_23_method_3_code (1 : Nat) (Option.some Jvm.ClassFile.FieldType.boolean)) ∈ lw_all := lw_g (lw_at lw_m8 10 rfl) rfl
theorem q1777 : (Jvm.Cond.methodLinkNest "CribBooklet$Reader" (36 : Nat) ({ cls := "CribBooklet", name := "isIn", desc := "(III)Z" } : Jvm.MethodName) "CribBooklet") ∈ lw_tbl := lw_at lw_m8 11 rfl
theorem q1778 : (Jvm.Cond.methodLink "CribBooklet$Reader" (55 : Nat) ({ cls := "CribBooklet$Reader", name := "isDigit", desc := "(I)Z" } : Jvm.MethodName)) ∈ lw_all := lw_g (lw_at lw_m8 12 rfl) rfl
theorem q1779 : (Jvm.Cond.static ({ cls := "CribBooklet$Reader", name := "isDigit", desc := "(I)Z" } : Jvm.MethodName)) ∈ lw_all := lw_g (lw_at lw_m8 13 rfl) rfl
theorem q1780 : (Jvm.Cond.code ({ cls := "CribBooklet$Reader", name := "isDigit", desc := "(I)Z" } : Jvm.MethodName) prog_23_method_4_code (1 : Nat) (Option.some Jvm.ClassFile.FieldType.boolean)) ∈ lw_all := lw_g (lw_at lw_m8 14 rfl) rfl
theorem q1781 : (Jvm.Cond.methodLink "CribBooklet$Reader" (192 : Nat) ({ cls := "CribBooklet$Reader", name := "run", desc := "()V" } : Jvm.MethodName)) ∈ lw_all := lw_g (lw_at lw_m8 15 rfl) rfl
theorem q1782 : (Jvm.Cond.privateMethod ({ cls := "CribBooklet$Reader", name := "run", desc := "()V" } : Jvm.MethodName)) ∈ lw_tbl := lw_at lw_m8 16 rfl
theorem q1783 : (Jvm.Cond.instanceMethod ({ cls := "CribBooklet$Reader", name := "run", desc := "()V" } : Jvm.MethodName)) ∈ lw_all := lw_g (lw_at lw_m8 17 rfl) rfl
theorem q1784 : (Jvm.Cond.code ({ cls := "CribBooklet$Reader", name := "run", desc := "()V" } : Jvm.MethodName) prog_23_method_15_code (4 : Nat) (Option.none : Option Jvm.ClassFile.FieldType)) ∈ lw_all := lw_g (lw_at lw_m8 18 rfl) rfl
theorem q1785 : (Jvm.Cond.methodLink "CribBooklet$Reader" (161 : Nat) ({ cls := "CribBooklet$Reader", name := "word", desc := "()Ljava/lang/String;" } : Jvm.MethodName)) ∈ lw_all := lw_g (lw_at lw_m8 19 rfl) rfl
theorem q1786 : (Jvm.Cond.privateMethod ({ cls := "CribBooklet$Reader", name := "word", desc := "()Ljava/lang/String;" } : Jvm.MethodName)) ∈ lw_tbl := lw_at lw_m8 20 rfl
theorem q1787 : (Jvm.Cond.instanceMethod ({ cls := "CribBooklet$Reader", name := "word", desc := "()Ljava/lang/String;" } : Jvm.MethodName)) ∈ lw_all := lw_g (lw_at lw_m8 21 rfl) rfl
theorem q1788 : (Jvm.Cond.code ({ cls := "CribBooklet$Reader", name := "word", desc := "()Ljava/lang/String;" } : Jvm.MethodName) prog_23_method_14_code (2 : Nat) (Option.some (Jvm.ClassFile.FieldType.object "java/lang/String"))) ∈ lw_all := lw_g (lw_at lw_m8 22 rfl) rfl
theorem q1789 : (Jvm.Cond.fieldLink "CribBooklet$Reader" (157 : Nat) "CribBooklet$Reader" "WORDS" "[Ljava/lang/String;") ∈ lw_all := lw_g (lw_at lw_m8 23 rfl) rfl
theorem q1790 : (Jvm.Cond.laysStatic "CribBooklet$Reader" "WORDS" "[Ljava/lang/String;") ∈ lw_tbl := lw_at lw_m8 24 rfl
theorem q1791 : (Jvm.Cond.methodLink "CribBooklet$Reader" (76 : Nat) ({ cls := "CribBooklet$Reader", name := "isWord", desc := "(Ljava/lang/String;)Z" } : Jvm.MethodName)) ∈ lw_all := lw_g (lw_at lw_m8 25 rfl) rfl
theorem q1792 : (Jvm.Cond.privateMethod ({ cls := "CribBooklet$Reader", name := "isWord", desc := "(Ljava/lang/String;)Z" } : Jvm.MethodName)) ∈ lw_tbl := lw_at lw_m8 26 rfl
theorem q1793 : (Jvm.Cond.instanceMethod ({ cls := "CribBooklet$Reader", name := "isWord", desc := "(Ljava/lang/String;)Z" } : Jvm.MethodName)) ∈ lw_all := lw_g (lw_at lw_m8 27 rfl) rfl
theorem q1794 : (Jvm.Cond.code ({ cls := "CribBooklet$Reader", name := "isWord", desc := "(Ljava/lang/String;)Z" } : Jvm.MethodName) prog_23_method_6_code (4 : Nat) (Option.some Jvm.ClassFile.FieldType.boolean)) ∈ lw_all := lw_g (lw_at lw_m8 28 rfl) rfl
theorem q1795 : (Jvm.Cond.methodLink "CribBooklet$Reader" (58 : Nat) ({ cls := "java/lang/String", name := "length", desc := "()I" } : Jvm.MethodName)) ∈ lw_all := lw_g (lw_at lw_m8 29 rfl) rfl
theorem q1804 : (Jvm.Cond.methodLink "CribBooklet$Reader" (61 : Nat) ({ cls := "java/lang/String", name := "charAt", desc := "(I)C" } : Jvm.MethodName)) ∈ lw_all := lw_g (lw_at lw_m8 38 rfl) rfl
theorem q1820 : (Jvm.Cond.classLink "CribBooklet$Reader" (62 : Nat) "CribBooklet$Failure") ∈ lw_all := lw_g (lw_at lw_m8 54 rfl) rfl
theorem q1857 : (Jvm.Cond.methodLink "CribBooklet$Reader" (64 : Nat) ({ cls := "CribBooklet$Failure", name := "<init>", desc := "(I)V" } : Jvm.MethodName)) ∈ lw_all := lw_g (lw_at lw_m8 91 rfl) rfl
theorem q1883 : (Jvm.Cond.methodLink "CribBooklet$Reader" (165 : Nat) ({ cls := "java/util/ArrayList", name := "clear", desc := "()V" } : Jvm.MethodName)) ∈ lw_all := lw_g (lw_at lw_m8 117 rfl) rfl
theorem q1884 : (Jvm.Cond.stringRef "CribBooklet$Reader" (168 : Nat) "fold") ∈ lw_tbl := lw_at lw_m8 118 rfl
theorem q1885 : (Jvm.Cond.methodLink "CribBooklet$Reader" (115 : Nat) ({ cls := "java/lang/String", name := "equals", desc := "(Ljava/lang/Object;)Z" } : Jvm.MethodName)) ∈ lw_all := lw_g (lw_at lw_m8 119 rfl) rfl
theorem q1893 : (Jvm.Cond.methodLink "CribBooklet$Reader" (170 : Nat) ({ cls := "CribBooklet$Reader", name := "folds", desc := "()V" } : Jvm.MethodName)) ∈ lw_all := lw_g (lw_at lw_m8 127 rfl) rfl
theorem q1894 : (Jvm.Cond.privateMethod ({ cls := "CribBooklet$Reader", name := "folds", desc := "()V" } : Jvm.MethodName)) ∈ lw_tbl := lw_at lw_m8 128 rfl
theorem q1895 : (Jvm.Cond.instanceMethod ({ cls := "CribBooklet$Reader", name := "folds", desc := "()V" } : Jvm.MethodName)) ∈ lw_all := lw_g (lw_at lw_m8 129 rfl) rfl
theorem q1896 : (Jvm.Cond.code ({ cls := "CribBooklet$Reader", name := "folds", desc := "()V" } : Jvm.MethodName) prog_23_method_10_code (1 : Nat) (Option.none : Option Jvm.ClassFile.FieldType)) ∈ lw_all := lw_g (lw_at lw_m8 130 rfl) rfl
theorem q1897 : (Jvm.Cond.classLink "CribBooklet$Reader" (86 : Nat) "CribBooklet$Fold") ∈ lw_all := lw_g (lw_at lw_m8 131 rfl) rfl
theorem q1898 : (Jvm.Cond.methodLink "CribBooklet$Reader" (88 : Nat) ({ cls := "CribBooklet$Reader", name := "number", desc := "()I" } : Jvm.MethodName)) ∈ lw_all := lw_g (lw_at lw_m8 132 rfl) rfl
theorem q1899 : (Jvm.Cond.privateMethod ({ cls := "CribBooklet$Reader", name := "number", desc := "()I" } : Jvm.MethodName)) ∈ lw_tbl := lw_at lw_m8 133 rfl
theorem q1900 : (Jvm.Cond.instanceMethod ({ cls := "CribBooklet$Reader", name := "number", desc := "()I" } : Jvm.MethodName)) ∈ lw_all := lw_g (lw_at lw_m8 134 rfl) rfl
theorem q1901 : (Jvm.Cond.code ({ cls := "CribBooklet$Reader", name := "number", desc := "()I" } : Jvm.MethodName) prog_23_method_8_code (3 : Nat) (Option.some Jvm.ClassFile.FieldType.int)) ∈ lw_all := lw_g (lw_at lw_m8 135 rfl) rfl
theorem q1902 : (Jvm.Cond.methodLink "CribBooklet$Reader" (67 : Nat) ({ cls := "CribBooklet$Reader", name := "want", desc := "(Z)V" } : Jvm.MethodName)) ∈ lw_all := lw_g (lw_at lw_m8 136 rfl) rfl
theorem q1903 : (Jvm.Cond.privateMethod ({ cls := "CribBooklet$Reader", name := "want", desc := "(Z)V" } : Jvm.MethodName)) ∈ lw_tbl := lw_at lw_m8 137 rfl
theorem q1904 : (Jvm.Cond.instanceMethod ({ cls := "CribBooklet$Reader", name := "want", desc := "(Z)V" } : Jvm.MethodName)) ∈ lw_all := lw_g (lw_at lw_m8 138 rfl) rfl
theorem q1905 : (Jvm.Cond.code ({ cls := "CribBooklet$Reader", name := "want", desc := "(Z)V" } : Jvm.MethodName) prog_23_method_7_code (2 : Nat) (Option.none : Option Jvm.ClassFile.FieldType)) ∈ lw_all := lw_g (lw_at lw_m8 139 rfl) rfl
theorem q1906 : (Jvm.Cond.methodLinkNest "CribBooklet$Reader" (91 : Nat) ({ cls := "CribBooklet$Fold", name := "<init>", desc := "(I)V" } : Jvm.MethodName) "CribBooklet") ∈ lw_tbl := lw_at lw_m8 140 rfl
theorem q1907 : (Jvm.Cond.methodLink "CribBooklet$Reader" (92 : Nat) ({ cls := "java/util/ArrayList", name := "add", desc := "(Ljava/lang/Object;)Z" } : Jvm.MethodName)) ∈ lw_all := lw_g (lw_at lw_m8 141 rfl) rfl
theorem q1908 : (Jvm.Cond.methodLink "CribBooklet$Reader" (96 : Nat) ({ cls := "java/util/ArrayList", name := "size", desc := "()I" } : Jvm.MethodName)) ∈ lw_all := lw_g (lw_at lw_m8 142 rfl) rfl
theorem q1909 : (Jvm.Cond.methodLink "CribBooklet$Reader" (173 : Nat) ({ cls := "CribBooklet$Reader", name := "commandFor", desc := "(Ljava/lang/String;)LCribBooklet$Command;" } : Jvm.MethodName)) ∈ lw_all := lw_g (lw_at lw_m8 143 rfl) rfl
theorem q1910 : (Jvm.Cond.privateMethod ({ cls := "CribBooklet$Reader", name := "commandFor", desc := "(Ljava/lang/String;)LCribBooklet$Command;" } : Jvm.MethodName)) ∈ lw_tbl := lw_at lw_m8 144 rfl
theorem q1911 : (Jvm.Cond.instanceMethod ({ cls := "CribBooklet$Reader", name := "commandFor", desc := "(Ljava/lang/String;)LCribBooklet$Command;" } : Jvm.MethodName)) ∈ lw_all := lw_g (lw_at lw_m8 145 rfl) rfl
theorem q1912 : (Jvm.Cond.code ({ cls := "CribBooklet$Reader", name := "commandFor", desc := "(Ljava/lang/String;)LCribBooklet$Command;" } : Jvm.MethodName) prog_23_method_13_code (4 : Nat) (Option.some (Jvm.ClassFile.FieldType.object "CribBooklet$Command"))) ∈ lw_all := lw_g (lw_at lw_m8 146 rfl) rfl
theorem q1913 : (Jvm.Cond.methodLink "CribBooklet$Reader" (111 : Nat) ({ cls := "java/lang/String", name := "hashCode", desc := "()I" } : Jvm.MethodName)) ∈ lw_all := lw_g (lw_at lw_m8 147 rfl) rfl
theorem q1962 : (Jvm.Cond.stringRef "CribBooklet$Reader" (114 : Nat) "sheet") ∈ lw_tbl := lw_at lw_m8 196 rfl
theorem q1963 : (Jvm.Cond.stringRef "CribBooklet$Reader" (118 : Nat) "unfold") ∈ lw_tbl := lw_at lw_m8 197 rfl
theorem q1964 : (Jvm.Cond.stringRef "CribBooklet$Reader" (120 : Nat) "spine") ∈ lw_tbl := lw_at lw_m8 198 rfl
theorem q1965 : (Jvm.Cond.stringRef "CribBooklet$Reader" (122 : Nat) "print") ∈ lw_tbl := lw_at lw_m8 199 rfl
theorem q1966 : (Jvm.Cond.stringRef "CribBooklet$Reader" (124 : Nat) "cut") ∈ lw_tbl := lw_at lw_m8 200 rfl
theorem q1967 : (Jvm.Cond.stringRef "CribBooklet$Reader" (126 : Nat) "staple") ∈ lw_tbl := lw_at lw_m8 201 rfl
theorem q1968 : (Jvm.Cond.stringRef "CribBooklet$Reader" (128 : Nat) "note") ∈ lw_tbl := lw_at lw_m8 202 rfl
theorem q1969 : (Jvm.Cond.methodLink "CribBooklet$Reader" (130 : Nat) ({ cls := "CribBooklet$Reader", name := "sheetOfSize", desc := "()LCribBooklet$Command;" } : Jvm.MethodName)) ∈ lw_all := lw_g (lw_at lw_m8 203 rfl) rfl
theorem q1970 : (Jvm.Cond.privateMethod ({ cls := "CribBooklet$Reader", name := "sheetOfSize", desc := "()LCribBooklet$Command;" } : Jvm.MethodName)) ∈ lw_tbl := lw_at lw_m8 204 rfl
theorem q1971 : (Jvm.Cond.instanceMethod ({ cls := "CribBooklet$Reader", name := "sheetOfSize", desc := "()LCribBooklet$Command;" } : Jvm.MethodName)) ∈ lw_all := lw_g (lw_at lw_m8 205 rfl) rfl
theorem q1972 : (Jvm.Cond.code ({ cls := "CribBooklet$Reader", name := "sheetOfSize", desc := "()LCribBooklet$Command;" } : Jvm.MethodName) prog_23_method_12_code (2 : Nat) (Option.some (Jvm.ClassFile.FieldType.object "CribBooklet$Command"))) ∈ lw_all := lw_g (lw_at lw_m8 206 rfl) rfl
theorem q1973 : (Jvm.Cond.classLink "CribBooklet$Reader" (106 : Nat) "CribBooklet$NewSheet") ∈ lw_all := lw_g (lw_at lw_m8 207 rfl) rfl
theorem q1974 : (Jvm.Cond.methodLinkNest "CribBooklet$Reader" (108 : Nat) ({ cls := "CribBooklet$NewSheet", name := "<init>", desc := "(II)V" } : Jvm.MethodName) "CribBooklet") ∈ lw_tbl := lw_at lw_m8 208 rfl
theorem q1975 : (Jvm.Cond.classLink "CribBooklet$Reader" (134 : Nat) "CribBooklet$Unfold") ∈ lw_all := lw_g (lw_at lw_m8 209 rfl) rfl
theorem q1976 : (Jvm.Cond.methodLinkNest "CribBooklet$Reader" (136 : Nat) ({ cls := "CribBooklet$Unfold", name := "<init>", desc := "()V" } : Jvm.MethodName) "CribBooklet") ∈ lw_tbl := lw_at lw_m8 210 rfl
theorem q1977 : (Jvm.Cond.classLink "CribBooklet$Reader" (137 : Nat) "CribBooklet$Spine") ∈ lw_all := lw_g (lw_at lw_m8 211 rfl) rfl
theorem q1978 : (Jvm.Cond.methodLink "CribBooklet$Reader" (139 : Nat) ({ cls := "CribBooklet$Reader", name := "edge", desc := "(I)I" } : Jvm.MethodName)) ∈ lw_all := lw_g (lw_at lw_m8 212 rfl) rfl
theorem q1979 : (Jvm.Cond.privateMethod ({ cls := "CribBooklet$Reader", name := "edge", desc := "(I)I" } : Jvm.MethodName)) ∈ lw_tbl := lw_at lw_m8 213 rfl
theorem q1980 : (Jvm.Cond.instanceMethod ({ cls := "CribBooklet$Reader", name := "edge", desc := "(I)I" } : Jvm.MethodName)) ∈ lw_all := lw_g (lw_at lw_m8 214 rfl) rfl
theorem q1981 : (Jvm.Cond.code ({ cls := "CribBooklet$Reader", name := "edge", desc := "(I)I" } : Jvm.MethodName) prog_23_method_9_code (3 : Nat) (Option.some Jvm.ClassFile.FieldType.int)) ∈ lw_all := lw_g (lw_at lw_m8 215 rfl) rfl
theorem q1982 : (Jvm.Cond.stringRef "CribBooklet$Reader" (74 : Nat) "left") ∈ lw_tbl := lw_at lw_m8 216 rfl
theorem q1983 : (Jvm.Cond.stringRef "CribBooklet$Reader" (80 : Nat) "top") ∈ lw_tbl := lw_at lw_m8 217 rfl
theorem q1984 : (Jvm.Cond.stringRef "CribBooklet$Reader" (82 : Nat) "right") ∈ lw_tbl := lw_at lw_m8 218 rfl
theorem q1985 : (Jvm.Cond.stringRef "CribBooklet$Reader" (84 : Nat) "bottom") ∈ lw_tbl := lw_at lw_m8 219 rfl
theorem q1986 : (Jvm.Cond.methodLinkNest "CribBooklet$Reader" (142 : Nat) ({ cls := "CribBooklet$Spine", name := "<init>", desc := "(I)V" } : Jvm.MethodName) "CribBooklet") ∈ lw_tbl := lw_at lw_m8 220 rfl
theorem q1987 : (Jvm.Cond.classLink "CribBooklet$Reader" (143 : Nat) "CribBooklet$PrintAll") ∈ lw_all := lw_g (lw_at lw_m8 221 rfl) rfl
theorem q1988 : (Jvm.Cond.methodLinkNest "CribBooklet$Reader" (145 : Nat) ({ cls := "CribBooklet$PrintAll", name := "<init>", desc := "(I)V" } : Jvm.MethodName) "CribBooklet") ∈ lw_tbl := lw_at lw_m8 222 rfl
theorem q1989 : (Jvm.Cond.classLink "CribBooklet$Reader" (146 : Nat) "CribBooklet$Cut") ∈ lw_all := lw_g (lw_at lw_m8 223 rfl) rfl
theorem q1990 : (Jvm.Cond.methodLinkNest "CribBooklet$Reader" (148 : Nat) ({ cls := "CribBooklet$Cut", name := "<init>", desc := "(I)V" } : Jvm.MethodName) "CribBooklet") ∈ lw_tbl := lw_at lw_m8 224 rfl
theorem q1991 : (Jvm.Cond.classLink "CribBooklet$Reader" (149 : Nat) "CribBooklet$Staple") ∈ lw_all := lw_g (lw_at lw_m8 225 rfl) rfl
theorem q1992 : (Jvm.Cond.methodLinkNest "CribBooklet$Reader" (151 : Nat) ({ cls := "CribBooklet$Staple", name := "<init>", desc := "(I)V" } : Jvm.MethodName) "CribBooklet") ∈ lw_tbl := lw_at lw_m8 226 rfl
theorem q1993 : (Jvm.Cond.methodLink "CribBooklet$Reader" (152 : Nat) ({ cls := "CribBooklet$Reader", name := "note", desc := "()LCribBooklet$Command;" } : Jvm.MethodName)) ∈ lw_all := lw_g (lw_at lw_m8 227 rfl) rfl
theorem q1994 : (Jvm.Cond.privateMethod ({ cls := "CribBooklet$Reader", name := "note", desc := "()LCribBooklet$Command;" } : Jvm.MethodName)) ∈ lw_tbl := lw_at lw_m8 228 rfl
theorem q1995 : (Jvm.Cond.instanceMethod ({ cls := "CribBooklet$Reader", name := "note", desc := "()LCribBooklet$Command;" } : Jvm.MethodName)) ∈ lw_all := lw_g (lw_at lw_m8 229 rfl) rfl
theorem q1996 : (Jvm.Cond.code ({ cls := "CribBooklet$Reader", name := "note", desc := "()LCribBooklet$Command;" } : Jvm.MethodName) prog_23_method_11_code (5 : Nat) (Option.some (Jvm.ClassFile.FieldType.object "CribBooklet$Command"))) ∈ lw_all := lw_g (lw_at lw_m8 230 rfl) rfl
theorem q1997 : (Jvm.Cond.stringRef "CribBooklet$Reader" (99 : Nat) "whole") ∈ lw_tbl := lw_at lw_m8 231 rfl
theorem q1998 : (Jvm.Cond.classLink "CribBooklet$Reader" (101 : Nat) "CribBooklet$AddNote") ∈ lw_all := lw_g (lw_at lw_m8 232 rfl) rfl
theorem q1999 : (Jvm.Cond.methodLinkNest "CribBooklet$Reader" (103 : Nat) ({ cls := "CribBooklet$AddNote", name := "<init>", desc := "(IIII)V" } : Jvm.MethodName) "CribBooklet") ∈ lw_tbl := lw_at lw_m8 233 rfl
theorem q2000 : (Jvm.Cond.classLink "CribBooklet$Reader" (154 : Nat) "CribBooklet$Lines") ∈ lw_all := lw_g (lw_at lw_m8 234 rfl) rfl
theorem q2001 : (Jvm.Cond.methodLinkNest "CribBooklet$Reader" (156 : Nat) ({ cls := "CribBooklet$Lines", name := "<init>", desc := "(I)V" } : Jvm.MethodName) "CribBooklet") ∈ lw_tbl := lw_at lw_m8 235 rfl
theorem q2002 : (Jvm.Cond.stringRef "CribBooklet$Reader" (177 : Nat) ";") ∈ lw_tbl := lw_at lw_m8 236 rfl
theorem q2003 : (Jvm.Cond.methodLink "CribBooklet$Reader" (179 : Nat) ({ cls := "java/util/ArrayList", name := "get", desc := "(I)Ljava/lang/Object;" } : Jvm.MethodName)) ∈ lw_all := lw_g (lw_at lw_m8 237 rfl) rfl
theorem q2004 : (Jvm.Cond.classLink "CribBooklet$Reader" (183 : Nat) "CribBooklet$Command") ∈ lw_all := lw_g (lw_at lw_m8 238 rfl) rfl
theorem q2005 : (Jvm.Cond.interfaceEntry "CribBooklet$Reader" (185 : Nat)) ∈ lw_tbl := lw_at lw_m8 239 rfl
theorem q2006 : (Jvm.Cond.methodLink "CribBooklet$Reader" (185 : Nat) ({ cls := "CribBooklet$Command", name := "check", desc := "(LCribBooklet$Sheet;)I" } : Jvm.MethodName)) ∈ lw_all := lw_g (lw_at lw_m9 0 rfl) rfl
theorem q2007 : (Jvm.Cond.interfaceEntry "CribBooklet$Reader" (189 : Nat)) ∈ lw_tbl := lw_at lw_m9 1 rfl
theorem q2008 : (Jvm.Cond.methodLink "CribBooklet$Reader" (189 : Nat) ({ cls := "CribBooklet$Command", name := "carryOut", desc := "(LCribBooklet$Sheet;)I" } : Jvm.MethodName)) ∈ lw_all := lw_g (lw_at lw_m9 2 rfl) rfl
theorem q3354 : (Jvm.Cond.castable "CribBooklet$Reader" "java/lang/Object") ∈ lw_tbl := lw_at lw_m14 148 rfl
theorem q3394 : (Jvm.Cond.stringRef "CribBooklet$Reader" (195 : Nat) "lines") ∈ lw_tbl := lw_at lw_m14 188 rfl
theorem in_X25 : ∀ w ∈ wsX250, w ∈ lw_all := lw_in wsX250 [1738, 1740, 1742, 1744, 1746] (by decide +kernel) (by decide +kernel)

end
section
/-! CribBooklet$Failure -/
set_option maxRecDepth 100000
def RX26 : String := "CribBooklet$Failure"
def TX26 : u_T := fun k => match k with
  | 0 => ("java/lang/Throwable", "cause", "Ljava/lang/Throwable;", false)
  | 1 => ("java/lang/Throwable", "stackTrace", "[Ljava/lang/StackTraceElement;", false)
  | 2 => ("java/lang/Throwable", "suppressedExceptions", "Ljava/util/List;", false)
  | 3 => ("java/lang/Throwable", "detailMessage", "Ljava/lang/String;", false)
  | 4 => ("java/lang/Throwable", "backtrace", "Ljava/lang/Object;", false)
  | 5 => ("java/lang/Throwable", "depth", "I", false)
  | _ => ("CribBooklet$Failure", "place", "I", true)
def tyX26 : Nat → FieldType := fun k => match k with
  | 0 => .object "java/lang/Throwable"
  | 1 => .array (.object "java/lang/StackTraceElement")
  | 2 => .object "java/util/List"
  | 3 => .object "java/lang/String"
  | 4 => .object "java/lang/Object"
  | 5 => .int
  | _ => .int
abbrev wsX260 : List Cond := u_ws RX26 TX26 7
theorem nmX26 : ∀ a, a < 7 → ∀ b, b < 7 → a ≠ b → (TX26 a).2.1 ≠ (TX26 b).2.1 := by decide +kernel
theorem tyX26_ok : ∀ k, k < 7 → parseFieldDescriptor (TX26 k).2.2.1 = some (tyX26 k) := by decide +kernel
abbrev cX26_init : ByteArray := prog_9_method_1_code
def yX26_init : MethodName := ⟨RX26, "<init>", "(I)V"⟩
def dkwX26_init_0 : List UInt8 := [42, 1, 1, 3, 3, 183, 0, 1, 42, 27, 181, 0, 7, 177]
abbrev dktX26_init_0 : List UInt8 := dkwX26_init_0 ++ []
theorem dksX26_init_0 : cX26_init.data.toList.drop 0 = dktX26_init_0 := by decide +kernel
theorem dX26_init_0 : decode cX26_init 0 = .ok (.aload_n 0, 1) := dk_42 (dk_at dksX26_init_0 0 rfl rfl)
theorem dX26_init_1 : decode cX26_init 1 = .ok (.aconst_null, 1) := dk_1 (dk_at dksX26_init_0 1 rfl rfl)
theorem dX26_init_2 : decode cX26_init 2 = .ok (.aconst_null, 1) := dk_1 (dk_at dksX26_init_0 2 rfl rfl)
theorem dX26_init_3 : decode cX26_init 3 = .ok (.iconst 0, 1) := dk_3 (dk_at dksX26_init_0 3 rfl rfl)
theorem dX26_init_4 : decode cX26_init 4 = .ok (.iconst 0, 1) := dk_3 (dk_at dksX26_init_0 4 rfl rfl)
theorem dX26_init_5 : decode cX26_init 5 = .ok (.invokespecial 1, 3) := dk_183 0 1 (dk_at dksX26_init_0 5 rfl rfl)
theorem dX26_init_8 : decode cX26_init 8 = .ok (.aload_n 0, 1) := dk_42 (dk_at dksX26_init_0 8 rfl rfl)
theorem dX26_init_9 : decode cX26_init 9 = .ok (.iload_n 1, 1) := dk_27 (dk_at dksX26_init_0 9 rfl rfl)
theorem dX26_init_10 : decode cX26_init 10 = .ok (.putfield 7, 3) := dk_181 0 7 (dk_at dksX26_init_0 10 rfl rfl)
theorem dX26_init_13 : decode cX26_init 13 = .ok (.return_, 1) := dk_177 (dk_at dksX26_init_0 13 rfl rfl)
theorem q142 : (Jvm.Cond.initialized "CribBooklet$Failure") ∈ lw_all := lw_g (lw_at lw_m1 56 rfl) rfl
theorem q704 : (Jvm.Cond.selects "CribBooklet$Failure" ({ cls := "java/lang/Object", name := "getClass", desc := "()Ljava/lang/Class;" } : Jvm.MethodName) ({ cls := "java/lang/Object", name := "getClass", desc := "()Ljava/lang/Class;" } : Jvm.MethodName)) ∈ lw_all := lw_g (lw_at lw_m3 138 rfl) rfl
theorem q1821 : (Jvm.Cond.instantiable "CribBooklet$Failure" (7 : Nat)) ∈ lw_all := lw_g (lw_at lw_m8 55 rfl) rfl
theorem q1822 : (Jvm.Cond.castable "CribBooklet$Failure" "CribBooklet$Failure") ∈ lw_tbl := lw_at lw_m8 56 rfl
theorem q1827 : (Jvm.Cond.selects "CribBooklet$Failure" ({ cls := "java/lang/Throwable", name := "fillInStackTrace", desc := "(I)Ljava/lang/Throwable;" } : Jvm.MethodName) ({ cls := "java/lang/Throwable", name := "fillInStackTrace", desc := "(I)Ljava/lang/Throwable;" } : Jvm.MethodName)) ∈ lw_all := lw_g (lw_at lw_m8 61 rfl) rfl
theorem q1828 : (Jvm.Cond.selects "CribBooklet$Failure" ({ cls := "java/lang/Throwable", name := "fillInStackTrace", desc := "()Ljava/lang/Throwable;" } : Jvm.MethodName) ({ cls := "java/lang/Throwable", name := "fillInStackTrace", desc := "()Ljava/lang/Throwable;" } : Jvm.MethodName)) ∈ lw_all := lw_g (lw_at lw_m8 62 rfl) rfl
theorem q1829 : (Jvm.Cond.lays "CribBooklet$Failure" "java/lang/Throwable" "cause" "Ljava/lang/Throwable;") ∈ lw_all := lw_g (lw_at lw_m8 63 rfl) rfl
theorem q1831 : (Jvm.Cond.lays "CribBooklet$Failure" "java/lang/Throwable" "stackTrace" "[Ljava/lang/StackTraceElement;") ∈ lw_all := lw_g (lw_at lw_m8 65 rfl) rfl
theorem q1833 : (Jvm.Cond.lays "CribBooklet$Failure" "java/lang/Throwable" "suppressedExceptions" "Ljava/util/List;") ∈ lw_all := lw_g (lw_at lw_m8 67 rfl) rfl
theorem q1835 : (Jvm.Cond.lays "CribBooklet$Failure" "java/lang/Throwable" "detailMessage" "Ljava/lang/String;") ∈ lw_all := lw_g (lw_at lw_m8 69 rfl) rfl
theorem q1837 : (Jvm.Cond.lays "CribBooklet$Failure" "java/lang/Throwable" "backtrace" "Ljava/lang/Object;") ∈ lw_all := lw_g (lw_at lw_m8 71 rfl) rfl
theorem q1858 : (Jvm.Cond.instanceMethod ({ cls := "CribBooklet$Failure", name := "<init>", desc := "(I)V" } : Jvm.MethodName)) ∈ lw_all := lw_g (lw_at lw_m8 92 rfl) rfl
theorem q1859 : (Jvm.Cond.code ({ cls := "CribBooklet$Failure", name := "<init>", desc := "(I)V" } : Jvm.MethodName) prog_9_method_1_code (2 : Nat) (Option.none : Option Jvm.ClassFile.FieldType)) ∈ lw_all := lw_g (lw_at lw_m8 93 rfl) rfl
theorem q1860 : (Jvm.Cond.methodLink "CribBooklet$Failure" (1 : Nat) ({ cls := "java/lang/Exception", name := "<init>", desc := "(Ljava/lang/String;Ljava/lang/Throwable;ZZ)V" } : Jvm.MethodName)) ∈ lw_all := lw_g (lw_at lw_m8 94 rfl) rfl
theorem q1866 : (Jvm.Cond.fieldLink "CribBooklet$Failure" (7 : Nat) "CribBooklet$Failure" "place" "I") ∈ lw_all := lw_g (lw_at lw_m8 100 rfl) rfl
theorem q1873 : (Jvm.Cond.laysFinal "CribBooklet$Failure" "CribBooklet$Failure" "place" "I") ∈ lw_all := lw_g (lw_at lw_m8 107 rfl) rfl
theorem q1874 : (Jvm.Cond.soleField "CribBooklet$Failure" "place") ∈ lw_all := lw_g (lw_at lw_m8 108 rfl) rfl
theorem q1879 : (Jvm.Cond.lays "CribBooklet$Failure" "java/lang/Throwable" "depth" "I") ∈ lw_all := lw_g (lw_at lw_m8 113 rfl) rfl
theorem q1882 : (Jvm.Cond.superclass "CribBooklet$Failure" "java/lang/Exception") ∈ lw_all := lw_g (lw_at lw_m8 116 rfl) rfl
theorem q3355 : (Jvm.Cond.castable "CribBooklet$Failure" "java/lang/Object") ∈ lw_tbl := lw_at lw_m14 149 rfl
theorem in_X26 : ∀ w ∈ wsX260, w ∈ lw_all := lw_in wsX260 [1829, 1831, 1833, 1835, 1837, 1879, 1873] (by decide +kernel) (by decide +kernel)

end
section
/-! CribBooklet$Layout -/
set_option maxRecDepth 100000
def RX27 : String := "CribBooklet$Layout"
def TX27 : u_T := fun k => match k with
  | 0 => ("CribBooklet$Layout", "booklet", "LCribBooklet$Booklet;", true)
  | 1 => ("CribBooklet$Layout", "sheet", "LCribBooklet$Sheet;", true)
  | 2 => ("CribBooklet$Layout", "pages", "[I", true)
  | 3 => ("CribBooklet$Layout", "pageMany", "I", false)
  | 4 => ("CribBooklet$Layout", "next", "I", false)
  | 5 => ("CribBooklet$Layout", "begins", "[I", true)
  | _ => ("CribBooklet$Layout", "index", "Ljava/util/TreeMap;", true)
def tyX27 : Nat → FieldType := fun k => match k with
  | 0 => .object "CribBooklet$Booklet"
  | 1 => .object "CribBooklet$Sheet"
  | 2 => .array .int
  | 3 => .int
  | 4 => .int
  | 5 => .array .int
  | _ => .object "java/util/TreeMap"
abbrev wsX270 : List Cond := u_ws RX27 TX27 7
theorem nmX27 : ∀ a, a < 7 → ∀ b, b < 7 → a ≠ b → (TX27 a).2.1 ≠ (TX27 b).2.1 := by decide +kernel
theorem tyX27_ok : ∀ k, k < 7 → parseFieldDescriptor (TX27 k).2.2.1 = some (tyX27 k) := by decide +kernel
abbrev cX27_init : ByteArray := prog_15_method_1_code
def yX27_init : MethodName := ⟨RX27, "<init>", "(LCribBooklet$Booklet;)V"⟩
def dkwX27_init_7 : List UInt8 := [182, 0, 81, 154, 0, 17, 42, 44, 182, 0, 85, 192, 0, 66, 182, 0, 89, 167, 255, 238, 177]
abbrev dktX27_init_7 : List UInt8 := dkwX27_init_7 ++ []
def dkwX27_init_6 : List UInt8 := [29, 182, 0, 68, 192, 0, 72, 29, 183, 0, 74, 182, 0, 77, 87, 132, 3, 1, 167, 255, 212, 44]
abbrev dktX27_init_6 : List UInt8 := dkwX27_init_6 ++ dktX27_init_7
def dkwX27_init_5 : List UInt8 := [180, 0, 35, 180, 0, 55, 182, 0, 61, 162, 0, 36, 44, 187, 0, 66, 89, 42, 180, 0, 35, 180, 0, 55]
abbrev dktX27_init_5 : List UInt8 := dkwX27_init_5 ++ dktX27_init_6
def dkwX27_init_4 : List UInt8 := [167, 255, 211, 187, 0, 47, 89, 16, 12, 187, 0, 49, 89, 183, 0, 51, 183, 0, 52, 77, 3, 62, 29, 42]
abbrev dktX27_init_4 : List UInt8 := dkwX27_init_4 ++ dktX27_init_5
def dkwX27_init_3 : List UInt8 := [180, 0, 9, 42, 180, 0, 43, 28, 79, 42, 89, 180, 0, 43, 4, 96, 181, 0, 43, 132, 2, 1]
abbrev dktX27_init_3 : List UInt8 := dkwX27_init_3 ++ dktX27_init_4
def dkwX27_init_2 : List UInt8 := [61, 28, 42, 180, 0, 25, 182, 0, 36, 162, 0, 40, 42, 180, 0, 25, 28, 182, 0, 39, 154, 0, 23, 42]
abbrev dktX27_init_2 : List UInt8 := dkwX27_init_2 ++ dktX27_init_3
def dkwX27_init_1 : List UInt8 := [89, 183, 0, 20, 181, 0, 21, 42, 43, 181, 0, 25, 42, 42, 180, 0, 25, 180, 0, 29, 181, 0, 35, 3]
abbrev dktX27_init_1 : List UInt8 := dkwX27_init_1 ++ dktX27_init_2
def dkwX27_init_0 : List UInt8 := [42, 183, 0, 3, 42, 16, 32, 188, 10, 181, 0, 9, 42, 16, 12, 188, 10, 181, 0, 15, 42, 187, 0, 18]
abbrev dktX27_init_0 : List UInt8 := dkwX27_init_0 ++ dktX27_init_1
theorem dksX27_init_0 : cX27_init.data.toList.drop 0 = dktX27_init_0 := by decide +kernel
theorem dksX27_init_1 : cX27_init.data.toList.drop 24 = dktX27_init_1 := dk_seg dksX27_init_0 24 rfl rfl
theorem dksX27_init_2 : cX27_init.data.toList.drop 48 = dktX27_init_2 := dk_seg dksX27_init_1 24 rfl rfl
theorem dksX27_init_3 : cX27_init.data.toList.drop 72 = dktX27_init_3 := dk_seg dksX27_init_2 24 rfl rfl
theorem dksX27_init_4 : cX27_init.data.toList.drop 94 = dktX27_init_4 := dk_seg dksX27_init_3 22 rfl rfl
theorem dksX27_init_5 : cX27_init.data.toList.drop 118 = dktX27_init_5 := dk_seg dksX27_init_4 24 rfl rfl
theorem dksX27_init_6 : cX27_init.data.toList.drop 142 = dktX27_init_6 := dk_seg dksX27_init_5 24 rfl rfl
theorem dksX27_init_7 : cX27_init.data.toList.drop 164 = dktX27_init_7 := dk_seg dksX27_init_6 22 rfl rfl
theorem dX27_init_0 : decode cX27_init 0 = .ok (.aload_n 0, 1) := dk_42 (dk_at dksX27_init_0 0 rfl rfl)
theorem dX27_init_1 : decode cX27_init 1 = .ok (.invokespecial 3, 3) := dk_183 0 3 (dk_at dksX27_init_0 1 rfl rfl)
theorem dX27_init_4 : decode cX27_init 4 = .ok (.aload_n 0, 1) := dk_42 (dk_at dksX27_init_0 4 rfl rfl)
theorem dX27_init_5 : decode cX27_init 5 = .ok (.bipush 32, 2) := dk_16 32 (dk_at dksX27_init_0 5 rfl rfl)
theorem dX27_init_7 : decode cX27_init 7 = .ok (.newarray .int, 2) := dk_188_10 (dk_at dksX27_init_0 7 rfl rfl)
theorem dX27_init_9 : decode cX27_init 9 = .ok (.putfield 9, 3) := dk_181 0 9 (dk_at dksX27_init_0 9 rfl rfl)
theorem dX27_init_12 : decode cX27_init 12 = .ok (.aload_n 0, 1) := dk_42 (dk_at dksX27_init_0 12 rfl rfl)
theorem dX27_init_13 : decode cX27_init 13 = .ok (.bipush 12, 2) := dk_16 12 (dk_at dksX27_init_0 13 rfl rfl)
theorem dX27_init_15 : decode cX27_init 15 = .ok (.newarray .int, 2) := dk_188_10 (dk_at dksX27_init_0 15 rfl rfl)
theorem dX27_init_17 : decode cX27_init 17 = .ok (.putfield 15, 3) := dk_181 0 15 (dk_at dksX27_init_0 17 rfl rfl)
theorem dX27_init_20 : decode cX27_init 20 = .ok (.aload_n 0, 1) := dk_42 (dk_at dksX27_init_0 20 rfl rfl)
theorem dX27_init_21 : decode cX27_init 21 = .ok (.new 18, 3) := dk_187 0 18 (dk_at dksX27_init_0 21 rfl rfl)
theorem dX27_init_24 : decode cX27_init 24 = .ok (.dup, 1) := dk_89 (dk_at dksX27_init_1 0 rfl rfl)
theorem dX27_init_25 : decode cX27_init 25 = .ok (.invokespecial 20, 3) := dk_183 0 20 (dk_at dksX27_init_1 1 rfl rfl)
theorem dX27_init_28 : decode cX27_init 28 = .ok (.putfield 21, 3) := dk_181 0 21 (dk_at dksX27_init_1 4 rfl rfl)
theorem dX27_init_31 : decode cX27_init 31 = .ok (.aload_n 0, 1) := dk_42 (dk_at dksX27_init_1 7 rfl rfl)
theorem dX27_init_32 : decode cX27_init 32 = .ok (.aload_n 1, 1) := dk_43 (dk_at dksX27_init_1 8 rfl rfl)
theorem dX27_init_33 : decode cX27_init 33 = .ok (.putfield 25, 3) := dk_181 0 25 (dk_at dksX27_init_1 9 rfl rfl)
theorem dX27_init_36 : decode cX27_init 36 = .ok (.aload_n 0, 1) := dk_42 (dk_at dksX27_init_1 12 rfl rfl)
theorem dX27_init_37 : decode cX27_init 37 = .ok (.aload_n 0, 1) := dk_42 (dk_at dksX27_init_1 13 rfl rfl)
theorem dX27_init_38 : decode cX27_init 38 = .ok (.getfield 25, 3) := dk_180 0 25 (dk_at dksX27_init_1 14 rfl rfl)
theorem dX27_init_41 : decode cX27_init 41 = .ok (.getfield 29, 3) := dk_180 0 29 (dk_at dksX27_init_1 17 rfl rfl)
theorem dX27_init_44 : decode cX27_init 44 = .ok (.putfield 35, 3) := dk_181 0 35 (dk_at dksX27_init_1 20 rfl rfl)
theorem dX27_init_47 : decode cX27_init 47 = .ok (.iconst 0, 1) := dk_3 (dk_at dksX27_init_1 23 rfl rfl)
theorem dX27_init_48 : decode cX27_init 48 = .ok (.istore_n 2, 1) := dk_61 (dk_at dksX27_init_2 0 rfl rfl)
theorem dX27_init_49 : decode cX27_init 49 = .ok (.iload_n 2, 1) := dk_28 (dk_at dksX27_init_2 1 rfl rfl)
theorem dX27_init_50 : decode cX27_init 50 = .ok (.aload_n 0, 1) := dk_42 (dk_at dksX27_init_2 2 rfl rfl)
theorem dX27_init_51 : decode cX27_init 51 = .ok (.getfield 25, 3) := dk_180 0 25 (dk_at dksX27_init_2 3 rfl rfl)
theorem dX27_init_54 : decode cX27_init 54 = .ok (.invokevirtual 36, 3) := dk_182 0 36 (dk_at dksX27_init_2 6 rfl rfl)
theorem dX27_init_57 : decode cX27_init 57 = .ok (.if_icmp .ge 40, 3) := dk_162 0 40 (dk_at dksX27_init_2 9 rfl rfl)
theorem dX27_init_60 : decode cX27_init 60 = .ok (.aload_n 0, 1) := dk_42 (dk_at dksX27_init_2 12 rfl rfl)
theorem dX27_init_61 : decode cX27_init 61 = .ok (.getfield 25, 3) := dk_180 0 25 (dk_at dksX27_init_2 13 rfl rfl)
theorem dX27_init_64 : decode cX27_init 64 = .ok (.iload_n 2, 1) := dk_28 (dk_at dksX27_init_2 16 rfl rfl)
theorem dX27_init_65 : decode cX27_init 65 = .ok (.invokevirtual 39, 3) := dk_182 0 39 (dk_at dksX27_init_2 17 rfl rfl)
theorem dX27_init_68 : decode cX27_init 68 = .ok (.ifCond .ne 23, 3) := dk_154 0 23 (dk_at dksX27_init_2 20 rfl rfl)
theorem dX27_init_71 : decode cX27_init 71 = .ok (.aload_n 0, 1) := dk_42 (dk_at dksX27_init_2 23 rfl rfl)
theorem dX27_init_72 : decode cX27_init 72 = .ok (.getfield 9, 3) := dk_180 0 9 (dk_at dksX27_init_3 0 rfl rfl)
theorem dX27_init_75 : decode cX27_init 75 = .ok (.aload_n 0, 1) := dk_42 (dk_at dksX27_init_3 3 rfl rfl)
theorem dX27_init_76 : decode cX27_init 76 = .ok (.getfield 43, 3) := dk_180 0 43 (dk_at dksX27_init_3 4 rfl rfl)
theorem dX27_init_79 : decode cX27_init 79 = .ok (.iload_n 2, 1) := dk_28 (dk_at dksX27_init_3 7 rfl rfl)
theorem dX27_init_80 : decode cX27_init 80 = .ok (.iastore, 1) := dk_79 (dk_at dksX27_init_3 8 rfl rfl)
theorem dX27_init_81 : decode cX27_init 81 = .ok (.aload_n 0, 1) := dk_42 (dk_at dksX27_init_3 9 rfl rfl)
theorem dX27_init_82 : decode cX27_init 82 = .ok (.dup, 1) := dk_89 (dk_at dksX27_init_3 10 rfl rfl)
theorem dX27_init_83 : decode cX27_init 83 = .ok (.getfield 43, 3) := dk_180 0 43 (dk_at dksX27_init_3 11 rfl rfl)
theorem dX27_init_86 : decode cX27_init 86 = .ok (.iconst 1, 1) := dk_4 (dk_at dksX27_init_3 14 rfl rfl)
theorem dX27_init_87 : decode cX27_init 87 = .ok (.iadd, 1) := dk_96 (dk_at dksX27_init_3 15 rfl rfl)
theorem dX27_init_88 : decode cX27_init 88 = .ok (.putfield 43, 3) := dk_181 0 43 (dk_at dksX27_init_3 16 rfl rfl)
theorem dX27_init_91 : decode cX27_init 91 = .ok (.iinc 2 1, 3) := dk_132 2 1 (dk_at dksX27_init_3 19 rfl rfl)
theorem dX27_init_94 : decode cX27_init 94 = .ok (.goto (-45), 3) := dk_167 255 211 (dk_at dksX27_init_4 0 rfl rfl)
theorem dX27_init_97 : decode cX27_init 97 = .ok (.new 47, 3) := dk_187 0 47 (dk_at dksX27_init_4 3 rfl rfl)
theorem dX27_init_100 : decode cX27_init 100 = .ok (.dup, 1) := dk_89 (dk_at dksX27_init_4 6 rfl rfl)
theorem dX27_init_101 : decode cX27_init 101 = .ok (.bipush 12, 2) := dk_16 12 (dk_at dksX27_init_4 7 rfl rfl)
theorem dX27_init_103 : decode cX27_init 103 = .ok (.new 49, 3) := dk_187 0 49 (dk_at dksX27_init_4 9 rfl rfl)
theorem dX27_init_106 : decode cX27_init 106 = .ok (.dup, 1) := dk_89 (dk_at dksX27_init_4 12 rfl rfl)
theorem dX27_init_107 : decode cX27_init 107 = .ok (.invokespecial 51, 3) := dk_183 0 51 (dk_at dksX27_init_4 13 rfl rfl)
theorem dX27_init_110 : decode cX27_init 110 = .ok (.invokespecial 52, 3) := dk_183 0 52 (dk_at dksX27_init_4 16 rfl rfl)
theorem dX27_init_113 : decode cX27_init 113 = .ok (.astore_n 2, 1) := dk_77 (dk_at dksX27_init_4 19 rfl rfl)
theorem dX27_init_114 : decode cX27_init 114 = .ok (.iconst 0, 1) := dk_3 (dk_at dksX27_init_4 20 rfl rfl)
theorem dX27_init_115 : decode cX27_init 115 = .ok (.istore_n 3, 1) := dk_62 (dk_at dksX27_init_4 21 rfl rfl)
theorem dX27_init_116 : decode cX27_init 116 = .ok (.iload_n 3, 1) := dk_29 (dk_at dksX27_init_4 22 rfl rfl)
theorem dX27_init_117 : decode cX27_init 117 = .ok (.aload_n 0, 1) := dk_42 (dk_at dksX27_init_4 23 rfl rfl)
theorem dX27_init_118 : decode cX27_init 118 = .ok (.getfield 35, 3) := dk_180 0 35 (dk_at dksX27_init_5 0 rfl rfl)
theorem dX27_init_121 : decode cX27_init 121 = .ok (.getfield 55, 3) := dk_180 0 55 (dk_at dksX27_init_5 3 rfl rfl)
theorem dX27_init_124 : decode cX27_init 124 = .ok (.invokevirtual 61, 3) := dk_182 0 61 (dk_at dksX27_init_5 6 rfl rfl)
theorem dX27_init_127 : decode cX27_init 127 = .ok (.if_icmp .ge 36, 3) := dk_162 0 36 (dk_at dksX27_init_5 9 rfl rfl)
theorem dX27_init_130 : decode cX27_init 130 = .ok (.aload_n 2, 1) := dk_44 (dk_at dksX27_init_5 12 rfl rfl)
theorem dX27_init_131 : decode cX27_init 131 = .ok (.new 66, 3) := dk_187 0 66 (dk_at dksX27_init_5 13 rfl rfl)
theorem dX27_init_134 : decode cX27_init 134 = .ok (.dup, 1) := dk_89 (dk_at dksX27_init_5 16 rfl rfl)
theorem dX27_init_135 : decode cX27_init 135 = .ok (.aload_n 0, 1) := dk_42 (dk_at dksX27_init_5 17 rfl rfl)
theorem dX27_init_136 : decode cX27_init 136 = .ok (.getfield 35, 3) := dk_180 0 35 (dk_at dksX27_init_5 18 rfl rfl)
theorem dX27_init_139 : decode cX27_init 139 = .ok (.getfield 55, 3) := dk_180 0 55 (dk_at dksX27_init_5 21 rfl rfl)
theorem dX27_init_142 : decode cX27_init 142 = .ok (.iload_n 3, 1) := dk_29 (dk_at dksX27_init_6 0 rfl rfl)
theorem dX27_init_143 : decode cX27_init 143 = .ok (.invokevirtual 68, 3) := dk_182 0 68 (dk_at dksX27_init_6 1 rfl rfl)
theorem dX27_init_146 : decode cX27_init 146 = .ok (.checkcast 72, 3) := dk_192 0 72 (dk_at dksX27_init_6 4 rfl rfl)
theorem dX27_init_149 : decode cX27_init 149 = .ok (.iload_n 3, 1) := dk_29 (dk_at dksX27_init_6 7 rfl rfl)
theorem dX27_init_150 : decode cX27_init 150 = .ok (.invokespecial 74, 3) := dk_183 0 74 (dk_at dksX27_init_6 8 rfl rfl)
theorem dX27_init_153 : decode cX27_init 153 = .ok (.invokevirtual 77, 3) := dk_182 0 77 (dk_at dksX27_init_6 11 rfl rfl)
theorem dX27_init_156 : decode cX27_init 156 = .ok (.pop, 1) := dk_87 (dk_at dksX27_init_6 14 rfl rfl)
theorem dX27_init_157 : decode cX27_init 157 = .ok (.iinc 3 1, 3) := dk_132 3 1 (dk_at dksX27_init_6 15 rfl rfl)
theorem dX27_init_160 : decode cX27_init 160 = .ok (.goto (-44), 3) := dk_167 255 212 (dk_at dksX27_init_6 18 rfl rfl)
theorem dX27_init_163 : decode cX27_init 163 = .ok (.aload_n 2, 1) := dk_44 (dk_at dksX27_init_6 21 rfl rfl)
theorem dX27_init_164 : decode cX27_init 164 = .ok (.invokevirtual 81, 3) := dk_182 0 81 (dk_at dksX27_init_7 0 rfl rfl)
theorem dX27_init_167 : decode cX27_init 167 = .ok (.ifCond .ne 17, 3) := dk_154 0 17 (dk_at dksX27_init_7 3 rfl rfl)
theorem dX27_init_170 : decode cX27_init 170 = .ok (.aload_n 0, 1) := dk_42 (dk_at dksX27_init_7 6 rfl rfl)
theorem dX27_init_171 : decode cX27_init 171 = .ok (.aload_n 2, 1) := dk_44 (dk_at dksX27_init_7 7 rfl rfl)
theorem dX27_init_172 : decode cX27_init 172 = .ok (.invokevirtual 85, 3) := dk_182 0 85 (dk_at dksX27_init_7 8 rfl rfl)
theorem dX27_init_175 : decode cX27_init 175 = .ok (.checkcast 66, 3) := dk_192 0 66 (dk_at dksX27_init_7 11 rfl rfl)
theorem dX27_init_178 : decode cX27_init 178 = .ok (.invokevirtual 89, 3) := dk_182 0 89 (dk_at dksX27_init_7 14 rfl rfl)
theorem dX27_init_181 : decode cX27_init 181 = .ok (.goto (-18), 3) := dk_167 255 238 (dk_at dksX27_init_7 17 rfl rfl)
theorem dX27_init_184 : decode cX27_init 184 = .ok (.return_, 1) := dk_177 (dk_at dksX27_init_7 20 rfl rfl)
abbrev cX27_lay : ByteArray := prog_15_method_7_code
def yX27_lay : MethodName := ⟨RX27, "lay", "(LCribBooklet$Numbered;)V"⟩
def dkwX27_lay_4 : List UInt8 := [182, 0, 96, 184, 0, 133, 182, 0, 145, 87, 177]
abbrev dktX27_lay_4 : List UInt8 := dkwX27_lay_4 ++ []
def dkwX27_lay_3 : List UInt8 := [182, 0, 96, 164, 0, 29, 42, 180, 0, 21, 43, 182, 0, 119, 182, 0, 130, 184, 0, 133, 42, 28]
abbrev dktX27_lay_3 : List UInt8 := dkwX27_lay_3 ++ dktX27_lay_4
def dkwX27_lay_2 : List UInt8 := [182, 0, 130, 184, 0, 133, 182, 0, 139, 192, 0, 134, 78, 45, 198, 0, 15, 45, 182, 0, 142, 42, 28]
abbrev dktX27_lay_2 : List UInt8 := dkwX27_lay_2 ++ dktX27_lay_3
def dkwX27_lay_1 : List UInt8 := [159, 0, 79, 42, 28, 43, 182, 0, 119, 182, 0, 107, 96, 181, 0, 112, 42, 180, 0, 21, 43, 182, 0, 119]
abbrev dktX27_lay_1 : List UInt8 := dkwX27_lay_1 ++ dktX27_lay_2
def dkwX27_lay_0 : List UInt8 := [42, 43, 182, 0, 119, 182, 0, 123, 61, 42, 180, 0, 15, 43, 182, 0, 127, 28, 79, 28, 16, 247]
abbrev dktX27_lay_0 : List UInt8 := dkwX27_lay_0 ++ dktX27_lay_1
theorem dksX27_lay_0 : cX27_lay.data.toList.drop 0 = dktX27_lay_0 := by decide +kernel
theorem dksX27_lay_1 : cX27_lay.data.toList.drop 22 = dktX27_lay_1 := dk_seg dksX27_lay_0 22 rfl rfl
theorem dksX27_lay_2 : cX27_lay.data.toList.drop 46 = dktX27_lay_2 := dk_seg dksX27_lay_1 24 rfl rfl
theorem dksX27_lay_3 : cX27_lay.data.toList.drop 69 = dktX27_lay_3 := dk_seg dksX27_lay_2 23 rfl rfl
theorem dksX27_lay_4 : cX27_lay.data.toList.drop 91 = dktX27_lay_4 := dk_seg dksX27_lay_3 22 rfl rfl
theorem dX27_lay_0 : decode cX27_lay 0 = .ok (.aload_n 0, 1) := dk_42 (dk_at dksX27_lay_0 0 rfl rfl)
theorem dX27_lay_1 : decode cX27_lay 1 = .ok (.aload_n 1, 1) := dk_43 (dk_at dksX27_lay_0 1 rfl rfl)
theorem dX27_lay_2 : decode cX27_lay 2 = .ok (.invokevirtual 119, 3) := dk_182 0 119 (dk_at dksX27_lay_0 2 rfl rfl)
theorem dX27_lay_5 : decode cX27_lay 5 = .ok (.invokevirtual 123, 3) := dk_182 0 123 (dk_at dksX27_lay_0 5 rfl rfl)
theorem dX27_lay_8 : decode cX27_lay 8 = .ok (.istore_n 2, 1) := dk_61 (dk_at dksX27_lay_0 8 rfl rfl)
theorem dX27_lay_9 : decode cX27_lay 9 = .ok (.aload_n 0, 1) := dk_42 (dk_at dksX27_lay_0 9 rfl rfl)
theorem dX27_lay_10 : decode cX27_lay 10 = .ok (.getfield 15, 3) := dk_180 0 15 (dk_at dksX27_lay_0 10 rfl rfl)
theorem dX27_lay_13 : decode cX27_lay 13 = .ok (.aload_n 1, 1) := dk_43 (dk_at dksX27_lay_0 13 rfl rfl)
theorem dX27_lay_14 : decode cX27_lay 14 = .ok (.invokevirtual 127, 3) := dk_182 0 127 (dk_at dksX27_lay_0 14 rfl rfl)
theorem dX27_lay_17 : decode cX27_lay 17 = .ok (.iload_n 2, 1) := dk_28 (dk_at dksX27_lay_0 17 rfl rfl)
theorem dX27_lay_18 : decode cX27_lay 18 = .ok (.iastore, 1) := dk_79 (dk_at dksX27_lay_0 18 rfl rfl)
theorem dX27_lay_19 : decode cX27_lay 19 = .ok (.iload_n 2, 1) := dk_28 (dk_at dksX27_lay_0 19 rfl rfl)
theorem dX27_lay_20 : decode cX27_lay 20 = .ok (.bipush (-9), 2) := dk_16 247 (dk_at dksX27_lay_0 20 rfl rfl)
theorem dX27_lay_22 : decode cX27_lay 22 = .ok (.if_icmp .eq 79, 3) := dk_159 0 79 (dk_at dksX27_lay_1 0 rfl rfl)
theorem dX27_lay_25 : decode cX27_lay 25 = .ok (.aload_n 0, 1) := dk_42 (dk_at dksX27_lay_1 3 rfl rfl)
theorem dX27_lay_26 : decode cX27_lay 26 = .ok (.iload_n 2, 1) := dk_28 (dk_at dksX27_lay_1 4 rfl rfl)
theorem dX27_lay_27 : decode cX27_lay 27 = .ok (.aload_n 1, 1) := dk_43 (dk_at dksX27_lay_1 5 rfl rfl)
theorem dX27_lay_28 : decode cX27_lay 28 = .ok (.invokevirtual 119, 3) := dk_182 0 119 (dk_at dksX27_lay_1 6 rfl rfl)
theorem dX27_lay_31 : decode cX27_lay 31 = .ok (.invokevirtual 107, 3) := dk_182 0 107 (dk_at dksX27_lay_1 9 rfl rfl)
theorem dX27_lay_34 : decode cX27_lay 34 = .ok (.iadd, 1) := dk_96 (dk_at dksX27_lay_1 12 rfl rfl)
theorem dX27_lay_35 : decode cX27_lay 35 = .ok (.putfield 112, 3) := dk_181 0 112 (dk_at dksX27_lay_1 13 rfl rfl)
theorem dX27_lay_38 : decode cX27_lay 38 = .ok (.aload_n 0, 1) := dk_42 (dk_at dksX27_lay_1 16 rfl rfl)
theorem dX27_lay_39 : decode cX27_lay 39 = .ok (.getfield 21, 3) := dk_180 0 21 (dk_at dksX27_lay_1 17 rfl rfl)
theorem dX27_lay_42 : decode cX27_lay 42 = .ok (.aload_n 1, 1) := dk_43 (dk_at dksX27_lay_1 20 rfl rfl)
theorem dX27_lay_43 : decode cX27_lay 43 = .ok (.invokevirtual 119, 3) := dk_182 0 119 (dk_at dksX27_lay_1 21 rfl rfl)
theorem dX27_lay_46 : decode cX27_lay 46 = .ok (.invokevirtual 130, 3) := dk_182 0 130 (dk_at dksX27_lay_2 0 rfl rfl)
theorem dX27_lay_49 : decode cX27_lay 49 = .ok (.invokestatic 133, 3) := dk_184 0 133 (dk_at dksX27_lay_2 3 rfl rfl)
theorem dX27_lay_52 : decode cX27_lay 52 = .ok (.invokevirtual 139, 3) := dk_182 0 139 (dk_at dksX27_lay_2 6 rfl rfl)
theorem dX27_lay_55 : decode cX27_lay 55 = .ok (.checkcast 134, 3) := dk_192 0 134 (dk_at dksX27_lay_2 9 rfl rfl)
theorem dX27_lay_58 : decode cX27_lay 58 = .ok (.astore_n 3, 1) := dk_78 (dk_at dksX27_lay_2 12 rfl rfl)
theorem dX27_lay_59 : decode cX27_lay 59 = .ok (.aload_n 3, 1) := dk_45 (dk_at dksX27_lay_2 13 rfl rfl)
theorem dX27_lay_60 : decode cX27_lay 60 = .ok (.ifnull 15, 3) := dk_198 0 15 (dk_at dksX27_lay_2 14 rfl rfl)
theorem dX27_lay_63 : decode cX27_lay 63 = .ok (.aload_n 3, 1) := dk_45 (dk_at dksX27_lay_2 17 rfl rfl)
theorem dX27_lay_64 : decode cX27_lay 64 = .ok (.invokevirtual 142, 3) := dk_182 0 142 (dk_at dksX27_lay_2 18 rfl rfl)
theorem dX27_lay_67 : decode cX27_lay 67 = .ok (.aload_n 0, 1) := dk_42 (dk_at dksX27_lay_2 21 rfl rfl)
theorem dX27_lay_68 : decode cX27_lay 68 = .ok (.iload_n 2, 1) := dk_28 (dk_at dksX27_lay_2 22 rfl rfl)
theorem dX27_lay_69 : decode cX27_lay 69 = .ok (.invokevirtual 96, 3) := dk_182 0 96 (dk_at dksX27_lay_3 0 rfl rfl)
theorem dX27_lay_72 : decode cX27_lay 72 = .ok (.if_icmp .le 29, 3) := dk_164 0 29 (dk_at dksX27_lay_3 3 rfl rfl)
theorem dX27_lay_75 : decode cX27_lay 75 = .ok (.aload_n 0, 1) := dk_42 (dk_at dksX27_lay_3 6 rfl rfl)
theorem dX27_lay_76 : decode cX27_lay 76 = .ok (.getfield 21, 3) := dk_180 0 21 (dk_at dksX27_lay_3 7 rfl rfl)
theorem dX27_lay_79 : decode cX27_lay 79 = .ok (.aload_n 1, 1) := dk_43 (dk_at dksX27_lay_3 10 rfl rfl)
theorem dX27_lay_80 : decode cX27_lay 80 = .ok (.invokevirtual 119, 3) := dk_182 0 119 (dk_at dksX27_lay_3 11 rfl rfl)
theorem dX27_lay_83 : decode cX27_lay 83 = .ok (.invokevirtual 130, 3) := dk_182 0 130 (dk_at dksX27_lay_3 14 rfl rfl)
theorem dX27_lay_86 : decode cX27_lay 86 = .ok (.invokestatic 133, 3) := dk_184 0 133 (dk_at dksX27_lay_3 17 rfl rfl)
theorem dX27_lay_89 : decode cX27_lay 89 = .ok (.aload_n 0, 1) := dk_42 (dk_at dksX27_lay_3 20 rfl rfl)
theorem dX27_lay_90 : decode cX27_lay 90 = .ok (.iload_n 2, 1) := dk_28 (dk_at dksX27_lay_3 21 rfl rfl)
theorem dX27_lay_91 : decode cX27_lay 91 = .ok (.invokevirtual 96, 3) := dk_182 0 96 (dk_at dksX27_lay_4 0 rfl rfl)
theorem dX27_lay_94 : decode cX27_lay 94 = .ok (.invokestatic 133, 3) := dk_184 0 133 (dk_at dksX27_lay_4 3 rfl rfl)
theorem dX27_lay_97 : decode cX27_lay 97 = .ok (.invokevirtual 145, 3) := dk_182 0 145 (dk_at dksX27_lay_4 6 rfl rfl)
theorem dX27_lay_100 : decode cX27_lay 100 = .ok (.pop, 1) := dk_87 (dk_at dksX27_lay_4 9 rfl rfl)
theorem dX27_lay_101 : decode cX27_lay 101 = .ok (.return_, 1) := dk_177 (dk_at dksX27_lay_4 10 rfl rfl)
abbrev cX27_roomFor : ByteArray := prog_15_method_6_code
def yX27_roomFor : MethodName := ⟨RX27, "roomFor", "(LCribBooklet$Note;)I"⟩
def dkwX27_roomFor_4 : List UInt8 := [132, 3, 1, 167, 255, 212, 16, 247, 172]
abbrev dktX27_roomFor_4 : List UInt8 := dkwX27_roomFor_4 ++ []
def dkwX27_roomFor_3 : List UInt8 := [182, 0, 106, 42, 29, 4, 100, 182, 0, 106, 159, 0, 14, 42, 29, 28, 182, 0, 115, 153, 0, 5, 29, 172]
abbrev dktX27_roomFor_3 : List UInt8 := dkwX27_roomFor_3 ++ dktX27_roomFor_4
def dkwX27_roomFor_2 : List UInt8 := [180, 0, 112, 4, 96, 62, 29, 42, 182, 0, 103, 162, 0, 42, 43, 182, 0, 109, 153, 0, 35, 42, 29]
abbrev dktX27_roomFor_2 : List UInt8 := dkwX27_roomFor_2 ++ dktX27_roomFor_3
def dkwX27_roomFor_1 : List UInt8 := [167, 0, 16, 42, 180, 0, 112, 28, 96, 42, 182, 0, 103, 163, 0, 8, 42, 180, 0, 112, 172, 42]
abbrev dktX27_roomFor_1 : List UInt8 := dkwX27_roomFor_1 ++ dktX27_roomFor_2
def dkwX27_roomFor_0 : List UInt8 := [43, 182, 0, 107, 61, 43, 182, 0, 109, 153, 0, 18, 42, 42, 180, 0, 112, 28, 182, 0, 115, 153, 0, 24]
abbrev dktX27_roomFor_0 : List UInt8 := dkwX27_roomFor_0 ++ dktX27_roomFor_1
theorem dksX27_roomFor_0 : cX27_roomFor.data.toList.drop 0 = dktX27_roomFor_0 := by decide +kernel
theorem dksX27_roomFor_1 : cX27_roomFor.data.toList.drop 24 = dktX27_roomFor_1 := dk_seg dksX27_roomFor_0 24 rfl rfl
theorem dksX27_roomFor_2 : cX27_roomFor.data.toList.drop 46 = dktX27_roomFor_2 := dk_seg dksX27_roomFor_1 22 rfl rfl
theorem dksX27_roomFor_3 : cX27_roomFor.data.toList.drop 69 = dktX27_roomFor_3 := dk_seg dksX27_roomFor_2 23 rfl rfl
theorem dksX27_roomFor_4 : cX27_roomFor.data.toList.drop 93 = dktX27_roomFor_4 := dk_seg dksX27_roomFor_3 24 rfl rfl
theorem dX27_roomFor_0 : decode cX27_roomFor 0 = .ok (.aload_n 1, 1) := dk_43 (dk_at dksX27_roomFor_0 0 rfl rfl)
theorem dX27_roomFor_1 : decode cX27_roomFor 1 = .ok (.invokevirtual 107, 3) := dk_182 0 107 (dk_at dksX27_roomFor_0 1 rfl rfl)
theorem dX27_roomFor_4 : decode cX27_roomFor 4 = .ok (.istore_n 2, 1) := dk_61 (dk_at dksX27_roomFor_0 4 rfl rfl)
theorem dX27_roomFor_5 : decode cX27_roomFor 5 = .ok (.aload_n 1, 1) := dk_43 (dk_at dksX27_roomFor_0 5 rfl rfl)
theorem dX27_roomFor_6 : decode cX27_roomFor 6 = .ok (.invokevirtual 109, 3) := dk_182 0 109 (dk_at dksX27_roomFor_0 6 rfl rfl)
theorem dX27_roomFor_9 : decode cX27_roomFor 9 = .ok (.ifCond .eq 18, 3) := dk_153 0 18 (dk_at dksX27_roomFor_0 9 rfl rfl)
theorem dX27_roomFor_12 : decode cX27_roomFor 12 = .ok (.aload_n 0, 1) := dk_42 (dk_at dksX27_roomFor_0 12 rfl rfl)
theorem dX27_roomFor_13 : decode cX27_roomFor 13 = .ok (.aload_n 0, 1) := dk_42 (dk_at dksX27_roomFor_0 13 rfl rfl)
theorem dX27_roomFor_14 : decode cX27_roomFor 14 = .ok (.getfield 112, 3) := dk_180 0 112 (dk_at dksX27_roomFor_0 14 rfl rfl)
theorem dX27_roomFor_17 : decode cX27_roomFor 17 = .ok (.iload_n 2, 1) := dk_28 (dk_at dksX27_roomFor_0 17 rfl rfl)
theorem dX27_roomFor_18 : decode cX27_roomFor 18 = .ok (.invokevirtual 115, 3) := dk_182 0 115 (dk_at dksX27_roomFor_0 18 rfl rfl)
theorem dX27_roomFor_21 : decode cX27_roomFor 21 = .ok (.ifCond .eq 24, 3) := dk_153 0 24 (dk_at dksX27_roomFor_0 21 rfl rfl)
theorem dX27_roomFor_24 : decode cX27_roomFor 24 = .ok (.goto 16, 3) := dk_167 0 16 (dk_at dksX27_roomFor_1 0 rfl rfl)
theorem dX27_roomFor_27 : decode cX27_roomFor 27 = .ok (.aload_n 0, 1) := dk_42 (dk_at dksX27_roomFor_1 3 rfl rfl)
theorem dX27_roomFor_28 : decode cX27_roomFor 28 = .ok (.getfield 112, 3) := dk_180 0 112 (dk_at dksX27_roomFor_1 4 rfl rfl)
theorem dX27_roomFor_31 : decode cX27_roomFor 31 = .ok (.iload_n 2, 1) := dk_28 (dk_at dksX27_roomFor_1 7 rfl rfl)
theorem dX27_roomFor_32 : decode cX27_roomFor 32 = .ok (.iadd, 1) := dk_96 (dk_at dksX27_roomFor_1 8 rfl rfl)
theorem dX27_roomFor_33 : decode cX27_roomFor 33 = .ok (.aload_n 0, 1) := dk_42 (dk_at dksX27_roomFor_1 9 rfl rfl)
theorem dX27_roomFor_34 : decode cX27_roomFor 34 = .ok (.invokevirtual 103, 3) := dk_182 0 103 (dk_at dksX27_roomFor_1 10 rfl rfl)
theorem dX27_roomFor_37 : decode cX27_roomFor 37 = .ok (.if_icmp .gt 8, 3) := dk_163 0 8 (dk_at dksX27_roomFor_1 13 rfl rfl)
theorem dX27_roomFor_40 : decode cX27_roomFor 40 = .ok (.aload_n 0, 1) := dk_42 (dk_at dksX27_roomFor_1 16 rfl rfl)
theorem dX27_roomFor_41 : decode cX27_roomFor 41 = .ok (.getfield 112, 3) := dk_180 0 112 (dk_at dksX27_roomFor_1 17 rfl rfl)
theorem dX27_roomFor_44 : decode cX27_roomFor 44 = .ok (.ireturn, 1) := dk_172 (dk_at dksX27_roomFor_1 20 rfl rfl)
theorem dX27_roomFor_45 : decode cX27_roomFor 45 = .ok (.aload_n 0, 1) := dk_42 (dk_at dksX27_roomFor_1 21 rfl rfl)
theorem dX27_roomFor_46 : decode cX27_roomFor 46 = .ok (.getfield 112, 3) := dk_180 0 112 (dk_at dksX27_roomFor_2 0 rfl rfl)
theorem dX27_roomFor_49 : decode cX27_roomFor 49 = .ok (.iconst 1, 1) := dk_4 (dk_at dksX27_roomFor_2 3 rfl rfl)
theorem dX27_roomFor_50 : decode cX27_roomFor 50 = .ok (.iadd, 1) := dk_96 (dk_at dksX27_roomFor_2 4 rfl rfl)
theorem dX27_roomFor_51 : decode cX27_roomFor 51 = .ok (.istore_n 3, 1) := dk_62 (dk_at dksX27_roomFor_2 5 rfl rfl)
theorem dX27_roomFor_52 : decode cX27_roomFor 52 = .ok (.iload_n 3, 1) := dk_29 (dk_at dksX27_roomFor_2 6 rfl rfl)
theorem dX27_roomFor_53 : decode cX27_roomFor 53 = .ok (.aload_n 0, 1) := dk_42 (dk_at dksX27_roomFor_2 7 rfl rfl)
theorem dX27_roomFor_54 : decode cX27_roomFor 54 = .ok (.invokevirtual 103, 3) := dk_182 0 103 (dk_at dksX27_roomFor_2 8 rfl rfl)
theorem dX27_roomFor_57 : decode cX27_roomFor 57 = .ok (.if_icmp .ge 42, 3) := dk_162 0 42 (dk_at dksX27_roomFor_2 11 rfl rfl)
theorem dX27_roomFor_60 : decode cX27_roomFor 60 = .ok (.aload_n 1, 1) := dk_43 (dk_at dksX27_roomFor_2 14 rfl rfl)
theorem dX27_roomFor_61 : decode cX27_roomFor 61 = .ok (.invokevirtual 109, 3) := dk_182 0 109 (dk_at dksX27_roomFor_2 15 rfl rfl)
theorem dX27_roomFor_64 : decode cX27_roomFor 64 = .ok (.ifCond .eq 35, 3) := dk_153 0 35 (dk_at dksX27_roomFor_2 18 rfl rfl)
theorem dX27_roomFor_67 : decode cX27_roomFor 67 = .ok (.aload_n 0, 1) := dk_42 (dk_at dksX27_roomFor_2 21 rfl rfl)
theorem dX27_roomFor_68 : decode cX27_roomFor 68 = .ok (.iload_n 3, 1) := dk_29 (dk_at dksX27_roomFor_2 22 rfl rfl)
theorem dX27_roomFor_69 : decode cX27_roomFor 69 = .ok (.invokevirtual 106, 3) := dk_182 0 106 (dk_at dksX27_roomFor_3 0 rfl rfl)
theorem dX27_roomFor_72 : decode cX27_roomFor 72 = .ok (.aload_n 0, 1) := dk_42 (dk_at dksX27_roomFor_3 3 rfl rfl)
theorem dX27_roomFor_73 : decode cX27_roomFor 73 = .ok (.iload_n 3, 1) := dk_29 (dk_at dksX27_roomFor_3 4 rfl rfl)
theorem dX27_roomFor_74 : decode cX27_roomFor 74 = .ok (.iconst 1, 1) := dk_4 (dk_at dksX27_roomFor_3 5 rfl rfl)
theorem dX27_roomFor_75 : decode cX27_roomFor 75 = .ok (.isub, 1) := dk_100 (dk_at dksX27_roomFor_3 6 rfl rfl)
theorem dX27_roomFor_76 : decode cX27_roomFor 76 = .ok (.invokevirtual 106, 3) := dk_182 0 106 (dk_at dksX27_roomFor_3 7 rfl rfl)
theorem dX27_roomFor_79 : decode cX27_roomFor 79 = .ok (.if_icmp .eq 14, 3) := dk_159 0 14 (dk_at dksX27_roomFor_3 10 rfl rfl)
theorem dX27_roomFor_82 : decode cX27_roomFor 82 = .ok (.aload_n 0, 1) := dk_42 (dk_at dksX27_roomFor_3 13 rfl rfl)
theorem dX27_roomFor_83 : decode cX27_roomFor 83 = .ok (.iload_n 3, 1) := dk_29 (dk_at dksX27_roomFor_3 14 rfl rfl)
theorem dX27_roomFor_84 : decode cX27_roomFor 84 = .ok (.iload_n 2, 1) := dk_28 (dk_at dksX27_roomFor_3 15 rfl rfl)
theorem dX27_roomFor_85 : decode cX27_roomFor 85 = .ok (.invokevirtual 115, 3) := dk_182 0 115 (dk_at dksX27_roomFor_3 16 rfl rfl)
theorem dX27_roomFor_88 : decode cX27_roomFor 88 = .ok (.ifCond .eq 5, 3) := dk_153 0 5 (dk_at dksX27_roomFor_3 19 rfl rfl)
theorem dX27_roomFor_91 : decode cX27_roomFor 91 = .ok (.iload_n 3, 1) := dk_29 (dk_at dksX27_roomFor_3 22 rfl rfl)
theorem dX27_roomFor_92 : decode cX27_roomFor 92 = .ok (.ireturn, 1) := dk_172 (dk_at dksX27_roomFor_3 23 rfl rfl)
theorem dX27_roomFor_93 : decode cX27_roomFor 93 = .ok (.iinc 3 1, 3) := dk_132 3 1 (dk_at dksX27_roomFor_4 0 rfl rfl)
theorem dX27_roomFor_96 : decode cX27_roomFor 96 = .ok (.goto (-44), 3) := dk_167 255 212 (dk_at dksX27_roomFor_4 3 rfl rfl)
theorem dX27_roomFor_99 : decode cX27_roomFor 99 = .ok (.bipush (-9), 2) := dk_16 247 (dk_at dksX27_roomFor_4 6 rfl rfl)
theorem dX27_roomFor_101 : decode cX27_roomFor 101 = .ok (.ireturn, 1) := dk_172 (dk_at dksX27_roomFor_4 8 rfl rfl)
abbrev cX27_isAtOneOpening : ByteArray := prog_15_method_5_code
def yX27_isAtOneOpening : MethodName := ⟨RX27, "isAtOneOpening", "(II)Z"⟩
def dkwX27_isAtOneOpening_1 : List UInt8 := [160, 0, 7, 4, 167, 0, 4, 3, 172]
abbrev dktX27_isAtOneOpening_1 : List UInt8 := dkwX27_isAtOneOpening_1 ++ []
def dkwX27_isAtOneOpening_0 : List UInt8 := [27, 28, 96, 42, 182, 0, 103, 163, 0, 24, 42, 27, 182, 0, 106, 42, 27, 28, 96, 4, 100, 182, 0, 106]
abbrev dktX27_isAtOneOpening_0 : List UInt8 := dkwX27_isAtOneOpening_0 ++ dktX27_isAtOneOpening_1
theorem dksX27_isAtOneOpening_0 : cX27_isAtOneOpening.data.toList.drop 0 = dktX27_isAtOneOpening_0 := by decide +kernel
theorem dksX27_isAtOneOpening_1 : cX27_isAtOneOpening.data.toList.drop 24 = dktX27_isAtOneOpening_1 := dk_seg dksX27_isAtOneOpening_0 24 rfl rfl
theorem dX27_isAtOneOpening_0 : decode cX27_isAtOneOpening 0 = .ok (.iload_n 1, 1) := dk_27 (dk_at dksX27_isAtOneOpening_0 0 rfl rfl)
theorem dX27_isAtOneOpening_1 : decode cX27_isAtOneOpening 1 = .ok (.iload_n 2, 1) := dk_28 (dk_at dksX27_isAtOneOpening_0 1 rfl rfl)
theorem dX27_isAtOneOpening_2 : decode cX27_isAtOneOpening 2 = .ok (.iadd, 1) := dk_96 (dk_at dksX27_isAtOneOpening_0 2 rfl rfl)
theorem dX27_isAtOneOpening_3 : decode cX27_isAtOneOpening 3 = .ok (.aload_n 0, 1) := dk_42 (dk_at dksX27_isAtOneOpening_0 3 rfl rfl)
theorem dX27_isAtOneOpening_4 : decode cX27_isAtOneOpening 4 = .ok (.invokevirtual 103, 3) := dk_182 0 103 (dk_at dksX27_isAtOneOpening_0 4 rfl rfl)
theorem dX27_isAtOneOpening_7 : decode cX27_isAtOneOpening 7 = .ok (.if_icmp .gt 24, 3) := dk_163 0 24 (dk_at dksX27_isAtOneOpening_0 7 rfl rfl)
theorem dX27_isAtOneOpening_10 : decode cX27_isAtOneOpening 10 = .ok (.aload_n 0, 1) := dk_42 (dk_at dksX27_isAtOneOpening_0 10 rfl rfl)
theorem dX27_isAtOneOpening_11 : decode cX27_isAtOneOpening 11 = .ok (.iload_n 1, 1) := dk_27 (dk_at dksX27_isAtOneOpening_0 11 rfl rfl)
theorem dX27_isAtOneOpening_12 : decode cX27_isAtOneOpening 12 = .ok (.invokevirtual 106, 3) := dk_182 0 106 (dk_at dksX27_isAtOneOpening_0 12 rfl rfl)
theorem dX27_isAtOneOpening_15 : decode cX27_isAtOneOpening 15 = .ok (.aload_n 0, 1) := dk_42 (dk_at dksX27_isAtOneOpening_0 15 rfl rfl)
theorem dX27_isAtOneOpening_16 : decode cX27_isAtOneOpening 16 = .ok (.iload_n 1, 1) := dk_27 (dk_at dksX27_isAtOneOpening_0 16 rfl rfl)
theorem dX27_isAtOneOpening_17 : decode cX27_isAtOneOpening 17 = .ok (.iload_n 2, 1) := dk_28 (dk_at dksX27_isAtOneOpening_0 17 rfl rfl)
theorem dX27_isAtOneOpening_18 : decode cX27_isAtOneOpening 18 = .ok (.iadd, 1) := dk_96 (dk_at dksX27_isAtOneOpening_0 18 rfl rfl)
theorem dX27_isAtOneOpening_19 : decode cX27_isAtOneOpening 19 = .ok (.iconst 1, 1) := dk_4 (dk_at dksX27_isAtOneOpening_0 19 rfl rfl)
theorem dX27_isAtOneOpening_20 : decode cX27_isAtOneOpening 20 = .ok (.isub, 1) := dk_100 (dk_at dksX27_isAtOneOpening_0 20 rfl rfl)
theorem dX27_isAtOneOpening_21 : decode cX27_isAtOneOpening 21 = .ok (.invokevirtual 106, 3) := dk_182 0 106 (dk_at dksX27_isAtOneOpening_0 21 rfl rfl)
theorem dX27_isAtOneOpening_24 : decode cX27_isAtOneOpening 24 = .ok (.if_icmp .ne 7, 3) := dk_160 0 7 (dk_at dksX27_isAtOneOpening_1 0 rfl rfl)
theorem dX27_isAtOneOpening_27 : decode cX27_isAtOneOpening 27 = .ok (.iconst 1, 1) := dk_4 (dk_at dksX27_isAtOneOpening_1 3 rfl rfl)
theorem dX27_isAtOneOpening_28 : decode cX27_isAtOneOpening 28 = .ok (.goto 4, 3) := dk_167 0 4 (dk_at dksX27_isAtOneOpening_1 4 rfl rfl)
theorem dX27_isAtOneOpening_31 : decode cX27_isAtOneOpening 31 = .ok (.iconst 0, 1) := dk_3 (dk_at dksX27_isAtOneOpening_1 7 rfl rfl)
theorem dX27_isAtOneOpening_32 : decode cX27_isAtOneOpening 32 = .ok (.ireturn, 1) := dk_172 (dk_at dksX27_isAtOneOpening_1 8 rfl rfl)
abbrev cX27_all : ByteArray := prog_15_method_2_code
def yX27_all : MethodName := ⟨RX27, "all", "()I"⟩
def dkwX27_all_0 : List UInt8 := [42, 180, 0, 43, 42, 180, 0, 35, 180, 0, 93, 104, 172]
abbrev dktX27_all_0 : List UInt8 := dkwX27_all_0 ++ []
theorem dksX27_all_0 : cX27_all.data.toList.drop 0 = dktX27_all_0 := by decide +kernel
theorem dX27_all_0 : decode cX27_all 0 = .ok (.aload_n 0, 1) := dk_42 (dk_at dksX27_all_0 0 rfl rfl)
theorem dX27_all_1 : decode cX27_all 1 = .ok (.getfield 43, 3) := dk_180 0 43 (dk_at dksX27_all_0 1 rfl rfl)
theorem dX27_all_4 : decode cX27_all 4 = .ok (.aload_n 0, 1) := dk_42 (dk_at dksX27_all_0 4 rfl rfl)
theorem dX27_all_5 : decode cX27_all 5 = .ok (.getfield 35, 3) := dk_180 0 35 (dk_at dksX27_all_0 5 rfl rfl)
theorem dX27_all_8 : decode cX27_all 8 = .ok (.getfield 93, 3) := dk_180 0 93 (dk_at dksX27_all_0 8 rfl rfl)
theorem dX27_all_11 : decode cX27_all 11 = .ok (.imul, 1) := dk_104 (dk_at dksX27_all_0 11 rfl rfl)
theorem dX27_all_12 : decode cX27_all 12 = .ok (.ireturn, 1) := dk_172 (dk_at dksX27_all_0 12 rfl rfl)
abbrev cX27_openingOf : ByteArray := prog_15_method_4_code
def yX27_openingOf : MethodName := ⟨RX27, "openingOf", "(I)I"⟩
def dkwX27_openingOf_0 : List UInt8 := [42, 180, 0, 25, 42, 27, 182, 0, 96, 182, 0, 100, 172]
abbrev dktX27_openingOf_0 : List UInt8 := dkwX27_openingOf_0 ++ []
theorem dksX27_openingOf_0 : cX27_openingOf.data.toList.drop 0 = dktX27_openingOf_0 := by decide +kernel
theorem dX27_openingOf_0 : decode cX27_openingOf 0 = .ok (.aload_n 0, 1) := dk_42 (dk_at dksX27_openingOf_0 0 rfl rfl)
theorem dX27_openingOf_1 : decode cX27_openingOf 1 = .ok (.getfield 25, 3) := dk_180 0 25 (dk_at dksX27_openingOf_0 1 rfl rfl)
theorem dX27_openingOf_4 : decode cX27_openingOf 4 = .ok (.aload_n 0, 1) := dk_42 (dk_at dksX27_openingOf_0 4 rfl rfl)
theorem dX27_openingOf_5 : decode cX27_openingOf 5 = .ok (.iload_n 1, 1) := dk_27 (dk_at dksX27_openingOf_0 5 rfl rfl)
theorem dX27_openingOf_6 : decode cX27_openingOf 6 = .ok (.invokevirtual 96, 3) := dk_182 0 96 (dk_at dksX27_openingOf_0 6 rfl rfl)
theorem dX27_openingOf_9 : decode cX27_openingOf 9 = .ok (.invokevirtual 100, 3) := dk_182 0 100 (dk_at dksX27_openingOf_0 9 rfl rfl)
theorem dX27_openingOf_12 : decode cX27_openingOf 12 = .ok (.ireturn, 1) := dk_172 (dk_at dksX27_openingOf_0 12 rfl rfl)
abbrev cX27_pageOf : ByteArray := prog_15_method_3_code
def yX27_pageOf : MethodName := ⟨RX27, "pageOf", "(I)I"⟩
def dkwX27_pageOf_0 : List UInt8 := [42, 180, 0, 9, 27, 42, 180, 0, 35, 180, 0, 93, 108, 46, 172]
abbrev dktX27_pageOf_0 : List UInt8 := dkwX27_pageOf_0 ++ []
theorem dksX27_pageOf_0 : cX27_pageOf.data.toList.drop 0 = dktX27_pageOf_0 := by decide +kernel
theorem dX27_pageOf_0 : decode cX27_pageOf 0 = .ok (.aload_n 0, 1) := dk_42 (dk_at dksX27_pageOf_0 0 rfl rfl)
theorem dX27_pageOf_1 : decode cX27_pageOf 1 = .ok (.getfield 9, 3) := dk_180 0 9 (dk_at dksX27_pageOf_0 1 rfl rfl)
theorem dX27_pageOf_4 : decode cX27_pageOf 4 = .ok (.iload_n 1, 1) := dk_27 (dk_at dksX27_pageOf_0 4 rfl rfl)
theorem dX27_pageOf_5 : decode cX27_pageOf 5 = .ok (.aload_n 0, 1) := dk_42 (dk_at dksX27_pageOf_0 5 rfl rfl)
theorem dX27_pageOf_6 : decode cX27_pageOf 6 = .ok (.getfield 35, 3) := dk_180 0 35 (dk_at dksX27_pageOf_0 6 rfl rfl)
theorem dX27_pageOf_9 : decode cX27_pageOf 9 = .ok (.getfield 93, 3) := dk_180 0 93 (dk_at dksX27_pageOf_0 9 rfl rfl)
theorem dX27_pageOf_12 : decode cX27_pageOf 12 = .ok (.idiv, 1) := dk_108 (dk_at dksX27_pageOf_0 12 rfl rfl)
theorem dX27_pageOf_13 : decode cX27_pageOf 13 = .ok (.iaload, 1) := dk_46 (dk_at dksX27_pageOf_0 13 rfl rfl)
theorem dX27_pageOf_14 : decode cX27_pageOf 14 = .ok (.ireturn, 1) := dk_172 (dk_at dksX27_pageOf_0 14 rfl rfl)
abbrev cX27_takenOn : ByteArray := prog_15_method_8_code
def yX27_takenOn : MethodName := ⟨RX27, "takenOn", "(I)I"⟩
def dkwX27_takenOn_3 : List UInt8 := [4, 167, 0, 4, 3, 96, 61, 132, 4, 1, 167, 255, 195, 132, 3, 1, 167, 255, 172, 28, 172]
abbrev dktX27_takenOn_3 : List UInt8 := dkwX27_takenOn_3 ++ []
def dkwX27_takenOn_2 : List UInt8 := [46, 16, 247, 159, 0, 34, 28, 42, 42, 180, 0, 15, 29, 46, 21, 4, 96, 182, 0, 96, 27, 160, 0, 7]
abbrev dktX27_takenOn_2 : List UInt8 := dkwX27_takenOn_2 ++ dktX27_takenOn_3
def dkwX27_takenOn_1 : List UInt8 := [180, 0, 35, 180, 0, 55, 29, 182, 0, 68, 192, 0, 72, 182, 0, 107, 162, 0, 45, 42, 180, 0, 15, 29]
abbrev dktX27_takenOn_1 : List UInt8 := dkwX27_takenOn_1 ++ dktX27_takenOn_2
def dkwX27_takenOn_0 : List UInt8 := [3, 61, 3, 62, 29, 42, 180, 0, 35, 180, 0, 55, 182, 0, 61, 162, 0, 76, 3, 54, 4, 21, 4, 42]
abbrev dktX27_takenOn_0 : List UInt8 := dkwX27_takenOn_0 ++ dktX27_takenOn_1
theorem dksX27_takenOn_0 : cX27_takenOn.data.toList.drop 0 = dktX27_takenOn_0 := by decide +kernel
theorem dksX27_takenOn_1 : cX27_takenOn.data.toList.drop 24 = dktX27_takenOn_1 := dk_seg dksX27_takenOn_0 24 rfl rfl
theorem dksX27_takenOn_2 : cX27_takenOn.data.toList.drop 48 = dktX27_takenOn_2 := dk_seg dksX27_takenOn_1 24 rfl rfl
theorem dksX27_takenOn_3 : cX27_takenOn.data.toList.drop 72 = dktX27_takenOn_3 := dk_seg dksX27_takenOn_2 24 rfl rfl
theorem dX27_takenOn_0 : decode cX27_takenOn 0 = .ok (.iconst 0, 1) := dk_3 (dk_at dksX27_takenOn_0 0 rfl rfl)
theorem dX27_takenOn_1 : decode cX27_takenOn 1 = .ok (.istore_n 2, 1) := dk_61 (dk_at dksX27_takenOn_0 1 rfl rfl)
theorem dX27_takenOn_2 : decode cX27_takenOn 2 = .ok (.iconst 0, 1) := dk_3 (dk_at dksX27_takenOn_0 2 rfl rfl)
theorem dX27_takenOn_3 : decode cX27_takenOn 3 = .ok (.istore_n 3, 1) := dk_62 (dk_at dksX27_takenOn_0 3 rfl rfl)
theorem dX27_takenOn_4 : decode cX27_takenOn 4 = .ok (.iload_n 3, 1) := dk_29 (dk_at dksX27_takenOn_0 4 rfl rfl)
theorem dX27_takenOn_5 : decode cX27_takenOn 5 = .ok (.aload_n 0, 1) := dk_42 (dk_at dksX27_takenOn_0 5 rfl rfl)
theorem dX27_takenOn_6 : decode cX27_takenOn 6 = .ok (.getfield 35, 3) := dk_180 0 35 (dk_at dksX27_takenOn_0 6 rfl rfl)
theorem dX27_takenOn_9 : decode cX27_takenOn 9 = .ok (.getfield 55, 3) := dk_180 0 55 (dk_at dksX27_takenOn_0 9 rfl rfl)
theorem dX27_takenOn_12 : decode cX27_takenOn 12 = .ok (.invokevirtual 61, 3) := dk_182 0 61 (dk_at dksX27_takenOn_0 12 rfl rfl)
theorem dX27_takenOn_15 : decode cX27_takenOn 15 = .ok (.if_icmp .ge 76, 3) := dk_162 0 76 (dk_at dksX27_takenOn_0 15 rfl rfl)
theorem dX27_takenOn_18 : decode cX27_takenOn 18 = .ok (.iconst 0, 1) := dk_3 (dk_at dksX27_takenOn_0 18 rfl rfl)
theorem dX27_takenOn_19 : decode cX27_takenOn 19 = .ok (.istore 4, 2) := dk_54 4 (dk_at dksX27_takenOn_0 19 rfl rfl)
theorem dX27_takenOn_21 : decode cX27_takenOn 21 = .ok (.iload 4, 2) := dk_21 4 (dk_at dksX27_takenOn_0 21 rfl rfl)
theorem dX27_takenOn_23 : decode cX27_takenOn 23 = .ok (.aload_n 0, 1) := dk_42 (dk_at dksX27_takenOn_0 23 rfl rfl)
theorem dX27_takenOn_24 : decode cX27_takenOn 24 = .ok (.getfield 35, 3) := dk_180 0 35 (dk_at dksX27_takenOn_1 0 rfl rfl)
theorem dX27_takenOn_27 : decode cX27_takenOn 27 = .ok (.getfield 55, 3) := dk_180 0 55 (dk_at dksX27_takenOn_1 3 rfl rfl)
theorem dX27_takenOn_30 : decode cX27_takenOn 30 = .ok (.iload_n 3, 1) := dk_29 (dk_at dksX27_takenOn_1 6 rfl rfl)
theorem dX27_takenOn_31 : decode cX27_takenOn 31 = .ok (.invokevirtual 68, 3) := dk_182 0 68 (dk_at dksX27_takenOn_1 7 rfl rfl)
theorem dX27_takenOn_34 : decode cX27_takenOn 34 = .ok (.checkcast 72, 3) := dk_192 0 72 (dk_at dksX27_takenOn_1 10 rfl rfl)
theorem dX27_takenOn_37 : decode cX27_takenOn 37 = .ok (.invokevirtual 107, 3) := dk_182 0 107 (dk_at dksX27_takenOn_1 13 rfl rfl)
theorem dX27_takenOn_40 : decode cX27_takenOn 40 = .ok (.if_icmp .ge 45, 3) := dk_162 0 45 (dk_at dksX27_takenOn_1 16 rfl rfl)
theorem dX27_takenOn_43 : decode cX27_takenOn 43 = .ok (.aload_n 0, 1) := dk_42 (dk_at dksX27_takenOn_1 19 rfl rfl)
theorem dX27_takenOn_44 : decode cX27_takenOn 44 = .ok (.getfield 15, 3) := dk_180 0 15 (dk_at dksX27_takenOn_1 20 rfl rfl)
theorem dX27_takenOn_47 : decode cX27_takenOn 47 = .ok (.iload_n 3, 1) := dk_29 (dk_at dksX27_takenOn_1 23 rfl rfl)
theorem dX27_takenOn_48 : decode cX27_takenOn 48 = .ok (.iaload, 1) := dk_46 (dk_at dksX27_takenOn_2 0 rfl rfl)
theorem dX27_takenOn_49 : decode cX27_takenOn 49 = .ok (.bipush (-9), 2) := dk_16 247 (dk_at dksX27_takenOn_2 1 rfl rfl)
theorem dX27_takenOn_51 : decode cX27_takenOn 51 = .ok (.if_icmp .eq 34, 3) := dk_159 0 34 (dk_at dksX27_takenOn_2 3 rfl rfl)
theorem dX27_takenOn_54 : decode cX27_takenOn 54 = .ok (.iload_n 2, 1) := dk_28 (dk_at dksX27_takenOn_2 6 rfl rfl)
theorem dX27_takenOn_55 : decode cX27_takenOn 55 = .ok (.aload_n 0, 1) := dk_42 (dk_at dksX27_takenOn_2 7 rfl rfl)
theorem dX27_takenOn_56 : decode cX27_takenOn 56 = .ok (.aload_n 0, 1) := dk_42 (dk_at dksX27_takenOn_2 8 rfl rfl)
theorem dX27_takenOn_57 : decode cX27_takenOn 57 = .ok (.getfield 15, 3) := dk_180 0 15 (dk_at dksX27_takenOn_2 9 rfl rfl)
theorem dX27_takenOn_60 : decode cX27_takenOn 60 = .ok (.iload_n 3, 1) := dk_29 (dk_at dksX27_takenOn_2 12 rfl rfl)
theorem dX27_takenOn_61 : decode cX27_takenOn 61 = .ok (.iaload, 1) := dk_46 (dk_at dksX27_takenOn_2 13 rfl rfl)
theorem dX27_takenOn_62 : decode cX27_takenOn 62 = .ok (.iload 4, 2) := dk_21 4 (dk_at dksX27_takenOn_2 14 rfl rfl)
theorem dX27_takenOn_64 : decode cX27_takenOn 64 = .ok (.iadd, 1) := dk_96 (dk_at dksX27_takenOn_2 16 rfl rfl)
theorem dX27_takenOn_65 : decode cX27_takenOn 65 = .ok (.invokevirtual 96, 3) := dk_182 0 96 (dk_at dksX27_takenOn_2 17 rfl rfl)
theorem dX27_takenOn_68 : decode cX27_takenOn 68 = .ok (.iload_n 1, 1) := dk_27 (dk_at dksX27_takenOn_2 20 rfl rfl)
theorem dX27_takenOn_69 : decode cX27_takenOn 69 = .ok (.if_icmp .ne 7, 3) := dk_160 0 7 (dk_at dksX27_takenOn_2 21 rfl rfl)
theorem dX27_takenOn_72 : decode cX27_takenOn 72 = .ok (.iconst 1, 1) := dk_4 (dk_at dksX27_takenOn_3 0 rfl rfl)
theorem dX27_takenOn_73 : decode cX27_takenOn 73 = .ok (.goto 4, 3) := dk_167 0 4 (dk_at dksX27_takenOn_3 1 rfl rfl)
theorem dX27_takenOn_76 : decode cX27_takenOn 76 = .ok (.iconst 0, 1) := dk_3 (dk_at dksX27_takenOn_3 4 rfl rfl)
theorem dX27_takenOn_77 : decode cX27_takenOn 77 = .ok (.iadd, 1) := dk_96 (dk_at dksX27_takenOn_3 5 rfl rfl)
theorem dX27_takenOn_78 : decode cX27_takenOn 78 = .ok (.istore_n 2, 1) := dk_61 (dk_at dksX27_takenOn_3 6 rfl rfl)
theorem dX27_takenOn_79 : decode cX27_takenOn 79 = .ok (.iinc 4 1, 3) := dk_132 4 1 (dk_at dksX27_takenOn_3 7 rfl rfl)
theorem dX27_takenOn_82 : decode cX27_takenOn 82 = .ok (.goto (-61), 3) := dk_167 255 195 (dk_at dksX27_takenOn_3 10 rfl rfl)
theorem dX27_takenOn_85 : decode cX27_takenOn 85 = .ok (.iinc 3 1, 3) := dk_132 3 1 (dk_at dksX27_takenOn_3 13 rfl rfl)
theorem dX27_takenOn_88 : decode cX27_takenOn 88 = .ok (.goto (-84), 3) := dk_167 255 172 (dk_at dksX27_takenOn_3 16 rfl rfl)
theorem dX27_takenOn_91 : decode cX27_takenOn 91 = .ok (.iload_n 2, 1) := dk_28 (dk_at dksX27_takenOn_3 19 rfl rfl)
theorem dX27_takenOn_92 : decode cX27_takenOn 92 = .ok (.ireturn, 1) := dk_172 (dk_at dksX27_takenOn_3 20 rfl rfl)
abbrev cX27_tells : ByteArray := prog_15_method_9_code
def yX27_tells : MethodName := ⟨RX27, "tells", "(II)I"⟩
def dkwX27_tells_3 : List UInt8 := [180, 0, 55, 27, 182, 0, 68, 192, 0, 72, 182, 0, 107, 96, 4, 100, 182, 0, 96, 172]
abbrev dktX27_tells_3 : List UInt8 := dkwX27_tells_3 ++ []
def dkwX27_tells_2 : List UInt8 := [42, 29, 182, 0, 96, 172, 29, 42, 180, 0, 35, 180, 0, 93, 112, 172, 42, 29, 42, 180, 0, 35]
abbrev dktX27_tells_2 : List UInt8 := dkwX27_tells_2 ++ dktX27_tells_3
def dkwX27_tells_1 : List UInt8 := [171, 0, 0, 0, 0, 0, 43, 0, 0, 0, 2, 0, 0, 0, 4, 0, 0, 0, 27, 0, 0, 0, 5, 0, 0, 0, 33]
abbrev dktX27_tells_1 : List UInt8 := dkwX27_tells_1 ++ dktX27_tells_2
def dkwX27_tells_0 : List UInt8 := [42, 180, 0, 15, 27, 46, 62, 29, 16, 247, 160, 0, 6, 16, 247, 172, 28]
abbrev dktX27_tells_0 : List UInt8 := dkwX27_tells_0 ++ dktX27_tells_1
theorem dksX27_tells_0 : cX27_tells.data.toList.drop 0 = dktX27_tells_0 := by decide +kernel
theorem dksX27_tells_1 : cX27_tells.data.toList.drop 17 = dktX27_tells_1 := dk_seg dksX27_tells_0 17 rfl rfl
theorem dksX27_tells_2 : cX27_tells.data.toList.drop 44 = dktX27_tells_2 := dk_seg dksX27_tells_1 27 rfl rfl
theorem dksX27_tells_3 : cX27_tells.data.toList.drop 66 = dktX27_tells_3 := dk_seg dksX27_tells_2 22 rfl rfl
theorem dX27_tells_0 : decode cX27_tells 0 = .ok (.aload_n 0, 1) := dk_42 (dk_at dksX27_tells_0 0 rfl rfl)
theorem dX27_tells_1 : decode cX27_tells 1 = .ok (.getfield 15, 3) := dk_180 0 15 (dk_at dksX27_tells_0 1 rfl rfl)
theorem dX27_tells_4 : decode cX27_tells 4 = .ok (.iload_n 1, 1) := dk_27 (dk_at dksX27_tells_0 4 rfl rfl)
theorem dX27_tells_5 : decode cX27_tells 5 = .ok (.iaload, 1) := dk_46 (dk_at dksX27_tells_0 5 rfl rfl)
theorem dX27_tells_6 : decode cX27_tells 6 = .ok (.istore_n 3, 1) := dk_62 (dk_at dksX27_tells_0 6 rfl rfl)
theorem dX27_tells_7 : decode cX27_tells 7 = .ok (.iload_n 3, 1) := dk_29 (dk_at dksX27_tells_0 7 rfl rfl)
theorem dX27_tells_8 : decode cX27_tells 8 = .ok (.bipush (-9), 2) := dk_16 247 (dk_at dksX27_tells_0 8 rfl rfl)
theorem dX27_tells_10 : decode cX27_tells 10 = .ok (.if_icmp .ne 6, 3) := dk_160 0 6 (dk_at dksX27_tells_0 10 rfl rfl)
theorem dX27_tells_13 : decode cX27_tells 13 = .ok (.bipush (-9), 2) := dk_16 247 (dk_at dksX27_tells_0 13 rfl rfl)
theorem dX27_tells_15 : decode cX27_tells 15 = .ok (.ireturn, 1) := dk_172 (dk_at dksX27_tells_0 15 rfl rfl)
theorem dX27_tells_16 : decode cX27_tells 16 = .ok (.iload_n 2, 1) := dk_28 (dk_at dksX27_tells_0 16 rfl rfl)
theorem dX27_tells_17 : decode cX27_tells 17 = .ok (.lookupswitch 43 #[(4, 27), (5, 33)], 27) := by decide +kernel
theorem dX27_tells_44 : decode cX27_tells 44 = .ok (.aload_n 0, 1) := dk_42 (dk_at dksX27_tells_2 0 rfl rfl)
theorem dX27_tells_45 : decode cX27_tells 45 = .ok (.iload_n 3, 1) := dk_29 (dk_at dksX27_tells_2 1 rfl rfl)
theorem dX27_tells_46 : decode cX27_tells 46 = .ok (.invokevirtual 96, 3) := dk_182 0 96 (dk_at dksX27_tells_2 2 rfl rfl)
theorem dX27_tells_49 : decode cX27_tells 49 = .ok (.ireturn, 1) := dk_172 (dk_at dksX27_tells_2 5 rfl rfl)
theorem dX27_tells_50 : decode cX27_tells 50 = .ok (.iload_n 3, 1) := dk_29 (dk_at dksX27_tells_2 6 rfl rfl)
theorem dX27_tells_51 : decode cX27_tells 51 = .ok (.aload_n 0, 1) := dk_42 (dk_at dksX27_tells_2 7 rfl rfl)
theorem dX27_tells_52 : decode cX27_tells 52 = .ok (.getfield 35, 3) := dk_180 0 35 (dk_at dksX27_tells_2 8 rfl rfl)
theorem dX27_tells_55 : decode cX27_tells 55 = .ok (.getfield 93, 3) := dk_180 0 93 (dk_at dksX27_tells_2 11 rfl rfl)
theorem dX27_tells_58 : decode cX27_tells 58 = .ok (.irem, 1) := dk_112 (dk_at dksX27_tells_2 14 rfl rfl)
theorem dX27_tells_59 : decode cX27_tells 59 = .ok (.ireturn, 1) := dk_172 (dk_at dksX27_tells_2 15 rfl rfl)
theorem dX27_tells_60 : decode cX27_tells 60 = .ok (.aload_n 0, 1) := dk_42 (dk_at dksX27_tells_2 16 rfl rfl)
theorem dX27_tells_61 : decode cX27_tells 61 = .ok (.iload_n 3, 1) := dk_29 (dk_at dksX27_tells_2 17 rfl rfl)
theorem dX27_tells_62 : decode cX27_tells 62 = .ok (.aload_n 0, 1) := dk_42 (dk_at dksX27_tells_2 18 rfl rfl)
theorem dX27_tells_63 : decode cX27_tells 63 = .ok (.getfield 35, 3) := dk_180 0 35 (dk_at dksX27_tells_2 19 rfl rfl)
theorem dX27_tells_66 : decode cX27_tells 66 = .ok (.getfield 55, 3) := dk_180 0 55 (dk_at dksX27_tells_3 0 rfl rfl)
theorem dX27_tells_69 : decode cX27_tells 69 = .ok (.iload_n 1, 1) := dk_27 (dk_at dksX27_tells_3 3 rfl rfl)
theorem dX27_tells_70 : decode cX27_tells 70 = .ok (.invokevirtual 68, 3) := dk_182 0 68 (dk_at dksX27_tells_3 4 rfl rfl)
theorem dX27_tells_73 : decode cX27_tells 73 = .ok (.checkcast 72, 3) := dk_192 0 72 (dk_at dksX27_tells_3 7 rfl rfl)
theorem dX27_tells_76 : decode cX27_tells 76 = .ok (.invokevirtual 107, 3) := dk_182 0 107 (dk_at dksX27_tells_3 10 rfl rfl)
theorem dX27_tells_79 : decode cX27_tells 79 = .ok (.iadd, 1) := dk_96 (dk_at dksX27_tells_3 13 rfl rfl)
theorem dX27_tells_80 : decode cX27_tells 80 = .ok (.iconst 1, 1) := dk_4 (dk_at dksX27_tells_3 14 rfl rfl)
theorem dX27_tells_81 : decode cX27_tells 81 = .ok (.isub, 1) := dk_100 (dk_at dksX27_tells_3 15 rfl rfl)
theorem dX27_tells_82 : decode cX27_tells 82 = .ok (.invokevirtual 96, 3) := dk_182 0 96 (dk_at dksX27_tells_3 16 rfl rfl)
theorem dX27_tells_85 : decode cX27_tells 85 = .ok (.ireturn, 1) := dk_172 (dk_at dksX27_tells_3 19 rfl rfl)
theorem q143 : (Jvm.Cond.initialized "CribBooklet$Layout") ∈ lw_all := lw_g (lw_at lw_m1 57 rfl) rfl
theorem q255 : (Jvm.Cond.fieldLinkNest "CribBooklet$Layout" (93 : Nat) "CribBooklet$Sheet" "lines" "I" "CribBooklet") ∈ lw_tbl := lw_at lw_m1 169 rfl
theorem q265 : (Jvm.Cond.fieldLinkNest "CribBooklet$Layout" (55 : Nat) "CribBooklet$Sheet" "notes" "Ljava/util/ArrayList;" "CribBooklet") ∈ lw_tbl := lw_at lw_m1 179 rfl
theorem q710 : (Jvm.Cond.selects "CribBooklet$Layout" ({ cls := "java/lang/Object", name := "getClass", desc := "()Ljava/lang/Class;" } : Jvm.MethodName) ({ cls := "java/lang/Object", name := "getClass", desc := "()Ljava/lang/Class;" } : Jvm.MethodName)) ∈ lw_all := lw_g (lw_at lw_m3 144 rfl) rfl
theorem q1199 : (Jvm.Cond.fieldLinkNest "CribBooklet$Layout" (29 : Nat) "CribBooklet$Booklet" "sheet" "LCribBooklet$Sheet;" "CribBooklet") ∈ lw_tbl := lw_at lw_m5 153 rfl
theorem q2072 : (Jvm.Cond.instantiable "CribBooklet$Layout" (7 : Nat)) ∈ lw_all := lw_g (lw_at lw_m9 66 rfl) rfl
theorem q2074 : (Jvm.Cond.instanceMethod ({ cls := "CribBooklet$Layout", name := "<init>", desc := "(LCribBooklet$Booklet;)V" } : Jvm.MethodName)) ∈ lw_all := lw_g (lw_at lw_m9 68 rfl) rfl
theorem q2075 : (Jvm.Cond.code ({ cls := "CribBooklet$Layout", name := "<init>", desc := "(LCribBooklet$Booklet;)V" } : Jvm.MethodName) prog_15_method_1_code (4 : Nat) (Option.none : Option Jvm.ClassFile.FieldType)) ∈ lw_all := lw_g (lw_at lw_m9 69 rfl) rfl
theorem q2076 : (Jvm.Cond.methodLink "CribBooklet$Layout" (3 : Nat) ({ cls := "java/lang/Object", name := "<init>", desc := "()V" } : Jvm.MethodName)) ∈ lw_all := lw_g (lw_at lw_m9 70 rfl) rfl
theorem q2077 : (Jvm.Cond.classLink "CribBooklet$Layout" (18 : Nat) "java/util/TreeMap") ∈ lw_all := lw_g (lw_at lw_m9 71 rfl) rfl
theorem q2079 : (Jvm.Cond.methodLink "CribBooklet$Layout" (20 : Nat) ({ cls := "java/util/TreeMap", name := "<init>", desc := "()V" } : Jvm.MethodName)) ∈ lw_all := lw_g (lw_at lw_m9 73 rfl) rfl
theorem q2111 : (Jvm.Cond.methodLink "CribBooklet$Layout" (36 : Nat) ({ cls := "CribBooklet$Booklet", name := "pages", desc := "()I" } : Jvm.MethodName)) ∈ lw_all := lw_g (lw_at lw_m9 105 rfl) rfl
theorem q2112 : (Jvm.Cond.methodLink "CribBooklet$Layout" (39 : Nat) ({ cls := "CribBooklet$Booklet", name := "isHidden", desc := "(I)Z" } : Jvm.MethodName)) ∈ lw_all := lw_g (lw_at lw_m9 106 rfl) rfl
theorem q2113 : (Jvm.Cond.classLink "CribBooklet$Layout" (47 : Nat) "java/util/PriorityQueue") ∈ lw_all := lw_g (lw_at lw_m9 107 rfl) rfl
theorem q2115 : (Jvm.Cond.classLink "CribBooklet$Layout" (49 : Nat) "CribBooklet$ByUrgency") ∈ lw_all := lw_g (lw_at lw_m9 109 rfl) rfl
theorem q2117 : (Jvm.Cond.methodLinkNest "CribBooklet$Layout" (51 : Nat) ({ cls := "CribBooklet$ByUrgency", name := "<init>", desc := "()V" } : Jvm.MethodName) "CribBooklet") ∈ lw_tbl := lw_at lw_m9 111 rfl
theorem q2122 : (Jvm.Cond.methodLink "CribBooklet$Layout" (52 : Nat) ({ cls := "java/util/PriorityQueue", name := "<init>", desc := "(ILjava/util/Comparator;)V" } : Jvm.MethodName)) ∈ lw_all := lw_g (lw_at lw_m9 116 rfl) rfl
theorem q2146 : (Jvm.Cond.methodLink "CribBooklet$Layout" (61 : Nat) ({ cls := "java/util/ArrayList", name := "size", desc := "()I" } : Jvm.MethodName)) ∈ lw_all := lw_g (lw_at lw_m9 140 rfl) rfl
theorem q2147 : (Jvm.Cond.classLink "CribBooklet$Layout" (66 : Nat) "CribBooklet$Numbered") ∈ lw_all := lw_g (lw_at lw_m9 141 rfl) rfl
theorem q2149 : (Jvm.Cond.methodLink "CribBooklet$Layout" (68 : Nat) ({ cls := "java/util/ArrayList", name := "get", desc := "(I)Ljava/lang/Object;" } : Jvm.MethodName)) ∈ lw_all := lw_g (lw_at lw_m9 143 rfl) rfl
theorem q2150 : (Jvm.Cond.classLink "CribBooklet$Layout" (72 : Nat) "CribBooklet$Note") ∈ lw_all := lw_g (lw_at lw_m9 144 rfl) rfl
theorem q2151 : (Jvm.Cond.methodLinkNest "CribBooklet$Layout" (74 : Nat) ({ cls := "CribBooklet$Numbered", name := "<init>", desc := "(LCribBooklet$Note;I)V" } : Jvm.MethodName) "CribBooklet") ∈ lw_tbl := lw_at lw_m9 145 rfl
theorem q2162 : (Jvm.Cond.methodLink "CribBooklet$Layout" (77 : Nat) ({ cls := "java/util/PriorityQueue", name := "add", desc := "(Ljava/lang/Object;)Z" } : Jvm.MethodName)) ∈ lw_all := lw_g (lw_at lw_m9 156 rfl) rfl
theorem q2427 : (Jvm.Cond.methodLink "CribBooklet$Layout" (81 : Nat) ({ cls := "java/util/PriorityQueue", name := "isEmpty", desc := "()Z" } : Jvm.MethodName)) ∈ lw_all := lw_g (lw_at lw_m10 181 rfl) rfl
theorem q2433 : (Jvm.Cond.methodLink "CribBooklet$Layout" (85 : Nat) ({ cls := "java/util/PriorityQueue", name := "poll", desc := "()Ljava/lang/Object;" } : Jvm.MethodName)) ∈ lw_all := lw_g (lw_at lw_m10 187 rfl) rfl
theorem q2443 : (Jvm.Cond.methodLink "CribBooklet$Layout" (89 : Nat) ({ cls := "CribBooklet$Layout", name := "lay", desc := "(LCribBooklet$Numbered;)V" } : Jvm.MethodName)) ∈ lw_all := lw_g (lw_at lw_m10 197 rfl) rfl
theorem q2444 : (Jvm.Cond.privateMethod ({ cls := "CribBooklet$Layout", name := "lay", desc := "(LCribBooklet$Numbered;)V" } : Jvm.MethodName)) ∈ lw_tbl := lw_at lw_m10 198 rfl
theorem q2445 : (Jvm.Cond.instanceMethod ({ cls := "CribBooklet$Layout", name := "lay", desc := "(LCribBooklet$Numbered;)V" } : Jvm.MethodName)) ∈ lw_all := lw_g (lw_at lw_m10 199 rfl) rfl
theorem q2446 : (Jvm.Cond.code ({ cls := "CribBooklet$Layout", name := "lay", desc := "(LCribBooklet$Numbered;)V" } : Jvm.MethodName) prog_15_method_7_code (4 : Nat) (Option.none : Option Jvm.ClassFile.FieldType)) ∈ lw_all := lw_g (lw_at lw_m10 200 rfl) rfl
theorem q2447 : (Jvm.Cond.methodLink "CribBooklet$Layout" (119 : Nat) ({ cls := "CribBooklet$Numbered", name := "note", desc := "()LCribBooklet$Note;" } : Jvm.MethodName)) ∈ lw_all := lw_g (lw_at lw_m10 201 rfl) rfl
theorem q2448 : (Jvm.Cond.methodLink "CribBooklet$Layout" (123 : Nat) ({ cls := "CribBooklet$Layout", name := "roomFor", desc := "(LCribBooklet$Note;)I" } : Jvm.MethodName)) ∈ lw_all := lw_g (lw_at lw_m10 202 rfl) rfl
theorem q2449 : (Jvm.Cond.privateMethod ({ cls := "CribBooklet$Layout", name := "roomFor", desc := "(LCribBooklet$Note;)I" } : Jvm.MethodName)) ∈ lw_tbl := lw_at lw_m10 203 rfl
theorem q2450 : (Jvm.Cond.instanceMethod ({ cls := "CribBooklet$Layout", name := "roomFor", desc := "(LCribBooklet$Note;)I" } : Jvm.MethodName)) ∈ lw_all := lw_g (lw_at lw_m10 204 rfl) rfl
theorem q2451 : (Jvm.Cond.code ({ cls := "CribBooklet$Layout", name := "roomFor", desc := "(LCribBooklet$Note;)I" } : Jvm.MethodName) prog_15_method_6_code (4 : Nat) (Option.some Jvm.ClassFile.FieldType.int)) ∈ lw_all := lw_g (lw_at lw_m10 205 rfl) rfl
theorem q2452 : (Jvm.Cond.methodLink "CribBooklet$Layout" (107 : Nat) ({ cls := "CribBooklet$Note", name := "lines", desc := "()I" } : Jvm.MethodName)) ∈ lw_all := lw_g (lw_at lw_m10 206 rfl) rfl
theorem q2456 : (Jvm.Cond.methodLink "CribBooklet$Layout" (109 : Nat) ({ cls := "CribBooklet$Note", name := "isWhole", desc := "()Z" } : Jvm.MethodName)) ∈ lw_all := lw_g (lw_at lw_m10 210 rfl) rfl
theorem q2460 : (Jvm.Cond.methodLink "CribBooklet$Layout" (115 : Nat) ({ cls := "CribBooklet$Layout", name := "isAtOneOpening", desc := "(II)Z" } : Jvm.MethodName)) ∈ lw_all := lw_g (lw_at lw_m10 214 rfl) rfl
theorem q2461 : (Jvm.Cond.privateMethod ({ cls := "CribBooklet$Layout", name := "isAtOneOpening", desc := "(II)Z" } : Jvm.MethodName)) ∈ lw_tbl := lw_at lw_m10 215 rfl
theorem q2462 : (Jvm.Cond.instanceMethod ({ cls := "CribBooklet$Layout", name := "isAtOneOpening", desc := "(II)Z" } : Jvm.MethodName)) ∈ lw_all := lw_g (lw_at lw_m10 216 rfl) rfl
theorem q2463 : (Jvm.Cond.code ({ cls := "CribBooklet$Layout", name := "isAtOneOpening", desc := "(II)Z" } : Jvm.MethodName) prog_15_method_5_code (3 : Nat) (Option.some Jvm.ClassFile.FieldType.boolean)) ∈ lw_all := lw_g (lw_at lw_m10 217 rfl) rfl
theorem q2464 : (Jvm.Cond.methodLink "CribBooklet$Layout" (103 : Nat) ({ cls := "CribBooklet$Layout", name := "all", desc := "()I" } : Jvm.MethodName)) ∈ lw_all := lw_g (lw_at lw_m10 218 rfl) rfl
theorem q2465 : (Jvm.Cond.privateMethod ({ cls := "CribBooklet$Layout", name := "all", desc := "()I" } : Jvm.MethodName)) ∈ lw_tbl := lw_at lw_m10 219 rfl
theorem q2466 : (Jvm.Cond.instanceMethod ({ cls := "CribBooklet$Layout", name := "all", desc := "()I" } : Jvm.MethodName)) ∈ lw_all := lw_g (lw_at lw_m10 220 rfl) rfl
theorem q2467 : (Jvm.Cond.code ({ cls := "CribBooklet$Layout", name := "all", desc := "()I" } : Jvm.MethodName) prog_15_method_2_code (1 : Nat) (Option.some Jvm.ClassFile.FieldType.int)) ∈ lw_all := lw_g (lw_at lw_m10 221 rfl) rfl
theorem q2468 : (Jvm.Cond.methodLink "CribBooklet$Layout" (106 : Nat) ({ cls := "CribBooklet$Layout", name := "openingOf", desc := "(I)I" } : Jvm.MethodName)) ∈ lw_all := lw_g (lw_at lw_m10 222 rfl) rfl
theorem q2469 : (Jvm.Cond.privateMethod ({ cls := "CribBooklet$Layout", name := "openingOf", desc := "(I)I" } : Jvm.MethodName)) ∈ lw_tbl := lw_at lw_m10 223 rfl
theorem q2470 : (Jvm.Cond.instanceMethod ({ cls := "CribBooklet$Layout", name := "openingOf", desc := "(I)I" } : Jvm.MethodName)) ∈ lw_all := lw_g (lw_at lw_m10 224 rfl) rfl
theorem q2471 : (Jvm.Cond.code ({ cls := "CribBooklet$Layout", name := "openingOf", desc := "(I)I" } : Jvm.MethodName) prog_15_method_4_code (2 : Nat) (Option.some Jvm.ClassFile.FieldType.int)) ∈ lw_all := lw_g (lw_at lw_m10 225 rfl) rfl
theorem q2472 : (Jvm.Cond.methodLink "CribBooklet$Layout" (96 : Nat) ({ cls := "CribBooklet$Layout", name := "pageOf", desc := "(I)I" } : Jvm.MethodName)) ∈ lw_all := lw_g (lw_at lw_m10 226 rfl) rfl
theorem q2473 : (Jvm.Cond.instanceMethod ({ cls := "CribBooklet$Layout", name := "pageOf", desc := "(I)I" } : Jvm.MethodName)) ∈ lw_all := lw_g (lw_at lw_m10 227 rfl) rfl
theorem q2474 : (Jvm.Cond.selects "CribBooklet$Layout" ({ cls := "CribBooklet$Layout", name := "pageOf", desc := "(I)I" } : Jvm.MethodName) ({ cls := "CribBooklet$Layout", name := "pageOf", desc := "(I)I" } : Jvm.MethodName)) ∈ lw_all := lw_g (lw_at lw_m10 228 rfl) rfl
theorem q2475 : (Jvm.Cond.code ({ cls := "CribBooklet$Layout", name := "pageOf", desc := "(I)I" } : Jvm.MethodName) prog_15_method_3_code (2 : Nat) (Option.some Jvm.ClassFile.FieldType.int)) ∈ lw_all := lw_g (lw_at lw_m10 229 rfl) rfl
theorem q2476 : (Jvm.Cond.methodLink "CribBooklet$Layout" (100 : Nat) ({ cls := "CribBooklet$Booklet", name := "openingOf", desc := "(I)I" } : Jvm.MethodName)) ∈ lw_all := lw_g (lw_at lw_m10 230 rfl) rfl
theorem q2477 : (Jvm.Cond.methodLink "CribBooklet$Layout" (127 : Nat) ({ cls := "CribBooklet$Numbered", name := "number", desc := "()I" } : Jvm.MethodName)) ∈ lw_all := lw_g (lw_at lw_m10 231 rfl) rfl
theorem q2478 : (Jvm.Cond.methodLink "CribBooklet$Layout" (130 : Nat) ({ cls := "CribBooklet$Note", name := "subject", desc := "()I" } : Jvm.MethodName)) ∈ lw_all := lw_g (lw_at lw_m10 232 rfl) rfl
theorem q2479 : (Jvm.Cond.methodLink "CribBooklet$Layout" (133 : Nat) ({ cls := "java/lang/Integer", name := "valueOf", desc := "(I)Ljava/lang/Integer;" } : Jvm.MethodName)) ∈ lw_all := lw_g (lw_at lw_m10 233 rfl) rfl
theorem q2498 : (Jvm.Cond.methodLink "CribBooklet$Layout" (139 : Nat) ({ cls := "java/util/TreeMap", name := "get", desc := "(Ljava/lang/Object;)Ljava/lang/Object;" } : Jvm.MethodName)) ∈ lw_all := lw_g (lw_at lw_m11 12 rfl) rfl
theorem q2518 : (Jvm.Cond.classLink "CribBooklet$Layout" (134 : Nat) "java/lang/Integer") ∈ lw_all := lw_g (lw_at lw_m11 32 rfl) rfl
theorem q2519 : (Jvm.Cond.methodLink "CribBooklet$Layout" (142 : Nat) ({ cls := "java/lang/Integer", name := "intValue", desc := "()I" } : Jvm.MethodName)) ∈ lw_all := lw_g (lw_at lw_m11 33 rfl) rfl
theorem q2523 : (Jvm.Cond.methodLink "CribBooklet$Layout" (145 : Nat) ({ cls := "java/util/TreeMap", name := "put", desc := "(Ljava/lang/Object;Ljava/lang/Object;)Ljava/lang/Object;" } : Jvm.MethodName)) ∈ lw_all := lw_g (lw_at lw_m11 37 rfl) rfl
theorem q2600 : (Jvm.Cond.fieldLink "CribBooklet$Layout" (25 : Nat) "CribBooklet$Layout" "booklet" "LCribBooklet$Booklet;") ∈ lw_all := lw_g (lw_at lw_m11 114 rfl) rfl
theorem q2601 : (Jvm.Cond.fieldLink "CribBooklet$Layout" (35 : Nat) "CribBooklet$Layout" "sheet" "LCribBooklet$Sheet;") ∈ lw_all := lw_g (lw_at lw_m11 115 rfl) rfl
theorem q2602 : (Jvm.Cond.fieldLink "CribBooklet$Layout" (9 : Nat) "CribBooklet$Layout" "pages" "[I") ∈ lw_all := lw_g (lw_at lw_m11 116 rfl) rfl
theorem q2603 : (Jvm.Cond.fieldLink "CribBooklet$Layout" (43 : Nat) "CribBooklet$Layout" "pageMany" "I") ∈ lw_all := lw_g (lw_at lw_m11 117 rfl) rfl
theorem q2604 : (Jvm.Cond.fieldLink "CribBooklet$Layout" (112 : Nat) "CribBooklet$Layout" "next" "I") ∈ lw_all := lw_g (lw_at lw_m11 118 rfl) rfl
theorem q2605 : (Jvm.Cond.fieldLink "CribBooklet$Layout" (15 : Nat) "CribBooklet$Layout" "begins" "[I") ∈ lw_all := lw_g (lw_at lw_m11 119 rfl) rfl
theorem q2606 : (Jvm.Cond.fieldLink "CribBooklet$Layout" (21 : Nat) "CribBooklet$Layout" "index" "Ljava/util/TreeMap;") ∈ lw_all := lw_g (lw_at lw_m11 120 rfl) rfl
theorem q2608 : (Jvm.Cond.laysFinal "CribBooklet$Layout" "CribBooklet$Layout" "booklet" "LCribBooklet$Booklet;") ∈ lw_all := lw_g (lw_at lw_m11 122 rfl) rfl
theorem q2609 : (Jvm.Cond.soleField "CribBooklet$Layout" "booklet") ∈ lw_all := lw_g (lw_at lw_m11 123 rfl) rfl
theorem q2610 : (Jvm.Cond.laysFinal "CribBooklet$Layout" "CribBooklet$Layout" "sheet" "LCribBooklet$Sheet;") ∈ lw_all := lw_g (lw_at lw_m11 124 rfl) rfl
theorem q2611 : (Jvm.Cond.soleField "CribBooklet$Layout" "sheet") ∈ lw_all := lw_g (lw_at lw_m11 125 rfl) rfl
theorem q2612 : (Jvm.Cond.laysFinal "CribBooklet$Layout" "CribBooklet$Layout" "pages" "[I") ∈ lw_all := lw_g (lw_at lw_m11 126 rfl) rfl
theorem q2613 : (Jvm.Cond.soleField "CribBooklet$Layout" "pages") ∈ lw_all := lw_g (lw_at lw_m11 127 rfl) rfl
theorem q2614 : (Jvm.Cond.lays "CribBooklet$Layout" "CribBooklet$Layout" "pageMany" "I") ∈ lw_all := lw_g (lw_at lw_m11 128 rfl) rfl
theorem q2615 : (Jvm.Cond.soleField "CribBooklet$Layout" "pageMany") ∈ lw_all := lw_g (lw_at lw_m11 129 rfl) rfl
theorem q2616 : (Jvm.Cond.lays "CribBooklet$Layout" "CribBooklet$Layout" "next" "I") ∈ lw_all := lw_g (lw_at lw_m11 130 rfl) rfl
theorem q2617 : (Jvm.Cond.soleField "CribBooklet$Layout" "next") ∈ lw_all := lw_g (lw_at lw_m11 131 rfl) rfl
theorem q2618 : (Jvm.Cond.laysFinal "CribBooklet$Layout" "CribBooklet$Layout" "begins" "[I") ∈ lw_all := lw_g (lw_at lw_m11 132 rfl) rfl
theorem q2619 : (Jvm.Cond.soleField "CribBooklet$Layout" "begins") ∈ lw_all := lw_g (lw_at lw_m11 133 rfl) rfl
theorem q2620 : (Jvm.Cond.laysFinal "CribBooklet$Layout" "CribBooklet$Layout" "index" "Ljava/util/TreeMap;") ∈ lw_all := lw_g (lw_at lw_m11 134 rfl) rfl
theorem q2621 : (Jvm.Cond.soleField "CribBooklet$Layout" "index") ∈ lw_all := lw_g (lw_at lw_m11 135 rfl) rfl
theorem q2622 : (Jvm.Cond.superclass "CribBooklet$Layout" "java/lang/Object") ∈ lw_all := lw_g (lw_at lw_m11 136 rfl) rfl
theorem q2624 : (Jvm.Cond.instanceMethod ({ cls := "CribBooklet$Layout", name := "takenOn", desc := "(I)I" } : Jvm.MethodName)) ∈ lw_all := lw_g (lw_at lw_m11 138 rfl) rfl
theorem q2625 : (Jvm.Cond.selects "CribBooklet$Layout" ({ cls := "CribBooklet$Layout", name := "takenOn", desc := "(I)I" } : Jvm.MethodName) ({ cls := "CribBooklet$Layout", name := "takenOn", desc := "(I)I" } : Jvm.MethodName)) ∈ lw_all := lw_g (lw_at lw_m11 139 rfl) rfl
theorem q2626 : (Jvm.Cond.code ({ cls := "CribBooklet$Layout", name := "takenOn", desc := "(I)I" } : Jvm.MethodName) prog_15_method_8_code (5 : Nat) (Option.some Jvm.ClassFile.FieldType.int)) ∈ lw_all := lw_g (lw_at lw_m11 140 rfl) rfl
theorem q2681 : (Jvm.Cond.instanceMethod ({ cls := "CribBooklet$Layout", name := "tells", desc := "(II)I" } : Jvm.MethodName)) ∈ lw_all := lw_g (lw_at lw_m11 195 rfl) rfl
theorem q2682 : (Jvm.Cond.selects "CribBooklet$Layout" ({ cls := "CribBooklet$Layout", name := "tells", desc := "(II)I" } : Jvm.MethodName) ({ cls := "CribBooklet$Layout", name := "tells", desc := "(II)I" } : Jvm.MethodName)) ∈ lw_all := lw_g (lw_at lw_m11 196 rfl) rfl
theorem q2683 : (Jvm.Cond.code ({ cls := "CribBooklet$Layout", name := "tells", desc := "(II)I" } : Jvm.MethodName) prog_15_method_9_code (4 : Nat) (Option.some Jvm.ClassFile.FieldType.int)) ∈ lw_all := lw_g (lw_at lw_m11 197 rfl) rfl
theorem q3361 : (Jvm.Cond.castable "CribBooklet$Layout" "java/lang/Object") ∈ lw_tbl := lw_at lw_m14 155 rfl
theorem in_X27 : ∀ w ∈ wsX270, w ∈ lw_all := lw_in wsX270 [2608, 2610, 2612, 2614, 2616, 2618, 2620] (by decide +kernel) (by decide +kernel)

end
section
/-! CribBooklet$ByUrgency -/
set_option maxRecDepth 100000
def RX28 : String := "CribBooklet$ByUrgency"
abbrev cX28_init : ByteArray := prog_4_method_1_code
def yX28_init : MethodName := ⟨RX28, "<init>", "()V"⟩
theorem dX28_init_0 : decode cX28_init 0 = .ok (.aload_n 0, 1) := by decide +kernel
theorem dX28_init_1 : decode cX28_init 1 = .ok (.invokespecial 1, 3) := by decide +kernel
theorem dX28_init_4 : decode cX28_init 4 = .ok (.return_, 1) := by decide +kernel
abbrev cX28_compare : ByteArray := prog_4_method_3_code
def yX28_compare : MethodName := ⟨RX28, "compare", "(Ljava/lang/Object;Ljava/lang/Object;)I"⟩
def dkwX28_compare_0 : List UInt8 := [42, 43, 192, 0, 8, 44, 192, 0, 8, 182, 0, 25, 172]
abbrev dktX28_compare_0 : List UInt8 := dkwX28_compare_0 ++ []
theorem dksX28_compare_0 : cX28_compare.data.toList.drop 0 = dktX28_compare_0 := by decide +kernel
theorem dX28_compare_0 : decode cX28_compare 0 = .ok (.aload_n 0, 1) := dk_42 (dk_at dksX28_compare_0 0 rfl rfl)
theorem dX28_compare_1 : decode cX28_compare 1 = .ok (.aload_n 1, 1) := dk_43 (dk_at dksX28_compare_0 1 rfl rfl)
theorem dX28_compare_2 : decode cX28_compare 2 = .ok (.checkcast 8, 3) := dk_192 0 8 (dk_at dksX28_compare_0 2 rfl rfl)
theorem dX28_compare_5 : decode cX28_compare 5 = .ok (.aload_n 2, 1) := dk_44 (dk_at dksX28_compare_0 5 rfl rfl)
theorem dX28_compare_6 : decode cX28_compare 6 = .ok (.checkcast 8, 3) := dk_192 0 8 (dk_at dksX28_compare_0 6 rfl rfl)
theorem dX28_compare_9 : decode cX28_compare 9 = .ok (.invokevirtual 25, 3) := dk_182 0 25 (dk_at dksX28_compare_0 9 rfl rfl)
theorem dX28_compare_12 : decode cX28_compare 12 = .ok (.ireturn, 1) := dk_172 (dk_at dksX28_compare_0 12 rfl rfl)
abbrev cX28_compare_2 : ByteArray := prog_4_method_2_code
def yX28_compare_2 : MethodName := ⟨RX28, "compare", "(LCribBooklet$Numbered;LCribBooklet$Numbered;)I"⟩
def dkwX28_compare_2_2 : List UInt8 := [62, 29, 153, 0, 7, 29, 167, 0, 12, 43, 182, 0, 22, 44, 182, 0, 22, 100, 172]
abbrev dktX28_compare_2_2 : List UInt8 := dkwX28_compare_2_2 ++ []
def dkwX28_compare_2_1 : List UInt8 := [43, 182, 0, 7, 182, 0, 13, 100, 172, 43, 182, 0, 7, 182, 0, 19, 44, 182, 0, 7, 182, 0, 19, 100]
abbrev dktX28_compare_2_1 : List UInt8 := dkwX28_compare_2_1 ++ dktX28_compare_2_2
def dkwX28_compare_2_0 : List UInt8 := [43, 182, 0, 7, 182, 0, 13, 44, 182, 0, 7, 182, 0, 13, 159, 0, 19, 44, 182, 0, 7, 182, 0, 13]
abbrev dktX28_compare_2_0 : List UInt8 := dkwX28_compare_2_0 ++ dktX28_compare_2_1
theorem dksX28_compare_2_0 : cX28_compare_2.data.toList.drop 0 = dktX28_compare_2_0 := by decide +kernel
theorem dksX28_compare_2_1 : cX28_compare_2.data.toList.drop 24 = dktX28_compare_2_1 := dk_seg dksX28_compare_2_0 24 rfl rfl
theorem dksX28_compare_2_2 : cX28_compare_2.data.toList.drop 48 = dktX28_compare_2_2 := dk_seg dksX28_compare_2_1 24 rfl rfl
theorem dX28_compare_2_0 : decode cX28_compare_2 0 = .ok (.aload_n 1, 1) := dk_43 (dk_at dksX28_compare_2_0 0 rfl rfl)
theorem dX28_compare_2_1 : decode cX28_compare_2 1 = .ok (.invokevirtual 7, 3) := dk_182 0 7 (dk_at dksX28_compare_2_0 1 rfl rfl)
theorem dX28_compare_2_4 : decode cX28_compare_2 4 = .ok (.invokevirtual 13, 3) := dk_182 0 13 (dk_at dksX28_compare_2_0 4 rfl rfl)
theorem dX28_compare_2_7 : decode cX28_compare_2 7 = .ok (.aload_n 2, 1) := dk_44 (dk_at dksX28_compare_2_0 7 rfl rfl)
theorem dX28_compare_2_8 : decode cX28_compare_2 8 = .ok (.invokevirtual 7, 3) := dk_182 0 7 (dk_at dksX28_compare_2_0 8 rfl rfl)
theorem dX28_compare_2_11 : decode cX28_compare_2 11 = .ok (.invokevirtual 13, 3) := dk_182 0 13 (dk_at dksX28_compare_2_0 11 rfl rfl)
theorem dX28_compare_2_14 : decode cX28_compare_2 14 = .ok (.if_icmp .eq 19, 3) := dk_159 0 19 (dk_at dksX28_compare_2_0 14 rfl rfl)
theorem dX28_compare_2_17 : decode cX28_compare_2 17 = .ok (.aload_n 2, 1) := dk_44 (dk_at dksX28_compare_2_0 17 rfl rfl)
theorem dX28_compare_2_18 : decode cX28_compare_2 18 = .ok (.invokevirtual 7, 3) := dk_182 0 7 (dk_at dksX28_compare_2_0 18 rfl rfl)
theorem dX28_compare_2_21 : decode cX28_compare_2 21 = .ok (.invokevirtual 13, 3) := dk_182 0 13 (dk_at dksX28_compare_2_0 21 rfl rfl)
theorem dX28_compare_2_24 : decode cX28_compare_2 24 = .ok (.aload_n 1, 1) := dk_43 (dk_at dksX28_compare_2_1 0 rfl rfl)
theorem dX28_compare_2_25 : decode cX28_compare_2 25 = .ok (.invokevirtual 7, 3) := dk_182 0 7 (dk_at dksX28_compare_2_1 1 rfl rfl)
theorem dX28_compare_2_28 : decode cX28_compare_2 28 = .ok (.invokevirtual 13, 3) := dk_182 0 13 (dk_at dksX28_compare_2_1 4 rfl rfl)
theorem dX28_compare_2_31 : decode cX28_compare_2 31 = .ok (.isub, 1) := dk_100 (dk_at dksX28_compare_2_1 7 rfl rfl)
theorem dX28_compare_2_32 : decode cX28_compare_2 32 = .ok (.ireturn, 1) := dk_172 (dk_at dksX28_compare_2_1 8 rfl rfl)
theorem dX28_compare_2_33 : decode cX28_compare_2 33 = .ok (.aload_n 1, 1) := dk_43 (dk_at dksX28_compare_2_1 9 rfl rfl)
theorem dX28_compare_2_34 : decode cX28_compare_2 34 = .ok (.invokevirtual 7, 3) := dk_182 0 7 (dk_at dksX28_compare_2_1 10 rfl rfl)
theorem dX28_compare_2_37 : decode cX28_compare_2 37 = .ok (.invokevirtual 19, 3) := dk_182 0 19 (dk_at dksX28_compare_2_1 13 rfl rfl)
theorem dX28_compare_2_40 : decode cX28_compare_2 40 = .ok (.aload_n 2, 1) := dk_44 (dk_at dksX28_compare_2_1 16 rfl rfl)
theorem dX28_compare_2_41 : decode cX28_compare_2 41 = .ok (.invokevirtual 7, 3) := dk_182 0 7 (dk_at dksX28_compare_2_1 17 rfl rfl)
theorem dX28_compare_2_44 : decode cX28_compare_2 44 = .ok (.invokevirtual 19, 3) := dk_182 0 19 (dk_at dksX28_compare_2_1 20 rfl rfl)
theorem dX28_compare_2_47 : decode cX28_compare_2 47 = .ok (.isub, 1) := dk_100 (dk_at dksX28_compare_2_1 23 rfl rfl)
theorem dX28_compare_2_48 : decode cX28_compare_2 48 = .ok (.istore_n 3, 1) := dk_62 (dk_at dksX28_compare_2_2 0 rfl rfl)
theorem dX28_compare_2_49 : decode cX28_compare_2 49 = .ok (.iload_n 3, 1) := dk_29 (dk_at dksX28_compare_2_2 1 rfl rfl)
theorem dX28_compare_2_50 : decode cX28_compare_2 50 = .ok (.ifCond .eq 7, 3) := dk_153 0 7 (dk_at dksX28_compare_2_2 2 rfl rfl)
theorem dX28_compare_2_53 : decode cX28_compare_2 53 = .ok (.iload_n 3, 1) := dk_29 (dk_at dksX28_compare_2_2 5 rfl rfl)
theorem dX28_compare_2_54 : decode cX28_compare_2 54 = .ok (.goto 12, 3) := dk_167 0 12 (dk_at dksX28_compare_2_2 6 rfl rfl)
theorem dX28_compare_2_57 : decode cX28_compare_2 57 = .ok (.aload_n 1, 1) := dk_43 (dk_at dksX28_compare_2_2 9 rfl rfl)
theorem dX28_compare_2_58 : decode cX28_compare_2 58 = .ok (.invokevirtual 22, 3) := dk_182 0 22 (dk_at dksX28_compare_2_2 10 rfl rfl)
theorem dX28_compare_2_61 : decode cX28_compare_2 61 = .ok (.aload_n 2, 1) := dk_44 (dk_at dksX28_compare_2_2 13 rfl rfl)
theorem dX28_compare_2_62 : decode cX28_compare_2 62 = .ok (.invokevirtual 22, 3) := dk_182 0 22 (dk_at dksX28_compare_2_2 14 rfl rfl)
theorem dX28_compare_2_65 : decode cX28_compare_2 65 = .ok (.isub, 1) := dk_100 (dk_at dksX28_compare_2_2 17 rfl rfl)
theorem dX28_compare_2_66 : decode cX28_compare_2 66 = .ok (.ireturn, 1) := dk_172 (dk_at dksX28_compare_2_2 18 rfl rfl)
theorem q146 : (Jvm.Cond.initialized "CribBooklet$ByUrgency") ∈ lw_all := lw_g (lw_at lw_m1 60 rfl) rfl
theorem q700 : (Jvm.Cond.selects "CribBooklet$ByUrgency" ({ cls := "java/lang/Object", name := "getClass", desc := "()Ljava/lang/Class;" } : Jvm.MethodName) ({ cls := "java/lang/Object", name := "getClass", desc := "()Ljava/lang/Class;" } : Jvm.MethodName)) ∈ lw_all := lw_g (lw_at lw_m3 134 rfl) rfl
theorem q2116 : (Jvm.Cond.instantiable "CribBooklet$ByUrgency" (0 : Nat)) ∈ lw_all := lw_g (lw_at lw_m9 110 rfl) rfl
theorem q2118 : (Jvm.Cond.instanceMethod ({ cls := "CribBooklet$ByUrgency", name := "<init>", desc := "()V" } : Jvm.MethodName)) ∈ lw_all := lw_g (lw_at lw_m9 112 rfl) rfl
theorem q2119 : (Jvm.Cond.code ({ cls := "CribBooklet$ByUrgency", name := "<init>", desc := "()V" } : Jvm.MethodName) prog_4_method_1_code (1 : Nat) (Option.none : Option Jvm.ClassFile.FieldType)) ∈ lw_all := lw_g (lw_at lw_m9 113 rfl) rfl
theorem q2120 : (Jvm.Cond.methodLink "CribBooklet$ByUrgency" (1 : Nat) ({ cls := "java/lang/Object", name := "<init>", desc := "()V" } : Jvm.MethodName)) ∈ lw_all := lw_g (lw_at lw_m9 114 rfl) rfl
theorem q2121 : (Jvm.Cond.superclass "CribBooklet$ByUrgency" "java/lang/Object") ∈ lw_all := lw_g (lw_at lw_m9 115 rfl) rfl
theorem q2186 : (Jvm.Cond.castable "CribBooklet$ByUrgency" "java/util/Comparator") ∈ lw_tbl := lw_at lw_m9 180 rfl
theorem q2187 : (Jvm.Cond.selects "CribBooklet$ByUrgency" ({ cls := "java/util/Comparator", name := "compare", desc := "(Ljava/lang/Object;Ljava/lang/Object;)I" } : Jvm.MethodName) ({ cls := "CribBooklet$ByUrgency", name := "compare", desc := "(Ljava/lang/Object;Ljava/lang/Object;)I" } : Jvm.MethodName)) ∈ lw_all := lw_g (lw_at lw_m9 181 rfl) rfl
theorem q2188 : (Jvm.Cond.unhidden "CribBooklet$ByUrgency" "compare" "(Ljava/lang/Object;Ljava/lang/Object;)I") ∈ lw_tbl := lw_at lw_m9 182 rfl
theorem q2189 : (Jvm.Cond.instanceMethod ({ cls := "CribBooklet$ByUrgency", name := "compare", desc := "(Ljava/lang/Object;Ljava/lang/Object;)I" } : Jvm.MethodName)) ∈ lw_all := lw_g (lw_at lw_m9 183 rfl) rfl
theorem q2190 : (Jvm.Cond.publicMethod ({ cls := "CribBooklet$ByUrgency", name := "compare", desc := "(Ljava/lang/Object;Ljava/lang/Object;)I" } : Jvm.MethodName)) ∈ lw_tbl := lw_at lw_m9 184 rfl
theorem q2191 : (Jvm.Cond.code ({ cls := "CribBooklet$ByUrgency", name := "compare", desc := "(Ljava/lang/Object;Ljava/lang/Object;)I" } : Jvm.MethodName) prog_4_method_3_code (3 : Nat) (Option.some Jvm.ClassFile.FieldType.int)) ∈ lw_all := lw_g (lw_at lw_m9 185 rfl) rfl
theorem q2192 : (Jvm.Cond.classLink "CribBooklet$ByUrgency" (8 : Nat) "CribBooklet$Numbered") ∈ lw_all := lw_g (lw_at lw_m9 186 rfl) rfl
theorem q2193 : (Jvm.Cond.methodLink "CribBooklet$ByUrgency" (25 : Nat) ({ cls := "CribBooklet$ByUrgency", name := "compare", desc := "(LCribBooklet$Numbered;LCribBooklet$Numbered;)I" } : Jvm.MethodName)) ∈ lw_all := lw_g (lw_at lw_m9 187 rfl) rfl
theorem q2194 : (Jvm.Cond.instanceMethod ({ cls := "CribBooklet$ByUrgency", name := "compare", desc := "(LCribBooklet$Numbered;LCribBooklet$Numbered;)I" } : Jvm.MethodName)) ∈ lw_all := lw_g (lw_at lw_m9 188 rfl) rfl
theorem q2195 : (Jvm.Cond.selects "CribBooklet$ByUrgency" ({ cls := "CribBooklet$ByUrgency", name := "compare", desc := "(LCribBooklet$Numbered;LCribBooklet$Numbered;)I" } : Jvm.MethodName) ({ cls := "CribBooklet$ByUrgency", name := "compare", desc := "(LCribBooklet$Numbered;LCribBooklet$Numbered;)I" } : Jvm.MethodName)) ∈ lw_all := lw_g (lw_at lw_m9 189 rfl) rfl
theorem q2196 : (Jvm.Cond.code ({ cls := "CribBooklet$ByUrgency", name := "compare", desc := "(LCribBooklet$Numbered;LCribBooklet$Numbered;)I" } : Jvm.MethodName) prog_4_method_2_code (4 : Nat) (Option.some Jvm.ClassFile.FieldType.int)) ∈ lw_all := lw_g (lw_at lw_m9 190 rfl) rfl
theorem q2197 : (Jvm.Cond.methodLink "CribBooklet$ByUrgency" (7 : Nat) ({ cls := "CribBooklet$Numbered", name := "note", desc := "()LCribBooklet$Note;" } : Jvm.MethodName)) ∈ lw_all := lw_g (lw_at lw_m9 191 rfl) rfl
theorem q2201 : (Jvm.Cond.methodLink "CribBooklet$ByUrgency" (13 : Nat) ({ cls := "CribBooklet$Note", name := "urgency", desc := "()I" } : Jvm.MethodName)) ∈ lw_all := lw_g (lw_at lw_m9 195 rfl) rfl
theorem q2205 : (Jvm.Cond.methodLink "CribBooklet$ByUrgency" (19 : Nat) ({ cls := "CribBooklet$Note", name := "subject", desc := "()I" } : Jvm.MethodName)) ∈ lw_all := lw_g (lw_at lw_m9 199 rfl) rfl
theorem q2209 : (Jvm.Cond.methodLink "CribBooklet$ByUrgency" (22 : Nat) ({ cls := "CribBooklet$Numbered", name := "number", desc := "()I" } : Jvm.MethodName)) ∈ lw_all := lw_g (lw_at lw_m9 203 rfl) rfl
theorem q3364 : (Jvm.Cond.castable "CribBooklet$ByUrgency" "java/lang/Object") ∈ lw_tbl := lw_at lw_m14 158 rfl

end
section
/-! CribBooklet$Numbered -/
set_option maxRecDepth 100000
def RX29 : String := "CribBooklet$Numbered"
def TX29 : u_T := fun k => match k with
  | 0 => ("CribBooklet$Numbered", "note", "LCribBooklet$Note;", true)
  | _ => ("CribBooklet$Numbered", "number", "I", true)
def tyX29 : Nat → FieldType := fun k => match k with
  | 0 => .object "CribBooklet$Note"
  | _ => .int
abbrev wsX290 : List Cond := u_ws RX29 TX29 2
theorem nmX29 : ∀ a, a < 2 → ∀ b, b < 2 → a ≠ b → (TX29 a).2.1 ≠ (TX29 b).2.1 := by decide +kernel
theorem tyX29_ok : ∀ k, k < 2 → parseFieldDescriptor (TX29 k).2.2.1 = some (tyX29 k) := by decide +kernel
abbrev cX29_init : ByteArray := prog_20_method_1_code
def yX29_init : MethodName := ⟨RX29, "<init>", "(LCribBooklet$Note;I)V"⟩
def dkwX29_init_0 : List UInt8 := [42, 183, 0, 1, 42, 43, 181, 0, 7, 42, 28, 181, 0, 13, 177]
abbrev dktX29_init_0 : List UInt8 := dkwX29_init_0 ++ []
theorem dksX29_init_0 : cX29_init.data.toList.drop 0 = dktX29_init_0 := by decide +kernel
theorem dX29_init_0 : decode cX29_init 0 = .ok (.aload_n 0, 1) := dk_42 (dk_at dksX29_init_0 0 rfl rfl)
theorem dX29_init_1 : decode cX29_init 1 = .ok (.invokespecial 1, 3) := dk_183 0 1 (dk_at dksX29_init_0 1 rfl rfl)
theorem dX29_init_4 : decode cX29_init 4 = .ok (.aload_n 0, 1) := dk_42 (dk_at dksX29_init_0 4 rfl rfl)
theorem dX29_init_5 : decode cX29_init 5 = .ok (.aload_n 1, 1) := dk_43 (dk_at dksX29_init_0 5 rfl rfl)
theorem dX29_init_6 : decode cX29_init 6 = .ok (.putfield 7, 3) := dk_181 0 7 (dk_at dksX29_init_0 6 rfl rfl)
theorem dX29_init_9 : decode cX29_init 9 = .ok (.aload_n 0, 1) := dk_42 (dk_at dksX29_init_0 9 rfl rfl)
theorem dX29_init_10 : decode cX29_init 10 = .ok (.iload_n 2, 1) := dk_28 (dk_at dksX29_init_0 10 rfl rfl)
theorem dX29_init_11 : decode cX29_init 11 = .ok (.putfield 13, 3) := dk_181 0 13 (dk_at dksX29_init_0 11 rfl rfl)
theorem dX29_init_14 : decode cX29_init 14 = .ok (.return_, 1) := dk_177 (dk_at dksX29_init_0 14 rfl rfl)
abbrev cX29_note : ByteArray := prog_20_method_5_code
def yX29_note : MethodName := ⟨RX29, "note", "()LCribBooklet$Note;"⟩
theorem dX29_note_0 : decode cX29_note 0 = .ok (.aload_n 0, 1) := by decide +kernel
theorem dX29_note_1 : decode cX29_note 1 = .ok (.getfield 7, 3) := by decide +kernel
theorem dX29_note_4 : decode cX29_note 4 = .ok (.areturn, 1) := by decide +kernel
abbrev cX29_number : ByteArray := prog_20_method_6_code
def yX29_number : MethodName := ⟨RX29, "number", "()I"⟩
theorem dX29_number_0 : decode cX29_number 0 = .ok (.aload_n 0, 1) := by decide +kernel
theorem dX29_number_1 : decode cX29_number 1 = .ok (.getfield 13, 3) := by decide +kernel
theorem dX29_number_4 : decode cX29_number 4 = .ok (.ireturn, 1) := by decide +kernel
theorem q147 : (Jvm.Cond.initialized "CribBooklet$Numbered") ∈ lw_all := lw_g (lw_at lw_m1 61 rfl) rfl
theorem q715 : (Jvm.Cond.selects "CribBooklet$Numbered" ({ cls := "java/lang/Object", name := "getClass", desc := "()Ljava/lang/Class;" } : Jvm.MethodName) ({ cls := "java/lang/Object", name := "getClass", desc := "()Ljava/lang/Class;" } : Jvm.MethodName)) ∈ lw_all := lw_g (lw_at lw_m3 149 rfl) rfl
theorem q2148 : (Jvm.Cond.instantiable "CribBooklet$Numbered" (2 : Nat)) ∈ lw_all := lw_g (lw_at lw_m9 142 rfl) rfl
theorem q2152 : (Jvm.Cond.instanceMethod ({ cls := "CribBooklet$Numbered", name := "<init>", desc := "(LCribBooklet$Note;I)V" } : Jvm.MethodName)) ∈ lw_all := lw_g (lw_at lw_m9 146 rfl) rfl
theorem q2153 : (Jvm.Cond.code ({ cls := "CribBooklet$Numbered", name := "<init>", desc := "(LCribBooklet$Note;I)V" } : Jvm.MethodName) prog_20_method_1_code (3 : Nat) (Option.none : Option Jvm.ClassFile.FieldType)) ∈ lw_all := lw_g (lw_at lw_m9 147 rfl) rfl
theorem q2154 : (Jvm.Cond.methodLink "CribBooklet$Numbered" (1 : Nat) ({ cls := "java/lang/Record", name := "<init>", desc := "()V" } : Jvm.MethodName)) ∈ lw_all := lw_g (lw_at lw_m9 148 rfl) rfl
theorem q2155 : (Jvm.Cond.fieldLink "CribBooklet$Numbered" (7 : Nat) "CribBooklet$Numbered" "note" "LCribBooklet$Note;") ∈ lw_all := lw_g (lw_at lw_m9 149 rfl) rfl
theorem q2156 : (Jvm.Cond.fieldLink "CribBooklet$Numbered" (13 : Nat) "CribBooklet$Numbered" "number" "I") ∈ lw_all := lw_g (lw_at lw_m9 150 rfl) rfl
theorem q2157 : (Jvm.Cond.laysFinal "CribBooklet$Numbered" "CribBooklet$Numbered" "note" "LCribBooklet$Note;") ∈ lw_all := lw_g (lw_at lw_m9 151 rfl) rfl
theorem q2158 : (Jvm.Cond.soleField "CribBooklet$Numbered" "note") ∈ lw_all := lw_g (lw_at lw_m9 152 rfl) rfl
theorem q2159 : (Jvm.Cond.laysFinal "CribBooklet$Numbered" "CribBooklet$Numbered" "number" "I") ∈ lw_all := lw_g (lw_at lw_m9 153 rfl) rfl
theorem q2160 : (Jvm.Cond.soleField "CribBooklet$Numbered" "number") ∈ lw_all := lw_g (lw_at lw_m9 154 rfl) rfl
theorem q2161 : (Jvm.Cond.superclass "CribBooklet$Numbered" "java/lang/Record") ∈ lw_all := lw_g (lw_at lw_m9 155 rfl) rfl
theorem q2198 : (Jvm.Cond.instanceMethod ({ cls := "CribBooklet$Numbered", name := "note", desc := "()LCribBooklet$Note;" } : Jvm.MethodName)) ∈ lw_all := lw_g (lw_at lw_m9 192 rfl) rfl
theorem q2199 : (Jvm.Cond.selects "CribBooklet$Numbered" ({ cls := "CribBooklet$Numbered", name := "note", desc := "()LCribBooklet$Note;" } : Jvm.MethodName) ({ cls := "CribBooklet$Numbered", name := "note", desc := "()LCribBooklet$Note;" } : Jvm.MethodName)) ∈ lw_all := lw_g (lw_at lw_m9 193 rfl) rfl
theorem q2200 : (Jvm.Cond.code ({ cls := "CribBooklet$Numbered", name := "note", desc := "()LCribBooklet$Note;" } : Jvm.MethodName) prog_20_method_5_code (1 : Nat) (Option.some (Jvm.ClassFile.FieldType.object "CribBooklet$Note"))) ∈ lw_all := lw_g (lw_at lw_m9 194 rfl) rfl
theorem q2210 : (Jvm.Cond.instanceMethod ({ cls := "CribBooklet$Numbered", name := "number", desc := "()I" } : Jvm.MethodName)) ∈ lw_all := lw_g (lw_at lw_m9 204 rfl) rfl
theorem q2211 : (Jvm.Cond.selects "CribBooklet$Numbered" ({ cls := "CribBooklet$Numbered", name := "number", desc := "()I" } : Jvm.MethodName) ({ cls := "CribBooklet$Numbered", name := "number", desc := "()I" } : Jvm.MethodName)) ∈ lw_all := lw_g (lw_at lw_m9 205 rfl) rfl
theorem q2212 : (Jvm.Cond.code ({ cls := "CribBooklet$Numbered", name := "number", desc := "()I" } : Jvm.MethodName) prog_20_method_6_code (1 : Nat) (Option.some Jvm.ClassFile.FieldType.int)) ∈ lw_all := lw_g (lw_at lw_m9 206 rfl) rfl
theorem q3365 : (Jvm.Cond.castable "CribBooklet$Numbered" "java/lang/Object") ∈ lw_tbl := lw_at lw_m14 159 rfl
theorem in_X29 : ∀ w ∈ wsX290, w ∈ lw_all := lw_in wsX290 [2157, 2159] (by decide +kernel) (by decide +kernel)

end
section
/-! CribBooklet$Choice -/
set_option maxRecDepth 100000
def RX30 : String := "CribBooklet$Choice"
def TX30 : u_T := fun k => match k with
  | 0 => ("CribBooklet$Choice", "row", "I", true)
  | 1 => ("CribBooklet$Choice", "cuts", "I", true)
  | _ => ("CribBooklet$Choice", "pages", "I", true)
def tyX30 : Nat → FieldType := fun k => match k with
  | 0 => .int
  | 1 => .int
  | _ => .int
abbrev wsX300 : List Cond := u_ws RX30 TX30 3
theorem nmX30 : ∀ a, a < 3 → ∀ b, b < 3 → a ≠ b → (TX30 a).2.1 ≠ (TX30 b).2.1 := by decide +kernel
theorem tyX30_ok : ∀ k, k < 3 → parseFieldDescriptor (TX30 k).2.2.1 = some (tyX30 k) := by decide +kernel
abbrev cX30_compareTo : ByteArray := prog_5_method_3_code
def yX30_compareTo : MethodName := ⟨RX30, "compareTo", "(Ljava/lang/Object;)I"⟩
def dkwX30_compareTo_0 : List UInt8 := [42, 43, 192, 0, 19, 182, 0, 43, 172]
abbrev dktX30_compareTo_0 : List UInt8 := dkwX30_compareTo_0 ++ []
theorem dksX30_compareTo_0 : cX30_compareTo.data.toList.drop 0 = dktX30_compareTo_0 := by decide +kernel
theorem dX30_compareTo_0 : decode cX30_compareTo 0 = .ok (.aload_n 0, 1) := dk_42 (dk_at dksX30_compareTo_0 0 rfl rfl)
theorem dX30_compareTo_1 : decode cX30_compareTo 1 = .ok (.aload_n 1, 1) := dk_43 (dk_at dksX30_compareTo_0 1 rfl rfl)
theorem dX30_compareTo_2 : decode cX30_compareTo 2 = .ok (.checkcast 19, 3) := dk_192 0 19 (dk_at dksX30_compareTo_0 2 rfl rfl)
theorem dX30_compareTo_5 : decode cX30_compareTo 5 = .ok (.invokevirtual 43, 3) := dk_182 0 43 (dk_at dksX30_compareTo_0 5 rfl rfl)
theorem dX30_compareTo_8 : decode cX30_compareTo 8 = .ok (.ireturn, 1) := dk_172 (dk_at dksX30_compareTo_0 8 rfl rfl)
abbrev cX30_compareTo_2 : ByteArray := prog_5_method_2_code
def yX30_compareTo_2 : MethodName := ⟨RX30, "compareTo", "(LCribBooklet$Choice;)I"⟩
def dkwX30_compareTo_2_2 : List UInt8 := [180, 0, 18, 43, 180, 0, 18, 100, 172]
abbrev dktX30_compareTo_2_2 : List UInt8 := dkwX30_compareTo_2_2 ++ []
def dkwX30_compareTo_2_1 : List UInt8 := [180, 0, 40, 43, 180, 0, 40, 159, 0, 15, 43, 180, 0, 40, 42, 180, 0, 40, 100, 167, 0, 12, 42]
abbrev dktX30_compareTo_2_1 : List UInt8 := dkwX30_compareTo_2_1 ++ dktX30_compareTo_2_2
def dkwX30_compareTo_2_0 : List UInt8 := [42, 180, 0, 34, 43, 180, 0, 34, 159, 0, 13, 42, 180, 0, 34, 43, 180, 0, 34, 100, 172, 42]
abbrev dktX30_compareTo_2_0 : List UInt8 := dkwX30_compareTo_2_0 ++ dktX30_compareTo_2_1
theorem dksX30_compareTo_2_0 : cX30_compareTo_2.data.toList.drop 0 = dktX30_compareTo_2_0 := by decide +kernel
theorem dksX30_compareTo_2_1 : cX30_compareTo_2.data.toList.drop 22 = dktX30_compareTo_2_1 := dk_seg dksX30_compareTo_2_0 22 rfl rfl
theorem dksX30_compareTo_2_2 : cX30_compareTo_2.data.toList.drop 45 = dktX30_compareTo_2_2 := dk_seg dksX30_compareTo_2_1 23 rfl rfl
theorem dX30_compareTo_2_0 : decode cX30_compareTo_2 0 = .ok (.aload_n 0, 1) := dk_42 (dk_at dksX30_compareTo_2_0 0 rfl rfl)
theorem dX30_compareTo_2_1 : decode cX30_compareTo_2 1 = .ok (.getfield 34, 3) := dk_180 0 34 (dk_at dksX30_compareTo_2_0 1 rfl rfl)
theorem dX30_compareTo_2_4 : decode cX30_compareTo_2 4 = .ok (.aload_n 1, 1) := dk_43 (dk_at dksX30_compareTo_2_0 4 rfl rfl)
theorem dX30_compareTo_2_5 : decode cX30_compareTo_2 5 = .ok (.getfield 34, 3) := dk_180 0 34 (dk_at dksX30_compareTo_2_0 5 rfl rfl)
theorem dX30_compareTo_2_8 : decode cX30_compareTo_2 8 = .ok (.if_icmp .eq 13, 3) := dk_159 0 13 (dk_at dksX30_compareTo_2_0 8 rfl rfl)
theorem dX30_compareTo_2_11 : decode cX30_compareTo_2 11 = .ok (.aload_n 0, 1) := dk_42 (dk_at dksX30_compareTo_2_0 11 rfl rfl)
theorem dX30_compareTo_2_12 : decode cX30_compareTo_2 12 = .ok (.getfield 34, 3) := dk_180 0 34 (dk_at dksX30_compareTo_2_0 12 rfl rfl)
theorem dX30_compareTo_2_15 : decode cX30_compareTo_2 15 = .ok (.aload_n 1, 1) := dk_43 (dk_at dksX30_compareTo_2_0 15 rfl rfl)
theorem dX30_compareTo_2_16 : decode cX30_compareTo_2 16 = .ok (.getfield 34, 3) := dk_180 0 34 (dk_at dksX30_compareTo_2_0 16 rfl rfl)
theorem dX30_compareTo_2_19 : decode cX30_compareTo_2 19 = .ok (.isub, 1) := dk_100 (dk_at dksX30_compareTo_2_0 19 rfl rfl)
theorem dX30_compareTo_2_20 : decode cX30_compareTo_2 20 = .ok (.ireturn, 1) := dk_172 (dk_at dksX30_compareTo_2_0 20 rfl rfl)
theorem dX30_compareTo_2_21 : decode cX30_compareTo_2 21 = .ok (.aload_n 0, 1) := dk_42 (dk_at dksX30_compareTo_2_0 21 rfl rfl)
theorem dX30_compareTo_2_22 : decode cX30_compareTo_2 22 = .ok (.getfield 40, 3) := dk_180 0 40 (dk_at dksX30_compareTo_2_1 0 rfl rfl)
theorem dX30_compareTo_2_25 : decode cX30_compareTo_2 25 = .ok (.aload_n 1, 1) := dk_43 (dk_at dksX30_compareTo_2_1 3 rfl rfl)
theorem dX30_compareTo_2_26 : decode cX30_compareTo_2 26 = .ok (.getfield 40, 3) := dk_180 0 40 (dk_at dksX30_compareTo_2_1 4 rfl rfl)
theorem dX30_compareTo_2_29 : decode cX30_compareTo_2 29 = .ok (.if_icmp .eq 15, 3) := dk_159 0 15 (dk_at dksX30_compareTo_2_1 7 rfl rfl)
theorem dX30_compareTo_2_32 : decode cX30_compareTo_2 32 = .ok (.aload_n 1, 1) := dk_43 (dk_at dksX30_compareTo_2_1 10 rfl rfl)
theorem dX30_compareTo_2_33 : decode cX30_compareTo_2 33 = .ok (.getfield 40, 3) := dk_180 0 40 (dk_at dksX30_compareTo_2_1 11 rfl rfl)
theorem dX30_compareTo_2_36 : decode cX30_compareTo_2 36 = .ok (.aload_n 0, 1) := dk_42 (dk_at dksX30_compareTo_2_1 14 rfl rfl)
theorem dX30_compareTo_2_37 : decode cX30_compareTo_2 37 = .ok (.getfield 40, 3) := dk_180 0 40 (dk_at dksX30_compareTo_2_1 15 rfl rfl)
theorem dX30_compareTo_2_40 : decode cX30_compareTo_2 40 = .ok (.isub, 1) := dk_100 (dk_at dksX30_compareTo_2_1 18 rfl rfl)
theorem dX30_compareTo_2_41 : decode cX30_compareTo_2 41 = .ok (.goto 12, 3) := dk_167 0 12 (dk_at dksX30_compareTo_2_1 19 rfl rfl)
theorem dX30_compareTo_2_44 : decode cX30_compareTo_2 44 = .ok (.aload_n 0, 1) := dk_42 (dk_at dksX30_compareTo_2_1 22 rfl rfl)
theorem dX30_compareTo_2_45 : decode cX30_compareTo_2 45 = .ok (.getfield 18, 3) := dk_180 0 18 (dk_at dksX30_compareTo_2_2 0 rfl rfl)
theorem dX30_compareTo_2_48 : decode cX30_compareTo_2 48 = .ok (.aload_n 1, 1) := dk_43 (dk_at dksX30_compareTo_2_2 3 rfl rfl)
theorem dX30_compareTo_2_49 : decode cX30_compareTo_2 49 = .ok (.getfield 18, 3) := dk_180 0 18 (dk_at dksX30_compareTo_2_2 4 rfl rfl)
theorem dX30_compareTo_2_52 : decode cX30_compareTo_2 52 = .ok (.isub, 1) := dk_100 (dk_at dksX30_compareTo_2_2 7 rfl rfl)
theorem dX30_compareTo_2_53 : decode cX30_compareTo_2 53 = .ok (.ireturn, 1) := dk_172 (dk_at dksX30_compareTo_2_2 8 rfl rfl)
abbrev cX30_init : ByteArray := prog_5_method_1_code
def yX30_init : MethodName := ⟨RX30, "<init>", "(LCribBooklet$Sheet;I)V"⟩
def dkwX30_init_1 : List UInt8 := [45, 182, 0, 24, 184, 0, 28, 181, 0, 34, 42, 45, 182, 0, 37, 181, 0, 40, 177]
abbrev dktX30_init_1 : List UInt8 := dkwX30_init_1 ++ []
def dkwX30_init_0 : List UInt8 := [42, 183, 0, 1, 187, 0, 7, 89, 43, 43, 28, 182, 0, 9, 183, 0, 15, 78, 42, 28, 181, 0, 18, 42]
abbrev dktX30_init_0 : List UInt8 := dkwX30_init_0 ++ dktX30_init_1
theorem dksX30_init_0 : cX30_init.data.toList.drop 0 = dktX30_init_0 := by decide +kernel
theorem dksX30_init_1 : cX30_init.data.toList.drop 24 = dktX30_init_1 := dk_seg dksX30_init_0 24 rfl rfl
theorem dX30_init_0 : decode cX30_init 0 = .ok (.aload_n 0, 1) := dk_42 (dk_at dksX30_init_0 0 rfl rfl)
theorem dX30_init_1 : decode cX30_init 1 = .ok (.invokespecial 1, 3) := dk_183 0 1 (dk_at dksX30_init_0 1 rfl rfl)
theorem dX30_init_4 : decode cX30_init 4 = .ok (.new 7, 3) := dk_187 0 7 (dk_at dksX30_init_0 4 rfl rfl)
theorem dX30_init_7 : decode cX30_init 7 = .ok (.dup, 1) := dk_89 (dk_at dksX30_init_0 7 rfl rfl)
theorem dX30_init_8 : decode cX30_init 8 = .ok (.aload_n 1, 1) := dk_43 (dk_at dksX30_init_0 8 rfl rfl)
theorem dX30_init_9 : decode cX30_init 9 = .ok (.aload_n 1, 1) := dk_43 (dk_at dksX30_init_0 9 rfl rfl)
theorem dX30_init_10 : decode cX30_init 10 = .ok (.iload_n 2, 1) := dk_28 (dk_at dksX30_init_0 10 rfl rfl)
theorem dX30_init_11 : decode cX30_init 11 = .ok (.invokevirtual 9, 3) := dk_182 0 9 (dk_at dksX30_init_0 11 rfl rfl)
theorem dX30_init_14 : decode cX30_init 14 = .ok (.invokespecial 15, 3) := dk_183 0 15 (dk_at dksX30_init_0 14 rfl rfl)
theorem dX30_init_17 : decode cX30_init 17 = .ok (.astore_n 3, 1) := dk_78 (dk_at dksX30_init_0 17 rfl rfl)
theorem dX30_init_18 : decode cX30_init 18 = .ok (.aload_n 0, 1) := dk_42 (dk_at dksX30_init_0 18 rfl rfl)
theorem dX30_init_19 : decode cX30_init 19 = .ok (.iload_n 2, 1) := dk_28 (dk_at dksX30_init_0 19 rfl rfl)
theorem dX30_init_20 : decode cX30_init 20 = .ok (.putfield 18, 3) := dk_181 0 18 (dk_at dksX30_init_0 20 rfl rfl)
theorem dX30_init_23 : decode cX30_init 23 = .ok (.aload_n 0, 1) := dk_42 (dk_at dksX30_init_0 23 rfl rfl)
theorem dX30_init_24 : decode cX30_init 24 = .ok (.aload_n 3, 1) := dk_45 (dk_at dksX30_init_1 0 rfl rfl)
theorem dX30_init_25 : decode cX30_init 25 = .ok (.invokevirtual 24, 3) := dk_182 0 24 (dk_at dksX30_init_1 1 rfl rfl)
theorem dX30_init_28 : decode cX30_init 28 = .ok (.invokestatic 28, 3) := dk_184 0 28 (dk_at dksX30_init_1 4 rfl rfl)
theorem dX30_init_31 : decode cX30_init 31 = .ok (.putfield 34, 3) := dk_181 0 34 (dk_at dksX30_init_1 7 rfl rfl)
theorem dX30_init_34 : decode cX30_init 34 = .ok (.aload_n 0, 1) := dk_42 (dk_at dksX30_init_1 10 rfl rfl)
theorem dX30_init_35 : decode cX30_init 35 = .ok (.aload_n 3, 1) := dk_45 (dk_at dksX30_init_1 11 rfl rfl)
theorem dX30_init_36 : decode cX30_init 36 = .ok (.invokevirtual 37, 3) := dk_182 0 37 (dk_at dksX30_init_1 12 rfl rfl)
theorem dX30_init_39 : decode cX30_init 39 = .ok (.putfield 40, 3) := dk_181 0 40 (dk_at dksX30_init_1 15 rfl rfl)
theorem dX30_init_42 : decode cX30_init 42 = .ok (.return_, 1) := dk_177 (dk_at dksX30_init_1 18 rfl rfl)
theorem q154 : (Jvm.Cond.initialized "CribBooklet$Choice") ∈ lw_all := lw_g (lw_at lw_m1 68 rfl) rfl
theorem q701 : (Jvm.Cond.selects "CribBooklet$Choice" ({ cls := "java/lang/Object", name := "getClass", desc := "()Ljava/lang/Class;" } : Jvm.MethodName) ({ cls := "java/lang/Object", name := "getClass", desc := "()Ljava/lang/Class;" } : Jvm.MethodName)) ∈ lw_all := lw_g (lw_at lw_m3 135 rfl) rfl
theorem q2221 : (Jvm.Cond.castable "CribBooklet$Choice" "java/lang/Comparable") ∈ lw_tbl := lw_at lw_m9 215 rfl
theorem q2222 : (Jvm.Cond.selects "CribBooklet$Choice" ({ cls := "java/lang/Comparable", name := "compareTo", desc := "(Ljava/lang/Object;)I" } : Jvm.MethodName) ({ cls := "CribBooklet$Choice", name := "compareTo", desc := "(Ljava/lang/Object;)I" } : Jvm.MethodName)) ∈ lw_all := lw_g (lw_at lw_m9 216 rfl) rfl
theorem q2223 : (Jvm.Cond.unhidden "CribBooklet$Choice" "compareTo" "(Ljava/lang/Object;)I") ∈ lw_tbl := lw_at lw_m9 217 rfl
theorem q2224 : (Jvm.Cond.instanceMethod ({ cls := "CribBooklet$Choice", name := "compareTo", desc := "(Ljava/lang/Object;)I" } : Jvm.MethodName)) ∈ lw_all := lw_g (lw_at lw_m9 218 rfl) rfl
theorem q2225 : (Jvm.Cond.publicMethod ({ cls := "CribBooklet$Choice", name := "compareTo", desc := "(Ljava/lang/Object;)I" } : Jvm.MethodName)) ∈ lw_tbl := lw_at lw_m9 219 rfl
theorem q2226 : (Jvm.Cond.code ({ cls := "CribBooklet$Choice", name := "compareTo", desc := "(Ljava/lang/Object;)I" } : Jvm.MethodName) prog_5_method_3_code (2 : Nat) (Option.some Jvm.ClassFile.FieldType.int)) ∈ lw_all := lw_g (lw_at lw_m9 220 rfl) rfl
theorem q2227 : (Jvm.Cond.classLink "CribBooklet$Choice" (19 : Nat) "CribBooklet$Choice") ∈ lw_all := lw_g (lw_at lw_m9 221 rfl) rfl
theorem q2228 : (Jvm.Cond.methodLink "CribBooklet$Choice" (43 : Nat) ({ cls := "CribBooklet$Choice", name := "compareTo", desc := "(LCribBooklet$Choice;)I" } : Jvm.MethodName)) ∈ lw_all := lw_g (lw_at lw_m9 222 rfl) rfl
theorem q2229 : (Jvm.Cond.instanceMethod ({ cls := "CribBooklet$Choice", name := "compareTo", desc := "(LCribBooklet$Choice;)I" } : Jvm.MethodName)) ∈ lw_all := lw_g (lw_at lw_m9 223 rfl) rfl
theorem q2230 : (Jvm.Cond.selects "CribBooklet$Choice" ({ cls := "CribBooklet$Choice", name := "compareTo", desc := "(LCribBooklet$Choice;)I" } : Jvm.MethodName) ({ cls := "CribBooklet$Choice", name := "compareTo", desc := "(LCribBooklet$Choice;)I" } : Jvm.MethodName)) ∈ lw_all := lw_g (lw_at lw_m9 224 rfl) rfl
theorem q2231 : (Jvm.Cond.code ({ cls := "CribBooklet$Choice", name := "compareTo", desc := "(LCribBooklet$Choice;)I" } : Jvm.MethodName) prog_5_method_2_code (2 : Nat) (Option.some Jvm.ClassFile.FieldType.int)) ∈ lw_all := lw_g (lw_at lw_m9 225 rfl) rfl
theorem q2788 : (Jvm.Cond.instantiable "CribBooklet$Choice" (3 : Nat)) ∈ lw_all := lw_g (lw_at lw_m12 62 rfl) rfl
theorem q2790 : (Jvm.Cond.instanceMethod ({ cls := "CribBooklet$Choice", name := "<init>", desc := "(LCribBooklet$Sheet;I)V" } : Jvm.MethodName)) ∈ lw_all := lw_g (lw_at lw_m12 64 rfl) rfl
theorem q2791 : (Jvm.Cond.code ({ cls := "CribBooklet$Choice", name := "<init>", desc := "(LCribBooklet$Sheet;I)V" } : Jvm.MethodName) prog_5_method_1_code (4 : Nat) (Option.none : Option Jvm.ClassFile.FieldType)) ∈ lw_all := lw_g (lw_at lw_m12 65 rfl) rfl
theorem q2792 : (Jvm.Cond.methodLink "CribBooklet$Choice" (1 : Nat) ({ cls := "java/lang/Object", name := "<init>", desc := "()V" } : Jvm.MethodName)) ∈ lw_all := lw_g (lw_at lw_m12 66 rfl) rfl
theorem q2793 : (Jvm.Cond.classLink "CribBooklet$Choice" (7 : Nat) "CribBooklet$Booklet") ∈ lw_all := lw_g (lw_at lw_m12 67 rfl) rfl
theorem q2794 : (Jvm.Cond.methodLink "CribBooklet$Choice" (9 : Nat) ({ cls := "CribBooklet$Sheet", name := "foldedBy", desc := "(I)LCribBooklet$Folding;" } : Jvm.MethodName)) ∈ lw_all := lw_g (lw_at lw_m12 68 rfl) rfl
theorem q2795 : (Jvm.Cond.methodLink "CribBooklet$Choice" (15 : Nat) ({ cls := "CribBooklet$Booklet", name := "<init>", desc := "(LCribBooklet$Sheet;LCribBooklet$Folding;)V" } : Jvm.MethodName)) ∈ lw_all := lw_g (lw_at lw_m12 69 rfl) rfl
theorem q2796 : (Jvm.Cond.methodLink "CribBooklet$Choice" (24 : Nat) ({ cls := "CribBooklet$Booklet", name := "otherEdges", desc := "()I" } : Jvm.MethodName)) ∈ lw_all := lw_g (lw_at lw_m12 70 rfl) rfl
theorem q2797 : (Jvm.Cond.methodLink "CribBooklet$Choice" (28 : Nat) ({ cls := "java/lang/Integer", name := "bitCount", desc := "(I)I" } : Jvm.MethodName)) ∈ lw_all := lw_g (lw_at lw_m12 71 rfl) rfl
theorem q2798 : (Jvm.Cond.methodLink "CribBooklet$Choice" (37 : Nat) ({ cls := "CribBooklet$Booklet", name := "ownNumbers", desc := "()I" } : Jvm.MethodName)) ∈ lw_all := lw_g (lw_at lw_m12 72 rfl) rfl
theorem q2799 : (Jvm.Cond.fieldLink "CribBooklet$Choice" (18 : Nat) "CribBooklet$Choice" "row" "I") ∈ lw_all := lw_g (lw_at lw_m12 73 rfl) rfl
theorem q2801 : (Jvm.Cond.fieldLink "CribBooklet$Choice" (34 : Nat) "CribBooklet$Choice" "cuts" "I") ∈ lw_all := lw_g (lw_at lw_m12 75 rfl) rfl
theorem q2803 : (Jvm.Cond.fieldLink "CribBooklet$Choice" (40 : Nat) "CribBooklet$Choice" "pages" "I") ∈ lw_all := lw_g (lw_at lw_m12 77 rfl) rfl
theorem q2805 : (Jvm.Cond.laysFinal "CribBooklet$Choice" "CribBooklet$Choice" "row" "I") ∈ lw_all := lw_g (lw_at lw_m12 79 rfl) rfl
theorem q2806 : (Jvm.Cond.soleField "CribBooklet$Choice" "row") ∈ lw_all := lw_g (lw_at lw_m12 80 rfl) rfl
theorem q2807 : (Jvm.Cond.laysFinal "CribBooklet$Choice" "CribBooklet$Choice" "cuts" "I") ∈ lw_all := lw_g (lw_at lw_m12 81 rfl) rfl
theorem q2808 : (Jvm.Cond.soleField "CribBooklet$Choice" "cuts") ∈ lw_all := lw_g (lw_at lw_m12 82 rfl) rfl
theorem q2809 : (Jvm.Cond.laysFinal "CribBooklet$Choice" "CribBooklet$Choice" "pages" "I") ∈ lw_all := lw_g (lw_at lw_m12 83 rfl) rfl
theorem q2810 : (Jvm.Cond.soleField "CribBooklet$Choice" "pages") ∈ lw_all := lw_g (lw_at lw_m12 84 rfl) rfl
theorem q2811 : (Jvm.Cond.superclass "CribBooklet$Choice" "java/lang/Object") ∈ lw_all := lw_g (lw_at lw_m12 85 rfl) rfl
theorem q3373 : (Jvm.Cond.castable "CribBooklet$Choice" "java/lang/Object") ∈ lw_tbl := lw_at lw_m14 167 rfl
theorem in_X30 : ∀ w ∈ wsX300, w ∈ lw_all := lw_in wsX300 [2805, 2807, 2809] (by decide +kernel) (by decide +kernel)

end