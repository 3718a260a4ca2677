/-! HandBlinds -/
set_option maxRecDepth 100000
def RX0 : String := "HandBlinds"
def TX0 : u_T := fun k => match k with
  | 0 => ("HandBlinds", "blind", "LHandBlinds$Blind;", false)
  | 1 => ("HandBlinds", "history", "Ljava/util/ArrayDeque;", true)
  | _ => ("HandBlinds", "text", "Ljava/lang/StringBuilder;", true)
def tyX0 : Nat → FieldType := fun k => match k with
  | 0 => .object "HandBlinds$Blind"
  | 1 => .object "java/util/ArrayDeque"
  | _ => .object "java/lang/StringBuilder"
abbrev wsX00 : List Cond := u_ws RX0 TX0 3
theorem nmX0 : ∀ a, a < 3 → ∀ b, b < 3 → a ≠ b → (TX0 a).2.1 ≠ (TX0 b).2.1 := by decide +kernel
theorem tyX0_ok : ∀ k, k < 3 → parseFieldDescriptor (TX0 k).2.2.1 = some (tyX0 k) := by decide +kernel
abbrev cX0_init : ByteArray := prog_1_method_3_code
def yX0_init : MethodName := ⟨RX0, "<init>", "()V"⟩
def dkwX0_init_1 : List UInt8 := [181, 0, 24, 42, 187, 0, 28, 89, 183, 0, 30, 181, 0, 31, 177]
abbrev dktX0_init_1 : List UInt8 := dkwX0_init_1 ++ []
def dkwX0_init_0 : List UInt8 := [42, 183, 0, 7, 42, 187, 0, 12, 89, 183, 0, 14, 181, 0, 15, 42, 187, 0, 21, 89, 183, 0, 23]
abbrev dktX0_init_0 : List UInt8 := dkwX0_init_0 ++ dktX0_init_1
theorem dksX0_init_0 : cX0_init.data.toList.drop 0 = dktX0_init_0 := by decide +kernel
theorem dksX0_init_1 : cX0_init.data.toList.drop 23 = dktX0_init_1 := dk_seg dksX0_init_0 23 rfl rfl
theorem dX0_init_0 : decode cX0_init 0 = .ok (.aload_n 0, 1) := dk_42 (dk_at dksX0_init_0 0 rfl rfl)
theorem dX0_init_1 : decode cX0_init 1 = .ok (.invokespecial 7, 3) := dk_183 0 7 (dk_at dksX0_init_0 1 rfl rfl)
theorem dX0_init_4 : decode cX0_init 4 = .ok (.aload_n 0, 1) := dk_42 (dk_at dksX0_init_0 4 rfl rfl)
theorem dX0_init_5 : decode cX0_init 5 = .ok (.new 12, 3) := dk_187 0 12 (dk_at dksX0_init_0 5 rfl rfl)
theorem dX0_init_8 : decode cX0_init 8 = .ok (.dup, 1) := dk_89 (dk_at dksX0_init_0 8 rfl rfl)
theorem dX0_init_9 : decode cX0_init 9 = .ok (.invokespecial 14, 3) := dk_183 0 14 (dk_at dksX0_init_0 9 rfl rfl)
theorem dX0_init_12 : decode cX0_init 12 = .ok (.putfield 15, 3) := dk_181 0 15 (dk_at dksX0_init_0 12 rfl rfl)
theorem dX0_init_15 : decode cX0_init 15 = .ok (.aload_n 0, 1) := dk_42 (dk_at dksX0_init_0 15 rfl rfl)
theorem dX0_init_16 : decode cX0_init 16 = .ok (.new 21, 3) := dk_187 0 21 (dk_at dksX0_init_0 16 rfl rfl)
theorem dX0_init_19 : decode cX0_init 19 = .ok (.dup, 1) := dk_89 (dk_at dksX0_init_0 19 rfl rfl)
theorem dX0_init_20 : decode cX0_init 20 = .ok (.invokespecial 23, 3) := dk_183 0 23 (dk_at dksX0_init_0 20 rfl rfl)
theorem dX0_init_23 : decode cX0_init 23 = .ok (.putfield 24, 3) := dk_181 0 24 (dk_at dksX0_init_1 0 rfl rfl)
theorem dX0_init_26 : decode cX0_init 26 = .ok (.aload_n 0, 1) := dk_42 (dk_at dksX0_init_1 3 rfl rfl)
theorem dX0_init_27 : decode cX0_init 27 = .ok (.new 28, 3) := dk_187 0 28 (dk_at dksX0_init_1 4 rfl rfl)
theorem dX0_init_30 : decode cX0_init 30 = .ok (.dup, 1) := dk_89 (dk_at dksX0_init_1 7 rfl rfl)
theorem dX0_init_31 : decode cX0_init 31 = .ok (.invokespecial 30, 3) := dk_183 0 30 (dk_at dksX0_init_1 8 rfl rfl)
theorem dX0_init_34 : decode cX0_init 34 = .ok (.putfield 31, 3) := dk_181 0 31 (dk_at dksX0_init_1 11 rfl rfl)
theorem dX0_init_37 : decode cX0_init 37 = .ok (.return_, 1) := dk_177 (dk_at dksX0_init_1 14 rfl rfl)
abbrev cX0_add : ByteArray := prog_1_method_8_code
def yX0_add : MethodName := ⟨RX0, "add", "()I"⟩
def dkwX0_add_1 : List UInt8 := [18, 114, 172]
abbrev dktX0_add_1 : List UInt8 := dkwX0_add_1 ++ []
def dkwX0_add_0 : List UInt8 := [187, 0, 12, 89, 42, 180, 0, 15, 183, 0, 73, 76, 42, 43, 42, 43, 182, 0, 108, 182, 0, 80, 172, 77]
abbrev dktX0_add_0 : List UInt8 := dkwX0_add_0 ++ dktX0_add_1
theorem dksX0_add_0 : cX0_add.data.toList.drop 0 = dktX0_add_0 := by decide +kernel
theorem dksX0_add_1 : cX0_add.data.toList.drop 24 = dktX0_add_1 := dk_seg dksX0_add_0 24 rfl rfl
theorem dX0_add_0 : decode cX0_add 0 = .ok (.new 12, 3) := dk_187 0 12 (dk_at dksX0_add_0 0 rfl rfl)
theorem dX0_add_3 : decode cX0_add 3 = .ok (.dup, 1) := dk_89 (dk_at dksX0_add_0 3 rfl rfl)
theorem dX0_add_4 : decode cX0_add 4 = .ok (.aload_n 0, 1) := dk_42 (dk_at dksX0_add_0 4 rfl rfl)
theorem dX0_add_5 : decode cX0_add 5 = .ok (.getfield 15, 3) := dk_180 0 15 (dk_at dksX0_add_0 5 rfl rfl)
theorem dX0_add_8 : decode cX0_add 8 = .ok (.invokespecial 73, 3) := dk_183 0 73 (dk_at dksX0_add_0 8 rfl rfl)
theorem dX0_add_11 : decode cX0_add 11 = .ok (.astore_n 1, 1) := dk_76 (dk_at dksX0_add_0 11 rfl rfl)
theorem dX0_add_12 : decode cX0_add 12 = .ok (.aload_n 0, 1) := dk_42 (dk_at dksX0_add_0 12 rfl rfl)
theorem dX0_add_13 : decode cX0_add 13 = .ok (.aload_n 1, 1) := dk_43 (dk_at dksX0_add_0 13 rfl rfl)
theorem dX0_add_14 : decode cX0_add 14 = .ok (.aload_n 0, 1) := dk_42 (dk_at dksX0_add_0 14 rfl rfl)
theorem dX0_add_15 : decode cX0_add 15 = .ok (.aload_n 1, 1) := dk_43 (dk_at dksX0_add_0 15 rfl rfl)
theorem dX0_add_16 : decode cX0_add 16 = .ok (.invokevirtual 108, 3) := dk_182 0 108 (dk_at dksX0_add_0 16 rfl rfl)
theorem dX0_add_19 : decode cX0_add 19 = .ok (.invokevirtual 80, 3) := dk_182 0 80 (dk_at dksX0_add_0 19 rfl rfl)
theorem dX0_add_22 : decode cX0_add 22 = .ok (.ireturn, 1) := dk_172 (dk_at dksX0_add_0 22 rfl rfl)
theorem dX0_add_23 : decode cX0_add 23 = .ok (.astore_n 2, 1) := dk_77 (dk_at dksX0_add_0 23 rfl rfl)
theorem dX0_add_24 : decode cX0_add 24 = .ok (.ldc 114, 2) := dk_18 114 (dk_at dksX0_add_1 0 rfl rfl)
theorem dX0_add_26 : decode cX0_add 26 = .ok (.ireturn, 1) := dk_172 (dk_at dksX0_add_1 2 rfl rfl)
abbrev cX0_addsAll : ByteArray := prog_1_method_7_code
def yX0_addsAll : MethodName := ⟨RX0, "addsAll", "(LHandBlinds$Blind;)I"⟩
def dkwX0_addsAll_3 : List UInt8 := [4, 96, 62, 167, 255, 197, 21, 4, 172]
abbrev dktX0_addsAll_3 : List UInt8 := dkwX0_addsAll_3 ++ []
def dkwX0_addsAll_2 : List UInt8 := [182, 0, 101, 29, 182, 0, 104, 132, 4, 1, 21, 6, 155, 0, 7, 4, 167, 0, 4, 3, 54, 5, 21, 6]
abbrev dktX0_addsAll_2 : List UInt8 := dkwX0_addsAll_2 ++ dktX0_addsAll_3
def dkwX0_addsAll_1 : List UInt8 := [29, 182, 0, 92, 54, 6, 43, 21, 6, 156, 0, 11, 44, 29, 182, 0, 97, 167, 0, 10, 44, 29, 21, 6]
abbrev dktX0_addsAll_1 : List UInt8 := dkwX0_addsAll_1 ++ dktX0_addsAll_2
def dkwX0_addsAll_0 : List UInt8 := [42, 180, 0, 31, 182, 0, 88, 77, 3, 62, 3, 54, 4, 4, 54, 5, 21, 5, 153, 0, 60, 44, 16, 47]
abbrev dktX0_addsAll_0 : List UInt8 := dkwX0_addsAll_0 ++ dktX0_addsAll_1
theorem dksX0_addsAll_0 : cX0_addsAll.data.toList.drop 0 = dktX0_addsAll_0 := by decide +kernel
theorem dksX0_addsAll_1 : cX0_addsAll.data.toList.drop 24 = dktX0_addsAll_1 := dk_seg dksX0_addsAll_0 24 rfl rfl
theorem dksX0_addsAll_2 : cX0_addsAll.data.toList.drop 48 = dktX0_addsAll_2 := dk_seg dksX0_addsAll_1 24 rfl rfl
theorem dksX0_addsAll_3 : cX0_addsAll.data.toList.drop 72 = dktX0_addsAll_3 := dk_seg dksX0_addsAll_2 24 rfl rfl
theorem dX0_addsAll_0 : decode cX0_addsAll 0 = .ok (.aload_n 0, 1) := dk_42 (dk_at dksX0_addsAll_0 0 rfl rfl)
theorem dX0_addsAll_1 : decode cX0_addsAll 1 = .ok (.getfield 31, 3) := dk_180 0 31 (dk_at dksX0_addsAll_0 1 rfl rfl)
theorem dX0_addsAll_4 : decode cX0_addsAll 4 = .ok (.invokevirtual 88, 3) := dk_182 0 88 (dk_at dksX0_addsAll_0 4 rfl rfl)
theorem dX0_addsAll_7 : decode cX0_addsAll 7 = .ok (.astore_n 2, 1) := dk_77 (dk_at dksX0_addsAll_0 7 rfl rfl)
theorem dX0_addsAll_8 : decode cX0_addsAll 8 = .ok (.iconst 0, 1) := dk_3 (dk_at dksX0_addsAll_0 8 rfl rfl)
theorem dX0_addsAll_9 : decode cX0_addsAll 9 = .ok (.istore_n 3, 1) := dk_62 (dk_at dksX0_addsAll_0 9 rfl rfl)
theorem dX0_addsAll_10 : decode cX0_addsAll 10 = .ok (.iconst 0, 1) := dk_3 (dk_at dksX0_addsAll_0 10 rfl rfl)
theorem dX0_addsAll_11 : decode cX0_addsAll 11 = .ok (.istore 4, 2) := dk_54 4 (dk_at dksX0_addsAll_0 11 rfl rfl)
theorem dX0_addsAll_13 : decode cX0_addsAll 13 = .ok (.iconst 1, 1) := dk_4 (dk_at dksX0_addsAll_0 13 rfl rfl)
theorem dX0_addsAll_14 : decode cX0_addsAll 14 = .ok (.istore 5, 2) := dk_54 5 (dk_at dksX0_addsAll_0 14 rfl rfl)
theorem dX0_addsAll_16 : decode cX0_addsAll 16 = .ok (.iload 5, 2) := dk_21 5 (dk_at dksX0_addsAll_0 16 rfl rfl)
theorem dX0_addsAll_18 : decode cX0_addsAll 18 = .ok (.ifCond .eq 60, 3) := dk_153 0 60 (dk_at dksX0_addsAll_0 18 rfl rfl)
theorem dX0_addsAll_21 : decode cX0_addsAll 21 = .ok (.aload_n 2, 1) := dk_44 (dk_at dksX0_addsAll_0 21 rfl rfl)
theorem dX0_addsAll_22 : decode cX0_addsAll 22 = .ok (.bipush 47, 2) := dk_16 47 (dk_at dksX0_addsAll_0 22 rfl rfl)
theorem dX0_addsAll_24 : decode cX0_addsAll 24 = .ok (.iload_n 3, 1) := dk_29 (dk_at dksX0_addsAll_1 0 rfl rfl)
theorem dX0_addsAll_25 : decode cX0_addsAll 25 = .ok (.invokevirtual 92, 3) := dk_182 0 92 (dk_at dksX0_addsAll_1 1 rfl rfl)
theorem dX0_addsAll_28 : decode cX0_addsAll 28 = .ok (.istore 6, 2) := dk_54 6 (dk_at dksX0_addsAll_1 4 rfl rfl)
theorem dX0_addsAll_30 : decode cX0_addsAll 30 = .ok (.aload_n 1, 1) := dk_43 (dk_at dksX0_addsAll_1 6 rfl rfl)
theorem dX0_addsAll_31 : decode cX0_addsAll 31 = .ok (.iload 6, 2) := dk_21 6 (dk_at dksX0_addsAll_1 7 rfl rfl)
theorem dX0_addsAll_33 : decode cX0_addsAll 33 = .ok (.ifCond .ge 11, 3) := dk_156 0 11 (dk_at dksX0_addsAll_1 9 rfl rfl)
theorem dX0_addsAll_36 : decode cX0_addsAll 36 = .ok (.aload_n 2, 1) := dk_44 (dk_at dksX0_addsAll_1 12 rfl rfl)
theorem dX0_addsAll_37 : decode cX0_addsAll 37 = .ok (.iload_n 3, 1) := dk_29 (dk_at dksX0_addsAll_1 13 rfl rfl)
theorem dX0_addsAll_38 : decode cX0_addsAll 38 = .ok (.invokevirtual 97, 3) := dk_182 0 97 (dk_at dksX0_addsAll_1 14 rfl rfl)
theorem dX0_addsAll_41 : decode cX0_addsAll 41 = .ok (.goto 10, 3) := dk_167 0 10 (dk_at dksX0_addsAll_1 17 rfl rfl)
theorem dX0_addsAll_44 : decode cX0_addsAll 44 = .ok (.aload_n 2, 1) := dk_44 (dk_at dksX0_addsAll_1 20 rfl rfl)
theorem dX0_addsAll_45 : decode cX0_addsAll 45 = .ok (.iload_n 3, 1) := dk_29 (dk_at dksX0_addsAll_1 21 rfl rfl)
theorem dX0_addsAll_46 : decode cX0_addsAll 46 = .ok (.iload 6, 2) := dk_21 6 (dk_at dksX0_addsAll_1 22 rfl rfl)
theorem dX0_addsAll_48 : decode cX0_addsAll 48 = .ok (.invokevirtual 101, 3) := dk_182 0 101 (dk_at dksX0_addsAll_2 0 rfl rfl)
theorem dX0_addsAll_51 : decode cX0_addsAll 51 = .ok (.iload_n 3, 1) := dk_29 (dk_at dksX0_addsAll_2 3 rfl rfl)
theorem dX0_addsAll_52 : decode cX0_addsAll 52 = .ok (.invokevirtual 104, 3) := dk_182 0 104 (dk_at dksX0_addsAll_2 4 rfl rfl)
theorem dX0_addsAll_55 : decode cX0_addsAll 55 = .ok (.iinc 4 1, 3) := dk_132 4 1 (dk_at dksX0_addsAll_2 7 rfl rfl)
theorem dX0_addsAll_58 : decode cX0_addsAll 58 = .ok (.iload 6, 2) := dk_21 6 (dk_at dksX0_addsAll_2 10 rfl rfl)
theorem dX0_addsAll_60 : decode cX0_addsAll 60 = .ok (.ifCond .lt 7, 3) := dk_155 0 7 (dk_at dksX0_addsAll_2 12 rfl rfl)
theorem dX0_addsAll_63 : decode cX0_addsAll 63 = .ok (.iconst 1, 1) := dk_4 (dk_at dksX0_addsAll_2 15 rfl rfl)
theorem dX0_addsAll_64 : decode cX0_addsAll 64 = .ok (.goto 4, 3) := dk_167 0 4 (dk_at dksX0_addsAll_2 16 rfl rfl)
theorem dX0_addsAll_67 : decode cX0_addsAll 67 = .ok (.iconst 0, 1) := dk_3 (dk_at dksX0_addsAll_2 19 rfl rfl)
theorem dX0_addsAll_68 : decode cX0_addsAll 68 = .ok (.istore 5, 2) := dk_54 5 (dk_at dksX0_addsAll_2 20 rfl rfl)
theorem dX0_addsAll_70 : decode cX0_addsAll 70 = .ok (.iload 6, 2) := dk_21 6 (dk_at dksX0_addsAll_2 22 rfl rfl)
theorem dX0_addsAll_72 : decode cX0_addsAll 72 = .ok (.iconst 1, 1) := dk_4 (dk_at dksX0_addsAll_3 0 rfl rfl)
theorem dX0_addsAll_73 : decode cX0_addsAll 73 = .ok (.iadd, 1) := dk_96 (dk_at dksX0_addsAll_3 1 rfl rfl)
theorem dX0_addsAll_74 : decode cX0_addsAll 74 = .ok (.istore_n 3, 1) := dk_62 (dk_at dksX0_addsAll_3 2 rfl rfl)
theorem dX0_addsAll_75 : decode cX0_addsAll 75 = .ok (.goto (-59), 3) := dk_167 255 197 (dk_at dksX0_addsAll_3 3 rfl rfl)
theorem dX0_addsAll_78 : decode cX0_addsAll 78 = .ok (.iload 4, 2) := dk_21 4 (dk_at dksX0_addsAll_3 6 rfl rfl)
theorem dX0_addsAll_80 : decode cX0_addsAll 80 = .ok (.ireturn, 1) := dk_172 (dk_at dksX0_addsAll_3 8 rfl rfl)
abbrev cX0_isBetween : ByteArray := prog_1_method_1_code
def yX0_isBetween : MethodName := ⟨RX0, "isBetween", "(JJJ)Z"⟩
def dkwX0_isBetween_0 : List UInt8 := [30, 32, 148, 155, 0, 14, 30, 22, 4, 148, 157, 0, 7, 4, 167, 0, 4, 3, 172]
abbrev dktX0_isBetween_0 : List UInt8 := dkwX0_isBetween_0 ++ []
theorem dksX0_isBetween_0 : cX0_isBetween.data.toList.drop 0 = dktX0_isBetween_0 := by decide +kernel
theorem dX0_isBetween_0 : decode cX0_isBetween 0 = .ok (.lload_n 0, 1) := dk_30 (dk_at dksX0_isBetween_0 0 rfl rfl)
theorem dX0_isBetween_1 : decode cX0_isBetween 1 = .ok (.lload_n 2, 1) := dk_32 (dk_at dksX0_isBetween_0 1 rfl rfl)
theorem dX0_isBetween_2 : decode cX0_isBetween 2 = .ok (.lcmp, 1) := dk_148 (dk_at dksX0_isBetween_0 2 rfl rfl)
theorem dX0_isBetween_3 : decode cX0_isBetween 3 = .ok (.ifCond .lt 14, 3) := dk_155 0 14 (dk_at dksX0_isBetween_0 3 rfl rfl)
theorem dX0_isBetween_6 : decode cX0_isBetween 6 = .ok (.lload_n 0, 1) := dk_30 (dk_at dksX0_isBetween_0 6 rfl rfl)
theorem dX0_isBetween_7 : decode cX0_isBetween 7 = .ok (.lload 4, 2) := dk_22 4 (dk_at dksX0_isBetween_0 7 rfl rfl)
theorem dX0_isBetween_9 : decode cX0_isBetween 9 = .ok (.lcmp, 1) := dk_148 (dk_at dksX0_isBetween_0 9 rfl rfl)
theorem dX0_isBetween_10 : decode cX0_isBetween 10 = .ok (.ifCond .gt 7, 3) := dk_157 0 7 (dk_at dksX0_isBetween_0 10 rfl rfl)
theorem dX0_isBetween_13 : decode cX0_isBetween 13 = .ok (.iconst 1, 1) := dk_4 (dk_at dksX0_isBetween_0 13 rfl rfl)
theorem dX0_isBetween_14 : decode cX0_isBetween 14 = .ok (.goto 4, 3) := dk_167 0 4 (dk_at dksX0_isBetween_0 14 rfl rfl)
theorem dX0_isBetween_17 : decode cX0_isBetween 17 = .ok (.iconst 0, 1) := dk_3 (dk_at dksX0_isBetween_0 17 rfl rfl)
theorem dX0_isBetween_18 : decode cX0_isBetween 18 = .ok (.ireturn, 1) := dk_172 (dk_at dksX0_isBetween_0 18 rfl rfl)
abbrev cX0_changed : ByteArray := prog_1_method_4_code
def yX0_changed : MethodName := ⟨RX0, "changed", "(LHandBlinds$Blind;I)I"⟩
def dkwX0_changed_1 : List UInt8 := [180, 0, 24, 182, 0, 43, 87, 42, 43, 181, 0, 15, 28, 172]
abbrev dktX0_changed_1 : List UInt8 := dkwX0_changed_1 ++ []
def dkwX0_changed_0 : List UInt8 := [42, 180, 0, 24, 42, 180, 0, 15, 182, 0, 35, 42, 180, 0, 24, 182, 0, 39, 7, 164, 0, 11, 42]
abbrev dktX0_changed_0 : List UInt8 := dkwX0_changed_0 ++ dktX0_changed_1
theorem dksX0_changed_0 : cX0_changed.data.toList.drop 0 = dktX0_changed_0 := by decide +kernel
theorem dksX0_changed_1 : cX0_changed.data.toList.drop 23 = dktX0_changed_1 := dk_seg dksX0_changed_0 23 rfl rfl
theorem dX0_changed_0 : decode cX0_changed 0 = .ok (.aload_n 0, 1) := dk_42 (dk_at dksX0_changed_0 0 rfl rfl)
theorem dX0_changed_1 : decode cX0_changed 1 = .ok (.getfield 24, 3) := dk_180 0 24 (dk_at dksX0_changed_0 1 rfl rfl)
theorem dX0_changed_4 : decode cX0_changed 4 = .ok (.aload_n 0, 1) := dk_42 (dk_at dksX0_changed_0 4 rfl rfl)
theorem dX0_changed_5 : decode cX0_changed 5 = .ok (.getfield 15, 3) := dk_180 0 15 (dk_at dksX0_changed_0 5 rfl rfl)
theorem dX0_changed_8 : decode cX0_changed 8 = .ok (.invokevirtual 35, 3) := dk_182 0 35 (dk_at dksX0_changed_0 8 rfl rfl)
theorem dX0_changed_11 : decode cX0_changed 11 = .ok (.aload_n 0, 1) := dk_42 (dk_at dksX0_changed_0 11 rfl rfl)
theorem dX0_changed_12 : decode cX0_changed 12 = .ok (.getfield 24, 3) := dk_180 0 24 (dk_at dksX0_changed_0 12 rfl rfl)
theorem dX0_changed_15 : decode cX0_changed 15 = .ok (.invokevirtual 39, 3) := dk_182 0 39 (dk_at dksX0_changed_0 15 rfl rfl)
theorem dX0_changed_18 : decode cX0_changed 18 = .ok (.iconst 4, 1) := dk_7 (dk_at dksX0_changed_0 18 rfl rfl)
theorem dX0_changed_19 : decode cX0_changed 19 = .ok (.if_icmp .le 11, 3) := dk_164 0 11 (dk_at dksX0_changed_0 19 rfl rfl)
theorem dX0_changed_22 : decode cX0_changed 22 = .ok (.aload_n 0, 1) := dk_42 (dk_at dksX0_changed_0 22 rfl rfl)
theorem dX0_changed_23 : decode cX0_changed 23 = .ok (.getfield 24, 3) := dk_180 0 24 (dk_at dksX0_changed_1 0 rfl rfl)
theorem dX0_changed_26 : decode cX0_changed 26 = .ok (.invokevirtual 43, 3) := dk_182 0 43 (dk_at dksX0_changed_1 3 rfl rfl)
theorem dX0_changed_29 : decode cX0_changed 29 = .ok (.pop, 1) := dk_87 (dk_at dksX0_changed_1 6 rfl rfl)
theorem dX0_changed_30 : decode cX0_changed 30 = .ok (.aload_n 0, 1) := dk_42 (dk_at dksX0_changed_1 7 rfl rfl)
theorem dX0_changed_31 : decode cX0_changed 31 = .ok (.aload_n 1, 1) := dk_43 (dk_at dksX0_changed_1 8 rfl rfl)
theorem dX0_changed_32 : decode cX0_changed 32 = .ok (.putfield 15, 3) := dk_181 0 15 (dk_at dksX0_changed_1 9 rfl rfl)
theorem dX0_changed_35 : decode cX0_changed 35 = .ok (.iload_n 2, 1) := dk_28 (dk_at dksX0_changed_1 12 rfl rfl)
theorem dX0_changed_36 : decode cX0_changed 36 = .ok (.ireturn, 1) := dk_172 (dk_at dksX0_changed_1 13 rfl rfl)
abbrev cX0_cut : ByteArray := prog_1_method_9_code
def yX0_cut : MethodName := ⟨RX0, "cut", "(I)I"⟩
def dkwX0_cut_0 : List UInt8 := [42, 16, 120, 4, 188, 10, 89, 3, 27, 79, 182, 0, 115, 172]
abbrev dktX0_cut_0 : List UInt8 := dkwX0_cut_0 ++ []
theorem dksX0_cut_0 : cX0_cut.data.toList.drop 0 = dktX0_cut_0 := by decide +kernel
theorem dX0_cut_0 : decode cX0_cut 0 = .ok (.aload_n 0, 1) := dk_42 (dk_at dksX0_cut_0 0 rfl rfl)
theorem dX0_cut_1 : decode cX0_cut 1 = .ok (.bipush 120, 2) := dk_16 120 (dk_at dksX0_cut_0 1 rfl rfl)
theorem dX0_cut_3 : decode cX0_cut 3 = .ok (.iconst 1, 1) := dk_4 (dk_at dksX0_cut_0 3 rfl rfl)
theorem dX0_cut_4 : decode cX0_cut 4 = .ok (.newarray .int, 2) := dk_188_10 (dk_at dksX0_cut_0 4 rfl rfl)
theorem dX0_cut_6 : decode cX0_cut 6 = .ok (.dup, 1) := dk_89 (dk_at dksX0_cut_0 6 rfl rfl)
theorem dX0_cut_7 : decode cX0_cut 7 = .ok (.iconst 0, 1) := dk_3 (dk_at dksX0_cut_0 7 rfl rfl)
theorem dX0_cut_8 : decode cX0_cut 8 = .ok (.iload_n 1, 1) := dk_27 (dk_at dksX0_cut_0 8 rfl rfl)
theorem dX0_cut_9 : decode cX0_cut 9 = .ok (.iastore, 1) := dk_79 (dk_at dksX0_cut_0 9 rfl rfl)
theorem dX0_cut_10 : decode cX0_cut 10 = .ok (.invokevirtual 115, 3) := dk_182 0 115 (dk_at dksX0_cut_0 10 rfl rfl)
theorem dX0_cut_13 : decode cX0_cut 13 = .ok (.ireturn, 1) := dk_172 (dk_at dksX0_cut_0 13 rfl rfl)
abbrev cX0_act : ByteArray := prog_1_method_6_code
def yX0_act : MethodName := ⟨RX0, "act", "(C[I)I"⟩
def dkwX0_act_1 : List UInt8 := [58, 4, 25, 4, 180, 0, 84, 172]
abbrev dktX0_act_1 : List UInt8 := dkwX0_act_1 ++ []
def dkwX0_act_0 : List UInt8 := [187, 0, 12, 89, 42, 180, 0, 15, 183, 0, 73, 78, 42, 45, 45, 27, 44, 184, 0, 76, 182, 0, 80, 172]
abbrev dktX0_act_0 : List UInt8 := dkwX0_act_0 ++ dktX0_act_1
theorem dksX0_act_0 : cX0_act.data.toList.drop 0 = dktX0_act_0 := by decide +kernel
theorem dksX0_act_1 : cX0_act.data.toList.drop 24 = dktX0_act_1 := dk_seg dksX0_act_0 24 rfl rfl
theorem dX0_act_0 : decode cX0_act 0 = .ok (.new 12, 3) := dk_187 0 12 (dk_at dksX0_act_0 0 rfl rfl)
theorem dX0_act_3 : decode cX0_act 3 = .ok (.dup, 1) := dk_89 (dk_at dksX0_act_0 3 rfl rfl)
theorem dX0_act_4 : decode cX0_act 4 = .ok (.aload_n 0, 1) := dk_42 (dk_at dksX0_act_0 4 rfl rfl)
theorem dX0_act_5 : decode cX0_act 5 = .ok (.getfield 15, 3) := dk_180 0 15 (dk_at dksX0_act_0 5 rfl rfl)
theorem dX0_act_8 : decode cX0_act 8 = .ok (.invokespecial 73, 3) := dk_183 0 73 (dk_at dksX0_act_0 8 rfl rfl)
theorem dX0_act_11 : decode cX0_act 11 = .ok (.astore_n 3, 1) := dk_78 (dk_at dksX0_act_0 11 rfl rfl)
theorem dX0_act_12 : decode cX0_act 12 = .ok (.aload_n 0, 1) := dk_42 (dk_at dksX0_act_0 12 rfl rfl)
theorem dX0_act_13 : decode cX0_act 13 = .ok (.aload_n 3, 1) := dk_45 (dk_at dksX0_act_0 13 rfl rfl)
theorem dX0_act_14 : decode cX0_act 14 = .ok (.aload_n 3, 1) := dk_45 (dk_at dksX0_act_0 14 rfl rfl)
theorem dX0_act_15 : decode cX0_act 15 = .ok (.iload_n 1, 1) := dk_27 (dk_at dksX0_act_0 15 rfl rfl)
theorem dX0_act_16 : decode cX0_act 16 = .ok (.aload_n 2, 1) := dk_44 (dk_at dksX0_act_0 16 rfl rfl)
theorem dX0_act_17 : decode cX0_act 17 = .ok (.invokestatic 76, 3) := dk_184 0 76 (dk_at dksX0_act_0 17 rfl rfl)
theorem dX0_act_20 : decode cX0_act 20 = .ok (.invokevirtual 80, 3) := dk_182 0 80 (dk_at dksX0_act_0 20 rfl rfl)
theorem dX0_act_23 : decode cX0_act 23 = .ok (.ireturn, 1) := dk_172 (dk_at dksX0_act_0 23 rfl rfl)
theorem dX0_act_24 : decode cX0_act 24 = .ok (.astore 4, 2) := dk_58 4 (dk_at dksX0_act_1 0 rfl rfl)
theorem dX0_act_26 : decode cX0_act 26 = .ok (.aload 4, 2) := dk_25 4 (dk_at dksX0_act_1 2 rfl rfl)
theorem dX0_act_28 : decode cX0_act 28 = .ok (.getfield 84, 3) := dk_180 0 84 (dk_at dksX0_act_1 4 rfl rfl)
theorem dX0_act_31 : decode cX0_act 31 = .ok (.ireturn, 1) := dk_172 (dk_at dksX0_act_1 7 rfl rfl)
abbrev cX0_done : ByteArray := prog_1_method_5_code
def yX0_done : MethodName := ⟨RX0, "done", "(LHandBlinds$Blind;C[I)I"⟩
def dkwX0_done_4 : List UInt8 := [44, 3, 46, 182, 0, 64, 172, 42, 182, 0, 67, 172, 42, 44, 3, 46, 44, 4, 46, 182, 0, 70, 172]
abbrev dktX0_done_4 : List UInt8 := dkwX0_done_4 ++ []
def dkwX0_done_3 : List UInt8 := [182, 0, 55, 172, 42, 44, 3, 46, 44, 4, 46, 182, 0, 58, 172, 42, 44, 3, 46, 182, 0, 61, 172, 42]
abbrev dktX0_done_3 : List UInt8 := dkwX0_done_3 ++ dktX0_done_4
def dkwX0_done_2 : List UInt8 := [42, 44, 3, 46, 182, 0, 47, 172, 42, 44, 3, 46, 44, 4, 46, 182, 0, 51, 172, 42, 44, 3, 46]
abbrev dktX0_done_2 : List UInt8 := dkwX0_done_2 ++ dktX0_done_3
def dkwX0_done_1 : List UInt8 := [170, 0, 0, 0, 0, 0, 162, 0, 0, 0, 99, 0, 0, 0, 120, 0, 0, 0, 130, 0, 0, 0, 149, 0, 0, 0, 162, 0, 0, 0, 162, 0, 0, 0, 162, 0, 0, 0, 157, 0, 0, 0, 162, 0, 0, 0, 162, 0, 0, 0, 162, 0, 0, 0, 162, 0, 0, 0, 122, 0, 0, 0, 162, 0, 0, 0, 162, 0, 0, 0, 162, 0, 0, 0, 162, 0, 0, 0, 141, 0, 0, 0, 111, 0, 0, 0, 162, 0, 0, 0, 162, 0, 0, 0, 162, 0, 0, 0, 162, 0, 0, 0, 103]
abbrev dktX0_done_1 : List UInt8 := dkwX0_done_1 ++ dktX0_done_2
def dkwX0_done_0 : List UInt8 := [27]
abbrev dktX0_done_0 : List UInt8 := dkwX0_done_0 ++ dktX0_done_1
theorem dksX0_done_0 : cX0_done.data.toList.drop 0 = dktX0_done_0 := by decide +kernel
theorem dksX0_done_1 : cX0_done.data.toList.drop 1 = dktX0_done_1 := dk_seg dksX0_done_0 1 rfl rfl
theorem dksX0_done_2 : cX0_done.data.toList.drop 104 = dktX0_done_2 := dk_seg dksX0_done_1 103 rfl rfl
theorem dksX0_done_3 : cX0_done.data.toList.drop 127 = dktX0_done_3 := dk_seg dksX0_done_2 23 rfl rfl
theorem dksX0_done_4 : cX0_done.data.toList.drop 151 = dktX0_done_4 := dk_seg dksX0_done_3 24 rfl rfl
theorem dX0_done_0 : decode cX0_done 0 = .ok (.iload_n 1, 1) := dk_27 (dk_at dksX0_done_0 0 rfl rfl)
theorem dX0_done_1 : decode cX0_done 1 = .ok (.tableswitch 162 99 120 #[130, 149, 162, 162, 162, 157, 162, 162, 162, 162, 122, 162, 162, 162, 162, 141, 111, 162, 162, 162, 162, 103], 103) := by decide +kernel
theorem dX0_done_104 : decode cX0_done 104 = .ok (.aload_n 0, 1) := dk_42 (dk_at dksX0_done_2 0 rfl rfl)
theorem dX0_done_105 : decode cX0_done 105 = .ok (.aload_n 2, 1) := dk_44 (dk_at dksX0_done_2 1 rfl rfl)
theorem dX0_done_106 : decode cX0_done 106 = .ok (.iconst 0, 1) := dk_3 (dk_at dksX0_done_2 2 rfl rfl)
theorem dX0_done_107 : decode cX0_done 107 = .ok (.iaload, 1) := dk_46 (dk_at dksX0_done_2 3 rfl rfl)
theorem dX0_done_108 : decode cX0_done 108 = .ok (.invokevirtual 47, 3) := dk_182 0 47 (dk_at dksX0_done_2 4 rfl rfl)
theorem dX0_done_111 : decode cX0_done 111 = .ok (.ireturn, 1) := dk_172 (dk_at dksX0_done_2 7 rfl rfl)
theorem dX0_done_112 : decode cX0_done 112 = .ok (.aload_n 0, 1) := dk_42 (dk_at dksX0_done_2 8 rfl rfl)
theorem dX0_done_113 : decode cX0_done 113 = .ok (.aload_n 2, 1) := dk_44 (dk_at dksX0_done_2 9 rfl rfl)
theorem dX0_done_114 : decode cX0_done 114 = .ok (.iconst 0, 1) := dk_3 (dk_at dksX0_done_2 10 rfl rfl)
theorem dX0_done_115 : decode cX0_done 115 = .ok (.iaload, 1) := dk_46 (dk_at dksX0_done_2 11 rfl rfl)
theorem dX0_done_116 : decode cX0_done 116 = .ok (.aload_n 2, 1) := dk_44 (dk_at dksX0_done_2 12 rfl rfl)
theorem dX0_done_117 : decode cX0_done 117 = .ok (.iconst 1, 1) := dk_4 (dk_at dksX0_done_2 13 rfl rfl)
theorem dX0_done_118 : decode cX0_done 118 = .ok (.iaload, 1) := dk_46 (dk_at dksX0_done_2 14 rfl rfl)
theorem dX0_done_119 : decode cX0_done 119 = .ok (.invokevirtual 51, 3) := dk_182 0 51 (dk_at dksX0_done_2 15 rfl rfl)
theorem dX0_done_122 : decode cX0_done 122 = .ok (.ireturn, 1) := dk_172 (dk_at dksX0_done_2 18 rfl rfl)
theorem dX0_done_123 : decode cX0_done 123 = .ok (.aload_n 0, 1) := dk_42 (dk_at dksX0_done_2 19 rfl rfl)
theorem dX0_done_124 : decode cX0_done 124 = .ok (.aload_n 2, 1) := dk_44 (dk_at dksX0_done_2 20 rfl rfl)
theorem dX0_done_125 : decode cX0_done 125 = .ok (.iconst 0, 1) := dk_3 (dk_at dksX0_done_2 21 rfl rfl)
theorem dX0_done_126 : decode cX0_done 126 = .ok (.iaload, 1) := dk_46 (dk_at dksX0_done_2 22 rfl rfl)
theorem dX0_done_127 : decode cX0_done 127 = .ok (.invokevirtual 55, 3) := dk_182 0 55 (dk_at dksX0_done_3 0 rfl rfl)
theorem dX0_done_130 : decode cX0_done 130 = .ok (.ireturn, 1) := dk_172 (dk_at dksX0_done_3 3 rfl rfl)
theorem dX0_done_131 : decode cX0_done 131 = .ok (.aload_n 0, 1) := dk_42 (dk_at dksX0_done_3 4 rfl rfl)
theorem dX0_done_132 : decode cX0_done 132 = .ok (.aload_n 2, 1) := dk_44 (dk_at dksX0_done_3 5 rfl rfl)
theorem dX0_done_133 : decode cX0_done 133 = .ok (.iconst 0, 1) := dk_3 (dk_at dksX0_done_3 6 rfl rfl)
theorem dX0_done_134 : decode cX0_done 134 = .ok (.iaload, 1) := dk_46 (dk_at dksX0_done_3 7 rfl rfl)
theorem dX0_done_135 : decode cX0_done 135 = .ok (.aload_n 2, 1) := dk_44 (dk_at dksX0_done_3 8 rfl rfl)
theorem dX0_done_136 : decode cX0_done 136 = .ok (.iconst 1, 1) := dk_4 (dk_at dksX0_done_3 9 rfl rfl)
theorem dX0_done_137 : decode cX0_done 137 = .ok (.iaload, 1) := dk_46 (dk_at dksX0_done_3 10 rfl rfl)
theorem dX0_done_138 : decode cX0_done 138 = .ok (.invokevirtual 58, 3) := dk_182 0 58 (dk_at dksX0_done_3 11 rfl rfl)
theorem dX0_done_141 : decode cX0_done 141 = .ok (.ireturn, 1) := dk_172 (dk_at dksX0_done_3 14 rfl rfl)
theorem dX0_done_142 : decode cX0_done 142 = .ok (.aload_n 0, 1) := dk_42 (dk_at dksX0_done_3 15 rfl rfl)
theorem dX0_done_143 : decode cX0_done 143 = .ok (.aload_n 2, 1) := dk_44 (dk_at dksX0_done_3 16 rfl rfl)
theorem dX0_done_144 : decode cX0_done 144 = .ok (.iconst 0, 1) := dk_3 (dk_at dksX0_done_3 17 rfl rfl)
theorem dX0_done_145 : decode cX0_done 145 = .ok (.iaload, 1) := dk_46 (dk_at dksX0_done_3 18 rfl rfl)
theorem dX0_done_146 : decode cX0_done 146 = .ok (.invokevirtual 61, 3) := dk_182 0 61 (dk_at dksX0_done_3 19 rfl rfl)
theorem dX0_done_149 : decode cX0_done 149 = .ok (.ireturn, 1) := dk_172 (dk_at dksX0_done_3 22 rfl rfl)
theorem dX0_done_150 : decode cX0_done 150 = .ok (.aload_n 0, 1) := dk_42 (dk_at dksX0_done_3 23 rfl rfl)
theorem dX0_done_151 : decode cX0_done 151 = .ok (.aload_n 2, 1) := dk_44 (dk_at dksX0_done_4 0 rfl rfl)
theorem dX0_done_152 : decode cX0_done 152 = .ok (.iconst 0, 1) := dk_3 (dk_at dksX0_done_4 1 rfl rfl)
theorem dX0_done_153 : decode cX0_done 153 = .ok (.iaload, 1) := dk_46 (dk_at dksX0_done_4 2 rfl rfl)
theorem dX0_done_154 : decode cX0_done 154 = .ok (.invokevirtual 64, 3) := dk_182 0 64 (dk_at dksX0_done_4 3 rfl rfl)
theorem dX0_done_157 : decode cX0_done 157 = .ok (.ireturn, 1) := dk_172 (dk_at dksX0_done_4 6 rfl rfl)
theorem dX0_done_158 : decode cX0_done 158 = .ok (.aload_n 0, 1) := dk_42 (dk_at dksX0_done_4 7 rfl rfl)
theorem dX0_done_159 : decode cX0_done 159 = .ok (.invokevirtual 67, 3) := dk_182 0 67 (dk_at dksX0_done_4 8 rfl rfl)
theorem dX0_done_162 : decode cX0_done 162 = .ok (.ireturn, 1) := dk_172 (dk_at dksX0_done_4 11 rfl rfl)
theorem dX0_done_163 : decode cX0_done 163 = .ok (.aload_n 0, 1) := dk_42 (dk_at dksX0_done_4 12 rfl rfl)
theorem dX0_done_164 : decode cX0_done 164 = .ok (.aload_n 2, 1) := dk_44 (dk_at dksX0_done_4 13 rfl rfl)
theorem dX0_done_165 : decode cX0_done 165 = .ok (.iconst 0, 1) := dk_3 (dk_at dksX0_done_4 14 rfl rfl)
theorem dX0_done_166 : decode cX0_done 166 = .ok (.iaload, 1) := dk_46 (dk_at dksX0_done_4 15 rfl rfl)
theorem dX0_done_167 : decode cX0_done 167 = .ok (.aload_n 2, 1) := dk_44 (dk_at dksX0_done_4 16 rfl rfl)
theorem dX0_done_168 : decode cX0_done 168 = .ok (.iconst 1, 1) := dk_4 (dk_at dksX0_done_4 17 rfl rfl)
theorem dX0_done_169 : decode cX0_done 169 = .ok (.iaload, 1) := dk_46 (dk_at dksX0_done_4 18 rfl rfl)
theorem dX0_done_170 : decode cX0_done 170 = .ok (.invokevirtual 70, 3) := dk_182 0 70 (dk_at dksX0_done_4 19 rfl rfl)
theorem dX0_done_173 : decode cX0_done 173 = .ok (.ireturn, 1) := dk_172 (dk_at dksX0_done_4 22 rfl rfl)
abbrev cX0_need : ByteArray := prog_1_method_2_code
def yX0_need : MethodName := ⟨RX0, "need", "(ZI)V"⟩
def dkwX0_need_0 : List UInt8 := [26, 154, 0, 12, 187, 0, 1, 89, 27, 183, 0, 3, 191, 177]
abbrev dktX0_need_0 : List UInt8 := dkwX0_need_0 ++ []
theorem dksX0_need_0 : cX0_need.data.toList.drop 0 = dktX0_need_0 := by decide +kernel
theorem dX0_need_0 : decode cX0_need 0 = .ok (.iload_n 0, 1) := dk_26 (dk_at dksX0_need_0 0 rfl rfl)
theorem dX0_need_1 : decode cX0_need 1 = .ok (.ifCond .ne 12, 3) := dk_154 0 12 (dk_at dksX0_need_0 1 rfl rfl)
theorem dX0_need_4 : decode cX0_need 4 = .ok (.new 1, 3) := dk_187 0 1 (dk_at dksX0_need_0 4 rfl rfl)
theorem dX0_need_7 : decode cX0_need 7 = .ok (.dup, 1) := dk_89 (dk_at dksX0_need_0 7 rfl rfl)
theorem dX0_need_8 : decode cX0_need 8 = .ok (.iload_n 1, 1) := dk_27 (dk_at dksX0_need_0 8 rfl rfl)
theorem dX0_need_9 : decode cX0_need 9 = .ok (.invokespecial 3, 3) := dk_183 0 3 (dk_at dksX0_need_0 9 rfl rfl)
theorem dX0_need_12 : decode cX0_need 12 = .ok (.athrow, 1) := dk_191 (dk_at dksX0_need_0 12 rfl rfl)
theorem dX0_need_13 : decode cX0_need 13 = .ok (.return_, 1) := dk_177 (dk_at dksX0_need_0 13 rfl rfl)
abbrev cX0_swap : ByteArray := prog_1_method_10_code
def yX0_swap : MethodName := ⟨RX0, "swap", "(II)I"⟩
def dkwX0_swap_0 : List UInt8 := [42, 16, 115, 5, 188, 10, 89, 3, 27, 79, 89, 4, 28, 79, 182, 0, 115, 172]
abbrev dktX0_swap_0 : List UInt8 := dkwX0_swap_0 ++ []
theorem dksX0_swap_0 : cX0_swap.data.toList.drop 0 = dktX0_swap_0 := by decide +kernel
theorem dX0_swap_0 : decode cX0_swap 0 = .ok (.aload_n 0, 1) := dk_42 (dk_at dksX0_swap_0 0 rfl rfl)
theorem dX0_swap_1 : decode cX0_swap 1 = .ok (.bipush 115, 2) := dk_16 115 (dk_at dksX0_swap_0 1 rfl rfl)
theorem dX0_swap_3 : decode cX0_swap 3 = .ok (.iconst 2, 1) := dk_5 (dk_at dksX0_swap_0 3 rfl rfl)
theorem dX0_swap_4 : decode cX0_swap 4 = .ok (.newarray .int, 2) := dk_188_10 (dk_at dksX0_swap_0 4 rfl rfl)
theorem dX0_swap_6 : decode cX0_swap 6 = .ok (.dup, 1) := dk_89 (dk_at dksX0_swap_0 6 rfl rfl)
theorem dX0_swap_7 : decode cX0_swap 7 = .ok (.iconst 0, 1) := dk_3 (dk_at dksX0_swap_0 7 rfl rfl)
theorem dX0_swap_8 : decode cX0_swap 8 = .ok (.iload_n 1, 1) := dk_27 (dk_at dksX0_swap_0 8 rfl rfl)
theorem dX0_swap_9 : decode cX0_swap 9 = .ok (.iastore, 1) := dk_79 (dk_at dksX0_swap_0 9 rfl rfl)
theorem dX0_swap_10 : decode cX0_swap 10 = .ok (.dup, 1) := dk_89 (dk_at dksX0_swap_0 10 rfl rfl)
theorem dX0_swap_11 : decode cX0_swap 11 = .ok (.iconst 1, 1) := dk_4 (dk_at dksX0_swap_0 11 rfl rfl)
theorem dX0_swap_12 : decode cX0_swap 12 = .ok (.iload_n 2, 1) := dk_28 (dk_at dksX0_swap_0 12 rfl rfl)
theorem dX0_swap_13 : decode cX0_swap 13 = .ok (.iastore, 1) := dk_79 (dk_at dksX0_swap_0 13 rfl rfl)
theorem dX0_swap_14 : decode cX0_swap 14 = .ok (.invokevirtual 115, 3) := dk_182 0 115 (dk_at dksX0_swap_0 14 rfl rfl)
theorem dX0_swap_17 : decode cX0_swap 17 = .ok (.ireturn, 1) := dk_172 (dk_at dksX0_swap_0 17 rfl rfl)
abbrev cX0_mend : ByteArray := prog_1_method_11_code
def yX0_mend : MethodName := ⟨RX0, "mend", "(I)I"⟩
def dkwX0_mend_0 : List UInt8 := [42, 16, 109, 4, 188, 10, 89, 3, 27, 79, 182, 0, 115, 172]
abbrev dktX0_mend_0 : List UInt8 := dkwX0_mend_0 ++ []
theorem dksX0_mend_0 : cX0_mend.data.toList.drop 0 = dktX0_mend_0 := by decide +kernel
theorem dX0_mend_0 : decode cX0_mend 0 = .ok (.aload_n 0, 1) := dk_42 (dk_at dksX0_mend_0 0 rfl rfl)
theorem dX0_mend_1 : decode cX0_mend 1 = .ok (.bipush 109, 2) := dk_16 109 (dk_at dksX0_mend_0 1 rfl rfl)
theorem dX0_mend_3 : decode cX0_mend 3 = .ok (.iconst 1, 1) := dk_4 (dk_at dksX0_mend_0 3 rfl rfl)
theorem dX0_mend_4 : decode cX0_mend 4 = .ok (.newarray .int, 2) := dk_188_10 (dk_at dksX0_mend_0 4 rfl rfl)
theorem dX0_mend_6 : decode cX0_mend 6 = .ok (.dup, 1) := dk_89 (dk_at dksX0_mend_0 6 rfl rfl)
theorem dX0_mend_7 : decode cX0_mend 7 = .ok (.iconst 0, 1) := dk_3 (dk_at dksX0_mend_0 7 rfl rfl)
theorem dX0_mend_8 : decode cX0_mend 8 = .ok (.iload_n 1, 1) := dk_27 (dk_at dksX0_mend_0 8 rfl rfl)
theorem dX0_mend_9 : decode cX0_mend 9 = .ok (.iastore, 1) := dk_79 (dk_at dksX0_mend_0 9 rfl rfl)
theorem dX0_mend_10 : decode cX0_mend 10 = .ok (.invokevirtual 115, 3) := dk_182 0 115 (dk_at dksX0_mend_0 10 rfl rfl)
theorem dX0_mend_13 : decode cX0_mend 13 = .ok (.ireturn, 1) := dk_172 (dk_at dksX0_mend_0 13 rfl rfl)
abbrev cX0_crank : ByteArray := prog_1_method_12_code
def yX0_crank : MethodName := ⟨RX0, "crank", "(II)I"⟩
def dkwX0_crank_0 : List UInt8 := [42, 16, 99, 5, 188, 10, 89, 3, 27, 79, 89, 4, 28, 79, 182, 0, 115, 172]
abbrev dktX0_crank_0 : List UInt8 := dkwX0_crank_0 ++ []
theorem dksX0_crank_0 : cX0_crank.data.toList.drop 0 = dktX0_crank_0 := by decide +kernel
theorem dX0_crank_0 : decode cX0_crank 0 = .ok (.aload_n 0, 1) := dk_42 (dk_at dksX0_crank_0 0 rfl rfl)
theorem dX0_crank_1 : decode cX0_crank 1 = .ok (.bipush 99, 2) := dk_16 99 (dk_at dksX0_crank_0 1 rfl rfl)
theorem dX0_crank_3 : decode cX0_crank 3 = .ok (.iconst 2, 1) := dk_5 (dk_at dksX0_crank_0 3 rfl rfl)
theorem dX0_crank_4 : decode cX0_crank 4 = .ok (.newarray .int, 2) := dk_188_10 (dk_at dksX0_crank_0 4 rfl rfl)
theorem dX0_crank_6 : decode cX0_crank 6 = .ok (.dup, 1) := dk_89 (dk_at dksX0_crank_0 6 rfl rfl)
theorem dX0_crank_7 : decode cX0_crank 7 = .ok (.iconst 0, 1) := dk_3 (dk_at dksX0_crank_0 7 rfl rfl)
theorem dX0_crank_8 : decode cX0_crank 8 = .ok (.iload_n 1, 1) := dk_27 (dk_at dksX0_crank_0 8 rfl rfl)
theorem dX0_crank_9 : decode cX0_crank 9 = .ok (.iastore, 1) := dk_79 (dk_at dksX0_crank_0 9 rfl rfl)
theorem dX0_crank_10 : decode cX0_crank 10 = .ok (.dup, 1) := dk_89 (dk_at dksX0_crank_0 10 rfl rfl)
theorem dX0_crank_11 : decode cX0_crank 11 = .ok (.iconst 1, 1) := dk_4 (dk_at dksX0_crank_0 11 rfl rfl)
theorem dX0_crank_12 : decode cX0_crank 12 = .ok (.iload_n 2, 1) := dk_28 (dk_at dksX0_crank_0 12 rfl rfl)
theorem dX0_crank_13 : decode cX0_crank 13 = .ok (.iastore, 1) := dk_79 (dk_at dksX0_crank_0 13 rfl rfl)
theorem dX0_crank_14 : decode cX0_crank 14 = .ok (.invokevirtual 115, 3) := dk_182 0 115 (dk_at dksX0_crank_0 14 rfl rfl)
theorem dX0_crank_17 : decode cX0_crank 17 = .ok (.ireturn, 1) := dk_172 (dk_at dksX0_crank_0 17 rfl rfl)
abbrev cX0_route : ByteArray := prog_1_method_13_code
def yX0_route : MethodName := ⟨RX0, "route", "(I)I"⟩
def dkwX0_route_0 : List UInt8 := [42, 16, 114, 4, 188, 10, 89, 3, 27, 79, 182, 0, 115, 172]
abbrev dktX0_route_0 : List UInt8 := dkwX0_route_0 ++ []
theorem dksX0_route_0 : cX0_route.data.toList.drop 0 = dktX0_route_0 := by decide +kernel
theorem dX0_route_0 : decode cX0_route 0 = .ok (.aload_n 0, 1) := dk_42 (dk_at dksX0_route_0 0 rfl rfl)
theorem dX0_route_1 : decode cX0_route 1 = .ok (.bipush 114, 2) := dk_16 114 (dk_at dksX0_route_0 1 rfl rfl)
theorem dX0_route_3 : decode cX0_route 3 = .ok (.iconst 1, 1) := dk_4 (dk_at dksX0_route_0 3 rfl rfl)
theorem dX0_route_4 : decode cX0_route 4 = .ok (.newarray .int, 2) := dk_188_10 (dk_at dksX0_route_0 4 rfl rfl)
theorem dX0_route_6 : decode cX0_route 6 = .ok (.dup, 1) := dk_89 (dk_at dksX0_route_0 6 rfl rfl)
theorem dX0_route_7 : decode cX0_route 7 = .ok (.iconst 0, 1) := dk_3 (dk_at dksX0_route_0 7 rfl rfl)
theorem dX0_route_8 : decode cX0_route 8 = .ok (.iload_n 1, 1) := dk_27 (dk_at dksX0_route_0 8 rfl rfl)
theorem dX0_route_9 : decode cX0_route 9 = .ok (.iastore, 1) := dk_79 (dk_at dksX0_route_0 9 rfl rfl)
theorem dX0_route_10 : decode cX0_route 10 = .ok (.invokevirtual 115, 3) := dk_182 0 115 (dk_at dksX0_route_0 10 rfl rfl)
theorem dX0_route_13 : decode cX0_route 13 = .ok (.ireturn, 1) := dk_172 (dk_at dksX0_route_0 13 rfl rfl)
abbrev cX0_drive : ByteArray := prog_1_method_14_code
def yX0_drive : MethodName := ⟨RX0, "drive", "(I)I"⟩
def dkwX0_drive_0 : List UInt8 := [42, 16, 100, 4, 188, 10, 89, 3, 27, 79, 182, 0, 115, 172]
abbrev dktX0_drive_0 : List UInt8 := dkwX0_drive_0 ++ []
theorem dksX0_drive_0 : cX0_drive.data.toList.drop 0 = dktX0_drive_0 := by decide +kernel
theorem dX0_drive_0 : decode cX0_drive 0 = .ok (.aload_n 0, 1) := dk_42 (dk_at dksX0_drive_0 0 rfl rfl)
theorem dX0_drive_1 : decode cX0_drive 1 = .ok (.bipush 100, 2) := dk_16 100 (dk_at dksX0_drive_0 1 rfl rfl)
theorem dX0_drive_3 : decode cX0_drive 3 = .ok (.iconst 1, 1) := dk_4 (dk_at dksX0_drive_0 3 rfl rfl)
theorem dX0_drive_4 : decode cX0_drive 4 = .ok (.newarray .int, 2) := dk_188_10 (dk_at dksX0_drive_0 4 rfl rfl)
theorem dX0_drive_6 : decode cX0_drive 6 = .ok (.dup, 1) := dk_89 (dk_at dksX0_drive_0 6 rfl rfl)
theorem dX0_drive_7 : decode cX0_drive 7 = .ok (.iconst 0, 1) := dk_3 (dk_at dksX0_drive_0 7 rfl rfl)
theorem dX0_drive_8 : decode cX0_drive 8 = .ok (.iload_n 1, 1) := dk_27 (dk_at dksX0_drive_0 8 rfl rfl)
theorem dX0_drive_9 : decode cX0_drive 9 = .ok (.iastore, 1) := dk_79 (dk_at dksX0_drive_0 9 rfl rfl)
theorem dX0_drive_10 : decode cX0_drive 10 = .ok (.invokevirtual 115, 3) := dk_182 0 115 (dk_at dksX0_drive_0 10 rfl rfl)
theorem dX0_drive_13 : decode cX0_drive 13 = .ok (.ireturn, 1) := dk_172 (dk_at dksX0_drive_0 13 rfl rfl)
abbrev cX0_stop : ByteArray := prog_1_method_15_code
def yX0_stop : MethodName := ⟨RX0, "stop", "()I"⟩
def dkwX0_stop_0 : List UInt8 := [42, 16, 104, 3, 188, 10, 182, 0, 115, 172]
abbrev dktX0_stop_0 : List UInt8 := dkwX0_stop_0 ++ []
theorem dksX0_stop_0 : cX0_stop.data.toList.drop 0 = dktX0_stop_0 := by decide +kernel
theorem dX0_stop_0 : decode cX0_stop 0 = .ok (.aload_n 0, 1) := dk_42 (dk_at dksX0_stop_0 0 rfl rfl)
theorem dX0_stop_1 : decode cX0_stop 1 = .ok (.bipush 104, 2) := dk_16 104 (dk_at dksX0_stop_0 1 rfl rfl)
theorem dX0_stop_3 : decode cX0_stop 3 = .ok (.iconst 0, 1) := dk_3 (dk_at dksX0_stop_0 3 rfl rfl)
theorem dX0_stop_4 : decode cX0_stop 4 = .ok (.newarray .int, 2) := dk_188_10 (dk_at dksX0_stop_0 4 rfl rfl)
theorem dX0_stop_6 : decode cX0_stop 6 = .ok (.invokevirtual 115, 3) := dk_182 0 115 (dk_at dksX0_stop_0 6 rfl rfl)
theorem dX0_stop_9 : decode cX0_stop 9 = .ok (.ireturn, 1) := dk_172 (dk_at dksX0_stop_0 9 rfl rfl)
abbrev cX0_set : ByteArray := prog_1_method_16_code
def yX0_set : MethodName := ⟨RX0, "set", "(II)I"⟩
def dkwX0_set_0 : List UInt8 := [42, 16, 122, 5, 188, 10, 89, 3, 27, 79, 89, 4, 28, 79, 182, 0, 115, 172]
abbrev dktX0_set_0 : List UInt8 := dkwX0_set_0 ++ []
theorem dksX0_set_0 : cX0_set.data.toList.drop 0 = dktX0_set_0 := by decide +kernel
theorem dX0_set_0 : decode cX0_set 0 = .ok (.aload_n 0, 1) := dk_42 (dk_at dksX0_set_0 0 rfl rfl)
theorem dX0_set_1 : decode cX0_set 1 = .ok (.bipush 122, 2) := dk_16 122 (dk_at dksX0_set_0 1 rfl rfl)
theorem dX0_set_3 : decode cX0_set 3 = .ok (.iconst 2, 1) := dk_5 (dk_at dksX0_set_0 3 rfl rfl)
theorem dX0_set_4 : decode cX0_set 4 = .ok (.newarray .int, 2) := dk_188_10 (dk_at dksX0_set_0 4 rfl rfl)
theorem dX0_set_6 : decode cX0_set 6 = .ok (.dup, 1) := dk_89 (dk_at dksX0_set_0 6 rfl rfl)
theorem dX0_set_7 : decode cX0_set 7 = .ok (.iconst 0, 1) := dk_3 (dk_at dksX0_set_0 7 rfl rfl)
theorem dX0_set_8 : decode cX0_set 8 = .ok (.iload_n 1, 1) := dk_27 (dk_at dksX0_set_0 8 rfl rfl)
theorem dX0_set_9 : decode cX0_set 9 = .ok (.iastore, 1) := dk_79 (dk_at dksX0_set_0 9 rfl rfl)
theorem dX0_set_10 : decode cX0_set 10 = .ok (.dup, 1) := dk_89 (dk_at dksX0_set_0 10 rfl rfl)
theorem dX0_set_11 : decode cX0_set 11 = .ok (.iconst 1, 1) := dk_4 (dk_at dksX0_set_0 11 rfl rfl)
theorem dX0_set_12 : decode cX0_set 12 = .ok (.iload_n 2, 1) := dk_28 (dk_at dksX0_set_0 12 rfl rfl)
theorem dX0_set_13 : decode cX0_set 13 = .ok (.iastore, 1) := dk_79 (dk_at dksX0_set_0 13 rfl rfl)
theorem dX0_set_14 : decode cX0_set 14 = .ok (.invokevirtual 115, 3) := dk_182 0 115 (dk_at dksX0_set_0 14 rfl rfl)
theorem dX0_set_17 : decode cX0_set 17 = .ok (.ireturn, 1) := dk_172 (dk_at dksX0_set_0 17 rfl rfl)
abbrev cX0_rowOf : ByteArray := prog_1_method_18_code
def yX0_rowOf : MethodName := ⟨RX0, "rowOf", "(II)I"⟩
def dkwX0_rowOf_6 : List UInt8 := [167, 0, 4, 3, 172]
abbrev dktX0_rowOf_6 : List UInt8 := dkwX0_rowOf_6 ++ []
def dkwX0_rowOf_5 : List UInt8 := [167, 0, 4, 3, 172, 42, 27, 182, 0, 181, 172, 27, 42, 180, 0, 15, 180, 0, 184, 160, 0, 7, 4]
abbrev dktX0_rowOf_5 : List UInt8 := dkwX0_rowOf_5 ++ dktX0_rowOf_6
def dkwX0_rowOf_4 : List UInt8 := [182, 0, 168, 172, 45, 182, 0, 171, 172, 45, 180, 0, 174, 172, 45, 180, 0, 177, 153, 0, 7, 4]
abbrev dktX0_rowOf_4 : List UInt8 := dkwX0_rowOf_4 ++ dktX0_rowOf_5
def dkwX0_rowOf_3 : List UInt8 := [45, 182, 0, 155, 182, 0, 158, 172, 45, 182, 0, 161, 172, 45, 42, 180, 0, 15, 180, 0, 164, 3, 46]
abbrev dktX0_rowOf_3 : List UInt8 := dkwX0_rowOf_3 ++ dktX0_rowOf_4
def dkwX0_rowOf_2 : List UInt8 := [170, 0, 0, 0, 0, 98, 0, 0, 0, 0, 0, 0, 0, 6, 0, 0, 0, 42, 0, 0, 0, 50, 0, 0, 0, 55, 0, 0, 0, 69, 0, 0, 0, 74, 0, 0, 0, 79, 0, 0, 0, 92]
abbrev dktX0_rowOf_2 : List UInt8 := dkwX0_rowOf_2 ++ dktX0_rowOf_3
def dkwX0_rowOf_1 : List UInt8 := [18, 150, 172, 42, 180, 0, 15, 180, 0, 151, 27, 182, 0, 126, 192, 0, 153, 78, 28]
abbrev dktX0_rowOf_1 : List UInt8 := dkwX0_rowOf_1 ++ dktX0_rowOf_2
def dkwX0_rowOf_0 : List UInt8 := [42, 180, 0, 15, 27, 182, 0, 141, 153, 0, 15, 28, 133, 9, 20, 0, 144, 184, 0, 146, 154, 0, 6]
abbrev dktX0_rowOf_0 : List UInt8 := dkwX0_rowOf_0 ++ dktX0_rowOf_1
theorem dksX0_rowOf_0 : cX0_rowOf.data.toList.drop 0 = dktX0_rowOf_0 := by decide +kernel
theorem dksX0_rowOf_1 : cX0_rowOf.data.toList.drop 23 = dktX0_rowOf_1 := dk_seg dksX0_rowOf_0 23 rfl rfl
theorem dksX0_rowOf_2 : cX0_rowOf.data.toList.drop 42 = dktX0_rowOf_2 := dk_seg dksX0_rowOf_1 19 rfl rfl
theorem dksX0_rowOf_3 : cX0_rowOf.data.toList.drop 84 = dktX0_rowOf_3 := dk_seg dksX0_rowOf_2 42 rfl rfl
theorem dksX0_rowOf_4 : cX0_rowOf.data.toList.drop 107 = dktX0_rowOf_4 := dk_seg dksX0_rowOf_3 23 rfl rfl
theorem dksX0_rowOf_5 : cX0_rowOf.data.toList.drop 129 = dktX0_rowOf_5 := dk_seg dksX0_rowOf_4 22 rfl rfl
theorem dksX0_rowOf_6 : cX0_rowOf.data.toList.drop 152 = dktX0_rowOf_6 := dk_seg dksX0_rowOf_5 23 rfl rfl
theorem dX0_rowOf_0 : decode cX0_rowOf 0 = .ok (.aload_n 0, 1) := dk_42 (dk_at dksX0_rowOf_0 0 rfl rfl)
theorem dX0_rowOf_1 : decode cX0_rowOf 1 = .ok (.getfield 15, 3) := dk_180 0 15 (dk_at dksX0_rowOf_0 1 rfl rfl)
theorem dX0_rowOf_4 : decode cX0_rowOf 4 = .ok (.iload_n 1, 1) := dk_27 (dk_at dksX0_rowOf_0 4 rfl rfl)
theorem dX0_rowOf_5 : decode cX0_rowOf 5 = .ok (.invokevirtual 141, 3) := dk_182 0 141 (dk_at dksX0_rowOf_0 5 rfl rfl)
theorem dX0_rowOf_8 : decode cX0_rowOf 8 = .ok (.ifCond .eq 15, 3) := dk_153 0 15 (dk_at dksX0_rowOf_0 8 rfl rfl)
theorem dX0_rowOf_11 : decode cX0_rowOf 11 = .ok (.iload_n 2, 1) := dk_28 (dk_at dksX0_rowOf_0 11 rfl rfl)
theorem dX0_rowOf_12 : decode cX0_rowOf 12 = .ok (.i2l, 1) := dk_133 (dk_at dksX0_rowOf_0 12 rfl rfl)
theorem dX0_rowOf_13 : decode cX0_rowOf 13 = .ok (.lconst 0, 1) := dk_9 (dk_at dksX0_rowOf_0 13 rfl rfl)
theorem dX0_rowOf_14 : decode cX0_rowOf 14 = .ok (.ldc2_w 144, 3) := dk_20 0 144 (dk_at dksX0_rowOf_0 14 rfl rfl)
theorem dX0_rowOf_17 : decode cX0_rowOf 17 = .ok (.invokestatic 146, 3) := dk_184 0 146 (dk_at dksX0_rowOf_0 17 rfl rfl)
theorem dX0_rowOf_20 : decode cX0_rowOf 20 = .ok (.ifCond .ne 6, 3) := dk_154 0 6 (dk_at dksX0_rowOf_0 20 rfl rfl)
theorem dX0_rowOf_23 : decode cX0_rowOf 23 = .ok (.ldc 150, 2) := dk_18 150 (dk_at dksX0_rowOf_1 0 rfl rfl)
theorem dX0_rowOf_25 : decode cX0_rowOf 25 = .ok (.ireturn, 1) := dk_172 (dk_at dksX0_rowOf_1 2 rfl rfl)
theorem dX0_rowOf_26 : decode cX0_rowOf 26 = .ok (.aload_n 0, 1) := dk_42 (dk_at dksX0_rowOf_1 3 rfl rfl)
theorem dX0_rowOf_27 : decode cX0_rowOf 27 = .ok (.getfield 15, 3) := dk_180 0 15 (dk_at dksX0_rowOf_1 4 rfl rfl)
theorem dX0_rowOf_30 : decode cX0_rowOf 30 = .ok (.getfield 151, 3) := dk_180 0 151 (dk_at dksX0_rowOf_1 7 rfl rfl)
theorem dX0_rowOf_33 : decode cX0_rowOf 33 = .ok (.iload_n 1, 1) := dk_27 (dk_at dksX0_rowOf_1 10 rfl rfl)
theorem dX0_rowOf_34 : decode cX0_rowOf 34 = .ok (.invokevirtual 126, 3) := dk_182 0 126 (dk_at dksX0_rowOf_1 11 rfl rfl)
theorem dX0_rowOf_37 : decode cX0_rowOf 37 = .ok (.checkcast 153, 3) := dk_192 0 153 (dk_at dksX0_rowOf_1 14 rfl rfl)
theorem dX0_rowOf_40 : decode cX0_rowOf 40 = .ok (.astore_n 3, 1) := dk_78 (dk_at dksX0_rowOf_1 17 rfl rfl)
theorem dX0_rowOf_41 : decode cX0_rowOf 41 = .ok (.iload_n 2, 1) := dk_28 (dk_at dksX0_rowOf_1 18 rfl rfl)
theorem dX0_rowOf_42 : decode cX0_rowOf 42 = .ok (.tableswitch 98 0 6 #[42, 50, 55, 69, 74, 79, 92], 42) := by decide +kernel
theorem dX0_rowOf_84 : decode cX0_rowOf 84 = .ok (.aload_n 3, 1) := dk_45 (dk_at dksX0_rowOf_3 0 rfl rfl)
theorem dX0_rowOf_85 : decode cX0_rowOf 85 = .ok (.invokevirtual 155, 3) := dk_182 0 155 (dk_at dksX0_rowOf_3 1 rfl rfl)
theorem dX0_rowOf_88 : decode cX0_rowOf 88 = .ok (.invokevirtual 158, 3) := dk_182 0 158 (dk_at dksX0_rowOf_3 4 rfl rfl)
theorem dX0_rowOf_91 : decode cX0_rowOf 91 = .ok (.ireturn, 1) := dk_172 (dk_at dksX0_rowOf_3 7 rfl rfl)
theorem dX0_rowOf_92 : decode cX0_rowOf 92 = .ok (.aload_n 3, 1) := dk_45 (dk_at dksX0_rowOf_3 8 rfl rfl)
theorem dX0_rowOf_93 : decode cX0_rowOf 93 = .ok (.invokevirtual 161, 3) := dk_182 0 161 (dk_at dksX0_rowOf_3 9 rfl rfl)
theorem dX0_rowOf_96 : decode cX0_rowOf 96 = .ok (.ireturn, 1) := dk_172 (dk_at dksX0_rowOf_3 12 rfl rfl)
theorem dX0_rowOf_97 : decode cX0_rowOf 97 = .ok (.aload_n 3, 1) := dk_45 (dk_at dksX0_rowOf_3 13 rfl rfl)
theorem dX0_rowOf_98 : decode cX0_rowOf 98 = .ok (.aload_n 0, 1) := dk_42 (dk_at dksX0_rowOf_3 14 rfl rfl)
theorem dX0_rowOf_99 : decode cX0_rowOf 99 = .ok (.getfield 15, 3) := dk_180 0 15 (dk_at dksX0_rowOf_3 15 rfl rfl)
theorem dX0_rowOf_102 : decode cX0_rowOf 102 = .ok (.getfield 164, 3) := dk_180 0 164 (dk_at dksX0_rowOf_3 18 rfl rfl)
theorem dX0_rowOf_105 : decode cX0_rowOf 105 = .ok (.iconst 0, 1) := dk_3 (dk_at dksX0_rowOf_3 21 rfl rfl)
theorem dX0_rowOf_106 : decode cX0_rowOf 106 = .ok (.iaload, 1) := dk_46 (dk_at dksX0_rowOf_3 22 rfl rfl)
theorem dX0_rowOf_107 : decode cX0_rowOf 107 = .ok (.invokevirtual 168, 3) := dk_182 0 168 (dk_at dksX0_rowOf_4 0 rfl rfl)
theorem dX0_rowOf_110 : decode cX0_rowOf 110 = .ok (.ireturn, 1) := dk_172 (dk_at dksX0_rowOf_4 3 rfl rfl)
theorem dX0_rowOf_111 : decode cX0_rowOf 111 = .ok (.aload_n 3, 1) := dk_45 (dk_at dksX0_rowOf_4 4 rfl rfl)
theorem dX0_rowOf_112 : decode cX0_rowOf 112 = .ok (.invokevirtual 171, 3) := dk_182 0 171 (dk_at dksX0_rowOf_4 5 rfl rfl)
theorem dX0_rowOf_115 : decode cX0_rowOf 115 = .ok (.ireturn, 1) := dk_172 (dk_at dksX0_rowOf_4 8 rfl rfl)
theorem dX0_rowOf_116 : decode cX0_rowOf 116 = .ok (.aload_n 3, 1) := dk_45 (dk_at dksX0_rowOf_4 9 rfl rfl)
theorem dX0_rowOf_117 : decode cX0_rowOf 117 = .ok (.getfield 174, 3) := dk_180 0 174 (dk_at dksX0_rowOf_4 10 rfl rfl)
theorem dX0_rowOf_120 : decode cX0_rowOf 120 = .ok (.ireturn, 1) := dk_172 (dk_at dksX0_rowOf_4 13 rfl rfl)
theorem dX0_rowOf_121 : decode cX0_rowOf 121 = .ok (.aload_n 3, 1) := dk_45 (dk_at dksX0_rowOf_4 14 rfl rfl)
theorem dX0_rowOf_122 : decode cX0_rowOf 122 = .ok (.getfield 177, 3) := dk_180 0 177 (dk_at dksX0_rowOf_4 15 rfl rfl)
theorem dX0_rowOf_125 : decode cX0_rowOf 125 = .ok (.ifCond .eq 7, 3) := dk_153 0 7 (dk_at dksX0_rowOf_4 18 rfl rfl)
theorem dX0_rowOf_128 : decode cX0_rowOf 128 = .ok (.iconst 1, 1) := dk_4 (dk_at dksX0_rowOf_4 21 rfl rfl)
theorem dX0_rowOf_129 : decode cX0_rowOf 129 = .ok (.goto 4, 3) := dk_167 0 4 (dk_at dksX0_rowOf_5 0 rfl rfl)
theorem dX0_rowOf_132 : decode cX0_rowOf 132 = .ok (.iconst 0, 1) := dk_3 (dk_at dksX0_rowOf_5 3 rfl rfl)
theorem dX0_rowOf_133 : decode cX0_rowOf 133 = .ok (.ireturn, 1) := dk_172 (dk_at dksX0_rowOf_5 4 rfl rfl)
theorem dX0_rowOf_134 : decode cX0_rowOf 134 = .ok (.aload_n 0, 1) := dk_42 (dk_at dksX0_rowOf_5 5 rfl rfl)
theorem dX0_rowOf_135 : decode cX0_rowOf 135 = .ok (.iload_n 1, 1) := dk_27 (dk_at dksX0_rowOf_5 6 rfl rfl)
theorem dX0_rowOf_136 : decode cX0_rowOf 136 = .ok (.invokevirtual 181, 3) := dk_182 0 181 (dk_at dksX0_rowOf_5 7 rfl rfl)
theorem dX0_rowOf_139 : decode cX0_rowOf 139 = .ok (.ireturn, 1) := dk_172 (dk_at dksX0_rowOf_5 10 rfl rfl)
theorem dX0_rowOf_140 : decode cX0_rowOf 140 = .ok (.iload_n 1, 1) := dk_27 (dk_at dksX0_rowOf_5 11 rfl rfl)
theorem dX0_rowOf_141 : decode cX0_rowOf 141 = .ok (.aload_n 0, 1) := dk_42 (dk_at dksX0_rowOf_5 12 rfl rfl)
theorem dX0_rowOf_142 : decode cX0_rowOf 142 = .ok (.getfield 15, 3) := dk_180 0 15 (dk_at dksX0_rowOf_5 13 rfl rfl)
theorem dX0_rowOf_145 : decode cX0_rowOf 145 = .ok (.getfield 184, 3) := dk_180 0 184 (dk_at dksX0_rowOf_5 16 rfl rfl)
theorem dX0_rowOf_148 : decode cX0_rowOf 148 = .ok (.if_icmp .ne 7, 3) := dk_160 0 7 (dk_at dksX0_rowOf_5 19 rfl rfl)
theorem dX0_rowOf_151 : decode cX0_rowOf 151 = .ok (.iconst 1, 1) := dk_4 (dk_at dksX0_rowOf_5 22 rfl rfl)
theorem dX0_rowOf_152 : decode cX0_rowOf 152 = .ok (.goto 4, 3) := dk_167 0 4 (dk_at dksX0_rowOf_6 0 rfl rfl)
theorem dX0_rowOf_155 : decode cX0_rowOf 155 = .ok (.iconst 0, 1) := dk_3 (dk_at dksX0_rowOf_6 3 rfl rfl)
theorem dX0_rowOf_156 : decode cX0_rowOf 156 = .ok (.ireturn, 1) := dk_172 (dk_at dksX0_rowOf_6 4 rfl rfl)
abbrev cX0_routesOf : ByteArray := prog_1_method_17_code
def yX0_routesOf : MethodName := ⟨RX0, "routesOf", "(I)I"⟩
def dkwX0_routesOf_2 : List UInt8 := [167, 0, 4, 3, 128, 61, 132, 3, 1, 167, 255, 205, 28, 172]
abbrev dktX0_routesOf_2 : List UInt8 := dkwX0_routesOf_2 ++ []
def dkwX0_routesOf_1 : List UInt8 := [180, 0, 119, 29, 182, 0, 126, 192, 0, 130, 180, 0, 132, 27, 182, 0, 136, 153, 0, 9, 4, 29, 120]
abbrev dktX0_routesOf_1 : List UInt8 := dkwX0_routesOf_1 ++ dktX0_routesOf_2
def dkwX0_routesOf_0 : List UInt8 := [3, 61, 3, 62, 29, 42, 180, 0, 15, 180, 0, 119, 182, 0, 123, 162, 0, 43, 28, 42, 180, 0, 15]
abbrev dktX0_routesOf_0 : List UInt8 := dkwX0_routesOf_0 ++ dktX0_routesOf_1
theorem dksX0_routesOf_0 : cX0_routesOf.data.toList.drop 0 = dktX0_routesOf_0 := by decide +kernel
theorem dksX0_routesOf_1 : cX0_routesOf.data.toList.drop 23 = dktX0_routesOf_1 := dk_seg dksX0_routesOf_0 23 rfl rfl
theorem dksX0_routesOf_2 : cX0_routesOf.data.toList.drop 46 = dktX0_routesOf_2 := dk_seg dksX0_routesOf_1 23 rfl rfl
theorem dX0_routesOf_0 : decode cX0_routesOf 0 = .ok (.iconst 0, 1) := dk_3 (dk_at dksX0_routesOf_0 0 rfl rfl)
theorem dX0_routesOf_1 : decode cX0_routesOf 1 = .ok (.istore_n 2, 1) := dk_61 (dk_at dksX0_routesOf_0 1 rfl rfl)
theorem dX0_routesOf_2 : decode cX0_routesOf 2 = .ok (.iconst 0, 1) := dk_3 (dk_at dksX0_routesOf_0 2 rfl rfl)
theorem dX0_routesOf_3 : decode cX0_routesOf 3 = .ok (.istore_n 3, 1) := dk_62 (dk_at dksX0_routesOf_0 3 rfl rfl)
theorem dX0_routesOf_4 : decode cX0_routesOf 4 = .ok (.iload_n 3, 1) := dk_29 (dk_at dksX0_routesOf_0 4 rfl rfl)
theorem dX0_routesOf_5 : decode cX0_routesOf 5 = .ok (.aload_n 0, 1) := dk_42 (dk_at dksX0_routesOf_0 5 rfl rfl)
theorem dX0_routesOf_6 : decode cX0_routesOf 6 = .ok (.getfield 15, 3) := dk_180 0 15 (dk_at dksX0_routesOf_0 6 rfl rfl)
theorem dX0_routesOf_9 : decode cX0_routesOf 9 = .ok (.getfield 119, 3) := dk_180 0 119 (dk_at dksX0_routesOf_0 9 rfl rfl)
theorem dX0_routesOf_12 : decode cX0_routesOf 12 = .ok (.invokevirtual 123, 3) := dk_182 0 123 (dk_at dksX0_routesOf_0 12 rfl rfl)
theorem dX0_routesOf_15 : decode cX0_routesOf 15 = .ok (.if_icmp .ge 43, 3) := dk_162 0 43 (dk_at dksX0_routesOf_0 15 rfl rfl)
theorem dX0_routesOf_18 : decode cX0_routesOf 18 = .ok (.iload_n 2, 1) := dk_28 (dk_at dksX0_routesOf_0 18 rfl rfl)
theorem dX0_routesOf_19 : decode cX0_routesOf 19 = .ok (.aload_n 0, 1) := dk_42 (dk_at dksX0_routesOf_0 19 rfl rfl)
theorem dX0_routesOf_20 : decode cX0_routesOf 20 = .ok (.getfield 15, 3) := dk_180 0 15 (dk_at dksX0_routesOf_0 20 rfl rfl)
theorem dX0_routesOf_23 : decode cX0_routesOf 23 = .ok (.getfield 119, 3) := dk_180 0 119 (dk_at dksX0_routesOf_1 0 rfl rfl)
theorem dX0_routesOf_26 : decode cX0_routesOf 26 = .ok (.iload_n 3, 1) := dk_29 (dk_at dksX0_routesOf_1 3 rfl rfl)
theorem dX0_routesOf_27 : decode cX0_routesOf 27 = .ok (.invokevirtual 126, 3) := dk_182 0 126 (dk_at dksX0_routesOf_1 4 rfl rfl)
theorem dX0_routesOf_30 : decode cX0_routesOf 30 = .ok (.checkcast 130, 3) := dk_192 0 130 (dk_at dksX0_routesOf_1 7 rfl rfl)
theorem dX0_routesOf_33 : decode cX0_routesOf 33 = .ok (.getfield 132, 3) := dk_180 0 132 (dk_at dksX0_routesOf_1 10 rfl rfl)
theorem dX0_routesOf_36 : decode cX0_routesOf 36 = .ok (.iload_n 1, 1) := dk_27 (dk_at dksX0_routesOf_1 13 rfl rfl)
theorem dX0_routesOf_37 : decode cX0_routesOf 37 = .ok (.invokevirtual 136, 3) := dk_182 0 136 (dk_at dksX0_routesOf_1 14 rfl rfl)
theorem dX0_routesOf_40 : decode cX0_routesOf 40 = .ok (.ifCond .eq 9, 3) := dk_153 0 9 (dk_at dksX0_routesOf_1 17 rfl rfl)
theorem dX0_routesOf_43 : decode cX0_routesOf 43 = .ok (.iconst 1, 1) := dk_4 (dk_at dksX0_routesOf_1 20 rfl rfl)
theorem dX0_routesOf_44 : decode cX0_routesOf 44 = .ok (.iload_n 3, 1) := dk_29 (dk_at dksX0_routesOf_1 21 rfl rfl)
theorem dX0_routesOf_45 : decode cX0_routesOf 45 = .ok (.ishl, 1) := dk_120 (dk_at dksX0_routesOf_1 22 rfl rfl)
theorem dX0_routesOf_46 : decode cX0_routesOf 46 = .ok (.goto 4, 3) := dk_167 0 4 (dk_at dksX0_routesOf_2 0 rfl rfl)
theorem dX0_routesOf_49 : decode cX0_routesOf 49 = .ok (.iconst 0, 1) := dk_3 (dk_at dksX0_routesOf_2 3 rfl rfl)
theorem dX0_routesOf_50 : decode cX0_routesOf 50 = .ok (.ior, 1) := dk_128 (dk_at dksX0_routesOf_2 4 rfl rfl)
theorem dX0_routesOf_51 : decode cX0_routesOf 51 = .ok (.istore_n 2, 1) := dk_61 (dk_at dksX0_routesOf_2 5 rfl rfl)
theorem dX0_routesOf_52 : decode cX0_routesOf 52 = .ok (.iinc 3 1, 3) := dk_132 3 1 (dk_at dksX0_routesOf_2 6 rfl rfl)
theorem dX0_routesOf_55 : decode cX0_routesOf 55 = .ok (.goto (-51), 3) := dk_167 255 205 (dk_at dksX0_routesOf_2 9 rfl rfl)
theorem dX0_routesOf_58 : decode cX0_routesOf 58 = .ok (.iload_n 2, 1) := dk_28 (dk_at dksX0_routesOf_2 12 rfl rfl)
theorem dX0_routesOf_59 : decode cX0_routesOf 59 = .ok (.ireturn, 1) := dk_172 (dk_at dksX0_routesOf_2 13 rfl rfl)
abbrev cX0_letter : ByteArray := prog_1_method_19_code
def yX0_letter : MethodName := ⟨RX0, "letter", "(II)I"⟩
def dkwX0_letter_2 : List UInt8 := [182, 0, 187, 167, 0, 5, 18, 191, 172]
abbrev dktX0_letter_2 : List UInt8 := dkwX0_letter_2 ++ []
def dkwX0_letter_1 : List UInt8 := [180, 0, 151, 27, 182, 0, 126, 192, 0, 153, 182, 0, 155, 78, 28, 45, 182, 0, 158, 162, 0, 11, 45, 28]
abbrev dktX0_letter_1 : List UInt8 := dkwX0_letter_1 ++ dktX0_letter_2
def dkwX0_letter_0 : List UInt8 := [42, 180, 0, 15, 27, 182, 0, 141, 153, 0, 7, 28, 156, 0, 6, 18, 150, 172, 42, 180, 0, 15]
abbrev dktX0_letter_0 : List UInt8 := dkwX0_letter_0 ++ dktX0_letter_1
theorem dksX0_letter_0 : cX0_letter.data.toList.drop 0 = dktX0_letter_0 := by decide +kernel
theorem dksX0_letter_1 : cX0_letter.data.toList.drop 22 = dktX0_letter_1 := dk_seg dksX0_letter_0 22 rfl rfl
theorem dksX0_letter_2 : cX0_letter.data.toList.drop 46 = dktX0_letter_2 := dk_seg dksX0_letter_1 24 rfl rfl
theorem dX0_letter_0 : decode cX0_letter 0 = .ok (.aload_n 0, 1) := dk_42 (dk_at dksX0_letter_0 0 rfl rfl)
theorem dX0_letter_1 : decode cX0_letter 1 = .ok (.getfield 15, 3) := dk_180 0 15 (dk_at dksX0_letter_0 1 rfl rfl)
theorem dX0_letter_4 : decode cX0_letter 4 = .ok (.iload_n 1, 1) := dk_27 (dk_at dksX0_letter_0 4 rfl rfl)
theorem dX0_letter_5 : decode cX0_letter 5 = .ok (.invokevirtual 141, 3) := dk_182 0 141 (dk_at dksX0_letter_0 5 rfl rfl)
theorem dX0_letter_8 : decode cX0_letter 8 = .ok (.ifCond .eq 7, 3) := dk_153 0 7 (dk_at dksX0_letter_0 8 rfl rfl)
theorem dX0_letter_11 : decode cX0_letter 11 = .ok (.iload_n 2, 1) := dk_28 (dk_at dksX0_letter_0 11 rfl rfl)
theorem dX0_letter_12 : decode cX0_letter 12 = .ok (.ifCond .ge 6, 3) := dk_156 0 6 (dk_at dksX0_letter_0 12 rfl rfl)
theorem dX0_letter_15 : decode cX0_letter 15 = .ok (.ldc 150, 2) := dk_18 150 (dk_at dksX0_letter_0 15 rfl rfl)
theorem dX0_letter_17 : decode cX0_letter 17 = .ok (.ireturn, 1) := dk_172 (dk_at dksX0_letter_0 17 rfl rfl)
theorem dX0_letter_18 : decode cX0_letter 18 = .ok (.aload_n 0, 1) := dk_42 (dk_at dksX0_letter_0 18 rfl rfl)
theorem dX0_letter_19 : decode cX0_letter 19 = .ok (.getfield 15, 3) := dk_180 0 15 (dk_at dksX0_letter_0 19 rfl rfl)
theorem dX0_letter_22 : decode cX0_letter 22 = .ok (.getfield 151, 3) := dk_180 0 151 (dk_at dksX0_letter_1 0 rfl rfl)
theorem dX0_letter_25 : decode cX0_letter 25 = .ok (.iload_n 1, 1) := dk_27 (dk_at dksX0_letter_1 3 rfl rfl)
theorem dX0_letter_26 : decode cX0_letter 26 = .ok (.invokevirtual 126, 3) := dk_182 0 126 (dk_at dksX0_letter_1 4 rfl rfl)
theorem dX0_letter_29 : decode cX0_letter 29 = .ok (.checkcast 153, 3) := dk_192 0 153 (dk_at dksX0_letter_1 7 rfl rfl)
theorem dX0_letter_32 : decode cX0_letter 32 = .ok (.invokevirtual 155, 3) := dk_182 0 155 (dk_at dksX0_letter_1 10 rfl rfl)
theorem dX0_letter_35 : decode cX0_letter 35 = .ok (.astore_n 3, 1) := dk_78 (dk_at dksX0_letter_1 13 rfl rfl)
theorem dX0_letter_36 : decode cX0_letter 36 = .ok (.iload_n 2, 1) := dk_28 (dk_at dksX0_letter_1 14 rfl rfl)
theorem dX0_letter_37 : decode cX0_letter 37 = .ok (.aload_n 3, 1) := dk_45 (dk_at dksX0_letter_1 15 rfl rfl)
theorem dX0_letter_38 : decode cX0_letter 38 = .ok (.invokevirtual 158, 3) := dk_182 0 158 (dk_at dksX0_letter_1 16 rfl rfl)
theorem dX0_letter_41 : decode cX0_letter 41 = .ok (.if_icmp .ge 11, 3) := dk_162 0 11 (dk_at dksX0_letter_1 19 rfl rfl)
theorem dX0_letter_44 : decode cX0_letter 44 = .ok (.aload_n 3, 1) := dk_45 (dk_at dksX0_letter_1 22 rfl rfl)
theorem dX0_letter_45 : decode cX0_letter 45 = .ok (.iload_n 2, 1) := dk_28 (dk_at dksX0_letter_1 23 rfl rfl)
theorem dX0_letter_46 : decode cX0_letter 46 = .ok (.invokevirtual 187, 3) := dk_182 0 187 (dk_at dksX0_letter_2 0 rfl rfl)
theorem dX0_letter_49 : decode cX0_letter 49 = .ok (.goto 5, 3) := dk_167 0 5 (dk_at dksX0_letter_2 3 rfl rfl)
theorem dX0_letter_52 : decode cX0_letter 52 = .ok (.ldc 191, 2) := dk_18 191 (dk_at dksX0_letter_2 6 rfl rfl)
theorem dX0_letter_54 : decode cX0_letter 54 = .ok (.ireturn, 1) := dk_172 (dk_at dksX0_letter_2 8 rfl rfl)
abbrev cX0_routeOf : ByteArray := prog_1_method_20_code
def yX0_routeOf : MethodName := ⟨RX0, "routeOf", "(II)I"⟩
def dkwX0_routeOf_4 : List UInt8 := [126, 172, 45, 180, 0, 206, 172, 45, 180, 0, 209, 172]
abbrev dktX0_routeOf_4 : List UInt8 := dkwX0_routeOf_4 ++ []
def dkwX0_routeOf_3 : List UInt8 := [45, 182, 0, 197, 172, 45, 180, 0, 132, 182, 0, 200, 172, 45, 182, 0, 197, 42, 180, 0, 15, 182, 0, 203]
abbrev dktX0_routeOf_3 : List UInt8 := dkwX0_routeOf_3 ++ dktX0_routeOf_4
def dkwX0_routeOf_2 : List UInt8 := [170, 0, 0, 0, 0, 61, 0, 0, 0, 0, 0, 0, 0, 3, 0, 0, 0, 30, 0, 0, 0, 35, 0, 0, 0, 43, 0, 0, 0, 56]
abbrev dktX0_routeOf_2 : List UInt8 := dkwX0_routeOf_2 ++ dktX0_routeOf_3
def dkwX0_routeOf_1 : List UInt8 := [18, 150, 172, 42, 180, 0, 15, 180, 0, 119, 27, 182, 0, 126, 192, 0, 130, 78, 28]
abbrev dktX0_routeOf_1 : List UInt8 := dkwX0_routeOf_1 ++ dktX0_routeOf_2
def dkwX0_routeOf_0 : List UInt8 := [42, 180, 0, 15, 27, 182, 0, 192, 153, 0, 15, 28, 133, 9, 20, 0, 195, 184, 0, 146, 154, 0, 6]
abbrev dktX0_routeOf_0 : List UInt8 := dkwX0_routeOf_0 ++ dktX0_routeOf_1
theorem dksX0_routeOf_0 : cX0_routeOf.data.toList.drop 0 = dktX0_routeOf_0 := by decide +kernel
theorem dksX0_routeOf_1 : cX0_routeOf.data.toList.drop 23 = dktX0_routeOf_1 := dk_seg dksX0_routeOf_0 23 rfl rfl
theorem dksX0_routeOf_2 : cX0_routeOf.data.toList.drop 42 = dktX0_routeOf_2 := dk_seg dksX0_routeOf_1 19 rfl rfl
theorem dksX0_routeOf_3 : cX0_routeOf.data.toList.drop 72 = dktX0_routeOf_3 := dk_seg dksX0_routeOf_2 30 rfl rfl
theorem dksX0_routeOf_4 : cX0_routeOf.data.toList.drop 96 = dktX0_routeOf_4 := dk_seg dksX0_routeOf_3 24 rfl rfl
theorem dX0_routeOf_0 : decode cX0_routeOf 0 = .ok (.aload_n 0, 1) := dk_42 (dk_at dksX0_routeOf_0 0 rfl rfl)
theorem dX0_routeOf_1 : decode cX0_routeOf 1 = .ok (.getfield 15, 3) := dk_180 0 15 (dk_at dksX0_routeOf_0 1 rfl rfl)
theorem dX0_routeOf_4 : decode cX0_routeOf 4 = .ok (.iload_n 1, 1) := dk_27 (dk_at dksX0_routeOf_0 4 rfl rfl)
theorem dX0_routeOf_5 : decode cX0_routeOf 5 = .ok (.invokevirtual 192, 3) := dk_182 0 192 (dk_at dksX0_routeOf_0 5 rfl rfl)
theorem dX0_routeOf_8 : decode cX0_routeOf 8 = .ok (.ifCond .eq 15, 3) := dk_153 0 15 (dk_at dksX0_routeOf_0 8 rfl rfl)
theorem dX0_routeOf_11 : decode cX0_routeOf 11 = .ok (.iload_n 2, 1) := dk_28 (dk_at dksX0_routeOf_0 11 rfl rfl)
theorem dX0_routeOf_12 : decode cX0_routeOf 12 = .ok (.i2l, 1) := dk_133 (dk_at dksX0_routeOf_0 12 rfl rfl)
theorem dX0_routeOf_13 : decode cX0_routeOf 13 = .ok (.lconst 0, 1) := dk_9 (dk_at dksX0_routeOf_0 13 rfl rfl)
theorem dX0_routeOf_14 : decode cX0_routeOf 14 = .ok (.ldc2_w 195, 3) := dk_20 0 195 (dk_at dksX0_routeOf_0 14 rfl rfl)
theorem dX0_routeOf_17 : decode cX0_routeOf 17 = .ok (.invokestatic 146, 3) := dk_184 0 146 (dk_at dksX0_routeOf_0 17 rfl rfl)
theorem dX0_routeOf_20 : decode cX0_routeOf 20 = .ok (.ifCond .ne 6, 3) := dk_154 0 6 (dk_at dksX0_routeOf_0 20 rfl rfl)
theorem dX0_routeOf_23 : decode cX0_routeOf 23 = .ok (.ldc 150, 2) := dk_18 150 (dk_at dksX0_routeOf_1 0 rfl rfl)
theorem dX0_routeOf_25 : decode cX0_routeOf 25 = .ok (.ireturn, 1) := dk_172 (dk_at dksX0_routeOf_1 2 rfl rfl)
theorem dX0_routeOf_26 : decode cX0_routeOf 26 = .ok (.aload_n 0, 1) := dk_42 (dk_at dksX0_routeOf_1 3 rfl rfl)
theorem dX0_routeOf_27 : decode cX0_routeOf 27 = .ok (.getfield 15, 3) := dk_180 0 15 (dk_at dksX0_routeOf_1 4 rfl rfl)
theorem dX0_routeOf_30 : decode cX0_routeOf 30 = .ok (.getfield 119, 3) := dk_180 0 119 (dk_at dksX0_routeOf_1 7 rfl rfl)
theorem dX0_routeOf_33 : decode cX0_routeOf 33 = .ok (.iload_n 1, 1) := dk_27 (dk_at dksX0_routeOf_1 10 rfl rfl)
theorem dX0_routeOf_34 : decode cX0_routeOf 34 = .ok (.invokevirtual 126, 3) := dk_182 0 126 (dk_at dksX0_routeOf_1 11 rfl rfl)
theorem dX0_routeOf_37 : decode cX0_routeOf 37 = .ok (.checkcast 130, 3) := dk_192 0 130 (dk_at dksX0_routeOf_1 14 rfl rfl)
theorem dX0_routeOf_40 : decode cX0_routeOf 40 = .ok (.astore_n 3, 1) := dk_78 (dk_at dksX0_routeOf_1 17 rfl rfl)
theorem dX0_routeOf_41 : decode cX0_routeOf 41 = .ok (.iload_n 2, 1) := dk_28 (dk_at dksX0_routeOf_1 18 rfl rfl)
theorem dX0_routeOf_42 : decode cX0_routeOf 42 = .ok (.tableswitch 61 0 3 #[30, 35, 43, 56], 30) := by decide +kernel
theorem dX0_routeOf_72 : decode cX0_routeOf 72 = .ok (.aload_n 3, 1) := dk_45 (dk_at dksX0_routeOf_3 0 rfl rfl)
theorem dX0_routeOf_73 : decode cX0_routeOf 73 = .ok (.invokevirtual 197, 3) := dk_182 0 197 (dk_at dksX0_routeOf_3 1 rfl rfl)
theorem dX0_routeOf_76 : decode cX0_routeOf 76 = .ok (.ireturn, 1) := dk_172 (dk_at dksX0_routeOf_3 4 rfl rfl)
theorem dX0_routeOf_77 : decode cX0_routeOf 77 = .ok (.aload_n 3, 1) := dk_45 (dk_at dksX0_routeOf_3 5 rfl rfl)
theorem dX0_routeOf_78 : decode cX0_routeOf 78 = .ok (.getfield 132, 3) := dk_180 0 132 (dk_at dksX0_routeOf_3 6 rfl rfl)
theorem dX0_routeOf_81 : decode cX0_routeOf 81 = .ok (.invokevirtual 200, 3) := dk_182 0 200 (dk_at dksX0_routeOf_3 9 rfl rfl)
theorem dX0_routeOf_84 : decode cX0_routeOf 84 = .ok (.ireturn, 1) := dk_172 (dk_at dksX0_routeOf_3 12 rfl rfl)
theorem dX0_routeOf_85 : decode cX0_routeOf 85 = .ok (.aload_n 3, 1) := dk_45 (dk_at dksX0_routeOf_3 13 rfl rfl)
theorem dX0_routeOf_86 : decode cX0_routeOf 86 = .ok (.invokevirtual 197, 3) := dk_182 0 197 (dk_at dksX0_routeOf_3 14 rfl rfl)
theorem dX0_routeOf_89 : decode cX0_routeOf 89 = .ok (.aload_n 0, 1) := dk_42 (dk_at dksX0_routeOf_3 17 rfl rfl)
theorem dX0_routeOf_90 : decode cX0_routeOf 90 = .ok (.getfield 15, 3) := dk_180 0 15 (dk_at dksX0_routeOf_3 18 rfl rfl)
theorem dX0_routeOf_93 : decode cX0_routeOf 93 = .ok (.invokevirtual 203, 3) := dk_182 0 203 (dk_at dksX0_routeOf_3 21 rfl rfl)
theorem dX0_routeOf_96 : decode cX0_routeOf 96 = .ok (.iand, 1) := dk_126 (dk_at dksX0_routeOf_4 0 rfl rfl)
theorem dX0_routeOf_97 : decode cX0_routeOf 97 = .ok (.ireturn, 1) := dk_172 (dk_at dksX0_routeOf_4 1 rfl rfl)
theorem dX0_routeOf_98 : decode cX0_routeOf 98 = .ok (.aload_n 3, 1) := dk_45 (dk_at dksX0_routeOf_4 2 rfl rfl)
theorem dX0_routeOf_99 : decode cX0_routeOf 99 = .ok (.getfield 206, 3) := dk_180 0 206 (dk_at dksX0_routeOf_4 3 rfl rfl)
theorem dX0_routeOf_102 : decode cX0_routeOf 102 = .ok (.ireturn, 1) := dk_172 (dk_at dksX0_routeOf_4 6 rfl rfl)
theorem dX0_routeOf_103 : decode cX0_routeOf 103 = .ok (.aload_n 3, 1) := dk_45 (dk_at dksX0_routeOf_4 7 rfl rfl)
theorem dX0_routeOf_104 : decode cX0_routeOf 104 = .ok (.getfield 209, 3) := dk_180 0 209 (dk_at dksX0_routeOf_4 8 rfl rfl)
theorem dX0_routeOf_107 : decode cX0_routeOf 107 = .ok (.ireturn, 1) := dk_172 (dk_at dksX0_routeOf_4 11 rfl rfl)
abbrev cX0_would : ByteArray := prog_1_method_21_code
def yX0_would : MethodName := ⟨RX0, "would", "(III)I"⟩
def dkwX0_would_2 : List UInt8 := [89, 42, 180, 0, 15, 183, 0, 73, 27, 28, 29, 182, 0, 222, 172]
abbrev dktX0_would_2 : List UInt8 := dkwX0_would_2 ++ []
def dkwX0_would_1 : List UInt8 := [18, 150, 172, 42, 180, 0, 15, 180, 0, 151, 182, 0, 218, 153, 0, 8, 18, 114, 167, 0, 20, 187, 0, 12]
abbrev dktX0_would_1 : List UInt8 := dkwX0_would_1 ++ dktX0_would_2
def dkwX0_would_0 : List UInt8 := [42, 180, 0, 15, 27, 28, 182, 0, 212, 153, 0, 15, 29, 133, 9, 20, 0, 216, 184, 0, 146, 154, 0, 6]
abbrev dktX0_would_0 : List UInt8 := dkwX0_would_0 ++ dktX0_would_1
theorem dksX0_would_0 : cX0_would.data.toList.drop 0 = dktX0_would_0 := by decide +kernel
theorem dksX0_would_1 : cX0_would.data.toList.drop 24 = dktX0_would_1 := dk_seg dksX0_would_0 24 rfl rfl
theorem dksX0_would_2 : cX0_would.data.toList.drop 48 = dktX0_would_2 := dk_seg dksX0_would_1 24 rfl rfl
theorem dX0_would_0 : decode cX0_would 0 = .ok (.aload_n 0, 1) := dk_42 (dk_at dksX0_would_0 0 rfl rfl)
theorem dX0_would_1 : decode cX0_would 1 = .ok (.getfield 15, 3) := dk_180 0 15 (dk_at dksX0_would_0 1 rfl rfl)
theorem dX0_would_4 : decode cX0_would 4 = .ok (.iload_n 1, 1) := dk_27 (dk_at dksX0_would_0 4 rfl rfl)
theorem dX0_would_5 : decode cX0_would 5 = .ok (.iload_n 2, 1) := dk_28 (dk_at dksX0_would_0 5 rfl rfl)
theorem dX0_would_6 : decode cX0_would 6 = .ok (.invokevirtual 212, 3) := dk_182 0 212 (dk_at dksX0_would_0 6 rfl rfl)
theorem dX0_would_9 : decode cX0_would 9 = .ok (.ifCond .eq 15, 3) := dk_153 0 15 (dk_at dksX0_would_0 9 rfl rfl)
theorem dX0_would_12 : decode cX0_would 12 = .ok (.iload_n 3, 1) := dk_29 (dk_at dksX0_would_0 12 rfl rfl)
theorem dX0_would_13 : decode cX0_would 13 = .ok (.i2l, 1) := dk_133 (dk_at dksX0_would_0 13 rfl rfl)
theorem dX0_would_14 : decode cX0_would 14 = .ok (.lconst 0, 1) := dk_9 (dk_at dksX0_would_0 14 rfl rfl)
theorem dX0_would_15 : decode cX0_would 15 = .ok (.ldc2_w 216, 3) := dk_20 0 216 (dk_at dksX0_would_0 15 rfl rfl)
theorem dX0_would_18 : decode cX0_would 18 = .ok (.invokestatic 146, 3) := dk_184 0 146 (dk_at dksX0_would_0 18 rfl rfl)
theorem dX0_would_21 : decode cX0_would 21 = .ok (.ifCond .ne 6, 3) := dk_154 0 6 (dk_at dksX0_would_0 21 rfl rfl)
theorem dX0_would_24 : decode cX0_would 24 = .ok (.ldc 150, 2) := dk_18 150 (dk_at dksX0_would_1 0 rfl rfl)
theorem dX0_would_26 : decode cX0_would 26 = .ok (.ireturn, 1) := dk_172 (dk_at dksX0_would_1 2 rfl rfl)
theorem dX0_would_27 : decode cX0_would 27 = .ok (.aload_n 0, 1) := dk_42 (dk_at dksX0_would_1 3 rfl rfl)
theorem dX0_would_28 : decode cX0_would 28 = .ok (.getfield 15, 3) := dk_180 0 15 (dk_at dksX0_would_1 4 rfl rfl)
theorem dX0_would_31 : decode cX0_would 31 = .ok (.getfield 151, 3) := dk_180 0 151 (dk_at dksX0_would_1 7 rfl rfl)
theorem dX0_would_34 : decode cX0_would 34 = .ok (.invokevirtual 218, 3) := dk_182 0 218 (dk_at dksX0_would_1 10 rfl rfl)
theorem dX0_would_37 : decode cX0_would 37 = .ok (.ifCond .eq 8, 3) := dk_153 0 8 (dk_at dksX0_would_1 13 rfl rfl)
theorem dX0_would_40 : decode cX0_would 40 = .ok (.ldc 114, 2) := dk_18 114 (dk_at dksX0_would_1 16 rfl rfl)
theorem dX0_would_42 : decode cX0_would 42 = .ok (.goto 20, 3) := dk_167 0 20 (dk_at dksX0_would_1 18 rfl rfl)
theorem dX0_would_45 : decode cX0_would 45 = .ok (.new 12, 3) := dk_187 0 12 (dk_at dksX0_would_1 21 rfl rfl)
theorem dX0_would_48 : decode cX0_would 48 = .ok (.dup, 1) := dk_89 (dk_at dksX0_would_2 0 rfl rfl)
theorem dX0_would_49 : decode cX0_would 49 = .ok (.aload_n 0, 1) := dk_42 (dk_at dksX0_would_2 1 rfl rfl)
theorem dX0_would_50 : decode cX0_would 50 = .ok (.getfield 15, 3) := dk_180 0 15 (dk_at dksX0_would_2 2 rfl rfl)
theorem dX0_would_53 : decode cX0_would 53 = .ok (.invokespecial 73, 3) := dk_183 0 73 (dk_at dksX0_would_2 5 rfl rfl)
theorem dX0_would_56 : decode cX0_would 56 = .ok (.iload_n 1, 1) := dk_27 (dk_at dksX0_would_2 8 rfl rfl)
theorem dX0_would_57 : decode cX0_would 57 = .ok (.iload_n 2, 1) := dk_28 (dk_at dksX0_would_2 9 rfl rfl)
theorem dX0_would_58 : decode cX0_would 58 = .ok (.iload_n 3, 1) := dk_29 (dk_at dksX0_would_2 10 rfl rfl)
theorem dX0_would_59 : decode cX0_would 59 = .ok (.invokevirtual 222, 3) := dk_182 0 222 (dk_at dksX0_would_2 11 rfl rfl)
theorem dX0_would_62 : decode cX0_would 62 = .ok (.ireturn, 1) := dk_172 (dk_at dksX0_would_2 14 rfl rfl)
abbrev cX0_nearest : ByteArray := prog_1_method_22_code
def yX0_nearest : MethodName := ⟨RX0, "nearest", "(I)I"⟩
def dkwX0_nearest_5 : List UInt8 := [154, 0, 7, 28, 167, 0, 12, 28, 42, 180, 0, 15, 180, 0, 184, 100, 172]
abbrev dktX0_nearest_5 : List UInt8 := dkwX0_nearest_5 ++ []
def dkwX0_nearest_4 : List UInt8 := [21, 5, 167, 0, 4, 29, 62, 132, 4, 255, 167, 255, 184, 28, 2, 160, 0, 8, 18, 191, 167, 0, 20, 27]
abbrev dktX0_nearest_4 : List UInt8 := dkwX0_nearest_4 ++ dktX0_nearest_5
def dkwX0_nearest_3 : List UInt8 := [4, 167, 0, 4, 3, 54, 6, 21, 6, 153, 0, 8, 21, 4, 167, 0, 4, 28, 61, 21, 6, 153, 0, 8]
abbrev dktX0_nearest_3 : List UInt8 := dkwX0_nearest_3 ++ dktX0_nearest_4
def dkwX0_nearest_2 : List UInt8 := [100, 184, 0, 226, 54, 5, 21, 5, 29, 162, 0, 19, 42, 180, 0, 15, 21, 4, 182, 0, 231, 154, 0, 7]
abbrev dktX0_nearest_2 : List UInt8 := dkwX0_nearest_2 ++ dktX0_nearest_3
def dkwX0_nearest_1 : List UInt8 := [180, 0, 151, 182, 0, 123, 4, 100, 54, 4, 21, 4, 155, 0, 73, 21, 4, 42, 180, 0, 15, 180, 0, 184]
abbrev dktX0_nearest_1 : List UInt8 := dkwX0_nearest_1 ++ dktX0_nearest_2
def dkwX0_nearest_0 : List UInt8 := [27, 133, 9, 10, 184, 0, 146, 154, 0, 6, 18, 150, 172, 2, 61, 16, 20, 62, 42, 180, 0, 15]
abbrev dktX0_nearest_0 : List UInt8 := dkwX0_nearest_0 ++ dktX0_nearest_1
theorem dksX0_nearest_0 : cX0_nearest.data.toList.drop 0 = dktX0_nearest_0 := by decide +kernel
theorem dksX0_nearest_1 : cX0_nearest.data.toList.drop 22 = dktX0_nearest_1 := dk_seg dksX0_nearest_0 22 rfl rfl
theorem dksX0_nearest_2 : cX0_nearest.data.toList.drop 46 = dktX0_nearest_2 := dk_seg dksX0_nearest_1 24 rfl rfl
theorem dksX0_nearest_3 : cX0_nearest.data.toList.drop 70 = dktX0_nearest_3 := dk_seg dksX0_nearest_2 24 rfl rfl
theorem dksX0_nearest_4 : cX0_nearest.data.toList.drop 94 = dktX0_nearest_4 := dk_seg dksX0_nearest_3 24 rfl rfl
theorem dksX0_nearest_5 : cX0_nearest.data.toList.drop 118 = dktX0_nearest_5 := dk_seg dksX0_nearest_4 24 rfl rfl
theorem dX0_nearest_0 : decode cX0_nearest 0 = .ok (.iload_n 1, 1) := dk_27 (dk_at dksX0_nearest_0 0 rfl rfl)
theorem dX0_nearest_1 : decode cX0_nearest 1 = .ok (.i2l, 1) := dk_133 (dk_at dksX0_nearest_0 1 rfl rfl)
theorem dX0_nearest_2 : decode cX0_nearest 2 = .ok (.lconst 0, 1) := dk_9 (dk_at dksX0_nearest_0 2 rfl rfl)
theorem dX0_nearest_3 : decode cX0_nearest 3 = .ok (.lconst 1, 1) := dk_10 (dk_at dksX0_nearest_0 3 rfl rfl)
theorem dX0_nearest_4 : decode cX0_nearest 4 = .ok (.invokestatic 146, 3) := dk_184 0 146 (dk_at dksX0_nearest_0 4 rfl rfl)
theorem dX0_nearest_7 : decode cX0_nearest 7 = .ok (.ifCond .ne 6, 3) := dk_154 0 6 (dk_at dksX0_nearest_0 7 rfl rfl)
theorem dX0_nearest_10 : decode cX0_nearest 10 = .ok (.ldc 150, 2) := dk_18 150 (dk_at dksX0_nearest_0 10 rfl rfl)
theorem dX0_nearest_12 : decode cX0_nearest 12 = .ok (.ireturn, 1) := dk_172 (dk_at dksX0_nearest_0 12 rfl rfl)
theorem dX0_nearest_13 : decode cX0_nearest 13 = .ok (.iconst (-1), 1) := dk_2 (dk_at dksX0_nearest_0 13 rfl rfl)
theorem dX0_nearest_14 : decode cX0_nearest 14 = .ok (.istore_n 2, 1) := dk_61 (dk_at dksX0_nearest_0 14 rfl rfl)
theorem dX0_nearest_15 : decode cX0_nearest 15 = .ok (.bipush 20, 2) := dk_16 20 (dk_at dksX0_nearest_0 15 rfl rfl)
theorem dX0_nearest_17 : decode cX0_nearest 17 = .ok (.istore_n 3, 1) := dk_62 (dk_at dksX0_nearest_0 17 rfl rfl)
theorem dX0_nearest_18 : decode cX0_nearest 18 = .ok (.aload_n 0, 1) := dk_42 (dk_at dksX0_nearest_0 18 rfl rfl)
theorem dX0_nearest_19 : decode cX0_nearest 19 = .ok (.getfield 15, 3) := dk_180 0 15 (dk_at dksX0_nearest_0 19 rfl rfl)
theorem dX0_nearest_22 : decode cX0_nearest 22 = .ok (.getfield 151, 3) := dk_180 0 151 (dk_at dksX0_nearest_1 0 rfl rfl)
theorem dX0_nearest_25 : decode cX0_nearest 25 = .ok (.invokevirtual 123, 3) := dk_182 0 123 (dk_at dksX0_nearest_1 3 rfl rfl)
theorem dX0_nearest_28 : decode cX0_nearest 28 = .ok (.iconst 1, 1) := dk_4 (dk_at dksX0_nearest_1 6 rfl rfl)
theorem dX0_nearest_29 : decode cX0_nearest 29 = .ok (.isub, 1) := dk_100 (dk_at dksX0_nearest_1 7 rfl rfl)
theorem dX0_nearest_30 : decode cX0_nearest 30 = .ok (.istore 4, 2) := dk_54 4 (dk_at dksX0_nearest_1 8 rfl rfl)
theorem dX0_nearest_32 : decode cX0_nearest 32 = .ok (.iload 4, 2) := dk_21 4 (dk_at dksX0_nearest_1 10 rfl rfl)
theorem dX0_nearest_34 : decode cX0_nearest 34 = .ok (.ifCond .lt 73, 3) := dk_155 0 73 (dk_at dksX0_nearest_1 12 rfl rfl)
theorem dX0_nearest_37 : decode cX0_nearest 37 = .ok (.iload 4, 2) := dk_21 4 (dk_at dksX0_nearest_1 15 rfl rfl)
theorem dX0_nearest_39 : decode cX0_nearest 39 = .ok (.aload_n 0, 1) := dk_42 (dk_at dksX0_nearest_1 17 rfl rfl)
theorem dX0_nearest_40 : decode cX0_nearest 40 = .ok (.getfield 15, 3) := dk_180 0 15 (dk_at dksX0_nearest_1 18 rfl rfl)
theorem dX0_nearest_43 : decode cX0_nearest 43 = .ok (.getfield 184, 3) := dk_180 0 184 (dk_at dksX0_nearest_1 21 rfl rfl)
theorem dX0_nearest_46 : decode cX0_nearest 46 = .ok (.isub, 1) := dk_100 (dk_at dksX0_nearest_2 0 rfl rfl)
theorem dX0_nearest_47 : decode cX0_nearest 47 = .ok (.invokestatic 226, 3) := dk_184 0 226 (dk_at dksX0_nearest_2 1 rfl rfl)
theorem dX0_nearest_50 : decode cX0_nearest 50 = .ok (.istore 5, 2) := dk_54 5 (dk_at dksX0_nearest_2 4 rfl rfl)
theorem dX0_nearest_52 : decode cX0_nearest 52 = .ok (.iload 5, 2) := dk_21 5 (dk_at dksX0_nearest_2 6 rfl rfl)
theorem dX0_nearest_54 : decode cX0_nearest 54 = .ok (.iload_n 3, 1) := dk_29 (dk_at dksX0_nearest_2 8 rfl rfl)
theorem dX0_nearest_55 : decode cX0_nearest 55 = .ok (.if_icmp .ge 19, 3) := dk_162 0 19 (dk_at dksX0_nearest_2 9 rfl rfl)
theorem dX0_nearest_58 : decode cX0_nearest 58 = .ok (.aload_n 0, 1) := dk_42 (dk_at dksX0_nearest_2 12 rfl rfl)
theorem dX0_nearest_59 : decode cX0_nearest 59 = .ok (.getfield 15, 3) := dk_180 0 15 (dk_at dksX0_nearest_2 13 rfl rfl)
theorem dX0_nearest_62 : decode cX0_nearest 62 = .ok (.iload 4, 2) := dk_21 4 (dk_at dksX0_nearest_2 16 rfl rfl)
theorem dX0_nearest_64 : decode cX0_nearest 64 = .ok (.invokevirtual 231, 3) := dk_182 0 231 (dk_at dksX0_nearest_2 18 rfl rfl)
theorem dX0_nearest_67 : decode cX0_nearest 67 = .ok (.ifCond .ne 7, 3) := dk_154 0 7 (dk_at dksX0_nearest_2 21 rfl rfl)
theorem dX0_nearest_70 : decode cX0_nearest 70 = .ok (.iconst 1, 1) := dk_4 (dk_at dksX0_nearest_3 0 rfl rfl)
theorem dX0_nearest_71 : decode cX0_nearest 71 = .ok (.goto 4, 3) := dk_167 0 4 (dk_at dksX0_nearest_3 1 rfl rfl)
theorem dX0_nearest_74 : decode cX0_nearest 74 = .ok (.iconst 0, 1) := dk_3 (dk_at dksX0_nearest_3 4 rfl rfl)
theorem dX0_nearest_75 : decode cX0_nearest 75 = .ok (.istore 6, 2) := dk_54 6 (dk_at dksX0_nearest_3 5 rfl rfl)
theorem dX0_nearest_77 : decode cX0_nearest 77 = .ok (.iload 6, 2) := dk_21 6 (dk_at dksX0_nearest_3 7 rfl rfl)
theorem dX0_nearest_79 : decode cX0_nearest 79 = .ok (.ifCond .eq 8, 3) := dk_153 0 8 (dk_at dksX0_nearest_3 9 rfl rfl)
theorem dX0_nearest_82 : decode cX0_nearest 82 = .ok (.iload 4, 2) := dk_21 4 (dk_at dksX0_nearest_3 12 rfl rfl)
theorem dX0_nearest_84 : decode cX0_nearest 84 = .ok (.goto 4, 3) := dk_167 0 4 (dk_at dksX0_nearest_3 14 rfl rfl)
theorem dX0_nearest_87 : decode cX0_nearest 87 = .ok (.iload_n 2, 1) := dk_28 (dk_at dksX0_nearest_3 17 rfl rfl)
theorem dX0_nearest_88 : decode cX0_nearest 88 = .ok (.istore_n 2, 1) := dk_61 (dk_at dksX0_nearest_3 18 rfl rfl)
theorem dX0_nearest_89 : decode cX0_nearest 89 = .ok (.iload 6, 2) := dk_21 6 (dk_at dksX0_nearest_3 19 rfl rfl)
theorem dX0_nearest_91 : decode cX0_nearest 91 = .ok (.ifCond .eq 8, 3) := dk_153 0 8 (dk_at dksX0_nearest_3 21 rfl rfl)
theorem dX0_nearest_94 : decode cX0_nearest 94 = .ok (.iload 5, 2) := dk_21 5 (dk_at dksX0_nearest_4 0 rfl rfl)
theorem dX0_nearest_96 : decode cX0_nearest 96 = .ok (.goto 4, 3) := dk_167 0 4 (dk_at dksX0_nearest_4 2 rfl rfl)
theorem dX0_nearest_99 : decode cX0_nearest 99 = .ok (.iload_n 3, 1) := dk_29 (dk_at dksX0_nearest_4 5 rfl rfl)
theorem dX0_nearest_100 : decode cX0_nearest 100 = .ok (.istore_n 3, 1) := dk_62 (dk_at dksX0_nearest_4 6 rfl rfl)
theorem dX0_nearest_101 : decode cX0_nearest 101 = .ok (.iinc 4 (-1), 3) := dk_132 4 255 (dk_at dksX0_nearest_4 7 rfl rfl)
theorem dX0_nearest_104 : decode cX0_nearest 104 = .ok (.goto (-72), 3) := dk_167 255 184 (dk_at dksX0_nearest_4 10 rfl rfl)
theorem dX0_nearest_107 : decode cX0_nearest 107 = .ok (.iload_n 2, 1) := dk_28 (dk_at dksX0_nearest_4 13 rfl rfl)
theorem dX0_nearest_108 : decode cX0_nearest 108 = .ok (.iconst (-1), 1) := dk_2 (dk_at dksX0_nearest_4 14 rfl rfl)
theorem dX0_nearest_109 : decode cX0_nearest 109 = .ok (.if_icmp .ne 8, 3) := dk_160 0 8 (dk_at dksX0_nearest_4 15 rfl rfl)
theorem dX0_nearest_112 : decode cX0_nearest 112 = .ok (.ldc 191, 2) := dk_18 191 (dk_at dksX0_nearest_4 18 rfl rfl)
theorem dX0_nearest_114 : decode cX0_nearest 114 = .ok (.goto 20, 3) := dk_167 0 20 (dk_at dksX0_nearest_4 20 rfl rfl)
theorem dX0_nearest_117 : decode cX0_nearest 117 = .ok (.iload_n 1, 1) := dk_27 (dk_at dksX0_nearest_4 23 rfl rfl)
theorem dX0_nearest_118 : decode cX0_nearest 118 = .ok (.ifCond .ne 7, 3) := dk_154 0 7 (dk_at dksX0_nearest_5 0 rfl rfl)
theorem dX0_nearest_121 : decode cX0_nearest 121 = .ok (.iload_n 2, 1) := dk_28 (dk_at dksX0_nearest_5 3 rfl rfl)
theorem dX0_nearest_122 : decode cX0_nearest 122 = .ok (.goto 12, 3) := dk_167 0 12 (dk_at dksX0_nearest_5 4 rfl rfl)
theorem dX0_nearest_125 : decode cX0_nearest 125 = .ok (.iload_n 2, 1) := dk_28 (dk_at dksX0_nearest_5 7 rfl rfl)
theorem dX0_nearest_126 : decode cX0_nearest 126 = .ok (.aload_n 0, 1) := dk_42 (dk_at dksX0_nearest_5 8 rfl rfl)
theorem dX0_nearest_127 : decode cX0_nearest 127 = .ok (.getfield 15, 3) := dk_180 0 15 (dk_at dksX0_nearest_5 9 rfl rfl)
theorem dX0_nearest_130 : decode cX0_nearest 130 = .ok (.getfield 184, 3) := dk_180 0 184 (dk_at dksX0_nearest_5 12 rfl rfl)
theorem dX0_nearest_133 : decode cX0_nearest 133 = .ok (.isub, 1) := dk_100 (dk_at dksX0_nearest_5 15 rfl rfl)
theorem dX0_nearest_134 : decode cX0_nearest 134 = .ok (.ireturn, 1) := dk_172 (dk_at dksX0_nearest_5 16 rfl rfl)
abbrev cX0_alike : ByteArray := prog_1_method_23_code
def yX0_alike : MethodName := ⟨RX0, "alike", "(II)I"⟩
def dkwX0_alike_4 : List UInt8 := [182, 0, 187, 160, 0, 9, 132, 5, 1, 167, 255, 218, 21, 5, 172]
abbrev dktX0_alike_4 : List UInt8 := dkwX0_alike_4 ++ []
def dkwX0_alike_3 : List UInt8 := [162, 0, 35, 21, 5, 25, 4, 182, 0, 158, 162, 0, 25, 45, 21, 5, 182, 0, 187, 25, 4, 21, 5]
abbrev dktX0_alike_3 : List UInt8 := dkwX0_alike_3 ++ dktX0_alike_4
def dkwX0_alike_2 : List UInt8 := [180, 0, 151, 28, 182, 0, 126, 192, 0, 153, 182, 0, 155, 58, 4, 3, 54, 5, 21, 5, 45, 182, 0, 158]
abbrev dktX0_alike_2 : List UInt8 := dkwX0_alike_2 ++ dktX0_alike_3
def dkwX0_alike_1 : List UInt8 := [172, 42, 180, 0, 15, 180, 0, 151, 27, 182, 0, 126, 192, 0, 153, 182, 0, 155, 78, 42, 180, 0, 15]
abbrev dktX0_alike_1 : List UInt8 := dkwX0_alike_1 ++ dktX0_alike_2
def dkwX0_alike_0 : List UInt8 := [42, 180, 0, 15, 27, 182, 0, 141, 153, 0, 14, 42, 180, 0, 15, 28, 182, 0, 141, 154, 0, 6, 18, 150]
abbrev dktX0_alike_0 : List UInt8 := dkwX0_alike_0 ++ dktX0_alike_1
theorem dksX0_alike_0 : cX0_alike.data.toList.drop 0 = dktX0_alike_0 := by decide +kernel
theorem dksX0_alike_1 : cX0_alike.data.toList.drop 24 = dktX0_alike_1 := dk_seg dksX0_alike_0 24 rfl rfl
theorem dksX0_alike_2 : cX0_alike.data.toList.drop 47 = dktX0_alike_2 := dk_seg dksX0_alike_1 23 rfl rfl
theorem dksX0_alike_3 : cX0_alike.data.toList.drop 71 = dktX0_alike_3 := dk_seg dksX0_alike_2 24 rfl rfl
theorem dksX0_alike_4 : cX0_alike.data.toList.drop 94 = dktX0_alike_4 := dk_seg dksX0_alike_3 23 rfl rfl
theorem dX0_alike_0 : decode cX0_alike 0 = .ok (.aload_n 0, 1) := dk_42 (dk_at dksX0_alike_0 0 rfl rfl)
theorem dX0_alike_1 : decode cX0_alike 1 = .ok (.getfield 15, 3) := dk_180 0 15 (dk_at dksX0_alike_0 1 rfl rfl)
theorem dX0_alike_4 : decode cX0_alike 4 = .ok (.iload_n 1, 1) := dk_27 (dk_at dksX0_alike_0 4 rfl rfl)
theorem dX0_alike_5 : decode cX0_alike 5 = .ok (.invokevirtual 141, 3) := dk_182 0 141 (dk_at dksX0_alike_0 5 rfl rfl)
theorem dX0_alike_8 : decode cX0_alike 8 = .ok (.ifCond .eq 14, 3) := dk_153 0 14 (dk_at dksX0_alike_0 8 rfl rfl)
theorem dX0_alike_11 : decode cX0_alike 11 = .ok (.aload_n 0, 1) := dk_42 (dk_at dksX0_alike_0 11 rfl rfl)
theorem dX0_alike_12 : decode cX0_alike 12 = .ok (.getfield 15, 3) := dk_180 0 15 (dk_at dksX0_alike_0 12 rfl rfl)
theorem dX0_alike_15 : decode cX0_alike 15 = .ok (.iload_n 2, 1) := dk_28 (dk_at dksX0_alike_0 15 rfl rfl)
theorem dX0_alike_16 : decode cX0_alike 16 = .ok (.invokevirtual 141, 3) := dk_182 0 141 (dk_at dksX0_alike_0 16 rfl rfl)
theorem dX0_alike_19 : decode cX0_alike 19 = .ok (.ifCond .ne 6, 3) := dk_154 0 6 (dk_at dksX0_alike_0 19 rfl rfl)
theorem dX0_alike_22 : decode cX0_alike 22 = .ok (.ldc 150, 2) := dk_18 150 (dk_at dksX0_alike_0 22 rfl rfl)
theorem dX0_alike_24 : decode cX0_alike 24 = .ok (.ireturn, 1) := dk_172 (dk_at dksX0_alike_1 0 rfl rfl)
theorem dX0_alike_25 : decode cX0_alike 25 = .ok (.aload_n 0, 1) := dk_42 (dk_at dksX0_alike_1 1 rfl rfl)
theorem dX0_alike_26 : decode cX0_alike 26 = .ok (.getfield 15, 3) := dk_180 0 15 (dk_at dksX0_alike_1 2 rfl rfl)
theorem dX0_alike_29 : decode cX0_alike 29 = .ok (.getfield 151, 3) := dk_180 0 151 (dk_at dksX0_alike_1 5 rfl rfl)
theorem dX0_alike_32 : decode cX0_alike 32 = .ok (.iload_n 1, 1) := dk_27 (dk_at dksX0_alike_1 8 rfl rfl)
theorem dX0_alike_33 : decode cX0_alike 33 = .ok (.invokevirtual 126, 3) := dk_182 0 126 (dk_at dksX0_alike_1 9 rfl rfl)
theorem dX0_alike_36 : decode cX0_alike 36 = .ok (.checkcast 153, 3) := dk_192 0 153 (dk_at dksX0_alike_1 12 rfl rfl)
theorem dX0_alike_39 : decode cX0_alike 39 = .ok (.invokevirtual 155, 3) := dk_182 0 155 (dk_at dksX0_alike_1 15 rfl rfl)
theorem dX0_alike_42 : decode cX0_alike 42 = .ok (.astore_n 3, 1) := dk_78 (dk_at dksX0_alike_1 18 rfl rfl)
theorem dX0_alike_43 : decode cX0_alike 43 = .ok (.aload_n 0, 1) := dk_42 (dk_at dksX0_alike_1 19 rfl rfl)
theorem dX0_alike_44 : decode cX0_alike 44 = .ok (.getfield 15, 3) := dk_180 0 15 (dk_at dksX0_alike_1 20 rfl rfl)
theorem dX0_alike_47 : decode cX0_alike 47 = .ok (.getfield 151, 3) := dk_180 0 151 (dk_at dksX0_alike_2 0 rfl rfl)
theorem dX0_alike_50 : decode cX0_alike 50 = .ok (.iload_n 2, 1) := dk_28 (dk_at dksX0_alike_2 3 rfl rfl)
theorem dX0_alike_51 : decode cX0_alike 51 = .ok (.invokevirtual 126, 3) := dk_182 0 126 (dk_at dksX0_alike_2 4 rfl rfl)
theorem dX0_alike_54 : decode cX0_alike 54 = .ok (.checkcast 153, 3) := dk_192 0 153 (dk_at dksX0_alike_2 7 rfl rfl)
theorem dX0_alike_57 : decode cX0_alike 57 = .ok (.invokevirtual 155, 3) := dk_182 0 155 (dk_at dksX0_alike_2 10 rfl rfl)
theorem dX0_alike_60 : decode cX0_alike 60 = .ok (.astore 4, 2) := dk_58 4 (dk_at dksX0_alike_2 13 rfl rfl)
theorem dX0_alike_62 : decode cX0_alike 62 = .ok (.iconst 0, 1) := dk_3 (dk_at dksX0_alike_2 15 rfl rfl)
theorem dX0_alike_63 : decode cX0_alike 63 = .ok (.istore 5, 2) := dk_54 5 (dk_at dksX0_alike_2 16 rfl rfl)
theorem dX0_alike_65 : decode cX0_alike 65 = .ok (.iload 5, 2) := dk_21 5 (dk_at dksX0_alike_2 18 rfl rfl)
theorem dX0_alike_67 : decode cX0_alike 67 = .ok (.aload_n 3, 1) := dk_45 (dk_at dksX0_alike_2 20 rfl rfl)
theorem dX0_alike_68 : decode cX0_alike 68 = .ok (.invokevirtual 158, 3) := dk_182 0 158 (dk_at dksX0_alike_2 21 rfl rfl)
theorem dX0_alike_71 : decode cX0_alike 71 = .ok (.if_icmp .ge 35, 3) := dk_162 0 35 (dk_at dksX0_alike_3 0 rfl rfl)
theorem dX0_alike_74 : decode cX0_alike 74 = .ok (.iload 5, 2) := dk_21 5 (dk_at dksX0_alike_3 3 rfl rfl)
theorem dX0_alike_76 : decode cX0_alike 76 = .ok (.aload 4, 2) := dk_25 4 (dk_at dksX0_alike_3 5 rfl rfl)
theorem dX0_alike_78 : decode cX0_alike 78 = .ok (.invokevirtual 158, 3) := dk_182 0 158 (dk_at dksX0_alike_3 7 rfl rfl)
theorem dX0_alike_81 : decode cX0_alike 81 = .ok (.if_icmp .ge 25, 3) := dk_162 0 25 (dk_at dksX0_alike_3 10 rfl rfl)
theorem dX0_alike_84 : decode cX0_alike 84 = .ok (.aload_n 3, 1) := dk_45 (dk_at dksX0_alike_3 13 rfl rfl)
theorem dX0_alike_85 : decode cX0_alike 85 = .ok (.iload 5, 2) := dk_21 5 (dk_at dksX0_alike_3 14 rfl rfl)
theorem dX0_alike_87 : decode cX0_alike 87 = .ok (.invokevirtual 187, 3) := dk_182 0 187 (dk_at dksX0_alike_3 16 rfl rfl)
theorem dX0_alike_90 : decode cX0_alike 90 = .ok (.aload 4, 2) := dk_25 4 (dk_at dksX0_alike_3 19 rfl rfl)
theorem dX0_alike_92 : decode cX0_alike 92 = .ok (.iload 5, 2) := dk_21 5 (dk_at dksX0_alike_3 21 rfl rfl)
theorem dX0_alike_94 : decode cX0_alike 94 = .ok (.invokevirtual 187, 3) := dk_182 0 187 (dk_at dksX0_alike_4 0 rfl rfl)
theorem dX0_alike_97 : decode cX0_alike 97 = .ok (.if_icmp .ne 9, 3) := dk_160 0 9 (dk_at dksX0_alike_4 3 rfl rfl)
theorem dX0_alike_100 : decode cX0_alike 100 = .ok (.iinc 5 1, 3) := dk_132 5 1 (dk_at dksX0_alike_4 6 rfl rfl)
theorem dX0_alike_103 : decode cX0_alike 103 = .ok (.goto (-38), 3) := dk_167 255 218 (dk_at dksX0_alike_4 9 rfl rfl)
theorem dX0_alike_106 : decode cX0_alike 106 = .ok (.iload 5, 2) := dk_21 5 (dk_at dksX0_alike_4 12 rfl rfl)
theorem dX0_alike_108 : decode cX0_alike 108 = .ok (.ireturn, 1) := dk_172 (dk_at dksX0_alike_4 14 rfl rfl)
abbrev cX0_read : ByteArray := prog_1_method_24_code
def yX0_read : MethodName := ⟨RX0, "read", "(I)I"⟩
def dkwX0_read_6 : List UInt8 := [3, 96, 62, 132, 4, 1, 167, 255, 168, 29, 172]
abbrev dktX0_read_6 : List UInt8 := dkwX0_read_6 ++ []
def dkwX0_read_5 : List UInt8 := [182, 0, 168, 108, 54, 6, 29, 21, 5, 16, 32, 159, 0, 9, 21, 6, 27, 161, 0, 7, 4, 167, 0, 4]
abbrev dktX0_read_5 : List UInt8 := dkwX0_read_5 ++ dktX0_read_6
def dkwX0_read_4 : List UInt8 := [180, 0, 15, 180, 0, 164, 5, 46, 104, 16, 100, 104, 44, 42, 180, 0, 15, 180, 0, 164, 3, 46]
abbrev dktX0_read_4 : List UInt8 := dkwX0_read_4 ++ dktX0_read_5
def dkwX0_read_3 : List UInt8 := [44, 180, 0, 177, 154, 0, 75, 44, 182, 0, 155, 21, 4, 182, 0, 187, 54, 5, 21, 5, 184, 0, 236, 42]
abbrev dktX0_read_3 : List UInt8 := dkwX0_read_3 ++ dktX0_read_4
def dkwX0_read_2 : List UInt8 := [182, 0, 126, 192, 0, 153, 77, 3, 62, 3, 54, 4, 21, 4, 44, 182, 0, 155, 182, 0, 158, 162, 0, 82]
abbrev dktX0_read_2 : List UInt8 := dkwX0_read_2 ++ dktX0_read_3
def dkwX0_read_1 : List UInt8 := [182, 0, 218, 153, 0, 6, 18, 191, 172, 42, 180, 0, 15, 180, 0, 151, 42, 180, 0, 15, 180, 0, 184]
abbrev dktX0_read_1 : List UInt8 := dkwX0_read_1 ++ dktX0_read_2
def dkwX0_read_0 : List UInt8 := [27, 133, 10, 20, 0, 234, 184, 0, 146, 154, 0, 6, 18, 150, 172, 42, 180, 0, 15, 180, 0, 151]
abbrev dktX0_read_0 : List UInt8 := dkwX0_read_0 ++ dktX0_read_1
theorem dksX0_read_0 : cX0_read.data.toList.drop 0 = dktX0_read_0 := by decide +kernel
theorem dksX0_read_1 : cX0_read.data.toList.drop 22 = dktX0_read_1 := dk_seg dksX0_read_0 22 rfl rfl
theorem dksX0_read_2 : cX0_read.data.toList.drop 45 = dktX0_read_2 := dk_seg dksX0_read_1 23 rfl rfl
theorem dksX0_read_3 : cX0_read.data.toList.drop 69 = dktX0_read_3 := dk_seg dksX0_read_2 24 rfl rfl
theorem dksX0_read_4 : cX0_read.data.toList.drop 93 = dktX0_read_4 := dk_seg dksX0_read_3 24 rfl rfl
theorem dksX0_read_5 : cX0_read.data.toList.drop 115 = dktX0_read_5 := dk_seg dksX0_read_4 22 rfl rfl
theorem dksX0_read_6 : cX0_read.data.toList.drop 139 = dktX0_read_6 := dk_seg dksX0_read_5 24 rfl rfl
theorem dX0_read_0 : decode cX0_read 0 = .ok (.iload_n 1, 1) := dk_27 (dk_at dksX0_read_0 0 rfl rfl)
theorem dX0_read_1 : decode cX0_read 1 = .ok (.i2l, 1) := dk_133 (dk_at dksX0_read_0 1 rfl rfl)
theorem dX0_read_2 : decode cX0_read 2 = .ok (.lconst 1, 1) := dk_10 (dk_at dksX0_read_0 2 rfl rfl)
theorem dX0_read_3 : decode cX0_read 3 = .ok (.ldc2_w 234, 3) := dk_20 0 234 (dk_at dksX0_read_0 3 rfl rfl)
theorem dX0_read_6 : decode cX0_read 6 = .ok (.invokestatic 146, 3) := dk_184 0 146 (dk_at dksX0_read_0 6 rfl rfl)
theorem dX0_read_9 : decode cX0_read 9 = .ok (.ifCond .ne 6, 3) := dk_154 0 6 (dk_at dksX0_read_0 9 rfl rfl)
theorem dX0_read_12 : decode cX0_read 12 = .ok (.ldc 150, 2) := dk_18 150 (dk_at dksX0_read_0 12 rfl rfl)
theorem dX0_read_14 : decode cX0_read 14 = .ok (.ireturn, 1) := dk_172 (dk_at dksX0_read_0 14 rfl rfl)
theorem dX0_read_15 : decode cX0_read 15 = .ok (.aload_n 0, 1) := dk_42 (dk_at dksX0_read_0 15 rfl rfl)
theorem dX0_read_16 : decode cX0_read 16 = .ok (.getfield 15, 3) := dk_180 0 15 (dk_at dksX0_read_0 16 rfl rfl)
theorem dX0_read_19 : decode cX0_read 19 = .ok (.getfield 151, 3) := dk_180 0 151 (dk_at dksX0_read_0 19 rfl rfl)
theorem dX0_read_22 : decode cX0_read 22 = .ok (.invokevirtual 218, 3) := dk_182 0 218 (dk_at dksX0_read_1 0 rfl rfl)
theorem dX0_read_25 : decode cX0_read 25 = .ok (.ifCond .eq 6, 3) := dk_153 0 6 (dk_at dksX0_read_1 3 rfl rfl)
theorem dX0_read_28 : decode cX0_read 28 = .ok (.ldc 191, 2) := dk_18 191 (dk_at dksX0_read_1 6 rfl rfl)
theorem dX0_read_30 : decode cX0_read 30 = .ok (.ireturn, 1) := dk_172 (dk_at dksX0_read_1 8 rfl rfl)
theorem dX0_read_31 : decode cX0_read 31 = .ok (.aload_n 0, 1) := dk_42 (dk_at dksX0_read_1 9 rfl rfl)
theorem dX0_read_32 : decode cX0_read 32 = .ok (.getfield 15, 3) := dk_180 0 15 (dk_at dksX0_read_1 10 rfl rfl)
theorem dX0_read_35 : decode cX0_read 35 = .ok (.getfield 151, 3) := dk_180 0 151 (dk_at dksX0_read_1 13 rfl rfl)
theorem dX0_read_38 : decode cX0_read 38 = .ok (.aload_n 0, 1) := dk_42 (dk_at dksX0_read_1 16 rfl rfl)
theorem dX0_read_39 : decode cX0_read 39 = .ok (.getfield 15, 3) := dk_180 0 15 (dk_at dksX0_read_1 17 rfl rfl)
theorem dX0_read_42 : decode cX0_read 42 = .ok (.getfield 184, 3) := dk_180 0 184 (dk_at dksX0_read_1 20 rfl rfl)
theorem dX0_read_45 : decode cX0_read 45 = .ok (.invokevirtual 126, 3) := dk_182 0 126 (dk_at dksX0_read_2 0 rfl rfl)
theorem dX0_read_48 : decode cX0_read 48 = .ok (.checkcast 153, 3) := dk_192 0 153 (dk_at dksX0_read_2 3 rfl rfl)
theorem dX0_read_51 : decode cX0_read 51 = .ok (.astore_n 2, 1) := dk_77 (dk_at dksX0_read_2 6 rfl rfl)
theorem dX0_read_52 : decode cX0_read 52 = .ok (.iconst 0, 1) := dk_3 (dk_at dksX0_read_2 7 rfl rfl)
theorem dX0_read_53 : decode cX0_read 53 = .ok (.istore_n 3, 1) := dk_62 (dk_at dksX0_read_2 8 rfl rfl)
theorem dX0_read_54 : decode cX0_read 54 = .ok (.iconst 0, 1) := dk_3 (dk_at dksX0_read_2 9 rfl rfl)
theorem dX0_read_55 : decode cX0_read 55 = .ok (.istore 4, 2) := dk_54 4 (dk_at dksX0_read_2 10 rfl rfl)
theorem dX0_read_57 : decode cX0_read 57 = .ok (.iload 4, 2) := dk_21 4 (dk_at dksX0_read_2 12 rfl rfl)
theorem dX0_read_59 : decode cX0_read 59 = .ok (.aload_n 2, 1) := dk_44 (dk_at dksX0_read_2 14 rfl rfl)
theorem dX0_read_60 : decode cX0_read 60 = .ok (.invokevirtual 155, 3) := dk_182 0 155 (dk_at dksX0_read_2 15 rfl rfl)
theorem dX0_read_63 : decode cX0_read 63 = .ok (.invokevirtual 158, 3) := dk_182 0 158 (dk_at dksX0_read_2 18 rfl rfl)
theorem dX0_read_66 : decode cX0_read 66 = .ok (.if_icmp .ge 82, 3) := dk_162 0 82 (dk_at dksX0_read_2 21 rfl rfl)
theorem dX0_read_69 : decode cX0_read 69 = .ok (.aload_n 2, 1) := dk_44 (dk_at dksX0_read_3 0 rfl rfl)
theorem dX0_read_70 : decode cX0_read 70 = .ok (.getfield 177, 3) := dk_180 0 177 (dk_at dksX0_read_3 1 rfl rfl)
theorem dX0_read_73 : decode cX0_read 73 = .ok (.ifCond .ne 75, 3) := dk_154 0 75 (dk_at dksX0_read_3 4 rfl rfl)
theorem dX0_read_76 : decode cX0_read 76 = .ok (.aload_n 2, 1) := dk_44 (dk_at dksX0_read_3 7 rfl rfl)
theorem dX0_read_77 : decode cX0_read 77 = .ok (.invokevirtual 155, 3) := dk_182 0 155 (dk_at dksX0_read_3 8 rfl rfl)
theorem dX0_read_80 : decode cX0_read 80 = .ok (.iload 4, 2) := dk_21 4 (dk_at dksX0_read_3 11 rfl rfl)
theorem dX0_read_82 : decode cX0_read 82 = .ok (.invokevirtual 187, 3) := dk_182 0 187 (dk_at dksX0_read_3 13 rfl rfl)
theorem dX0_read_85 : decode cX0_read 85 = .ok (.istore 5, 2) := dk_54 5 (dk_at dksX0_read_3 16 rfl rfl)
theorem dX0_read_87 : decode cX0_read 87 = .ok (.iload 5, 2) := dk_21 5 (dk_at dksX0_read_3 18 rfl rfl)
theorem dX0_read_89 : decode cX0_read 89 = .ok (.invokestatic 236, 3) := dk_184 0 236 (dk_at dksX0_read_3 20 rfl rfl)
theorem dX0_read_92 : decode cX0_read 92 = .ok (.aload_n 0, 1) := dk_42 (dk_at dksX0_read_3 23 rfl rfl)
theorem dX0_read_93 : decode cX0_read 93 = .ok (.getfield 15, 3) := dk_180 0 15 (dk_at dksX0_read_4 0 rfl rfl)
theorem dX0_read_96 : decode cX0_read 96 = .ok (.getfield 164, 3) := dk_180 0 164 (dk_at dksX0_read_4 3 rfl rfl)
theorem dX0_read_99 : decode cX0_read 99 = .ok (.iconst 2, 1) := dk_5 (dk_at dksX0_read_4 6 rfl rfl)
theorem dX0_read_100 : decode cX0_read 100 = .ok (.iaload, 1) := dk_46 (dk_at dksX0_read_4 7 rfl rfl)
theorem dX0_read_101 : decode cX0_read 101 = .ok (.imul, 1) := dk_104 (dk_at dksX0_read_4 8 rfl rfl)
theorem dX0_read_102 : decode cX0_read 102 = .ok (.bipush 100, 2) := dk_16 100 (dk_at dksX0_read_4 9 rfl rfl)
theorem dX0_read_104 : decode cX0_read 104 = .ok (.imul, 1) := dk_104 (dk_at dksX0_read_4 11 rfl rfl)
theorem dX0_read_105 : decode cX0_read 105 = .ok (.aload_n 2, 1) := dk_44 (dk_at dksX0_read_4 12 rfl rfl)
theorem dX0_read_106 : decode cX0_read 106 = .ok (.aload_n 0, 1) := dk_42 (dk_at dksX0_read_4 13 rfl rfl)
theorem dX0_read_107 : decode cX0_read 107 = .ok (.getfield 15, 3) := dk_180 0 15 (dk_at dksX0_read_4 14 rfl rfl)
theorem dX0_read_110 : decode cX0_read 110 = .ok (.getfield 164, 3) := dk_180 0 164 (dk_at dksX0_read_4 17 rfl rfl)
theorem dX0_read_113 : decode cX0_read 113 = .ok (.iconst 0, 1) := dk_3 (dk_at dksX0_read_4 20 rfl rfl)
theorem dX0_read_114 : decode cX0_read 114 = .ok (.iaload, 1) := dk_46 (dk_at dksX0_read_4 21 rfl rfl)
theorem dX0_read_115 : decode cX0_read 115 = .ok (.invokevirtual 168, 3) := dk_182 0 168 (dk_at dksX0_read_5 0 rfl rfl)
theorem dX0_read_118 : decode cX0_read 118 = .ok (.idiv, 1) := dk_108 (dk_at dksX0_read_5 3 rfl rfl)
theorem dX0_read_119 : decode cX0_read 119 = .ok (.istore 6, 2) := dk_54 6 (dk_at dksX0_read_5 4 rfl rfl)
theorem dX0_read_121 : decode cX0_read 121 = .ok (.iload_n 3, 1) := dk_29 (dk_at dksX0_read_5 6 rfl rfl)
theorem dX0_read_122 : decode cX0_read 122 = .ok (.iload 5, 2) := dk_21 5 (dk_at dksX0_read_5 7 rfl rfl)
theorem dX0_read_124 : decode cX0_read 124 = .ok (.bipush 32, 2) := dk_16 32 (dk_at dksX0_read_5 9 rfl rfl)
theorem dX0_read_126 : decode cX0_read 126 = .ok (.if_icmp .eq 9, 3) := dk_159 0 9 (dk_at dksX0_read_5 11 rfl rfl)
theorem dX0_read_129 : decode cX0_read 129 = .ok (.iload 6, 2) := dk_21 6 (dk_at dksX0_read_5 14 rfl rfl)
theorem dX0_read_131 : decode cX0_read 131 = .ok (.iload_n 1, 1) := dk_27 (dk_at dksX0_read_5 16 rfl rfl)
theorem dX0_read_132 : decode cX0_read 132 = .ok (.if_icmp .lt 7, 3) := dk_161 0 7 (dk_at dksX0_read_5 17 rfl rfl)
theorem dX0_read_135 : decode cX0_read 135 = .ok (.iconst 1, 1) := dk_4 (dk_at dksX0_read_5 20 rfl rfl)
theorem dX0_read_136 : decode cX0_read 136 = .ok (.goto 4, 3) := dk_167 0 4 (dk_at dksX0_read_5 21 rfl rfl)
theorem dX0_read_139 : decode cX0_read 139 = .ok (.iconst 0, 1) := dk_3 (dk_at dksX0_read_6 0 rfl rfl)
theorem dX0_read_140 : decode cX0_read 140 = .ok (.iadd, 1) := dk_96 (dk_at dksX0_read_6 1 rfl rfl)
theorem dX0_read_141 : decode cX0_read 141 = .ok (.istore_n 3, 1) := dk_62 (dk_at dksX0_read_6 2 rfl rfl)
theorem dX0_read_142 : decode cX0_read 142 = .ok (.iinc 4 1, 3) := dk_132 4 1 (dk_at dksX0_read_6 3 rfl rfl)
theorem dX0_read_145 : decode cX0_read 145 = .ok (.goto (-88), 3) := dk_167 255 168 (dk_at dksX0_read_6 6 rfl rfl)
theorem dX0_read_148 : decode cX0_read 148 = .ok (.iload_n 3, 1) := dk_29 (dk_at dksX0_read_6 9 rfl rfl)
theorem dX0_read_149 : decode cX0_read 149 = .ok (.ireturn, 1) := dk_172 (dk_at dksX0_read_6 10 rfl rfl)
abbrev cX0_find : ByteArray := prog_1_method_25_code
def yX0_find : MethodName := ⟨RX0, "find", "()I"⟩
def dkwX0_find_2 : List UInt8 := [153, 0, 5, 28, 172, 132, 2, 1, 167, 255, 219, 18, 191, 172]
abbrev dktX0_find_2 : List UInt8 := dkwX0_find_2 ++ []
def dkwX0_find_1 : List UInt8 := [153, 0, 34, 45, 185, 0, 251, 1, 0, 192, 0, 153, 58, 4, 25, 4, 182, 0, 155, 43, 182, 0, 254]
abbrev dktX0_find_1 : List UInt8 := dkwX0_find_1 ++ dktX0_find_2
def dkwX0_find_0 : List UInt8 := [42, 180, 0, 31, 182, 0, 88, 76, 3, 61, 42, 180, 0, 15, 182, 0, 242, 78, 45, 185, 0, 246, 1, 0]
abbrev dktX0_find_0 : List UInt8 := dkwX0_find_0 ++ dktX0_find_1
theorem dksX0_find_0 : cX0_find.data.toList.drop 0 = dktX0_find_0 := by decide +kernel
theorem dksX0_find_1 : cX0_find.data.toList.drop 24 = dktX0_find_1 := dk_seg dksX0_find_0 24 rfl rfl
theorem dksX0_find_2 : cX0_find.data.toList.drop 47 = dktX0_find_2 := dk_seg dksX0_find_1 23 rfl rfl
theorem dX0_find_0 : decode cX0_find 0 = .ok (.aload_n 0, 1) := dk_42 (dk_at dksX0_find_0 0 rfl rfl)
theorem dX0_find_1 : decode cX0_find 1 = .ok (.getfield 31, 3) := dk_180 0 31 (dk_at dksX0_find_0 1 rfl rfl)
theorem dX0_find_4 : decode cX0_find 4 = .ok (.invokevirtual 88, 3) := dk_182 0 88 (dk_at dksX0_find_0 4 rfl rfl)
theorem dX0_find_7 : decode cX0_find 7 = .ok (.astore_n 1, 1) := dk_76 (dk_at dksX0_find_0 7 rfl rfl)
theorem dX0_find_8 : decode cX0_find 8 = .ok (.iconst 0, 1) := dk_3 (dk_at dksX0_find_0 8 rfl rfl)
theorem dX0_find_9 : decode cX0_find 9 = .ok (.istore_n 2, 1) := dk_61 (dk_at dksX0_find_0 9 rfl rfl)
theorem dX0_find_10 : decode cX0_find 10 = .ok (.aload_n 0, 1) := dk_42 (dk_at dksX0_find_0 10 rfl rfl)
theorem dX0_find_11 : decode cX0_find 11 = .ok (.getfield 15, 3) := dk_180 0 15 (dk_at dksX0_find_0 11 rfl rfl)
theorem dX0_find_14 : decode cX0_find 14 = .ok (.invokevirtual 242, 3) := dk_182 0 242 (dk_at dksX0_find_0 14 rfl rfl)
theorem dX0_find_17 : decode cX0_find 17 = .ok (.astore_n 3, 1) := dk_78 (dk_at dksX0_find_0 17 rfl rfl)
theorem dX0_find_18 : decode cX0_find 18 = .ok (.aload_n 3, 1) := dk_45 (dk_at dksX0_find_0 18 rfl rfl)
theorem dX0_find_19 : decode cX0_find 19 = .ok (.invokeinterface 246 1, 5) := by decide +kernel
theorem dX0_find_24 : decode cX0_find 24 = .ok (.ifCond .eq 34, 3) := dk_153 0 34 (dk_at dksX0_find_1 0 rfl rfl)
theorem dX0_find_27 : decode cX0_find 27 = .ok (.aload_n 3, 1) := dk_45 (dk_at dksX0_find_1 3 rfl rfl)
theorem dX0_find_28 : decode cX0_find 28 = .ok (.invokeinterface 251 1, 5) := by decide +kernel
theorem dX0_find_33 : decode cX0_find 33 = .ok (.checkcast 153, 3) := dk_192 0 153 (dk_at dksX0_find_1 9 rfl rfl)
theorem dX0_find_36 : decode cX0_find 36 = .ok (.astore 4, 2) := dk_58 4 (dk_at dksX0_find_1 12 rfl rfl)
theorem dX0_find_38 : decode cX0_find 38 = .ok (.aload 4, 2) := dk_25 4 (dk_at dksX0_find_1 14 rfl rfl)
theorem dX0_find_40 : decode cX0_find 40 = .ok (.invokevirtual 155, 3) := dk_182 0 155 (dk_at dksX0_find_1 16 rfl rfl)
theorem dX0_find_43 : decode cX0_find 43 = .ok (.aload_n 1, 1) := dk_43 (dk_at dksX0_find_1 19 rfl rfl)
theorem dX0_find_44 : decode cX0_find 44 = .ok (.invokevirtual 254, 3) := dk_182 0 254 (dk_at dksX0_find_1 20 rfl rfl)
theorem dX0_find_47 : decode cX0_find 47 = .ok (.ifCond .eq 5, 3) := dk_153 0 5 (dk_at dksX0_find_2 0 rfl rfl)
theorem dX0_find_50 : decode cX0_find 50 = .ok (.iload_n 2, 1) := dk_28 (dk_at dksX0_find_2 3 rfl rfl)
theorem dX0_find_51 : decode cX0_find 51 = .ok (.ireturn, 1) := dk_172 (dk_at dksX0_find_2 4 rfl rfl)
theorem dX0_find_52 : decode cX0_find 52 = .ok (.iinc 2 1, 3) := dk_132 2 1 (dk_at dksX0_find_2 5 rfl rfl)
theorem dX0_find_55 : decode cX0_find 55 = .ok (.goto (-37), 3) := dk_167 255 219 (dk_at dksX0_find_2 8 rfl rfl)
theorem dX0_find_58 : decode cX0_find 58 = .ok (.ldc 191, 2) := dk_18 191 (dk_at dksX0_find_2 11 rfl rfl)
theorem dX0_find_60 : decode cX0_find 60 = .ok (.ireturn, 1) := dk_172 (dk_at dksX0_find_2 13 rfl rfl)
abbrev cX0_mean : ByteArray := prog_1_method_26_code
def yX0_mean : MethodName := ⟨RX0, "mean", "()I"⟩
def dkwX0_mean_3 : List UInt8 := [184, 1, 2, 172]
abbrev dktX0_mean_3 : List UInt8 := dkwX0_mean_3 ++ []
def dkwX0_mean_2 : List UInt8 := [182, 0, 161, 96, 61, 167, 255, 228, 27, 154, 0, 8, 18, 191, 167, 0, 11, 28, 134, 27, 134, 110]
abbrev dktX0_mean_2 : List UInt8 := dkwX0_mean_2 ++ dktX0_mean_3
def dkwX0_mean_1 : List UInt8 := [185, 0, 246, 1, 0, 153, 0, 25, 45, 185, 0, 251, 1, 0, 192, 0, 153, 58, 4, 28, 25, 4]
abbrev dktX0_mean_1 : List UInt8 := dkwX0_mean_1 ++ dktX0_mean_2
def dkwX0_mean_0 : List UInt8 := [42, 180, 0, 15, 180, 0, 151, 182, 0, 123, 60, 3, 61, 42, 180, 0, 15, 182, 0, 242, 78, 45]
abbrev dktX0_mean_0 : List UInt8 := dkwX0_mean_0 ++ dktX0_mean_1
theorem dksX0_mean_0 : cX0_mean.data.toList.drop 0 = dktX0_mean_0 := by decide +kernel
theorem dksX0_mean_1 : cX0_mean.data.toList.drop 22 = dktX0_mean_1 := dk_seg dksX0_mean_0 22 rfl rfl
theorem dksX0_mean_2 : cX0_mean.data.toList.drop 44 = dktX0_mean_2 := dk_seg dksX0_mean_1 22 rfl rfl
theorem dksX0_mean_3 : cX0_mean.data.toList.drop 66 = dktX0_mean_3 := dk_seg dksX0_mean_2 22 rfl rfl
theorem dX0_mean_0 : decode cX0_mean 0 = .ok (.aload_n 0, 1) := dk_42 (dk_at dksX0_mean_0 0 rfl rfl)
theorem dX0_mean_1 : decode cX0_mean 1 = .ok (.getfield 15, 3) := dk_180 0 15 (dk_at dksX0_mean_0 1 rfl rfl)
theorem dX0_mean_4 : decode cX0_mean 4 = .ok (.getfield 151, 3) := dk_180 0 151 (dk_at dksX0_mean_0 4 rfl rfl)
theorem dX0_mean_7 : decode cX0_mean 7 = .ok (.invokevirtual 123, 3) := dk_182 0 123 (dk_at dksX0_mean_0 7 rfl rfl)
theorem dX0_mean_10 : decode cX0_mean 10 = .ok (.istore_n 1, 1) := dk_60 (dk_at dksX0_mean_0 10 rfl rfl)
theorem dX0_mean_11 : decode cX0_mean 11 = .ok (.iconst 0, 1) := dk_3 (dk_at dksX0_mean_0 11 rfl rfl)
theorem dX0_mean_12 : decode cX0_mean 12 = .ok (.istore_n 2, 1) := dk_61 (dk_at dksX0_mean_0 12 rfl rfl)
theorem dX0_mean_13 : decode cX0_mean 13 = .ok (.aload_n 0, 1) := dk_42 (dk_at dksX0_mean_0 13 rfl rfl)
theorem dX0_mean_14 : decode cX0_mean 14 = .ok (.getfield 15, 3) := dk_180 0 15 (dk_at dksX0_mean_0 14 rfl rfl)
theorem dX0_mean_17 : decode cX0_mean 17 = .ok (.invokevirtual 242, 3) := dk_182 0 242 (dk_at dksX0_mean_0 17 rfl rfl)
theorem dX0_mean_20 : decode cX0_mean 20 = .ok (.astore_n 3, 1) := dk_78 (dk_at dksX0_mean_0 20 rfl rfl)
theorem dX0_mean_21 : decode cX0_mean 21 = .ok (.aload_n 3, 1) := dk_45 (dk_at dksX0_mean_0 21 rfl rfl)
theorem dX0_mean_22 : decode cX0_mean 22 = .ok (.invokeinterface 246 1, 5) := by decide +kernel
theorem dX0_mean_27 : decode cX0_mean 27 = .ok (.ifCond .eq 25, 3) := dk_153 0 25 (dk_at dksX0_mean_1 5 rfl rfl)
theorem dX0_mean_30 : decode cX0_mean 30 = .ok (.aload_n 3, 1) := dk_45 (dk_at dksX0_mean_1 8 rfl rfl)
theorem dX0_mean_31 : decode cX0_mean 31 = .ok (.invokeinterface 251 1, 5) := by decide +kernel
theorem dX0_mean_36 : decode cX0_mean 36 = .ok (.checkcast 153, 3) := dk_192 0 153 (dk_at dksX0_mean_1 14 rfl rfl)
theorem dX0_mean_39 : decode cX0_mean 39 = .ok (.astore 4, 2) := dk_58 4 (dk_at dksX0_mean_1 17 rfl rfl)
theorem dX0_mean_41 : decode cX0_mean 41 = .ok (.iload_n 2, 1) := dk_28 (dk_at dksX0_mean_1 19 rfl rfl)
theorem dX0_mean_42 : decode cX0_mean 42 = .ok (.aload 4, 2) := dk_25 4 (dk_at dksX0_mean_1 20 rfl rfl)
theorem dX0_mean_44 : decode cX0_mean 44 = .ok (.invokevirtual 161, 3) := dk_182 0 161 (dk_at dksX0_mean_2 0 rfl rfl)
theorem dX0_mean_47 : decode cX0_mean 47 = .ok (.iadd, 1) := dk_96 (dk_at dksX0_mean_2 3 rfl rfl)
theorem dX0_mean_48 : decode cX0_mean 48 = .ok (.istore_n 2, 1) := dk_61 (dk_at dksX0_mean_2 4 rfl rfl)
theorem dX0_mean_49 : decode cX0_mean 49 = .ok (.goto (-28), 3) := dk_167 255 228 (dk_at dksX0_mean_2 5 rfl rfl)
theorem dX0_mean_52 : decode cX0_mean 52 = .ok (.iload_n 1, 1) := dk_27 (dk_at dksX0_mean_2 8 rfl rfl)
theorem dX0_mean_53 : decode cX0_mean 53 = .ok (.ifCond .ne 8, 3) := dk_154 0 8 (dk_at dksX0_mean_2 9 rfl rfl)
theorem dX0_mean_56 : decode cX0_mean 56 = .ok (.ldc 191, 2) := dk_18 191 (dk_at dksX0_mean_2 12 rfl rfl)
theorem dX0_mean_58 : decode cX0_mean 58 = .ok (.goto 11, 3) := dk_167 0 11 (dk_at dksX0_mean_2 14 rfl rfl)
theorem dX0_mean_61 : decode cX0_mean 61 = .ok (.iload_n 2, 1) := dk_28 (dk_at dksX0_mean_2 17 rfl rfl)
theorem dX0_mean_62 : decode cX0_mean 62 = .ok (.i2f, 1) := dk_134 (dk_at dksX0_mean_2 18 rfl rfl)
theorem dX0_mean_63 : decode cX0_mean 63 = .ok (.iload_n 1, 1) := dk_27 (dk_at dksX0_mean_2 19 rfl rfl)
theorem dX0_mean_64 : decode cX0_mean 64 = .ok (.i2f, 1) := dk_134 (dk_at dksX0_mean_2 20 rfl rfl)
theorem dX0_mean_65 : decode cX0_mean 65 = .ok (.fdiv, 1) := dk_110 (dk_at dksX0_mean_2 21 rfl rfl)
theorem dX0_mean_66 : decode cX0_mean 66 = .ok (.invokestatic 258, 3) := dk_184 1 2 (dk_at dksX0_mean_3 0 rfl rfl)
theorem dX0_mean_69 : decode cX0_mean 69 = .ok (.ireturn, 1) := dk_172 (dk_at dksX0_mean_3 3 rfl rfl)
abbrev cX0_count : ByteArray := prog_1_method_30_code
def yX0_count : MethodName := ⟨RX0, "count", "(I)I"⟩
def dkwX0_count_7 : List UInt8 := [46, 167, 0, 5, 18, 150, 172]
abbrev dktX0_count_7 : List UInt8 := dkwX0_count_7 ++ []
def dkwX0_count_6 : List UInt8 := [133, 20, 1, 32, 20, 1, 34, 184, 0, 146, 153, 0, 18, 42, 180, 0, 15, 180, 0, 164, 27, 16, 20, 100]
abbrev dktX0_count_6 : List UInt8 := dkwX0_count_6 ++ dktX0_count_7
def dkwX0_count_5 : List UInt8 := [180, 1, 28, 184, 1, 19, 172, 42, 180, 0, 24, 182, 0, 39, 172, 42, 180, 0, 31, 182, 1, 31, 172, 27]
abbrev dktX0_count_5 : List UInt8 := dkwX0_count_5 ++ dktX0_count_6
def dkwX0_count_4 : List UInt8 := [182, 0, 123, 172, 42, 180, 0, 15, 180, 1, 28, 2, 159, 0, 7, 4, 167, 0, 4, 3, 42, 180, 0, 15]
abbrev dktX0_count_4 : List UInt8 := dkwX0_count_4 ++ dktX0_count_5
def dkwX0_count_3 : List UInt8 := [4, 167, 0, 4, 3, 42, 180, 0, 15, 180, 0, 184, 184, 1, 19, 172, 42, 180, 0, 15, 180, 0, 119]
abbrev dktX0_count_3 : List UInt8 := dkwX0_count_3 ++ dktX0_count_4
def dkwX0_count_2 : List UInt8 := [42, 180, 0, 15, 180, 0, 151, 182, 0, 123, 172, 42, 180, 0, 15, 180, 0, 151, 182, 0, 218, 154, 0, 7]
abbrev dktX0_count_2 : List UInt8 := dkwX0_count_2 ++ dktX0_count_3
def dkwX0_count_1 : List UInt8 := [170, 0, 0, 0, 0, 0, 161, 0, 0, 0, 0, 0, 0, 0, 12, 0, 0, 0, 67, 0, 0, 0, 78, 0, 0, 0, 107, 0, 0, 0, 118, 0, 0, 0, 161, 0, 0, 0, 161, 0, 0, 0, 161, 0, 0, 0, 161, 0, 0, 0, 161, 0, 0, 0, 161, 0, 0, 0, 161, 0, 0, 0, 145, 0, 0, 0, 153]
abbrev dktX0_count_1 : List UInt8 := dkwX0_count_1 ++ dktX0_count_2
def dkwX0_count_0 : List UInt8 := [27, 133, 20, 0, 195, 20, 1, 23, 184, 0, 146, 153, 0, 9, 42, 27, 182, 1, 25, 172, 27]
abbrev dktX0_count_0 : List UInt8 := dkwX0_count_0 ++ dktX0_count_1
theorem dksX0_count_0 : cX0_count.data.toList.drop 0 = dktX0_count_0 := by decide +kernel
theorem dksX0_count_1 : cX0_count.data.toList.drop 21 = dktX0_count_1 := dk_seg dksX0_count_0 21 rfl rfl
theorem dksX0_count_2 : cX0_count.data.toList.drop 88 = dktX0_count_2 := dk_seg dksX0_count_1 67 rfl rfl
theorem dksX0_count_3 : cX0_count.data.toList.drop 112 = dktX0_count_3 := dk_seg dksX0_count_2 24 rfl rfl
theorem dksX0_count_4 : cX0_count.data.toList.drop 135 = dktX0_count_4 := dk_seg dksX0_count_3 23 rfl rfl
theorem dksX0_count_5 : cX0_count.data.toList.drop 159 = dktX0_count_5 := dk_seg dksX0_count_4 24 rfl rfl
theorem dksX0_count_6 : cX0_count.data.toList.drop 183 = dktX0_count_6 := dk_seg dksX0_count_5 24 rfl rfl
theorem dksX0_count_7 : cX0_count.data.toList.drop 207 = dktX0_count_7 := dk_seg dksX0_count_6 24 rfl rfl
theorem dX0_count_0 : decode cX0_count 0 = .ok (.iload_n 1, 1) := dk_27 (dk_at dksX0_count_0 0 rfl rfl)
theorem dX0_count_1 : decode cX0_count 1 = .ok (.i2l, 1) := dk_133 (dk_at dksX0_count_0 1 rfl rfl)
theorem dX0_count_2 : decode cX0_count 2 = .ok (.ldc2_w 195, 3) := dk_20 0 195 (dk_at dksX0_count_0 2 rfl rfl)
theorem dX0_count_5 : decode cX0_count 5 = .ok (.ldc2_w 279, 3) := dk_20 1 23 (dk_at dksX0_count_0 5 rfl rfl)
theorem dX0_count_8 : decode cX0_count 8 = .ok (.invokestatic 146, 3) := dk_184 0 146 (dk_at dksX0_count_0 8 rfl rfl)
theorem dX0_count_11 : decode cX0_count 11 = .ok (.ifCond .eq 9, 3) := dk_153 0 9 (dk_at dksX0_count_0 11 rfl rfl)
theorem dX0_count_14 : decode cX0_count 14 = .ok (.aload_n 0, 1) := dk_42 (dk_at dksX0_count_0 14 rfl rfl)
theorem dX0_count_15 : decode cX0_count 15 = .ok (.iload_n 1, 1) := dk_27 (dk_at dksX0_count_0 15 rfl rfl)
theorem dX0_count_16 : decode cX0_count 16 = .ok (.invokevirtual 281, 3) := dk_182 1 25 (dk_at dksX0_count_0 16 rfl rfl)
theorem dX0_count_19 : decode cX0_count 19 = .ok (.ireturn, 1) := dk_172 (dk_at dksX0_count_0 19 rfl rfl)
theorem dX0_count_20 : decode cX0_count 20 = .ok (.iload_n 1, 1) := dk_27 (dk_at dksX0_count_0 20 rfl rfl)
theorem dX0_count_21 : decode cX0_count 21 = .ok (.tableswitch 161 0 12 #[67, 78, 107, 118, 161, 161, 161, 161, 161, 161, 161, 145, 153], 67) := by decide +kernel
theorem dX0_count_88 : decode cX0_count 88 = .ok (.aload_n 0, 1) := dk_42 (dk_at dksX0_count_2 0 rfl rfl)
theorem dX0_count_89 : decode cX0_count 89 = .ok (.getfield 15, 3) := dk_180 0 15 (dk_at dksX0_count_2 1 rfl rfl)
theorem dX0_count_92 : decode cX0_count 92 = .ok (.getfield 151, 3) := dk_180 0 151 (dk_at dksX0_count_2 4 rfl rfl)
theorem dX0_count_95 : decode cX0_count 95 = .ok (.invokevirtual 123, 3) := dk_182 0 123 (dk_at dksX0_count_2 7 rfl rfl)
theorem dX0_count_98 : decode cX0_count 98 = .ok (.ireturn, 1) := dk_172 (dk_at dksX0_count_2 10 rfl rfl)
theorem dX0_count_99 : decode cX0_count 99 = .ok (.aload_n 0, 1) := dk_42 (dk_at dksX0_count_2 11 rfl rfl)
theorem dX0_count_100 : decode cX0_count 100 = .ok (.getfield 15, 3) := dk_180 0 15 (dk_at dksX0_count_2 12 rfl rfl)
theorem dX0_count_103 : decode cX0_count 103 = .ok (.getfield 151, 3) := dk_180 0 151 (dk_at dksX0_count_2 15 rfl rfl)
theorem dX0_count_106 : decode cX0_count 106 = .ok (.invokevirtual 218, 3) := dk_182 0 218 (dk_at dksX0_count_2 18 rfl rfl)
theorem dX0_count_109 : decode cX0_count 109 = .ok (.ifCond .ne 7, 3) := dk_154 0 7 (dk_at dksX0_count_2 21 rfl rfl)
theorem dX0_count_112 : decode cX0_count 112 = .ok (.iconst 1, 1) := dk_4 (dk_at dksX0_count_3 0 rfl rfl)
theorem dX0_count_113 : decode cX0_count 113 = .ok (.goto 4, 3) := dk_167 0 4 (dk_at dksX0_count_3 1 rfl rfl)
theorem dX0_count_116 : decode cX0_count 116 = .ok (.iconst 0, 1) := dk_3 (dk_at dksX0_count_3 4 rfl rfl)
theorem dX0_count_117 : decode cX0_count 117 = .ok (.aload_n 0, 1) := dk_42 (dk_at dksX0_count_3 5 rfl rfl)
theorem dX0_count_118 : decode cX0_count 118 = .ok (.getfield 15, 3) := dk_180 0 15 (dk_at dksX0_count_3 6 rfl rfl)
theorem dX0_count_121 : decode cX0_count 121 = .ok (.getfield 184, 3) := dk_180 0 184 (dk_at dksX0_count_3 9 rfl rfl)
theorem dX0_count_124 : decode cX0_count 124 = .ok (.invokestatic 275, 3) := dk_184 1 19 (dk_at dksX0_count_3 12 rfl rfl)
theorem dX0_count_127 : decode cX0_count 127 = .ok (.ireturn, 1) := dk_172 (dk_at dksX0_count_3 15 rfl rfl)
theorem dX0_count_128 : decode cX0_count 128 = .ok (.aload_n 0, 1) := dk_42 (dk_at dksX0_count_3 16 rfl rfl)
theorem dX0_count_129 : decode cX0_count 129 = .ok (.getfield 15, 3) := dk_180 0 15 (dk_at dksX0_count_3 17 rfl rfl)
theorem dX0_count_132 : decode cX0_count 132 = .ok (.getfield 119, 3) := dk_180 0 119 (dk_at dksX0_count_3 20 rfl rfl)
theorem dX0_count_135 : decode cX0_count 135 = .ok (.invokevirtual 123, 3) := dk_182 0 123 (dk_at dksX0_count_4 0 rfl rfl)
theorem dX0_count_138 : decode cX0_count 138 = .ok (.ireturn, 1) := dk_172 (dk_at dksX0_count_4 3 rfl rfl)
theorem dX0_count_139 : decode cX0_count 139 = .ok (.aload_n 0, 1) := dk_42 (dk_at dksX0_count_4 4 rfl rfl)
theorem dX0_count_140 : decode cX0_count 140 = .ok (.getfield 15, 3) := dk_180 0 15 (dk_at dksX0_count_4 5 rfl rfl)
theorem dX0_count_143 : decode cX0_count 143 = .ok (.getfield 284, 3) := dk_180 1 28 (dk_at dksX0_count_4 8 rfl rfl)
theorem dX0_count_146 : decode cX0_count 146 = .ok (.iconst (-1), 1) := dk_2 (dk_at dksX0_count_4 11 rfl rfl)
theorem dX0_count_147 : decode cX0_count 147 = .ok (.if_icmp .eq 7, 3) := dk_159 0 7 (dk_at dksX0_count_4 12 rfl rfl)
theorem dX0_count_150 : decode cX0_count 150 = .ok (.iconst 1, 1) := dk_4 (dk_at dksX0_count_4 15 rfl rfl)
theorem dX0_count_151 : decode cX0_count 151 = .ok (.goto 4, 3) := dk_167 0 4 (dk_at dksX0_count_4 16 rfl rfl)
theorem dX0_count_154 : decode cX0_count 154 = .ok (.iconst 0, 1) := dk_3 (dk_at dksX0_count_4 19 rfl rfl)
theorem dX0_count_155 : decode cX0_count 155 = .ok (.aload_n 0, 1) := dk_42 (dk_at dksX0_count_4 20 rfl rfl)
theorem dX0_count_156 : decode cX0_count 156 = .ok (.getfield 15, 3) := dk_180 0 15 (dk_at dksX0_count_4 21 rfl rfl)
theorem dX0_count_159 : decode cX0_count 159 = .ok (.getfield 284, 3) := dk_180 1 28 (dk_at dksX0_count_5 0 rfl rfl)
theorem dX0_count_162 : decode cX0_count 162 = .ok (.invokestatic 275, 3) := dk_184 1 19 (dk_at dksX0_count_5 3 rfl rfl)
theorem dX0_count_165 : decode cX0_count 165 = .ok (.ireturn, 1) := dk_172 (dk_at dksX0_count_5 6 rfl rfl)
theorem dX0_count_166 : decode cX0_count 166 = .ok (.aload_n 0, 1) := dk_42 (dk_at dksX0_count_5 7 rfl rfl)
theorem dX0_count_167 : decode cX0_count 167 = .ok (.getfield 24, 3) := dk_180 0 24 (dk_at dksX0_count_5 8 rfl rfl)
theorem dX0_count_170 : decode cX0_count 170 = .ok (.invokevirtual 39, 3) := dk_182 0 39 (dk_at dksX0_count_5 11 rfl rfl)
theorem dX0_count_173 : decode cX0_count 173 = .ok (.ireturn, 1) := dk_172 (dk_at dksX0_count_5 14 rfl rfl)
theorem dX0_count_174 : decode cX0_count 174 = .ok (.aload_n 0, 1) := dk_42 (dk_at dksX0_count_5 15 rfl rfl)
theorem dX0_count_175 : decode cX0_count 175 = .ok (.getfield 31, 3) := dk_180 0 31 (dk_at dksX0_count_5 16 rfl rfl)
theorem dX0_count_178 : decode cX0_count 178 = .ok (.invokevirtual 287, 3) := dk_182 1 31 (dk_at dksX0_count_5 19 rfl rfl)
theorem dX0_count_181 : decode cX0_count 181 = .ok (.ireturn, 1) := dk_172 (dk_at dksX0_count_5 22 rfl rfl)
theorem dX0_count_182 : decode cX0_count 182 = .ok (.iload_n 1, 1) := dk_27 (dk_at dksX0_count_5 23 rfl rfl)
theorem dX0_count_183 : decode cX0_count 183 = .ok (.i2l, 1) := dk_133 (dk_at dksX0_count_6 0 rfl rfl)
theorem dX0_count_184 : decode cX0_count 184 = .ok (.ldc2_w 288, 3) := dk_20 1 32 (dk_at dksX0_count_6 1 rfl rfl)
theorem dX0_count_187 : decode cX0_count 187 = .ok (.ldc2_w 290, 3) := dk_20 1 34 (dk_at dksX0_count_6 4 rfl rfl)
theorem dX0_count_190 : decode cX0_count 190 = .ok (.invokestatic 146, 3) := dk_184 0 146 (dk_at dksX0_count_6 7 rfl rfl)
theorem dX0_count_193 : decode cX0_count 193 = .ok (.ifCond .eq 18, 3) := dk_153 0 18 (dk_at dksX0_count_6 10 rfl rfl)
theorem dX0_count_196 : decode cX0_count 196 = .ok (.aload_n 0, 1) := dk_42 (dk_at dksX0_count_6 13 rfl rfl)
theorem dX0_count_197 : decode cX0_count 197 = .ok (.getfield 15, 3) := dk_180 0 15 (dk_at dksX0_count_6 14 rfl rfl)
theorem dX0_count_200 : decode cX0_count 200 = .ok (.getfield 164, 3) := dk_180 0 164 (dk_at dksX0_count_6 17 rfl rfl)
theorem dX0_count_203 : decode cX0_count 203 = .ok (.iload_n 1, 1) := dk_27 (dk_at dksX0_count_6 20 rfl rfl)
theorem dX0_count_204 : decode cX0_count 204 = .ok (.bipush 20, 2) := dk_16 20 (dk_at dksX0_count_6 21 rfl rfl)
theorem dX0_count_206 : decode cX0_count 206 = .ok (.isub, 1) := dk_100 (dk_at dksX0_count_6 23 rfl rfl)
theorem dX0_count_207 : decode cX0_count 207 = .ok (.iaload, 1) := dk_46 (dk_at dksX0_count_7 0 rfl rfl)
theorem dX0_count_208 : decode cX0_count 208 = .ok (.goto 5, 3) := dk_167 0 5 (dk_at dksX0_count_7 1 rfl rfl)
theorem dX0_count_211 : decode cX0_count 211 = .ok (.ldc 150, 2) := dk_18 150 (dk_at dksX0_count_7 4 rfl rfl)
theorem dX0_count_213 : decode cX0_count 213 = .ok (.ireturn, 1) := dk_172 (dk_at dksX0_count_7 6 rfl rfl)
abbrev cX0_ofBlind : ByteArray := prog_1_method_29_code
def yX0_ofBlind : MethodName := ⟨RX0, "ofBlind", "(I)I"⟩
def dkwX0_ofBlind_5 : List UInt8 := [3, 42, 182, 1, 16, 184, 1, 19, 172]
abbrev dktX0_ofBlind_5 : List UInt8 := dkwX0_ofBlind_5 ++ []
def dkwX0_ofBlind_4 : List UInt8 := [180, 0, 184, 182, 0, 231, 172, 42, 180, 0, 15, 180, 0, 151, 182, 0, 218, 154, 0, 7, 4, 167, 0, 4]
abbrev dktX0_ofBlind_4 : List UInt8 := dkwX0_ofBlind_4 ++ dktX0_ofBlind_5
def dkwX0_ofBlind_3 : List UInt8 := [42, 180, 0, 15, 180, 1, 14, 172, 42, 180, 0, 15, 180, 1, 15, 172, 42, 180, 0, 15, 42, 180, 0, 15]
abbrev dktX0_ofBlind_3 : List UInt8 := dkwX0_ofBlind_3 ++ dktX0_ofBlind_4
def dkwX0_ofBlind_2 : List UInt8 := [42, 180, 0, 15, 182, 0, 203, 172, 42, 180, 0, 15, 180, 1, 8, 172, 42, 180, 0, 15, 180, 1, 11, 172]
abbrev dktX0_ofBlind_2 : List UInt8 := dkwX0_ofBlind_2 ++ dktX0_ofBlind_3
def dkwX0_ofBlind_1 : List UInt8 := [170, 0, 0, 0, 0, 0, 94, 0, 0, 0, 4, 0, 0, 0, 9, 0, 0, 0, 39, 0, 0, 0, 47, 0, 0, 0, 55, 0, 0, 0, 63, 0, 0, 0, 71, 0, 0, 0, 79]
abbrev dktX0_ofBlind_1 : List UInt8 := dkwX0_ofBlind_1 ++ dktX0_ofBlind_2
def dkwX0_ofBlind_0 : List UInt8 := [27]
abbrev dktX0_ofBlind_0 : List UInt8 := dkwX0_ofBlind_0 ++ dktX0_ofBlind_1
theorem dksX0_ofBlind_0 : cX0_ofBlind.data.toList.drop 0 = dktX0_ofBlind_0 := by decide +kernel
theorem dksX0_ofBlind_1 : cX0_ofBlind.data.toList.drop 1 = dktX0_ofBlind_1 := dk_seg dksX0_ofBlind_0 1 rfl rfl
theorem dksX0_ofBlind_2 : cX0_ofBlind.data.toList.drop 40 = dktX0_ofBlind_2 := dk_seg dksX0_ofBlind_1 39 rfl rfl
theorem dksX0_ofBlind_3 : cX0_ofBlind.data.toList.drop 64 = dktX0_ofBlind_3 := dk_seg dksX0_ofBlind_2 24 rfl rfl
theorem dksX0_ofBlind_4 : cX0_ofBlind.data.toList.drop 88 = dktX0_ofBlind_4 := dk_seg dksX0_ofBlind_3 24 rfl rfl
theorem dksX0_ofBlind_5 : cX0_ofBlind.data.toList.drop 112 = dktX0_ofBlind_5 := dk_seg dksX0_ofBlind_4 24 rfl rfl
theorem dX0_ofBlind_0 : decode cX0_ofBlind 0 = .ok (.iload_n 1, 1) := dk_27 (dk_at dksX0_ofBlind_0 0 rfl rfl)
theorem dX0_ofBlind_1 : decode cX0_ofBlind 1 = .ok (.tableswitch 94 4 9 #[39, 47, 55, 63, 71, 79], 39) := by decide +kernel
theorem dX0_ofBlind_40 : decode cX0_ofBlind 40 = .ok (.aload_n 0, 1) := dk_42 (dk_at dksX0_ofBlind_2 0 rfl rfl)
theorem dX0_ofBlind_41 : decode cX0_ofBlind 41 = .ok (.getfield 15, 3) := dk_180 0 15 (dk_at dksX0_ofBlind_2 1 rfl rfl)
theorem dX0_ofBlind_44 : decode cX0_ofBlind 44 = .ok (.invokevirtual 203, 3) := dk_182 0 203 (dk_at dksX0_ofBlind_2 4 rfl rfl)
theorem dX0_ofBlind_47 : decode cX0_ofBlind 47 = .ok (.ireturn, 1) := dk_172 (dk_at dksX0_ofBlind_2 7 rfl rfl)
theorem dX0_ofBlind_48 : decode cX0_ofBlind 48 = .ok (.aload_n 0, 1) := dk_42 (dk_at dksX0_ofBlind_2 8 rfl rfl)
theorem dX0_ofBlind_49 : decode cX0_ofBlind 49 = .ok (.getfield 15, 3) := dk_180 0 15 (dk_at dksX0_ofBlind_2 9 rfl rfl)
theorem dX0_ofBlind_52 : decode cX0_ofBlind 52 = .ok (.getfield 264, 3) := dk_180 1 8 (dk_at dksX0_ofBlind_2 12 rfl rfl)
theorem dX0_ofBlind_55 : decode cX0_ofBlind 55 = .ok (.ireturn, 1) := dk_172 (dk_at dksX0_ofBlind_2 15 rfl rfl)
theorem dX0_ofBlind_56 : decode cX0_ofBlind 56 = .ok (.aload_n 0, 1) := dk_42 (dk_at dksX0_ofBlind_2 16 rfl rfl)
theorem dX0_ofBlind_57 : decode cX0_ofBlind 57 = .ok (.getfield 15, 3) := dk_180 0 15 (dk_at dksX0_ofBlind_2 17 rfl rfl)
theorem dX0_ofBlind_60 : decode cX0_ofBlind 60 = .ok (.getfield 267, 3) := dk_180 1 11 (dk_at dksX0_ofBlind_2 20 rfl rfl)
theorem dX0_ofBlind_63 : decode cX0_ofBlind 63 = .ok (.ireturn, 1) := dk_172 (dk_at dksX0_ofBlind_2 23 rfl rfl)
theorem dX0_ofBlind_64 : decode cX0_ofBlind 64 = .ok (.aload_n 0, 1) := dk_42 (dk_at dksX0_ofBlind_3 0 rfl rfl)
theorem dX0_ofBlind_65 : decode cX0_ofBlind 65 = .ok (.getfield 15, 3) := dk_180 0 15 (dk_at dksX0_ofBlind_3 1 rfl rfl)
theorem dX0_ofBlind_68 : decode cX0_ofBlind 68 = .ok (.getfield 270, 3) := dk_180 1 14 (dk_at dksX0_ofBlind_3 4 rfl rfl)
theorem dX0_ofBlind_71 : decode cX0_ofBlind 71 = .ok (.ireturn, 1) := dk_172 (dk_at dksX0_ofBlind_3 7 rfl rfl)
theorem dX0_ofBlind_72 : decode cX0_ofBlind 72 = .ok (.aload_n 0, 1) := dk_42 (dk_at dksX0_ofBlind_3 8 rfl rfl)
theorem dX0_ofBlind_73 : decode cX0_ofBlind 73 = .ok (.getfield 15, 3) := dk_180 0 15 (dk_at dksX0_ofBlind_3 9 rfl rfl)
theorem dX0_ofBlind_76 : decode cX0_ofBlind 76 = .ok (.getfield 271, 3) := dk_180 1 15 (dk_at dksX0_ofBlind_3 12 rfl rfl)
theorem dX0_ofBlind_79 : decode cX0_ofBlind 79 = .ok (.ireturn, 1) := dk_172 (dk_at dksX0_ofBlind_3 15 rfl rfl)
theorem dX0_ofBlind_80 : decode cX0_ofBlind 80 = .ok (.aload_n 0, 1) := dk_42 (dk_at dksX0_ofBlind_3 16 rfl rfl)
theorem dX0_ofBlind_81 : decode cX0_ofBlind 81 = .ok (.getfield 15, 3) := dk_180 0 15 (dk_at dksX0_ofBlind_3 17 rfl rfl)
theorem dX0_ofBlind_84 : decode cX0_ofBlind 84 = .ok (.aload_n 0, 1) := dk_42 (dk_at dksX0_ofBlind_3 20 rfl rfl)
theorem dX0_ofBlind_85 : decode cX0_ofBlind 85 = .ok (.getfield 15, 3) := dk_180 0 15 (dk_at dksX0_ofBlind_3 21 rfl rfl)
theorem dX0_ofBlind_88 : decode cX0_ofBlind 88 = .ok (.getfield 184, 3) := dk_180 0 184 (dk_at dksX0_ofBlind_4 0 rfl rfl)
theorem dX0_ofBlind_91 : decode cX0_ofBlind 91 = .ok (.invokevirtual 231, 3) := dk_182 0 231 (dk_at dksX0_ofBlind_4 3 rfl rfl)
theorem dX0_ofBlind_94 : decode cX0_ofBlind 94 = .ok (.ireturn, 1) := dk_172 (dk_at dksX0_ofBlind_4 6 rfl rfl)
theorem dX0_ofBlind_95 : decode cX0_ofBlind 95 = .ok (.aload_n 0, 1) := dk_42 (dk_at dksX0_ofBlind_4 7 rfl rfl)
theorem dX0_ofBlind_96 : decode cX0_ofBlind 96 = .ok (.getfield 15, 3) := dk_180 0 15 (dk_at dksX0_ofBlind_4 8 rfl rfl)
theorem dX0_ofBlind_99 : decode cX0_ofBlind 99 = .ok (.getfield 151, 3) := dk_180 0 151 (dk_at dksX0_ofBlind_4 11 rfl rfl)
theorem dX0_ofBlind_102 : decode cX0_ofBlind 102 = .ok (.invokevirtual 218, 3) := dk_182 0 218 (dk_at dksX0_ofBlind_4 14 rfl rfl)
theorem dX0_ofBlind_105 : decode cX0_ofBlind 105 = .ok (.ifCond .ne 7, 3) := dk_154 0 7 (dk_at dksX0_ofBlind_4 17 rfl rfl)
theorem dX0_ofBlind_108 : decode cX0_ofBlind 108 = .ok (.iconst 1, 1) := dk_4 (dk_at dksX0_ofBlind_4 20 rfl rfl)
theorem dX0_ofBlind_109 : decode cX0_ofBlind 109 = .ok (.goto 4, 3) := dk_167 0 4 (dk_at dksX0_ofBlind_4 21 rfl rfl)
theorem dX0_ofBlind_112 : decode cX0_ofBlind 112 = .ok (.iconst 0, 1) := dk_3 (dk_at dksX0_ofBlind_5 0 rfl rfl)
theorem dX0_ofBlind_113 : decode cX0_ofBlind 113 = .ok (.aload_n 0, 1) := dk_42 (dk_at dksX0_ofBlind_5 1 rfl rfl)
theorem dX0_ofBlind_114 : decode cX0_ofBlind 114 = .ok (.invokevirtual 272, 3) := dk_182 1 16 (dk_at dksX0_ofBlind_5 2 rfl rfl)
theorem dX0_ofBlind_117 : decode cX0_ofBlind 117 = .ok (.invokestatic 275, 3) := dk_184 1 19 (dk_at dksX0_ofBlind_5 5 rfl rfl)
theorem dX0_ofBlind_120 : decode cX0_ofBlind 120 = .ok (.ireturn, 1) := dk_172 (dk_at dksX0_ofBlind_5 8 rfl rfl)
abbrev cX0_widest : ByteArray := prog_1_method_28_code
def yX0_widest : MethodName := ⟨RX0, "widest", "()I"⟩
def dkwX0_widest_3 : List UInt8 := [27, 172]
abbrev dktX0_widest_3 : List UInt8 := dkwX0_widest_3 ++ []
def dkwX0_widest_2 : List UInt8 := [182, 0, 126, 192, 0, 153, 182, 0, 161, 164, 0, 7, 28, 167, 0, 4, 27, 60, 132, 2, 1, 167, 255, 191]
abbrev dktX0_widest_2 : List UInt8 := dkwX0_widest_2 ++ dktX0_widest_3
def dkwX0_widest_1 : List UInt8 := [180, 0, 15, 180, 0, 151, 28, 182, 0, 126, 192, 0, 153, 182, 0, 161, 42, 180, 0, 15, 180, 0, 151, 27]
abbrev dktX0_widest_1 : List UInt8 := dkwX0_widest_1 ++ dktX0_widest_2
def dkwX0_widest_0 : List UInt8 := [2, 60, 3, 61, 28, 42, 180, 0, 15, 180, 0, 151, 182, 0, 123, 162, 0, 57, 27, 2, 159, 0, 40, 42]
abbrev dktX0_widest_0 : List UInt8 := dkwX0_widest_0 ++ dktX0_widest_1
theorem dksX0_widest_0 : cX0_widest.data.toList.drop 0 = dktX0_widest_0 := by decide +kernel
theorem dksX0_widest_1 : cX0_widest.data.toList.drop 24 = dktX0_widest_1 := dk_seg dksX0_widest_0 24 rfl rfl
theorem dksX0_widest_2 : cX0_widest.data.toList.drop 48 = dktX0_widest_2 := dk_seg dksX0_widest_1 24 rfl rfl
theorem dksX0_widest_3 : cX0_widest.data.toList.drop 72 = dktX0_widest_3 := dk_seg dksX0_widest_2 24 rfl rfl
theorem dX0_widest_0 : decode cX0_widest 0 = .ok (.iconst (-1), 1) := dk_2 (dk_at dksX0_widest_0 0 rfl rfl)
theorem dX0_widest_1 : decode cX0_widest 1 = .ok (.istore_n 1, 1) := dk_60 (dk_at dksX0_widest_0 1 rfl rfl)
theorem dX0_widest_2 : decode cX0_widest 2 = .ok (.iconst 0, 1) := dk_3 (dk_at dksX0_widest_0 2 rfl rfl)
theorem dX0_widest_3 : decode cX0_widest 3 = .ok (.istore_n 2, 1) := dk_61 (dk_at dksX0_widest_0 3 rfl rfl)
theorem dX0_widest_4 : decode cX0_widest 4 = .ok (.iload_n 2, 1) := dk_28 (dk_at dksX0_widest_0 4 rfl rfl)
theorem dX0_widest_5 : decode cX0_widest 5 = .ok (.aload_n 0, 1) := dk_42 (dk_at dksX0_widest_0 5 rfl rfl)
theorem dX0_widest_6 : decode cX0_widest 6 = .ok (.getfield 15, 3) := dk_180 0 15 (dk_at dksX0_widest_0 6 rfl rfl)
theorem dX0_widest_9 : decode cX0_widest 9 = .ok (.getfield 151, 3) := dk_180 0 151 (dk_at dksX0_widest_0 9 rfl rfl)
theorem dX0_widest_12 : decode cX0_widest 12 = .ok (.invokevirtual 123, 3) := dk_182 0 123 (dk_at dksX0_widest_0 12 rfl rfl)
theorem dX0_widest_15 : decode cX0_widest 15 = .ok (.if_icmp .ge 57, 3) := dk_162 0 57 (dk_at dksX0_widest_0 15 rfl rfl)
theorem dX0_widest_18 : decode cX0_widest 18 = .ok (.iload_n 1, 1) := dk_27 (dk_at dksX0_widest_0 18 rfl rfl)
theorem dX0_widest_19 : decode cX0_widest 19 = .ok (.iconst (-1), 1) := dk_2 (dk_at dksX0_widest_0 19 rfl rfl)
theorem dX0_widest_20 : decode cX0_widest 20 = .ok (.if_icmp .eq 40, 3) := dk_159 0 40 (dk_at dksX0_widest_0 20 rfl rfl)
theorem dX0_widest_23 : decode cX0_widest 23 = .ok (.aload_n 0, 1) := dk_42 (dk_at dksX0_widest_0 23 rfl rfl)
theorem dX0_widest_24 : decode cX0_widest 24 = .ok (.getfield 15, 3) := dk_180 0 15 (dk_at dksX0_widest_1 0 rfl rfl)
theorem dX0_widest_27 : decode cX0_widest 27 = .ok (.getfield 151, 3) := dk_180 0 151 (dk_at dksX0_widest_1 3 rfl rfl)
theorem dX0_widest_30 : decode cX0_widest 30 = .ok (.iload_n 2, 1) := dk_28 (dk_at dksX0_widest_1 6 rfl rfl)
theorem dX0_widest_31 : decode cX0_widest 31 = .ok (.invokevirtual 126, 3) := dk_182 0 126 (dk_at dksX0_widest_1 7 rfl rfl)
theorem dX0_widest_34 : decode cX0_widest 34 = .ok (.checkcast 153, 3) := dk_192 0 153 (dk_at dksX0_widest_1 10 rfl rfl)
theorem dX0_widest_37 : decode cX0_widest 37 = .ok (.invokevirtual 161, 3) := dk_182 0 161 (dk_at dksX0_widest_1 13 rfl rfl)
theorem dX0_widest_40 : decode cX0_widest 40 = .ok (.aload_n 0, 1) := dk_42 (dk_at dksX0_widest_1 16 rfl rfl)
theorem dX0_widest_41 : decode cX0_widest 41 = .ok (.getfield 15, 3) := dk_180 0 15 (dk_at dksX0_widest_1 17 rfl rfl)
theorem dX0_widest_44 : decode cX0_widest 44 = .ok (.getfield 151, 3) := dk_180 0 151 (dk_at dksX0_widest_1 20 rfl rfl)
theorem dX0_widest_47 : decode cX0_widest 47 = .ok (.iload_n 1, 1) := dk_27 (dk_at dksX0_widest_1 23 rfl rfl)
theorem dX0_widest_48 : decode cX0_widest 48 = .ok (.invokevirtual 126, 3) := dk_182 0 126 (dk_at dksX0_widest_2 0 rfl rfl)
theorem dX0_widest_51 : decode cX0_widest 51 = .ok (.checkcast 153, 3) := dk_192 0 153 (dk_at dksX0_widest_2 3 rfl rfl)
theorem dX0_widest_54 : decode cX0_widest 54 = .ok (.invokevirtual 161, 3) := dk_182 0 161 (dk_at dksX0_widest_2 6 rfl rfl)
theorem dX0_widest_57 : decode cX0_widest 57 = .ok (.if_icmp .le 7, 3) := dk_164 0 7 (dk_at dksX0_widest_2 9 rfl rfl)
theorem dX0_widest_60 : decode cX0_widest 60 = .ok (.iload_n 2, 1) := dk_28 (dk_at dksX0_widest_2 12 rfl rfl)
theorem dX0_widest_61 : decode cX0_widest 61 = .ok (.goto 4, 3) := dk_167 0 4 (dk_at dksX0_widest_2 13 rfl rfl)
theorem dX0_widest_64 : decode cX0_widest 64 = .ok (.iload_n 1, 1) := dk_27 (dk_at dksX0_widest_2 16 rfl rfl)
theorem dX0_widest_65 : decode cX0_widest 65 = .ok (.istore_n 1, 1) := dk_60 (dk_at dksX0_widest_2 17 rfl rfl)
theorem dX0_widest_66 : decode cX0_widest 66 = .ok (.iinc 2 1, 3) := dk_132 2 1 (dk_at dksX0_widest_2 18 rfl rfl)
theorem dX0_widest_69 : decode cX0_widest 69 = .ok (.goto (-65), 3) := dk_167 255 191 (dk_at dksX0_widest_2 21 rfl rfl)
theorem dX0_widest_72 : decode cX0_widest 72 = .ok (.iload_n 1, 1) := dk_27 (dk_at dksX0_widest_3 0 rfl rfl)
theorem dX0_widest_73 : decode cX0_widest 73 = .ok (.ireturn, 1) := dk_172 (dk_at dksX0_widest_3 1 rfl rfl)
abbrev cX0_orNotFound : ByteArray := prog_1_method_27_code
def yX0_orNotFound : MethodName := ⟨RX0, "orNotFound", "(ZI)I"⟩
def dkwX0_orNotFound_0 : List UInt8 := [26, 153, 0, 7, 27, 167, 0, 5, 18, 191, 172]
abbrev dktX0_orNotFound_0 : List UInt8 := dkwX0_orNotFound_0 ++ []
theorem dksX0_orNotFound_0 : cX0_orNotFound.data.toList.drop 0 = dktX0_orNotFound_0 := by decide +kernel
theorem dX0_orNotFound_0 : decode cX0_orNotFound 0 = .ok (.iload_n 0, 1) := dk_26 (dk_at dksX0_orNotFound_0 0 rfl rfl)
theorem dX0_orNotFound_1 : decode cX0_orNotFound 1 = .ok (.ifCond .eq 7, 3) := dk_153 0 7 (dk_at dksX0_orNotFound_0 1 rfl rfl)
theorem dX0_orNotFound_4 : decode cX0_orNotFound 4 = .ok (.iload_n 1, 1) := dk_27 (dk_at dksX0_orNotFound_0 4 rfl rfl)
theorem dX0_orNotFound_5 : decode cX0_orNotFound 5 = .ok (.goto 5, 3) := dk_167 0 5 (dk_at dksX0_orNotFound_0 5 rfl rfl)
theorem dX0_orNotFound_8 : decode cX0_orNotFound 8 = .ok (.ldc 191, 2) := dk_18 191 (dk_at dksX0_orNotFound_0 8 rfl rfl)
theorem dX0_orNotFound_10 : decode cX0_orNotFound 10 = .ok (.ireturn, 1) := dk_172 (dk_at dksX0_orNotFound_0 10 rfl rfl)
abbrev cX0_undo : ByteArray := prog_1_method_31_code
def yX0_undo : MethodName := ⟨RX0, "undo", "()I"⟩
def dkwX0_undo_1 : List UInt8 := [181, 0, 15, 42, 180, 0, 24, 182, 0, 39, 172]
abbrev dktX0_undo_1 : List UInt8 := dkwX0_undo_1 ++ []
def dkwX0_undo_0 : List UInt8 := [42, 180, 0, 24, 182, 1, 36, 153, 0, 6, 18, 114, 172, 42, 42, 180, 0, 24, 182, 1, 37, 192, 0, 12]
abbrev dktX0_undo_0 : List UInt8 := dkwX0_undo_0 ++ dktX0_undo_1
theorem dksX0_undo_0 : cX0_undo.data.toList.drop 0 = dktX0_undo_0 := by decide +kernel
theorem dksX0_undo_1 : cX0_undo.data.toList.drop 24 = dktX0_undo_1 := dk_seg dksX0_undo_0 24 rfl rfl
theorem dX0_undo_0 : decode cX0_undo 0 = .ok (.aload_n 0, 1) := dk_42 (dk_at dksX0_undo_0 0 rfl rfl)
theorem dX0_undo_1 : decode cX0_undo 1 = .ok (.getfield 24, 3) := dk_180 0 24 (dk_at dksX0_undo_0 1 rfl rfl)
theorem dX0_undo_4 : decode cX0_undo 4 = .ok (.invokevirtual 292, 3) := dk_182 1 36 (dk_at dksX0_undo_0 4 rfl rfl)
theorem dX0_undo_7 : decode cX0_undo 7 = .ok (.ifCond .eq 6, 3) := dk_153 0 6 (dk_at dksX0_undo_0 7 rfl rfl)
theorem dX0_undo_10 : decode cX0_undo 10 = .ok (.ldc 114, 2) := dk_18 114 (dk_at dksX0_undo_0 10 rfl rfl)
theorem dX0_undo_12 : decode cX0_undo 12 = .ok (.ireturn, 1) := dk_172 (dk_at dksX0_undo_0 12 rfl rfl)
theorem dX0_undo_13 : decode cX0_undo 13 = .ok (.aload_n 0, 1) := dk_42 (dk_at dksX0_undo_0 13 rfl rfl)
theorem dX0_undo_14 : decode cX0_undo 14 = .ok (.aload_n 0, 1) := dk_42 (dk_at dksX0_undo_0 14 rfl rfl)
theorem dX0_undo_15 : decode cX0_undo 15 = .ok (.getfield 24, 3) := dk_180 0 24 (dk_at dksX0_undo_0 15 rfl rfl)
theorem dX0_undo_18 : decode cX0_undo 18 = .ok (.invokevirtual 293, 3) := dk_182 1 37 (dk_at dksX0_undo_0 18 rfl rfl)
theorem dX0_undo_21 : decode cX0_undo 21 = .ok (.checkcast 12, 3) := dk_192 0 12 (dk_at dksX0_undo_0 21 rfl rfl)
theorem dX0_undo_24 : decode cX0_undo 24 = .ok (.putfield 15, 3) := dk_181 0 15 (dk_at dksX0_undo_1 0 rfl rfl)
theorem dX0_undo_27 : decode cX0_undo 27 = .ok (.aload_n 0, 1) := dk_42 (dk_at dksX0_undo_1 3 rfl rfl)
theorem dX0_undo_28 : decode cX0_undo 28 = .ok (.getfield 24, 3) := dk_180 0 24 (dk_at dksX0_undo_1 4 rfl rfl)
theorem dX0_undo_31 : decode cX0_undo 31 = .ok (.invokevirtual 39, 3) := dk_182 0 39 (dk_at dksX0_undo_1 7 rfl rfl)
theorem dX0_undo_34 : decode cX0_undo 34 = .ok (.ireturn, 1) := dk_172 (dk_at dksX0_undo_1 10 rfl rfl)
abbrev cX0_type : ByteArray := prog_1_method_32_code
def yX0_type : MethodName := ⟨RX0, "type", "(I)I"⟩
def dkwX0_type_2 : List UInt8 := [182, 1, 31, 172]
abbrev dktX0_type_2 : List UInt8 := dkwX0_type_2 ++ []
def dkwX0_type_1 : List UInt8 := [16, 60, 160, 0, 7, 19, 1, 44, 172, 42, 180, 0, 31, 27, 146, 182, 1, 45, 87, 42, 180, 0, 31]
abbrev dktX0_type_1 : List UInt8 := dkwX0_type_1 ++ dktX0_type_2
def dkwX0_type_0 : List UInt8 := [27, 133, 20, 1, 40, 20, 1, 42, 184, 0, 146, 154, 0, 6, 18, 150, 172, 42, 180, 0, 31, 182, 1, 31]
abbrev dktX0_type_0 : List UInt8 := dkwX0_type_0 ++ dktX0_type_1
theorem dksX0_type_0 : cX0_type.data.toList.drop 0 = dktX0_type_0 := by decide +kernel
theorem dksX0_type_1 : cX0_type.data.toList.drop 24 = dktX0_type_1 := dk_seg dksX0_type_0 24 rfl rfl
theorem dksX0_type_2 : cX0_type.data.toList.drop 47 = dktX0_type_2 := dk_seg dksX0_type_1 23 rfl rfl
theorem dX0_type_0 : decode cX0_type 0 = .ok (.iload_n 1, 1) := dk_27 (dk_at dksX0_type_0 0 rfl rfl)
theorem dX0_type_1 : decode cX0_type 1 = .ok (.i2l, 1) := dk_133 (dk_at dksX0_type_0 1 rfl rfl)
theorem dX0_type_2 : decode cX0_type 2 = .ok (.ldc2_w 296, 3) := dk_20 1 40 (dk_at dksX0_type_0 2 rfl rfl)
theorem dX0_type_5 : decode cX0_type 5 = .ok (.ldc2_w 298, 3) := dk_20 1 42 (dk_at dksX0_type_0 5 rfl rfl)
theorem dX0_type_8 : decode cX0_type 8 = .ok (.invokestatic 146, 3) := dk_184 0 146 (dk_at dksX0_type_0 8 rfl rfl)
theorem dX0_type_11 : decode cX0_type 11 = .ok (.ifCond .ne 6, 3) := dk_154 0 6 (dk_at dksX0_type_0 11 rfl rfl)
theorem dX0_type_14 : decode cX0_type 14 = .ok (.ldc 150, 2) := dk_18 150 (dk_at dksX0_type_0 14 rfl rfl)
theorem dX0_type_16 : decode cX0_type 16 = .ok (.ireturn, 1) := dk_172 (dk_at dksX0_type_0 16 rfl rfl)
theorem dX0_type_17 : decode cX0_type 17 = .ok (.aload_n 0, 1) := dk_42 (dk_at dksX0_type_0 17 rfl rfl)
theorem dX0_type_18 : decode cX0_type 18 = .ok (.getfield 31, 3) := dk_180 0 31 (dk_at dksX0_type_0 18 rfl rfl)
theorem dX0_type_21 : decode cX0_type 21 = .ok (.invokevirtual 287, 3) := dk_182 1 31 (dk_at dksX0_type_0 21 rfl rfl)
theorem dX0_type_24 : decode cX0_type 24 = .ok (.bipush 60, 2) := dk_16 60 (dk_at dksX0_type_1 0 rfl rfl)
theorem dX0_type_26 : decode cX0_type 26 = .ok (.if_icmp .ne 7, 3) := dk_160 0 7 (dk_at dksX0_type_1 2 rfl rfl)
theorem dX0_type_29 : decode cX0_type 29 = .ok (.ldc_w 300, 3) := dk_19 1 44 (dk_at dksX0_type_1 5 rfl rfl)
theorem dX0_type_32 : decode cX0_type 32 = .ok (.ireturn, 1) := dk_172 (dk_at dksX0_type_1 8 rfl rfl)
theorem dX0_type_33 : decode cX0_type 33 = .ok (.aload_n 0, 1) := dk_42 (dk_at dksX0_type_1 9 rfl rfl)
theorem dX0_type_34 : decode cX0_type 34 = .ok (.getfield 31, 3) := dk_180 0 31 (dk_at dksX0_type_1 10 rfl rfl)
theorem dX0_type_37 : decode cX0_type 37 = .ok (.iload_n 1, 1) := dk_27 (dk_at dksX0_type_1 13 rfl rfl)
theorem dX0_type_38 : decode cX0_type 38 = .ok (.i2c, 1) := dk_146 (dk_at dksX0_type_1 14 rfl rfl)
theorem dX0_type_39 : decode cX0_type 39 = .ok (.invokevirtual 301, 3) := dk_182 1 45 (dk_at dksX0_type_1 15 rfl rfl)
theorem dX0_type_42 : decode cX0_type 42 = .ok (.pop, 1) := dk_87 (dk_at dksX0_type_1 18 rfl rfl)
theorem dX0_type_43 : decode cX0_type 43 = .ok (.aload_n 0, 1) := dk_42 (dk_at dksX0_type_1 19 rfl rfl)
theorem dX0_type_44 : decode cX0_type 44 = .ok (.getfield 31, 3) := dk_180 0 31 (dk_at dksX0_type_1 20 rfl rfl)
theorem dX0_type_47 : decode cX0_type 47 = .ok (.invokevirtual 287, 3) := dk_182 1 31 (dk_at dksX0_type_2 0 rfl rfl)
theorem dX0_type_50 : decode cX0_type 50 = .ok (.ireturn, 1) := dk_172 (dk_at dksX0_type_2 3 rfl rfl)
abbrev cX0_clearText : ByteArray := prog_1_method_33_code
def yX0_clearText : MethodName := ⟨RX0, "clearText", "()I"⟩
def dkwX0_clearText_0 : List UInt8 := [42, 180, 0, 31, 182, 1, 31, 60, 42, 180, 0, 31, 3, 182, 1, 49, 27, 172]
abbrev dktX0_clearText_0 : List UInt8 := dkwX0_clearText_0 ++ []
theorem dksX0_clearText_0 : cX0_clearText.data.toList.drop 0 = dktX0_clearText_0 := by decide +kernel
theorem dX0_clearText_0 : decode cX0_clearText 0 = .ok (.aload_n 0, 1) := dk_42 (dk_at dksX0_clearText_0 0 rfl rfl)
theorem dX0_clearText_1 : decode cX0_clearText 1 = .ok (.getfield 31, 3) := dk_180 0 31 (dk_at dksX0_clearText_0 1 rfl rfl)
theorem dX0_clearText_4 : decode cX0_clearText 4 = .ok (.invokevirtual 287, 3) := dk_182 1 31 (dk_at dksX0_clearText_0 4 rfl rfl)
theorem dX0_clearText_7 : decode cX0_clearText 7 = .ok (.istore_n 1, 1) := dk_60 (dk_at dksX0_clearText_0 7 rfl rfl)
theorem dX0_clearText_8 : decode cX0_clearText 8 = .ok (.aload_n 0, 1) := dk_42 (dk_at dksX0_clearText_0 8 rfl rfl)
theorem dX0_clearText_9 : decode cX0_clearText 9 = .ok (.getfield 31, 3) := dk_180 0 31 (dk_at dksX0_clearText_0 9 rfl rfl)
theorem dX0_clearText_12 : decode cX0_clearText 12 = .ok (.iconst 0, 1) := dk_3 (dk_at dksX0_clearText_0 12 rfl rfl)
theorem dX0_clearText_13 : decode cX0_clearText 13 = .ok (.invokevirtual 305, 3) := dk_182 1 49 (dk_at dksX0_clearText_0 13 rfl rfl)
theorem dX0_clearText_16 : decode cX0_clearText 16 = .ok (.iload_n 1, 1) := dk_27 (dk_at dksX0_clearText_0 16 rfl rfl)
theorem dX0_clearText_17 : decode cX0_clearText 17 = .ok (.ireturn, 1) := dk_172 (dk_at dksX0_clearText_0 17 rfl rfl)
abbrev cX0_fault : ByteArray := prog_1_method_34_code
def yX0_fault : MethodName := ⟨RX0, "fault", "(I)I"⟩
def dkwX0_fault_1 : List UInt8 := [183, 0, 73, 182, 0, 108, 61, 18, 191, 172, 77, 44, 180, 1, 54, 27, 46, 172]
abbrev dktX0_fault_1 : List UInt8 := dkwX0_fault_1 ++ []
def dkwX0_fault_0 : List UInt8 := [27, 133, 9, 20, 1, 52, 184, 0, 146, 154, 0, 6, 18, 150, 172, 42, 187, 0, 12, 89, 42, 180, 0, 15]
abbrev dktX0_fault_0 : List UInt8 := dkwX0_fault_0 ++ dktX0_fault_1
theorem dksX0_fault_0 : cX0_fault.data.toList.drop 0 = dktX0_fault_0 := by decide +kernel
theorem dksX0_fault_1 : cX0_fault.data.toList.drop 24 = dktX0_fault_1 := dk_seg dksX0_fault_0 24 rfl rfl
theorem dX0_fault_0 : decode cX0_fault 0 = .ok (.iload_n 1, 1) := dk_27 (dk_at dksX0_fault_0 0 rfl rfl)
theorem dX0_fault_1 : decode cX0_fault 1 = .ok (.i2l, 1) := dk_133 (dk_at dksX0_fault_0 1 rfl rfl)
theorem dX0_fault_2 : decode cX0_fault 2 = .ok (.lconst 0, 1) := dk_9 (dk_at dksX0_fault_0 2 rfl rfl)
theorem dX0_fault_3 : decode cX0_fault 3 = .ok (.ldc2_w 308, 3) := dk_20 1 52 (dk_at dksX0_fault_0 3 rfl rfl)
theorem dX0_fault_6 : decode cX0_fault 6 = .ok (.invokestatic 146, 3) := dk_184 0 146 (dk_at dksX0_fault_0 6 rfl rfl)
theorem dX0_fault_9 : decode cX0_fault 9 = .ok (.ifCond .ne 6, 3) := dk_154 0 6 (dk_at dksX0_fault_0 9 rfl rfl)
theorem dX0_fault_12 : decode cX0_fault 12 = .ok (.ldc 150, 2) := dk_18 150 (dk_at dksX0_fault_0 12 rfl rfl)
theorem dX0_fault_14 : decode cX0_fault 14 = .ok (.ireturn, 1) := dk_172 (dk_at dksX0_fault_0 14 rfl rfl)
theorem dX0_fault_15 : decode cX0_fault 15 = .ok (.aload_n 0, 1) := dk_42 (dk_at dksX0_fault_0 15 rfl rfl)
theorem dX0_fault_16 : decode cX0_fault 16 = .ok (.new 12, 3) := dk_187 0 12 (dk_at dksX0_fault_0 16 rfl rfl)
theorem dX0_fault_19 : decode cX0_fault 19 = .ok (.dup, 1) := dk_89 (dk_at dksX0_fault_0 19 rfl rfl)
theorem dX0_fault_20 : decode cX0_fault 20 = .ok (.aload_n 0, 1) := dk_42 (dk_at dksX0_fault_0 20 rfl rfl)
theorem dX0_fault_21 : decode cX0_fault 21 = .ok (.getfield 15, 3) := dk_180 0 15 (dk_at dksX0_fault_0 21 rfl rfl)
theorem dX0_fault_24 : decode cX0_fault 24 = .ok (.invokespecial 73, 3) := dk_183 0 73 (dk_at dksX0_fault_1 0 rfl rfl)
theorem dX0_fault_27 : decode cX0_fault 27 = .ok (.invokevirtual 108, 3) := dk_182 0 108 (dk_at dksX0_fault_1 3 rfl rfl)
theorem dX0_fault_30 : decode cX0_fault 30 = .ok (.istore_n 2, 1) := dk_61 (dk_at dksX0_fault_1 6 rfl rfl)
theorem dX0_fault_31 : decode cX0_fault 31 = .ok (.ldc 191, 2) := dk_18 191 (dk_at dksX0_fault_1 7 rfl rfl)
theorem dX0_fault_33 : decode cX0_fault 33 = .ok (.ireturn, 1) := dk_172 (dk_at dksX0_fault_1 9 rfl rfl)
theorem dX0_fault_34 : decode cX0_fault 34 = .ok (.astore_n 2, 1) := dk_77 (dk_at dksX0_fault_1 10 rfl rfl)
theorem dX0_fault_35 : decode cX0_fault 35 = .ok (.aload_n 2, 1) := dk_44 (dk_at dksX0_fault_1 11 rfl rfl)
theorem dX0_fault_36 : decode cX0_fault 36 = .ok (.getfield 310, 3) := dk_180 1 54 (dk_at dksX0_fault_1 12 rfl rfl)
theorem dX0_fault_39 : decode cX0_fault 39 = .ok (.iload_n 1, 1) := dk_27 (dk_at dksX0_fault_1 15 rfl rfl)
theorem dX0_fault_40 : decode cX0_fault 40 = .ok (.iaload, 1) := dk_46 (dk_at dksX0_fault_1 16 rfl rfl)
theorem dX0_fault_41 : decode cX0_fault 41 = .ok (.ireturn, 1) := dk_172 (dk_at dksX0_fault_1 17 rfl rfl)
theorem q46 : (Jvm.Cond.initialized "HandBlinds") ∈ lw_all := lw_g (lw_at lw_m1 1 rfl) rfl
theorem q81 : (Jvm.Cond.instantiable "HandBlinds" (3 : Nat)) ∈ lw_all := lw_g (lw_at lw_m1 36 rfl) rfl
theorem q83 : (Jvm.Cond.instanceMethod ({ cls := "HandBlinds", name := "<init>", desc := "()V" } : Jvm.MethodName)) ∈ lw_all := lw_g (lw_at lw_m1 38 rfl) rfl
theorem q84 : (Jvm.Cond.code ({ cls := "HandBlinds", name := "<init>", desc := "()V" } : Jvm.MethodName) prog_1_method_3_code (1 : Nat) (Option.none : Option Jvm.ClassFile.FieldType)) ∈ lw_all := lw_g (lw_at lw_m1 39 rfl) rfl
theorem q85 : (Jvm.Cond.methodLink "HandBlinds" (7 : Nat) ({ cls := "java/lang/Object", name := "<init>", desc := "()V" } : Jvm.MethodName)) ∈ lw_all := lw_g (lw_at lw_m1 40 rfl) rfl
theorem q88 : (Jvm.Cond.classLink "HandBlinds" (12 : Nat) "HandBlinds$Blind") ∈ lw_all := lw_g (lw_at lw_m1 43 rfl) rfl
theorem q90 : (Jvm.Cond.methodLink "HandBlinds" (14 : Nat) ({ cls := "HandBlinds$Blind", name := "<init>", desc := "()V" } : Jvm.MethodName)) ∈ lw_all := lw_g (lw_at lw_m1 45 rfl) rfl
theorem q126 : (Jvm.Cond.fieldLinkNest "HandBlinds" (151 : Nat) "HandBlinds$Blind" "rows" "Ljava/util/ArrayList;" "HandBlinds") ∈ lw_tbl := lw_at lw_m1 81 rfl
theorem q128 : (Jvm.Cond.fieldLinkNest "HandBlinds" (119 : Nat) "HandBlinds$Blind" "routes" "Ljava/util/ArrayList;" "HandBlinds") ∈ lw_tbl := lw_at lw_m1 83 rfl
theorem q131 : (Jvm.Cond.fieldLinkNest "HandBlinds" (164 : Nat) "HandBlinds$Blind" "settings" "[I" "HandBlinds") ∈ lw_tbl := lw_at lw_m1 86 rfl
theorem q134 : (Jvm.Cond.fieldLinkNest "HandBlinds" (184 : Nat) "HandBlinds$Blind" "shown" "I" "HandBlinds") ∈ lw_tbl := lw_at lw_m1 89 rfl
theorem q136 : (Jvm.Cond.fieldLinkNest "HandBlinds" (284 : Nat) "HandBlinds$Blind" "on" "I" "HandBlinds") ∈ lw_tbl := lw_at lw_m1 91 rfl
theorem q139 : (Jvm.Cond.fieldLinkNest "HandBlinds" (264 : Nat) "HandBlinds$Blind" "tears" "I" "HandBlinds") ∈ lw_tbl := lw_at lw_m1 94 rfl
theorem q142 : (Jvm.Cond.fieldLinkNest "HandBlinds" (267 : Nat) "HandBlinds$Blind" "passed" "I" "HandBlinds") ∈ lw_tbl := lw_at lw_m1 97 rfl
theorem q144 : (Jvm.Cond.fieldLinkNest "HandBlinds" (270 : Nat) "HandBlinds$Blind" "stops" "I" "HandBlinds") ∈ lw_tbl := lw_at lw_m1 99 rfl
theorem q146 : (Jvm.Cond.fieldLinkNest "HandBlinds" (271 : Nat) "HandBlinds$Blind" "right" "I" "HandBlinds") ∈ lw_tbl := lw_at lw_m1 101 rfl
theorem q167 : (Jvm.Cond.classLink "HandBlinds" (21 : Nat) "java/util/ArrayDeque") ∈ lw_all := lw_g (lw_at lw_m1 122 rfl) rfl
theorem q169 : (Jvm.Cond.methodLink "HandBlinds" (23 : Nat) ({ cls := "java/util/ArrayDeque", name := "<init>", desc := "()V" } : Jvm.MethodName)) ∈ lw_all := lw_g (lw_at lw_m1 124 rfl) rfl
theorem q185 : (Jvm.Cond.classLink "HandBlinds" (28 : Nat) "java/lang/StringBuilder") ∈ lw_all := lw_g (lw_at lw_m1 140 rfl) rfl
theorem q187 : (Jvm.Cond.methodLink "HandBlinds" (30 : Nat) ({ cls := "java/lang/StringBuilder", name := "<init>", desc := "()V" } : Jvm.MethodName)) ∈ lw_all := lw_g (lw_at lw_m1 142 rfl) rfl
theorem q218 : (Jvm.Cond.fieldLink "HandBlinds" (15 : Nat) "HandBlinds" "blind" "LHandBlinds$Blind;") ∈ lw_all := lw_g (lw_at lw_m1 173 rfl) rfl
theorem q219 : (Jvm.Cond.fieldLink "HandBlinds" (24 : Nat) "HandBlinds" "history" "Ljava/util/ArrayDeque;") ∈ lw_all := lw_g (lw_at lw_m1 174 rfl) rfl
theorem q220 : (Jvm.Cond.fieldLink "HandBlinds" (31 : Nat) "HandBlinds" "text" "Ljava/lang/StringBuilder;") ∈ lw_all := lw_g (lw_at lw_m1 175 rfl) rfl
theorem q221 : (Jvm.Cond.lays "HandBlinds" "HandBlinds" "blind" "LHandBlinds$Blind;") ∈ lw_all := lw_g (lw_at lw_m1 176 rfl) rfl
theorem q222 : (Jvm.Cond.soleField "HandBlinds" "blind") ∈ lw_all := lw_g (lw_at lw_m1 177 rfl) rfl
theorem q223 : (Jvm.Cond.laysFinal "HandBlinds" "HandBlinds" "history" "Ljava/util/ArrayDeque;") ∈ lw_all := lw_g (lw_at lw_m1 178 rfl) rfl
theorem q224 : (Jvm.Cond.soleField "HandBlinds" "history") ∈ lw_all := lw_g (lw_at lw_m1 179 rfl) rfl
theorem q225 : (Jvm.Cond.laysFinal "HandBlinds" "HandBlinds" "text" "Ljava/lang/StringBuilder;") ∈ lw_all := lw_g (lw_at lw_m1 180 rfl) rfl
theorem q226 : (Jvm.Cond.soleField "HandBlinds" "text") ∈ lw_all := lw_g (lw_at lw_m1 181 rfl) rfl
theorem q227 : (Jvm.Cond.superclass "HandBlinds" "java/lang/Object") ∈ lw_all := lw_g (lw_at lw_m1 182 rfl) rfl
theorem q229 : (Jvm.Cond.instanceMethod ({ cls := "HandBlinds", name := "add", desc := "()I" } : Jvm.MethodName)) ∈ lw_all := lw_g (lw_at lw_m1 184 rfl) rfl
theorem q230 : (Jvm.Cond.selects "HandBlinds" ({ cls := "HandBlinds", name := "add", desc := "()I" } : Jvm.MethodName) ({ cls := "HandBlinds", name := "add", desc := "()I" } : Jvm.MethodName)) ∈ lw_all := lw_g (lw_at lw_m1 185 rfl) rfl
theorem q231 : (Jvm.Cond.codeWith ({ cls := "HandBlinds", name := "add", desc := "()I" } : Jvm.MethodName) prog_1_method_8_code (3 : Nat) (Option.some Jvm.ClassFile.FieldType.int) [((12 : Nat), (22 : Nat), (23 : Nat), (112 : Nat))]) ∈ lw_all := lw_g (lw_at lw_m1 186 rfl) rfl
theorem q232 : (Jvm.Cond.classLink "HandBlinds" (112 : Nat) "HandBlinds$Fault") ∈ lw_all := lw_g (lw_at lw_m1 187 rfl) rfl
theorem q233 : (Jvm.Cond.methodLink "HandBlinds" (73 : Nat) ({ cls := "HandBlinds$Blind", name := "<init>", desc := "(LHandBlinds$Blind;)V" } : Jvm.MethodName)) ∈ lw_all := lw_g (lw_at lw_m1 188 rfl) rfl
theorem q328 : (Jvm.Cond.fieldLinkNest "HandBlinds" (174 : Nat) "HandBlinds$Row" "wear" "I" "HandBlinds") ∈ lw_tbl := lw_at lw_m2 43 rfl
theorem q332 : (Jvm.Cond.fieldLinkNest "HandBlinds" (177 : Nat) "HandBlinds$Row" "isTorn" "Z" "HandBlinds") ∈ lw_tbl := lw_at lw_m2 47 rfl
theorem q375 : (Jvm.Cond.selects "HandBlinds" ({ cls := "java/lang/Object", name := "getClass", desc := "()Ljava/lang/Class;" } : Jvm.MethodName) ({ cls := "java/lang/Object", name := "getClass", desc := "()Ljava/lang/Class;" } : Jvm.MethodName)) ∈ lw_all := lw_g (lw_at lw_m2 90 rfl) rfl
theorem q513 : (Jvm.Cond.fieldLinkNest "HandBlinds" (132 : Nat) "HandBlinds$Route" "rows" "Ljava/util/BitSet;" "HandBlinds") ∈ lw_tbl := lw_at lw_m2 228 rfl
theorem q517 : (Jvm.Cond.fieldLinkNest "HandBlinds" (206 : Nat) "HandBlinds$Route" "stops" "I" "HandBlinds") ∈ lw_tbl := lw_at lw_m2 232 rfl
theorem q520 : (Jvm.Cond.fieldLinkNest "HandBlinds" (209 : Nat) "HandBlinds$Route" "right" "I" "HandBlinds") ∈ lw_tbl := lw_at lw_m2 235 rfl
theorem q533 : (Jvm.Cond.methodLink "HandBlinds" (108 : Nat) ({ cls := "HandBlinds", name := "addsAll", desc := "(LHandBlinds$Blind;)I" } : Jvm.MethodName)) ∈ lw_all := lw_g (lw_at lw_m3 8 rfl) rfl
theorem q534 : (Jvm.Cond.privateMethod ({ cls := "HandBlinds", name := "addsAll", desc := "(LHandBlinds$Blind;)I" } : Jvm.MethodName)) ∈ lw_tbl := lw_at lw_m3 9 rfl
theorem q535 : (Jvm.Cond.instanceMethod ({ cls := "HandBlinds", name := "addsAll", desc := "(LHandBlinds$Blind;)I" } : Jvm.MethodName)) ∈ lw_all := lw_g (lw_at lw_m3 10 rfl) rfl
theorem q536 : (Jvm.Cond.code ({ cls := "HandBlinds", name := "addsAll", desc := "(LHandBlinds$Blind;)I" } : Jvm.MethodName) prog_1_method_7_code (7 : Nat) (Option.some Jvm.ClassFile.FieldType.int)) ∈ lw_all := lw_g (lw_at lw_m3 11 rfl) rfl
theorem q537 : (Jvm.Cond.methodLink "HandBlinds" (88 : Nat) ({ cls := "java/lang/StringBuilder", name := "toString", desc := "()Ljava/lang/String;" } : Jvm.MethodName)) ∈ lw_all := lw_g (lw_at lw_m3 12 rfl) rfl
theorem q629 : (Jvm.Cond.methodLink "HandBlinds" (92 : Nat) ({ cls := "java/lang/String", name := "indexOf", desc := "(II)I" } : Jvm.MethodName)) ∈ lw_all := lw_g (lw_at lw_m3 104 rfl) rfl
theorem q691 : (Jvm.Cond.methodLink "HandBlinds" (97 : Nat) ({ cls := "java/lang/String", name := "substring", desc := "(I)Ljava/lang/String;" } : Jvm.MethodName)) ∈ lw_all := lw_g (lw_at lw_m3 166 rfl) rfl
theorem q718 : (Jvm.Cond.methodLink "HandBlinds" (101 : Nat) ({ cls := "java/lang/String", name := "substring", desc := "(II)Ljava/lang/String;" } : Jvm.MethodName)) ∈ lw_all := lw_g (lw_at lw_m3 193 rfl) rfl
theorem q719 : (Jvm.Cond.methodLink "HandBlinds" (104 : Nat) ({ cls := "HandBlinds$Blind", name := "adds", desc := "(Ljava/lang/String;I)V" } : Jvm.MethodName)) ∈ lw_all := lw_g (lw_at lw_m3 194 rfl) rfl
theorem q748 : (Jvm.Cond.static ({ cls := "HandBlinds", name := "isBetween", desc := "(JJJ)Z" } : Jvm.MethodName)) ∈ lw_all := lw_g (lw_at lw_m3 223 rfl) rfl
theorem q749 : (Jvm.Cond.code ({ cls := "HandBlinds", name := "isBetween", desc := "(JJJ)Z" } : Jvm.MethodName) prog_1_method_1_code (6 : Nat) (Option.some Jvm.ClassFile.FieldType.boolean)) ∈ lw_all := lw_g (lw_at lw_m3 224 rfl) rfl
theorem q799 : (Jvm.Cond.fieldLinkNest "HandBlinds" (310 : Nat) "HandBlinds$Fault" "told" "[I" "HandBlinds") ∈ lw_tbl := lw_at lw_m4 34 rfl
theorem q861 : (Jvm.Cond.methodLink "HandBlinds" (80 : Nat) ({ cls := "HandBlinds", name := "changed", desc := "(LHandBlinds$Blind;I)I" } : Jvm.MethodName)) ∈ lw_all := lw_g (lw_at lw_m4 96 rfl) rfl
theorem q862 : (Jvm.Cond.privateMethod ({ cls := "HandBlinds", name := "changed", desc := "(LHandBlinds$Blind;I)I" } : Jvm.MethodName)) ∈ lw_tbl := lw_at lw_m4 97 rfl
theorem q863 : (Jvm.Cond.instanceMethod ({ cls := "HandBlinds", name := "changed", desc := "(LHandBlinds$Blind;I)I" } : Jvm.MethodName)) ∈ lw_all := lw_g (lw_at lw_m4 98 rfl) rfl
theorem q864 : (Jvm.Cond.code ({ cls := "HandBlinds", name := "changed", desc := "(LHandBlinds$Blind;I)I" } : Jvm.MethodName) prog_1_method_4_code (3 : Nat) (Option.some Jvm.ClassFile.FieldType.int)) ∈ lw_all := lw_g (lw_at lw_m4 99 rfl) rfl
theorem q865 : (Jvm.Cond.methodLink "HandBlinds" (35 : Nat) ({ cls := "java/util/ArrayDeque", name := "addLast", desc := "(Ljava/lang/Object;)V" } : Jvm.MethodName)) ∈ lw_all := lw_g (lw_at lw_m4 100 rfl) rfl
theorem q884 : (Jvm.Cond.methodLink "HandBlinds" (39 : Nat) ({ cls := "java/util/ArrayDeque", name := "size", desc := "()I" } : Jvm.MethodName)) ∈ lw_all := lw_g (lw_at lw_m4 119 rfl) rfl
theorem q891 : (Jvm.Cond.methodLink "HandBlinds" (43 : Nat) ({ cls := "java/util/ArrayDeque", name := "removeFirst", desc := "()Ljava/lang/Object;" } : Jvm.MethodName)) ∈ lw_all := lw_g (lw_at lw_m4 126 rfl) rfl
theorem q902 : (Jvm.Cond.constant "HandBlinds" (114 : Nat) (-1000002 : Int32)) ∈ lw_all := lw_g (lw_at lw_m4 137 rfl) rfl
theorem q904 : (Jvm.Cond.instanceMethod ({ cls := "HandBlinds", name := "cut", desc := "(I)I" } : Jvm.MethodName)) ∈ lw_all := lw_g (lw_at lw_m4 139 rfl) rfl
theorem q905 : (Jvm.Cond.selects "HandBlinds" ({ cls := "HandBlinds", name := "cut", desc := "(I)I" } : Jvm.MethodName) ({ cls := "HandBlinds", name := "cut", desc := "(I)I" } : Jvm.MethodName)) ∈ lw_all := lw_g (lw_at lw_m4 140 rfl) rfl
theorem q906 : (Jvm.Cond.code ({ cls := "HandBlinds", name := "cut", desc := "(I)I" } : Jvm.MethodName) prog_1_method_9_code (2 : Nat) (Option.some Jvm.ClassFile.FieldType.int)) ∈ lw_all := lw_g (lw_at lw_m4 141 rfl) rfl
theorem q907 : (Jvm.Cond.methodLink "HandBlinds" (115 : Nat) ({ cls := "HandBlinds", name := "act", desc := "(C[I)I" } : Jvm.MethodName)) ∈ lw_all := lw_g (lw_at lw_m4 142 rfl) rfl
theorem q908 : (Jvm.Cond.privateMethod ({ cls := "HandBlinds", name := "act", desc := "(C[I)I" } : Jvm.MethodName)) ∈ lw_tbl := lw_at lw_m4 143 rfl
theorem q909 : (Jvm.Cond.instanceMethod ({ cls := "HandBlinds", name := "act", desc := "(C[I)I" } : Jvm.MethodName)) ∈ lw_all := lw_g (lw_at lw_m4 144 rfl) rfl
theorem q910 : (Jvm.Cond.codeWith ({ cls := "HandBlinds", name := "act", desc := "(C[I)I" } : Jvm.MethodName) prog_1_method_6_code (5 : Nat) (Option.some Jvm.ClassFile.FieldType.int) [((12 : Nat), (23 : Nat), (24 : Nat), (1 : Nat))]) ∈ lw_all := lw_g (lw_at lw_m4 145 rfl) rfl
theorem q911 : (Jvm.Cond.classLink "HandBlinds" (1 : Nat) "HandBlinds$Refused") ∈ lw_all := lw_g (lw_at lw_m4 146 rfl) rfl
theorem q912 : (Jvm.Cond.methodLink "HandBlinds" (76 : Nat) ({ cls := "HandBlinds", name := "done", desc := "(LHandBlinds$Blind;C[I)I" } : Jvm.MethodName)) ∈ lw_all := lw_g (lw_at lw_m4 147 rfl) rfl
theorem q913 : (Jvm.Cond.static ({ cls := "HandBlinds", name := "done", desc := "(LHandBlinds$Blind;C[I)I" } : Jvm.MethodName)) ∈ lw_all := lw_g (lw_at lw_m4 148 rfl) rfl
theorem q914 : (Jvm.Cond.code ({ cls := "HandBlinds", name := "done", desc := "(LHandBlinds$Blind;C[I)I" } : Jvm.MethodName) prog_1_method_5_code (3 : Nat) (Option.some Jvm.ClassFile.FieldType.int)) ∈ lw_all := lw_g (lw_at lw_m4 149 rfl) rfl
theorem q915 : (Jvm.Cond.methodLink "HandBlinds" (47 : Nat) ({ cls := "HandBlinds$Blind", name := "cuts", desc := "(I)I" } : Jvm.MethodName)) ∈ lw_all := lw_g (lw_at lw_m4 150 rfl) rfl
theorem q929 : (Jvm.Cond.static ({ cls := "HandBlinds", name := "need", desc := "(ZI)V" } : Jvm.MethodName)) ∈ lw_all := lw_g (lw_at lw_m4 164 rfl) rfl
theorem q930 : (Jvm.Cond.code ({ cls := "HandBlinds", name := "need", desc := "(ZI)V" } : Jvm.MethodName) prog_1_method_2_code (2 : Nat) (Option.none : Option Jvm.ClassFile.FieldType)) ∈ lw_all := lw_g (lw_at lw_m4 165 rfl) rfl
theorem q939 : (Jvm.Cond.methodLink "HandBlinds" (3 : Nat) ({ cls := "HandBlinds$Refused", name := "<init>", desc := "(I)V" } : Jvm.MethodName)) ∈ lw_all := lw_g (lw_at lw_m4 174 rfl) rfl
theorem q945 : (Jvm.Cond.fieldLinkNest "HandBlinds" (84 : Nat) "HandBlinds$Refused" "code" "I" "HandBlinds") ∈ lw_tbl := lw_at lw_m4 180 rfl
theorem q968 : (Jvm.Cond.methodLink "HandBlinds" (51 : Nat) ({ cls := "HandBlinds$Blind", name := "swaps", desc := "(II)I" } : Jvm.MethodName)) ∈ lw_all := lw_g (lw_at lw_m4 203 rfl) rfl
theorem q980 : (Jvm.Cond.methodLink "HandBlinds" (55 : Nat) ({ cls := "HandBlinds$Blind", name := "mends", desc := "(I)I" } : Jvm.MethodName)) ∈ lw_all := lw_g (lw_at lw_m4 215 rfl) rfl
theorem q985 : (Jvm.Cond.methodLink "HandBlinds" (58 : Nat) ({ cls := "HandBlinds$Blind", name := "cranks", desc := "(II)I" } : Jvm.MethodName)) ∈ lw_all := lw_g (lw_at lw_m4 220 rfl) rfl
theorem q1053 : (Jvm.Cond.methodLink "HandBlinds" (61 : Nat) ({ cls := "HandBlinds$Blind", name := "comes", desc := "(I)I" } : Jvm.MethodName)) ∈ lw_all := lw_g (lw_at lw_m5 48 rfl) rfl
theorem q1059 : (Jvm.Cond.methodLink "HandBlinds" (64 : Nat) ({ cls := "HandBlinds$Blind", name := "drives", desc := "(I)I" } : Jvm.MethodName)) ∈ lw_all := lw_g (lw_at lw_m5 54 rfl) rfl
theorem q1067 : (Jvm.Cond.methodLink "HandBlinds" (67 : Nat) ({ cls := "HandBlinds$Blind", name := "halts", desc := "()I" } : Jvm.MethodName)) ∈ lw_all := lw_g (lw_at lw_m5 62 rfl) rfl
theorem q1147 : (Jvm.Cond.methodLink "HandBlinds" (70 : Nat) ({ cls := "HandBlinds$Blind", name := "setsTo", desc := "(II)I" } : Jvm.MethodName)) ∈ lw_all := lw_g (lw_at lw_m5 142 rfl) rfl
theorem q1156 : (Jvm.Cond.instanceMethod ({ cls := "HandBlinds", name := "swap", desc := "(II)I" } : Jvm.MethodName)) ∈ lw_all := lw_g (lw_at lw_m5 151 rfl) rfl
theorem q1157 : (Jvm.Cond.selects "HandBlinds" ({ cls := "HandBlinds", name := "swap", desc := "(II)I" } : Jvm.MethodName) ({ cls := "HandBlinds", name := "swap", desc := "(II)I" } : Jvm.MethodName)) ∈ lw_all := lw_g (lw_at lw_m5 152 rfl) rfl
theorem q1158 : (Jvm.Cond.code ({ cls := "HandBlinds", name := "swap", desc := "(II)I" } : Jvm.MethodName) prog_1_method_10_code (3 : Nat) (Option.some Jvm.ClassFile.FieldType.int)) ∈ lw_all := lw_g (lw_at lw_m5 153 rfl) rfl
theorem q1160 : (Jvm.Cond.instanceMethod ({ cls := "HandBlinds", name := "mend", desc := "(I)I" } : Jvm.MethodName)) ∈ lw_all := lw_g (lw_at lw_m5 155 rfl) rfl
theorem q1161 : (Jvm.Cond.selects "HandBlinds" ({ cls := "HandBlinds", name := "mend", desc := "(I)I" } : Jvm.MethodName) ({ cls := "HandBlinds", name := "mend", desc := "(I)I" } : Jvm.MethodName)) ∈ lw_all := lw_g (lw_at lw_m5 156 rfl) rfl
theorem q1162 : (Jvm.Cond.code ({ cls := "HandBlinds", name := "mend", desc := "(I)I" } : Jvm.MethodName) prog_1_method_11_code (2 : Nat) (Option.some Jvm.ClassFile.FieldType.int)) ∈ lw_all := lw_g (lw_at lw_m5 157 rfl) rfl
theorem q1164 : (Jvm.Cond.instanceMethod ({ cls := "HandBlinds", name := "crank", desc := "(II)I" } : Jvm.MethodName)) ∈ lw_all := lw_g (lw_at lw_m5 159 rfl) rfl
theorem q1165 : (Jvm.Cond.selects "HandBlinds" ({ cls := "HandBlinds", name := "crank", desc := "(II)I" } : Jvm.MethodName) ({ cls := "HandBlinds", name := "crank", desc := "(II)I" } : Jvm.MethodName)) ∈ lw_all := lw_g (lw_at lw_m5 160 rfl) rfl
theorem q1166 : (Jvm.Cond.code ({ cls := "HandBlinds", name := "crank", desc := "(II)I" } : Jvm.MethodName) prog_1_method_12_code (3 : Nat) (Option.some Jvm.ClassFile.FieldType.int)) ∈ lw_all := lw_g (lw_at lw_m5 161 rfl) rfl
theorem q1168 : (Jvm.Cond.instanceMethod ({ cls := "HandBlinds", name := "route", desc := "(I)I" } : Jvm.MethodName)) ∈ lw_all := lw_g (lw_at lw_m5 163 rfl) rfl
theorem q1169 : (Jvm.Cond.selects "HandBlinds" ({ cls := "HandBlinds", name := "route", desc := "(I)I" } : Jvm.MethodName) ({ cls := "HandBlinds", name := "route", desc := "(I)I" } : Jvm.MethodName)) ∈ lw_all := lw_g (lw_at lw_m5 164 rfl) rfl
theorem q1170 : (Jvm.Cond.code ({ cls := "HandBlinds", name := "route", desc := "(I)I" } : Jvm.MethodName) prog_1_method_13_code (2 : Nat) (Option.some Jvm.ClassFile.FieldType.int)) ∈ lw_all := lw_g (lw_at lw_m5 165 rfl) rfl
theorem q1172 : (Jvm.Cond.instanceMethod ({ cls := "HandBlinds", name := "drive", desc := "(I)I" } : Jvm.MethodName)) ∈ lw_all := lw_g (lw_at lw_m5 167 rfl) rfl
theorem q1173 : (Jvm.Cond.selects "HandBlinds" ({ cls := "HandBlinds", name := "drive", desc := "(I)I" } : Jvm.MethodName) ({ cls := "HandBlinds", name := "drive", desc := "(I)I" } : Jvm.MethodName)) ∈ lw_all := lw_g (lw_at lw_m5 168 rfl) rfl
theorem q1174 : (Jvm.Cond.code ({ cls := "HandBlinds", name := "drive", desc := "(I)I" } : Jvm.MethodName) prog_1_method_14_code (2 : Nat) (Option.some Jvm.ClassFile.FieldType.int)) ∈ lw_all := lw_g (lw_at lw_m5 169 rfl) rfl
theorem q1176 : (Jvm.Cond.instanceMethod ({ cls := "HandBlinds", name := "stop", desc := "()I" } : Jvm.MethodName)) ∈ lw_all := lw_g (lw_at lw_m5 171 rfl) rfl
theorem q1177 : (Jvm.Cond.selects "HandBlinds" ({ cls := "HandBlinds", name := "stop", desc := "()I" } : Jvm.MethodName) ({ cls := "HandBlinds", name := "stop", desc := "()I" } : Jvm.MethodName)) ∈ lw_all := lw_g (lw_at lw_m5 172 rfl) rfl
theorem q1178 : (Jvm.Cond.code ({ cls := "HandBlinds", name := "stop", desc := "()I" } : Jvm.MethodName) prog_1_method_15_code (1 : Nat) (Option.some Jvm.ClassFile.FieldType.int)) ∈ lw_all := lw_g (lw_at lw_m5 173 rfl) rfl
theorem q1180 : (Jvm.Cond.instanceMethod ({ cls := "HandBlinds", name := "set", desc := "(II)I" } : Jvm.MethodName)) ∈ lw_all := lw_g (lw_at lw_m5 175 rfl) rfl
theorem q1181 : (Jvm.Cond.selects "HandBlinds" ({ cls := "HandBlinds", name := "set", desc := "(II)I" } : Jvm.MethodName) ({ cls := "HandBlinds", name := "set", desc := "(II)I" } : Jvm.MethodName)) ∈ lw_all := lw_g (lw_at lw_m5 176 rfl) rfl
theorem q1182 : (Jvm.Cond.code ({ cls := "HandBlinds", name := "set", desc := "(II)I" } : Jvm.MethodName) prog_1_method_16_code (3 : Nat) (Option.some Jvm.ClassFile.FieldType.int)) ∈ lw_all := lw_g (lw_at lw_m5 177 rfl) rfl
theorem q1184 : (Jvm.Cond.instanceMethod ({ cls := "HandBlinds", name := "rowOf", desc := "(II)I" } : Jvm.MethodName)) ∈ lw_all := lw_g (lw_at lw_m5 179 rfl) rfl
theorem q1185 : (Jvm.Cond.selects "HandBlinds" ({ cls := "HandBlinds", name := "rowOf", desc := "(II)I" } : Jvm.MethodName) ({ cls := "HandBlinds", name := "rowOf", desc := "(II)I" } : Jvm.MethodName)) ∈ lw_all := lw_g (lw_at lw_m5 180 rfl) rfl
theorem q1186 : (Jvm.Cond.code ({ cls := "HandBlinds", name := "rowOf", desc := "(II)I" } : Jvm.MethodName) prog_1_method_18_code (4 : Nat) (Option.some Jvm.ClassFile.FieldType.int)) ∈ lw_all := lw_g (lw_at lw_m5 181 rfl) rfl
theorem q1187 : (Jvm.Cond.methodLink "HandBlinds" (141 : Nat) ({ cls := "HandBlinds$Blind", name := "isRow", desc := "(I)Z" } : Jvm.MethodName)) ∈ lw_all := lw_g (lw_at lw_m5 182 rfl) rfl
theorem q1188 : (Jvm.Cond.constantLong "HandBlinds" (144 : Nat) (7 : Int64)) ∈ lw_all := lw_g (lw_at lw_m5 183 rfl) rfl
theorem q1189 : (Jvm.Cond.methodLink "HandBlinds" (146 : Nat) ({ cls := "HandBlinds", name := "isBetween", desc := "(JJJ)Z" } : Jvm.MethodName)) ∈ lw_all := lw_g (lw_at lw_m5 184 rfl) rfl
theorem q1190 : (Jvm.Cond.constant "HandBlinds" (150 : Nat) (-1000001 : Int32)) ∈ lw_all := lw_g (lw_at lw_m5 185 rfl) rfl
theorem q1191 : (Jvm.Cond.methodLink "HandBlinds" (126 : Nat) ({ cls := "java/util/ArrayList", name := "get", desc := "(I)Ljava/lang/Object;" } : Jvm.MethodName)) ∈ lw_all := lw_g (lw_at lw_m5 186 rfl) rfl
theorem q1192 : (Jvm.Cond.classLink "HandBlinds" (153 : Nat) "HandBlinds$Row") ∈ lw_all := lw_g (lw_at lw_m5 187 rfl) rfl
theorem q1193 : (Jvm.Cond.methodLink "HandBlinds" (155 : Nat) ({ cls := "HandBlinds$Row", name := "letters", desc := "()Ljava/lang/String;" } : Jvm.MethodName)) ∈ lw_all := lw_g (lw_at lw_m5 188 rfl) rfl
theorem q1194 : (Jvm.Cond.methodLink "HandBlinds" (158 : Nat) ({ cls := "java/lang/String", name := "length", desc := "()I" } : Jvm.MethodName)) ∈ lw_all := lw_g (lw_at lw_m5 189 rfl) rfl
theorem q1195 : (Jvm.Cond.methodLink "HandBlinds" (161 : Nat) ({ cls := "HandBlinds$Row", name := "wide", desc := "()I" } : Jvm.MethodName)) ∈ lw_all := lw_g (lw_at lw_m5 190 rfl) rfl
theorem q1196 : (Jvm.Cond.methodLink "HandBlinds" (168 : Nat) ({ cls := "HandBlinds$Row", name := "squeezed", desc := "(I)I" } : Jvm.MethodName)) ∈ lw_all := lw_g (lw_at lw_m5 191 rfl) rfl
theorem q1197 : (Jvm.Cond.methodLink "HandBlinds" (171 : Nat) ({ cls := "HandBlinds$Row", name := "kind", desc := "()I" } : Jvm.MethodName)) ∈ lw_all := lw_g (lw_at lw_m5 192 rfl) rfl
theorem q1198 : (Jvm.Cond.methodLink "HandBlinds" (181 : Nat) ({ cls := "HandBlinds", name := "routesOf", desc := "(I)I" } : Jvm.MethodName)) ∈ lw_all := lw_g (lw_at lw_m5 193 rfl) rfl
theorem q1199 : (Jvm.Cond.privateMethod ({ cls := "HandBlinds", name := "routesOf", desc := "(I)I" } : Jvm.MethodName)) ∈ lw_tbl := lw_at lw_m5 194 rfl
theorem q1200 : (Jvm.Cond.instanceMethod ({ cls := "HandBlinds", name := "routesOf", desc := "(I)I" } : Jvm.MethodName)) ∈ lw_all := lw_g (lw_at lw_m5 195 rfl) rfl
theorem q1201 : (Jvm.Cond.code ({ cls := "HandBlinds", name := "routesOf", desc := "(I)I" } : Jvm.MethodName) prog_1_method_17_code (4 : Nat) (Option.some Jvm.ClassFile.FieldType.int)) ∈ lw_all := lw_g (lw_at lw_m5 196 rfl) rfl
theorem q1202 : (Jvm.Cond.methodLink "HandBlinds" (123 : Nat) ({ cls := "java/util/ArrayList", name := "size", desc := "()I" } : Jvm.MethodName)) ∈ lw_all := lw_g (lw_at lw_m5 197 rfl) rfl
theorem q1203 : (Jvm.Cond.classLink "HandBlinds" (130 : Nat) "HandBlinds$Route") ∈ lw_all := lw_g (lw_at lw_m5 198 rfl) rfl
theorem q1204 : (Jvm.Cond.methodLink "HandBlinds" (136 : Nat) ({ cls := "java/util/BitSet", name := "get", desc := "(I)Z" } : Jvm.MethodName)) ∈ lw_all := lw_g (lw_at lw_m5 199 rfl) rfl
theorem q1206 : (Jvm.Cond.instanceMethod ({ cls := "HandBlinds", name := "letter", desc := "(II)I" } : Jvm.MethodName)) ∈ lw_all := lw_g (lw_at lw_m5 201 rfl) rfl
theorem q1207 : (Jvm.Cond.selects "HandBlinds" ({ cls := "HandBlinds", name := "letter", desc := "(II)I" } : Jvm.MethodName) ({ cls := "HandBlinds", name := "letter", desc := "(II)I" } : Jvm.MethodName)) ∈ lw_all := lw_g (lw_at lw_m5 202 rfl) rfl
theorem q1208 : (Jvm.Cond.code ({ cls := "HandBlinds", name := "letter", desc := "(II)I" } : Jvm.MethodName) prog_1_method_19_code (4 : Nat) (Option.some Jvm.ClassFile.FieldType.int)) ∈ lw_all := lw_g (lw_at lw_m5 203 rfl) rfl
theorem q1209 : (Jvm.Cond.methodLink "HandBlinds" (187 : Nat) ({ cls := "java/lang/String", name := "charAt", desc := "(I)C" } : Jvm.MethodName)) ∈ lw_all := lw_g (lw_at lw_m5 204 rfl) rfl
theorem q1210 : (Jvm.Cond.constant "HandBlinds" (191 : Nat) (-1000004 : Int32)) ∈ lw_all := lw_g (lw_at lw_m5 205 rfl) rfl
theorem q1212 : (Jvm.Cond.instanceMethod ({ cls := "HandBlinds", name := "routeOf", desc := "(II)I" } : Jvm.MethodName)) ∈ lw_all := lw_g (lw_at lw_m5 207 rfl) rfl
theorem q1213 : (Jvm.Cond.selects "HandBlinds" ({ cls := "HandBlinds", name := "routeOf", desc := "(II)I" } : Jvm.MethodName) ({ cls := "HandBlinds", name := "routeOf", desc := "(II)I" } : Jvm.MethodName)) ∈ lw_all := lw_g (lw_at lw_m5 208 rfl) rfl
theorem q1214 : (Jvm.Cond.code ({ cls := "HandBlinds", name := "routeOf", desc := "(II)I" } : Jvm.MethodName) prog_1_method_20_code (4 : Nat) (Option.some Jvm.ClassFile.FieldType.int)) ∈ lw_all := lw_g (lw_at lw_m5 209 rfl) rfl
theorem q1215 : (Jvm.Cond.methodLink "HandBlinds" (192 : Nat) ({ cls := "HandBlinds$Blind", name := "isRoute", desc := "(I)Z" } : Jvm.MethodName)) ∈ lw_all := lw_g (lw_at lw_m5 210 rfl) rfl
theorem q1216 : (Jvm.Cond.constantLong "HandBlinds" (195 : Nat) (4 : Int64)) ∈ lw_all := lw_g (lw_at lw_m5 211 rfl) rfl
theorem q1217 : (Jvm.Cond.methodLink "HandBlinds" (197 : Nat) ({ cls := "HandBlinds$Route", name := "bits", desc := "()I" } : Jvm.MethodName)) ∈ lw_all := lw_g (lw_at lw_m5 212 rfl) rfl
theorem q1218 : (Jvm.Cond.methodLink "HandBlinds" (200 : Nat) ({ cls := "java/util/BitSet", name := "cardinality", desc := "()I" } : Jvm.MethodName)) ∈ lw_all := lw_g (lw_at lw_m5 213 rfl) rfl
theorem q1228 : (Jvm.Cond.methodLink "HandBlinds" (203 : Nat) ({ cls := "HandBlinds$Blind", name := "tornSet", desc := "()I" } : Jvm.MethodName)) ∈ lw_all := lw_g (lw_at lw_m5 223 rfl) rfl
theorem q1233 : (Jvm.Cond.instanceMethod ({ cls := "HandBlinds", name := "would", desc := "(III)I" } : Jvm.MethodName)) ∈ lw_all := lw_g (lw_at lw_m5 228 rfl) rfl
theorem q1234 : (Jvm.Cond.selects "HandBlinds" ({ cls := "HandBlinds", name := "would", desc := "(III)I" } : Jvm.MethodName) ({ cls := "HandBlinds", name := "would", desc := "(III)I" } : Jvm.MethodName)) ∈ lw_all := lw_g (lw_at lw_m5 229 rfl) rfl
theorem q1235 : (Jvm.Cond.code ({ cls := "HandBlinds", name := "would", desc := "(III)I" } : Jvm.MethodName) prog_1_method_21_code (4 : Nat) (Option.some Jvm.ClassFile.FieldType.int)) ∈ lw_all := lw_g (lw_at lw_m5 230 rfl) rfl
theorem q1236 : (Jvm.Cond.methodLink "HandBlinds" (212 : Nat) ({ cls := "HandBlinds$Blind", name := "isCranking", desc := "(II)Z" } : Jvm.MethodName)) ∈ lw_all := lw_g (lw_at lw_m5 231 rfl) rfl
theorem q1237 : (Jvm.Cond.constantLong "HandBlinds" (216 : Nat) (3 : Int64)) ∈ lw_all := lw_g (lw_at lw_m5 232 rfl) rfl
theorem q1238 : (Jvm.Cond.methodLink "HandBlinds" (218 : Nat) ({ cls := "java/util/ArrayList", name := "isEmpty", desc := "()Z" } : Jvm.MethodName)) ∈ lw_all := lw_g (lw_at lw_m5 233 rfl) rfl
theorem q1239 : (Jvm.Cond.methodLink "HandBlinds" (222 : Nat) ({ cls := "HandBlinds$Blind", name := "cranked", desc := "(III)I" } : Jvm.MethodName)) ∈ lw_all := lw_g (lw_at lw_m5 234 rfl) rfl
theorem q1241 : (Jvm.Cond.instanceMethod ({ cls := "HandBlinds", name := "nearest", desc := "(I)I" } : Jvm.MethodName)) ∈ lw_all := lw_g (lw_at lw_m5 236 rfl) rfl
theorem q1242 : (Jvm.Cond.selects "HandBlinds" ({ cls := "HandBlinds", name := "nearest", desc := "(I)I" } : Jvm.MethodName) ({ cls := "HandBlinds", name := "nearest", desc := "(I)I" } : Jvm.MethodName)) ∈ lw_all := lw_g (lw_at lw_m5 237 rfl) rfl
theorem q1243 : (Jvm.Cond.code ({ cls := "HandBlinds", name := "nearest", desc := "(I)I" } : Jvm.MethodName) prog_1_method_22_code (7 : Nat) (Option.some Jvm.ClassFile.FieldType.int)) ∈ lw_all := lw_g (lw_at lw_m5 238 rfl) rfl
theorem q1244 : (Jvm.Cond.methodLink "HandBlinds" (226 : Nat) ({ cls := "java/lang/Math", name := "abs", desc := "(I)I" } : Jvm.MethodName)) ∈ lw_all := lw_g (lw_at lw_m5 239 rfl) rfl
theorem q1245 : (Jvm.Cond.methodLink "HandBlinds" (231 : Nat) ({ cls := "HandBlinds$Blind", name := "wrong", desc := "(I)I" } : Jvm.MethodName)) ∈ lw_all := lw_g (lw_at lw_m6 0 rfl) rfl
theorem q1247 : (Jvm.Cond.instanceMethod ({ cls := "HandBlinds", name := "alike", desc := "(II)I" } : Jvm.MethodName)) ∈ lw_all := lw_g (lw_at lw_m6 2 rfl) rfl
theorem q1248 : (Jvm.Cond.selects "HandBlinds" ({ cls := "HandBlinds", name := "alike", desc := "(II)I" } : Jvm.MethodName) ({ cls := "HandBlinds", name := "alike", desc := "(II)I" } : Jvm.MethodName)) ∈ lw_all := lw_g (lw_at lw_m6 3 rfl) rfl
theorem q1249 : (Jvm.Cond.code ({ cls := "HandBlinds", name := "alike", desc := "(II)I" } : Jvm.MethodName) prog_1_method_23_code (6 : Nat) (Option.some Jvm.ClassFile.FieldType.int)) ∈ lw_all := lw_g (lw_at lw_m6 4 rfl) rfl
theorem q1251 : (Jvm.Cond.instanceMethod ({ cls := "HandBlinds", name := "read", desc := "(I)I" } : Jvm.MethodName)) ∈ lw_all := lw_g (lw_at lw_m6 6 rfl) rfl
theorem q1252 : (Jvm.Cond.selects "HandBlinds" ({ cls := "HandBlinds", name := "read", desc := "(I)I" } : Jvm.MethodName) ({ cls := "HandBlinds", name := "read", desc := "(I)I" } : Jvm.MethodName)) ∈ lw_all := lw_g (lw_at lw_m6 7 rfl) rfl
theorem q1253 : (Jvm.Cond.code ({ cls := "HandBlinds", name := "read", desc := "(I)I" } : Jvm.MethodName) prog_1_method_24_code (7 : Nat) (Option.some Jvm.ClassFile.FieldType.int)) ∈ lw_all := lw_g (lw_at lw_m6 8 rfl) rfl
theorem q1254 : (Jvm.Cond.constantLong "HandBlinds" (234 : Nat) (999 : Int64)) ∈ lw_all := lw_g (lw_at lw_m6 9 rfl) rfl
theorem q1255 : (Jvm.Cond.methodLink "HandBlinds" (236 : Nat) ({ cls := "HandBlinds$Lettered", name := "width", desc := "(C)I" } : Jvm.MethodName)) ∈ lw_all := lw_g (lw_at lw_m6 10 rfl) rfl
theorem q1257 : (Jvm.Cond.instanceMethod ({ cls := "HandBlinds", name := "find", desc := "()I" } : Jvm.MethodName)) ∈ lw_all := lw_g (lw_at lw_m6 12 rfl) rfl
theorem q1258 : (Jvm.Cond.selects "HandBlinds" ({ cls := "HandBlinds", name := "find", desc := "()I" } : Jvm.MethodName) ({ cls := "HandBlinds", name := "find", desc := "()I" } : Jvm.MethodName)) ∈ lw_all := lw_g (lw_at lw_m6 13 rfl) rfl
theorem q1259 : (Jvm.Cond.code ({ cls := "HandBlinds", name := "find", desc := "()I" } : Jvm.MethodName) prog_1_method_25_code (5 : Nat) (Option.some Jvm.ClassFile.FieldType.int)) ∈ lw_all := lw_g (lw_at lw_m6 14 rfl) rfl
theorem q1260 : (Jvm.Cond.methodLink "HandBlinds" (242 : Nat) ({ cls := "HandBlinds$Blind", name := "iterator", desc := "()Ljava/util/Iterator;" } : Jvm.MethodName)) ∈ lw_all := lw_g (lw_at lw_m6 15 rfl) rfl
theorem q1261 : (Jvm.Cond.interfaceEntry "HandBlinds" (246 : Nat)) ∈ lw_tbl := lw_at lw_m6 16 rfl
theorem q1262 : (Jvm.Cond.methodLink "HandBlinds" (246 : Nat) ({ cls := "java/util/Iterator", name := "hasNext", desc := "()Z" } : Jvm.MethodName)) ∈ lw_all := lw_g (lw_at lw_m6 17 rfl) rfl
theorem q1263 : (Jvm.Cond.interfaceEntry "HandBlinds" (251 : Nat)) ∈ lw_tbl := lw_at lw_m6 18 rfl
theorem q1264 : (Jvm.Cond.methodLink "HandBlinds" (251 : Nat) ({ cls := "java/util/Iterator", name := "next", desc := "()Ljava/lang/Object;" } : Jvm.MethodName)) ∈ lw_all := lw_g (lw_at lw_m6 19 rfl) rfl
theorem q1265 : (Jvm.Cond.methodLink "HandBlinds" (254 : Nat) ({ cls := "java/lang/String", name := "equals", desc := "(Ljava/lang/Object;)Z" } : Jvm.MethodName)) ∈ lw_all := lw_g (lw_at lw_m6 20 rfl) rfl
theorem q1267 : (Jvm.Cond.instanceMethod ({ cls := "HandBlinds", name := "mean", desc := "()I" } : Jvm.MethodName)) ∈ lw_all := lw_g (lw_at lw_m6 22 rfl) rfl
theorem q1268 : (Jvm.Cond.selects "HandBlinds" ({ cls := "HandBlinds", name := "mean", desc := "()I" } : Jvm.MethodName) ({ cls := "HandBlinds", name := "mean", desc := "()I" } : Jvm.MethodName)) ∈ lw_all := lw_g (lw_at lw_m6 23 rfl) rfl
theorem q1269 : (Jvm.Cond.code ({ cls := "HandBlinds", name := "mean", desc := "()I" } : Jvm.MethodName) prog_1_method_26_code (5 : Nat) (Option.some Jvm.ClassFile.FieldType.int)) ∈ lw_all := lw_g (lw_at lw_m6 24 rfl) rfl
theorem q1270 : (Jvm.Cond.methodLink "HandBlinds" (258 : Nat) ({ cls := "java/lang/Float", name := "floatToIntBits", desc := "(F)I" } : Jvm.MethodName)) ∈ lw_all := lw_g (lw_at lw_m6 25 rfl) rfl
theorem q1281 : (Jvm.Cond.instanceMethod ({ cls := "HandBlinds", name := "count", desc := "(I)I" } : Jvm.MethodName)) ∈ lw_all := lw_g (lw_at lw_m6 36 rfl) rfl
theorem q1282 : (Jvm.Cond.selects "HandBlinds" ({ cls := "HandBlinds", name := "count", desc := "(I)I" } : Jvm.MethodName) ({ cls := "HandBlinds", name := "count", desc := "(I)I" } : Jvm.MethodName)) ∈ lw_all := lw_g (lw_at lw_m6 37 rfl) rfl
theorem q1283 : (Jvm.Cond.code ({ cls := "HandBlinds", name := "count", desc := "(I)I" } : Jvm.MethodName) prog_1_method_30_code (2 : Nat) (Option.some Jvm.ClassFile.FieldType.int)) ∈ lw_all := lw_g (lw_at lw_m6 38 rfl) rfl
theorem q1284 : (Jvm.Cond.constantLong "HandBlinds" (279 : Nat) (10 : Int64)) ∈ lw_all := lw_g (lw_at lw_m6 39 rfl) rfl
theorem q1285 : (Jvm.Cond.methodLink "HandBlinds" (281 : Nat) ({ cls := "HandBlinds", name := "ofBlind", desc := "(I)I" } : Jvm.MethodName)) ∈ lw_all := lw_g (lw_at lw_m6 40 rfl) rfl
theorem q1286 : (Jvm.Cond.privateMethod ({ cls := "HandBlinds", name := "ofBlind", desc := "(I)I" } : Jvm.MethodName)) ∈ lw_tbl := lw_at lw_m6 41 rfl
theorem q1287 : (Jvm.Cond.instanceMethod ({ cls := "HandBlinds", name := "ofBlind", desc := "(I)I" } : Jvm.MethodName)) ∈ lw_all := lw_g (lw_at lw_m6 42 rfl) rfl
theorem q1288 : (Jvm.Cond.code ({ cls := "HandBlinds", name := "ofBlind", desc := "(I)I" } : Jvm.MethodName) prog_1_method_29_code (2 : Nat) (Option.some Jvm.ClassFile.FieldType.int)) ∈ lw_all := lw_g (lw_at lw_m6 43 rfl) rfl
theorem q1289 : (Jvm.Cond.methodLink "HandBlinds" (272 : Nat) ({ cls := "HandBlinds", name := "widest", desc := "()I" } : Jvm.MethodName)) ∈ lw_all := lw_g (lw_at lw_m6 44 rfl) rfl
theorem q1290 : (Jvm.Cond.privateMethod ({ cls := "HandBlinds", name := "widest", desc := "()I" } : Jvm.MethodName)) ∈ lw_tbl := lw_at lw_m6 45 rfl
theorem q1291 : (Jvm.Cond.instanceMethod ({ cls := "HandBlinds", name := "widest", desc := "()I" } : Jvm.MethodName)) ∈ lw_all := lw_g (lw_at lw_m6 46 rfl) rfl
theorem q1292 : (Jvm.Cond.code ({ cls := "HandBlinds", name := "widest", desc := "()I" } : Jvm.MethodName) prog_1_method_28_code (3 : Nat) (Option.some Jvm.ClassFile.FieldType.int)) ∈ lw_all := lw_g (lw_at lw_m6 47 rfl) rfl
theorem q1293 : (Jvm.Cond.methodLink "HandBlinds" (275 : Nat) ({ cls := "HandBlinds", name := "orNotFound", desc := "(ZI)I" } : Jvm.MethodName)) ∈ lw_all := lw_g (lw_at lw_m6 48 rfl) rfl
theorem q1294 : (Jvm.Cond.static ({ cls := "HandBlinds", name := "orNotFound", desc := "(ZI)I" } : Jvm.MethodName)) ∈ lw_all := lw_g (lw_at lw_m6 49 rfl) rfl
theorem q1295 : (Jvm.Cond.code ({ cls := "HandBlinds", name := "orNotFound", desc := "(ZI)I" } : Jvm.MethodName) prog_1_method_27_code (2 : Nat) (Option.some Jvm.ClassFile.FieldType.int)) ∈ lw_all := lw_g (lw_at lw_m6 50 rfl) rfl
theorem q1296 : (Jvm.Cond.methodLink "HandBlinds" (287 : Nat) ({ cls := "java/lang/StringBuilder", name := "length", desc := "()I" } : Jvm.MethodName)) ∈ lw_all := lw_g (lw_at lw_m6 51 rfl) rfl
theorem q1297 : (Jvm.Cond.constantLong "HandBlinds" (288 : Nat) (20 : Int64)) ∈ lw_all := lw_g (lw_at lw_m6 52 rfl) rfl
theorem q1298 : (Jvm.Cond.constantLong "HandBlinds" (290 : Nat) (22 : Int64)) ∈ lw_all := lw_g (lw_at lw_m6 53 rfl) rfl
theorem q1300 : (Jvm.Cond.instanceMethod ({ cls := "HandBlinds", name := "undo", desc := "()I" } : Jvm.MethodName)) ∈ lw_all := lw_g (lw_at lw_m6 55 rfl) rfl
theorem q1301 : (Jvm.Cond.selects "HandBlinds" ({ cls := "HandBlinds", name := "undo", desc := "()I" } : Jvm.MethodName) ({ cls := "HandBlinds", name := "undo", desc := "()I" } : Jvm.MethodName)) ∈ lw_all := lw_g (lw_at lw_m6 56 rfl) rfl
theorem q1302 : (Jvm.Cond.code ({ cls := "HandBlinds", name := "undo", desc := "()I" } : Jvm.MethodName) prog_1_method_31_code (1 : Nat) (Option.some Jvm.ClassFile.FieldType.int)) ∈ lw_all := lw_g (lw_at lw_m6 57 rfl) rfl
theorem q1303 : (Jvm.Cond.methodLink "HandBlinds" (292 : Nat) ({ cls := "java/util/ArrayDeque", name := "isEmpty", desc := "()Z" } : Jvm.MethodName)) ∈ lw_all := lw_g (lw_at lw_m6 58 rfl) rfl
theorem q1307 : (Jvm.Cond.methodLink "HandBlinds" (293 : Nat) ({ cls := "java/util/ArrayDeque", name := "removeLast", desc := "()Ljava/lang/Object;" } : Jvm.MethodName)) ∈ lw_all := lw_g (lw_at lw_m6 62 rfl) rfl
theorem q1319 : (Jvm.Cond.instanceMethod ({ cls := "HandBlinds", name := "type", desc := "(I)I" } : Jvm.MethodName)) ∈ lw_all := lw_g (lw_at lw_m6 74 rfl) rfl
theorem q1320 : (Jvm.Cond.selects "HandBlinds" ({ cls := "HandBlinds", name := "type", desc := "(I)I" } : Jvm.MethodName) ({ cls := "HandBlinds", name := "type", desc := "(I)I" } : Jvm.MethodName)) ∈ lw_all := lw_g (lw_at lw_m6 75 rfl) rfl
theorem q1321 : (Jvm.Cond.code ({ cls := "HandBlinds", name := "type", desc := "(I)I" } : Jvm.MethodName) prog_1_method_32_code (2 : Nat) (Option.some Jvm.ClassFile.FieldType.int)) ∈ lw_all := lw_g (lw_at lw_m6 76 rfl) rfl
theorem q1322 : (Jvm.Cond.constantLong "HandBlinds" (296 : Nat) (32 : Int64)) ∈ lw_all := lw_g (lw_at lw_m6 77 rfl) rfl
theorem q1323 : (Jvm.Cond.constantLong "HandBlinds" (298 : Nat) (126 : Int64)) ∈ lw_all := lw_g (lw_at lw_m6 78 rfl) rfl
theorem q1324 : (Jvm.Cond.constant "HandBlinds" (300 : Nat) (-1000003 : Int32)) ∈ lw_all := lw_g (lw_at lw_m6 79 rfl) rfl
theorem q1325 : (Jvm.Cond.methodLink "HandBlinds" (301 : Nat) ({ cls := "java/lang/StringBuilder", name := "append", desc := "(C)Ljava/lang/StringBuilder;" } : Jvm.MethodName)) ∈ lw_all := lw_g (lw_at lw_m6 80 rfl) rfl
theorem q1366 : (Jvm.Cond.instanceMethod ({ cls := "HandBlinds", name := "clearText", desc := "()I" } : Jvm.MethodName)) ∈ lw_all := lw_g (lw_at lw_m6 121 rfl) rfl
theorem q1367 : (Jvm.Cond.selects "HandBlinds" ({ cls := "HandBlinds", name := "clearText", desc := "()I" } : Jvm.MethodName) ({ cls := "HandBlinds", name := "clearText", desc := "()I" } : Jvm.MethodName)) ∈ lw_all := lw_g (lw_at lw_m6 122 rfl) rfl
theorem q1368 : (Jvm.Cond.code ({ cls := "HandBlinds", name := "clearText", desc := "()I" } : Jvm.MethodName) prog_1_method_33_code (2 : Nat) (Option.some Jvm.ClassFile.FieldType.int)) ∈ lw_all := lw_g (lw_at lw_m6 123 rfl) rfl
theorem q1369 : (Jvm.Cond.methodLink "HandBlinds" (305 : Nat) ({ cls := "java/lang/StringBuilder", name := "setLength", desc := "(I)V" } : Jvm.MethodName)) ∈ lw_all := lw_g (lw_at lw_m6 124 rfl) rfl
theorem q1390 : (Jvm.Cond.instanceMethod ({ cls := "HandBlinds", name := "fault", desc := "(I)I" } : Jvm.MethodName)) ∈ lw_all := lw_g (lw_at lw_m6 145 rfl) rfl
theorem q1391 : (Jvm.Cond.selects "HandBlinds" ({ cls := "HandBlinds", name := "fault", desc := "(I)I" } : Jvm.MethodName) ({ cls := "HandBlinds", name := "fault", desc := "(I)I" } : Jvm.MethodName)) ∈ lw_all := lw_g (lw_at lw_m6 146 rfl) rfl
theorem q1392 : (Jvm.Cond.codeWith ({ cls := "HandBlinds", name := "fault", desc := "(I)I" } : Jvm.MethodName) prog_1_method_34_code (3 : Nat) (Option.some Jvm.ClassFile.FieldType.int) [((15 : Nat), (33 : Nat), (34 : Nat), (112 : Nat))]) ∈ lw_all := lw_g (lw_at lw_m6 147 rfl) rfl
theorem q1393 : (Jvm.Cond.constantLong "HandBlinds" (308 : Nat) (2 : Int64)) ∈ lw_all := lw_g (lw_at lw_m6 148 rfl) rfl
theorem q1670 : (Jvm.Cond.castable "HandBlinds" "java/lang/Object") ∈ lw_tbl := lw_at lw_m7 185 rfl
theorem in_X0 : ∀ w ∈ wsX00, w ∈ lw_all := lw_in wsX00 [221, 223, 225] (by decide +kernel) (by decide +kernel)
/-! HandBlinds$Blind -/
set_option maxRecDepth 100000
def RX1 : String := "HandBlinds$Blind"
def TX1 : u_T := fun k => match k with
  | 0 => ("HandBlinds$Blind", "rows", "Ljava/util/ArrayList;", true)
  | 1 => ("HandBlinds$Blind", "routes", "Ljava/util/ArrayList;", true)
  | 2 => ("HandBlinds$Blind", "settings", "[I", false)
  | 3 => ("HandBlinds$Blind", "shown", "I", false)
  | 4 => ("HandBlinds$Blind", "on", "I", false)
  | 5 => ("HandBlinds$Blind", "tears", "I", false)
  | 6 => ("HandBlinds$Blind", "passed", "I", false)
  | 7 => ("HandBlinds$Blind", "stops", "I", false)
  | _ => ("HandBlinds$Blind", "right", "I", false)
def tyX1 : Nat → FieldType := fun k => match k with
  | 0 => .object "java/util/ArrayList"
  | 1 => .object "java/util/ArrayList"
  | 2 => .array .int
  | 3 => .int
  | 4 => .int
  | 5 => .int
  | 6 => .int
  | 7 => .int
  | _ => .int
abbrev wsX10 : List Cond := u_ws RX1 TX1 9
theorem nmX1 : ∀ a, a < 9 → ∀ b, b < 9 → a ≠ b → (TX1 a).2.1 ≠ (TX1 b).2.1 := by decide +kernel
theorem tyX1_ok : ∀ k, k < 9 → parseFieldDescriptor (TX1 k).2.2.1 = some (tyX1 k) := by decide +kernel
abbrev cX1_init : ByteArray := prog_2_method_1_code
def yX1_init : MethodName := ⟨RX1, "<init>", "()V"⟩
def dkwX1_init_2 : List UInt8 := [181, 0, 21, 42, 2, 181, 0, 25, 177]
abbrev dktX1_init_2 : List UInt8 := dkwX1_init_2 ++ []
def dkwX1_init_1 : List UInt8 := [181, 0, 18, 42, 6, 188, 10, 89, 3, 16, 24, 79, 89, 4, 16, 30, 79, 89, 5, 16, 10, 79]
abbrev dktX1_init_1 : List UInt8 := dkwX1_init_1 ++ dktX1_init_2
def dkwX1_init_0 : List UInt8 := [42, 183, 0, 3, 42, 187, 0, 9, 89, 183, 0, 11, 181, 0, 12, 42, 187, 0, 9, 89, 183, 0, 11]
abbrev dktX1_init_0 : List UInt8 := dkwX1_init_0 ++ dktX1_init_1
theorem dksX1_init_0 : cX1_init.data.toList.drop 0 = dktX1_init_0 := by decide +kernel
theorem dksX1_init_1 : cX1_init.data.toList.drop 23 = dktX1_init_1 := dk_seg dksX1_init_0 23 rfl rfl
theorem dksX1_init_2 : cX1_init.data.toList.drop 45 = dktX1_init_2 := dk_seg dksX1_init_1 22 rfl rfl
theorem dX1_init_0 : decode cX1_init 0 = .ok (.aload_n 0, 1) := dk_42 (dk_at dksX1_init_0 0 rfl rfl)
theorem dX1_init_1 : decode cX1_init 1 = .ok (.invokespecial 3, 3) := dk_183 0 3 (dk_at dksX1_init_0 1 rfl rfl)
theorem dX1_init_4 : decode cX1_init 4 = .ok (.aload_n 0, 1) := dk_42 (dk_at dksX1_init_0 4 rfl rfl)
theorem dX1_init_5 : decode cX1_init 5 = .ok (.new 9, 3) := dk_187 0 9 (dk_at dksX1_init_0 5 rfl rfl)
theorem dX1_init_8 : decode cX1_init 8 = .ok (.dup, 1) := dk_89 (dk_at dksX1_init_0 8 rfl rfl)
theorem dX1_init_9 : decode cX1_init 9 = .ok (.invokespecial 11, 3) := dk_183 0 11 (dk_at dksX1_init_0 9 rfl rfl)
theorem dX1_init_12 : decode cX1_init 12 = .ok (.putfield 12, 3) := dk_181 0 12 (dk_at dksX1_init_0 12 rfl rfl)
theorem dX1_init_15 : decode cX1_init 15 = .ok (.aload_n 0, 1) := dk_42 (dk_at dksX1_init_0 15 rfl rfl)
theorem dX1_init_16 : decode cX1_init 16 = .ok (.new 9, 3) := dk_187 0 9 (dk_at dksX1_init_0 16 rfl rfl)
theorem dX1_init_19 : decode cX1_init 19 = .ok (.dup, 1) := dk_89 (dk_at dksX1_init_0 19 rfl rfl)
theorem dX1_init_20 : decode cX1_init 20 = .ok (.invokespecial 11, 3) := dk_183 0 11 (dk_at dksX1_init_0 20 rfl rfl)
theorem dX1_init_23 : decode cX1_init 23 = .ok (.putfield 18, 3) := dk_181 0 18 (dk_at dksX1_init_1 0 rfl rfl)
theorem dX1_init_26 : decode cX1_init 26 = .ok (.aload_n 0, 1) := dk_42 (dk_at dksX1_init_1 3 rfl rfl)
theorem dX1_init_27 : decode cX1_init 27 = .ok (.iconst 3, 1) := dk_6 (dk_at dksX1_init_1 4 rfl rfl)
theorem dX1_init_28 : decode cX1_init 28 = .ok (.newarray .int, 2) := dk_188_10 (dk_at dksX1_init_1 5 rfl rfl)
theorem dX1_init_30 : decode cX1_init 30 = .ok (.dup, 1) := dk_89 (dk_at dksX1_init_1 7 rfl rfl)
theorem dX1_init_31 : decode cX1_init 31 = .ok (.iconst 0, 1) := dk_3 (dk_at dksX1_init_1 8 rfl rfl)
theorem dX1_init_32 : decode cX1_init 32 = .ok (.bipush 24, 2) := dk_16 24 (dk_at dksX1_init_1 9 rfl rfl)
theorem dX1_init_34 : decode cX1_init 34 = .ok (.iastore, 1) := dk_79 (dk_at dksX1_init_1 11 rfl rfl)
theorem dX1_init_35 : decode cX1_init 35 = .ok (.dup, 1) := dk_89 (dk_at dksX1_init_1 12 rfl rfl)
theorem dX1_init_36 : decode cX1_init 36 = .ok (.iconst 1, 1) := dk_4 (dk_at dksX1_init_1 13 rfl rfl)
theorem dX1_init_37 : decode cX1_init 37 = .ok (.bipush 30, 2) := dk_16 30 (dk_at dksX1_init_1 14 rfl rfl)
theorem dX1_init_39 : decode cX1_init 39 = .ok (.iastore, 1) := dk_79 (dk_at dksX1_init_1 16 rfl rfl)
theorem dX1_init_40 : decode cX1_init 40 = .ok (.dup, 1) := dk_89 (dk_at dksX1_init_1 17 rfl rfl)
theorem dX1_init_41 : decode cX1_init 41 = .ok (.iconst 2, 1) := dk_5 (dk_at dksX1_init_1 18 rfl rfl)
theorem dX1_init_42 : decode cX1_init 42 = .ok (.bipush 10, 2) := dk_16 10 (dk_at dksX1_init_1 19 rfl rfl)
theorem dX1_init_44 : decode cX1_init 44 = .ok (.iastore, 1) := dk_79 (dk_at dksX1_init_1 21 rfl rfl)
theorem dX1_init_45 : decode cX1_init 45 = .ok (.putfield 21, 3) := dk_181 0 21 (dk_at dksX1_init_2 0 rfl rfl)
theorem dX1_init_48 : decode cX1_init 48 = .ok (.aload_n 0, 1) := dk_42 (dk_at dksX1_init_2 3 rfl rfl)
theorem dX1_init_49 : decode cX1_init 49 = .ok (.iconst (-1), 1) := dk_2 (dk_at dksX1_init_2 4 rfl rfl)
theorem dX1_init_50 : decode cX1_init 50 = .ok (.putfield 25, 3) := dk_181 0 25 (dk_at dksX1_init_2 5 rfl rfl)
theorem dX1_init_53 : decode cX1_init 53 = .ok (.return_, 1) := dk_177 (dk_at dksX1_init_2 8 rfl rfl)
abbrev cX1_init_2 : ByteArray := prog_2_method_2_code
def yX1_init_2 : MethodName := ⟨RX1, "<init>", "(LHandBlinds$Blind;)V"⟩
def dkwX1_init_2_8 : List UInt8 := [181, 0, 68, 42, 43, 180, 0, 71, 181, 0, 71, 42, 43, 180, 0, 74, 181, 0, 74, 177]
abbrev dktX1_init_2_8 : List UInt8 := dkwX1_init_2_8 ++ []
def dkwX1_init_2_7 : List UInt8 := [181, 0, 62, 42, 43, 180, 0, 25, 181, 0, 25, 42, 43, 180, 0, 65, 181, 0, 65, 42, 43, 180, 0, 68]
abbrev dktX1_init_2_7 : List UInt8 := dkwX1_init_2_7 ++ dktX1_init_2_8
def dkwX1_init_2_6 : List UInt8 := [87, 167, 255, 221, 42, 43, 180, 0, 21, 182, 0, 58, 192, 0, 59, 181, 0, 21, 42, 43, 180, 0, 62]
abbrev dktX1_init_2_6 : List UInt8 := dkwX1_init_2_6 ++ dktX1_init_2_7
def dkwX1_init_2_5 : List UInt8 := [185, 0, 39, 1, 0, 192, 0, 53, 78, 42, 180, 0, 18, 187, 0, 53, 89, 45, 183, 0, 55, 182, 0, 48]
abbrev dktX1_init_2_5 : List UInt8 := dkwX1_init_2_5 ++ dktX1_init_2_6
def dkwX1_init_2_4 : List UInt8 := [87, 167, 255, 221, 43, 180, 0, 18, 182, 0, 52, 77, 44, 185, 0, 33, 1, 0, 153, 0, 32, 44]
abbrev dktX1_init_2_4 : List UInt8 := dkwX1_init_2_4 ++ dktX1_init_2_5
def dkwX1_init_2_3 : List UInt8 := [185, 0, 39, 1, 0, 192, 0, 43, 78, 42, 180, 0, 12, 187, 0, 43, 89, 45, 183, 0, 45, 182, 0, 48]
abbrev dktX1_init_2_3 : List UInt8 := dkwX1_init_2_3 ++ dktX1_init_2_4
def dkwX1_init_2_2 : List UInt8 := [181, 0, 21, 42, 2, 181, 0, 25, 43, 182, 0, 29, 77, 44, 185, 0, 33, 1, 0, 153, 0, 32, 44]
abbrev dktX1_init_2_2 : List UInt8 := dkwX1_init_2_2 ++ dktX1_init_2_3
def dkwX1_init_2_1 : List UInt8 := [181, 0, 18, 42, 6, 188, 10, 89, 3, 16, 24, 79, 89, 4, 16, 30, 79, 89, 5, 16, 10, 79]
abbrev dktX1_init_2_1 : List UInt8 := dkwX1_init_2_1 ++ dktX1_init_2_2
def dkwX1_init_2_0 : List UInt8 := [42, 183, 0, 3, 42, 187, 0, 9, 89, 183, 0, 11, 181, 0, 12, 42, 187, 0, 9, 89, 183, 0, 11]
abbrev dktX1_init_2_0 : List UInt8 := dkwX1_init_2_0 ++ dktX1_init_2_1
theorem dksX1_init_2_0 : cX1_init_2.data.toList.drop 0 = dktX1_init_2_0 := by decide +kernel
theorem dksX1_init_2_1 : cX1_init_2.data.toList.drop 23 = dktX1_init_2_1 := dk_seg dksX1_init_2_0 23 rfl rfl
theorem dksX1_init_2_2 : cX1_init_2.data.toList.drop 45 = dktX1_init_2_2 := dk_seg dksX1_init_2_1 22 rfl rfl
theorem dksX1_init_2_3 : cX1_init_2.data.toList.drop 68 = dktX1_init_2_3 := dk_seg dksX1_init_2_2 23 rfl rfl
theorem dksX1_init_2_4 : cX1_init_2.data.toList.drop 92 = dktX1_init_2_4 := dk_seg dksX1_init_2_3 24 rfl rfl
theorem dksX1_init_2_5 : cX1_init_2.data.toList.drop 114 = dktX1_init_2_5 := dk_seg dksX1_init_2_4 22 rfl rfl
theorem dksX1_init_2_6 : cX1_init_2.data.toList.drop 138 = dktX1_init_2_6 := dk_seg dksX1_init_2_5 24 rfl rfl
theorem dksX1_init_2_7 : cX1_init_2.data.toList.drop 161 = dktX1_init_2_7 := dk_seg dksX1_init_2_6 23 rfl rfl
theorem dksX1_init_2_8 : cX1_init_2.data.toList.drop 185 = dktX1_init_2_8 := dk_seg dksX1_init_2_7 24 rfl rfl
theorem dX1_init_2_0 : decode cX1_init_2 0 = .ok (.aload_n 0, 1) := dk_42 (dk_at dksX1_init_2_0 0 rfl rfl)
theorem dX1_init_2_1 : decode cX1_init_2 1 = .ok (.invokespecial 3, 3) := dk_183 0 3 (dk_at dksX1_init_2_0 1 rfl rfl)
theorem dX1_init_2_4 : decode cX1_init_2 4 = .ok (.aload_n 0, 1) := dk_42 (dk_at dksX1_init_2_0 4 rfl rfl)
theorem dX1_init_2_5 : decode cX1_init_2 5 = .ok (.new 9, 3) := dk_187 0 9 (dk_at dksX1_init_2_0 5 rfl rfl)
theorem dX1_init_2_8 : decode cX1_init_2 8 = .ok (.dup, 1) := dk_89 (dk_at dksX1_init_2_0 8 rfl rfl)
theorem dX1_init_2_9 : decode cX1_init_2 9 = .ok (.invokespecial 11, 3) := dk_183 0 11 (dk_at dksX1_init_2_0 9 rfl rfl)
theorem dX1_init_2_12 : decode cX1_init_2 12 = .ok (.putfield 12, 3) := dk_181 0 12 (dk_at dksX1_init_2_0 12 rfl rfl)
theorem dX1_init_2_15 : decode cX1_init_2 15 = .ok (.aload_n 0, 1) := dk_42 (dk_at dksX1_init_2_0 15 rfl rfl)
theorem dX1_init_2_16 : decode cX1_init_2 16 = .ok (.new 9, 3) := dk_187 0 9 (dk_at dksX1_init_2_0 16 rfl rfl)
theorem dX1_init_2_19 : decode cX1_init_2 19 = .ok (.dup, 1) := dk_89 (dk_at dksX1_init_2_0 19 rfl rfl)
theorem dX1_init_2_20 : decode cX1_init_2 20 = .ok (.invokespecial 11, 3) := dk_183 0 11 (dk_at dksX1_init_2_0 20 rfl rfl)
theorem dX1_init_2_23 : decode cX1_init_2 23 = .ok (.putfield 18, 3) := dk_181 0 18 (dk_at dksX1_init_2_1 0 rfl rfl)
theorem dX1_init_2_26 : decode cX1_init_2 26 = .ok (.aload_n 0, 1) := dk_42 (dk_at dksX1_init_2_1 3 rfl rfl)
theorem dX1_init_2_27 : decode cX1_init_2 27 = .ok (.iconst 3, 1) := dk_6 (dk_at dksX1_init_2_1 4 rfl rfl)
theorem dX1_init_2_28 : decode cX1_init_2 28 = .ok (.newarray .int, 2) := dk_188_10 (dk_at dksX1_init_2_1 5 rfl rfl)
theorem dX1_init_2_30 : decode cX1_init_2 30 = .ok (.dup, 1) := dk_89 (dk_at dksX1_init_2_1 7 rfl rfl)
theorem dX1_init_2_31 : decode cX1_init_2 31 = .ok (.iconst 0, 1) := dk_3 (dk_at dksX1_init_2_1 8 rfl rfl)
theorem dX1_init_2_32 : decode cX1_init_2 32 = .ok (.bipush 24, 2) := dk_16 24 (dk_at dksX1_init_2_1 9 rfl rfl)
theorem dX1_init_2_34 : decode cX1_init_2 34 = .ok (.iastore, 1) := dk_79 (dk_at dksX1_init_2_1 11 rfl rfl)
theorem dX1_init_2_35 : decode cX1_init_2 35 = .ok (.dup, 1) := dk_89 (dk_at dksX1_init_2_1 12 rfl rfl)
theorem dX1_init_2_36 : decode cX1_init_2 36 = .ok (.iconst 1, 1) := dk_4 (dk_at dksX1_init_2_1 13 rfl rfl)
theorem dX1_init_2_37 : decode cX1_init_2 37 = .ok (.bipush 30, 2) := dk_16 30 (dk_at dksX1_init_2_1 14 rfl rfl)
theorem dX1_init_2_39 : decode cX1_init_2 39 = .ok (.iastore, 1) := dk_79 (dk_at dksX1_init_2_1 16 rfl rfl)
theorem dX1_init_2_40 : decode cX1_init_2 40 = .ok (.dup, 1) := dk_89 (dk_at dksX1_init_2_1 17 rfl rfl)
theorem dX1_init_2_41 : decode cX1_init_2 41 = .ok (.iconst 2, 1) := dk_5 (dk_at dksX1_init_2_1 18 rfl rfl)
theorem dX1_init_2_42 : decode cX1_init_2 42 = .ok (.bipush 10, 2) := dk_16 10 (dk_at dksX1_init_2_1 19 rfl rfl)
theorem dX1_init_2_44 : decode cX1_init_2 44 = .ok (.iastore, 1) := dk_79 (dk_at dksX1_init_2_1 21 rfl rfl)
theorem dX1_init_2_45 : decode cX1_init_2 45 = .ok (.putfield 21, 3) := dk_181 0 21 (dk_at dksX1_init_2_2 0 rfl rfl)
theorem dX1_init_2_48 : decode cX1_init_2 48 = .ok (.aload_n 0, 1) := dk_42 (dk_at dksX1_init_2_2 3 rfl rfl)
theorem dX1_init_2_49 : decode cX1_init_2 49 = .ok (.iconst (-1), 1) := dk_2 (dk_at dksX1_init_2_2 4 rfl rfl)
theorem dX1_init_2_50 : decode cX1_init_2 50 = .ok (.putfield 25, 3) := dk_181 0 25 (dk_at dksX1_init_2_2 5 rfl rfl)
theorem dX1_init_2_53 : decode cX1_init_2 53 = .ok (.aload_n 1, 1) := dk_43 (dk_at dksX1_init_2_2 8 rfl rfl)
theorem dX1_init_2_54 : decode cX1_init_2 54 = .ok (.invokevirtual 29, 3) := dk_182 0 29 (dk_at dksX1_init_2_2 9 rfl rfl)
theorem dX1_init_2_57 : decode cX1_init_2 57 = .ok (.astore_n 2, 1) := dk_77 (dk_at dksX1_init_2_2 12 rfl rfl)
theorem dX1_init_2_58 : decode cX1_init_2 58 = .ok (.aload_n 2, 1) := dk_44 (dk_at dksX1_init_2_2 13 rfl rfl)
theorem dX1_init_2_59 : decode cX1_init_2 59 = .ok (.invokeinterface 33 1, 5) := by decide +kernel
theorem dX1_init_2_64 : decode cX1_init_2 64 = .ok (.ifCond .eq 32, 3) := dk_153 0 32 (dk_at dksX1_init_2_2 19 rfl rfl)
theorem dX1_init_2_67 : decode cX1_init_2 67 = .ok (.aload_n 2, 1) := dk_44 (dk_at dksX1_init_2_2 22 rfl rfl)
theorem dX1_init_2_68 : decode cX1_init_2 68 = .ok (.invokeinterface 39 1, 5) := by decide +kernel
theorem dX1_init_2_73 : decode cX1_init_2 73 = .ok (.checkcast 43, 3) := dk_192 0 43 (dk_at dksX1_init_2_3 5 rfl rfl)
theorem dX1_init_2_76 : decode cX1_init_2 76 = .ok (.astore_n 3, 1) := dk_78 (dk_at dksX1_init_2_3 8 rfl rfl)
theorem dX1_init_2_77 : decode cX1_init_2 77 = .ok (.aload_n 0, 1) := dk_42 (dk_at dksX1_init_2_3 9 rfl rfl)
theorem dX1_init_2_78 : decode cX1_init_2 78 = .ok (.getfield 12, 3) := dk_180 0 12 (dk_at dksX1_init_2_3 10 rfl rfl)
theorem dX1_init_2_81 : decode cX1_init_2 81 = .ok (.new 43, 3) := dk_187 0 43 (dk_at dksX1_init_2_3 13 rfl rfl)
theorem dX1_init_2_84 : decode cX1_init_2 84 = .ok (.dup, 1) := dk_89 (dk_at dksX1_init_2_3 16 rfl rfl)
theorem dX1_init_2_85 : decode cX1_init_2 85 = .ok (.aload_n 3, 1) := dk_45 (dk_at dksX1_init_2_3 17 rfl rfl)
theorem dX1_init_2_86 : decode cX1_init_2 86 = .ok (.invokespecial 45, 3) := dk_183 0 45 (dk_at dksX1_init_2_3 18 rfl rfl)
theorem dX1_init_2_89 : decode cX1_init_2 89 = .ok (.invokevirtual 48, 3) := dk_182 0 48 (dk_at dksX1_init_2_3 21 rfl rfl)
theorem dX1_init_2_92 : decode cX1_init_2 92 = .ok (.pop, 1) := dk_87 (dk_at dksX1_init_2_4 0 rfl rfl)
theorem dX1_init_2_93 : decode cX1_init_2 93 = .ok (.goto (-35), 3) := dk_167 255 221 (dk_at dksX1_init_2_4 1 rfl rfl)
theorem dX1_init_2_96 : decode cX1_init_2 96 = .ok (.aload_n 1, 1) := dk_43 (dk_at dksX1_init_2_4 4 rfl rfl)
theorem dX1_init_2_97 : decode cX1_init_2 97 = .ok (.getfield 18, 3) := dk_180 0 18 (dk_at dksX1_init_2_4 5 rfl rfl)
theorem dX1_init_2_100 : decode cX1_init_2 100 = .ok (.invokevirtual 52, 3) := dk_182 0 52 (dk_at dksX1_init_2_4 8 rfl rfl)
theorem dX1_init_2_103 : decode cX1_init_2 103 = .ok (.astore_n 2, 1) := dk_77 (dk_at dksX1_init_2_4 11 rfl rfl)
theorem dX1_init_2_104 : decode cX1_init_2 104 = .ok (.aload_n 2, 1) := dk_44 (dk_at dksX1_init_2_4 12 rfl rfl)
theorem dX1_init_2_105 : decode cX1_init_2 105 = .ok (.invokeinterface 33 1, 5) := by decide +kernel
theorem dX1_init_2_110 : decode cX1_init_2 110 = .ok (.ifCond .eq 32, 3) := dk_153 0 32 (dk_at dksX1_init_2_4 18 rfl rfl)
theorem dX1_init_2_113 : decode cX1_init_2 113 = .ok (.aload_n 2, 1) := dk_44 (dk_at dksX1_init_2_4 21 rfl rfl)
theorem dX1_init_2_114 : decode cX1_init_2 114 = .ok (.invokeinterface 39 1, 5) := by decide +kernel
theorem dX1_init_2_119 : decode cX1_init_2 119 = .ok (.checkcast 53, 3) := dk_192 0 53 (dk_at dksX1_init_2_5 5 rfl rfl)
theorem dX1_init_2_122 : decode cX1_init_2 122 = .ok (.astore_n 3, 1) := dk_78 (dk_at dksX1_init_2_5 8 rfl rfl)
theorem dX1_init_2_123 : decode cX1_init_2 123 = .ok (.aload_n 0, 1) := dk_42 (dk_at dksX1_init_2_5 9 rfl rfl)
theorem dX1_init_2_124 : decode cX1_init_2 124 = .ok (.getfield 18, 3) := dk_180 0 18 (dk_at dksX1_init_2_5 10 rfl rfl)
theorem dX1_init_2_127 : decode cX1_init_2 127 = .ok (.new 53, 3) := dk_187 0 53 (dk_at dksX1_init_2_5 13 rfl rfl)
theorem dX1_init_2_130 : decode cX1_init_2 130 = .ok (.dup, 1) := dk_89 (dk_at dksX1_init_2_5 16 rfl rfl)
theorem dX1_init_2_131 : decode cX1_init_2 131 = .ok (.aload_n 3, 1) := dk_45 (dk_at dksX1_init_2_5 17 rfl rfl)
theorem dX1_init_2_132 : decode cX1_init_2 132 = .ok (.invokespecial 55, 3) := dk_183 0 55 (dk_at dksX1_init_2_5 18 rfl rfl)
theorem dX1_init_2_135 : decode cX1_init_2 135 = .ok (.invokevirtual 48, 3) := dk_182 0 48 (dk_at dksX1_init_2_5 21 rfl rfl)
theorem dX1_init_2_138 : decode cX1_init_2 138 = .ok (.pop, 1) := dk_87 (dk_at dksX1_init_2_6 0 rfl rfl)
theorem dX1_init_2_139 : decode cX1_init_2 139 = .ok (.goto (-35), 3) := dk_167 255 221 (dk_at dksX1_init_2_6 1 rfl rfl)
theorem dX1_init_2_142 : decode cX1_init_2 142 = .ok (.aload_n 0, 1) := dk_42 (dk_at dksX1_init_2_6 4 rfl rfl)
theorem dX1_init_2_143 : decode cX1_init_2 143 = .ok (.aload_n 1, 1) := dk_43 (dk_at dksX1_init_2_6 5 rfl rfl)
theorem dX1_init_2_144 : decode cX1_init_2 144 = .ok (.getfield 21, 3) := dk_180 0 21 (dk_at dksX1_init_2_6 6 rfl rfl)
theorem dX1_init_2_147 : decode cX1_init_2 147 = .ok (.invokevirtual 58, 3) := dk_182 0 58 (dk_at dksX1_init_2_6 9 rfl rfl)
theorem dX1_init_2_150 : decode cX1_init_2 150 = .ok (.checkcast 59, 3) := dk_192 0 59 (dk_at dksX1_init_2_6 12 rfl rfl)
theorem dX1_init_2_153 : decode cX1_init_2 153 = .ok (.putfield 21, 3) := dk_181 0 21 (dk_at dksX1_init_2_6 15 rfl rfl)
theorem dX1_init_2_156 : decode cX1_init_2 156 = .ok (.aload_n 0, 1) := dk_42 (dk_at dksX1_init_2_6 18 rfl rfl)
theorem dX1_init_2_157 : decode cX1_init_2 157 = .ok (.aload_n 1, 1) := dk_43 (dk_at dksX1_init_2_6 19 rfl rfl)
theorem dX1_init_2_158 : decode cX1_init_2 158 = .ok (.getfield 62, 3) := dk_180 0 62 (dk_at dksX1_init_2_6 20 rfl rfl)
theorem dX1_init_2_161 : decode cX1_init_2 161 = .ok (.putfield 62, 3) := dk_181 0 62 (dk_at dksX1_init_2_7 0 rfl rfl)
theorem dX1_init_2_164 : decode cX1_init_2 164 = .ok (.aload_n 0, 1) := dk_42 (dk_at dksX1_init_2_7 3 rfl rfl)
theorem dX1_init_2_165 : decode cX1_init_2 165 = .ok (.aload_n 1, 1) := dk_43 (dk_at dksX1_init_2_7 4 rfl rfl)
theorem dX1_init_2_166 : decode cX1_init_2 166 = .ok (.getfield 25, 3) := dk_180 0 25 (dk_at dksX1_init_2_7 5 rfl rfl)
theorem dX1_init_2_169 : decode cX1_init_2 169 = .ok (.putfield 25, 3) := dk_181 0 25 (dk_at dksX1_init_2_7 8 rfl rfl)
theorem dX1_init_2_172 : decode cX1_init_2 172 = .ok (.aload_n 0, 1) := dk_42 (dk_at dksX1_init_2_7 11 rfl rfl)
theorem dX1_init_2_173 : decode cX1_init_2 173 = .ok (.aload_n 1, 1) := dk_43 (dk_at dksX1_init_2_7 12 rfl rfl)
theorem dX1_init_2_174 : decode cX1_init_2 174 = .ok (.getfield 65, 3) := dk_180 0 65 (dk_at dksX1_init_2_7 13 rfl rfl)
theorem dX1_init_2_177 : decode cX1_init_2 177 = .ok (.putfield 65, 3) := dk_181 0 65 (dk_at dksX1_init_2_7 16 rfl rfl)
theorem dX1_init_2_180 : decode cX1_init_2 180 = .ok (.aload_n 0, 1) := dk_42 (dk_at dksX1_init_2_7 19 rfl rfl)
theorem dX1_init_2_181 : decode cX1_init_2 181 = .ok (.aload_n 1, 1) := dk_43 (dk_at dksX1_init_2_7 20 rfl rfl)
theorem dX1_init_2_182 : decode cX1_init_2 182 = .ok (.getfield 68, 3) := dk_180 0 68 (dk_at dksX1_init_2_7 21 rfl rfl)
theorem dX1_init_2_185 : decode cX1_init_2 185 = .ok (.putfield 68, 3) := dk_181 0 68 (dk_at dksX1_init_2_8 0 rfl rfl)
theorem dX1_init_2_188 : decode cX1_init_2 188 = .ok (.aload_n 0, 1) := dk_42 (dk_at dksX1_init_2_8 3 rfl rfl)
theorem dX1_init_2_189 : decode cX1_init_2 189 = .ok (.aload_n 1, 1) := dk_43 (dk_at dksX1_init_2_8 4 rfl rfl)
theorem dX1_init_2_190 : decode cX1_init_2 190 = .ok (.getfield 71, 3) := dk_180 0 71 (dk_at dksX1_init_2_8 5 rfl rfl)
theorem dX1_init_2_193 : decode cX1_init_2 193 = .ok (.putfield 71, 3) := dk_181 0 71 (dk_at dksX1_init_2_8 8 rfl rfl)
theorem dX1_init_2_196 : decode cX1_init_2 196 = .ok (.aload_n 0, 1) := dk_42 (dk_at dksX1_init_2_8 11 rfl rfl)
theorem dX1_init_2_197 : decode cX1_init_2 197 = .ok (.aload_n 1, 1) := dk_43 (dk_at dksX1_init_2_8 12 rfl rfl)
theorem dX1_init_2_198 : decode cX1_init_2 198 = .ok (.getfield 74, 3) := dk_180 0 74 (dk_at dksX1_init_2_8 13 rfl rfl)
theorem dX1_init_2_201 : decode cX1_init_2 201 = .ok (.putfield 74, 3) := dk_181 0 74 (dk_at dksX1_init_2_8 16 rfl rfl)
theorem dX1_init_2_204 : decode cX1_init_2 204 = .ok (.return_, 1) := dk_177 (dk_at dksX1_init_2_8 19 rfl rfl)
abbrev cX1_iterator : ByteArray := prog_2_method_3_code
def yX1_iterator : MethodName := ⟨RX1, "iterator", "()Ljava/util/Iterator;"⟩
def dkwX1_iterator_0 : List UInt8 := [187, 0, 77, 89, 42, 183, 0, 79, 176]
abbrev dktX1_iterator_0 : List UInt8 := dkwX1_iterator_0 ++ []
theorem dksX1_iterator_0 : cX1_iterator.data.toList.drop 0 = dktX1_iterator_0 := by decide +kernel
theorem dX1_iterator_0 : decode cX1_iterator 0 = .ok (.new 77, 3) := dk_187 0 77 (dk_at dksX1_iterator_0 0 rfl rfl)
theorem dX1_iterator_3 : decode cX1_iterator 3 = .ok (.dup, 1) := dk_89 (dk_at dksX1_iterator_0 3 rfl rfl)
theorem dX1_iterator_4 : decode cX1_iterator 4 = .ok (.aload_n 0, 1) := dk_42 (dk_at dksX1_iterator_0 4 rfl rfl)
theorem dX1_iterator_5 : decode cX1_iterator 5 = .ok (.invokespecial 79, 3) := dk_183 0 79 (dk_at dksX1_iterator_0 5 rfl rfl)
theorem dX1_iterator_8 : decode cX1_iterator 8 = .ok (.areturn, 1) := dk_176 (dk_at dksX1_iterator_0 8 rfl rfl)
abbrev cX1_adds : ByteArray := prog_2_method_7_code
def yX1_adds : MethodName := ⟨RX1, "adds", "(Ljava/lang/String;I)V"⟩
def dkwX1_adds_6 : List UInt8 := [182, 0, 48, 87, 177]
abbrev dktX1_adds_6 : List UInt8 := dkwX1_adds_6 ++ []
def dkwX1_adds_5 : List UInt8 := [5, 43, 182, 0, 121, 79, 183, 0, 109, 191, 42, 180, 0, 12, 187, 0, 43, 89, 25, 4, 183, 0, 126]
abbrev dktX1_adds_5 : List UInt8 := dkwX1_adds_5 ++ dktX1_adds_6
def dkwX1_adds_4 : List UInt8 := [182, 0, 82, 16, 20, 160, 0, 29, 187, 0, 107, 89, 6, 188, 10, 89, 3, 28, 79, 89, 4, 6, 79, 89]
abbrev dktX1_adds_4 : List UInt8 := dkwX1_adds_4 ++ dktX1_adds_5
def dkwX1_adds_3 : List UInt8 := [188, 10, 89, 3, 28, 79, 89, 4, 5, 79, 89, 5, 21, 5, 79, 183, 0, 109, 191, 42, 180, 0, 12]
abbrev dktX1_adds_3 : List UInt8 := dkwX1_adds_3 ++ dktX1_adds_4
def dkwX1_adds_2 : List UInt8 := [180, 0, 21, 3, 46, 182, 0, 117, 54, 5, 21, 5, 17, 0, 150, 164, 0, 27, 187, 0, 107, 89, 6]
abbrev dktX1_adds_2 : List UInt8 := dkwX1_adds_2 ++ dktX1_adds_3
def dkwX1_adds_1 : List UInt8 := [79, 89, 5, 29, 79, 183, 0, 109, 191, 187, 0, 112, 89, 43, 183, 0, 114, 58, 4, 25, 4, 42]
abbrev dktX1_adds_1 : List UInt8 := dkwX1_adds_1 ++ dktX1_adds_2
def dkwX1_adds_0 : List UInt8 := [43, 184, 0, 103, 62, 29, 2, 159, 0, 26, 187, 0, 107, 89, 6, 188, 10, 89, 3, 28, 79, 89, 4, 4]
abbrev dktX1_adds_0 : List UInt8 := dkwX1_adds_0 ++ dktX1_adds_1
theorem dksX1_adds_0 : cX1_adds.data.toList.drop 0 = dktX1_adds_0 := by decide +kernel
theorem dksX1_adds_1 : cX1_adds.data.toList.drop 24 = dktX1_adds_1 := dk_seg dksX1_adds_0 24 rfl rfl
theorem dksX1_adds_2 : cX1_adds.data.toList.drop 46 = dktX1_adds_2 := dk_seg dksX1_adds_1 22 rfl rfl
theorem dksX1_adds_3 : cX1_adds.data.toList.drop 69 = dktX1_adds_3 := dk_seg dksX1_adds_2 23 rfl rfl
theorem dksX1_adds_4 : cX1_adds.data.toList.drop 92 = dktX1_adds_4 := dk_seg dksX1_adds_3 23 rfl rfl
theorem dksX1_adds_5 : cX1_adds.data.toList.drop 116 = dktX1_adds_5 := dk_seg dksX1_adds_4 24 rfl rfl
theorem dksX1_adds_6 : cX1_adds.data.toList.drop 139 = dktX1_adds_6 := dk_seg dksX1_adds_5 23 rfl rfl
theorem dX1_adds_0 : decode cX1_adds 0 = .ok (.aload_n 1, 1) := dk_43 (dk_at dksX1_adds_0 0 rfl rfl)
theorem dX1_adds_1 : decode cX1_adds 1 = .ok (.invokestatic 103, 3) := dk_184 0 103 (dk_at dksX1_adds_0 1 rfl rfl)
theorem dX1_adds_4 : decode cX1_adds 4 = .ok (.istore_n 3, 1) := dk_62 (dk_at dksX1_adds_0 4 rfl rfl)
theorem dX1_adds_5 : decode cX1_adds 5 = .ok (.iload_n 3, 1) := dk_29 (dk_at dksX1_adds_0 5 rfl rfl)
theorem dX1_adds_6 : decode cX1_adds 6 = .ok (.iconst (-1), 1) := dk_2 (dk_at dksX1_adds_0 6 rfl rfl)
theorem dX1_adds_7 : decode cX1_adds 7 = .ok (.if_icmp .eq 26, 3) := dk_159 0 26 (dk_at dksX1_adds_0 7 rfl rfl)
theorem dX1_adds_10 : decode cX1_adds 10 = .ok (.new 107, 3) := dk_187 0 107 (dk_at dksX1_adds_0 10 rfl rfl)
theorem dX1_adds_13 : decode cX1_adds 13 = .ok (.dup, 1) := dk_89 (dk_at dksX1_adds_0 13 rfl rfl)
theorem dX1_adds_14 : decode cX1_adds 14 = .ok (.iconst 3, 1) := dk_6 (dk_at dksX1_adds_0 14 rfl rfl)
theorem dX1_adds_15 : decode cX1_adds 15 = .ok (.newarray .int, 2) := dk_188_10 (dk_at dksX1_adds_0 15 rfl rfl)
theorem dX1_adds_17 : decode cX1_adds 17 = .ok (.dup, 1) := dk_89 (dk_at dksX1_adds_0 17 rfl rfl)
theorem dX1_adds_18 : decode cX1_adds 18 = .ok (.iconst 0, 1) := dk_3 (dk_at dksX1_adds_0 18 rfl rfl)
theorem dX1_adds_19 : decode cX1_adds 19 = .ok (.iload_n 2, 1) := dk_28 (dk_at dksX1_adds_0 19 rfl rfl)
theorem dX1_adds_20 : decode cX1_adds 20 = .ok (.iastore, 1) := dk_79 (dk_at dksX1_adds_0 20 rfl rfl)
theorem dX1_adds_21 : decode cX1_adds 21 = .ok (.dup, 1) := dk_89 (dk_at dksX1_adds_0 21 rfl rfl)
theorem dX1_adds_22 : decode cX1_adds 22 = .ok (.iconst 1, 1) := dk_4 (dk_at dksX1_adds_0 22 rfl rfl)
theorem dX1_adds_23 : decode cX1_adds 23 = .ok (.iconst 1, 1) := dk_4 (dk_at dksX1_adds_0 23 rfl rfl)
theorem dX1_adds_24 : decode cX1_adds 24 = .ok (.iastore, 1) := dk_79 (dk_at dksX1_adds_1 0 rfl rfl)
theorem dX1_adds_25 : decode cX1_adds 25 = .ok (.dup, 1) := dk_89 (dk_at dksX1_adds_1 1 rfl rfl)
theorem dX1_adds_26 : decode cX1_adds 26 = .ok (.iconst 2, 1) := dk_5 (dk_at dksX1_adds_1 2 rfl rfl)
theorem dX1_adds_27 : decode cX1_adds 27 = .ok (.iload_n 3, 1) := dk_29 (dk_at dksX1_adds_1 3 rfl rfl)
theorem dX1_adds_28 : decode cX1_adds 28 = .ok (.iastore, 1) := dk_79 (dk_at dksX1_adds_1 4 rfl rfl)
theorem dX1_adds_29 : decode cX1_adds 29 = .ok (.invokespecial 109, 3) := dk_183 0 109 (dk_at dksX1_adds_1 5 rfl rfl)
theorem dX1_adds_32 : decode cX1_adds 32 = .ok (.athrow, 1) := dk_191 (dk_at dksX1_adds_1 8 rfl rfl)
theorem dX1_adds_33 : decode cX1_adds 33 = .ok (.new 112, 3) := dk_187 0 112 (dk_at dksX1_adds_1 9 rfl rfl)
theorem dX1_adds_36 : decode cX1_adds 36 = .ok (.dup, 1) := dk_89 (dk_at dksX1_adds_1 12 rfl rfl)
theorem dX1_adds_37 : decode cX1_adds 37 = .ok (.aload_n 1, 1) := dk_43 (dk_at dksX1_adds_1 13 rfl rfl)
theorem dX1_adds_38 : decode cX1_adds 38 = .ok (.invokespecial 114, 3) := dk_183 0 114 (dk_at dksX1_adds_1 14 rfl rfl)
theorem dX1_adds_41 : decode cX1_adds 41 = .ok (.astore 4, 2) := dk_58 4 (dk_at dksX1_adds_1 17 rfl rfl)
theorem dX1_adds_43 : decode cX1_adds 43 = .ok (.aload 4, 2) := dk_25 4 (dk_at dksX1_adds_1 19 rfl rfl)
theorem dX1_adds_45 : decode cX1_adds 45 = .ok (.aload_n 0, 1) := dk_42 (dk_at dksX1_adds_1 21 rfl rfl)
theorem dX1_adds_46 : decode cX1_adds 46 = .ok (.getfield 21, 3) := dk_180 0 21 (dk_at dksX1_adds_2 0 rfl rfl)
theorem dX1_adds_49 : decode cX1_adds 49 = .ok (.iconst 0, 1) := dk_3 (dk_at dksX1_adds_2 3 rfl rfl)
theorem dX1_adds_50 : decode cX1_adds 50 = .ok (.iaload, 1) := dk_46 (dk_at dksX1_adds_2 4 rfl rfl)
theorem dX1_adds_51 : decode cX1_adds 51 = .ok (.invokevirtual 117, 3) := dk_182 0 117 (dk_at dksX1_adds_2 5 rfl rfl)
theorem dX1_adds_54 : decode cX1_adds 54 = .ok (.istore 5, 2) := dk_54 5 (dk_at dksX1_adds_2 8 rfl rfl)
theorem dX1_adds_56 : decode cX1_adds 56 = .ok (.iload 5, 2) := dk_21 5 (dk_at dksX1_adds_2 10 rfl rfl)
theorem dX1_adds_58 : decode cX1_adds 58 = .ok (.sipush 150, 3) := dk_17 0 150 (dk_at dksX1_adds_2 12 rfl rfl)
theorem dX1_adds_61 : decode cX1_adds 61 = .ok (.if_icmp .le 27, 3) := dk_164 0 27 (dk_at dksX1_adds_2 15 rfl rfl)
theorem dX1_adds_64 : decode cX1_adds 64 = .ok (.new 107, 3) := dk_187 0 107 (dk_at dksX1_adds_2 18 rfl rfl)
theorem dX1_adds_67 : decode cX1_adds 67 = .ok (.dup, 1) := dk_89 (dk_at dksX1_adds_2 21 rfl rfl)
theorem dX1_adds_68 : decode cX1_adds 68 = .ok (.iconst 3, 1) := dk_6 (dk_at dksX1_adds_2 22 rfl rfl)
theorem dX1_adds_69 : decode cX1_adds 69 = .ok (.newarray .int, 2) := dk_188_10 (dk_at dksX1_adds_3 0 rfl rfl)
theorem dX1_adds_71 : decode cX1_adds 71 = .ok (.dup, 1) := dk_89 (dk_at dksX1_adds_3 2 rfl rfl)
theorem dX1_adds_72 : decode cX1_adds 72 = .ok (.iconst 0, 1) := dk_3 (dk_at dksX1_adds_3 3 rfl rfl)
theorem dX1_adds_73 : decode cX1_adds 73 = .ok (.iload_n 2, 1) := dk_28 (dk_at dksX1_adds_3 4 rfl rfl)
theorem dX1_adds_74 : decode cX1_adds 74 = .ok (.iastore, 1) := dk_79 (dk_at dksX1_adds_3 5 rfl rfl)
theorem dX1_adds_75 : decode cX1_adds 75 = .ok (.dup, 1) := dk_89 (dk_at dksX1_adds_3 6 rfl rfl)
theorem dX1_adds_76 : decode cX1_adds 76 = .ok (.iconst 1, 1) := dk_4 (dk_at dksX1_adds_3 7 rfl rfl)
theorem dX1_adds_77 : decode cX1_adds 77 = .ok (.iconst 2, 1) := dk_5 (dk_at dksX1_adds_3 8 rfl rfl)
theorem dX1_adds_78 : decode cX1_adds 78 = .ok (.iastore, 1) := dk_79 (dk_at dksX1_adds_3 9 rfl rfl)
theorem dX1_adds_79 : decode cX1_adds 79 = .ok (.dup, 1) := dk_89 (dk_at dksX1_adds_3 10 rfl rfl)
theorem dX1_adds_80 : decode cX1_adds 80 = .ok (.iconst 2, 1) := dk_5 (dk_at dksX1_adds_3 11 rfl rfl)
theorem dX1_adds_81 : decode cX1_adds 81 = .ok (.iload 5, 2) := dk_21 5 (dk_at dksX1_adds_3 12 rfl rfl)
theorem dX1_adds_83 : decode cX1_adds 83 = .ok (.iastore, 1) := dk_79 (dk_at dksX1_adds_3 14 rfl rfl)
theorem dX1_adds_84 : decode cX1_adds 84 = .ok (.invokespecial 109, 3) := dk_183 0 109 (dk_at dksX1_adds_3 15 rfl rfl)
theorem dX1_adds_87 : decode cX1_adds 87 = .ok (.athrow, 1) := dk_191 (dk_at dksX1_adds_3 18 rfl rfl)
theorem dX1_adds_88 : decode cX1_adds 88 = .ok (.aload_n 0, 1) := dk_42 (dk_at dksX1_adds_3 19 rfl rfl)
theorem dX1_adds_89 : decode cX1_adds 89 = .ok (.getfield 12, 3) := dk_180 0 12 (dk_at dksX1_adds_3 20 rfl rfl)
theorem dX1_adds_92 : decode cX1_adds 92 = .ok (.invokevirtual 82, 3) := dk_182 0 82 (dk_at dksX1_adds_4 0 rfl rfl)
theorem dX1_adds_95 : decode cX1_adds 95 = .ok (.bipush 20, 2) := dk_16 20 (dk_at dksX1_adds_4 3 rfl rfl)
theorem dX1_adds_97 : decode cX1_adds 97 = .ok (.if_icmp .ne 29, 3) := dk_160 0 29 (dk_at dksX1_adds_4 5 rfl rfl)
theorem dX1_adds_100 : decode cX1_adds 100 = .ok (.new 107, 3) := dk_187 0 107 (dk_at dksX1_adds_4 8 rfl rfl)
theorem dX1_adds_103 : decode cX1_adds 103 = .ok (.dup, 1) := dk_89 (dk_at dksX1_adds_4 11 rfl rfl)
theorem dX1_adds_104 : decode cX1_adds 104 = .ok (.iconst 3, 1) := dk_6 (dk_at dksX1_adds_4 12 rfl rfl)
theorem dX1_adds_105 : decode cX1_adds 105 = .ok (.newarray .int, 2) := dk_188_10 (dk_at dksX1_adds_4 13 rfl rfl)
theorem dX1_adds_107 : decode cX1_adds 107 = .ok (.dup, 1) := dk_89 (dk_at dksX1_adds_4 15 rfl rfl)
theorem dX1_adds_108 : decode cX1_adds 108 = .ok (.iconst 0, 1) := dk_3 (dk_at dksX1_adds_4 16 rfl rfl)
theorem dX1_adds_109 : decode cX1_adds 109 = .ok (.iload_n 2, 1) := dk_28 (dk_at dksX1_adds_4 17 rfl rfl)
theorem dX1_adds_110 : decode cX1_adds 110 = .ok (.iastore, 1) := dk_79 (dk_at dksX1_adds_4 18 rfl rfl)
theorem dX1_adds_111 : decode cX1_adds 111 = .ok (.dup, 1) := dk_89 (dk_at dksX1_adds_4 19 rfl rfl)
theorem dX1_adds_112 : decode cX1_adds 112 = .ok (.iconst 1, 1) := dk_4 (dk_at dksX1_adds_4 20 rfl rfl)
theorem dX1_adds_113 : decode cX1_adds 113 = .ok (.iconst 3, 1) := dk_6 (dk_at dksX1_adds_4 21 rfl rfl)
theorem dX1_adds_114 : decode cX1_adds 114 = .ok (.iastore, 1) := dk_79 (dk_at dksX1_adds_4 22 rfl rfl)
theorem dX1_adds_115 : decode cX1_adds 115 = .ok (.dup, 1) := dk_89 (dk_at dksX1_adds_4 23 rfl rfl)
theorem dX1_adds_116 : decode cX1_adds 116 = .ok (.iconst 2, 1) := dk_5 (dk_at dksX1_adds_5 0 rfl rfl)
theorem dX1_adds_117 : decode cX1_adds 117 = .ok (.aload_n 1, 1) := dk_43 (dk_at dksX1_adds_5 1 rfl rfl)
theorem dX1_adds_118 : decode cX1_adds 118 = .ok (.invokevirtual 121, 3) := dk_182 0 121 (dk_at dksX1_adds_5 2 rfl rfl)
theorem dX1_adds_121 : decode cX1_adds 121 = .ok (.iastore, 1) := dk_79 (dk_at dksX1_adds_5 5 rfl rfl)
theorem dX1_adds_122 : decode cX1_adds 122 = .ok (.invokespecial 109, 3) := dk_183 0 109 (dk_at dksX1_adds_5 6 rfl rfl)
theorem dX1_adds_125 : decode cX1_adds 125 = .ok (.athrow, 1) := dk_191 (dk_at dksX1_adds_5 9 rfl rfl)
theorem dX1_adds_126 : decode cX1_adds 126 = .ok (.aload_n 0, 1) := dk_42 (dk_at dksX1_adds_5 10 rfl rfl)
theorem dX1_adds_127 : decode cX1_adds 127 = .ok (.getfield 12, 3) := dk_180 0 12 (dk_at dksX1_adds_5 11 rfl rfl)
theorem dX1_adds_130 : decode cX1_adds 130 = .ok (.new 43, 3) := dk_187 0 43 (dk_at dksX1_adds_5 14 rfl rfl)
theorem dX1_adds_133 : decode cX1_adds 133 = .ok (.dup, 1) := dk_89 (dk_at dksX1_adds_5 17 rfl rfl)
theorem dX1_adds_134 : decode cX1_adds 134 = .ok (.aload 4, 2) := dk_25 4 (dk_at dksX1_adds_5 18 rfl rfl)
theorem dX1_adds_136 : decode cX1_adds 136 = .ok (.invokespecial 126, 3) := dk_183 0 126 (dk_at dksX1_adds_5 20 rfl rfl)
theorem dX1_adds_139 : decode cX1_adds 139 = .ok (.invokevirtual 48, 3) := dk_182 0 48 (dk_at dksX1_adds_6 0 rfl rfl)
theorem dX1_adds_142 : decode cX1_adds 142 = .ok (.pop, 1) := dk_87 (dk_at dksX1_adds_6 3 rfl rfl)
theorem dX1_adds_143 : decode cX1_adds 143 = .ok (.return_, 1) := dk_177 (dk_at dksX1_adds_6 4 rfl rfl)
abbrev cX1_breaksOff : ByteArray := prog_2_method_8_code
def yX1_breaksOff : MethodName := ⟨RX1, "breaksOff", "(Ljava/lang/String;)I"⟩
def dkwX1_breaksOff_4 : List UInt8 := [167, 0, 4, 2, 172]
abbrev dktX1_breaksOff_4 : List UInt8 := dkwX1_breaksOff_4 ++ []
def dkwX1_breaksOff_3 : List UInt8 := [20, 0, 135, 184, 0, 86, 154, 0, 5, 28, 172, 132, 2, 1, 167, 255, 181, 27, 156, 0, 7, 3]
abbrev dktX1_breaksOff_3 : List UInt8 := dkwX1_breaksOff_3 ++ dktX1_breaksOff_4
def dkwX1_breaksOff_2 : List UInt8 := [4, 167, 0, 4, 3, 54, 4, 28, 16, 14, 159, 0, 22, 21, 4, 154, 0, 19, 29, 133, 20, 0, 133]
abbrev dktX1_breaksOff_2 : List UInt8 := dkwX1_breaksOff_2 ++ dktX1_breaksOff_3
def dkwX1_breaksOff_1 : List UInt8 := [160, 0, 28, 28, 158, 0, 24, 28, 27, 162, 0, 19, 42, 28, 4, 100, 182, 0, 129, 16, 32, 159, 0, 7]
abbrev dktX1_breaksOff_1 : List UInt8 := dkwX1_breaksOff_1 ++ dktX1_breaksOff_2
def dkwX1_breaksOff_0 : List UInt8 := [42, 182, 0, 121, 4, 100, 60, 3, 61, 28, 27, 163, 0, 76, 42, 28, 182, 0, 129, 62, 29, 16, 32]
abbrev dktX1_breaksOff_0 : List UInt8 := dkwX1_breaksOff_0 ++ dktX1_breaksOff_1
theorem dksX1_breaksOff_0 : cX1_breaksOff.data.toList.drop 0 = dktX1_breaksOff_0 := by decide +kernel
theorem dksX1_breaksOff_1 : cX1_breaksOff.data.toList.drop 23 = dktX1_breaksOff_1 := dk_seg dksX1_breaksOff_0 23 rfl rfl
theorem dksX1_breaksOff_2 : cX1_breaksOff.data.toList.drop 47 = dktX1_breaksOff_2 := dk_seg dksX1_breaksOff_1 24 rfl rfl
theorem dksX1_breaksOff_3 : cX1_breaksOff.data.toList.drop 70 = dktX1_breaksOff_3 := dk_seg dksX1_breaksOff_2 23 rfl rfl
theorem dksX1_breaksOff_4 : cX1_breaksOff.data.toList.drop 92 = dktX1_breaksOff_4 := dk_seg dksX1_breaksOff_3 22 rfl rfl
theorem dX1_breaksOff_0 : decode cX1_breaksOff 0 = .ok (.aload_n 0, 1) := dk_42 (dk_at dksX1_breaksOff_0 0 rfl rfl)
theorem dX1_breaksOff_1 : decode cX1_breaksOff 1 = .ok (.invokevirtual 121, 3) := dk_182 0 121 (dk_at dksX1_breaksOff_0 1 rfl rfl)
theorem dX1_breaksOff_4 : decode cX1_breaksOff 4 = .ok (.iconst 1, 1) := dk_4 (dk_at dksX1_breaksOff_0 4 rfl rfl)
theorem dX1_breaksOff_5 : decode cX1_breaksOff 5 = .ok (.isub, 1) := dk_100 (dk_at dksX1_breaksOff_0 5 rfl rfl)
theorem dX1_breaksOff_6 : decode cX1_breaksOff 6 = .ok (.istore_n 1, 1) := dk_60 (dk_at dksX1_breaksOff_0 6 rfl rfl)
theorem dX1_breaksOff_7 : decode cX1_breaksOff 7 = .ok (.iconst 0, 1) := dk_3 (dk_at dksX1_breaksOff_0 7 rfl rfl)
theorem dX1_breaksOff_8 : decode cX1_breaksOff 8 = .ok (.istore_n 2, 1) := dk_61 (dk_at dksX1_breaksOff_0 8 rfl rfl)
theorem dX1_breaksOff_9 : decode cX1_breaksOff 9 = .ok (.iload_n 2, 1) := dk_28 (dk_at dksX1_breaksOff_0 9 rfl rfl)
theorem dX1_breaksOff_10 : decode cX1_breaksOff 10 = .ok (.iload_n 1, 1) := dk_27 (dk_at dksX1_breaksOff_0 10 rfl rfl)
theorem dX1_breaksOff_11 : decode cX1_breaksOff 11 = .ok (.if_icmp .gt 76, 3) := dk_163 0 76 (dk_at dksX1_breaksOff_0 11 rfl rfl)
theorem dX1_breaksOff_14 : decode cX1_breaksOff 14 = .ok (.aload_n 0, 1) := dk_42 (dk_at dksX1_breaksOff_0 14 rfl rfl)
theorem dX1_breaksOff_15 : decode cX1_breaksOff 15 = .ok (.iload_n 2, 1) := dk_28 (dk_at dksX1_breaksOff_0 15 rfl rfl)
theorem dX1_breaksOff_16 : decode cX1_breaksOff 16 = .ok (.invokevirtual 129, 3) := dk_182 0 129 (dk_at dksX1_breaksOff_0 16 rfl rfl)
theorem dX1_breaksOff_19 : decode cX1_breaksOff 19 = .ok (.istore_n 3, 1) := dk_62 (dk_at dksX1_breaksOff_0 19 rfl rfl)
theorem dX1_breaksOff_20 : decode cX1_breaksOff 20 = .ok (.iload_n 3, 1) := dk_29 (dk_at dksX1_breaksOff_0 20 rfl rfl)
theorem dX1_breaksOff_21 : decode cX1_breaksOff 21 = .ok (.bipush 32, 2) := dk_16 32 (dk_at dksX1_breaksOff_0 21 rfl rfl)
theorem dX1_breaksOff_23 : decode cX1_breaksOff 23 = .ok (.if_icmp .ne 28, 3) := dk_160 0 28 (dk_at dksX1_breaksOff_1 0 rfl rfl)
theorem dX1_breaksOff_26 : decode cX1_breaksOff 26 = .ok (.iload_n 2, 1) := dk_28 (dk_at dksX1_breaksOff_1 3 rfl rfl)
theorem dX1_breaksOff_27 : decode cX1_breaksOff 27 = .ok (.ifCond .le 24, 3) := dk_158 0 24 (dk_at dksX1_breaksOff_1 4 rfl rfl)
theorem dX1_breaksOff_30 : decode cX1_breaksOff 30 = .ok (.iload_n 2, 1) := dk_28 (dk_at dksX1_breaksOff_1 7 rfl rfl)
theorem dX1_breaksOff_31 : decode cX1_breaksOff 31 = .ok (.iload_n 1, 1) := dk_27 (dk_at dksX1_breaksOff_1 8 rfl rfl)
theorem dX1_breaksOff_32 : decode cX1_breaksOff 32 = .ok (.if_icmp .ge 19, 3) := dk_162 0 19 (dk_at dksX1_breaksOff_1 9 rfl rfl)
theorem dX1_breaksOff_35 : decode cX1_breaksOff 35 = .ok (.aload_n 0, 1) := dk_42 (dk_at dksX1_breaksOff_1 12 rfl rfl)
theorem dX1_breaksOff_36 : decode cX1_breaksOff 36 = .ok (.iload_n 2, 1) := dk_28 (dk_at dksX1_breaksOff_1 13 rfl rfl)
theorem dX1_breaksOff_37 : decode cX1_breaksOff 37 = .ok (.iconst 1, 1) := dk_4 (dk_at dksX1_breaksOff_1 14 rfl rfl)
theorem dX1_breaksOff_38 : decode cX1_breaksOff 38 = .ok (.isub, 1) := dk_100 (dk_at dksX1_breaksOff_1 15 rfl rfl)
theorem dX1_breaksOff_39 : decode cX1_breaksOff 39 = .ok (.invokevirtual 129, 3) := dk_182 0 129 (dk_at dksX1_breaksOff_1 16 rfl rfl)
theorem dX1_breaksOff_42 : decode cX1_breaksOff 42 = .ok (.bipush 32, 2) := dk_16 32 (dk_at dksX1_breaksOff_1 19 rfl rfl)
theorem dX1_breaksOff_44 : decode cX1_breaksOff 44 = .ok (.if_icmp .eq 7, 3) := dk_159 0 7 (dk_at dksX1_breaksOff_1 21 rfl rfl)
theorem dX1_breaksOff_47 : decode cX1_breaksOff 47 = .ok (.iconst 1, 1) := dk_4 (dk_at dksX1_breaksOff_2 0 rfl rfl)
theorem dX1_breaksOff_48 : decode cX1_breaksOff 48 = .ok (.goto 4, 3) := dk_167 0 4 (dk_at dksX1_breaksOff_2 1 rfl rfl)
theorem dX1_breaksOff_51 : decode cX1_breaksOff 51 = .ok (.iconst 0, 1) := dk_3 (dk_at dksX1_breaksOff_2 4 rfl rfl)
theorem dX1_breaksOff_52 : decode cX1_breaksOff 52 = .ok (.istore 4, 2) := dk_54 4 (dk_at dksX1_breaksOff_2 5 rfl rfl)
theorem dX1_breaksOff_54 : decode cX1_breaksOff 54 = .ok (.iload_n 2, 1) := dk_28 (dk_at dksX1_breaksOff_2 7 rfl rfl)
theorem dX1_breaksOff_55 : decode cX1_breaksOff 55 = .ok (.bipush 14, 2) := dk_16 14 (dk_at dksX1_breaksOff_2 8 rfl rfl)
theorem dX1_breaksOff_57 : decode cX1_breaksOff 57 = .ok (.if_icmp .eq 22, 3) := dk_159 0 22 (dk_at dksX1_breaksOff_2 10 rfl rfl)
theorem dX1_breaksOff_60 : decode cX1_breaksOff 60 = .ok (.iload 4, 2) := dk_21 4 (dk_at dksX1_breaksOff_2 13 rfl rfl)
theorem dX1_breaksOff_62 : decode cX1_breaksOff 62 = .ok (.ifCond .ne 19, 3) := dk_154 0 19 (dk_at dksX1_breaksOff_2 15 rfl rfl)
theorem dX1_breaksOff_65 : decode cX1_breaksOff 65 = .ok (.iload_n 3, 1) := dk_29 (dk_at dksX1_breaksOff_2 18 rfl rfl)
theorem dX1_breaksOff_66 : decode cX1_breaksOff 66 = .ok (.i2l, 1) := dk_133 (dk_at dksX1_breaksOff_2 19 rfl rfl)
theorem dX1_breaksOff_67 : decode cX1_breaksOff 67 = .ok (.ldc2_w 133, 3) := dk_20 0 133 (dk_at dksX1_breaksOff_2 20 rfl rfl)
theorem dX1_breaksOff_70 : decode cX1_breaksOff 70 = .ok (.ldc2_w 135, 3) := dk_20 0 135 (dk_at dksX1_breaksOff_3 0 rfl rfl)
theorem dX1_breaksOff_73 : decode cX1_breaksOff 73 = .ok (.invokestatic 86, 3) := dk_184 0 86 (dk_at dksX1_breaksOff_3 3 rfl rfl)
theorem dX1_breaksOff_76 : decode cX1_breaksOff 76 = .ok (.ifCond .ne 5, 3) := dk_154 0 5 (dk_at dksX1_breaksOff_3 6 rfl rfl)
theorem dX1_breaksOff_79 : decode cX1_breaksOff 79 = .ok (.iload_n 2, 1) := dk_28 (dk_at dksX1_breaksOff_3 9 rfl rfl)
theorem dX1_breaksOff_80 : decode cX1_breaksOff 80 = .ok (.ireturn, 1) := dk_172 (dk_at dksX1_breaksOff_3 10 rfl rfl)
theorem dX1_breaksOff_81 : decode cX1_breaksOff 81 = .ok (.iinc 2 1, 3) := dk_132 2 1 (dk_at dksX1_breaksOff_3 11 rfl rfl)
theorem dX1_breaksOff_84 : decode cX1_breaksOff 84 = .ok (.goto (-75), 3) := dk_167 255 181 (dk_at dksX1_breaksOff_3 14 rfl rfl)
theorem dX1_breaksOff_87 : decode cX1_breaksOff 87 = .ok (.iload_n 1, 1) := dk_27 (dk_at dksX1_breaksOff_3 17 rfl rfl)
theorem dX1_breaksOff_88 : decode cX1_breaksOff 88 = .ok (.ifCond .ge 7, 3) := dk_156 0 7 (dk_at dksX1_breaksOff_3 18 rfl rfl)
theorem dX1_breaksOff_91 : decode cX1_breaksOff 91 = .ok (.iconst 0, 1) := dk_3 (dk_at dksX1_breaksOff_3 21 rfl rfl)
theorem dX1_breaksOff_92 : decode cX1_breaksOff 92 = .ok (.goto 4, 3) := dk_167 0 4 (dk_at dksX1_breaksOff_4 0 rfl rfl)
theorem dX1_breaksOff_95 : decode cX1_breaksOff 95 = .ok (.iconst (-1), 1) := dk_2 (dk_at dksX1_breaksOff_4 3 rfl rfl)
theorem dX1_breaksOff_96 : decode cX1_breaksOff 96 = .ok (.ireturn, 1) := dk_172 (dk_at dksX1_breaksOff_4 4 rfl rfl)
abbrev cX1_cuts : ByteArray := prog_2_method_9_code
def yX1_cuts : MethodName := ⟨RX1, "cuts", "(I)I"⟩
def dkwX1_cuts_4 : List UInt8 := [180, 0, 12, 182, 0, 148, 153, 0, 7, 2, 167, 0, 7, 42, 180, 0, 62, 172]
abbrev dktX1_cuts_4 : List UInt8 := dkwX1_cuts_4 ++ []
def dkwX1_cuts_3 : List UInt8 := [182, 0, 82, 160, 0, 14, 42, 180, 0, 62, 158, 0, 7, 4, 167, 0, 4, 3, 100, 181, 0, 62, 42]
abbrev dktX1_cuts_3 : List UInt8 := dkwX1_cuts_3 ++ dktX1_cuts_4
def dkwX1_cuts_2 : List UInt8 := [167, 255, 227, 42, 89, 180, 0, 62, 42, 180, 0, 62, 27, 163, 0, 24, 42, 180, 0, 62, 42, 180, 0, 12]
abbrev dktX1_cuts_2 : List UInt8 := dkwX1_cuts_2 ++ dktX1_cuts_3
def dkwX1_cuts_1 : List UInt8 := [182, 0, 82, 162, 0, 24, 42, 180, 0, 18, 29, 182, 0, 99, 192, 0, 53, 27, 182, 0, 144, 132, 3, 1]
abbrev dktX1_cuts_1 : List UInt8 := dkwX1_cuts_1 ++ dktX1_cuts_2
def dkwX1_cuts_0 : List UInt8 := [42, 27, 182, 0, 137, 77, 42, 180, 0, 12, 27, 182, 0, 141, 87, 3, 62, 29, 42, 180, 0, 18]
abbrev dktX1_cuts_0 : List UInt8 := dkwX1_cuts_0 ++ dktX1_cuts_1
theorem dksX1_cuts_0 : cX1_cuts.data.toList.drop 0 = dktX1_cuts_0 := by decide +kernel
theorem dksX1_cuts_1 : cX1_cuts.data.toList.drop 22 = dktX1_cuts_1 := dk_seg dksX1_cuts_0 22 rfl rfl
theorem dksX1_cuts_2 : cX1_cuts.data.toList.drop 46 = dktX1_cuts_2 := dk_seg dksX1_cuts_1 24 rfl rfl
theorem dksX1_cuts_3 : cX1_cuts.data.toList.drop 70 = dktX1_cuts_3 := dk_seg dksX1_cuts_2 24 rfl rfl
theorem dksX1_cuts_4 : cX1_cuts.data.toList.drop 93 = dktX1_cuts_4 := dk_seg dksX1_cuts_3 23 rfl rfl
theorem dX1_cuts_0 : decode cX1_cuts 0 = .ok (.aload_n 0, 1) := dk_42 (dk_at dksX1_cuts_0 0 rfl rfl)
theorem dX1_cuts_1 : decode cX1_cuts 1 = .ok (.iload_n 1, 1) := dk_27 (dk_at dksX1_cuts_0 1 rfl rfl)
theorem dX1_cuts_2 : decode cX1_cuts 2 = .ok (.invokevirtual 137, 3) := dk_182 0 137 (dk_at dksX1_cuts_0 2 rfl rfl)
theorem dX1_cuts_5 : decode cX1_cuts 5 = .ok (.astore_n 2, 1) := dk_77 (dk_at dksX1_cuts_0 5 rfl rfl)
theorem dX1_cuts_6 : decode cX1_cuts 6 = .ok (.aload_n 0, 1) := dk_42 (dk_at dksX1_cuts_0 6 rfl rfl)
theorem dX1_cuts_7 : decode cX1_cuts 7 = .ok (.getfield 12, 3) := dk_180 0 12 (dk_at dksX1_cuts_0 7 rfl rfl)
theorem dX1_cuts_10 : decode cX1_cuts 10 = .ok (.iload_n 1, 1) := dk_27 (dk_at dksX1_cuts_0 10 rfl rfl)
theorem dX1_cuts_11 : decode cX1_cuts 11 = .ok (.invokevirtual 141, 3) := dk_182 0 141 (dk_at dksX1_cuts_0 11 rfl rfl)
theorem dX1_cuts_14 : decode cX1_cuts 14 = .ok (.pop, 1) := dk_87 (dk_at dksX1_cuts_0 14 rfl rfl)
theorem dX1_cuts_15 : decode cX1_cuts 15 = .ok (.iconst 0, 1) := dk_3 (dk_at dksX1_cuts_0 15 rfl rfl)
theorem dX1_cuts_16 : decode cX1_cuts 16 = .ok (.istore_n 3, 1) := dk_62 (dk_at dksX1_cuts_0 16 rfl rfl)
theorem dX1_cuts_17 : decode cX1_cuts 17 = .ok (.iload_n 3, 1) := dk_29 (dk_at dksX1_cuts_0 17 rfl rfl)
theorem dX1_cuts_18 : decode cX1_cuts 18 = .ok (.aload_n 0, 1) := dk_42 (dk_at dksX1_cuts_0 18 rfl rfl)
theorem dX1_cuts_19 : decode cX1_cuts 19 = .ok (.getfield 18, 3) := dk_180 0 18 (dk_at dksX1_cuts_0 19 rfl rfl)
theorem dX1_cuts_22 : decode cX1_cuts 22 = .ok (.invokevirtual 82, 3) := dk_182 0 82 (dk_at dksX1_cuts_1 0 rfl rfl)
theorem dX1_cuts_25 : decode cX1_cuts 25 = .ok (.if_icmp .ge 24, 3) := dk_162 0 24 (dk_at dksX1_cuts_1 3 rfl rfl)
theorem dX1_cuts_28 : decode cX1_cuts 28 = .ok (.aload_n 0, 1) := dk_42 (dk_at dksX1_cuts_1 6 rfl rfl)
theorem dX1_cuts_29 : decode cX1_cuts 29 = .ok (.getfield 18, 3) := dk_180 0 18 (dk_at dksX1_cuts_1 7 rfl rfl)
theorem dX1_cuts_32 : decode cX1_cuts 32 = .ok (.iload_n 3, 1) := dk_29 (dk_at dksX1_cuts_1 10 rfl rfl)
theorem dX1_cuts_33 : decode cX1_cuts 33 = .ok (.invokevirtual 99, 3) := dk_182 0 99 (dk_at dksX1_cuts_1 11 rfl rfl)
theorem dX1_cuts_36 : decode cX1_cuts 36 = .ok (.checkcast 53, 3) := dk_192 0 53 (dk_at dksX1_cuts_1 14 rfl rfl)
theorem dX1_cuts_39 : decode cX1_cuts 39 = .ok (.iload_n 1, 1) := dk_27 (dk_at dksX1_cuts_1 17 rfl rfl)
theorem dX1_cuts_40 : decode cX1_cuts 40 = .ok (.invokevirtual 144, 3) := dk_182 0 144 (dk_at dksX1_cuts_1 18 rfl rfl)
theorem dX1_cuts_43 : decode cX1_cuts 43 = .ok (.iinc 3 1, 3) := dk_132 3 1 (dk_at dksX1_cuts_1 21 rfl rfl)
theorem dX1_cuts_46 : decode cX1_cuts 46 = .ok (.goto (-29), 3) := dk_167 255 227 (dk_at dksX1_cuts_2 0 rfl rfl)
theorem dX1_cuts_49 : decode cX1_cuts 49 = .ok (.aload_n 0, 1) := dk_42 (dk_at dksX1_cuts_2 3 rfl rfl)
theorem dX1_cuts_50 : decode cX1_cuts 50 = .ok (.dup, 1) := dk_89 (dk_at dksX1_cuts_2 4 rfl rfl)
theorem dX1_cuts_51 : decode cX1_cuts 51 = .ok (.getfield 62, 3) := dk_180 0 62 (dk_at dksX1_cuts_2 5 rfl rfl)
theorem dX1_cuts_54 : decode cX1_cuts 54 = .ok (.aload_n 0, 1) := dk_42 (dk_at dksX1_cuts_2 8 rfl rfl)
theorem dX1_cuts_55 : decode cX1_cuts 55 = .ok (.getfield 62, 3) := dk_180 0 62 (dk_at dksX1_cuts_2 9 rfl rfl)
theorem dX1_cuts_58 : decode cX1_cuts 58 = .ok (.iload_n 1, 1) := dk_27 (dk_at dksX1_cuts_2 12 rfl rfl)
theorem dX1_cuts_59 : decode cX1_cuts 59 = .ok (.if_icmp .gt 24, 3) := dk_163 0 24 (dk_at dksX1_cuts_2 13 rfl rfl)
theorem dX1_cuts_62 : decode cX1_cuts 62 = .ok (.aload_n 0, 1) := dk_42 (dk_at dksX1_cuts_2 16 rfl rfl)
theorem dX1_cuts_63 : decode cX1_cuts 63 = .ok (.getfield 62, 3) := dk_180 0 62 (dk_at dksX1_cuts_2 17 rfl rfl)
theorem dX1_cuts_66 : decode cX1_cuts 66 = .ok (.aload_n 0, 1) := dk_42 (dk_at dksX1_cuts_2 20 rfl rfl)
theorem dX1_cuts_67 : decode cX1_cuts 67 = .ok (.getfield 12, 3) := dk_180 0 12 (dk_at dksX1_cuts_2 21 rfl rfl)
theorem dX1_cuts_70 : decode cX1_cuts 70 = .ok (.invokevirtual 82, 3) := dk_182 0 82 (dk_at dksX1_cuts_3 0 rfl rfl)
theorem dX1_cuts_73 : decode cX1_cuts 73 = .ok (.if_icmp .ne 14, 3) := dk_160 0 14 (dk_at dksX1_cuts_3 3 rfl rfl)
theorem dX1_cuts_76 : decode cX1_cuts 76 = .ok (.aload_n 0, 1) := dk_42 (dk_at dksX1_cuts_3 6 rfl rfl)
theorem dX1_cuts_77 : decode cX1_cuts 77 = .ok (.getfield 62, 3) := dk_180 0 62 (dk_at dksX1_cuts_3 7 rfl rfl)
theorem dX1_cuts_80 : decode cX1_cuts 80 = .ok (.ifCond .le 7, 3) := dk_158 0 7 (dk_at dksX1_cuts_3 10 rfl rfl)
theorem dX1_cuts_83 : decode cX1_cuts 83 = .ok (.iconst 1, 1) := dk_4 (dk_at dksX1_cuts_3 13 rfl rfl)
theorem dX1_cuts_84 : decode cX1_cuts 84 = .ok (.goto 4, 3) := dk_167 0 4 (dk_at dksX1_cuts_3 14 rfl rfl)
theorem dX1_cuts_87 : decode cX1_cuts 87 = .ok (.iconst 0, 1) := dk_3 (dk_at dksX1_cuts_3 17 rfl rfl)
theorem dX1_cuts_88 : decode cX1_cuts 88 = .ok (.isub, 1) := dk_100 (dk_at dksX1_cuts_3 18 rfl rfl)
theorem dX1_cuts_89 : decode cX1_cuts 89 = .ok (.putfield 62, 3) := dk_181 0 62 (dk_at dksX1_cuts_3 19 rfl rfl)
theorem dX1_cuts_92 : decode cX1_cuts 92 = .ok (.aload_n 0, 1) := dk_42 (dk_at dksX1_cuts_3 22 rfl rfl)
theorem dX1_cuts_93 : decode cX1_cuts 93 = .ok (.getfield 12, 3) := dk_180 0 12 (dk_at dksX1_cuts_4 0 rfl rfl)
theorem dX1_cuts_96 : decode cX1_cuts 96 = .ok (.invokevirtual 148, 3) := dk_182 0 148 (dk_at dksX1_cuts_4 3 rfl rfl)
theorem dX1_cuts_99 : decode cX1_cuts 99 = .ok (.ifCond .eq 7, 3) := dk_153 0 7 (dk_at dksX1_cuts_4 6 rfl rfl)
theorem dX1_cuts_102 : decode cX1_cuts 102 = .ok (.iconst (-1), 1) := dk_2 (dk_at dksX1_cuts_4 9 rfl rfl)
theorem dX1_cuts_103 : decode cX1_cuts 103 = .ok (.goto 7, 3) := dk_167 0 7 (dk_at dksX1_cuts_4 10 rfl rfl)
theorem dX1_cuts_106 : decode cX1_cuts 106 = .ok (.aload_n 0, 1) := dk_42 (dk_at dksX1_cuts_4 13 rfl rfl)
theorem dX1_cuts_107 : decode cX1_cuts 107 = .ok (.getfield 62, 3) := dk_180 0 62 (dk_at dksX1_cuts_4 14 rfl rfl)
theorem dX1_cuts_110 : decode cX1_cuts 110 = .ok (.ireturn, 1) := dk_172 (dk_at dksX1_cuts_4 17 rfl rfl)
abbrev cX1_needed : ByteArray := prog_2_method_6_code
def yX1_needed : MethodName := ⟨RX1, "needed", "(I)LHandBlinds$Row;"⟩
def dkwX1_needed_0 : List UInt8 := [42, 27, 182, 0, 90, 18, 94, 184, 0, 95, 42, 180, 0, 12, 27, 182, 0, 99, 192, 0, 43, 176]
abbrev dktX1_needed_0 : List UInt8 := dkwX1_needed_0 ++ []
theorem dksX1_needed_0 : cX1_needed.data.toList.drop 0 = dktX1_needed_0 := by decide +kernel
theorem dX1_needed_0 : decode cX1_needed 0 = .ok (.aload_n 0, 1) := dk_42 (dk_at dksX1_needed_0 0 rfl rfl)
theorem dX1_needed_1 : decode cX1_needed 1 = .ok (.iload_n 1, 1) := dk_27 (dk_at dksX1_needed_0 1 rfl rfl)
theorem dX1_needed_2 : decode cX1_needed 2 = .ok (.invokevirtual 90, 3) := dk_182 0 90 (dk_at dksX1_needed_0 2 rfl rfl)
theorem dX1_needed_5 : decode cX1_needed 5 = .ok (.ldc 94, 2) := dk_18 94 (dk_at dksX1_needed_0 5 rfl rfl)
theorem dX1_needed_7 : decode cX1_needed 7 = .ok (.invokestatic 95, 3) := dk_184 0 95 (dk_at dksX1_needed_0 7 rfl rfl)
theorem dX1_needed_10 : decode cX1_needed 10 = .ok (.aload_n 0, 1) := dk_42 (dk_at dksX1_needed_0 10 rfl rfl)
theorem dX1_needed_11 : decode cX1_needed 11 = .ok (.getfield 12, 3) := dk_180 0 12 (dk_at dksX1_needed_0 11 rfl rfl)
theorem dX1_needed_14 : decode cX1_needed 14 = .ok (.iload_n 1, 1) := dk_27 (dk_at dksX1_needed_0 14 rfl rfl)
theorem dX1_needed_15 : decode cX1_needed 15 = .ok (.invokevirtual 99, 3) := dk_182 0 99 (dk_at dksX1_needed_0 15 rfl rfl)
theorem dX1_needed_18 : decode cX1_needed 18 = .ok (.checkcast 43, 3) := dk_192 0 43 (dk_at dksX1_needed_0 18 rfl rfl)
theorem dX1_needed_21 : decode cX1_needed 21 = .ok (.areturn, 1) := dk_176 (dk_at dksX1_needed_0 21 rfl rfl)
abbrev cX1_isRow : ByteArray := prog_2_method_4_code
def yX1_isRow : MethodName := ⟨RX1, "isRow", "(I)Z"⟩
def dkwX1_isRow_0 : List UInt8 := [27, 133, 9, 42, 180, 0, 12, 182, 0, 82, 4, 100, 133, 184, 0, 86, 172]
abbrev dktX1_isRow_0 : List UInt8 := dkwX1_isRow_0 ++ []
theorem dksX1_isRow_0 : cX1_isRow.data.toList.drop 0 = dktX1_isRow_0 := by decide +kernel
theorem dX1_isRow_0 : decode cX1_isRow 0 = .ok (.iload_n 1, 1) := dk_27 (dk_at dksX1_isRow_0 0 rfl rfl)
theorem dX1_isRow_1 : decode cX1_isRow 1 = .ok (.i2l, 1) := dk_133 (dk_at dksX1_isRow_0 1 rfl rfl)
theorem dX1_isRow_2 : decode cX1_isRow 2 = .ok (.lconst 0, 1) := dk_9 (dk_at dksX1_isRow_0 2 rfl rfl)
theorem dX1_isRow_3 : decode cX1_isRow 3 = .ok (.aload_n 0, 1) := dk_42 (dk_at dksX1_isRow_0 3 rfl rfl)
theorem dX1_isRow_4 : decode cX1_isRow 4 = .ok (.getfield 12, 3) := dk_180 0 12 (dk_at dksX1_isRow_0 4 rfl rfl)
theorem dX1_isRow_7 : decode cX1_isRow 7 = .ok (.invokevirtual 82, 3) := dk_182 0 82 (dk_at dksX1_isRow_0 7 rfl rfl)
theorem dX1_isRow_10 : decode cX1_isRow 10 = .ok (.iconst 1, 1) := dk_4 (dk_at dksX1_isRow_0 10 rfl rfl)
theorem dX1_isRow_11 : decode cX1_isRow 11 = .ok (.isub, 1) := dk_100 (dk_at dksX1_isRow_0 11 rfl rfl)
theorem dX1_isRow_12 : decode cX1_isRow 12 = .ok (.i2l, 1) := dk_133 (dk_at dksX1_isRow_0 12 rfl rfl)
theorem dX1_isRow_13 : decode cX1_isRow 13 = .ok (.invokestatic 86, 3) := dk_184 0 86 (dk_at dksX1_isRow_0 13 rfl rfl)
theorem dX1_isRow_16 : decode cX1_isRow 16 = .ok (.ireturn, 1) := dk_172 (dk_at dksX1_isRow_0 16 rfl rfl)
abbrev cX1_swaps : ByteArray := prog_2_method_10_code
def yX1_swaps : MethodName := ⟨RX1, "swaps", "(II)I"⟩
def dkwX1_swaps_4 : List UInt8 := [192, 0, 53, 27, 28, 182, 0, 155, 132, 4, 1, 167, 255, 224, 42, 180, 0, 62, 172]
abbrev dktX1_swaps_4 : List UInt8 := dkwX1_swaps_4 ++ []
def dkwX1_swaps_3 : List UInt8 := [54, 4, 21, 4, 42, 180, 0, 18, 182, 0, 82, 162, 0, 26, 42, 180, 0, 18, 21, 4, 182, 0, 99]
abbrev dktX1_swaps_3 : List UInt8 := dkwX1_swaps_3 ++ dktX1_swaps_4
def dkwX1_swaps_2 : List UInt8 := [180, 0, 12, 27, 42, 180, 0, 12, 28, 45, 182, 0, 151, 192, 0, 43, 182, 0, 151, 192, 0, 43, 78, 3]
abbrev dktX1_swaps_2 : List UInt8 := dkwX1_swaps_2 ++ dktX1_swaps_3
def dkwX1_swaps_1 : List UInt8 := [167, 0, 4, 3, 18, 94, 184, 0, 95, 42, 180, 0, 12, 27, 182, 0, 99, 192, 0, 43, 78, 42]
abbrev dktX1_swaps_1 : List UInt8 := dkwX1_swaps_1 ++ dktX1_swaps_2
def dkwX1_swaps_0 : List UInt8 := [42, 27, 182, 0, 90, 153, 0, 20, 42, 28, 182, 0, 90, 153, 0, 12, 27, 28, 159, 0, 7, 4]
abbrev dktX1_swaps_0 : List UInt8 := dkwX1_swaps_0 ++ dktX1_swaps_1
theorem dksX1_swaps_0 : cX1_swaps.data.toList.drop 0 = dktX1_swaps_0 := by decide +kernel
theorem dksX1_swaps_1 : cX1_swaps.data.toList.drop 22 = dktX1_swaps_1 := dk_seg dksX1_swaps_0 22 rfl rfl
theorem dksX1_swaps_2 : cX1_swaps.data.toList.drop 44 = dktX1_swaps_2 := dk_seg dksX1_swaps_1 22 rfl rfl
theorem dksX1_swaps_3 : cX1_swaps.data.toList.drop 68 = dktX1_swaps_3 := dk_seg dksX1_swaps_2 24 rfl rfl
theorem dksX1_swaps_4 : cX1_swaps.data.toList.drop 91 = dktX1_swaps_4 := dk_seg dksX1_swaps_3 23 rfl rfl
theorem dX1_swaps_0 : decode cX1_swaps 0 = .ok (.aload_n 0, 1) := dk_42 (dk_at dksX1_swaps_0 0 rfl rfl)
theorem dX1_swaps_1 : decode cX1_swaps 1 = .ok (.iload_n 1, 1) := dk_27 (dk_at dksX1_swaps_0 1 rfl rfl)
theorem dX1_swaps_2 : decode cX1_swaps 2 = .ok (.invokevirtual 90, 3) := dk_182 0 90 (dk_at dksX1_swaps_0 2 rfl rfl)
theorem dX1_swaps_5 : decode cX1_swaps 5 = .ok (.ifCond .eq 20, 3) := dk_153 0 20 (dk_at dksX1_swaps_0 5 rfl rfl)
theorem dX1_swaps_8 : decode cX1_swaps 8 = .ok (.aload_n 0, 1) := dk_42 (dk_at dksX1_swaps_0 8 rfl rfl)
theorem dX1_swaps_9 : decode cX1_swaps 9 = .ok (.iload_n 2, 1) := dk_28 (dk_at dksX1_swaps_0 9 rfl rfl)
theorem dX1_swaps_10 : decode cX1_swaps 10 = .ok (.invokevirtual 90, 3) := dk_182 0 90 (dk_at dksX1_swaps_0 10 rfl rfl)
theorem dX1_swaps_13 : decode cX1_swaps 13 = .ok (.ifCond .eq 12, 3) := dk_153 0 12 (dk_at dksX1_swaps_0 13 rfl rfl)
theorem dX1_swaps_16 : decode cX1_swaps 16 = .ok (.iload_n 1, 1) := dk_27 (dk_at dksX1_swaps_0 16 rfl rfl)
theorem dX1_swaps_17 : decode cX1_swaps 17 = .ok (.iload_n 2, 1) := dk_28 (dk_at dksX1_swaps_0 17 rfl rfl)
theorem dX1_swaps_18 : decode cX1_swaps 18 = .ok (.if_icmp .eq 7, 3) := dk_159 0 7 (dk_at dksX1_swaps_0 18 rfl rfl)
theorem dX1_swaps_21 : decode cX1_swaps 21 = .ok (.iconst 1, 1) := dk_4 (dk_at dksX1_swaps_0 21 rfl rfl)
theorem dX1_swaps_22 : decode cX1_swaps 22 = .ok (.goto 4, 3) := dk_167 0 4 (dk_at dksX1_swaps_1 0 rfl rfl)
theorem dX1_swaps_25 : decode cX1_swaps 25 = .ok (.iconst 0, 1) := dk_3 (dk_at dksX1_swaps_1 3 rfl rfl)
theorem dX1_swaps_26 : decode cX1_swaps 26 = .ok (.ldc 94, 2) := dk_18 94 (dk_at dksX1_swaps_1 4 rfl rfl)
theorem dX1_swaps_28 : decode cX1_swaps 28 = .ok (.invokestatic 95, 3) := dk_184 0 95 (dk_at dksX1_swaps_1 6 rfl rfl)
theorem dX1_swaps_31 : decode cX1_swaps 31 = .ok (.aload_n 0, 1) := dk_42 (dk_at dksX1_swaps_1 9 rfl rfl)
theorem dX1_swaps_32 : decode cX1_swaps 32 = .ok (.getfield 12, 3) := dk_180 0 12 (dk_at dksX1_swaps_1 10 rfl rfl)
theorem dX1_swaps_35 : decode cX1_swaps 35 = .ok (.iload_n 1, 1) := dk_27 (dk_at dksX1_swaps_1 13 rfl rfl)
theorem dX1_swaps_36 : decode cX1_swaps 36 = .ok (.invokevirtual 99, 3) := dk_182 0 99 (dk_at dksX1_swaps_1 14 rfl rfl)
theorem dX1_swaps_39 : decode cX1_swaps 39 = .ok (.checkcast 43, 3) := dk_192 0 43 (dk_at dksX1_swaps_1 17 rfl rfl)
theorem dX1_swaps_42 : decode cX1_swaps 42 = .ok (.astore_n 3, 1) := dk_78 (dk_at dksX1_swaps_1 20 rfl rfl)
theorem dX1_swaps_43 : decode cX1_swaps 43 = .ok (.aload_n 0, 1) := dk_42 (dk_at dksX1_swaps_1 21 rfl rfl)
theorem dX1_swaps_44 : decode cX1_swaps 44 = .ok (.getfield 12, 3) := dk_180 0 12 (dk_at dksX1_swaps_2 0 rfl rfl)
theorem dX1_swaps_47 : decode cX1_swaps 47 = .ok (.iload_n 1, 1) := dk_27 (dk_at dksX1_swaps_2 3 rfl rfl)
theorem dX1_swaps_48 : decode cX1_swaps 48 = .ok (.aload_n 0, 1) := dk_42 (dk_at dksX1_swaps_2 4 rfl rfl)
theorem dX1_swaps_49 : decode cX1_swaps 49 = .ok (.getfield 12, 3) := dk_180 0 12 (dk_at dksX1_swaps_2 5 rfl rfl)
theorem dX1_swaps_52 : decode cX1_swaps 52 = .ok (.iload_n 2, 1) := dk_28 (dk_at dksX1_swaps_2 8 rfl rfl)
theorem dX1_swaps_53 : decode cX1_swaps 53 = .ok (.aload_n 3, 1) := dk_45 (dk_at dksX1_swaps_2 9 rfl rfl)
theorem dX1_swaps_54 : decode cX1_swaps 54 = .ok (.invokevirtual 151, 3) := dk_182 0 151 (dk_at dksX1_swaps_2 10 rfl rfl)
theorem dX1_swaps_57 : decode cX1_swaps 57 = .ok (.checkcast 43, 3) := dk_192 0 43 (dk_at dksX1_swaps_2 13 rfl rfl)
theorem dX1_swaps_60 : decode cX1_swaps 60 = .ok (.invokevirtual 151, 3) := dk_182 0 151 (dk_at dksX1_swaps_2 16 rfl rfl)
theorem dX1_swaps_63 : decode cX1_swaps 63 = .ok (.checkcast 43, 3) := dk_192 0 43 (dk_at dksX1_swaps_2 19 rfl rfl)
theorem dX1_swaps_66 : decode cX1_swaps 66 = .ok (.astore_n 3, 1) := dk_78 (dk_at dksX1_swaps_2 22 rfl rfl)
theorem dX1_swaps_67 : decode cX1_swaps 67 = .ok (.iconst 0, 1) := dk_3 (dk_at dksX1_swaps_2 23 rfl rfl)
theorem dX1_swaps_68 : decode cX1_swaps 68 = .ok (.istore 4, 2) := dk_54 4 (dk_at dksX1_swaps_3 0 rfl rfl)
theorem dX1_swaps_70 : decode cX1_swaps 70 = .ok (.iload 4, 2) := dk_21 4 (dk_at dksX1_swaps_3 2 rfl rfl)
theorem dX1_swaps_72 : decode cX1_swaps 72 = .ok (.aload_n 0, 1) := dk_42 (dk_at dksX1_swaps_3 4 rfl rfl)
theorem dX1_swaps_73 : decode cX1_swaps 73 = .ok (.getfield 18, 3) := dk_180 0 18 (dk_at dksX1_swaps_3 5 rfl rfl)
theorem dX1_swaps_76 : decode cX1_swaps 76 = .ok (.invokevirtual 82, 3) := dk_182 0 82 (dk_at dksX1_swaps_3 8 rfl rfl)
theorem dX1_swaps_79 : decode cX1_swaps 79 = .ok (.if_icmp .ge 26, 3) := dk_162 0 26 (dk_at dksX1_swaps_3 11 rfl rfl)
theorem dX1_swaps_82 : decode cX1_swaps 82 = .ok (.aload_n 0, 1) := dk_42 (dk_at dksX1_swaps_3 14 rfl rfl)
theorem dX1_swaps_83 : decode cX1_swaps 83 = .ok (.getfield 18, 3) := dk_180 0 18 (dk_at dksX1_swaps_3 15 rfl rfl)
theorem dX1_swaps_86 : decode cX1_swaps 86 = .ok (.iload 4, 2) := dk_21 4 (dk_at dksX1_swaps_3 18 rfl rfl)
theorem dX1_swaps_88 : decode cX1_swaps 88 = .ok (.invokevirtual 99, 3) := dk_182 0 99 (dk_at dksX1_swaps_3 20 rfl rfl)
theorem dX1_swaps_91 : decode cX1_swaps 91 = .ok (.checkcast 53, 3) := dk_192 0 53 (dk_at dksX1_swaps_4 0 rfl rfl)
theorem dX1_swaps_94 : decode cX1_swaps 94 = .ok (.iload_n 1, 1) := dk_27 (dk_at dksX1_swaps_4 3 rfl rfl)
theorem dX1_swaps_95 : decode cX1_swaps 95 = .ok (.iload_n 2, 1) := dk_28 (dk_at dksX1_swaps_4 4 rfl rfl)
theorem dX1_swaps_96 : decode cX1_swaps 96 = .ok (.invokevirtual 155, 3) := dk_182 0 155 (dk_at dksX1_swaps_4 5 rfl rfl)
theorem dX1_swaps_99 : decode cX1_swaps 99 = .ok (.iinc 4 1, 3) := dk_132 4 1 (dk_at dksX1_swaps_4 8 rfl rfl)
theorem dX1_swaps_102 : decode cX1_swaps 102 = .ok (.goto (-32), 3) := dk_167 255 224 (dk_at dksX1_swaps_4 11 rfl rfl)
theorem dX1_swaps_105 : decode cX1_swaps 105 = .ok (.aload_n 0, 1) := dk_42 (dk_at dksX1_swaps_4 14 rfl rfl)
theorem dX1_swaps_106 : decode cX1_swaps 106 = .ok (.getfield 62, 3) := dk_180 0 62 (dk_at dksX1_swaps_4 15 rfl rfl)
theorem dX1_swaps_109 : decode cX1_swaps 109 = .ok (.ireturn, 1) := dk_172 (dk_at dksX1_swaps_4 18 rfl rfl)
abbrev cX1_mends : ByteArray := prog_2_method_11_code
def yX1_mends : MethodName := ⟨RX1, "mends", "(I)I"⟩
def dkwX1_mends_1 : List UInt8 := [180, 0, 164, 5, 108, 181, 0, 164, 44, 180, 0, 164, 172]
abbrev dktX1_mends_1 : List UInt8 := dkwX1_mends_1 ++ []
def dkwX1_mends_0 : List UInt8 := [42, 27, 182, 0, 137, 77, 44, 180, 0, 159, 18, 163, 184, 0, 95, 44, 3, 181, 0, 159, 44, 89]
abbrev dktX1_mends_0 : List UInt8 := dkwX1_mends_0 ++ dktX1_mends_1
theorem dksX1_mends_0 : cX1_mends.data.toList.drop 0 = dktX1_mends_0 := by decide +kernel
theorem dksX1_mends_1 : cX1_mends.data.toList.drop 22 = dktX1_mends_1 := dk_seg dksX1_mends_0 22 rfl rfl
theorem dX1_mends_0 : decode cX1_mends 0 = .ok (.aload_n 0, 1) := dk_42 (dk_at dksX1_mends_0 0 rfl rfl)
theorem dX1_mends_1 : decode cX1_mends 1 = .ok (.iload_n 1, 1) := dk_27 (dk_at dksX1_mends_0 1 rfl rfl)
theorem dX1_mends_2 : decode cX1_mends 2 = .ok (.invokevirtual 137, 3) := dk_182 0 137 (dk_at dksX1_mends_0 2 rfl rfl)
theorem dX1_mends_5 : decode cX1_mends 5 = .ok (.astore_n 2, 1) := dk_77 (dk_at dksX1_mends_0 5 rfl rfl)
theorem dX1_mends_6 : decode cX1_mends 6 = .ok (.aload_n 2, 1) := dk_44 (dk_at dksX1_mends_0 6 rfl rfl)
theorem dX1_mends_7 : decode cX1_mends 7 = .ok (.getfield 159, 3) := dk_180 0 159 (dk_at dksX1_mends_0 7 rfl rfl)
theorem dX1_mends_10 : decode cX1_mends 10 = .ok (.ldc 163, 2) := dk_18 163 (dk_at dksX1_mends_0 10 rfl rfl)
theorem dX1_mends_12 : decode cX1_mends 12 = .ok (.invokestatic 95, 3) := dk_184 0 95 (dk_at dksX1_mends_0 12 rfl rfl)
theorem dX1_mends_15 : decode cX1_mends 15 = .ok (.aload_n 2, 1) := dk_44 (dk_at dksX1_mends_0 15 rfl rfl)
theorem dX1_mends_16 : decode cX1_mends 16 = .ok (.iconst 0, 1) := dk_3 (dk_at dksX1_mends_0 16 rfl rfl)
theorem dX1_mends_17 : decode cX1_mends 17 = .ok (.putfield 159, 3) := dk_181 0 159 (dk_at dksX1_mends_0 17 rfl rfl)
theorem dX1_mends_20 : decode cX1_mends 20 = .ok (.aload_n 2, 1) := dk_44 (dk_at dksX1_mends_0 20 rfl rfl)
theorem dX1_mends_21 : decode cX1_mends 21 = .ok (.dup, 1) := dk_89 (dk_at dksX1_mends_0 21 rfl rfl)
theorem dX1_mends_22 : decode cX1_mends 22 = .ok (.getfield 164, 3) := dk_180 0 164 (dk_at dksX1_mends_1 0 rfl rfl)
theorem dX1_mends_25 : decode cX1_mends 25 = .ok (.iconst 2, 1) := dk_5 (dk_at dksX1_mends_1 3 rfl rfl)
theorem dX1_mends_26 : decode cX1_mends 26 = .ok (.idiv, 1) := dk_108 (dk_at dksX1_mends_1 4 rfl rfl)
theorem dX1_mends_27 : decode cX1_mends 27 = .ok (.putfield 164, 3) := dk_181 0 164 (dk_at dksX1_mends_1 5 rfl rfl)
theorem dX1_mends_30 : decode cX1_mends 30 = .ok (.aload_n 2, 1) := dk_44 (dk_at dksX1_mends_1 8 rfl rfl)
theorem dX1_mends_31 : decode cX1_mends 31 = .ok (.getfield 164, 3) := dk_180 0 164 (dk_at dksX1_mends_1 9 rfl rfl)
theorem dX1_mends_34 : decode cX1_mends 34 = .ok (.ireturn, 1) := dk_172 (dk_at dksX1_mends_1 12 rfl rfl)
abbrev cX1_cranks : ByteArray := prog_2_method_13_code
def yX1_cranks : MethodName := ⟨RX1, "cranks", "(II)I"⟩
def dkwX1_cranks_1 : List UInt8 := [167, 0, 4, 3, 18, 163, 184, 0, 95, 42, 27, 28, 3, 182, 0, 177, 172]
abbrev dktX1_cranks_1 : List UInt8 := dkwX1_cranks_1 ++ []
def dkwX1_cranks_0 : List UInt8 := [42, 27, 28, 182, 0, 173, 18, 94, 184, 0, 95, 42, 180, 0, 12, 182, 0, 148, 154, 0, 7, 4]
abbrev dktX1_cranks_0 : List UInt8 := dkwX1_cranks_0 ++ dktX1_cranks_1
theorem dksX1_cranks_0 : cX1_cranks.data.toList.drop 0 = dktX1_cranks_0 := by decide +kernel
theorem dksX1_cranks_1 : cX1_cranks.data.toList.drop 22 = dktX1_cranks_1 := dk_seg dksX1_cranks_0 22 rfl rfl
theorem dX1_cranks_0 : decode cX1_cranks 0 = .ok (.aload_n 0, 1) := dk_42 (dk_at dksX1_cranks_0 0 rfl rfl)
theorem dX1_cranks_1 : decode cX1_cranks 1 = .ok (.iload_n 1, 1) := dk_27 (dk_at dksX1_cranks_0 1 rfl rfl)
theorem dX1_cranks_2 : decode cX1_cranks 2 = .ok (.iload_n 2, 1) := dk_28 (dk_at dksX1_cranks_0 2 rfl rfl)
theorem dX1_cranks_3 : decode cX1_cranks 3 = .ok (.invokevirtual 173, 3) := dk_182 0 173 (dk_at dksX1_cranks_0 3 rfl rfl)
theorem dX1_cranks_6 : decode cX1_cranks 6 = .ok (.ldc 94, 2) := dk_18 94 (dk_at dksX1_cranks_0 6 rfl rfl)
theorem dX1_cranks_8 : decode cX1_cranks 8 = .ok (.invokestatic 95, 3) := dk_184 0 95 (dk_at dksX1_cranks_0 8 rfl rfl)
theorem dX1_cranks_11 : decode cX1_cranks 11 = .ok (.aload_n 0, 1) := dk_42 (dk_at dksX1_cranks_0 11 rfl rfl)
theorem dX1_cranks_12 : decode cX1_cranks 12 = .ok (.getfield 12, 3) := dk_180 0 12 (dk_at dksX1_cranks_0 12 rfl rfl)
theorem dX1_cranks_15 : decode cX1_cranks 15 = .ok (.invokevirtual 148, 3) := dk_182 0 148 (dk_at dksX1_cranks_0 15 rfl rfl)
theorem dX1_cranks_18 : decode cX1_cranks 18 = .ok (.ifCond .ne 7, 3) := dk_154 0 7 (dk_at dksX1_cranks_0 18 rfl rfl)
theorem dX1_cranks_21 : decode cX1_cranks 21 = .ok (.iconst 1, 1) := dk_4 (dk_at dksX1_cranks_0 21 rfl rfl)
theorem dX1_cranks_22 : decode cX1_cranks 22 = .ok (.goto 4, 3) := dk_167 0 4 (dk_at dksX1_cranks_1 0 rfl rfl)
theorem dX1_cranks_25 : decode cX1_cranks 25 = .ok (.iconst 0, 1) := dk_3 (dk_at dksX1_cranks_1 3 rfl rfl)
theorem dX1_cranks_26 : decode cX1_cranks 26 = .ok (.ldc 163, 2) := dk_18 163 (dk_at dksX1_cranks_1 4 rfl rfl)
theorem dX1_cranks_28 : decode cX1_cranks 28 = .ok (.invokestatic 95, 3) := dk_184 0 95 (dk_at dksX1_cranks_1 6 rfl rfl)
theorem dX1_cranks_31 : decode cX1_cranks 31 = .ok (.aload_n 0, 1) := dk_42 (dk_at dksX1_cranks_1 9 rfl rfl)
theorem dX1_cranks_32 : decode cX1_cranks 32 = .ok (.iload_n 1, 1) := dk_27 (dk_at dksX1_cranks_1 10 rfl rfl)
theorem dX1_cranks_33 : decode cX1_cranks 33 = .ok (.iload_n 2, 1) := dk_28 (dk_at dksX1_cranks_1 11 rfl rfl)
theorem dX1_cranks_34 : decode cX1_cranks 34 = .ok (.iconst 0, 1) := dk_3 (dk_at dksX1_cranks_1 12 rfl rfl)
theorem dX1_cranks_35 : decode cX1_cranks 35 = .ok (.invokevirtual 177, 3) := dk_182 0 177 (dk_at dksX1_cranks_1 13 rfl rfl)
theorem dX1_cranks_38 : decode cX1_cranks 38 = .ok (.ireturn, 1) := dk_172 (dk_at dksX1_cranks_1 16 rfl rfl)
abbrev cX1_isCranking : ByteArray := prog_2_method_12_code
def yX1_isCranking : MethodName := ⟨RX1, "isCranking", "(II)Z"⟩
def dkwX1_isCranking_1 : List UInt8 := [184, 0, 86, 153, 0, 7, 4, 167, 0, 4, 3, 172]
abbrev dktX1_isCranking_1 : List UInt8 := dkwX1_isCranking_1 ++ []
def dkwX1_isCranking_0 : List UInt8 := [27, 133, 20, 0, 167, 20, 0, 169, 184, 0, 86, 153, 0, 23, 27, 153, 0, 19, 28, 133, 10, 20, 0, 171]
abbrev dktX1_isCranking_0 : List UInt8 := dkwX1_isCranking_0 ++ dktX1_isCranking_1
theorem dksX1_isCranking_0 : cX1_isCranking.data.toList.drop 0 = dktX1_isCranking_0 := by decide +kernel
theorem dksX1_isCranking_1 : cX1_isCranking.data.toList.drop 24 = dktX1_isCranking_1 := dk_seg dksX1_isCranking_0 24 rfl rfl
theorem dX1_isCranking_0 : decode cX1_isCranking 0 = .ok (.iload_n 1, 1) := dk_27 (dk_at dksX1_isCranking_0 0 rfl rfl)
theorem dX1_isCranking_1 : decode cX1_isCranking 1 = .ok (.i2l, 1) := dk_133 (dk_at dksX1_isCranking_0 1 rfl rfl)
theorem dX1_isCranking_2 : decode cX1_isCranking 2 = .ok (.ldc2_w 167, 3) := dk_20 0 167 (dk_at dksX1_isCranking_0 2 rfl rfl)
theorem dX1_isCranking_5 : decode cX1_isCranking 5 = .ok (.ldc2_w 169, 3) := dk_20 0 169 (dk_at dksX1_isCranking_0 5 rfl rfl)
theorem dX1_isCranking_8 : decode cX1_isCranking 8 = .ok (.invokestatic 86, 3) := dk_184 0 86 (dk_at dksX1_isCranking_0 8 rfl rfl)
theorem dX1_isCranking_11 : decode cX1_isCranking 11 = .ok (.ifCond .eq 23, 3) := dk_153 0 23 (dk_at dksX1_isCranking_0 11 rfl rfl)
theorem dX1_isCranking_14 : decode cX1_isCranking 14 = .ok (.iload_n 1, 1) := dk_27 (dk_at dksX1_isCranking_0 14 rfl rfl)
theorem dX1_isCranking_15 : decode cX1_isCranking 15 = .ok (.ifCond .eq 19, 3) := dk_153 0 19 (dk_at dksX1_isCranking_0 15 rfl rfl)
theorem dX1_isCranking_18 : decode cX1_isCranking 18 = .ok (.iload_n 2, 1) := dk_28 (dk_at dksX1_isCranking_0 18 rfl rfl)
theorem dX1_isCranking_19 : decode cX1_isCranking 19 = .ok (.i2l, 1) := dk_133 (dk_at dksX1_isCranking_0 19 rfl rfl)
theorem dX1_isCranking_20 : decode cX1_isCranking 20 = .ok (.lconst 1, 1) := dk_10 (dk_at dksX1_isCranking_0 20 rfl rfl)
theorem dX1_isCranking_21 : decode cX1_isCranking 21 = .ok (.ldc2_w 171, 3) := dk_20 0 171 (dk_at dksX1_isCranking_0 21 rfl rfl)
theorem dX1_isCranking_24 : decode cX1_isCranking 24 = .ok (.invokestatic 86, 3) := dk_184 0 86 (dk_at dksX1_isCranking_1 0 rfl rfl)
theorem dX1_isCranking_27 : decode cX1_isCranking 27 = .ok (.ifCond .eq 7, 3) := dk_153 0 7 (dk_at dksX1_isCranking_1 3 rfl rfl)
theorem dX1_isCranking_30 : decode cX1_isCranking 30 = .ok (.iconst 1, 1) := dk_4 (dk_at dksX1_isCranking_1 6 rfl rfl)
theorem dX1_isCranking_31 : decode cX1_isCranking 31 = .ok (.goto 4, 3) := dk_167 0 4 (dk_at dksX1_isCranking_1 7 rfl rfl)
theorem dX1_isCranking_34 : decode cX1_isCranking 34 = .ok (.iconst 0, 1) := dk_3 (dk_at dksX1_isCranking_1 10 rfl rfl)
theorem dX1_isCranking_35 : decode cX1_isCranking 35 = .ok (.ireturn, 1) := dk_172 (dk_at dksX1_isCranking_1 11 rfl rfl)
abbrev cX1_cranked : ByteArray := prog_2_method_14_code
def yX1_cranked : MethodName := ⟨RX1, "cranked", "(III)I"⟩
def dkwX1_cranked_2 : List UInt8 := [180, 0, 193, 167, 0, 8, 25, 4, 182, 0, 196, 172]
abbrev dktX1_cranked_2 : List UInt8 := dkwX1_cranked_2 ++ []
def dkwX1_cranked_1 : List UInt8 := [167, 0, 34, 29, 4, 160, 0, 11, 25, 4, 180, 0, 190, 167, 0, 21, 29, 5, 160, 0, 11, 25, 4]
abbrev dktX1_cranked_1 : List UInt8 := dkwX1_cranked_1 ++ dktX1_cranked_2
def dkwX1_cranked_0 : List UInt8 := [187, 0, 181, 89, 42, 27, 28, 183, 0, 183, 182, 0, 186, 58, 4, 29, 154, 0, 10, 42, 180, 0, 62]
abbrev dktX1_cranked_0 : List UInt8 := dkwX1_cranked_0 ++ dktX1_cranked_1
theorem dksX1_cranked_0 : cX1_cranked.data.toList.drop 0 = dktX1_cranked_0 := by decide +kernel
theorem dksX1_cranked_1 : cX1_cranked.data.toList.drop 23 = dktX1_cranked_1 := dk_seg dksX1_cranked_0 23 rfl rfl
theorem dksX1_cranked_2 : cX1_cranked.data.toList.drop 46 = dktX1_cranked_2 := dk_seg dksX1_cranked_1 23 rfl rfl
theorem dX1_cranked_0 : decode cX1_cranked 0 = .ok (.new 181, 3) := dk_187 0 181 (dk_at dksX1_cranked_0 0 rfl rfl)
theorem dX1_cranked_3 : decode cX1_cranked 3 = .ok (.dup, 1) := dk_89 (dk_at dksX1_cranked_0 3 rfl rfl)
theorem dX1_cranked_4 : decode cX1_cranked 4 = .ok (.aload_n 0, 1) := dk_42 (dk_at dksX1_cranked_0 4 rfl rfl)
theorem dX1_cranked_5 : decode cX1_cranked 5 = .ok (.iload_n 1, 1) := dk_27 (dk_at dksX1_cranked_0 5 rfl rfl)
theorem dX1_cranked_6 : decode cX1_cranked 6 = .ok (.iload_n 2, 1) := dk_28 (dk_at dksX1_cranked_0 6 rfl rfl)
theorem dX1_cranked_7 : decode cX1_cranked 7 = .ok (.invokespecial 183, 3) := dk_183 0 183 (dk_at dksX1_cranked_0 7 rfl rfl)
theorem dX1_cranked_10 : decode cX1_cranked 10 = .ok (.invokevirtual 186, 3) := dk_182 0 186 (dk_at dksX1_cranked_0 10 rfl rfl)
theorem dX1_cranked_13 : decode cX1_cranked 13 = .ok (.astore 4, 2) := dk_58 4 (dk_at dksX1_cranked_0 13 rfl rfl)
theorem dX1_cranked_15 : decode cX1_cranked 15 = .ok (.iload_n 3, 1) := dk_29 (dk_at dksX1_cranked_0 15 rfl rfl)
theorem dX1_cranked_16 : decode cX1_cranked 16 = .ok (.ifCond .ne 10, 3) := dk_154 0 10 (dk_at dksX1_cranked_0 16 rfl rfl)
theorem dX1_cranked_19 : decode cX1_cranked 19 = .ok (.aload_n 0, 1) := dk_42 (dk_at dksX1_cranked_0 19 rfl rfl)
theorem dX1_cranked_20 : decode cX1_cranked 20 = .ok (.getfield 62, 3) := dk_180 0 62 (dk_at dksX1_cranked_0 20 rfl rfl)
theorem dX1_cranked_23 : decode cX1_cranked 23 = .ok (.goto 34, 3) := dk_167 0 34 (dk_at dksX1_cranked_1 0 rfl rfl)
theorem dX1_cranked_26 : decode cX1_cranked 26 = .ok (.iload_n 3, 1) := dk_29 (dk_at dksX1_cranked_1 3 rfl rfl)
theorem dX1_cranked_27 : decode cX1_cranked 27 = .ok (.iconst 1, 1) := dk_4 (dk_at dksX1_cranked_1 4 rfl rfl)
theorem dX1_cranked_28 : decode cX1_cranked 28 = .ok (.if_icmp .ne 11, 3) := dk_160 0 11 (dk_at dksX1_cranked_1 5 rfl rfl)
theorem dX1_cranked_31 : decode cX1_cranked 31 = .ok (.aload 4, 2) := dk_25 4 (dk_at dksX1_cranked_1 8 rfl rfl)
theorem dX1_cranked_33 : decode cX1_cranked 33 = .ok (.getfield 190, 3) := dk_180 0 190 (dk_at dksX1_cranked_1 10 rfl rfl)
theorem dX1_cranked_36 : decode cX1_cranked 36 = .ok (.goto 21, 3) := dk_167 0 21 (dk_at dksX1_cranked_1 13 rfl rfl)
theorem dX1_cranked_39 : decode cX1_cranked 39 = .ok (.iload_n 3, 1) := dk_29 (dk_at dksX1_cranked_1 16 rfl rfl)
theorem dX1_cranked_40 : decode cX1_cranked 40 = .ok (.iconst 2, 1) := dk_5 (dk_at dksX1_cranked_1 17 rfl rfl)
theorem dX1_cranked_41 : decode cX1_cranked 41 = .ok (.if_icmp .ne 11, 3) := dk_160 0 11 (dk_at dksX1_cranked_1 18 rfl rfl)
theorem dX1_cranked_44 : decode cX1_cranked 44 = .ok (.aload 4, 2) := dk_25 4 (dk_at dksX1_cranked_1 21 rfl rfl)
theorem dX1_cranked_46 : decode cX1_cranked 46 = .ok (.getfield 193, 3) := dk_180 0 193 (dk_at dksX1_cranked_2 0 rfl rfl)
theorem dX1_cranked_49 : decode cX1_cranked 49 = .ok (.goto 8, 3) := dk_167 0 8 (dk_at dksX1_cranked_2 3 rfl rfl)
theorem dX1_cranked_52 : decode cX1_cranked 52 = .ok (.aload 4, 2) := dk_25 4 (dk_at dksX1_cranked_2 6 rfl rfl)
theorem dX1_cranked_54 : decode cX1_cranked 54 = .ok (.invokevirtual 196, 3) := dk_182 0 196 (dk_at dksX1_cranked_2 8 rfl rfl)
theorem dX1_cranked_57 : decode cX1_cranked 57 = .ok (.ireturn, 1) := dk_172 (dk_at dksX1_cranked_2 11 rfl rfl)
abbrev cX1_comes : ByteArray := prog_2_method_15_code
def yX1_comes : MethodName := ⟨RX1, "comes", "(I)I"⟩
def dkwX1_comes_3 : List UInt8 := [172]
abbrev dktX1_comes_3 : List UInt8 := dkwX1_comes_3 ++ []
def dkwX1_comes_2 : List UInt8 := [180, 0, 18, 187, 0, 53, 89, 27, 183, 0, 200, 182, 0, 48, 87, 42, 180, 0, 18, 182, 0, 82, 4, 100]
abbrev dktX1_comes_2 : List UInt8 := dkwX1_comes_2 ++ dktX1_comes_3
def dkwX1_comes_1 : List UInt8 := [180, 0, 18, 182, 0, 82, 16, 6, 162, 0, 7, 4, 167, 0, 4, 3, 18, 199, 184, 0, 95, 42]
abbrev dktX1_comes_1 : List UInt8 := dkwX1_comes_1 ++ dktX1_comes_2
def dkwX1_comes_0 : List UInt8 := [27, 133, 10, 4, 42, 180, 0, 12, 182, 0, 82, 120, 4, 100, 133, 184, 0, 86, 18, 94, 184, 0, 95, 42]
abbrev dktX1_comes_0 : List UInt8 := dkwX1_comes_0 ++ dktX1_comes_1
theorem dksX1_comes_0 : cX1_comes.data.toList.drop 0 = dktX1_comes_0 := by decide +kernel
theorem dksX1_comes_1 : cX1_comes.data.toList.drop 24 = dktX1_comes_1 := dk_seg dksX1_comes_0 24 rfl rfl
theorem dksX1_comes_2 : cX1_comes.data.toList.drop 46 = dktX1_comes_2 := dk_seg dksX1_comes_1 22 rfl rfl
theorem dksX1_comes_3 : cX1_comes.data.toList.drop 70 = dktX1_comes_3 := dk_seg dksX1_comes_2 24 rfl rfl
theorem dX1_comes_0 : decode cX1_comes 0 = .ok (.iload_n 1, 1) := dk_27 (dk_at dksX1_comes_0 0 rfl rfl)
theorem dX1_comes_1 : decode cX1_comes 1 = .ok (.i2l, 1) := dk_133 (dk_at dksX1_comes_0 1 rfl rfl)
theorem dX1_comes_2 : decode cX1_comes 2 = .ok (.lconst 1, 1) := dk_10 (dk_at dksX1_comes_0 2 rfl rfl)
theorem dX1_comes_3 : decode cX1_comes 3 = .ok (.iconst 1, 1) := dk_4 (dk_at dksX1_comes_0 3 rfl rfl)
theorem dX1_comes_4 : decode cX1_comes 4 = .ok (.aload_n 0, 1) := dk_42 (dk_at dksX1_comes_0 4 rfl rfl)
theorem dX1_comes_5 : decode cX1_comes 5 = .ok (.getfield 12, 3) := dk_180 0 12 (dk_at dksX1_comes_0 5 rfl rfl)
theorem dX1_comes_8 : decode cX1_comes 8 = .ok (.invokevirtual 82, 3) := dk_182 0 82 (dk_at dksX1_comes_0 8 rfl rfl)
theorem dX1_comes_11 : decode cX1_comes 11 = .ok (.ishl, 1) := dk_120 (dk_at dksX1_comes_0 11 rfl rfl)
theorem dX1_comes_12 : decode cX1_comes 12 = .ok (.iconst 1, 1) := dk_4 (dk_at dksX1_comes_0 12 rfl rfl)
theorem dX1_comes_13 : decode cX1_comes 13 = .ok (.isub, 1) := dk_100 (dk_at dksX1_comes_0 13 rfl rfl)
theorem dX1_comes_14 : decode cX1_comes 14 = .ok (.i2l, 1) := dk_133 (dk_at dksX1_comes_0 14 rfl rfl)
theorem dX1_comes_15 : decode cX1_comes 15 = .ok (.invokestatic 86, 3) := dk_184 0 86 (dk_at dksX1_comes_0 15 rfl rfl)
theorem dX1_comes_18 : decode cX1_comes 18 = .ok (.ldc 94, 2) := dk_18 94 (dk_at dksX1_comes_0 18 rfl rfl)
theorem dX1_comes_20 : decode cX1_comes 20 = .ok (.invokestatic 95, 3) := dk_184 0 95 (dk_at dksX1_comes_0 20 rfl rfl)
theorem dX1_comes_23 : decode cX1_comes 23 = .ok (.aload_n 0, 1) := dk_42 (dk_at dksX1_comes_0 23 rfl rfl)
theorem dX1_comes_24 : decode cX1_comes 24 = .ok (.getfield 18, 3) := dk_180 0 18 (dk_at dksX1_comes_1 0 rfl rfl)
theorem dX1_comes_27 : decode cX1_comes 27 = .ok (.invokevirtual 82, 3) := dk_182 0 82 (dk_at dksX1_comes_1 3 rfl rfl)
theorem dX1_comes_30 : decode cX1_comes 30 = .ok (.bipush 6, 2) := dk_16 6 (dk_at dksX1_comes_1 6 rfl rfl)
theorem dX1_comes_32 : decode cX1_comes 32 = .ok (.if_icmp .ge 7, 3) := dk_162 0 7 (dk_at dksX1_comes_1 8 rfl rfl)
theorem dX1_comes_35 : decode cX1_comes 35 = .ok (.iconst 1, 1) := dk_4 (dk_at dksX1_comes_1 11 rfl rfl)
theorem dX1_comes_36 : decode cX1_comes 36 = .ok (.goto 4, 3) := dk_167 0 4 (dk_at dksX1_comes_1 12 rfl rfl)
theorem dX1_comes_39 : decode cX1_comes 39 = .ok (.iconst 0, 1) := dk_3 (dk_at dksX1_comes_1 15 rfl rfl)
theorem dX1_comes_40 : decode cX1_comes 40 = .ok (.ldc 199, 2) := dk_18 199 (dk_at dksX1_comes_1 16 rfl rfl)
theorem dX1_comes_42 : decode cX1_comes 42 = .ok (.invokestatic 95, 3) := dk_184 0 95 (dk_at dksX1_comes_1 18 rfl rfl)
theorem dX1_comes_45 : decode cX1_comes 45 = .ok (.aload_n 0, 1) := dk_42 (dk_at dksX1_comes_1 21 rfl rfl)
theorem dX1_comes_46 : decode cX1_comes 46 = .ok (.getfield 18, 3) := dk_180 0 18 (dk_at dksX1_comes_2 0 rfl rfl)
theorem dX1_comes_49 : decode cX1_comes 49 = .ok (.new 53, 3) := dk_187 0 53 (dk_at dksX1_comes_2 3 rfl rfl)
theorem dX1_comes_52 : decode cX1_comes 52 = .ok (.dup, 1) := dk_89 (dk_at dksX1_comes_2 6 rfl rfl)
theorem dX1_comes_53 : decode cX1_comes 53 = .ok (.iload_n 1, 1) := dk_27 (dk_at dksX1_comes_2 7 rfl rfl)
theorem dX1_comes_54 : decode cX1_comes 54 = .ok (.invokespecial 200, 3) := dk_183 0 200 (dk_at dksX1_comes_2 8 rfl rfl)
theorem dX1_comes_57 : decode cX1_comes 57 = .ok (.invokevirtual 48, 3) := dk_182 0 48 (dk_at dksX1_comes_2 11 rfl rfl)
theorem dX1_comes_60 : decode cX1_comes 60 = .ok (.pop, 1) := dk_87 (dk_at dksX1_comes_2 14 rfl rfl)
theorem dX1_comes_61 : decode cX1_comes 61 = .ok (.aload_n 0, 1) := dk_42 (dk_at dksX1_comes_2 15 rfl rfl)
theorem dX1_comes_62 : decode cX1_comes 62 = .ok (.getfield 18, 3) := dk_180 0 18 (dk_at dksX1_comes_2 16 rfl rfl)
theorem dX1_comes_65 : decode cX1_comes 65 = .ok (.invokevirtual 82, 3) := dk_182 0 82 (dk_at dksX1_comes_2 19 rfl rfl)
theorem dX1_comes_68 : decode cX1_comes 68 = .ok (.iconst 1, 1) := dk_4 (dk_at dksX1_comes_2 22 rfl rfl)
theorem dX1_comes_69 : decode cX1_comes 69 = .ok (.isub, 1) := dk_100 (dk_at dksX1_comes_2 23 rfl rfl)
theorem dX1_comes_70 : decode cX1_comes 70 = .ok (.ireturn, 1) := dk_172 (dk_at dksX1_comes_3 0 rfl rfl)
abbrev cX1_drives : ByteArray := prog_2_method_16_code
def yX1_drives : MethodName := ⟨RX1, "drives", "(I)I"⟩
def dkwX1_drives_1 : List UInt8 := [180, 0, 25, 61, 42, 27, 181, 0, 25, 28, 172]
abbrev dktX1_drives_1 : List UInt8 := dkwX1_drives_1 ++ []
def dkwX1_drives_0 : List UInt8 := [27, 2, 159, 0, 11, 42, 27, 182, 0, 202, 153, 0, 7, 4, 167, 0, 4, 3, 18, 94, 184, 0, 95, 42]
abbrev dktX1_drives_0 : List UInt8 := dkwX1_drives_0 ++ dktX1_drives_1
theorem dksX1_drives_0 : cX1_drives.data.toList.drop 0 = dktX1_drives_0 := by decide +kernel
theorem dksX1_drives_1 : cX1_drives.data.toList.drop 24 = dktX1_drives_1 := dk_seg dksX1_drives_0 24 rfl rfl
theorem dX1_drives_0 : decode cX1_drives 0 = .ok (.iload_n 1, 1) := dk_27 (dk_at dksX1_drives_0 0 rfl rfl)
theorem dX1_drives_1 : decode cX1_drives 1 = .ok (.iconst (-1), 1) := dk_2 (dk_at dksX1_drives_0 1 rfl rfl)
theorem dX1_drives_2 : decode cX1_drives 2 = .ok (.if_icmp .eq 11, 3) := dk_159 0 11 (dk_at dksX1_drives_0 2 rfl rfl)
theorem dX1_drives_5 : decode cX1_drives 5 = .ok (.aload_n 0, 1) := dk_42 (dk_at dksX1_drives_0 5 rfl rfl)
theorem dX1_drives_6 : decode cX1_drives 6 = .ok (.iload_n 1, 1) := dk_27 (dk_at dksX1_drives_0 6 rfl rfl)
theorem dX1_drives_7 : decode cX1_drives 7 = .ok (.invokevirtual 202, 3) := dk_182 0 202 (dk_at dksX1_drives_0 7 rfl rfl)
theorem dX1_drives_10 : decode cX1_drives 10 = .ok (.ifCond .eq 7, 3) := dk_153 0 7 (dk_at dksX1_drives_0 10 rfl rfl)
theorem dX1_drives_13 : decode cX1_drives 13 = .ok (.iconst 1, 1) := dk_4 (dk_at dksX1_drives_0 13 rfl rfl)
theorem dX1_drives_14 : decode cX1_drives 14 = .ok (.goto 4, 3) := dk_167 0 4 (dk_at dksX1_drives_0 14 rfl rfl)
theorem dX1_drives_17 : decode cX1_drives 17 = .ok (.iconst 0, 1) := dk_3 (dk_at dksX1_drives_0 17 rfl rfl)
theorem dX1_drives_18 : decode cX1_drives 18 = .ok (.ldc 94, 2) := dk_18 94 (dk_at dksX1_drives_0 18 rfl rfl)
theorem dX1_drives_20 : decode cX1_drives 20 = .ok (.invokestatic 95, 3) := dk_184 0 95 (dk_at dksX1_drives_0 20 rfl rfl)
theorem dX1_drives_23 : decode cX1_drives 23 = .ok (.aload_n 0, 1) := dk_42 (dk_at dksX1_drives_0 23 rfl rfl)
theorem dX1_drives_24 : decode cX1_drives 24 = .ok (.getfield 25, 3) := dk_180 0 25 (dk_at dksX1_drives_1 0 rfl rfl)
theorem dX1_drives_27 : decode cX1_drives 27 = .ok (.istore_n 2, 1) := dk_61 (dk_at dksX1_drives_1 3 rfl rfl)
theorem dX1_drives_28 : decode cX1_drives 28 = .ok (.aload_n 0, 1) := dk_42 (dk_at dksX1_drives_1 4 rfl rfl)
theorem dX1_drives_29 : decode cX1_drives 29 = .ok (.iload_n 1, 1) := dk_27 (dk_at dksX1_drives_1 5 rfl rfl)
theorem dX1_drives_30 : decode cX1_drives 30 = .ok (.putfield 25, 3) := dk_181 0 25 (dk_at dksX1_drives_1 6 rfl rfl)
theorem dX1_drives_33 : decode cX1_drives 33 = .ok (.iload_n 2, 1) := dk_28 (dk_at dksX1_drives_1 9 rfl rfl)
theorem dX1_drives_34 : decode cX1_drives 34 = .ok (.ireturn, 1) := dk_172 (dk_at dksX1_drives_1 10 rfl rfl)
abbrev cX1_isRoute : ByteArray := prog_2_method_5_code
def yX1_isRoute : MethodName := ⟨RX1, "isRoute", "(I)Z"⟩
def dkwX1_isRoute_0 : List UInt8 := [27, 133, 9, 42, 180, 0, 18, 182, 0, 82, 4, 100, 133, 184, 0, 86, 172]
abbrev dktX1_isRoute_0 : List UInt8 := dkwX1_isRoute_0 ++ []
theorem dksX1_isRoute_0 : cX1_isRoute.data.toList.drop 0 = dktX1_isRoute_0 := by decide +kernel
theorem dX1_isRoute_0 : decode cX1_isRoute 0 = .ok (.iload_n 1, 1) := dk_27 (dk_at dksX1_isRoute_0 0 rfl rfl)
theorem dX1_isRoute_1 : decode cX1_isRoute 1 = .ok (.i2l, 1) := dk_133 (dk_at dksX1_isRoute_0 1 rfl rfl)
theorem dX1_isRoute_2 : decode cX1_isRoute 2 = .ok (.lconst 0, 1) := dk_9 (dk_at dksX1_isRoute_0 2 rfl rfl)
theorem dX1_isRoute_3 : decode cX1_isRoute 3 = .ok (.aload_n 0, 1) := dk_42 (dk_at dksX1_isRoute_0 3 rfl rfl)
theorem dX1_isRoute_4 : decode cX1_isRoute 4 = .ok (.getfield 18, 3) := dk_180 0 18 (dk_at dksX1_isRoute_0 4 rfl rfl)
theorem dX1_isRoute_7 : decode cX1_isRoute 7 = .ok (.invokevirtual 82, 3) := dk_182 0 82 (dk_at dksX1_isRoute_0 7 rfl rfl)
theorem dX1_isRoute_10 : decode cX1_isRoute 10 = .ok (.iconst 1, 1) := dk_4 (dk_at dksX1_isRoute_0 10 rfl rfl)
theorem dX1_isRoute_11 : decode cX1_isRoute 11 = .ok (.isub, 1) := dk_100 (dk_at dksX1_isRoute_0 11 rfl rfl)
theorem dX1_isRoute_12 : decode cX1_isRoute 12 = .ok (.i2l, 1) := dk_133 (dk_at dksX1_isRoute_0 12 rfl rfl)
theorem dX1_isRoute_13 : decode cX1_isRoute 13 = .ok (.invokestatic 86, 3) := dk_184 0 86 (dk_at dksX1_isRoute_0 13 rfl rfl)
theorem dX1_isRoute_16 : decode cX1_isRoute 16 = .ok (.ireturn, 1) := dk_172 (dk_at dksX1_isRoute_0 16 rfl rfl)
abbrev cX1_halts : ByteArray := prog_2_method_18_code
def yX1_halts : MethodName := ⟨RX1, "halts", "()I"⟩
def dkwX1_halts_4 : List UInt8 := [167, 0, 4, 3, 96, 181, 0, 220, 27, 172]
abbrev dktX1_halts_4 : List UInt8 := dkwX1_halts_4 ++ []
def dkwX1_halts_3 : List UInt8 := [180, 0, 18, 42, 180, 0, 25, 182, 0, 99, 192, 0, 53, 89, 180, 0, 220, 27, 154, 0, 7, 4]
abbrev dktX1_halts_3 : List UInt8 := dkwX1_halts_3 ++ dktX1_halts_4
def dkwX1_halts_2 : List UInt8 := [180, 0, 18, 42, 180, 0, 25, 182, 0, 99, 192, 0, 53, 89, 180, 0, 219, 4, 96, 181, 0, 219, 42]
abbrev dktX1_halts_2 : List UInt8 := dkwX1_halts_2 ++ dktX1_halts_3
def dkwX1_halts_1 : List UInt8 := [27, 154, 0, 7, 4, 167, 0, 4, 3, 96, 181, 0, 74, 42, 180, 0, 25, 2, 159, 0, 57, 42]
abbrev dktX1_halts_1 : List UInt8 := dkwX1_halts_1 ++ dktX1_halts_2
def dkwX1_halts_0 : List UInt8 := [42, 42, 180, 0, 62, 182, 0, 216, 60, 42, 89, 180, 0, 71, 4, 96, 181, 0, 71, 42, 89, 180, 0, 74]
abbrev dktX1_halts_0 : List UInt8 := dkwX1_halts_0 ++ dktX1_halts_1
theorem dksX1_halts_0 : cX1_halts.data.toList.drop 0 = dktX1_halts_0 := by decide +kernel
theorem dksX1_halts_1 : cX1_halts.data.toList.drop 24 = dktX1_halts_1 := dk_seg dksX1_halts_0 24 rfl rfl
theorem dksX1_halts_2 : cX1_halts.data.toList.drop 46 = dktX1_halts_2 := dk_seg dksX1_halts_1 22 rfl rfl
theorem dksX1_halts_3 : cX1_halts.data.toList.drop 69 = dktX1_halts_3 := dk_seg dksX1_halts_2 23 rfl rfl
theorem dksX1_halts_4 : cX1_halts.data.toList.drop 91 = dktX1_halts_4 := dk_seg dksX1_halts_3 22 rfl rfl
theorem dX1_halts_0 : decode cX1_halts 0 = .ok (.aload_n 0, 1) := dk_42 (dk_at dksX1_halts_0 0 rfl rfl)
theorem dX1_halts_1 : decode cX1_halts 1 = .ok (.aload_n 0, 1) := dk_42 (dk_at dksX1_halts_0 1 rfl rfl)
theorem dX1_halts_2 : decode cX1_halts 2 = .ok (.getfield 62, 3) := dk_180 0 62 (dk_at dksX1_halts_0 2 rfl rfl)
theorem dX1_halts_5 : decode cX1_halts 5 = .ok (.invokevirtual 216, 3) := dk_182 0 216 (dk_at dksX1_halts_0 5 rfl rfl)
theorem dX1_halts_8 : decode cX1_halts 8 = .ok (.istore_n 1, 1) := dk_60 (dk_at dksX1_halts_0 8 rfl rfl)
theorem dX1_halts_9 : decode cX1_halts 9 = .ok (.aload_n 0, 1) := dk_42 (dk_at dksX1_halts_0 9 rfl rfl)
theorem dX1_halts_10 : decode cX1_halts 10 = .ok (.dup, 1) := dk_89 (dk_at dksX1_halts_0 10 rfl rfl)
theorem dX1_halts_11 : decode cX1_halts 11 = .ok (.getfield 71, 3) := dk_180 0 71 (dk_at dksX1_halts_0 11 rfl rfl)
theorem dX1_halts_14 : decode cX1_halts 14 = .ok (.iconst 1, 1) := dk_4 (dk_at dksX1_halts_0 14 rfl rfl)
theorem dX1_halts_15 : decode cX1_halts 15 = .ok (.iadd, 1) := dk_96 (dk_at dksX1_halts_0 15 rfl rfl)
theorem dX1_halts_16 : decode cX1_halts 16 = .ok (.putfield 71, 3) := dk_181 0 71 (dk_at dksX1_halts_0 16 rfl rfl)
theorem dX1_halts_19 : decode cX1_halts 19 = .ok (.aload_n 0, 1) := dk_42 (dk_at dksX1_halts_0 19 rfl rfl)
theorem dX1_halts_20 : decode cX1_halts 20 = .ok (.dup, 1) := dk_89 (dk_at dksX1_halts_0 20 rfl rfl)
theorem dX1_halts_21 : decode cX1_halts 21 = .ok (.getfield 74, 3) := dk_180 0 74 (dk_at dksX1_halts_0 21 rfl rfl)
theorem dX1_halts_24 : decode cX1_halts 24 = .ok (.iload_n 1, 1) := dk_27 (dk_at dksX1_halts_1 0 rfl rfl)
theorem dX1_halts_25 : decode cX1_halts 25 = .ok (.ifCond .ne 7, 3) := dk_154 0 7 (dk_at dksX1_halts_1 1 rfl rfl)
theorem dX1_halts_28 : decode cX1_halts 28 = .ok (.iconst 1, 1) := dk_4 (dk_at dksX1_halts_1 4 rfl rfl)
theorem dX1_halts_29 : decode cX1_halts 29 = .ok (.goto 4, 3) := dk_167 0 4 (dk_at dksX1_halts_1 5 rfl rfl)
theorem dX1_halts_32 : decode cX1_halts 32 = .ok (.iconst 0, 1) := dk_3 (dk_at dksX1_halts_1 8 rfl rfl)
theorem dX1_halts_33 : decode cX1_halts 33 = .ok (.iadd, 1) := dk_96 (dk_at dksX1_halts_1 9 rfl rfl)
theorem dX1_halts_34 : decode cX1_halts 34 = .ok (.putfield 74, 3) := dk_181 0 74 (dk_at dksX1_halts_1 10 rfl rfl)
theorem dX1_halts_37 : decode cX1_halts 37 = .ok (.aload_n 0, 1) := dk_42 (dk_at dksX1_halts_1 13 rfl rfl)
theorem dX1_halts_38 : decode cX1_halts 38 = .ok (.getfield 25, 3) := dk_180 0 25 (dk_at dksX1_halts_1 14 rfl rfl)
theorem dX1_halts_41 : decode cX1_halts 41 = .ok (.iconst (-1), 1) := dk_2 (dk_at dksX1_halts_1 17 rfl rfl)
theorem dX1_halts_42 : decode cX1_halts 42 = .ok (.if_icmp .eq 57, 3) := dk_159 0 57 (dk_at dksX1_halts_1 18 rfl rfl)
theorem dX1_halts_45 : decode cX1_halts 45 = .ok (.aload_n 0, 1) := dk_42 (dk_at dksX1_halts_1 21 rfl rfl)
theorem dX1_halts_46 : decode cX1_halts 46 = .ok (.getfield 18, 3) := dk_180 0 18 (dk_at dksX1_halts_2 0 rfl rfl)
theorem dX1_halts_49 : decode cX1_halts 49 = .ok (.aload_n 0, 1) := dk_42 (dk_at dksX1_halts_2 3 rfl rfl)
theorem dX1_halts_50 : decode cX1_halts 50 = .ok (.getfield 25, 3) := dk_180 0 25 (dk_at dksX1_halts_2 4 rfl rfl)
theorem dX1_halts_53 : decode cX1_halts 53 = .ok (.invokevirtual 99, 3) := dk_182 0 99 (dk_at dksX1_halts_2 7 rfl rfl)
theorem dX1_halts_56 : decode cX1_halts 56 = .ok (.checkcast 53, 3) := dk_192 0 53 (dk_at dksX1_halts_2 10 rfl rfl)
theorem dX1_halts_59 : decode cX1_halts 59 = .ok (.dup, 1) := dk_89 (dk_at dksX1_halts_2 13 rfl rfl)
theorem dX1_halts_60 : decode cX1_halts 60 = .ok (.getfield 219, 3) := dk_180 0 219 (dk_at dksX1_halts_2 14 rfl rfl)
theorem dX1_halts_63 : decode cX1_halts 63 = .ok (.iconst 1, 1) := dk_4 (dk_at dksX1_halts_2 17 rfl rfl)
theorem dX1_halts_64 : decode cX1_halts 64 = .ok (.iadd, 1) := dk_96 (dk_at dksX1_halts_2 18 rfl rfl)
theorem dX1_halts_65 : decode cX1_halts 65 = .ok (.putfield 219, 3) := dk_181 0 219 (dk_at dksX1_halts_2 19 rfl rfl)
theorem dX1_halts_68 : decode cX1_halts 68 = .ok (.aload_n 0, 1) := dk_42 (dk_at dksX1_halts_2 22 rfl rfl)
theorem dX1_halts_69 : decode cX1_halts 69 = .ok (.getfield 18, 3) := dk_180 0 18 (dk_at dksX1_halts_3 0 rfl rfl)
theorem dX1_halts_72 : decode cX1_halts 72 = .ok (.aload_n 0, 1) := dk_42 (dk_at dksX1_halts_3 3 rfl rfl)
theorem dX1_halts_73 : decode cX1_halts 73 = .ok (.getfield 25, 3) := dk_180 0 25 (dk_at dksX1_halts_3 4 rfl rfl)
theorem dX1_halts_76 : decode cX1_halts 76 = .ok (.invokevirtual 99, 3) := dk_182 0 99 (dk_at dksX1_halts_3 7 rfl rfl)
theorem dX1_halts_79 : decode cX1_halts 79 = .ok (.checkcast 53, 3) := dk_192 0 53 (dk_at dksX1_halts_3 10 rfl rfl)
theorem dX1_halts_82 : decode cX1_halts 82 = .ok (.dup, 1) := dk_89 (dk_at dksX1_halts_3 13 rfl rfl)
theorem dX1_halts_83 : decode cX1_halts 83 = .ok (.getfield 220, 3) := dk_180 0 220 (dk_at dksX1_halts_3 14 rfl rfl)
theorem dX1_halts_86 : decode cX1_halts 86 = .ok (.iload_n 1, 1) := dk_27 (dk_at dksX1_halts_3 17 rfl rfl)
theorem dX1_halts_87 : decode cX1_halts 87 = .ok (.ifCond .ne 7, 3) := dk_154 0 7 (dk_at dksX1_halts_3 18 rfl rfl)
theorem dX1_halts_90 : decode cX1_halts 90 = .ok (.iconst 1, 1) := dk_4 (dk_at dksX1_halts_3 21 rfl rfl)
theorem dX1_halts_91 : decode cX1_halts 91 = .ok (.goto 4, 3) := dk_167 0 4 (dk_at dksX1_halts_4 0 rfl rfl)
theorem dX1_halts_94 : decode cX1_halts 94 = .ok (.iconst 0, 1) := dk_3 (dk_at dksX1_halts_4 3 rfl rfl)
theorem dX1_halts_95 : decode cX1_halts 95 = .ok (.iadd, 1) := dk_96 (dk_at dksX1_halts_4 4 rfl rfl)
theorem dX1_halts_96 : decode cX1_halts 96 = .ok (.putfield 220, 3) := dk_181 0 220 (dk_at dksX1_halts_4 5 rfl rfl)
theorem dX1_halts_99 : decode cX1_halts 99 = .ok (.iload_n 1, 1) := dk_27 (dk_at dksX1_halts_4 8 rfl rfl)
theorem dX1_halts_100 : decode cX1_halts 100 = .ok (.ireturn, 1) := dk_172 (dk_at dksX1_halts_4 9 rfl rfl)
abbrev cX1_wrong : ByteArray := prog_2_method_17_code
def yX1_wrong : MethodName := ⟨RX1, "wrong", "(I)I"⟩
def dkwX1_wrong_4 : List UInt8 := [172, 44, 42, 180, 0, 21, 3, 46, 182, 0, 215, 16, 120, 164, 0, 7, 8, 167, 0, 4, 3, 172]
abbrev dktX1_wrong_4 : List UInt8 := dkwX1_wrong_4 ++ []
def dkwX1_wrong_3 : List UInt8 := [180, 0, 18, 42, 180, 0, 25, 182, 0, 99, 192, 0, 53, 180, 0, 208, 27, 182, 0, 211, 154, 0, 5, 7]
abbrev dktX1_wrong_3 : List UInt8 := dkwX1_wrong_3 ++ dktX1_wrong_4
def dkwX1_wrong_2 : List UInt8 := [159, 0, 10, 29, 5, 159, 0, 5, 6, 172, 42, 180, 0, 25, 2, 159, 0, 34, 29, 5, 159, 0, 29, 42]
abbrev dktX1_wrong_2 : List UInt8 := dkwX1_wrong_2 ++ dktX1_wrong_3
def dkwX1_wrong_1 : List UInt8 := [180, 0, 159, 153, 0, 5, 5, 172, 44, 182, 0, 205, 62, 42, 180, 0, 25, 2, 160, 0, 15, 29, 4]
abbrev dktX1_wrong_1 : List UInt8 := dkwX1_wrong_1 ++ dktX1_wrong_2
def dkwX1_wrong_0 : List UInt8 := [42, 27, 182, 0, 90, 154, 0, 5, 4, 172, 42, 180, 0, 12, 27, 182, 0, 99, 192, 0, 43, 77, 44]
abbrev dktX1_wrong_0 : List UInt8 := dkwX1_wrong_0 ++ dktX1_wrong_1
theorem dksX1_wrong_0 : cX1_wrong.data.toList.drop 0 = dktX1_wrong_0 := by decide +kernel
theorem dksX1_wrong_1 : cX1_wrong.data.toList.drop 23 = dktX1_wrong_1 := dk_seg dksX1_wrong_0 23 rfl rfl
theorem dksX1_wrong_2 : cX1_wrong.data.toList.drop 46 = dktX1_wrong_2 := dk_seg dksX1_wrong_1 23 rfl rfl
theorem dksX1_wrong_3 : cX1_wrong.data.toList.drop 70 = dktX1_wrong_3 := dk_seg dksX1_wrong_2 24 rfl rfl
theorem dksX1_wrong_4 : cX1_wrong.data.toList.drop 94 = dktX1_wrong_4 := dk_seg dksX1_wrong_3 24 rfl rfl
theorem dX1_wrong_0 : decode cX1_wrong 0 = .ok (.aload_n 0, 1) := dk_42 (dk_at dksX1_wrong_0 0 rfl rfl)
theorem dX1_wrong_1 : decode cX1_wrong 1 = .ok (.iload_n 1, 1) := dk_27 (dk_at dksX1_wrong_0 1 rfl rfl)
theorem dX1_wrong_2 : decode cX1_wrong 2 = .ok (.invokevirtual 90, 3) := dk_182 0 90 (dk_at dksX1_wrong_0 2 rfl rfl)
theorem dX1_wrong_5 : decode cX1_wrong 5 = .ok (.ifCond .ne 5, 3) := dk_154 0 5 (dk_at dksX1_wrong_0 5 rfl rfl)
theorem dX1_wrong_8 : decode cX1_wrong 8 = .ok (.iconst 1, 1) := dk_4 (dk_at dksX1_wrong_0 8 rfl rfl)
theorem dX1_wrong_9 : decode cX1_wrong 9 = .ok (.ireturn, 1) := dk_172 (dk_at dksX1_wrong_0 9 rfl rfl)
theorem dX1_wrong_10 : decode cX1_wrong 10 = .ok (.aload_n 0, 1) := dk_42 (dk_at dksX1_wrong_0 10 rfl rfl)
theorem dX1_wrong_11 : decode cX1_wrong 11 = .ok (.getfield 12, 3) := dk_180 0 12 (dk_at dksX1_wrong_0 11 rfl rfl)
theorem dX1_wrong_14 : decode cX1_wrong 14 = .ok (.iload_n 1, 1) := dk_27 (dk_at dksX1_wrong_0 14 rfl rfl)
theorem dX1_wrong_15 : decode cX1_wrong 15 = .ok (.invokevirtual 99, 3) := dk_182 0 99 (dk_at dksX1_wrong_0 15 rfl rfl)
theorem dX1_wrong_18 : decode cX1_wrong 18 = .ok (.checkcast 43, 3) := dk_192 0 43 (dk_at dksX1_wrong_0 18 rfl rfl)
theorem dX1_wrong_21 : decode cX1_wrong 21 = .ok (.astore_n 2, 1) := dk_77 (dk_at dksX1_wrong_0 21 rfl rfl)
theorem dX1_wrong_22 : decode cX1_wrong 22 = .ok (.aload_n 2, 1) := dk_44 (dk_at dksX1_wrong_0 22 rfl rfl)
theorem dX1_wrong_23 : decode cX1_wrong 23 = .ok (.getfield 159, 3) := dk_180 0 159 (dk_at dksX1_wrong_1 0 rfl rfl)
theorem dX1_wrong_26 : decode cX1_wrong 26 = .ok (.ifCond .eq 5, 3) := dk_153 0 5 (dk_at dksX1_wrong_1 3 rfl rfl)
theorem dX1_wrong_29 : decode cX1_wrong 29 = .ok (.iconst 2, 1) := dk_5 (dk_at dksX1_wrong_1 6 rfl rfl)
theorem dX1_wrong_30 : decode cX1_wrong 30 = .ok (.ireturn, 1) := dk_172 (dk_at dksX1_wrong_1 7 rfl rfl)
theorem dX1_wrong_31 : decode cX1_wrong 31 = .ok (.aload_n 2, 1) := dk_44 (dk_at dksX1_wrong_1 8 rfl rfl)
theorem dX1_wrong_32 : decode cX1_wrong 32 = .ok (.invokevirtual 205, 3) := dk_182 0 205 (dk_at dksX1_wrong_1 9 rfl rfl)
theorem dX1_wrong_35 : decode cX1_wrong 35 = .ok (.istore_n 3, 1) := dk_62 (dk_at dksX1_wrong_1 12 rfl rfl)
theorem dX1_wrong_36 : decode cX1_wrong 36 = .ok (.aload_n 0, 1) := dk_42 (dk_at dksX1_wrong_1 13 rfl rfl)
theorem dX1_wrong_37 : decode cX1_wrong 37 = .ok (.getfield 25, 3) := dk_180 0 25 (dk_at dksX1_wrong_1 14 rfl rfl)
theorem dX1_wrong_40 : decode cX1_wrong 40 = .ok (.iconst (-1), 1) := dk_2 (dk_at dksX1_wrong_1 17 rfl rfl)
theorem dX1_wrong_41 : decode cX1_wrong 41 = .ok (.if_icmp .ne 15, 3) := dk_160 0 15 (dk_at dksX1_wrong_1 18 rfl rfl)
theorem dX1_wrong_44 : decode cX1_wrong 44 = .ok (.iload_n 3, 1) := dk_29 (dk_at dksX1_wrong_1 21 rfl rfl)
theorem dX1_wrong_45 : decode cX1_wrong 45 = .ok (.iconst 1, 1) := dk_4 (dk_at dksX1_wrong_1 22 rfl rfl)
theorem dX1_wrong_46 : decode cX1_wrong 46 = .ok (.if_icmp .eq 10, 3) := dk_159 0 10 (dk_at dksX1_wrong_2 0 rfl rfl)
theorem dX1_wrong_49 : decode cX1_wrong 49 = .ok (.iload_n 3, 1) := dk_29 (dk_at dksX1_wrong_2 3 rfl rfl)
theorem dX1_wrong_50 : decode cX1_wrong 50 = .ok (.iconst 2, 1) := dk_5 (dk_at dksX1_wrong_2 4 rfl rfl)
theorem dX1_wrong_51 : decode cX1_wrong 51 = .ok (.if_icmp .eq 5, 3) := dk_159 0 5 (dk_at dksX1_wrong_2 5 rfl rfl)
theorem dX1_wrong_54 : decode cX1_wrong 54 = .ok (.iconst 3, 1) := dk_6 (dk_at dksX1_wrong_2 8 rfl rfl)
theorem dX1_wrong_55 : decode cX1_wrong 55 = .ok (.ireturn, 1) := dk_172 (dk_at dksX1_wrong_2 9 rfl rfl)
theorem dX1_wrong_56 : decode cX1_wrong 56 = .ok (.aload_n 0, 1) := dk_42 (dk_at dksX1_wrong_2 10 rfl rfl)
theorem dX1_wrong_57 : decode cX1_wrong 57 = .ok (.getfield 25, 3) := dk_180 0 25 (dk_at dksX1_wrong_2 11 rfl rfl)
theorem dX1_wrong_60 : decode cX1_wrong 60 = .ok (.iconst (-1), 1) := dk_2 (dk_at dksX1_wrong_2 14 rfl rfl)
theorem dX1_wrong_61 : decode cX1_wrong 61 = .ok (.if_icmp .eq 34, 3) := dk_159 0 34 (dk_at dksX1_wrong_2 15 rfl rfl)
theorem dX1_wrong_64 : decode cX1_wrong 64 = .ok (.iload_n 3, 1) := dk_29 (dk_at dksX1_wrong_2 18 rfl rfl)
theorem dX1_wrong_65 : decode cX1_wrong 65 = .ok (.iconst 2, 1) := dk_5 (dk_at dksX1_wrong_2 19 rfl rfl)
theorem dX1_wrong_66 : decode cX1_wrong 66 = .ok (.if_icmp .eq 29, 3) := dk_159 0 29 (dk_at dksX1_wrong_2 20 rfl rfl)
theorem dX1_wrong_69 : decode cX1_wrong 69 = .ok (.aload_n 0, 1) := dk_42 (dk_at dksX1_wrong_2 23 rfl rfl)
theorem dX1_wrong_70 : decode cX1_wrong 70 = .ok (.getfield 18, 3) := dk_180 0 18 (dk_at dksX1_wrong_3 0 rfl rfl)
theorem dX1_wrong_73 : decode cX1_wrong 73 = .ok (.aload_n 0, 1) := dk_42 (dk_at dksX1_wrong_3 3 rfl rfl)
theorem dX1_wrong_74 : decode cX1_wrong 74 = .ok (.getfield 25, 3) := dk_180 0 25 (dk_at dksX1_wrong_3 4 rfl rfl)
theorem dX1_wrong_77 : decode cX1_wrong 77 = .ok (.invokevirtual 99, 3) := dk_182 0 99 (dk_at dksX1_wrong_3 7 rfl rfl)
theorem dX1_wrong_80 : decode cX1_wrong 80 = .ok (.checkcast 53, 3) := dk_192 0 53 (dk_at dksX1_wrong_3 10 rfl rfl)
theorem dX1_wrong_83 : decode cX1_wrong 83 = .ok (.getfield 208, 3) := dk_180 0 208 (dk_at dksX1_wrong_3 13 rfl rfl)
theorem dX1_wrong_86 : decode cX1_wrong 86 = .ok (.iload_n 1, 1) := dk_27 (dk_at dksX1_wrong_3 16 rfl rfl)
theorem dX1_wrong_87 : decode cX1_wrong 87 = .ok (.invokevirtual 211, 3) := dk_182 0 211 (dk_at dksX1_wrong_3 17 rfl rfl)
theorem dX1_wrong_90 : decode cX1_wrong 90 = .ok (.ifCond .ne 5, 3) := dk_154 0 5 (dk_at dksX1_wrong_3 20 rfl rfl)
theorem dX1_wrong_93 : decode cX1_wrong 93 = .ok (.iconst 4, 1) := dk_7 (dk_at dksX1_wrong_3 23 rfl rfl)
theorem dX1_wrong_94 : decode cX1_wrong 94 = .ok (.ireturn, 1) := dk_172 (dk_at dksX1_wrong_4 0 rfl rfl)
theorem dX1_wrong_95 : decode cX1_wrong 95 = .ok (.aload_n 2, 1) := dk_44 (dk_at dksX1_wrong_4 1 rfl rfl)
theorem dX1_wrong_96 : decode cX1_wrong 96 = .ok (.aload_n 0, 1) := dk_42 (dk_at dksX1_wrong_4 2 rfl rfl)
theorem dX1_wrong_97 : decode cX1_wrong 97 = .ok (.getfield 21, 3) := dk_180 0 21 (dk_at dksX1_wrong_4 3 rfl rfl)
theorem dX1_wrong_100 : decode cX1_wrong 100 = .ok (.iconst 0, 1) := dk_3 (dk_at dksX1_wrong_4 6 rfl rfl)
theorem dX1_wrong_101 : decode cX1_wrong 101 = .ok (.iaload, 1) := dk_46 (dk_at dksX1_wrong_4 7 rfl rfl)
theorem dX1_wrong_102 : decode cX1_wrong 102 = .ok (.invokevirtual 215, 3) := dk_182 0 215 (dk_at dksX1_wrong_4 8 rfl rfl)
theorem dX1_wrong_105 : decode cX1_wrong 105 = .ok (.bipush 120, 2) := dk_16 120 (dk_at dksX1_wrong_4 11 rfl rfl)
theorem dX1_wrong_107 : decode cX1_wrong 107 = .ok (.if_icmp .le 7, 3) := dk_164 0 7 (dk_at dksX1_wrong_4 13 rfl rfl)
theorem dX1_wrong_110 : decode cX1_wrong 110 = .ok (.iconst 5, 1) := dk_8 (dk_at dksX1_wrong_4 16 rfl rfl)
theorem dX1_wrong_111 : decode cX1_wrong 111 = .ok (.goto 4, 3) := dk_167 0 4 (dk_at dksX1_wrong_4 17 rfl rfl)
theorem dX1_wrong_114 : decode cX1_wrong 114 = .ok (.iconst 0, 1) := dk_3 (dk_at dksX1_wrong_4 20 rfl rfl)
theorem dX1_wrong_115 : decode cX1_wrong 115 = .ok (.ireturn, 1) := dk_172 (dk_at dksX1_wrong_4 21 rfl rfl)
abbrev cX1_setsTo : ByteArray := prog_2_method_19_code
def yX1_setsTo : MethodName := ⟨RX1, "setsTo", "(II)I"⟩
def dkwX1_setsTo_3 : List UInt8 := [54, 4, 42, 180, 0, 21, 27, 28, 79, 21, 4, 172]
abbrev dktX1_setsTo_3 : List UInt8 := dkwX1_setsTo_3 ++ []
def dkwX1_setsTo_2 : List UInt8 := [184, 0, 86, 153, 0, 7, 4, 167, 0, 4, 3, 62, 29, 18, 94, 184, 0, 95, 42, 180, 0, 21, 27, 46]
abbrev dktX1_setsTo_2 : List UInt8 := dkwX1_setsTo_2 ++ dktX1_setsTo_3
def dkwX1_setsTo_1 : List UInt8 := [133, 10, 20, 0, 225, 184, 0, 86, 167, 0, 25, 27, 5, 160, 0, 19, 28, 133, 10, 20, 0, 227]
abbrev dktX1_setsTo_1 : List UInt8 := dkwX1_setsTo_1 ++ dktX1_setsTo_2
def dkwX1_setsTo_0 : List UInt8 := [27, 154, 0, 17, 28, 133, 20, 0, 221, 20, 0, 223, 184, 0, 86, 167, 0, 42, 27, 4, 160, 0, 15, 28]
abbrev dktX1_setsTo_0 : List UInt8 := dkwX1_setsTo_0 ++ dktX1_setsTo_1
theorem dksX1_setsTo_0 : cX1_setsTo.data.toList.drop 0 = dktX1_setsTo_0 := by decide +kernel
theorem dksX1_setsTo_1 : cX1_setsTo.data.toList.drop 24 = dktX1_setsTo_1 := dk_seg dksX1_setsTo_0 24 rfl rfl
theorem dksX1_setsTo_2 : cX1_setsTo.data.toList.drop 46 = dktX1_setsTo_2 := dk_seg dksX1_setsTo_1 22 rfl rfl
theorem dksX1_setsTo_3 : cX1_setsTo.data.toList.drop 70 = dktX1_setsTo_3 := dk_seg dksX1_setsTo_2 24 rfl rfl
theorem dX1_setsTo_0 : decode cX1_setsTo 0 = .ok (.iload_n 1, 1) := dk_27 (dk_at dksX1_setsTo_0 0 rfl rfl)
theorem dX1_setsTo_1 : decode cX1_setsTo 1 = .ok (.ifCond .ne 17, 3) := dk_154 0 17 (dk_at dksX1_setsTo_0 1 rfl rfl)
theorem dX1_setsTo_4 : decode cX1_setsTo 4 = .ok (.iload_n 2, 1) := dk_28 (dk_at dksX1_setsTo_0 4 rfl rfl)
theorem dX1_setsTo_5 : decode cX1_setsTo 5 = .ok (.i2l, 1) := dk_133 (dk_at dksX1_setsTo_0 5 rfl rfl)
theorem dX1_setsTo_6 : decode cX1_setsTo 6 = .ok (.ldc2_w 221, 3) := dk_20 0 221 (dk_at dksX1_setsTo_0 6 rfl rfl)
theorem dX1_setsTo_9 : decode cX1_setsTo 9 = .ok (.ldc2_w 223, 3) := dk_20 0 223 (dk_at dksX1_setsTo_0 9 rfl rfl)
theorem dX1_setsTo_12 : decode cX1_setsTo 12 = .ok (.invokestatic 86, 3) := dk_184 0 86 (dk_at dksX1_setsTo_0 12 rfl rfl)
theorem dX1_setsTo_15 : decode cX1_setsTo 15 = .ok (.goto 42, 3) := dk_167 0 42 (dk_at dksX1_setsTo_0 15 rfl rfl)
theorem dX1_setsTo_18 : decode cX1_setsTo 18 = .ok (.iload_n 1, 1) := dk_27 (dk_at dksX1_setsTo_0 18 rfl rfl)
theorem dX1_setsTo_19 : decode cX1_setsTo 19 = .ok (.iconst 1, 1) := dk_4 (dk_at dksX1_setsTo_0 19 rfl rfl)
theorem dX1_setsTo_20 : decode cX1_setsTo 20 = .ok (.if_icmp .ne 15, 3) := dk_160 0 15 (dk_at dksX1_setsTo_0 20 rfl rfl)
theorem dX1_setsTo_23 : decode cX1_setsTo 23 = .ok (.iload_n 2, 1) := dk_28 (dk_at dksX1_setsTo_0 23 rfl rfl)
theorem dX1_setsTo_24 : decode cX1_setsTo 24 = .ok (.i2l, 1) := dk_133 (dk_at dksX1_setsTo_1 0 rfl rfl)
theorem dX1_setsTo_25 : decode cX1_setsTo 25 = .ok (.lconst 1, 1) := dk_10 (dk_at dksX1_setsTo_1 1 rfl rfl)
theorem dX1_setsTo_26 : decode cX1_setsTo 26 = .ok (.ldc2_w 225, 3) := dk_20 0 225 (dk_at dksX1_setsTo_1 2 rfl rfl)
theorem dX1_setsTo_29 : decode cX1_setsTo 29 = .ok (.invokestatic 86, 3) := dk_184 0 86 (dk_at dksX1_setsTo_1 5 rfl rfl)
theorem dX1_setsTo_32 : decode cX1_setsTo 32 = .ok (.goto 25, 3) := dk_167 0 25 (dk_at dksX1_setsTo_1 8 rfl rfl)
theorem dX1_setsTo_35 : decode cX1_setsTo 35 = .ok (.iload_n 1, 1) := dk_27 (dk_at dksX1_setsTo_1 11 rfl rfl)
theorem dX1_setsTo_36 : decode cX1_setsTo 36 = .ok (.iconst 2, 1) := dk_5 (dk_at dksX1_setsTo_1 12 rfl rfl)
theorem dX1_setsTo_37 : decode cX1_setsTo 37 = .ok (.if_icmp .ne 19, 3) := dk_160 0 19 (dk_at dksX1_setsTo_1 13 rfl rfl)
theorem dX1_setsTo_40 : decode cX1_setsTo 40 = .ok (.iload_n 2, 1) := dk_28 (dk_at dksX1_setsTo_1 16 rfl rfl)
theorem dX1_setsTo_41 : decode cX1_setsTo 41 = .ok (.i2l, 1) := dk_133 (dk_at dksX1_setsTo_1 17 rfl rfl)
theorem dX1_setsTo_42 : decode cX1_setsTo 42 = .ok (.lconst 1, 1) := dk_10 (dk_at dksX1_setsTo_1 18 rfl rfl)
theorem dX1_setsTo_43 : decode cX1_setsTo 43 = .ok (.ldc2_w 227, 3) := dk_20 0 227 (dk_at dksX1_setsTo_1 19 rfl rfl)
theorem dX1_setsTo_46 : decode cX1_setsTo 46 = .ok (.invokestatic 86, 3) := dk_184 0 86 (dk_at dksX1_setsTo_2 0 rfl rfl)
theorem dX1_setsTo_49 : decode cX1_setsTo 49 = .ok (.ifCond .eq 7, 3) := dk_153 0 7 (dk_at dksX1_setsTo_2 3 rfl rfl)
theorem dX1_setsTo_52 : decode cX1_setsTo 52 = .ok (.iconst 1, 1) := dk_4 (dk_at dksX1_setsTo_2 6 rfl rfl)
theorem dX1_setsTo_53 : decode cX1_setsTo 53 = .ok (.goto 4, 3) := dk_167 0 4 (dk_at dksX1_setsTo_2 7 rfl rfl)
theorem dX1_setsTo_56 : decode cX1_setsTo 56 = .ok (.iconst 0, 1) := dk_3 (dk_at dksX1_setsTo_2 10 rfl rfl)
theorem dX1_setsTo_57 : decode cX1_setsTo 57 = .ok (.istore_n 3, 1) := dk_62 (dk_at dksX1_setsTo_2 11 rfl rfl)
theorem dX1_setsTo_58 : decode cX1_setsTo 58 = .ok (.iload_n 3, 1) := dk_29 (dk_at dksX1_setsTo_2 12 rfl rfl)
theorem dX1_setsTo_59 : decode cX1_setsTo 59 = .ok (.ldc 94, 2) := dk_18 94 (dk_at dksX1_setsTo_2 13 rfl rfl)
theorem dX1_setsTo_61 : decode cX1_setsTo 61 = .ok (.invokestatic 95, 3) := dk_184 0 95 (dk_at dksX1_setsTo_2 15 rfl rfl)
theorem dX1_setsTo_64 : decode cX1_setsTo 64 = .ok (.aload_n 0, 1) := dk_42 (dk_at dksX1_setsTo_2 18 rfl rfl)
theorem dX1_setsTo_65 : decode cX1_setsTo 65 = .ok (.getfield 21, 3) := dk_180 0 21 (dk_at dksX1_setsTo_2 19 rfl rfl)
theorem dX1_setsTo_68 : decode cX1_setsTo 68 = .ok (.iload_n 1, 1) := dk_27 (dk_at dksX1_setsTo_2 22 rfl rfl)
theorem dX1_setsTo_69 : decode cX1_setsTo 69 = .ok (.iaload, 1) := dk_46 (dk_at dksX1_setsTo_2 23 rfl rfl)
theorem dX1_setsTo_70 : decode cX1_setsTo 70 = .ok (.istore 4, 2) := dk_54 4 (dk_at dksX1_setsTo_3 0 rfl rfl)
theorem dX1_setsTo_72 : decode cX1_setsTo 72 = .ok (.aload_n 0, 1) := dk_42 (dk_at dksX1_setsTo_3 2 rfl rfl)
theorem dX1_setsTo_73 : decode cX1_setsTo 73 = .ok (.getfield 21, 3) := dk_180 0 21 (dk_at dksX1_setsTo_3 3 rfl rfl)
theorem dX1_setsTo_76 : decode cX1_setsTo 76 = .ok (.iload_n 1, 1) := dk_27 (dk_at dksX1_setsTo_3 6 rfl rfl)
theorem dX1_setsTo_77 : decode cX1_setsTo 77 = .ok (.iload_n 2, 1) := dk_28 (dk_at dksX1_setsTo_3 7 rfl rfl)
theorem dX1_setsTo_78 : decode cX1_setsTo 78 = .ok (.iastore, 1) := dk_79 (dk_at dksX1_setsTo_3 8 rfl rfl)
theorem dX1_setsTo_79 : decode cX1_setsTo 79 = .ok (.iload 4, 2) := dk_21 4 (dk_at dksX1_setsTo_3 9 rfl rfl)
theorem dX1_setsTo_81 : decode cX1_setsTo 81 = .ok (.ireturn, 1) := dk_172 (dk_at dksX1_setsTo_3 11 rfl rfl)
abbrev cX1_tornSet : ByteArray := prog_2_method_20_code
def yX1_tornSet : MethodName := ⟨RX1, "tornSet", "()I"⟩
def dkwX1_tornSet_2 : List UInt8 := [27, 172]
abbrev dktX1_tornSet_2 : List UInt8 := dkwX1_tornSet_2 ++ []
def dkwX1_tornSet_1 : List UInt8 := [192, 0, 43, 180, 0, 159, 153, 0, 9, 4, 28, 120, 167, 0, 4, 3, 128, 60, 132, 2, 1, 167, 255, 215]
abbrev dktX1_tornSet_1 : List UInt8 := dkwX1_tornSet_1 ++ dktX1_tornSet_2
def dkwX1_tornSet_0 : List UInt8 := [3, 60, 3, 61, 28, 42, 180, 0, 12, 182, 0, 82, 162, 0, 36, 27, 42, 180, 0, 12, 28, 182, 0, 99]
abbrev dktX1_tornSet_0 : List UInt8 := dkwX1_tornSet_0 ++ dktX1_tornSet_1
theorem dksX1_tornSet_0 : cX1_tornSet.data.toList.drop 0 = dktX1_tornSet_0 := by decide +kernel
theorem dksX1_tornSet_1 : cX1_tornSet.data.toList.drop 24 = dktX1_tornSet_1 := dk_seg dksX1_tornSet_0 24 rfl rfl
theorem dksX1_tornSet_2 : cX1_tornSet.data.toList.drop 48 = dktX1_tornSet_2 := dk_seg dksX1_tornSet_1 24 rfl rfl
theorem dX1_tornSet_0 : decode cX1_tornSet 0 = .ok (.iconst 0, 1) := dk_3 (dk_at dksX1_tornSet_0 0 rfl rfl)
theorem dX1_tornSet_1 : decode cX1_tornSet 1 = .ok (.istore_n 1, 1) := dk_60 (dk_at dksX1_tornSet_0 1 rfl rfl)
theorem dX1_tornSet_2 : decode cX1_tornSet 2 = .ok (.iconst 0, 1) := dk_3 (dk_at dksX1_tornSet_0 2 rfl rfl)
theorem dX1_tornSet_3 : decode cX1_tornSet 3 = .ok (.istore_n 2, 1) := dk_61 (dk_at dksX1_tornSet_0 3 rfl rfl)
theorem dX1_tornSet_4 : decode cX1_tornSet 4 = .ok (.iload_n 2, 1) := dk_28 (dk_at dksX1_tornSet_0 4 rfl rfl)
theorem dX1_tornSet_5 : decode cX1_tornSet 5 = .ok (.aload_n 0, 1) := dk_42 (dk_at dksX1_tornSet_0 5 rfl rfl)
theorem dX1_tornSet_6 : decode cX1_tornSet 6 = .ok (.getfield 12, 3) := dk_180 0 12 (dk_at dksX1_tornSet_0 6 rfl rfl)
theorem dX1_tornSet_9 : decode cX1_tornSet 9 = .ok (.invokevirtual 82, 3) := dk_182 0 82 (dk_at dksX1_tornSet_0 9 rfl rfl)
theorem dX1_tornSet_12 : decode cX1_tornSet 12 = .ok (.if_icmp .ge 36, 3) := dk_162 0 36 (dk_at dksX1_tornSet_0 12 rfl rfl)
theorem dX1_tornSet_15 : decode cX1_tornSet 15 = .ok (.iload_n 1, 1) := dk_27 (dk_at dksX1_tornSet_0 15 rfl rfl)
theorem dX1_tornSet_16 : decode cX1_tornSet 16 = .ok (.aload_n 0, 1) := dk_42 (dk_at dksX1_tornSet_0 16 rfl rfl)
theorem dX1_tornSet_17 : decode cX1_tornSet 17 = .ok (.getfield 12, 3) := dk_180 0 12 (dk_at dksX1_tornSet_0 17 rfl rfl)
theorem dX1_tornSet_20 : decode cX1_tornSet 20 = .ok (.iload_n 2, 1) := dk_28 (dk_at dksX1_tornSet_0 20 rfl rfl)
theorem dX1_tornSet_21 : decode cX1_tornSet 21 = .ok (.invokevirtual 99, 3) := dk_182 0 99 (dk_at dksX1_tornSet_0 21 rfl rfl)
theorem dX1_tornSet_24 : decode cX1_tornSet 24 = .ok (.checkcast 43, 3) := dk_192 0 43 (dk_at dksX1_tornSet_1 0 rfl rfl)
theorem dX1_tornSet_27 : decode cX1_tornSet 27 = .ok (.getfield 159, 3) := dk_180 0 159 (dk_at dksX1_tornSet_1 3 rfl rfl)
theorem dX1_tornSet_30 : decode cX1_tornSet 30 = .ok (.ifCond .eq 9, 3) := dk_153 0 9 (dk_at dksX1_tornSet_1 6 rfl rfl)
theorem dX1_tornSet_33 : decode cX1_tornSet 33 = .ok (.iconst 1, 1) := dk_4 (dk_at dksX1_tornSet_1 9 rfl rfl)
theorem dX1_tornSet_34 : decode cX1_tornSet 34 = .ok (.iload_n 2, 1) := dk_28 (dk_at dksX1_tornSet_1 10 rfl rfl)
theorem dX1_tornSet_35 : decode cX1_tornSet 35 = .ok (.ishl, 1) := dk_120 (dk_at dksX1_tornSet_1 11 rfl rfl)
theorem dX1_tornSet_36 : decode cX1_tornSet 36 = .ok (.goto 4, 3) := dk_167 0 4 (dk_at dksX1_tornSet_1 12 rfl rfl)
theorem dX1_tornSet_39 : decode cX1_tornSet 39 = .ok (.iconst 0, 1) := dk_3 (dk_at dksX1_tornSet_1 15 rfl rfl)
theorem dX1_tornSet_40 : decode cX1_tornSet 40 = .ok (.ior, 1) := dk_128 (dk_at dksX1_tornSet_1 16 rfl rfl)
theorem dX1_tornSet_41 : decode cX1_tornSet 41 = .ok (.istore_n 1, 1) := dk_60 (dk_at dksX1_tornSet_1 17 rfl rfl)
theorem dX1_tornSet_42 : decode cX1_tornSet 42 = .ok (.iinc 2 1, 3) := dk_132 2 1 (dk_at dksX1_tornSet_1 18 rfl rfl)
theorem dX1_tornSet_45 : decode cX1_tornSet 45 = .ok (.goto (-41), 3) := dk_167 255 215 (dk_at dksX1_tornSet_1 21 rfl rfl)
theorem dX1_tornSet_48 : decode cX1_tornSet 48 = .ok (.iload_n 1, 1) := dk_27 (dk_at dksX1_tornSet_2 0 rfl rfl)
theorem dX1_tornSet_49 : decode cX1_tornSet 49 = .ok (.ireturn, 1) := dk_172 (dk_at dksX1_tornSet_2 1 rfl rfl)
theorem q47 : (Jvm.Cond.initialized "HandBlinds$Blind") ∈ lw_all := lw_g (lw_at lw_m1 2 rfl) rfl
theorem q89 : (Jvm.Cond.instantiable "HandBlinds$Blind" (9 : Nat)) ∈ lw_all := lw_g (lw_at lw_m1 44 rfl) rfl
theorem q91 : (Jvm.Cond.instanceMethod ({ cls := "HandBlinds$Blind", name := "<init>", desc := "()V" } : Jvm.MethodName)) ∈ lw_all := lw_g (lw_at lw_m1 46 rfl) rfl
theorem q92 : (Jvm.Cond.code ({ cls := "HandBlinds$Blind", name := "<init>", desc := "()V" } : Jvm.MethodName) prog_2_method_1_code (1 : Nat) (Option.none : Option Jvm.ClassFile.FieldType)) ∈ lw_all := lw_g (lw_at lw_m1 47 rfl) rfl
theorem q93 : (Jvm.Cond.methodLink "HandBlinds$Blind" (3 : Nat) ({ cls := "java/lang/Object", name := "<init>", desc := "()V" } : Jvm.MethodName)) ∈ lw_all := lw_g (lw_at lw_m1 48 rfl) rfl
theorem q94 : (Jvm.Cond.classLink "HandBlinds$Blind" (9 : Nat) "java/util/ArrayList") ∈ lw_all := lw_g (lw_at lw_m1 49 rfl) rfl
theorem q96 : (Jvm.Cond.methodLink "HandBlinds$Blind" (11 : Nat) ({ cls := "java/util/ArrayList", name := "<init>", desc := "()V" } : Jvm.MethodName)) ∈ lw_all := lw_g (lw_at lw_m1 51 rfl) rfl
theorem q123 : (Jvm.Cond.fieldLink "HandBlinds$Blind" (12 : Nat) "HandBlinds$Blind" "rows" "Ljava/util/ArrayList;") ∈ lw_all := lw_g (lw_at lw_m1 78 rfl) rfl
theorem q127 : (Jvm.Cond.fieldLink "HandBlinds$Blind" (18 : Nat) "HandBlinds$Blind" "routes" "Ljava/util/ArrayList;") ∈ lw_all := lw_g (lw_at lw_m1 82 rfl) rfl
theorem q129 : (Jvm.Cond.fieldLink "HandBlinds$Blind" (21 : Nat) "HandBlinds$Blind" "settings" "[I") ∈ lw_all := lw_g (lw_at lw_m1 84 rfl) rfl
theorem q133 : (Jvm.Cond.fieldLink "HandBlinds$Blind" (62 : Nat) "HandBlinds$Blind" "shown" "I") ∈ lw_all := lw_g (lw_at lw_m1 88 rfl) rfl
theorem q135 : (Jvm.Cond.fieldLink "HandBlinds$Blind" (25 : Nat) "HandBlinds$Blind" "on" "I") ∈ lw_all := lw_g (lw_at lw_m1 90 rfl) rfl
theorem q137 : (Jvm.Cond.fieldLink "HandBlinds$Blind" (65 : Nat) "HandBlinds$Blind" "tears" "I") ∈ lw_all := lw_g (lw_at lw_m1 92 rfl) rfl
theorem q140 : (Jvm.Cond.fieldLink "HandBlinds$Blind" (68 : Nat) "HandBlinds$Blind" "passed" "I") ∈ lw_all := lw_g (lw_at lw_m1 95 rfl) rfl
theorem q143 : (Jvm.Cond.fieldLink "HandBlinds$Blind" (71 : Nat) "HandBlinds$Blind" "stops" "I") ∈ lw_all := lw_g (lw_at lw_m1 98 rfl) rfl
theorem q145 : (Jvm.Cond.fieldLink "HandBlinds$Blind" (74 : Nat) "HandBlinds$Blind" "right" "I") ∈ lw_all := lw_g (lw_at lw_m1 100 rfl) rfl
theorem q147 : (Jvm.Cond.laysFinal "HandBlinds$Blind" "HandBlinds$Blind" "rows" "Ljava/util/ArrayList;") ∈ lw_all := lw_g (lw_at lw_m1 102 rfl) rfl
theorem q148 : (Jvm.Cond.soleField "HandBlinds$Blind" "rows") ∈ lw_all := lw_g (lw_at lw_m1 103 rfl) rfl
theorem q149 : (Jvm.Cond.laysFinal "HandBlinds$Blind" "HandBlinds$Blind" "routes" "Ljava/util/ArrayList;") ∈ lw_all := lw_g (lw_at lw_m1 104 rfl) rfl
theorem q150 : (Jvm.Cond.soleField "HandBlinds$Blind" "routes") ∈ lw_all := lw_g (lw_at lw_m1 105 rfl) rfl
theorem q151 : (Jvm.Cond.lays "HandBlinds$Blind" "HandBlinds$Blind" "settings" "[I") ∈ lw_all := lw_g (lw_at lw_m1 106 rfl) rfl
theorem q152 : (Jvm.Cond.soleField "HandBlinds$Blind" "settings") ∈ lw_all := lw_g (lw_at lw_m1 107 rfl) rfl
theorem q153 : (Jvm.Cond.lays "HandBlinds$Blind" "HandBlinds$Blind" "shown" "I") ∈ lw_all := lw_g (lw_at lw_m1 108 rfl) rfl
theorem q154 : (Jvm.Cond.soleField "HandBlinds$Blind" "shown") ∈ lw_all := lw_g (lw_at lw_m1 109 rfl) rfl
theorem q155 : (Jvm.Cond.lays "HandBlinds$Blind" "HandBlinds$Blind" "on" "I") ∈ lw_all := lw_g (lw_at lw_m1 110 rfl) rfl
theorem q156 : (Jvm.Cond.soleField "HandBlinds$Blind" "on") ∈ lw_all := lw_g (lw_at lw_m1 111 rfl) rfl
theorem q157 : (Jvm.Cond.lays "HandBlinds$Blind" "HandBlinds$Blind" "tears" "I") ∈ lw_all := lw_g (lw_at lw_m1 112 rfl) rfl
theorem q158 : (Jvm.Cond.soleField "HandBlinds$Blind" "tears") ∈ lw_all := lw_g (lw_at lw_m1 113 rfl) rfl
theorem q159 : (Jvm.Cond.lays "HandBlinds$Blind" "HandBlinds$Blind" "passed" "I") ∈ lw_all := lw_g (lw_at lw_m1 114 rfl) rfl
theorem q160 : (Jvm.Cond.soleField "HandBlinds$Blind" "passed") ∈ lw_all := lw_g (lw_at lw_m1 115 rfl) rfl
theorem q161 : (Jvm.Cond.lays "HandBlinds$Blind" "HandBlinds$Blind" "stops" "I") ∈ lw_all := lw_g (lw_at lw_m1 116 rfl) rfl
theorem q162 : (Jvm.Cond.soleField "HandBlinds$Blind" "stops") ∈ lw_all := lw_g (lw_at lw_m1 117 rfl) rfl
theorem q163 : (Jvm.Cond.lays "HandBlinds$Blind" "HandBlinds$Blind" "right" "I") ∈ lw_all := lw_g (lw_at lw_m1 118 rfl) rfl
theorem q164 : (Jvm.Cond.soleField "HandBlinds$Blind" "right") ∈ lw_all := lw_g (lw_at lw_m1 119 rfl) rfl
theorem q165 : (Jvm.Cond.superclass "HandBlinds$Blind" "java/lang/Object") ∈ lw_all := lw_g (lw_at lw_m1 120 rfl) rfl
theorem q234 : (Jvm.Cond.instanceMethod ({ cls := "HandBlinds$Blind", name := "<init>", desc := "(LHandBlinds$Blind;)V" } : Jvm.MethodName)) ∈ lw_all := lw_g (lw_at lw_m1 189 rfl) rfl
theorem q235 : (Jvm.Cond.code ({ cls := "HandBlinds$Blind", name := "<init>", desc := "(LHandBlinds$Blind;)V" } : Jvm.MethodName) prog_2_method_2_code (4 : Nat) (Option.none : Option Jvm.ClassFile.FieldType)) ∈ lw_all := lw_g (lw_at lw_m1 190 rfl) rfl
theorem q236 : (Jvm.Cond.methodLink "HandBlinds$Blind" (29 : Nat) ({ cls := "HandBlinds$Blind", name := "iterator", desc := "()Ljava/util/Iterator;" } : Jvm.MethodName)) ∈ lw_all := lw_g (lw_at lw_m1 191 rfl) rfl
theorem q237 : (Jvm.Cond.instanceMethod ({ cls := "HandBlinds$Blind", name := "iterator", desc := "()Ljava/util/Iterator;" } : Jvm.MethodName)) ∈ lw_all := lw_g (lw_at lw_m1 192 rfl) rfl
theorem q238 : (Jvm.Cond.selects "HandBlinds$Blind" ({ cls := "HandBlinds$Blind", name := "iterator", desc := "()Ljava/util/Iterator;" } : Jvm.MethodName) ({ cls := "HandBlinds$Blind", name := "iterator", desc := "()Ljava/util/Iterator;" } : Jvm.MethodName)) ∈ lw_all := lw_g (lw_at lw_m1 193 rfl) rfl
theorem q239 : (Jvm.Cond.code ({ cls := "HandBlinds$Blind", name := "iterator", desc := "()Ljava/util/Iterator;" } : Jvm.MethodName) prog_2_method_3_code (1 : Nat) (Option.some (Jvm.ClassFile.FieldType.object "java/util/Iterator"))) ∈ lw_all := lw_g (lw_at lw_m1 194 rfl) rfl
theorem q240 : (Jvm.Cond.classLink "HandBlinds$Blind" (77 : Nat) "HandBlinds$Blind$1") ∈ lw_all := lw_g (lw_at lw_m1 195 rfl) rfl
theorem q242 : (Jvm.Cond.methodLink "HandBlinds$Blind" (79 : Nat) ({ cls := "HandBlinds$Blind$1", name := "<init>", desc := "(LHandBlinds$Blind;)V" } : Jvm.MethodName)) ∈ lw_all := lw_g (lw_at lw_m1 197 rfl) rfl
theorem q253 : (Jvm.Cond.interfaceEntry "HandBlinds$Blind" (33 : Nat)) ∈ lw_tbl := lw_at lw_m1 208 rfl
theorem q254 : (Jvm.Cond.methodLink "HandBlinds$Blind" (33 : Nat) ({ cls := "java/util/Iterator", name := "hasNext", desc := "()Z" } : Jvm.MethodName)) ∈ lw_all := lw_g (lw_at lw_m1 209 rfl) rfl
theorem q273 : (Jvm.Cond.interfaceEntry "HandBlinds$Blind" (39 : Nat)) ∈ lw_tbl := lw_at lw_m1 228 rfl
theorem q274 : (Jvm.Cond.methodLink "HandBlinds$Blind" (39 : Nat) ({ cls := "java/util/Iterator", name := "next", desc := "()Ljava/lang/Object;" } : Jvm.MethodName)) ∈ lw_all := lw_g (lw_at lw_m1 229 rfl) rfl
theorem q310 : (Jvm.Cond.classLink "HandBlinds$Blind" (43 : Nat) "HandBlinds$Row") ∈ lw_all := lw_g (lw_at lw_m2 25 rfl) rfl
theorem q312 : (Jvm.Cond.methodLink "HandBlinds$Blind" (45 : Nat) ({ cls := "HandBlinds$Row", name := "<init>", desc := "(LHandBlinds$Row;)V" } : Jvm.MethodName)) ∈ lw_all := lw_g (lw_at lw_m2 27 rfl) rfl
theorem q327 : (Jvm.Cond.fieldLinkNest "HandBlinds$Blind" (164 : Nat) "HandBlinds$Row" "wear" "I" "HandBlinds") ∈ lw_tbl := lw_at lw_m2 42 rfl
theorem q331 : (Jvm.Cond.fieldLinkNest "HandBlinds$Blind" (159 : Nat) "HandBlinds$Row" "isTorn" "Z" "HandBlinds") ∈ lw_tbl := lw_at lw_m2 46 rfl
theorem q343 : (Jvm.Cond.methodLink "HandBlinds$Blind" (48 : Nat) ({ cls := "java/util/ArrayList", name := "add", desc := "(Ljava/lang/Object;)Z" } : Jvm.MethodName)) ∈ lw_all := lw_g (lw_at lw_m2 58 rfl) rfl
theorem q376 : (Jvm.Cond.selects "HandBlinds$Blind" ({ cls := "java/lang/Object", name := "getClass", desc := "()Ljava/lang/Class;" } : Jvm.MethodName) ({ cls := "java/lang/Object", name := "getClass", desc := "()Ljava/lang/Class;" } : Jvm.MethodName)) ∈ lw_all := lw_g (lw_at lw_m2 91 rfl) rfl
theorem q406 : (Jvm.Cond.methodLink "HandBlinds$Blind" (52 : Nat) ({ cls := "java/util/ArrayList", name := "iterator", desc := "()Ljava/util/Iterator;" } : Jvm.MethodName)) ∈ lw_all := lw_g (lw_at lw_m2 121 rfl) rfl
theorem q429 : (Jvm.Cond.classLink "HandBlinds$Blind" (53 : Nat) "HandBlinds$Route") ∈ lw_all := lw_g (lw_at lw_m2 144 rfl) rfl
theorem q431 : (Jvm.Cond.methodLink "HandBlinds$Blind" (55 : Nat) ({ cls := "HandBlinds$Route", name := "<init>", desc := "(LHandBlinds$Route;)V" } : Jvm.MethodName)) ∈ lw_all := lw_g (lw_at lw_m2 146 rfl) rfl
theorem q514 : (Jvm.Cond.fieldLinkNest "HandBlinds$Blind" (208 : Nat) "HandBlinds$Route" "rows" "Ljava/util/BitSet;" "HandBlinds") ∈ lw_tbl := lw_at lw_m2 229 rfl
theorem q516 : (Jvm.Cond.fieldLinkNest "HandBlinds$Blind" (219 : Nat) "HandBlinds$Route" "stops" "I" "HandBlinds") ∈ lw_tbl := lw_at lw_m2 231 rfl
theorem q519 : (Jvm.Cond.fieldLinkNest "HandBlinds$Blind" (220 : Nat) "HandBlinds$Route" "right" "I" "HandBlinds") ∈ lw_tbl := lw_at lw_m2 234 rfl
theorem q528 : (Jvm.Cond.methodLink "HandBlinds$Blind" (58 : Nat) ({ cls := "[I", name := "clone", desc := "()Ljava/lang/Object;" } : Jvm.MethodName)) ∈ lw_all := lw_g (lw_at lw_m3 3 rfl) rfl
theorem q532 : (Jvm.Cond.classLink "HandBlinds$Blind" (59 : Nat) "[I") ∈ lw_all := lw_g (lw_at lw_m3 7 rfl) rfl
theorem q720 : (Jvm.Cond.instanceMethod ({ cls := "HandBlinds$Blind", name := "adds", desc := "(Ljava/lang/String;I)V" } : Jvm.MethodName)) ∈ lw_all := lw_g (lw_at lw_m3 195 rfl) rfl
theorem q721 : (Jvm.Cond.selects "HandBlinds$Blind" ({ cls := "HandBlinds$Blind", name := "adds", desc := "(Ljava/lang/String;I)V" } : Jvm.MethodName) ({ cls := "HandBlinds$Blind", name := "adds", desc := "(Ljava/lang/String;I)V" } : Jvm.MethodName)) ∈ lw_all := lw_g (lw_at lw_m3 196 rfl) rfl
theorem q722 : (Jvm.Cond.code ({ cls := "HandBlinds$Blind", name := "adds", desc := "(Ljava/lang/String;I)V" } : Jvm.MethodName) prog_2_method_7_code (6 : Nat) (Option.none : Option Jvm.ClassFile.FieldType)) ∈ lw_all := lw_g (lw_at lw_m3 197 rfl) rfl
theorem q723 : (Jvm.Cond.methodLink "HandBlinds$Blind" (103 : Nat) ({ cls := "HandBlinds$Blind", name := "breaksOff", desc := "(Ljava/lang/String;)I" } : Jvm.MethodName)) ∈ lw_all := lw_g (lw_at lw_m3 198 rfl) rfl
theorem q724 : (Jvm.Cond.static ({ cls := "HandBlinds$Blind", name := "breaksOff", desc := "(Ljava/lang/String;)I" } : Jvm.MethodName)) ∈ lw_all := lw_g (lw_at lw_m3 199 rfl) rfl
theorem q725 : (Jvm.Cond.code ({ cls := "HandBlinds$Blind", name := "breaksOff", desc := "(Ljava/lang/String;)I" } : Jvm.MethodName) prog_2_method_8_code (5 : Nat) (Option.some Jvm.ClassFile.FieldType.int)) ∈ lw_all := lw_g (lw_at lw_m3 200 rfl) rfl
theorem q726 : (Jvm.Cond.methodLink "HandBlinds$Blind" (121 : Nat) ({ cls := "java/lang/String", name := "length", desc := "()I" } : Jvm.MethodName)) ∈ lw_all := lw_g (lw_at lw_m3 201 rfl) rfl
theorem q727 : (Jvm.Cond.methodLink "HandBlinds$Blind" (129 : Nat) ({ cls := "java/lang/String", name := "charAt", desc := "(I)C" } : Jvm.MethodName)) ∈ lw_all := lw_g (lw_at lw_m3 202 rfl) rfl
theorem q745 : (Jvm.Cond.constantLong "HandBlinds$Blind" (133 : Nat) (65 : Int64)) ∈ lw_all := lw_g (lw_at lw_m3 220 rfl) rfl
theorem q746 : (Jvm.Cond.constantLong "HandBlinds$Blind" (135 : Nat) (90 : Int64)) ∈ lw_all := lw_g (lw_at lw_m3 221 rfl) rfl
theorem q747 : (Jvm.Cond.methodLinkNest "HandBlinds$Blind" (86 : Nat) ({ cls := "HandBlinds", name := "isBetween", desc := "(JJJ)Z" } : Jvm.MethodName) "HandBlinds") ∈ lw_tbl := lw_at lw_m3 222 rfl
theorem q750 : (Jvm.Cond.classLink "HandBlinds$Blind" (107 : Nat) "HandBlinds$Fault") ∈ lw_all := lw_g (lw_at lw_m3 225 rfl) rfl
theorem q788 : (Jvm.Cond.methodLink "HandBlinds$Blind" (109 : Nat) ({ cls := "HandBlinds$Fault", name := "<init>", desc := "([I)V" } : Jvm.MethodName)) ∈ lw_all := lw_g (lw_at lw_m4 23 rfl) rfl
theorem q815 : (Jvm.Cond.classLink "HandBlinds$Blind" (112 : Nat) "HandBlinds$Name") ∈ lw_all := lw_g (lw_at lw_m4 50 rfl) rfl
theorem q817 : (Jvm.Cond.methodLink "HandBlinds$Blind" (114 : Nat) ({ cls := "HandBlinds$Name", name := "<init>", desc := "(Ljava/lang/String;)V" } : Jvm.MethodName)) ∈ lw_all := lw_g (lw_at lw_m4 52 rfl) rfl
theorem q820 : (Jvm.Cond.methodLink "HandBlinds$Blind" (117 : Nat) ({ cls := "HandBlinds$Name", name := "squeezed", desc := "(I)I" } : Jvm.MethodName)) ∈ lw_all := lw_g (lw_at lw_m4 55 rfl) rfl
theorem q855 : (Jvm.Cond.methodLink "HandBlinds$Blind" (82 : Nat) ({ cls := "java/util/ArrayList", name := "size", desc := "()I" } : Jvm.MethodName)) ∈ lw_all := lw_g (lw_at lw_m4 90 rfl) rfl
theorem q856 : (Jvm.Cond.methodLink "HandBlinds$Blind" (126 : Nat) ({ cls := "HandBlinds$Row", name := "<init>", desc := "(LHandBlinds$Name;)V" } : Jvm.MethodName)) ∈ lw_all := lw_g (lw_at lw_m4 91 rfl) rfl
theorem q916 : (Jvm.Cond.instanceMethod ({ cls := "HandBlinds$Blind", name := "cuts", desc := "(I)I" } : Jvm.MethodName)) ∈ lw_all := lw_g (lw_at lw_m4 151 rfl) rfl
theorem q917 : (Jvm.Cond.selects "HandBlinds$Blind" ({ cls := "HandBlinds$Blind", name := "cuts", desc := "(I)I" } : Jvm.MethodName) ({ cls := "HandBlinds$Blind", name := "cuts", desc := "(I)I" } : Jvm.MethodName)) ∈ lw_all := lw_g (lw_at lw_m4 152 rfl) rfl
theorem q918 : (Jvm.Cond.code ({ cls := "HandBlinds$Blind", name := "cuts", desc := "(I)I" } : Jvm.MethodName) prog_2_method_9_code (4 : Nat) (Option.some Jvm.ClassFile.FieldType.int)) ∈ lw_all := lw_g (lw_at lw_m4 153 rfl) rfl
theorem q919 : (Jvm.Cond.methodLink "HandBlinds$Blind" (137 : Nat) ({ cls := "HandBlinds$Blind", name := "needed", desc := "(I)LHandBlinds$Row;" } : Jvm.MethodName)) ∈ lw_all := lw_g (lw_at lw_m4 154 rfl) rfl
theorem q920 : (Jvm.Cond.privateMethod ({ cls := "HandBlinds$Blind", name := "needed", desc := "(I)LHandBlinds$Row;" } : Jvm.MethodName)) ∈ lw_tbl := lw_at lw_m4 155 rfl
theorem q921 : (Jvm.Cond.instanceMethod ({ cls := "HandBlinds$Blind", name := "needed", desc := "(I)LHandBlinds$Row;" } : Jvm.MethodName)) ∈ lw_all := lw_g (lw_at lw_m4 156 rfl) rfl
theorem q922 : (Jvm.Cond.code ({ cls := "HandBlinds$Blind", name := "needed", desc := "(I)LHandBlinds$Row;" } : Jvm.MethodName) prog_2_method_6_code (2 : Nat) (Option.some (Jvm.ClassFile.FieldType.object "HandBlinds$Row"))) ∈ lw_all := lw_g (lw_at lw_m4 157 rfl) rfl
theorem q923 : (Jvm.Cond.methodLink "HandBlinds$Blind" (90 : Nat) ({ cls := "HandBlinds$Blind", name := "isRow", desc := "(I)Z" } : Jvm.MethodName)) ∈ lw_all := lw_g (lw_at lw_m4 158 rfl) rfl
theorem q924 : (Jvm.Cond.instanceMethod ({ cls := "HandBlinds$Blind", name := "isRow", desc := "(I)Z" } : Jvm.MethodName)) ∈ lw_all := lw_g (lw_at lw_m4 159 rfl) rfl
theorem q925 : (Jvm.Cond.selects "HandBlinds$Blind" ({ cls := "HandBlinds$Blind", name := "isRow", desc := "(I)Z" } : Jvm.MethodName) ({ cls := "HandBlinds$Blind", name := "isRow", desc := "(I)Z" } : Jvm.MethodName)) ∈ lw_all := lw_g (lw_at lw_m4 160 rfl) rfl
theorem q926 : (Jvm.Cond.code ({ cls := "HandBlinds$Blind", name := "isRow", desc := "(I)Z" } : Jvm.MethodName) prog_2_method_4_code (2 : Nat) (Option.some Jvm.ClassFile.FieldType.boolean)) ∈ lw_all := lw_g (lw_at lw_m4 161 rfl) rfl
theorem q927 : (Jvm.Cond.constant "HandBlinds$Blind" (94 : Nat) (-1000001 : Int32)) ∈ lw_all := lw_g (lw_at lw_m4 162 rfl) rfl
theorem q928 : (Jvm.Cond.methodLinkNest "HandBlinds$Blind" (95 : Nat) ({ cls := "HandBlinds", name := "need", desc := "(ZI)V" } : Jvm.MethodName) "HandBlinds") ∈ lw_tbl := lw_at lw_m4 163 rfl
theorem q950 : (Jvm.Cond.methodLink "HandBlinds$Blind" (99 : Nat) ({ cls := "java/util/ArrayList", name := "get", desc := "(I)Ljava/lang/Object;" } : Jvm.MethodName)) ∈ lw_all := lw_g (lw_at lw_m4 185 rfl) rfl
theorem q951 : (Jvm.Cond.methodLink "HandBlinds$Blind" (141 : Nat) ({ cls := "java/util/ArrayList", name := "remove", desc := "(I)Ljava/lang/Object;" } : Jvm.MethodName)) ∈ lw_all := lw_g (lw_at lw_m4 186 rfl) rfl
theorem q960 : (Jvm.Cond.methodLink "HandBlinds$Blind" (144 : Nat) ({ cls := "HandBlinds$Route", name := "loses", desc := "(I)V" } : Jvm.MethodName)) ∈ lw_all := lw_g (lw_at lw_m4 195 rfl) rfl
theorem q964 : (Jvm.Cond.methodLink "HandBlinds$Blind" (148 : Nat) ({ cls := "java/util/ArrayList", name := "isEmpty", desc := "()Z" } : Jvm.MethodName)) ∈ lw_all := lw_g (lw_at lw_m4 199 rfl) rfl
theorem q969 : (Jvm.Cond.instanceMethod ({ cls := "HandBlinds$Blind", name := "swaps", desc := "(II)I" } : Jvm.MethodName)) ∈ lw_all := lw_g (lw_at lw_m4 204 rfl) rfl
theorem q970 : (Jvm.Cond.selects "HandBlinds$Blind" ({ cls := "HandBlinds$Blind", name := "swaps", desc := "(II)I" } : Jvm.MethodName) ({ cls := "HandBlinds$Blind", name := "swaps", desc := "(II)I" } : Jvm.MethodName)) ∈ lw_all := lw_g (lw_at lw_m4 205 rfl) rfl
theorem q971 : (Jvm.Cond.code ({ cls := "HandBlinds$Blind", name := "swaps", desc := "(II)I" } : Jvm.MethodName) prog_2_method_10_code (5 : Nat) (Option.some Jvm.ClassFile.FieldType.int)) ∈ lw_all := lw_g (lw_at lw_m4 206 rfl) rfl
theorem q972 : (Jvm.Cond.methodLink "HandBlinds$Blind" (151 : Nat) ({ cls := "java/util/ArrayList", name := "set", desc := "(ILjava/lang/Object;)Ljava/lang/Object;" } : Jvm.MethodName)) ∈ lw_all := lw_g (lw_at lw_m4 207 rfl) rfl
theorem q976 : (Jvm.Cond.methodLink "HandBlinds$Blind" (155 : Nat) ({ cls := "HandBlinds$Route", name := "changes", desc := "(II)V" } : Jvm.MethodName)) ∈ lw_all := lw_g (lw_at lw_m4 211 rfl) rfl
theorem q981 : (Jvm.Cond.instanceMethod ({ cls := "HandBlinds$Blind", name := "mends", desc := "(I)I" } : Jvm.MethodName)) ∈ lw_all := lw_g (lw_at lw_m4 216 rfl) rfl
theorem q982 : (Jvm.Cond.selects "HandBlinds$Blind" ({ cls := "HandBlinds$Blind", name := "mends", desc := "(I)I" } : Jvm.MethodName) ({ cls := "HandBlinds$Blind", name := "mends", desc := "(I)I" } : Jvm.MethodName)) ∈ lw_all := lw_g (lw_at lw_m4 217 rfl) rfl
theorem q983 : (Jvm.Cond.code ({ cls := "HandBlinds$Blind", name := "mends", desc := "(I)I" } : Jvm.MethodName) prog_2_method_11_code (3 : Nat) (Option.some Jvm.ClassFile.FieldType.int)) ∈ lw_all := lw_g (lw_at lw_m4 218 rfl) rfl
theorem q984 : (Jvm.Cond.constant "HandBlinds$Blind" (163 : Nat) (-1000002 : Int32)) ∈ lw_all := lw_g (lw_at lw_m4 219 rfl) rfl
theorem q986 : (Jvm.Cond.instanceMethod ({ cls := "HandBlinds$Blind", name := "cranks", desc := "(II)I" } : Jvm.MethodName)) ∈ lw_all := lw_g (lw_at lw_m4 221 rfl) rfl
theorem q987 : (Jvm.Cond.selects "HandBlinds$Blind" ({ cls := "HandBlinds$Blind", name := "cranks", desc := "(II)I" } : Jvm.MethodName) ({ cls := "HandBlinds$Blind", name := "cranks", desc := "(II)I" } : Jvm.MethodName)) ∈ lw_all := lw_g (lw_at lw_m4 222 rfl) rfl
theorem q988 : (Jvm.Cond.code ({ cls := "HandBlinds$Blind", name := "cranks", desc := "(II)I" } : Jvm.MethodName) prog_2_method_13_code (3 : Nat) (Option.some Jvm.ClassFile.FieldType.int)) ∈ lw_all := lw_g (lw_at lw_m4 223 rfl) rfl
theorem q989 : (Jvm.Cond.methodLink "HandBlinds$Blind" (173 : Nat) ({ cls := "HandBlinds$Blind", name := "isCranking", desc := "(II)Z" } : Jvm.MethodName)) ∈ lw_all := lw_g (lw_at lw_m4 224 rfl) rfl
theorem q990 : (Jvm.Cond.instanceMethod ({ cls := "HandBlinds$Blind", name := "isCranking", desc := "(II)Z" } : Jvm.MethodName)) ∈ lw_all := lw_g (lw_at lw_m4 225 rfl) rfl
theorem q991 : (Jvm.Cond.selects "HandBlinds$Blind" ({ cls := "HandBlinds$Blind", name := "isCranking", desc := "(II)Z" } : Jvm.MethodName) ({ cls := "HandBlinds$Blind", name := "isCranking", desc := "(II)Z" } : Jvm.MethodName)) ∈ lw_all := lw_g (lw_at lw_m4 226 rfl) rfl
theorem q992 : (Jvm.Cond.code ({ cls := "HandBlinds$Blind", name := "isCranking", desc := "(II)Z" } : Jvm.MethodName) prog_2_method_12_code (3 : Nat) (Option.some Jvm.ClassFile.FieldType.boolean)) ∈ lw_all := lw_g (lw_at lw_m4 227 rfl) rfl
theorem q993 : (Jvm.Cond.constantLong "HandBlinds$Blind" (167 : Nat) (-20 : Int64)) ∈ lw_all := lw_g (lw_at lw_m4 228 rfl) rfl
theorem q994 : (Jvm.Cond.constantLong "HandBlinds$Blind" (169 : Nat) (20 : Int64)) ∈ lw_all := lw_g (lw_at lw_m4 229 rfl) rfl
theorem q995 : (Jvm.Cond.constantLong "HandBlinds$Blind" (171 : Nat) (3 : Int64)) ∈ lw_all := lw_g (lw_at lw_m4 230 rfl) rfl
theorem q996 : (Jvm.Cond.methodLink "HandBlinds$Blind" (177 : Nat) ({ cls := "HandBlinds$Blind", name := "cranked", desc := "(III)I" } : Jvm.MethodName)) ∈ lw_all := lw_g (lw_at lw_m4 231 rfl) rfl
theorem q997 : (Jvm.Cond.instanceMethod ({ cls := "HandBlinds$Blind", name := "cranked", desc := "(III)I" } : Jvm.MethodName)) ∈ lw_all := lw_g (lw_at lw_m4 232 rfl) rfl
theorem q998 : (Jvm.Cond.selects "HandBlinds$Blind" ({ cls := "HandBlinds$Blind", name := "cranked", desc := "(III)I" } : Jvm.MethodName) ({ cls := "HandBlinds$Blind", name := "cranked", desc := "(III)I" } : Jvm.MethodName)) ∈ lw_all := lw_g (lw_at lw_m4 233 rfl) rfl
theorem q999 : (Jvm.Cond.code ({ cls := "HandBlinds$Blind", name := "cranked", desc := "(III)I" } : Jvm.MethodName) prog_2_method_14_code (5 : Nat) (Option.some Jvm.ClassFile.FieldType.int)) ∈ lw_all := lw_g (lw_at lw_m4 234 rfl) rfl
theorem q1000 : (Jvm.Cond.classLink "HandBlinds$Blind" (181 : Nat) "HandBlinds$Blind$Cranking") ∈ lw_all := lw_g (lw_at lw_m4 235 rfl) rfl
theorem q1002 : (Jvm.Cond.methodLink "HandBlinds$Blind" (183 : Nat) ({ cls := "HandBlinds$Blind$Cranking", name := "<init>", desc := "(LHandBlinds$Blind;II)V" } : Jvm.MethodName)) ∈ lw_all := lw_g (lw_at lw_m4 237 rfl) rfl
theorem q1013 : (Jvm.Cond.fieldLinkNest "HandBlinds$Blind" (193 : Nat) "HandBlinds$Blind$Cranking" "gone" "I" "HandBlinds") ∈ lw_tbl := lw_at lw_m5 8 rfl
theorem q1015 : (Jvm.Cond.fieldLinkNest "HandBlinds$Blind" (190 : Nat) "HandBlinds$Blind$Cranking" "torn" "I" "HandBlinds") ∈ lw_tbl := lw_at lw_m5 10 rfl
theorem q1030 : (Jvm.Cond.methodLink "HandBlinds$Blind" (186 : Nat) ({ cls := "HandBlinds$Blind$Cranking", name := "goes", desc := "()LHandBlinds$Blind$Cranking;" } : Jvm.MethodName)) ∈ lw_all := lw_g (lw_at lw_m5 25 rfl) rfl
theorem q1049 : (Jvm.Cond.methodLink "HandBlinds$Blind" (196 : Nat) ({ cls := "HandBlinds$Blind$Cranking", name := "why", desc := "()I" } : Jvm.MethodName)) ∈ lw_all := lw_g (lw_at lw_m5 44 rfl) rfl
theorem q1054 : (Jvm.Cond.instanceMethod ({ cls := "HandBlinds$Blind", name := "comes", desc := "(I)I" } : Jvm.MethodName)) ∈ lw_all := lw_g (lw_at lw_m5 49 rfl) rfl
theorem q1055 : (Jvm.Cond.selects "HandBlinds$Blind" ({ cls := "HandBlinds$Blind", name := "comes", desc := "(I)I" } : Jvm.MethodName) ({ cls := "HandBlinds$Blind", name := "comes", desc := "(I)I" } : Jvm.MethodName)) ∈ lw_all := lw_g (lw_at lw_m5 50 rfl) rfl
theorem q1056 : (Jvm.Cond.code ({ cls := "HandBlinds$Blind", name := "comes", desc := "(I)I" } : Jvm.MethodName) prog_2_method_15_code (2 : Nat) (Option.some Jvm.ClassFile.FieldType.int)) ∈ lw_all := lw_g (lw_at lw_m5 51 rfl) rfl
theorem q1057 : (Jvm.Cond.constant "HandBlinds$Blind" (199 : Nat) (-1000003 : Int32)) ∈ lw_all := lw_g (lw_at lw_m5 52 rfl) rfl
theorem q1058 : (Jvm.Cond.methodLink "HandBlinds$Blind" (200 : Nat) ({ cls := "HandBlinds$Route", name := "<init>", desc := "(I)V" } : Jvm.MethodName)) ∈ lw_all := lw_g (lw_at lw_m5 53 rfl) rfl
theorem q1060 : (Jvm.Cond.instanceMethod ({ cls := "HandBlinds$Blind", name := "drives", desc := "(I)I" } : Jvm.MethodName)) ∈ lw_all := lw_g (lw_at lw_m5 55 rfl) rfl
theorem q1061 : (Jvm.Cond.selects "HandBlinds$Blind" ({ cls := "HandBlinds$Blind", name := "drives", desc := "(I)I" } : Jvm.MethodName) ({ cls := "HandBlinds$Blind", name := "drives", desc := "(I)I" } : Jvm.MethodName)) ∈ lw_all := lw_g (lw_at lw_m5 56 rfl) rfl
theorem q1062 : (Jvm.Cond.code ({ cls := "HandBlinds$Blind", name := "drives", desc := "(I)I" } : Jvm.MethodName) prog_2_method_16_code (3 : Nat) (Option.some Jvm.ClassFile.FieldType.int)) ∈ lw_all := lw_g (lw_at lw_m5 57 rfl) rfl
theorem q1063 : (Jvm.Cond.methodLink "HandBlinds$Blind" (202 : Nat) ({ cls := "HandBlinds$Blind", name := "isRoute", desc := "(I)Z" } : Jvm.MethodName)) ∈ lw_all := lw_g (lw_at lw_m5 58 rfl) rfl
theorem q1064 : (Jvm.Cond.instanceMethod ({ cls := "HandBlinds$Blind", name := "isRoute", desc := "(I)Z" } : Jvm.MethodName)) ∈ lw_all := lw_g (lw_at lw_m5 59 rfl) rfl
theorem q1065 : (Jvm.Cond.selects "HandBlinds$Blind" ({ cls := "HandBlinds$Blind", name := "isRoute", desc := "(I)Z" } : Jvm.MethodName) ({ cls := "HandBlinds$Blind", name := "isRoute", desc := "(I)Z" } : Jvm.MethodName)) ∈ lw_all := lw_g (lw_at lw_m5 60 rfl) rfl
theorem q1066 : (Jvm.Cond.code ({ cls := "HandBlinds$Blind", name := "isRoute", desc := "(I)Z" } : Jvm.MethodName) prog_2_method_5_code (2 : Nat) (Option.some Jvm.ClassFile.FieldType.boolean)) ∈ lw_all := lw_g (lw_at lw_m5 61 rfl) rfl
theorem q1068 : (Jvm.Cond.instanceMethod ({ cls := "HandBlinds$Blind", name := "halts", desc := "()I" } : Jvm.MethodName)) ∈ lw_all := lw_g (lw_at lw_m5 63 rfl) rfl
theorem q1069 : (Jvm.Cond.selects "HandBlinds$Blind" ({ cls := "HandBlinds$Blind", name := "halts", desc := "()I" } : Jvm.MethodName) ({ cls := "HandBlinds$Blind", name := "halts", desc := "()I" } : Jvm.MethodName)) ∈ lw_all := lw_g (lw_at lw_m5 64 rfl) rfl
theorem q1070 : (Jvm.Cond.code ({ cls := "HandBlinds$Blind", name := "halts", desc := "()I" } : Jvm.MethodName) prog_2_method_18_code (2 : Nat) (Option.some Jvm.ClassFile.FieldType.int)) ∈ lw_all := lw_g (lw_at lw_m5 65 rfl) rfl
theorem q1071 : (Jvm.Cond.methodLink "HandBlinds$Blind" (216 : Nat) ({ cls := "HandBlinds$Blind", name := "wrong", desc := "(I)I" } : Jvm.MethodName)) ∈ lw_all := lw_g (lw_at lw_m5 66 rfl) rfl
theorem q1072 : (Jvm.Cond.instanceMethod ({ cls := "HandBlinds$Blind", name := "wrong", desc := "(I)I" } : Jvm.MethodName)) ∈ lw_all := lw_g (lw_at lw_m5 67 rfl) rfl
theorem q1073 : (Jvm.Cond.selects "HandBlinds$Blind" ({ cls := "HandBlinds$Blind", name := "wrong", desc := "(I)I" } : Jvm.MethodName) ({ cls := "HandBlinds$Blind", name := "wrong", desc := "(I)I" } : Jvm.MethodName)) ∈ lw_all := lw_g (lw_at lw_m5 68 rfl) rfl
theorem q1074 : (Jvm.Cond.code ({ cls := "HandBlinds$Blind", name := "wrong", desc := "(I)I" } : Jvm.MethodName) prog_2_method_17_code (4 : Nat) (Option.some Jvm.ClassFile.FieldType.int)) ∈ lw_all := lw_g (lw_at lw_m5 69 rfl) rfl
theorem q1075 : (Jvm.Cond.methodLink "HandBlinds$Blind" (205 : Nat) ({ cls := "HandBlinds$Row", name := "kind", desc := "()I" } : Jvm.MethodName)) ∈ lw_all := lw_g (lw_at lw_m5 70 rfl) rfl
theorem q1142 : (Jvm.Cond.methodLink "HandBlinds$Blind" (211 : Nat) ({ cls := "java/util/BitSet", name := "get", desc := "(I)Z" } : Jvm.MethodName)) ∈ lw_all := lw_g (lw_at lw_m5 137 rfl) rfl
theorem q1143 : (Jvm.Cond.methodLink "HandBlinds$Blind" (215 : Nat) ({ cls := "HandBlinds$Row", name := "squeezed", desc := "(I)I" } : Jvm.MethodName)) ∈ lw_all := lw_g (lw_at lw_m5 138 rfl) rfl
theorem q1148 : (Jvm.Cond.instanceMethod ({ cls := "HandBlinds$Blind", name := "setsTo", desc := "(II)I" } : Jvm.MethodName)) ∈ lw_all := lw_g (lw_at lw_m5 143 rfl) rfl
theorem q1149 : (Jvm.Cond.selects "HandBlinds$Blind" ({ cls := "HandBlinds$Blind", name := "setsTo", desc := "(II)I" } : Jvm.MethodName) ({ cls := "HandBlinds$Blind", name := "setsTo", desc := "(II)I" } : Jvm.MethodName)) ∈ lw_all := lw_g (lw_at lw_m5 144 rfl) rfl
theorem q1150 : (Jvm.Cond.code ({ cls := "HandBlinds$Blind", name := "setsTo", desc := "(II)I" } : Jvm.MethodName) prog_2_method_19_code (5 : Nat) (Option.some Jvm.ClassFile.FieldType.int)) ∈ lw_all := lw_g (lw_at lw_m5 145 rfl) rfl
theorem q1151 : (Jvm.Cond.constantLong "HandBlinds$Blind" (221 : Nat) (4 : Int64)) ∈ lw_all := lw_g (lw_at lw_m5 146 rfl) rfl
theorem q1152 : (Jvm.Cond.constantLong "HandBlinds$Blind" (223 : Nat) (60 : Int64)) ∈ lw_all := lw_g (lw_at lw_m5 147 rfl) rfl
theorem q1153 : (Jvm.Cond.constantLong "HandBlinds$Blind" (225 : Nat) (200 : Int64)) ∈ lw_all := lw_g (lw_at lw_m5 148 rfl) rfl
theorem q1154 : (Jvm.Cond.constantLong "HandBlinds$Blind" (227 : Nat) (50 : Int64)) ∈ lw_all := lw_g (lw_at lw_m5 149 rfl) rfl
theorem q1229 : (Jvm.Cond.instanceMethod ({ cls := "HandBlinds$Blind", name := "tornSet", desc := "()I" } : Jvm.MethodName)) ∈ lw_all := lw_g (lw_at lw_m5 224 rfl) rfl
theorem q1230 : (Jvm.Cond.selects "HandBlinds$Blind" ({ cls := "HandBlinds$Blind", name := "tornSet", desc := "()I" } : Jvm.MethodName) ({ cls := "HandBlinds$Blind", name := "tornSet", desc := "()I" } : Jvm.MethodName)) ∈ lw_all := lw_g (lw_at lw_m5 225 rfl) rfl
theorem q1231 : (Jvm.Cond.code ({ cls := "HandBlinds$Blind", name := "tornSet", desc := "()I" } : Jvm.MethodName) prog_2_method_20_code (3 : Nat) (Option.some Jvm.ClassFile.FieldType.int)) ∈ lw_all := lw_g (lw_at lw_m5 226 rfl) rfl
theorem q1671 : (Jvm.Cond.castable "HandBlinds$Blind" "java/lang/Object") ∈ lw_tbl := lw_at lw_m7 186 rfl
theorem in_X1 : ∀ w ∈ wsX10, w ∈ lw_all := lw_in wsX10 [147, 149, 151, 153, 155, 157, 159, 161, 163] (by decide +kernel) (by decide +kernel)
/-! HandBlinds$Blind$Cranking -/
set_option maxRecDepth 100000
def RX10 : String := "HandBlinds$Blind$Cranking"
def TX10 : u_T := fun k => match k with
  | 0 => ("HandBlinds$Blind$Cranking", "step", "I", true)
  | 1 => ("HandBlinds$Blind$Cranking", "most", "I", true)
  | 2 => ("HandBlinds$Blind$Cranking", "speed", "I", true)
  | 3 => ("HandBlinds$Blind$Cranking", "gone", "I", false)
  | 4 => ("HandBlinds$Blind$Cranking", "torn", "I", false)
  | _ => ("HandBlinds$Blind$Cranking", "this$0", "LHandBlinds$Blind;", true)
def tyX10 : Nat → FieldType := fun k => match k with
  | 0 => .int
  | 1 => .int
  | 2 => .int
  | 3 => .int
  | 4 => .int
  | _ => .object "HandBlinds$Blind"
abbrev wsX100 : List Cond := u_ws RX10 TX10 6
theorem nmX10 : ∀ a, a < 6 → ∀ b, b < 6 → a ≠ b → (TX10 a).2.1 ≠ (TX10 b).2.1 := by decide +kernel
theorem tyX10_ok : ∀ k, k < 6 → parseFieldDescriptor (TX10 k).2.2.1 = some (tyX10 k) := by decide +kernel
abbrev cX10_init : ByteArray := prog_4_method_1_code
def yX10_init : MethodName := ⟨RX10, "<init>", "(LHandBlinds$Blind;II)V"⟩
def dkwX10_init_1 : List UInt8 := [184, 0, 19, 181, 0, 25, 42, 29, 181, 0, 28, 177]
abbrev dktX10_init_1 : List UInt8 := dkwX10_init_1 ++ []
def dkwX10_init_0 : List UInt8 := [42, 43, 181, 0, 3, 42, 183, 0, 9, 42, 28, 158, 0, 7, 4, 167, 0, 4, 2, 181, 0, 15, 42, 28]
abbrev dktX10_init_0 : List UInt8 := dkwX10_init_0 ++ dktX10_init_1
theorem dksX10_init_0 : cX10_init.data.toList.drop 0 = dktX10_init_0 := by decide +kernel
theorem dksX10_init_1 : cX10_init.data.toList.drop 24 = dktX10_init_1 := dk_seg dksX10_init_0 24 rfl rfl
theorem dX10_init_0 : decode cX10_init 0 = .ok (.aload_n 0, 1) := dk_42 (dk_at dksX10_init_0 0 rfl rfl)
theorem dX10_init_1 : decode cX10_init 1 = .ok (.aload_n 1, 1) := dk_43 (dk_at dksX10_init_0 1 rfl rfl)
theorem dX10_init_2 : decode cX10_init 2 = .ok (.putfield 3, 3) := dk_181 0 3 (dk_at dksX10_init_0 2 rfl rfl)
theorem dX10_init_5 : decode cX10_init 5 = .ok (.aload_n 0, 1) := dk_42 (dk_at dksX10_init_0 5 rfl rfl)
theorem dX10_init_6 : decode cX10_init 6 = .ok (.invokespecial 9, 3) := dk_183 0 9 (dk_at dksX10_init_0 6 rfl rfl)
theorem dX10_init_9 : decode cX10_init 9 = .ok (.aload_n 0, 1) := dk_42 (dk_at dksX10_init_0 9 rfl rfl)
theorem dX10_init_10 : decode cX10_init 10 = .ok (.iload_n 2, 1) := dk_28 (dk_at dksX10_init_0 10 rfl rfl)
theorem dX10_init_11 : decode cX10_init 11 = .ok (.ifCond .le 7, 3) := dk_158 0 7 (dk_at dksX10_init_0 11 rfl rfl)
theorem dX10_init_14 : decode cX10_init 14 = .ok (.iconst 1, 1) := dk_4 (dk_at dksX10_init_0 14 rfl rfl)
theorem dX10_init_15 : decode cX10_init 15 = .ok (.goto 4, 3) := dk_167 0 4 (dk_at dksX10_init_0 15 rfl rfl)
theorem dX10_init_18 : decode cX10_init 18 = .ok (.iconst (-1), 1) := dk_2 (dk_at dksX10_init_0 18 rfl rfl)
theorem dX10_init_19 : decode cX10_init 19 = .ok (.putfield 15, 3) := dk_181 0 15 (dk_at dksX10_init_0 19 rfl rfl)
theorem dX10_init_22 : decode cX10_init 22 = .ok (.aload_n 0, 1) := dk_42 (dk_at dksX10_init_0 22 rfl rfl)
theorem dX10_init_23 : decode cX10_init 23 = .ok (.iload_n 2, 1) := dk_28 (dk_at dksX10_init_0 23 rfl rfl)
theorem dX10_init_24 : decode cX10_init 24 = .ok (.invokestatic 19, 3) := dk_184 0 19 (dk_at dksX10_init_1 0 rfl rfl)
theorem dX10_init_27 : decode cX10_init 27 = .ok (.putfield 25, 3) := dk_181 0 25 (dk_at dksX10_init_1 3 rfl rfl)
theorem dX10_init_30 : decode cX10_init 30 = .ok (.aload_n 0, 1) := dk_42 (dk_at dksX10_init_1 6 rfl rfl)
theorem dX10_init_31 : decode cX10_init 31 = .ok (.iload_n 3, 1) := dk_29 (dk_at dksX10_init_1 7 rfl rfl)
theorem dX10_init_32 : decode cX10_init 32 = .ok (.putfield 28, 3) := dk_181 0 28 (dk_at dksX10_init_1 8 rfl rfl)
theorem dX10_init_35 : decode cX10_init 35 = .ok (.return_, 1) := dk_177 (dk_at dksX10_init_1 11 rfl rfl)
abbrev cX10_goes : ByteArray := prog_4_method_4_code
def yX10_goes : MethodName := ⟨RX10, "goes", "()LHandBlinds$Blind$Cranking;"⟩
def dkwX10_goes_7 : List UInt8 := [180, 0, 40, 96, 181, 0, 80, 42, 176]
abbrev dktX10_goes_7 : List UInt8 := dkwX10_goes_7 ++ []
def dkwX10_goes_6 : List UInt8 := [180, 0, 3, 89, 180, 0, 77, 42, 180, 0, 66, 96, 181, 0, 77, 42, 180, 0, 3, 89, 180, 0, 80, 42]
abbrev dktX10_goes_6 : List UInt8 := dkwX10_goes_6 ++ dktX10_goes_7
def dkwX10_goes_5 : List UInt8 := [42, 180, 0, 15, 96, 181, 0, 31, 42, 89, 180, 0, 40, 4, 96, 181, 0, 40, 167, 255, 124, 42]
abbrev dktX10_goes_5 : List UInt8 := dkwX10_goes_5 ++ dktX10_goes_6
def dkwX10_goes_4 : List UInt8 := [46, 182, 0, 73, 153, 0, 7, 4, 167, 0, 4, 3, 96, 181, 0, 66, 42, 180, 0, 3, 89, 180, 0, 31]
abbrev dktX10_goes_4 : List UInt8 := dkwX10_goes_4 ++ dktX10_goes_5
def dkwX10_goes_3 : List UInt8 := [180, 0, 3, 180, 0, 31, 182, 0, 47, 192, 0, 53, 42, 180, 0, 28, 42, 180, 0, 3, 180, 0, 69, 4]
abbrev dktX10_goes_3 : List UInt8 := dkwX10_goes_3 ++ dktX10_goes_4
def dkwX10_goes_2 : List UInt8 := [167, 0, 4, 3, 60, 42, 89, 180, 0, 66, 27, 154, 0, 46, 42, 180, 0, 3, 180, 0, 43, 42]
abbrev dktX10_goes_2 : List UInt8 := dkwX10_goes_2 ++ dktX10_goes_3
def dkwX10_goes_1 : List UInt8 := [154, 0, 113, 42, 180, 0, 28, 6, 160, 0, 17, 42, 180, 0, 40, 5, 112, 4, 160, 0, 7, 4]
abbrev dktX10_goes_1 : List UInt8 := dkwX10_goes_1 ++ dktX10_goes_2
def dkwX10_goes_0 : List UInt8 := [42, 180, 0, 40, 42, 180, 0, 25, 162, 0, 127, 42, 182, 0, 59, 154, 0, 120, 42, 182, 0, 63]
abbrev dktX10_goes_0 : List UInt8 := dkwX10_goes_0 ++ dktX10_goes_1
theorem dksX10_goes_0 : cX10_goes.data.toList.drop 0 = dktX10_goes_0 := by decide +kernel
theorem dksX10_goes_1 : cX10_goes.data.toList.drop 22 = dktX10_goes_1 := dk_seg dksX10_goes_0 22 rfl rfl
theorem dksX10_goes_2 : cX10_goes.data.toList.drop 44 = dktX10_goes_2 := dk_seg dksX10_goes_1 22 rfl rfl
theorem dksX10_goes_3 : cX10_goes.data.toList.drop 66 = dktX10_goes_3 := dk_seg dksX10_goes_2 22 rfl rfl
theorem dksX10_goes_4 : cX10_goes.data.toList.drop 90 = dktX10_goes_4 := dk_seg dksX10_goes_3 24 rfl rfl
theorem dksX10_goes_5 : cX10_goes.data.toList.drop 114 = dktX10_goes_5 := dk_seg dksX10_goes_4 24 rfl rfl
theorem dksX10_goes_6 : cX10_goes.data.toList.drop 136 = dktX10_goes_6 := dk_seg dksX10_goes_5 22 rfl rfl
theorem dksX10_goes_7 : cX10_goes.data.toList.drop 160 = dktX10_goes_7 := dk_seg dksX10_goes_6 24 rfl rfl
theorem dX10_goes_0 : decode cX10_goes 0 = .ok (.aload_n 0, 1) := dk_42 (dk_at dksX10_goes_0 0 rfl rfl)
theorem dX10_goes_1 : decode cX10_goes 1 = .ok (.getfield 40, 3) := dk_180 0 40 (dk_at dksX10_goes_0 1 rfl rfl)
theorem dX10_goes_4 : decode cX10_goes 4 = .ok (.aload_n 0, 1) := dk_42 (dk_at dksX10_goes_0 4 rfl rfl)
theorem dX10_goes_5 : decode cX10_goes 5 = .ok (.getfield 25, 3) := dk_180 0 25 (dk_at dksX10_goes_0 5 rfl rfl)
theorem dX10_goes_8 : decode cX10_goes 8 = .ok (.if_icmp .ge 127, 3) := dk_162 0 127 (dk_at dksX10_goes_0 8 rfl rfl)
theorem dX10_goes_11 : decode cX10_goes 11 = .ok (.aload_n 0, 1) := dk_42 (dk_at dksX10_goes_0 11 rfl rfl)
theorem dX10_goes_12 : decode cX10_goes 12 = .ok (.invokevirtual 59, 3) := dk_182 0 59 (dk_at dksX10_goes_0 12 rfl rfl)
theorem dX10_goes_15 : decode cX10_goes 15 = .ok (.ifCond .ne 120, 3) := dk_154 0 120 (dk_at dksX10_goes_0 15 rfl rfl)
theorem dX10_goes_18 : decode cX10_goes 18 = .ok (.aload_n 0, 1) := dk_42 (dk_at dksX10_goes_0 18 rfl rfl)
theorem dX10_goes_19 : decode cX10_goes 19 = .ok (.invokevirtual 63, 3) := dk_182 0 63 (dk_at dksX10_goes_0 19 rfl rfl)
theorem dX10_goes_22 : decode cX10_goes 22 = .ok (.ifCond .ne 113, 3) := dk_154 0 113 (dk_at dksX10_goes_1 0 rfl rfl)
theorem dX10_goes_25 : decode cX10_goes 25 = .ok (.aload_n 0, 1) := dk_42 (dk_at dksX10_goes_1 3 rfl rfl)
theorem dX10_goes_26 : decode cX10_goes 26 = .ok (.getfield 28, 3) := dk_180 0 28 (dk_at dksX10_goes_1 4 rfl rfl)
theorem dX10_goes_29 : decode cX10_goes 29 = .ok (.iconst 3, 1) := dk_6 (dk_at dksX10_goes_1 7 rfl rfl)
theorem dX10_goes_30 : decode cX10_goes 30 = .ok (.if_icmp .ne 17, 3) := dk_160 0 17 (dk_at dksX10_goes_1 8 rfl rfl)
theorem dX10_goes_33 : decode cX10_goes 33 = .ok (.aload_n 0, 1) := dk_42 (dk_at dksX10_goes_1 11 rfl rfl)
theorem dX10_goes_34 : decode cX10_goes 34 = .ok (.getfield 40, 3) := dk_180 0 40 (dk_at dksX10_goes_1 12 rfl rfl)
theorem dX10_goes_37 : decode cX10_goes 37 = .ok (.iconst 2, 1) := dk_5 (dk_at dksX10_goes_1 15 rfl rfl)
theorem dX10_goes_38 : decode cX10_goes 38 = .ok (.irem, 1) := dk_112 (dk_at dksX10_goes_1 16 rfl rfl)
theorem dX10_goes_39 : decode cX10_goes 39 = .ok (.iconst 1, 1) := dk_4 (dk_at dksX10_goes_1 17 rfl rfl)
theorem dX10_goes_40 : decode cX10_goes 40 = .ok (.if_icmp .ne 7, 3) := dk_160 0 7 (dk_at dksX10_goes_1 18 rfl rfl)
theorem dX10_goes_43 : decode cX10_goes 43 = .ok (.iconst 1, 1) := dk_4 (dk_at dksX10_goes_1 21 rfl rfl)
theorem dX10_goes_44 : decode cX10_goes 44 = .ok (.goto 4, 3) := dk_167 0 4 (dk_at dksX10_goes_2 0 rfl rfl)
theorem dX10_goes_47 : decode cX10_goes 47 = .ok (.iconst 0, 1) := dk_3 (dk_at dksX10_goes_2 3 rfl rfl)
theorem dX10_goes_48 : decode cX10_goes 48 = .ok (.istore_n 1, 1) := dk_60 (dk_at dksX10_goes_2 4 rfl rfl)
theorem dX10_goes_49 : decode cX10_goes 49 = .ok (.aload_n 0, 1) := dk_42 (dk_at dksX10_goes_2 5 rfl rfl)
theorem dX10_goes_50 : decode cX10_goes 50 = .ok (.dup, 1) := dk_89 (dk_at dksX10_goes_2 6 rfl rfl)
theorem dX10_goes_51 : decode cX10_goes 51 = .ok (.getfield 66, 3) := dk_180 0 66 (dk_at dksX10_goes_2 7 rfl rfl)
theorem dX10_goes_54 : decode cX10_goes 54 = .ok (.iload_n 1, 1) := dk_27 (dk_at dksX10_goes_2 10 rfl rfl)
theorem dX10_goes_55 : decode cX10_goes 55 = .ok (.ifCond .ne 46, 3) := dk_154 0 46 (dk_at dksX10_goes_2 11 rfl rfl)
theorem dX10_goes_58 : decode cX10_goes 58 = .ok (.aload_n 0, 1) := dk_42 (dk_at dksX10_goes_2 14 rfl rfl)
theorem dX10_goes_59 : decode cX10_goes 59 = .ok (.getfield 3, 3) := dk_180 0 3 (dk_at dksX10_goes_2 15 rfl rfl)
theorem dX10_goes_62 : decode cX10_goes 62 = .ok (.getfield 43, 3) := dk_180 0 43 (dk_at dksX10_goes_2 18 rfl rfl)
theorem dX10_goes_65 : decode cX10_goes 65 = .ok (.aload_n 0, 1) := dk_42 (dk_at dksX10_goes_2 21 rfl rfl)
theorem dX10_goes_66 : decode cX10_goes 66 = .ok (.getfield 3, 3) := dk_180 0 3 (dk_at dksX10_goes_3 0 rfl rfl)
theorem dX10_goes_69 : decode cX10_goes 69 = .ok (.getfield 31, 3) := dk_180 0 31 (dk_at dksX10_goes_3 3 rfl rfl)
theorem dX10_goes_72 : decode cX10_goes 72 = .ok (.invokevirtual 47, 3) := dk_182 0 47 (dk_at dksX10_goes_3 6 rfl rfl)
theorem dX10_goes_75 : decode cX10_goes 75 = .ok (.checkcast 53, 3) := dk_192 0 53 (dk_at dksX10_goes_3 9 rfl rfl)
theorem dX10_goes_78 : decode cX10_goes 78 = .ok (.aload_n 0, 1) := dk_42 (dk_at dksX10_goes_3 12 rfl rfl)
theorem dX10_goes_79 : decode cX10_goes 79 = .ok (.getfield 28, 3) := dk_180 0 28 (dk_at dksX10_goes_3 13 rfl rfl)
theorem dX10_goes_82 : decode cX10_goes 82 = .ok (.aload_n 0, 1) := dk_42 (dk_at dksX10_goes_3 16 rfl rfl)
theorem dX10_goes_83 : decode cX10_goes 83 = .ok (.getfield 3, 3) := dk_180 0 3 (dk_at dksX10_goes_3 17 rfl rfl)
theorem dX10_goes_86 : decode cX10_goes 86 = .ok (.getfield 69, 3) := dk_180 0 69 (dk_at dksX10_goes_3 20 rfl rfl)
theorem dX10_goes_89 : decode cX10_goes 89 = .ok (.iconst 1, 1) := dk_4 (dk_at dksX10_goes_3 23 rfl rfl)
theorem dX10_goes_90 : decode cX10_goes 90 = .ok (.iaload, 1) := dk_46 (dk_at dksX10_goes_4 0 rfl rfl)
theorem dX10_goes_91 : decode cX10_goes 91 = .ok (.invokevirtual 73, 3) := dk_182 0 73 (dk_at dksX10_goes_4 1 rfl rfl)
theorem dX10_goes_94 : decode cX10_goes 94 = .ok (.ifCond .eq 7, 3) := dk_153 0 7 (dk_at dksX10_goes_4 4 rfl rfl)
theorem dX10_goes_97 : decode cX10_goes 97 = .ok (.iconst 1, 1) := dk_4 (dk_at dksX10_goes_4 7 rfl rfl)
theorem dX10_goes_98 : decode cX10_goes 98 = .ok (.goto 4, 3) := dk_167 0 4 (dk_at dksX10_goes_4 8 rfl rfl)
theorem dX10_goes_101 : decode cX10_goes 101 = .ok (.iconst 0, 1) := dk_3 (dk_at dksX10_goes_4 11 rfl rfl)
theorem dX10_goes_102 : decode cX10_goes 102 = .ok (.iadd, 1) := dk_96 (dk_at dksX10_goes_4 12 rfl rfl)
theorem dX10_goes_103 : decode cX10_goes 103 = .ok (.putfield 66, 3) := dk_181 0 66 (dk_at dksX10_goes_4 13 rfl rfl)
theorem dX10_goes_106 : decode cX10_goes 106 = .ok (.aload_n 0, 1) := dk_42 (dk_at dksX10_goes_4 16 rfl rfl)
theorem dX10_goes_107 : decode cX10_goes 107 = .ok (.getfield 3, 3) := dk_180 0 3 (dk_at dksX10_goes_4 17 rfl rfl)
theorem dX10_goes_110 : decode cX10_goes 110 = .ok (.dup, 1) := dk_89 (dk_at dksX10_goes_4 20 rfl rfl)
theorem dX10_goes_111 : decode cX10_goes 111 = .ok (.getfield 31, 3) := dk_180 0 31 (dk_at dksX10_goes_4 21 rfl rfl)
theorem dX10_goes_114 : decode cX10_goes 114 = .ok (.aload_n 0, 1) := dk_42 (dk_at dksX10_goes_5 0 rfl rfl)
theorem dX10_goes_115 : decode cX10_goes 115 = .ok (.getfield 15, 3) := dk_180 0 15 (dk_at dksX10_goes_5 1 rfl rfl)
theorem dX10_goes_118 : decode cX10_goes 118 = .ok (.iadd, 1) := dk_96 (dk_at dksX10_goes_5 4 rfl rfl)
theorem dX10_goes_119 : decode cX10_goes 119 = .ok (.putfield 31, 3) := dk_181 0 31 (dk_at dksX10_goes_5 5 rfl rfl)
theorem dX10_goes_122 : decode cX10_goes 122 = .ok (.aload_n 0, 1) := dk_42 (dk_at dksX10_goes_5 8 rfl rfl)
theorem dX10_goes_123 : decode cX10_goes 123 = .ok (.dup, 1) := dk_89 (dk_at dksX10_goes_5 9 rfl rfl)
theorem dX10_goes_124 : decode cX10_goes 124 = .ok (.getfield 40, 3) := dk_180 0 40 (dk_at dksX10_goes_5 10 rfl rfl)
theorem dX10_goes_127 : decode cX10_goes 127 = .ok (.iconst 1, 1) := dk_4 (dk_at dksX10_goes_5 13 rfl rfl)
theorem dX10_goes_128 : decode cX10_goes 128 = .ok (.iadd, 1) := dk_96 (dk_at dksX10_goes_5 14 rfl rfl)
theorem dX10_goes_129 : decode cX10_goes 129 = .ok (.putfield 40, 3) := dk_181 0 40 (dk_at dksX10_goes_5 15 rfl rfl)
theorem dX10_goes_132 : decode cX10_goes 132 = .ok (.goto (-132), 3) := dk_167 255 124 (dk_at dksX10_goes_5 18 rfl rfl)
theorem dX10_goes_135 : decode cX10_goes 135 = .ok (.aload_n 0, 1) := dk_42 (dk_at dksX10_goes_5 21 rfl rfl)
theorem dX10_goes_136 : decode cX10_goes 136 = .ok (.getfield 3, 3) := dk_180 0 3 (dk_at dksX10_goes_6 0 rfl rfl)
theorem dX10_goes_139 : decode cX10_goes 139 = .ok (.dup, 1) := dk_89 (dk_at dksX10_goes_6 3 rfl rfl)
theorem dX10_goes_140 : decode cX10_goes 140 = .ok (.getfield 77, 3) := dk_180 0 77 (dk_at dksX10_goes_6 4 rfl rfl)
theorem dX10_goes_143 : decode cX10_goes 143 = .ok (.aload_n 0, 1) := dk_42 (dk_at dksX10_goes_6 7 rfl rfl)
theorem dX10_goes_144 : decode cX10_goes 144 = .ok (.getfield 66, 3) := dk_180 0 66 (dk_at dksX10_goes_6 8 rfl rfl)
theorem dX10_goes_147 : decode cX10_goes 147 = .ok (.iadd, 1) := dk_96 (dk_at dksX10_goes_6 11 rfl rfl)
theorem dX10_goes_148 : decode cX10_goes 148 = .ok (.putfield 77, 3) := dk_181 0 77 (dk_at dksX10_goes_6 12 rfl rfl)
theorem dX10_goes_151 : decode cX10_goes 151 = .ok (.aload_n 0, 1) := dk_42 (dk_at dksX10_goes_6 15 rfl rfl)
theorem dX10_goes_152 : decode cX10_goes 152 = .ok (.getfield 3, 3) := dk_180 0 3 (dk_at dksX10_goes_6 16 rfl rfl)
theorem dX10_goes_155 : decode cX10_goes 155 = .ok (.dup, 1) := dk_89 (dk_at dksX10_goes_6 19 rfl rfl)
theorem dX10_goes_156 : decode cX10_goes 156 = .ok (.getfield 80, 3) := dk_180 0 80 (dk_at dksX10_goes_6 20 rfl rfl)
theorem dX10_goes_159 : decode cX10_goes 159 = .ok (.aload_n 0, 1) := dk_42 (dk_at dksX10_goes_6 23 rfl rfl)
theorem dX10_goes_160 : decode cX10_goes 160 = .ok (.getfield 40, 3) := dk_180 0 40 (dk_at dksX10_goes_7 0 rfl rfl)
theorem dX10_goes_163 : decode cX10_goes 163 = .ok (.iadd, 1) := dk_96 (dk_at dksX10_goes_7 3 rfl rfl)
theorem dX10_goes_164 : decode cX10_goes 164 = .ok (.putfield 80, 3) := dk_181 0 80 (dk_at dksX10_goes_7 4 rfl rfl)
theorem dX10_goes_167 : decode cX10_goes 167 = .ok (.aload_n 0, 1) := dk_42 (dk_at dksX10_goes_7 7 rfl rfl)
theorem dX10_goes_168 : decode cX10_goes 168 = .ok (.areturn, 1) := dk_176 (dk_at dksX10_goes_7 8 rfl rfl)
abbrev cX10_isEnd : ByteArray := prog_4_method_2_code
def yX10_isEnd : MethodName := ⟨RX10, "isEnd", "()Z"⟩
def dkwX10_isEnd_1 : List UInt8 := [167, 0, 4, 3, 172]
abbrev dktX10_isEnd_1 : List UInt8 := dkwX10_isEnd_1 ++ []
def dkwX10_isEnd_0 : List UInt8 := [42, 180, 0, 3, 42, 180, 0, 3, 180, 0, 31, 42, 180, 0, 15, 96, 182, 0, 36, 154, 0, 7, 4]
abbrev dktX10_isEnd_0 : List UInt8 := dkwX10_isEnd_0 ++ dktX10_isEnd_1
theorem dksX10_isEnd_0 : cX10_isEnd.data.toList.drop 0 = dktX10_isEnd_0 := by decide +kernel
theorem dksX10_isEnd_1 : cX10_isEnd.data.toList.drop 23 = dktX10_isEnd_1 := dk_seg dksX10_isEnd_0 23 rfl rfl
theorem dX10_isEnd_0 : decode cX10_isEnd 0 = .ok (.aload_n 0, 1) := dk_42 (dk_at dksX10_isEnd_0 0 rfl rfl)
theorem dX10_isEnd_1 : decode cX10_isEnd 1 = .ok (.getfield 3, 3) := dk_180 0 3 (dk_at dksX10_isEnd_0 1 rfl rfl)
theorem dX10_isEnd_4 : decode cX10_isEnd 4 = .ok (.aload_n 0, 1) := dk_42 (dk_at dksX10_isEnd_0 4 rfl rfl)
theorem dX10_isEnd_5 : decode cX10_isEnd 5 = .ok (.getfield 3, 3) := dk_180 0 3 (dk_at dksX10_isEnd_0 5 rfl rfl)
theorem dX10_isEnd_8 : decode cX10_isEnd 8 = .ok (.getfield 31, 3) := dk_180 0 31 (dk_at dksX10_isEnd_0 8 rfl rfl)
theorem dX10_isEnd_11 : decode cX10_isEnd 11 = .ok (.aload_n 0, 1) := dk_42 (dk_at dksX10_isEnd_0 11 rfl rfl)
theorem dX10_isEnd_12 : decode cX10_isEnd 12 = .ok (.getfield 15, 3) := dk_180 0 15 (dk_at dksX10_isEnd_0 12 rfl rfl)
theorem dX10_isEnd_15 : decode cX10_isEnd 15 = .ok (.iadd, 1) := dk_96 (dk_at dksX10_isEnd_0 15 rfl rfl)
theorem dX10_isEnd_16 : decode cX10_isEnd 16 = .ok (.invokevirtual 36, 3) := dk_182 0 36 (dk_at dksX10_isEnd_0 16 rfl rfl)
theorem dX10_isEnd_19 : decode cX10_isEnd 19 = .ok (.ifCond .ne 7, 3) := dk_154 0 7 (dk_at dksX10_isEnd_0 19 rfl rfl)
theorem dX10_isEnd_22 : decode cX10_isEnd 22 = .ok (.iconst 1, 1) := dk_4 (dk_at dksX10_isEnd_0 22 rfl rfl)
theorem dX10_isEnd_23 : decode cX10_isEnd 23 = .ok (.goto 4, 3) := dk_167 0 4 (dk_at dksX10_isEnd_1 0 rfl rfl)
theorem dX10_isEnd_26 : decode cX10_isEnd 26 = .ok (.iconst 0, 1) := dk_3 (dk_at dksX10_isEnd_1 3 rfl rfl)
theorem dX10_isEnd_27 : decode cX10_isEnd 27 = .ok (.ireturn, 1) := dk_172 (dk_at dksX10_isEnd_1 4 rfl rfl)
abbrev cX10_isHeld : ByteArray := prog_4_method_3_code
def yX10_isHeld : MethodName := ⟨RX10, "isHeld", "()Z"⟩
def dkwX10_isHeld_1 : List UInt8 := [192, 0, 53, 180, 0, 55, 153, 0, 7, 4, 167, 0, 4, 3, 172]
abbrev dktX10_isHeld_1 : List UInt8 := dkwX10_isHeld_1 ++ []
def dkwX10_isHeld_0 : List UInt8 := [42, 180, 0, 40, 158, 0, 33, 42, 180, 0, 3, 180, 0, 43, 42, 180, 0, 3, 180, 0, 31, 182, 0, 47]
abbrev dktX10_isHeld_0 : List UInt8 := dkwX10_isHeld_0 ++ dktX10_isHeld_1
theorem dksX10_isHeld_0 : cX10_isHeld.data.toList.drop 0 = dktX10_isHeld_0 := by decide +kernel
theorem dksX10_isHeld_1 : cX10_isHeld.data.toList.drop 24 = dktX10_isHeld_1 := dk_seg dksX10_isHeld_0 24 rfl rfl
theorem dX10_isHeld_0 : decode cX10_isHeld 0 = .ok (.aload_n 0, 1) := dk_42 (dk_at dksX10_isHeld_0 0 rfl rfl)
theorem dX10_isHeld_1 : decode cX10_isHeld 1 = .ok (.getfield 40, 3) := dk_180 0 40 (dk_at dksX10_isHeld_0 1 rfl rfl)
theorem dX10_isHeld_4 : decode cX10_isHeld 4 = .ok (.ifCond .le 33, 3) := dk_158 0 33 (dk_at dksX10_isHeld_0 4 rfl rfl)
theorem dX10_isHeld_7 : decode cX10_isHeld 7 = .ok (.aload_n 0, 1) := dk_42 (dk_at dksX10_isHeld_0 7 rfl rfl)
theorem dX10_isHeld_8 : decode cX10_isHeld 8 = .ok (.getfield 3, 3) := dk_180 0 3 (dk_at dksX10_isHeld_0 8 rfl rfl)
theorem dX10_isHeld_11 : decode cX10_isHeld 11 = .ok (.getfield 43, 3) := dk_180 0 43 (dk_at dksX10_isHeld_0 11 rfl rfl)
theorem dX10_isHeld_14 : decode cX10_isHeld 14 = .ok (.aload_n 0, 1) := dk_42 (dk_at dksX10_isHeld_0 14 rfl rfl)
theorem dX10_isHeld_15 : decode cX10_isHeld 15 = .ok (.getfield 3, 3) := dk_180 0 3 (dk_at dksX10_isHeld_0 15 rfl rfl)
theorem dX10_isHeld_18 : decode cX10_isHeld 18 = .ok (.getfield 31, 3) := dk_180 0 31 (dk_at dksX10_isHeld_0 18 rfl rfl)
theorem dX10_isHeld_21 : decode cX10_isHeld 21 = .ok (.invokevirtual 47, 3) := dk_182 0 47 (dk_at dksX10_isHeld_0 21 rfl rfl)
theorem dX10_isHeld_24 : decode cX10_isHeld 24 = .ok (.checkcast 53, 3) := dk_192 0 53 (dk_at dksX10_isHeld_1 0 rfl rfl)
theorem dX10_isHeld_27 : decode cX10_isHeld 27 = .ok (.getfield 55, 3) := dk_180 0 55 (dk_at dksX10_isHeld_1 3 rfl rfl)
theorem dX10_isHeld_30 : decode cX10_isHeld 30 = .ok (.ifCond .eq 7, 3) := dk_153 0 7 (dk_at dksX10_isHeld_1 6 rfl rfl)
theorem dX10_isHeld_33 : decode cX10_isHeld 33 = .ok (.iconst 1, 1) := dk_4 (dk_at dksX10_isHeld_1 9 rfl rfl)
theorem dX10_isHeld_34 : decode cX10_isHeld 34 = .ok (.goto 4, 3) := dk_167 0 4 (dk_at dksX10_isHeld_1 10 rfl rfl)
theorem dX10_isHeld_37 : decode cX10_isHeld 37 = .ok (.iconst 0, 1) := dk_3 (dk_at dksX10_isHeld_1 13 rfl rfl)
theorem dX10_isHeld_38 : decode cX10_isHeld 38 = .ok (.ireturn, 1) := dk_172 (dk_at dksX10_isHeld_1 14 rfl rfl)
abbrev cX10_why : ByteArray := prog_4_method_5_code
def yX10_why : MethodName := ⟨RX10, "why", "()I"⟩
def dkwX10_why_1 : List UInt8 := [167, 0, 4, 5, 172]
abbrev dktX10_why_1 : List UInt8 := dkwX10_why_1 ++ []
def dkwX10_why_0 : List UInt8 := [42, 180, 0, 40, 42, 180, 0, 25, 160, 0, 7, 3, 167, 0, 15, 42, 182, 0, 59, 153, 0, 7, 4]
abbrev dktX10_why_0 : List UInt8 := dkwX10_why_0 ++ dktX10_why_1
theorem dksX10_why_0 : cX10_why.data.toList.drop 0 = dktX10_why_0 := by decide +kernel
theorem dksX10_why_1 : cX10_why.data.toList.drop 23 = dktX10_why_1 := dk_seg dksX10_why_0 23 rfl rfl
theorem dX10_why_0 : decode cX10_why 0 = .ok (.aload_n 0, 1) := dk_42 (dk_at dksX10_why_0 0 rfl rfl)
theorem dX10_why_1 : decode cX10_why 1 = .ok (.getfield 40, 3) := dk_180 0 40 (dk_at dksX10_why_0 1 rfl rfl)
theorem dX10_why_4 : decode cX10_why 4 = .ok (.aload_n 0, 1) := dk_42 (dk_at dksX10_why_0 4 rfl rfl)
theorem dX10_why_5 : decode cX10_why 5 = .ok (.getfield 25, 3) := dk_180 0 25 (dk_at dksX10_why_0 5 rfl rfl)
theorem dX10_why_8 : decode cX10_why 8 = .ok (.if_icmp .ne 7, 3) := dk_160 0 7 (dk_at dksX10_why_0 8 rfl rfl)
theorem dX10_why_11 : decode cX10_why 11 = .ok (.iconst 0, 1) := dk_3 (dk_at dksX10_why_0 11 rfl rfl)
theorem dX10_why_12 : decode cX10_why 12 = .ok (.goto 15, 3) := dk_167 0 15 (dk_at dksX10_why_0 12 rfl rfl)
theorem dX10_why_15 : decode cX10_why 15 = .ok (.aload_n 0, 1) := dk_42 (dk_at dksX10_why_0 15 rfl rfl)
theorem dX10_why_16 : decode cX10_why 16 = .ok (.invokevirtual 59, 3) := dk_182 0 59 (dk_at dksX10_why_0 16 rfl rfl)
theorem dX10_why_19 : decode cX10_why 19 = .ok (.ifCond .eq 7, 3) := dk_153 0 7 (dk_at dksX10_why_0 19 rfl rfl)
theorem dX10_why_22 : decode cX10_why 22 = .ok (.iconst 1, 1) := dk_4 (dk_at dksX10_why_0 22 rfl rfl)
theorem dX10_why_23 : decode cX10_why 23 = .ok (.goto 4, 3) := dk_167 0 4 (dk_at dksX10_why_1 0 rfl rfl)
theorem dX10_why_26 : decode cX10_why 26 = .ok (.iconst 2, 1) := dk_5 (dk_at dksX10_why_1 3 rfl rfl)
theorem dX10_why_27 : decode cX10_why 27 = .ok (.ireturn, 1) := dk_172 (dk_at dksX10_why_1 4 rfl rfl)
theorem q76 : (Jvm.Cond.initialized "HandBlinds$Blind$Cranking") ∈ lw_all := lw_g (lw_at lw_m1 31 rfl) rfl
theorem q125 : (Jvm.Cond.fieldLinkNest "HandBlinds$Blind$Cranking" (43 : Nat) "HandBlinds$Blind" "rows" "Ljava/util/ArrayList;" "HandBlinds") ∈ lw_tbl := lw_at lw_m1 80 rfl
theorem q130 : (Jvm.Cond.fieldLinkNest "HandBlinds$Blind$Cranking" (69 : Nat) "HandBlinds$Blind" "settings" "[I" "HandBlinds") ∈ lw_tbl := lw_at lw_m1 85 rfl
theorem q132 : (Jvm.Cond.fieldLinkNest "HandBlinds$Blind$Cranking" (31 : Nat) "HandBlinds$Blind" "shown" "I" "HandBlinds") ∈ lw_tbl := lw_at lw_m1 87 rfl
theorem q138 : (Jvm.Cond.fieldLinkNest "HandBlinds$Blind$Cranking" (77 : Nat) "HandBlinds$Blind" "tears" "I" "HandBlinds") ∈ lw_tbl := lw_at lw_m1 93 rfl
theorem q141 : (Jvm.Cond.fieldLinkNest "HandBlinds$Blind$Cranking" (80 : Nat) "HandBlinds$Blind" "passed" "I" "HandBlinds") ∈ lw_tbl := lw_at lw_m1 96 rfl
theorem q330 : (Jvm.Cond.fieldLinkNest "HandBlinds$Blind$Cranking" (55 : Nat) "HandBlinds$Row" "isTorn" "Z" "HandBlinds") ∈ lw_tbl := lw_at lw_m2 45 rfl
theorem q378 : (Jvm.Cond.selects "HandBlinds$Blind$Cranking" ({ cls := "java/lang/Object", name := "getClass", desc := "()Ljava/lang/Class;" } : Jvm.MethodName) ({ cls := "java/lang/Object", name := "getClass", desc := "()Ljava/lang/Class;" } : Jvm.MethodName)) ∈ lw_all := lw_g (lw_at lw_m2 93 rfl) rfl
theorem q1001 : (Jvm.Cond.instantiable "HandBlinds$Blind$Cranking" (6 : Nat)) ∈ lw_all := lw_g (lw_at lw_m4 236 rfl) rfl
theorem q1003 : (Jvm.Cond.instanceMethod ({ cls := "HandBlinds$Blind$Cranking", name := "<init>", desc := "(LHandBlinds$Blind;II)V" } : Jvm.MethodName)) ∈ lw_all := lw_g (lw_at lw_m4 238 rfl) rfl
theorem q1004 : (Jvm.Cond.code ({ cls := "HandBlinds$Blind$Cranking", name := "<init>", desc := "(LHandBlinds$Blind;II)V" } : Jvm.MethodName) prog_4_method_1_code (4 : Nat) (Option.none : Option Jvm.ClassFile.FieldType)) ∈ lw_all := lw_g (lw_at lw_m4 239 rfl) rfl
theorem q1005 : (Jvm.Cond.methodLink "HandBlinds$Blind$Cranking" (9 : Nat) ({ cls := "java/lang/Object", name := "<init>", desc := "()V" } : Jvm.MethodName)) ∈ lw_all := lw_g (lw_at lw_m5 0 rfl) rfl
theorem q1006 : (Jvm.Cond.methodLink "HandBlinds$Blind$Cranking" (19 : Nat) ({ cls := "java/lang/Math", name := "abs", desc := "(I)I" } : Jvm.MethodName)) ∈ lw_all := lw_g (lw_at lw_m5 1 rfl) rfl
theorem q1009 : (Jvm.Cond.fieldLink "HandBlinds$Blind$Cranking" (15 : Nat) "HandBlinds$Blind$Cranking" "step" "I") ∈ lw_all := lw_g (lw_at lw_m5 4 rfl) rfl
theorem q1010 : (Jvm.Cond.fieldLink "HandBlinds$Blind$Cranking" (25 : Nat) "HandBlinds$Blind$Cranking" "most" "I") ∈ lw_all := lw_g (lw_at lw_m5 5 rfl) rfl
theorem q1011 : (Jvm.Cond.fieldLink "HandBlinds$Blind$Cranking" (28 : Nat) "HandBlinds$Blind$Cranking" "speed" "I") ∈ lw_all := lw_g (lw_at lw_m5 6 rfl) rfl
theorem q1012 : (Jvm.Cond.fieldLink "HandBlinds$Blind$Cranking" (40 : Nat) "HandBlinds$Blind$Cranking" "gone" "I") ∈ lw_all := lw_g (lw_at lw_m5 7 rfl) rfl
theorem q1014 : (Jvm.Cond.fieldLink "HandBlinds$Blind$Cranking" (66 : Nat) "HandBlinds$Blind$Cranking" "torn" "I") ∈ lw_all := lw_g (lw_at lw_m5 9 rfl) rfl
theorem q1016 : (Jvm.Cond.fieldLink "HandBlinds$Blind$Cranking" (3 : Nat) "HandBlinds$Blind$Cranking" "this$0" "LHandBlinds$Blind;") ∈ lw_all := lw_g (lw_at lw_m5 11 rfl) rfl
theorem q1017 : (Jvm.Cond.laysFinal "HandBlinds$Blind$Cranking" "HandBlinds$Blind$Cranking" "step" "I") ∈ lw_all := lw_g (lw_at lw_m5 12 rfl) rfl
theorem q1018 : (Jvm.Cond.soleField "HandBlinds$Blind$Cranking" "step") ∈ lw_all := lw_g (lw_at lw_m5 13 rfl) rfl
theorem q1019 : (Jvm.Cond.laysFinal "HandBlinds$Blind$Cranking" "HandBlinds$Blind$Cranking" "most" "I") ∈ lw_all := lw_g (lw_at lw_m5 14 rfl) rfl
theorem q1020 : (Jvm.Cond.soleField "HandBlinds$Blind$Cranking" "most") ∈ lw_all := lw_g (lw_at lw_m5 15 rfl) rfl
theorem q1021 : (Jvm.Cond.laysFinal "HandBlinds$Blind$Cranking" "HandBlinds$Blind$Cranking" "speed" "I") ∈ lw_all := lw_g (lw_at lw_m5 16 rfl) rfl
theorem q1022 : (Jvm.Cond.soleField "HandBlinds$Blind$Cranking" "speed") ∈ lw_all := lw_g (lw_at lw_m5 17 rfl) rfl
theorem q1023 : (Jvm.Cond.lays "HandBlinds$Blind$Cranking" "HandBlinds$Blind$Cranking" "gone" "I") ∈ lw_all := lw_g (lw_at lw_m5 18 rfl) rfl
theorem q1024 : (Jvm.Cond.soleField "HandBlinds$Blind$Cranking" "gone") ∈ lw_all := lw_g (lw_at lw_m5 19 rfl) rfl
theorem q1025 : (Jvm.Cond.lays "HandBlinds$Blind$Cranking" "HandBlinds$Blind$Cranking" "torn" "I") ∈ lw_all := lw_g (lw_at lw_m5 20 rfl) rfl
theorem q1026 : (Jvm.Cond.soleField "HandBlinds$Blind$Cranking" "torn") ∈ lw_all := lw_g (lw_at lw_m5 21 rfl) rfl
theorem q1027 : (Jvm.Cond.laysFinal "HandBlinds$Blind$Cranking" "HandBlinds$Blind$Cranking" "this$0" "LHandBlinds$Blind;") ∈ lw_all := lw_g (lw_at lw_m5 22 rfl) rfl
theorem q1028 : (Jvm.Cond.soleField "HandBlinds$Blind$Cranking" "this$0") ∈ lw_all := lw_g (lw_at lw_m5 23 rfl) rfl
theorem q1029 : (Jvm.Cond.superclass "HandBlinds$Blind$Cranking" "java/lang/Object") ∈ lw_all := lw_g (lw_at lw_m5 24 rfl) rfl
theorem q1031 : (Jvm.Cond.instanceMethod ({ cls := "HandBlinds$Blind$Cranking", name := "goes", desc := "()LHandBlinds$Blind$Cranking;" } : Jvm.MethodName)) ∈ lw_all := lw_g (lw_at lw_m5 26 rfl) rfl
theorem q1032 : (Jvm.Cond.selects "HandBlinds$Blind$Cranking" ({ cls := "HandBlinds$Blind$Cranking", name := "goes", desc := "()LHandBlinds$Blind$Cranking;" } : Jvm.MethodName) ({ cls := "HandBlinds$Blind$Cranking", name := "goes", desc := "()LHandBlinds$Blind$Cranking;" } : Jvm.MethodName)) ∈ lw_all := lw_g (lw_at lw_m5 27 rfl) rfl
theorem q1033 : (Jvm.Cond.code ({ cls := "HandBlinds$Blind$Cranking", name := "goes", desc := "()LHandBlinds$Blind$Cranking;" } : Jvm.MethodName) prog_4_method_4_code (2 : Nat) (Option.some (Jvm.ClassFile.FieldType.object "HandBlinds$Blind$Cranking"))) ∈ lw_all := lw_g (lw_at lw_m5 28 rfl) rfl
theorem q1034 : (Jvm.Cond.methodLink "HandBlinds$Blind$Cranking" (59 : Nat) ({ cls := "HandBlinds$Blind$Cranking", name := "isEnd", desc := "()Z" } : Jvm.MethodName)) ∈ lw_all := lw_g (lw_at lw_m5 29 rfl) rfl
theorem q1035 : (Jvm.Cond.privateMethod ({ cls := "HandBlinds$Blind$Cranking", name := "isEnd", desc := "()Z" } : Jvm.MethodName)) ∈ lw_tbl := lw_at lw_m5 30 rfl
theorem q1036 : (Jvm.Cond.instanceMethod ({ cls := "HandBlinds$Blind$Cranking", name := "isEnd", desc := "()Z" } : Jvm.MethodName)) ∈ lw_all := lw_g (lw_at lw_m5 31 rfl) rfl
theorem q1037 : (Jvm.Cond.code ({ cls := "HandBlinds$Blind$Cranking", name := "isEnd", desc := "()Z" } : Jvm.MethodName) prog_4_method_2_code (1 : Nat) (Option.some Jvm.ClassFile.FieldType.boolean)) ∈ lw_all := lw_g (lw_at lw_m5 32 rfl) rfl
theorem q1038 : (Jvm.Cond.methodLink "HandBlinds$Blind$Cranking" (36 : Nat) ({ cls := "HandBlinds$Blind", name := "isRow", desc := "(I)Z" } : Jvm.MethodName)) ∈ lw_all := lw_g (lw_at lw_m5 33 rfl) rfl
theorem q1039 : (Jvm.Cond.methodLink "HandBlinds$Blind$Cranking" (63 : Nat) ({ cls := "HandBlinds$Blind$Cranking", name := "isHeld", desc := "()Z" } : Jvm.MethodName)) ∈ lw_all := lw_g (lw_at lw_m5 34 rfl) rfl
theorem q1040 : (Jvm.Cond.privateMethod ({ cls := "HandBlinds$Blind$Cranking", name := "isHeld", desc := "()Z" } : Jvm.MethodName)) ∈ lw_tbl := lw_at lw_m5 35 rfl
theorem q1041 : (Jvm.Cond.instanceMethod ({ cls := "HandBlinds$Blind$Cranking", name := "isHeld", desc := "()Z" } : Jvm.MethodName)) ∈ lw_all := lw_g (lw_at lw_m5 36 rfl) rfl
theorem q1042 : (Jvm.Cond.code ({ cls := "HandBlinds$Blind$Cranking", name := "isHeld", desc := "()Z" } : Jvm.MethodName) prog_4_method_3_code (1 : Nat) (Option.some Jvm.ClassFile.FieldType.boolean)) ∈ lw_all := lw_g (lw_at lw_m5 37 rfl) rfl
theorem q1043 : (Jvm.Cond.methodLink "HandBlinds$Blind$Cranking" (47 : Nat) ({ cls := "java/util/ArrayList", name := "get", desc := "(I)Ljava/lang/Object;" } : Jvm.MethodName)) ∈ lw_all := lw_g (lw_at lw_m5 38 rfl) rfl
theorem q1044 : (Jvm.Cond.classLink "HandBlinds$Blind$Cranking" (53 : Nat) "HandBlinds$Row") ∈ lw_all := lw_g (lw_at lw_m5 39 rfl) rfl
theorem q1045 : (Jvm.Cond.methodLink "HandBlinds$Blind$Cranking" (73 : Nat) ({ cls := "HandBlinds$Row", name := "wears", desc := "(II)Z" } : Jvm.MethodName)) ∈ lw_all := lw_g (lw_at lw_m5 40 rfl) rfl
theorem q1050 : (Jvm.Cond.instanceMethod ({ cls := "HandBlinds$Blind$Cranking", name := "why", desc := "()I" } : Jvm.MethodName)) ∈ lw_all := lw_g (lw_at lw_m5 45 rfl) rfl
theorem q1051 : (Jvm.Cond.selects "HandBlinds$Blind$Cranking" ({ cls := "HandBlinds$Blind$Cranking", name := "why", desc := "()I" } : Jvm.MethodName) ({ cls := "HandBlinds$Blind$Cranking", name := "why", desc := "()I" } : Jvm.MethodName)) ∈ lw_all := lw_g (lw_at lw_m5 46 rfl) rfl
theorem q1052 : (Jvm.Cond.code ({ cls := "HandBlinds$Blind$Cranking", name := "why", desc := "()I" } : Jvm.MethodName) prog_4_method_5_code (1 : Nat) (Option.some Jvm.ClassFile.FieldType.int)) ∈ lw_all := lw_g (lw_at lw_m5 47 rfl) rfl
theorem q1685 : (Jvm.Cond.castable "HandBlinds$Blind$Cranking" "java/lang/Object") ∈ lw_tbl := lw_at lw_m7 200 rfl
theorem in_X10 : ∀ w ∈ wsX100, w ∈ lw_all := lw_in wsX100 [1017, 1019, 1021, 1023, 1025, 1027] (by decide +kernel) (by decide +kernel)
/-! HandBlinds$Blind$1 -/
set_option maxRecDepth 100000
def RX3 : String := "HandBlinds$Blind$1"
def TX3 : u_T := fun k => match k with
  | 0 => ("HandBlinds$Blind$1", "told", "I", false)
  | _ => ("HandBlinds$Blind$1", "this$0", "LHandBlinds$Blind;", true)
def tyX3 : Nat → FieldType := fun k => match k with
  | 0 => .int
  | _ => .object "HandBlinds$Blind"
abbrev wsX30 : List Cond := u_ws RX3 TX3 2
theorem nmX3 : ∀ a, a < 2 → ∀ b, b < 2 → a ≠ b → (TX3 a).2.1 ≠ (TX3 b).2.1 := by decide +kernel
theorem tyX3_ok : ∀ k, k < 2 → parseFieldDescriptor (TX3 k).2.2.1 = some (tyX3 k) := by decide +kernel
abbrev cX3_init : ByteArray := prog_3_method_1_code
def yX3_init : MethodName := ⟨RX3, "<init>", "(LHandBlinds$Blind;)V"⟩
def dkwX3_init_0 : List UInt8 := [42, 43, 181, 0, 1, 42, 183, 0, 7, 177]
abbrev dktX3_init_0 : List UInt8 := dkwX3_init_0 ++ []
theorem dksX3_init_0 : cX3_init.data.toList.drop 0 = dktX3_init_0 := by decide +kernel
theorem dX3_init_0 : decode cX3_init 0 = .ok (.aload_n 0, 1) := dk_42 (dk_at dksX3_init_0 0 rfl rfl)
theorem dX3_init_1 : decode cX3_init 1 = .ok (.aload_n 1, 1) := dk_43 (dk_at dksX3_init_0 1 rfl rfl)
theorem dX3_init_2 : decode cX3_init 2 = .ok (.putfield 1, 3) := dk_181 0 1 (dk_at dksX3_init_0 2 rfl rfl)
theorem dX3_init_5 : decode cX3_init 5 = .ok (.aload_n 0, 1) := dk_42 (dk_at dksX3_init_0 5 rfl rfl)
theorem dX3_init_6 : decode cX3_init 6 = .ok (.invokespecial 7, 3) := dk_183 0 7 (dk_at dksX3_init_0 6 rfl rfl)
theorem dX3_init_9 : decode cX3_init 9 = .ok (.return_, 1) := dk_177 (dk_at dksX3_init_0 9 rfl rfl)
abbrev cX3_hasNext : ByteArray := prog_3_method_2_code
def yX3_hasNext : MethodName := ⟨RX3, "hasNext", "()Z"⟩
def dkwX3_hasNext_0 : List UInt8 := [42, 180, 0, 13, 42, 180, 0, 1, 180, 0, 17, 182, 0, 23, 162, 0, 7, 4, 167, 0, 4, 3, 172]
abbrev dktX3_hasNext_0 : List UInt8 := dkwX3_hasNext_0 ++ []
theorem dksX3_hasNext_0 : cX3_hasNext.data.toList.drop 0 = dktX3_hasNext_0 := by decide +kernel
theorem dX3_hasNext_0 : decode cX3_hasNext 0 = .ok (.aload_n 0, 1) := dk_42 (dk_at dksX3_hasNext_0 0 rfl rfl)
theorem dX3_hasNext_1 : decode cX3_hasNext 1 = .ok (.getfield 13, 3) := dk_180 0 13 (dk_at dksX3_hasNext_0 1 rfl rfl)
theorem dX3_hasNext_4 : decode cX3_hasNext 4 = .ok (.aload_n 0, 1) := dk_42 (dk_at dksX3_hasNext_0 4 rfl rfl)
theorem dX3_hasNext_5 : decode cX3_hasNext 5 = .ok (.getfield 1, 3) := dk_180 0 1 (dk_at dksX3_hasNext_0 5 rfl rfl)
theorem dX3_hasNext_8 : decode cX3_hasNext 8 = .ok (.getfield 17, 3) := dk_180 0 17 (dk_at dksX3_hasNext_0 8 rfl rfl)
theorem dX3_hasNext_11 : decode cX3_hasNext 11 = .ok (.invokevirtual 23, 3) := dk_182 0 23 (dk_at dksX3_hasNext_0 11 rfl rfl)
theorem dX3_hasNext_14 : decode cX3_hasNext 14 = .ok (.if_icmp .ge 7, 3) := dk_162 0 7 (dk_at dksX3_hasNext_0 14 rfl rfl)
theorem dX3_hasNext_17 : decode cX3_hasNext 17 = .ok (.iconst 1, 1) := dk_4 (dk_at dksX3_hasNext_0 17 rfl rfl)
theorem dX3_hasNext_18 : decode cX3_hasNext 18 = .ok (.goto 4, 3) := dk_167 0 4 (dk_at dksX3_hasNext_0 18 rfl rfl)
theorem dX3_hasNext_21 : decode cX3_hasNext 21 = .ok (.iconst 0, 1) := dk_3 (dk_at dksX3_hasNext_0 21 rfl rfl)
theorem dX3_hasNext_22 : decode cX3_hasNext 22 = .ok (.ireturn, 1) := dk_172 (dk_at dksX3_hasNext_0 22 rfl rfl)
abbrev cX3_next : ByteArray := prog_3_method_4_code
def yX3_next : MethodName := ⟨RX3, "next", "()Ljava/lang/Object;"⟩
theorem dX3_next_0 : decode cX3_next 0 = .ok (.aload_n 0, 1) := by decide +kernel
theorem dX3_next_1 : decode cX3_next 1 = .ok (.invokevirtual 35, 3) := by decide +kernel
theorem dX3_next_4 : decode cX3_next 4 = .ok (.areturn, 1) := by decide +kernel
abbrev cX3_next_2 : ByteArray := prog_3_method_3_code
def yX3_next_2 : MethodName := ⟨RX3, "next", "()LHandBlinds$Row;"⟩
def dkwX3_next_2_1 : List UInt8 := [182, 0, 29, 192, 0, 33, 176]
abbrev dktX3_next_2_1 : List UInt8 := dkwX3_next_2_1 ++ []
def dkwX3_next_2_0 : List UInt8 := [42, 89, 180, 0, 13, 4, 96, 181, 0, 13, 42, 180, 0, 1, 180, 0, 17, 42, 180, 0, 13, 4, 100]
abbrev dktX3_next_2_0 : List UInt8 := dkwX3_next_2_0 ++ dktX3_next_2_1
theorem dksX3_next_2_0 : cX3_next_2.data.toList.drop 0 = dktX3_next_2_0 := by decide +kernel
theorem dksX3_next_2_1 : cX3_next_2.data.toList.drop 23 = dktX3_next_2_1 := dk_seg dksX3_next_2_0 23 rfl rfl
theorem dX3_next_2_0 : decode cX3_next_2 0 = .ok (.aload_n 0, 1) := dk_42 (dk_at dksX3_next_2_0 0 rfl rfl)
theorem dX3_next_2_1 : decode cX3_next_2 1 = .ok (.dup, 1) := dk_89 (dk_at dksX3_next_2_0 1 rfl rfl)
theorem dX3_next_2_2 : decode cX3_next_2 2 = .ok (.getfield 13, 3) := dk_180 0 13 (dk_at dksX3_next_2_0 2 rfl rfl)
theorem dX3_next_2_5 : decode cX3_next_2 5 = .ok (.iconst 1, 1) := dk_4 (dk_at dksX3_next_2_0 5 rfl rfl)
theorem dX3_next_2_6 : decode cX3_next_2 6 = .ok (.iadd, 1) := dk_96 (dk_at dksX3_next_2_0 6 rfl rfl)
theorem dX3_next_2_7 : decode cX3_next_2 7 = .ok (.putfield 13, 3) := dk_181 0 13 (dk_at dksX3_next_2_0 7 rfl rfl)
theorem dX3_next_2_10 : decode cX3_next_2 10 = .ok (.aload_n 0, 1) := dk_42 (dk_at dksX3_next_2_0 10 rfl rfl)
theorem dX3_next_2_11 : decode cX3_next_2 11 = .ok (.getfield 1, 3) := dk_180 0 1 (dk_at dksX3_next_2_0 11 rfl rfl)
theorem dX3_next_2_14 : decode cX3_next_2 14 = .ok (.getfield 17, 3) := dk_180 0 17 (dk_at dksX3_next_2_0 14 rfl rfl)
theorem dX3_next_2_17 : decode cX3_next_2 17 = .ok (.aload_n 0, 1) := dk_42 (dk_at dksX3_next_2_0 17 rfl rfl)
theorem dX3_next_2_18 : decode cX3_next_2 18 = .ok (.getfield 13, 3) := dk_180 0 13 (dk_at dksX3_next_2_0 18 rfl rfl)
theorem dX3_next_2_21 : decode cX3_next_2 21 = .ok (.iconst 1, 1) := dk_4 (dk_at dksX3_next_2_0 21 rfl rfl)
theorem dX3_next_2_22 : decode cX3_next_2 22 = .ok (.isub, 1) := dk_100 (dk_at dksX3_next_2_0 22 rfl rfl)
theorem dX3_next_2_23 : decode cX3_next_2 23 = .ok (.invokevirtual 29, 3) := dk_182 0 29 (dk_at dksX3_next_2_1 0 rfl rfl)
theorem dX3_next_2_26 : decode cX3_next_2 26 = .ok (.checkcast 33, 3) := dk_192 0 33 (dk_at dksX3_next_2_1 3 rfl rfl)
theorem dX3_next_2_29 : decode cX3_next_2 29 = .ok (.areturn, 1) := dk_176 (dk_at dksX3_next_2_1 6 rfl rfl)
theorem q57 : (Jvm.Cond.initialized "HandBlinds$Blind$1") ∈ lw_all := lw_g (lw_at lw_m1 12 rfl) rfl
theorem q124 : (Jvm.Cond.fieldLinkNest "HandBlinds$Blind$1" (17 : Nat) "HandBlinds$Blind" "rows" "Ljava/util/ArrayList;" "HandBlinds") ∈ lw_tbl := lw_at lw_m1 79 rfl
theorem q241 : (Jvm.Cond.instantiable "HandBlinds$Blind$1" (2 : Nat)) ∈ lw_all := lw_g (lw_at lw_m1 196 rfl) rfl
theorem q243 : (Jvm.Cond.instanceMethod ({ cls := "HandBlinds$Blind$1", name := "<init>", desc := "(LHandBlinds$Blind;)V" } : Jvm.MethodName)) ∈ lw_all := lw_g (lw_at lw_m1 198 rfl) rfl
theorem q244 : (Jvm.Cond.code ({ cls := "HandBlinds$Blind$1", name := "<init>", desc := "(LHandBlinds$Blind;)V" } : Jvm.MethodName) prog_3_method_1_code (2 : Nat) (Option.none : Option Jvm.ClassFile.FieldType)) ∈ lw_all := lw_g (lw_at lw_m1 199 rfl) rfl
theorem q245 : (Jvm.Cond.methodLink "HandBlinds$Blind$1" (7 : Nat) ({ cls := "java/lang/Object", name := "<init>", desc := "()V" } : Jvm.MethodName)) ∈ lw_all := lw_g (lw_at lw_m1 200 rfl) rfl
theorem q246 : (Jvm.Cond.fieldLink "HandBlinds$Blind$1" (13 : Nat) "HandBlinds$Blind$1" "told" "I") ∈ lw_all := lw_g (lw_at lw_m1 201 rfl) rfl
theorem q247 : (Jvm.Cond.fieldLink "HandBlinds$Blind$1" (1 : Nat) "HandBlinds$Blind$1" "this$0" "LHandBlinds$Blind;") ∈ lw_all := lw_g (lw_at lw_m1 202 rfl) rfl
theorem q248 : (Jvm.Cond.lays "HandBlinds$Blind$1" "HandBlinds$Blind$1" "told" "I") ∈ lw_all := lw_g (lw_at lw_m1 203 rfl) rfl
theorem q249 : (Jvm.Cond.soleField "HandBlinds$Blind$1" "told") ∈ lw_all := lw_g (lw_at lw_m1 204 rfl) rfl
theorem q250 : (Jvm.Cond.laysFinal "HandBlinds$Blind$1" "HandBlinds$Blind$1" "this$0" "LHandBlinds$Blind;") ∈ lw_all := lw_g (lw_at lw_m1 205 rfl) rfl
theorem q251 : (Jvm.Cond.soleField "HandBlinds$Blind$1" "this$0") ∈ lw_all := lw_g (lw_at lw_m1 206 rfl) rfl
theorem q252 : (Jvm.Cond.superclass "HandBlinds$Blind$1" "java/lang/Object") ∈ lw_all := lw_g (lw_at lw_m1 207 rfl) rfl
theorem q257 : (Jvm.Cond.castable "HandBlinds$Blind$1" "java/util/Iterator") ∈ lw_tbl := lw_at lw_m1 212 rfl
theorem q258 : (Jvm.Cond.selects "HandBlinds$Blind$1" ({ cls := "java/util/Iterator", name := "hasNext", desc := "()Z" } : Jvm.MethodName) ({ cls := "HandBlinds$Blind$1", name := "hasNext", desc := "()Z" } : Jvm.MethodName)) ∈ lw_all := lw_g (lw_at lw_m1 213 rfl) rfl
theorem q259 : (Jvm.Cond.unhidden "HandBlinds$Blind$1" "hasNext" "()Z") ∈ lw_tbl := lw_at lw_m1 214 rfl
theorem q260 : (Jvm.Cond.instanceMethod ({ cls := "HandBlinds$Blind$1", name := "hasNext", desc := "()Z" } : Jvm.MethodName)) ∈ lw_all := lw_g (lw_at lw_m1 215 rfl) rfl
theorem q261 : (Jvm.Cond.publicMethod ({ cls := "HandBlinds$Blind$1", name := "hasNext", desc := "()Z" } : Jvm.MethodName)) ∈ lw_tbl := lw_at lw_m1 216 rfl
theorem q262 : (Jvm.Cond.code ({ cls := "HandBlinds$Blind$1", name := "hasNext", desc := "()Z" } : Jvm.MethodName) prog_3_method_2_code (1 : Nat) (Option.some Jvm.ClassFile.FieldType.boolean)) ∈ lw_all := lw_g (lw_at lw_m1 217 rfl) rfl
theorem q263 : (Jvm.Cond.methodLink "HandBlinds$Blind$1" (23 : Nat) ({ cls := "java/util/ArrayList", name := "size", desc := "()I" } : Jvm.MethodName)) ∈ lw_all := lw_g (lw_at lw_m1 218 rfl) rfl
theorem q277 : (Jvm.Cond.selects "HandBlinds$Blind$1" ({ cls := "java/util/Iterator", name := "next", desc := "()Ljava/lang/Object;" } : Jvm.MethodName) ({ cls := "HandBlinds$Blind$1", name := "next", desc := "()Ljava/lang/Object;" } : Jvm.MethodName)) ∈ lw_all := lw_g (lw_at lw_m1 232 rfl) rfl
theorem q278 : (Jvm.Cond.unhidden "HandBlinds$Blind$1" "next" "()Ljava/lang/Object;") ∈ lw_tbl := lw_at lw_m1 233 rfl
theorem q279 : (Jvm.Cond.instanceMethod ({ cls := "HandBlinds$Blind$1", name := "next", desc := "()Ljava/lang/Object;" } : Jvm.MethodName)) ∈ lw_all := lw_g (lw_at lw_m1 234 rfl) rfl
theorem q280 : (Jvm.Cond.publicMethod ({ cls := "HandBlinds$Blind$1", name := "next", desc := "()Ljava/lang/Object;" } : Jvm.MethodName)) ∈ lw_tbl := lw_at lw_m1 235 rfl
theorem q281 : (Jvm.Cond.code ({ cls := "HandBlinds$Blind$1", name := "next", desc := "()Ljava/lang/Object;" } : Jvm.MethodName) prog_3_method_4_code (1 : Nat) (Option.some (Jvm.ClassFile.FieldType.object "java/lang/Object"))) ∈ lw_all := lw_g (lw_at lw_m1 236 rfl) rfl
theorem q282 : (Jvm.Cond.methodLink "HandBlinds$Blind$1" (35 : Nat) ({ cls := "HandBlinds$Blind$1", name := "next", desc := "()LHandBlinds$Row;" } : Jvm.MethodName)) ∈ lw_all := lw_g (lw_at lw_m1 237 rfl) rfl
theorem q283 : (Jvm.Cond.instanceMethod ({ cls := "HandBlinds$Blind$1", name := "next", desc := "()LHandBlinds$Row;" } : Jvm.MethodName)) ∈ lw_all := lw_g (lw_at lw_m1 238 rfl) rfl
theorem q284 : (Jvm.Cond.selects "HandBlinds$Blind$1" ({ cls := "HandBlinds$Blind$1", name := "next", desc := "()LHandBlinds$Row;" } : Jvm.MethodName) ({ cls := "HandBlinds$Blind$1", name := "next", desc := "()LHandBlinds$Row;" } : Jvm.MethodName)) ∈ lw_all := lw_g (lw_at lw_m1 239 rfl) rfl
theorem q285 : (Jvm.Cond.code ({ cls := "HandBlinds$Blind$1", name := "next", desc := "()LHandBlinds$Row;" } : Jvm.MethodName) prog_3_method_3_code (1 : Nat) (Option.some (Jvm.ClassFile.FieldType.object "HandBlinds$Row"))) ∈ lw_all := lw_g (lw_at lw_m2 0 rfl) rfl
theorem q286 : (Jvm.Cond.methodLink "HandBlinds$Blind$1" (29 : Nat) ({ cls := "java/util/ArrayList", name := "get", desc := "(I)Ljava/lang/Object;" } : Jvm.MethodName)) ∈ lw_all := lw_g (lw_at lw_m2 1 rfl) rfl
theorem q300 : (Jvm.Cond.classLink "HandBlinds$Blind$1" (33 : Nat) "HandBlinds$Row") ∈ lw_all := lw_g (lw_at lw_m2 15 rfl) rfl
theorem q377 : (Jvm.Cond.selects "HandBlinds$Blind$1" ({ cls := "java/lang/Object", name := "getClass", desc := "()Ljava/lang/Class;" } : Jvm.MethodName) ({ cls := "java/lang/Object", name := "getClass", desc := "()Ljava/lang/Class;" } : Jvm.MethodName)) ∈ lw_all := lw_g (lw_at lw_m2 92 rfl) rfl
theorem q1676 : (Jvm.Cond.castable "HandBlinds$Blind$1" "java/lang/Object") ∈ lw_tbl := lw_at lw_m7 191 rfl
theorem in_X3 : ∀ w ∈ wsX30, w ∈ lw_all := lw_in wsX30 [248, 250] (by decide +kernel) (by decide +kernel)
/-! HandBlinds$Name -/
set_option maxRecDepth 100000
def RX4 : String := "HandBlinds$Name"
def TX4 : u_T := fun k => match k with
  | _ => ("HandBlinds$Name", "letters", "Ljava/lang/String;", true)
def tyX4 : Nat → FieldType := fun k => match k with
  | _ => .object "java/lang/String"
abbrev wsX40 : List Cond := u_ws RX4 TX4 1
theorem nmX4 : ∀ a, a < 1 → ∀ b, b < 1 → a ≠ b → (TX4 a).2.1 ≠ (TX4 b).2.1 := by decide +kernel
theorem tyX4_ok : ∀ k, k < 1 → parseFieldDescriptor (TX4 k).2.2.1 = some (tyX4 k) := by decide +kernel
abbrev cX4_letters : ByteArray := prog_7_method_2_code
def yX4_letters : MethodName := ⟨RX4, "letters", "()Ljava/lang/String;"⟩
theorem dX4_letters_0 : decode cX4_letters 0 = .ok (.aload_n 0, 1) := by decide +kernel
theorem dX4_letters_1 : decode cX4_letters 1 = .ok (.getfield 7, 3) := by decide +kernel
theorem dX4_letters_4 : decode cX4_letters 4 = .ok (.areturn, 1) := by decide +kernel
abbrev cX4_init : ByteArray := prog_7_method_1_code
def yX4_init : MethodName := ⟨RX4, "<init>", "(Ljava/lang/String;)V"⟩
def dkwX4_init_0 : List UInt8 := [42, 183, 0, 1, 42, 43, 181, 0, 7, 177]
abbrev dktX4_init_0 : List UInt8 := dkwX4_init_0 ++ []
theorem dksX4_init_0 : cX4_init.data.toList.drop 0 = dktX4_init_0 := by decide +kernel
theorem dX4_init_0 : decode cX4_init 0 = .ok (.aload_n 0, 1) := dk_42 (dk_at dksX4_init_0 0 rfl rfl)
theorem dX4_init_1 : decode cX4_init 1 = .ok (.invokespecial 1, 3) := dk_183 0 1 (dk_at dksX4_init_0 1 rfl rfl)
theorem dX4_init_4 : decode cX4_init 4 = .ok (.aload_n 0, 1) := dk_42 (dk_at dksX4_init_0 4 rfl rfl)
theorem dX4_init_5 : decode cX4_init 5 = .ok (.aload_n 1, 1) := dk_43 (dk_at dksX4_init_0 5 rfl rfl)
theorem dX4_init_6 : decode cX4_init 6 = .ok (.putfield 7, 3) := dk_181 0 7 (dk_at dksX4_init_0 6 rfl rfl)
theorem dX4_init_9 : decode cX4_init 9 = .ok (.return_, 1) := dk_177 (dk_at dksX4_init_0 9 rfl rfl)
abbrev cX4_squeezed : ByteArray := prog_7_method_5_code
def yX4_squeezed : MethodName := ⟨RX4, "squeezed", "(I)I"⟩
def dkwX4_squeezed_0 : List UInt8 := [42, 182, 0, 37, 27, 164, 0, 15, 42, 182, 0, 37, 16, 100, 104, 27, 108, 167, 0, 5, 16, 100, 172]
abbrev dktX4_squeezed_0 : List UInt8 := dkwX4_squeezed_0 ++ []
theorem dksX4_squeezed_0 : cX4_squeezed.data.toList.drop 0 = dktX4_squeezed_0 := by decide +kernel
theorem dX4_squeezed_0 : decode cX4_squeezed 0 = .ok (.aload_n 0, 1) := dk_42 (dk_at dksX4_squeezed_0 0 rfl rfl)
theorem dX4_squeezed_1 : decode cX4_squeezed 1 = .ok (.invokevirtual 37, 3) := dk_182 0 37 (dk_at dksX4_squeezed_0 1 rfl rfl)
theorem dX4_squeezed_4 : decode cX4_squeezed 4 = .ok (.iload_n 1, 1) := dk_27 (dk_at dksX4_squeezed_0 4 rfl rfl)
theorem dX4_squeezed_5 : decode cX4_squeezed 5 = .ok (.if_icmp .le 15, 3) := dk_164 0 15 (dk_at dksX4_squeezed_0 5 rfl rfl)
theorem dX4_squeezed_8 : decode cX4_squeezed 8 = .ok (.aload_n 0, 1) := dk_42 (dk_at dksX4_squeezed_0 8 rfl rfl)
theorem dX4_squeezed_9 : decode cX4_squeezed 9 = .ok (.invokevirtual 37, 3) := dk_182 0 37 (dk_at dksX4_squeezed_0 9 rfl rfl)
theorem dX4_squeezed_12 : decode cX4_squeezed 12 = .ok (.bipush 100, 2) := dk_16 100 (dk_at dksX4_squeezed_0 12 rfl rfl)
theorem dX4_squeezed_14 : decode cX4_squeezed 14 = .ok (.imul, 1) := dk_104 (dk_at dksX4_squeezed_0 14 rfl rfl)
theorem dX4_squeezed_15 : decode cX4_squeezed 15 = .ok (.iload_n 1, 1) := dk_27 (dk_at dksX4_squeezed_0 15 rfl rfl)
theorem dX4_squeezed_16 : decode cX4_squeezed 16 = .ok (.idiv, 1) := dk_108 (dk_at dksX4_squeezed_0 16 rfl rfl)
theorem dX4_squeezed_17 : decode cX4_squeezed 17 = .ok (.goto 5, 3) := dk_167 0 5 (dk_at dksX4_squeezed_0 17 rfl rfl)
theorem dX4_squeezed_20 : decode cX4_squeezed 20 = .ok (.bipush 100, 2) := dk_16 100 (dk_at dksX4_squeezed_0 20 rfl rfl)
theorem dX4_squeezed_22 : decode cX4_squeezed 22 = .ok (.ireturn, 1) := dk_172 (dk_at dksX4_squeezed_0 22 rfl rfl)
abbrev cX4_wide : ByteArray := prog_7_method_4_code
def yX4_wide : MethodName := ⟨RX4, "wide", "()I"⟩
theorem dX4_wide_0 : decode cX4_wide 0 = .ok (.aload_n 0, 1) := by decide +kernel
theorem dX4_wide_1 : decode cX4_wide 1 = .ok (.invokespecial 32, 3) := by decide +kernel
theorem dX4_wide_4 : decode cX4_wide 4 = .ok (.ireturn, 1) := by decide +kernel
abbrev cX4_kind : ByteArray := prog_7_method_3_code
def yX4_kind : MethodName := ⟨RX4, "kind", "()I"⟩
def dkwX4_kind_5 : List UInt8 := [4, 172, 5, 172, 6, 172, 42, 180, 0, 7, 182, 0, 29, 4, 160, 0, 7, 7, 167, 0, 4, 3, 172]
abbrev dktX4_kind_5 : List UInt8 := dkwX4_kind_5 ++ []
def dkwX4_kind_4 : List UInt8 := [170, 0, 0, 0, 0, 0, 0, 34, 0, 0, 0, 0, 0, 0, 0, 2, 0, 0, 0, 28, 0, 0, 0, 30, 0, 0, 0, 32]
abbrev dktX4_kind_4 : List UInt8 := dkwX4_kind_4 ++ dktX4_kind_5
def dkwX4_kind_3 : List UInt8 := [61, 167, 0, 14, 43, 18, 27, 182, 0, 21, 153, 0, 5, 5, 61, 28]
abbrev dktX4_kind_3 : List UInt8 := dkwX4_kind_3 ++ dktX4_kind_4
def dkwX4_kind_2 : List UInt8 := [43, 18, 19, 182, 0, 21, 153, 0, 33, 3, 61, 167, 0, 28, 43, 18, 25, 182, 0, 21, 153, 0, 19, 4]
abbrev dktX4_kind_2 : List UInt8 := dkwX4_kind_2 ++ dktX4_kind_3
def dkwX4_kind_1 : List UInt8 := [171, 0, 0, 0, 72, 0, 0, 0, 3, 3, 222, 210, 20, 0, 0, 0, 33, 4, 182, 198, 61, 0, 0, 0, 47, 24, 12, 177, 99, 0, 0, 0, 61]
abbrev dktX4_kind_1 : List UInt8 := dkwX4_kind_1 ++ dktX4_kind_2
def dkwX4_kind_0 : List UInt8 := [42, 180, 0, 7, 76, 2, 61, 43, 182, 0, 13]
abbrev dktX4_kind_0 : List UInt8 := dkwX4_kind_0 ++ dktX4_kind_1
theorem dksX4_kind_0 : cX4_kind.data.toList.drop 0 = dktX4_kind_0 := by decide +kernel
theorem dksX4_kind_1 : cX4_kind.data.toList.drop 11 = dktX4_kind_1 := dk_seg dksX4_kind_0 11 rfl rfl
theorem dksX4_kind_2 : cX4_kind.data.toList.drop 44 = dktX4_kind_2 := dk_seg dksX4_kind_1 33 rfl rfl
theorem dksX4_kind_3 : cX4_kind.data.toList.drop 68 = dktX4_kind_3 := dk_seg dksX4_kind_2 24 rfl rfl
theorem dksX4_kind_4 : cX4_kind.data.toList.drop 84 = dktX4_kind_4 := dk_seg dksX4_kind_3 16 rfl rfl
theorem dksX4_kind_5 : cX4_kind.data.toList.drop 112 = dktX4_kind_5 := dk_seg dksX4_kind_4 28 rfl rfl
theorem dX4_kind_0 : decode cX4_kind 0 = .ok (.aload_n 0, 1) := dk_42 (dk_at dksX4_kind_0 0 rfl rfl)
theorem dX4_kind_1 : decode cX4_kind 1 = .ok (.getfield 7, 3) := dk_180 0 7 (dk_at dksX4_kind_0 1 rfl rfl)
theorem dX4_kind_4 : decode cX4_kind 4 = .ok (.astore_n 1, 1) := dk_76 (dk_at dksX4_kind_0 4 rfl rfl)
theorem dX4_kind_5 : decode cX4_kind 5 = .ok (.iconst (-1), 1) := dk_2 (dk_at dksX4_kind_0 5 rfl rfl)
theorem dX4_kind_6 : decode cX4_kind 6 = .ok (.istore_n 2, 1) := dk_61 (dk_at dksX4_kind_0 6 rfl rfl)
theorem dX4_kind_7 : decode cX4_kind 7 = .ok (.aload_n 1, 1) := dk_43 (dk_at dksX4_kind_0 7 rfl rfl)
theorem dX4_kind_8 : decode cX4_kind 8 = .ok (.invokevirtual 13, 3) := dk_182 0 13 (dk_at dksX4_kind_0 8 rfl rfl)
theorem dX4_kind_11 : decode cX4_kind 11 = .ok (.lookupswitch 72 #[(64934420, 33), (79087165, 47), (403485027, 61)], 33) := by decide +kernel
theorem dX4_kind_44 : decode cX4_kind 44 = .ok (.aload_n 1, 1) := dk_43 (dk_at dksX4_kind_2 0 rfl rfl)
theorem dX4_kind_45 : decode cX4_kind 45 = .ok (.ldc 19, 2) := dk_18 19 (dk_at dksX4_kind_2 1 rfl rfl)
theorem dX4_kind_47 : decode cX4_kind 47 = .ok (.invokevirtual 21, 3) := dk_182 0 21 (dk_at dksX4_kind_2 3 rfl rfl)
theorem dX4_kind_50 : decode cX4_kind 50 = .ok (.ifCond .eq 33, 3) := dk_153 0 33 (dk_at dksX4_kind_2 6 rfl rfl)
theorem dX4_kind_53 : decode cX4_kind 53 = .ok (.iconst 0, 1) := dk_3 (dk_at dksX4_kind_2 9 rfl rfl)
theorem dX4_kind_54 : decode cX4_kind 54 = .ok (.istore_n 2, 1) := dk_61 (dk_at dksX4_kind_2 10 rfl rfl)
theorem dX4_kind_55 : decode cX4_kind 55 = .ok (.goto 28, 3) := dk_167 0 28 (dk_at dksX4_kind_2 11 rfl rfl)
theorem dX4_kind_58 : decode cX4_kind 58 = .ok (.aload_n 1, 1) := dk_43 (dk_at dksX4_kind_2 14 rfl rfl)
theorem dX4_kind_59 : decode cX4_kind 59 = .ok (.ldc 25, 2) := dk_18 25 (dk_at dksX4_kind_2 15 rfl rfl)
theorem dX4_kind_61 : decode cX4_kind 61 = .ok (.invokevirtual 21, 3) := dk_182 0 21 (dk_at dksX4_kind_2 17 rfl rfl)
theorem dX4_kind_64 : decode cX4_kind 64 = .ok (.ifCond .eq 19, 3) := dk_153 0 19 (dk_at dksX4_kind_2 20 rfl rfl)
theorem dX4_kind_67 : decode cX4_kind 67 = .ok (.iconst 1, 1) := dk_4 (dk_at dksX4_kind_2 23 rfl rfl)
theorem dX4_kind_68 : decode cX4_kind 68 = .ok (.istore_n 2, 1) := dk_61 (dk_at dksX4_kind_3 0 rfl rfl)
theorem dX4_kind_69 : decode cX4_kind 69 = .ok (.goto 14, 3) := dk_167 0 14 (dk_at dksX4_kind_3 1 rfl rfl)
theorem dX4_kind_72 : decode cX4_kind 72 = .ok (.aload_n 1, 1) := dk_43 (dk_at dksX4_kind_3 4 rfl rfl)
theorem dX4_kind_73 : decode cX4_kind 73 = .ok (.ldc 27, 2) := dk_18 27 (dk_at dksX4_kind_3 5 rfl rfl)
theorem dX4_kind_75 : decode cX4_kind 75 = .ok (.invokevirtual 21, 3) := dk_182 0 21 (dk_at dksX4_kind_3 7 rfl rfl)
theorem dX4_kind_78 : decode cX4_kind 78 = .ok (.ifCond .eq 5, 3) := dk_153 0 5 (dk_at dksX4_kind_3 10 rfl rfl)
theorem dX4_kind_81 : decode cX4_kind 81 = .ok (.iconst 2, 1) := dk_5 (dk_at dksX4_kind_3 13 rfl rfl)
theorem dX4_kind_82 : decode cX4_kind 82 = .ok (.istore_n 2, 1) := dk_61 (dk_at dksX4_kind_3 14 rfl rfl)
theorem dX4_kind_83 : decode cX4_kind 83 = .ok (.iload_n 2, 1) := dk_28 (dk_at dksX4_kind_3 15 rfl rfl)
theorem dX4_kind_84 : decode cX4_kind 84 = .ok (.tableswitch 34 0 2 #[28, 30, 32], 28) := by decide +kernel
theorem dX4_kind_112 : decode cX4_kind 112 = .ok (.iconst 1, 1) := dk_4 (dk_at dksX4_kind_5 0 rfl rfl)
theorem dX4_kind_113 : decode cX4_kind 113 = .ok (.ireturn, 1) := dk_172 (dk_at dksX4_kind_5 1 rfl rfl)
theorem dX4_kind_114 : decode cX4_kind 114 = .ok (.iconst 2, 1) := dk_5 (dk_at dksX4_kind_5 2 rfl rfl)
theorem dX4_kind_115 : decode cX4_kind 115 = .ok (.ireturn, 1) := dk_172 (dk_at dksX4_kind_5 3 rfl rfl)
theorem dX4_kind_116 : decode cX4_kind 116 = .ok (.iconst 3, 1) := dk_6 (dk_at dksX4_kind_5 4 rfl rfl)
theorem dX4_kind_117 : decode cX4_kind 117 = .ok (.ireturn, 1) := dk_172 (dk_at dksX4_kind_5 5 rfl rfl)
theorem dX4_kind_118 : decode cX4_kind 118 = .ok (.aload_n 0, 1) := dk_42 (dk_at dksX4_kind_5 6 rfl rfl)
theorem dX4_kind_119 : decode cX4_kind 119 = .ok (.getfield 7, 3) := dk_180 0 7 (dk_at dksX4_kind_5 7 rfl rfl)
theorem dX4_kind_122 : decode cX4_kind 122 = .ok (.invokevirtual 29, 3) := dk_182 0 29 (dk_at dksX4_kind_5 10 rfl rfl)
theorem dX4_kind_125 : decode cX4_kind 125 = .ok (.iconst 1, 1) := dk_4 (dk_at dksX4_kind_5 13 rfl rfl)
theorem dX4_kind_126 : decode cX4_kind 126 = .ok (.if_icmp .ne 7, 3) := dk_160 0 7 (dk_at dksX4_kind_5 14 rfl rfl)
theorem dX4_kind_129 : decode cX4_kind 129 = .ok (.iconst 4, 1) := dk_7 (dk_at dksX4_kind_5 17 rfl rfl)
theorem dX4_kind_130 : decode cX4_kind 130 = .ok (.goto 4, 3) := dk_167 0 4 (dk_at dksX4_kind_5 18 rfl rfl)
theorem dX4_kind_133 : decode cX4_kind 133 = .ok (.iconst 0, 1) := dk_3 (dk_at dksX4_kind_5 21 rfl rfl)
theorem dX4_kind_134 : decode cX4_kind 134 = .ok (.ireturn, 1) := dk_172 (dk_at dksX4_kind_5 22 rfl rfl)
theorem q60 : (Jvm.Cond.initialized "HandBlinds$Name") ∈ lw_all := lw_g (lw_at lw_m1 15 rfl) rfl
theorem q317 : (Jvm.Cond.declares ({ cls := "HandBlinds$Name", name := "letters", desc := "()Ljava/lang/String;" } : Jvm.MethodName)) ∈ lw_tbl := lw_at lw_m2 32 rfl
theorem q319 : (Jvm.Cond.instanceMethod ({ cls := "HandBlinds$Name", name := "letters", desc := "()Ljava/lang/String;" } : Jvm.MethodName)) ∈ lw_all := lw_g (lw_at lw_m2 34 rfl) rfl
theorem q320 : (Jvm.Cond.code ({ cls := "HandBlinds$Name", name := "letters", desc := "()Ljava/lang/String;" } : Jvm.MethodName) prog_7_method_2_code (1 : Nat) (Option.some (Jvm.ClassFile.FieldType.object "java/lang/String"))) ∈ lw_all := lw_g (lw_at lw_m2 35 rfl) rfl
theorem q322 : (Jvm.Cond.instanceMethod ({ cls := "HandBlinds$Name", name := "<init>", desc := "(Ljava/lang/String;)V" } : Jvm.MethodName)) ∈ lw_all := lw_g (lw_at lw_m2 37 rfl) rfl
theorem q323 : (Jvm.Cond.code ({ cls := "HandBlinds$Name", name := "<init>", desc := "(Ljava/lang/String;)V" } : Jvm.MethodName) prog_7_method_1_code (2 : Nat) (Option.none : Option Jvm.ClassFile.FieldType)) ∈ lw_all := lw_g (lw_at lw_m2 38 rfl) rfl
theorem q324 : (Jvm.Cond.methodLink "HandBlinds$Name" (1 : Nat) ({ cls := "java/lang/Object", name := "<init>", desc := "()V" } : Jvm.MethodName)) ∈ lw_all := lw_g (lw_at lw_m2 39 rfl) rfl
theorem q333 : (Jvm.Cond.fieldLink "HandBlinds$Name" (7 : Nat) "HandBlinds$Name" "letters" "Ljava/lang/String;") ∈ lw_all := lw_g (lw_at lw_m2 48 rfl) rfl
theorem q341 : (Jvm.Cond.soleField "HandBlinds$Name" "letters") ∈ lw_all := lw_g (lw_at lw_m2 56 rfl) rfl
theorem q380 : (Jvm.Cond.selects "HandBlinds$Name" ({ cls := "java/lang/Object", name := "getClass", desc := "()Ljava/lang/Class;" } : Jvm.MethodName) ({ cls := "java/lang/Object", name := "getClass", desc := "()Ljava/lang/Class;" } : Jvm.MethodName)) ∈ lw_all := lw_g (lw_at lw_m2 95 rfl) rfl
theorem q816 : (Jvm.Cond.instantiable "HandBlinds$Name" (1 : Nat)) ∈ lw_all := lw_g (lw_at lw_m4 51 rfl) rfl
theorem q818 : (Jvm.Cond.laysFinal "HandBlinds$Name" "HandBlinds$Name" "letters" "Ljava/lang/String;") ∈ lw_all := lw_g (lw_at lw_m4 53 rfl) rfl
theorem q819 : (Jvm.Cond.superclass "HandBlinds$Name" "java/lang/Object") ∈ lw_all := lw_g (lw_at lw_m4 54 rfl) rfl
theorem q821 : (Jvm.Cond.instanceMethod ({ cls := "HandBlinds$Name", name := "squeezed", desc := "(I)I" } : Jvm.MethodName)) ∈ lw_all := lw_g (lw_at lw_m4 56 rfl) rfl
theorem q822 : (Jvm.Cond.selects "HandBlinds$Name" ({ cls := "HandBlinds$Name", name := "squeezed", desc := "(I)I" } : Jvm.MethodName) ({ cls := "HandBlinds$Name", name := "squeezed", desc := "(I)I" } : Jvm.MethodName)) ∈ lw_all := lw_g (lw_at lw_m4 57 rfl) rfl
theorem q823 : (Jvm.Cond.sameMethod "HandBlinds$Name" "HandBlinds$Name" "squeezed" "(I)I") ∈ lw_all := lw_g (lw_at lw_m4 58 rfl) rfl
theorem q825 : (Jvm.Cond.code ({ cls := "HandBlinds$Name", name := "squeezed", desc := "(I)I" } : Jvm.MethodName) prog_7_method_5_code (2 : Nat) (Option.some Jvm.ClassFile.FieldType.int)) ∈ lw_all := lw_g (lw_at lw_m4 60 rfl) rfl
theorem q826 : (Jvm.Cond.methodLink "HandBlinds$Name" (37 : Nat) ({ cls := "HandBlinds$Name", name := "wide", desc := "()I" } : Jvm.MethodName)) ∈ lw_all := lw_g (lw_at lw_m4 61 rfl) rfl
theorem q827 : (Jvm.Cond.instanceMethod ({ cls := "HandBlinds$Name", name := "wide", desc := "()I" } : Jvm.MethodName)) ∈ lw_all := lw_g (lw_at lw_m4 62 rfl) rfl
theorem q828 : (Jvm.Cond.selects "HandBlinds$Name" ({ cls := "HandBlinds$Name", name := "wide", desc := "()I" } : Jvm.MethodName) ({ cls := "HandBlinds$Name", name := "wide", desc := "()I" } : Jvm.MethodName)) ∈ lw_all := lw_g (lw_at lw_m4 63 rfl) rfl
theorem q829 : (Jvm.Cond.sameMethod "HandBlinds$Name" "HandBlinds$Name" "wide" "()I") ∈ lw_all := lw_g (lw_at lw_m4 64 rfl) rfl
theorem q833 : (Jvm.Cond.code ({ cls := "HandBlinds$Name", name := "wide", desc := "()I" } : Jvm.MethodName) prog_7_method_4_code (1 : Nat) (Option.some Jvm.ClassFile.FieldType.int)) ∈ lw_all := lw_g (lw_at lw_m4 68 rfl) rfl
theorem q834 : (Jvm.Cond.methodLink "HandBlinds$Name" (32 : Nat) ({ cls := "HandBlinds$Lettered", name := "wide", desc := "()I" } : Jvm.MethodName)) ∈ lw_all := lw_g (lw_at lw_m4 69 rfl) rfl
theorem q843 : (Jvm.Cond.castable "HandBlinds$Name" "HandBlinds$Lettered") ∈ lw_tbl := lw_at lw_m4 78 rfl
theorem q844 : (Jvm.Cond.selects "HandBlinds$Name" ({ cls := "HandBlinds$Lettered", name := "letters", desc := "()Ljava/lang/String;" } : Jvm.MethodName) ({ cls := "HandBlinds$Name", name := "letters", desc := "()Ljava/lang/String;" } : Jvm.MethodName)) ∈ lw_all := lw_g (lw_at lw_m4 79 rfl) rfl
theorem q845 : (Jvm.Cond.unhidden "HandBlinds$Name" "letters" "()Ljava/lang/String;") ∈ lw_tbl := lw_at lw_m4 80 rfl
theorem q846 : (Jvm.Cond.publicMethod ({ cls := "HandBlinds$Name", name := "letters", desc := "()Ljava/lang/String;" } : Jvm.MethodName)) ∈ lw_tbl := lw_at lw_m4 81 rfl
theorem q1077 : (Jvm.Cond.declares ({ cls := "HandBlinds$Name", name := "kind", desc := "()I" } : Jvm.MethodName)) ∈ lw_tbl := lw_at lw_m5 72 rfl
theorem q1079 : (Jvm.Cond.instanceMethod ({ cls := "HandBlinds$Name", name := "kind", desc := "()I" } : Jvm.MethodName)) ∈ lw_all := lw_g (lw_at lw_m5 74 rfl) rfl
theorem q1080 : (Jvm.Cond.code ({ cls := "HandBlinds$Name", name := "kind", desc := "()I" } : Jvm.MethodName) prog_7_method_3_code (3 : Nat) (Option.some Jvm.ClassFile.FieldType.int)) ∈ lw_all := lw_g (lw_at lw_m5 75 rfl) rfl
theorem q1081 : (Jvm.Cond.methodLink "HandBlinds$Name" (13 : Nat) ({ cls := "java/lang/String", name := "hashCode", desc := "()I" } : Jvm.MethodName)) ∈ lw_all := lw_g (lw_at lw_m5 76 rfl) rfl
theorem q1130 : (Jvm.Cond.stringRef "HandBlinds$Name" (19 : Nat) "DEPOT") ∈ lw_tbl := lw_at lw_m5 125 rfl
theorem q1131 : (Jvm.Cond.methodLink "HandBlinds$Name" (21 : Nat) ({ cls := "java/lang/String", name := "equals", desc := "(Ljava/lang/Object;)Z" } : Jvm.MethodName)) ∈ lw_all := lw_g (lw_at lw_m5 126 rfl) rfl
theorem q1139 : (Jvm.Cond.stringRef "HandBlinds$Name" (25 : Nat) "SORRY") ∈ lw_tbl := lw_at lw_m5 134 rfl
theorem q1140 : (Jvm.Cond.stringRef "HandBlinds$Name" (27 : Nat) "PRIVATE") ∈ lw_tbl := lw_at lw_m5 135 rfl
theorem q1141 : (Jvm.Cond.methodLink "HandBlinds$Name" (29 : Nat) ({ cls := "java/lang/String", name := "length", desc := "()I" } : Jvm.MethodName)) ∈ lw_all := lw_g (lw_at lw_m5 136 rfl) rfl
theorem q1145 : (Jvm.Cond.declares ({ cls := "HandBlinds$Name", name := "squeezed", desc := "(I)I" } : Jvm.MethodName)) ∈ lw_tbl := lw_at lw_m5 140 rfl
theorem q1659 : (Jvm.Cond.sameMethod "HandBlinds$Name" "HandBlinds$Name" "letters" "()Ljava/lang/String;") ∈ lw_all := lw_g (lw_at lw_m7 174 rfl) rfl
theorem q1660 : (Jvm.Cond.selects "HandBlinds$Name" ({ cls := "HandBlinds$Name", name := "letters", desc := "()Ljava/lang/String;" } : Jvm.MethodName) ({ cls := "HandBlinds$Name", name := "letters", desc := "()Ljava/lang/String;" } : Jvm.MethodName)) ∈ lw_all := lw_g (lw_at lw_m7 175 rfl) rfl
theorem q1683 : (Jvm.Cond.castable "HandBlinds$Name" "java/lang/Object") ∈ lw_tbl := lw_at lw_m7 198 rfl
theorem in_X4 : ∀ w ∈ wsX40, w ∈ lw_all := lw_in wsX40 [818] (by decide +kernel) (by decide +kernel)
/-! HandBlinds$Row -/
set_option maxRecDepth 100000
def RX5 : String := "HandBlinds$Row"
def TX5 : u_T := fun k => match k with
  | 0 => ("HandBlinds$Name", "letters", "Ljava/lang/String;", true)
  | 1 => ("HandBlinds$Row", "width", "I", true)
  | 2 => ("HandBlinds$Row", "wear", "I", false)
  | _ => ("HandBlinds$Row", "isTorn", "Z", false)
def tyX5 : Nat → FieldType := fun k => match k with
  | 0 => .object "java/lang/String"
  | 1 => .int
  | 2 => .int
  | _ => .boolean
abbrev wsX50 : List Cond := u_ws RX5 TX5 4
theorem nmX5 : ∀ a, a < 4 → ∀ b, b < 4 → a ≠ b → (TX5 a).2.1 ≠ (TX5 b).2.1 := by decide +kernel
theorem tyX5_ok : ∀ k, k < 4 → parseFieldDescriptor (TX5 k).2.2.1 = some (tyX5 k) := by decide +kernel
abbrev cX5_init : ByteArray := prog_10_method_2_code
def yX5_init : MethodName := ⟨RX5, "<init>", "(LHandBlinds$Row;)V"⟩
def dkwX5_init_1 : List UInt8 := [42, 43, 180, 0, 25, 181, 0, 25, 177]
abbrev dktX5_init_1 : List UInt8 := dkwX5_init_1 ++ []
def dkwX5_init_0 : List UInt8 := [42, 43, 182, 0, 21, 183, 0, 7, 42, 43, 180, 0, 15, 181, 0, 15, 42, 43, 180, 0, 22, 181, 0, 22]
abbrev dktX5_init_0 : List UInt8 := dkwX5_init_0 ++ dktX5_init_1
theorem dksX5_init_0 : cX5_init.data.toList.drop 0 = dktX5_init_0 := by decide +kernel
theorem dksX5_init_1 : cX5_init.data.toList.drop 24 = dktX5_init_1 := dk_seg dksX5_init_0 24 rfl rfl
theorem dX5_init_0 : decode cX5_init 0 = .ok (.aload_n 0, 1) := dk_42 (dk_at dksX5_init_0 0 rfl rfl)
theorem dX5_init_1 : decode cX5_init 1 = .ok (.aload_n 1, 1) := dk_43 (dk_at dksX5_init_0 1 rfl rfl)
theorem dX5_init_2 : decode cX5_init 2 = .ok (.invokevirtual 21, 3) := dk_182 0 21 (dk_at dksX5_init_0 2 rfl rfl)
theorem dX5_init_5 : decode cX5_init 5 = .ok (.invokespecial 7, 3) := dk_183 0 7 (dk_at dksX5_init_0 5 rfl rfl)
theorem dX5_init_8 : decode cX5_init 8 = .ok (.aload_n 0, 1) := dk_42 (dk_at dksX5_init_0 8 rfl rfl)
theorem dX5_init_9 : decode cX5_init 9 = .ok (.aload_n 1, 1) := dk_43 (dk_at dksX5_init_0 9 rfl rfl)
theorem dX5_init_10 : decode cX5_init 10 = .ok (.getfield 15, 3) := dk_180 0 15 (dk_at dksX5_init_0 10 rfl rfl)
theorem dX5_init_13 : decode cX5_init 13 = .ok (.putfield 15, 3) := dk_181 0 15 (dk_at dksX5_init_0 13 rfl rfl)
theorem dX5_init_16 : decode cX5_init 16 = .ok (.aload_n 0, 1) := dk_42 (dk_at dksX5_init_0 16 rfl rfl)
theorem dX5_init_17 : decode cX5_init 17 = .ok (.aload_n 1, 1) := dk_43 (dk_at dksX5_init_0 17 rfl rfl)
theorem dX5_init_18 : decode cX5_init 18 = .ok (.getfield 22, 3) := dk_180 0 22 (dk_at dksX5_init_0 18 rfl rfl)
theorem dX5_init_21 : decode cX5_init 21 = .ok (.putfield 22, 3) := dk_181 0 22 (dk_at dksX5_init_0 21 rfl rfl)
theorem dX5_init_24 : decode cX5_init 24 = .ok (.aload_n 0, 1) := dk_42 (dk_at dksX5_init_1 0 rfl rfl)
theorem dX5_init_25 : decode cX5_init 25 = .ok (.aload_n 1, 1) := dk_43 (dk_at dksX5_init_1 1 rfl rfl)
theorem dX5_init_26 : decode cX5_init 26 = .ok (.getfield 25, 3) := dk_180 0 25 (dk_at dksX5_init_1 2 rfl rfl)
theorem dX5_init_29 : decode cX5_init 29 = .ok (.putfield 25, 3) := dk_181 0 25 (dk_at dksX5_init_1 5 rfl rfl)
theorem dX5_init_32 : decode cX5_init 32 = .ok (.return_, 1) := dk_177 (dk_at dksX5_init_1 8 rfl rfl)
abbrev cX5_wide : ByteArray := prog_10_method_3_code
def yX5_wide : MethodName := ⟨RX5, "wide", "()I"⟩
theorem dX5_wide_0 : decode cX5_wide 0 = .ok (.aload_n 0, 1) := by decide +kernel
theorem dX5_wide_1 : decode cX5_wide 1 = .ok (.getfield 15, 3) := by decide +kernel
theorem dX5_wide_4 : decode cX5_wide 4 = .ok (.ireturn, 1) := by decide +kernel
abbrev cX5_init_2 : ByteArray := prog_10_method_1_code
def yX5_init_2 : MethodName := ⟨RX5, "<init>", "(LHandBlinds$Name;)V"⟩
def dkwX5_init_2_0 : List UInt8 := [42, 43, 182, 0, 1, 183, 0, 7, 42, 42, 183, 0, 11, 181, 0, 15, 177]
abbrev dktX5_init_2_0 : List UInt8 := dkwX5_init_2_0 ++ []
theorem dksX5_init_2_0 : cX5_init_2.data.toList.drop 0 = dktX5_init_2_0 := by decide +kernel
theorem dX5_init_2_0 : decode cX5_init_2 0 = .ok (.aload_n 0, 1) := dk_42 (dk_at dksX5_init_2_0 0 rfl rfl)
theorem dX5_init_2_1 : decode cX5_init_2 1 = .ok (.aload_n 1, 1) := dk_43 (dk_at dksX5_init_2_0 1 rfl rfl)
theorem dX5_init_2_2 : decode cX5_init_2 2 = .ok (.invokevirtual 1, 3) := dk_182 0 1 (dk_at dksX5_init_2_0 2 rfl rfl)
theorem dX5_init_2_5 : decode cX5_init_2 5 = .ok (.invokespecial 7, 3) := dk_183 0 7 (dk_at dksX5_init_2_0 5 rfl rfl)
theorem dX5_init_2_8 : decode cX5_init_2 8 = .ok (.aload_n 0, 1) := dk_42 (dk_at dksX5_init_2_0 8 rfl rfl)
theorem dX5_init_2_9 : decode cX5_init_2 9 = .ok (.aload_n 0, 1) := dk_42 (dk_at dksX5_init_2_0 9 rfl rfl)
theorem dX5_init_2_10 : decode cX5_init_2 10 = .ok (.invokespecial 11, 3) := dk_183 0 11 (dk_at dksX5_init_2_0 10 rfl rfl)
theorem dX5_init_2_13 : decode cX5_init_2 13 = .ok (.putfield 15, 3) := dk_181 0 15 (dk_at dksX5_init_2_0 13 rfl rfl)
theorem dX5_init_2_16 : decode cX5_init_2 16 = .ok (.return_, 1) := dk_177 (dk_at dksX5_init_2_0 16 rfl rfl)
abbrev cX5_wears : ByteArray := prog_10_method_4_code
def yX5_wears : MethodName := ⟨RX5, "wears", "(II)Z"⟩
def dkwX5_wears_1 : List UInt8 := [154, 0, 7, 4, 167, 0, 4, 3, 62, 42, 89, 180, 0, 25, 29, 128, 181, 0, 25, 29, 172]
abbrev dktX5_wears_1 : List UInt8 := dkwX5_wears_1 ++ []
def dkwX5_wears_0 : List UInt8 := [42, 89, 180, 0, 22, 27, 96, 181, 0, 22, 42, 180, 0, 22, 28, 164, 0, 14, 42, 180, 0, 25]
abbrev dktX5_wears_0 : List UInt8 := dkwX5_wears_0 ++ dktX5_wears_1
theorem dksX5_wears_0 : cX5_wears.data.toList.drop 0 = dktX5_wears_0 := by decide +kernel
theorem dksX5_wears_1 : cX5_wears.data.toList.drop 22 = dktX5_wears_1 := dk_seg dksX5_wears_0 22 rfl rfl
theorem dX5_wears_0 : decode cX5_wears 0 = .ok (.aload_n 0, 1) := dk_42 (dk_at dksX5_wears_0 0 rfl rfl)
theorem dX5_wears_1 : decode cX5_wears 1 = .ok (.dup, 1) := dk_89 (dk_at dksX5_wears_0 1 rfl rfl)
theorem dX5_wears_2 : decode cX5_wears 2 = .ok (.getfield 22, 3) := dk_180 0 22 (dk_at dksX5_wears_0 2 rfl rfl)
theorem dX5_wears_5 : decode cX5_wears 5 = .ok (.iload_n 1, 1) := dk_27 (dk_at dksX5_wears_0 5 rfl rfl)
theorem dX5_wears_6 : decode cX5_wears 6 = .ok (.iadd, 1) := dk_96 (dk_at dksX5_wears_0 6 rfl rfl)
theorem dX5_wears_7 : decode cX5_wears 7 = .ok (.putfield 22, 3) := dk_181 0 22 (dk_at dksX5_wears_0 7 rfl rfl)
theorem dX5_wears_10 : decode cX5_wears 10 = .ok (.aload_n 0, 1) := dk_42 (dk_at dksX5_wears_0 10 rfl rfl)
theorem dX5_wears_11 : decode cX5_wears 11 = .ok (.getfield 22, 3) := dk_180 0 22 (dk_at dksX5_wears_0 11 rfl rfl)
theorem dX5_wears_14 : decode cX5_wears 14 = .ok (.iload_n 2, 1) := dk_28 (dk_at dksX5_wears_0 14 rfl rfl)
theorem dX5_wears_15 : decode cX5_wears 15 = .ok (.if_icmp .le 14, 3) := dk_164 0 14 (dk_at dksX5_wears_0 15 rfl rfl)
theorem dX5_wears_18 : decode cX5_wears 18 = .ok (.aload_n 0, 1) := dk_42 (dk_at dksX5_wears_0 18 rfl rfl)
theorem dX5_wears_19 : decode cX5_wears 19 = .ok (.getfield 25, 3) := dk_180 0 25 (dk_at dksX5_wears_0 19 rfl rfl)
theorem dX5_wears_22 : decode cX5_wears 22 = .ok (.ifCond .ne 7, 3) := dk_154 0 7 (dk_at dksX5_wears_1 0 rfl rfl)
theorem dX5_wears_25 : decode cX5_wears 25 = .ok (.iconst 1, 1) := dk_4 (dk_at dksX5_wears_1 3 rfl rfl)
theorem dX5_wears_26 : decode cX5_wears 26 = .ok (.goto 4, 3) := dk_167 0 4 (dk_at dksX5_wears_1 4 rfl rfl)
theorem dX5_wears_29 : decode cX5_wears 29 = .ok (.iconst 0, 1) := dk_3 (dk_at dksX5_wears_1 7 rfl rfl)
theorem dX5_wears_30 : decode cX5_wears 30 = .ok (.istore_n 3, 1) := dk_62 (dk_at dksX5_wears_1 8 rfl rfl)
theorem dX5_wears_31 : decode cX5_wears 31 = .ok (.aload_n 0, 1) := dk_42 (dk_at dksX5_wears_1 9 rfl rfl)
theorem dX5_wears_32 : decode cX5_wears 32 = .ok (.dup, 1) := dk_89 (dk_at dksX5_wears_1 10 rfl rfl)
theorem dX5_wears_33 : decode cX5_wears 33 = .ok (.getfield 25, 3) := dk_180 0 25 (dk_at dksX5_wears_1 11 rfl rfl)
theorem dX5_wears_36 : decode cX5_wears 36 = .ok (.iload_n 3, 1) := dk_29 (dk_at dksX5_wears_1 14 rfl rfl)
theorem dX5_wears_37 : decode cX5_wears 37 = .ok (.ior, 1) := dk_128 (dk_at dksX5_wears_1 15 rfl rfl)
theorem dX5_wears_38 : decode cX5_wears 38 = .ok (.putfield 25, 3) := dk_181 0 25 (dk_at dksX5_wears_1 16 rfl rfl)
theorem dX5_wears_41 : decode cX5_wears 41 = .ok (.iload_n 3, 1) := dk_29 (dk_at dksX5_wears_1 19 rfl rfl)
theorem dX5_wears_42 : decode cX5_wears 42 = .ok (.ireturn, 1) := dk_172 (dk_at dksX5_wears_1 20 rfl rfl)
theorem q61 : (Jvm.Cond.initialized "HandBlinds$Row") ∈ lw_all := lw_g (lw_at lw_m1 16 rfl) rfl
theorem q311 : (Jvm.Cond.instantiable "HandBlinds$Row" (4 : Nat)) ∈ lw_all := lw_g (lw_at lw_m2 26 rfl) rfl
theorem q313 : (Jvm.Cond.instanceMethod ({ cls := "HandBlinds$Row", name := "<init>", desc := "(LHandBlinds$Row;)V" } : Jvm.MethodName)) ∈ lw_all := lw_g (lw_at lw_m2 28 rfl) rfl
theorem q314 : (Jvm.Cond.code ({ cls := "HandBlinds$Row", name := "<init>", desc := "(LHandBlinds$Row;)V" } : Jvm.MethodName) prog_10_method_2_code (2 : Nat) (Option.none : Option Jvm.ClassFile.FieldType)) ∈ lw_all := lw_g (lw_at lw_m2 29 rfl) rfl
theorem q315 : (Jvm.Cond.methodLink "HandBlinds$Row" (21 : Nat) ({ cls := "HandBlinds$Row", name := "letters", desc := "()Ljava/lang/String;" } : Jvm.MethodName)) ∈ lw_all := lw_g (lw_at lw_m2 30 rfl) rfl
theorem q316 : (Jvm.Cond.sameMethod "HandBlinds$Row" "HandBlinds$Name" "letters" "()Ljava/lang/String;") ∈ lw_all := lw_g (lw_at lw_m2 31 rfl) rfl
theorem q318 : (Jvm.Cond.selects "HandBlinds$Row" ({ cls := "HandBlinds$Row", name := "letters", desc := "()Ljava/lang/String;" } : Jvm.MethodName) ({ cls := "HandBlinds$Name", name := "letters", desc := "()Ljava/lang/String;" } : Jvm.MethodName)) ∈ lw_all := lw_g (lw_at lw_m2 33 rfl) rfl
theorem q321 : (Jvm.Cond.methodLink "HandBlinds$Row" (7 : Nat) ({ cls := "HandBlinds$Name", name := "<init>", desc := "(Ljava/lang/String;)V" } : Jvm.MethodName)) ∈ lw_all := lw_g (lw_at lw_m2 36 rfl) rfl
theorem q325 : (Jvm.Cond.fieldLink "HandBlinds$Row" (15 : Nat) "HandBlinds$Row" "width" "I") ∈ lw_all := lw_g (lw_at lw_m2 40 rfl) rfl
theorem q326 : (Jvm.Cond.fieldLink "HandBlinds$Row" (22 : Nat) "HandBlinds$Row" "wear" "I") ∈ lw_all := lw_g (lw_at lw_m2 41 rfl) rfl
theorem q329 : (Jvm.Cond.fieldLink "HandBlinds$Row" (25 : Nat) "HandBlinds$Row" "isTorn" "Z") ∈ lw_all := lw_g (lw_at lw_m2 44 rfl) rfl
theorem q334 : (Jvm.Cond.laysFinal "HandBlinds$Row" "HandBlinds$Row" "width" "I") ∈ lw_all := lw_g (lw_at lw_m2 49 rfl) rfl
theorem q335 : (Jvm.Cond.soleField "HandBlinds$Row" "width") ∈ lw_all := lw_g (lw_at lw_m2 50 rfl) rfl
theorem q336 : (Jvm.Cond.lays "HandBlinds$Row" "HandBlinds$Row" "wear" "I") ∈ lw_all := lw_g (lw_at lw_m2 51 rfl) rfl
theorem q337 : (Jvm.Cond.soleField "HandBlinds$Row" "wear") ∈ lw_all := lw_g (lw_at lw_m2 52 rfl) rfl
theorem q338 : (Jvm.Cond.lays "HandBlinds$Row" "HandBlinds$Row" "isTorn" "Z") ∈ lw_all := lw_g (lw_at lw_m2 53 rfl) rfl
theorem q339 : (Jvm.Cond.soleField "HandBlinds$Row" "isTorn") ∈ lw_all := lw_g (lw_at lw_m2 54 rfl) rfl
theorem q340 : (Jvm.Cond.laysFinal "HandBlinds$Row" "HandBlinds$Name" "letters" "Ljava/lang/String;") ∈ lw_all := lw_g (lw_at lw_m2 55 rfl) rfl
theorem q342 : (Jvm.Cond.superclass "HandBlinds$Row" "HandBlinds$Name") ∈ lw_all := lw_g (lw_at lw_m2 57 rfl) rfl
theorem q383 : (Jvm.Cond.selects "HandBlinds$Row" ({ cls := "java/lang/Object", name := "getClass", desc := "()Ljava/lang/Class;" } : Jvm.MethodName) ({ cls := "java/lang/Object", name := "getClass", desc := "()Ljava/lang/Class;" } : Jvm.MethodName)) ∈ lw_all := lw_g (lw_at lw_m2 98 rfl) rfl
theorem q824 : (Jvm.Cond.selects "HandBlinds$Row" ({ cls := "HandBlinds$Name", name := "squeezed", desc := "(I)I" } : Jvm.MethodName) ({ cls := "HandBlinds$Name", name := "squeezed", desc := "(I)I" } : Jvm.MethodName)) ∈ lw_all := lw_g (lw_at lw_m4 59 rfl) rfl
theorem q830 : (Jvm.Cond.selects "HandBlinds$Row" ({ cls := "HandBlinds$Name", name := "wide", desc := "()I" } : Jvm.MethodName) ({ cls := "HandBlinds$Row", name := "wide", desc := "()I" } : Jvm.MethodName)) ∈ lw_all := lw_g (lw_at lw_m4 65 rfl) rfl
theorem q831 : (Jvm.Cond.instanceMethod ({ cls := "HandBlinds$Row", name := "wide", desc := "()I" } : Jvm.MethodName)) ∈ lw_all := lw_g (lw_at lw_m4 66 rfl) rfl
theorem q832 : (Jvm.Cond.code ({ cls := "HandBlinds$Row", name := "wide", desc := "()I" } : Jvm.MethodName) prog_10_method_3_code (1 : Nat) (Option.some Jvm.ClassFile.FieldType.int)) ∈ lw_all := lw_g (lw_at lw_m4 67 rfl) rfl
theorem q847 : (Jvm.Cond.castable "HandBlinds$Row" "HandBlinds$Lettered") ∈ lw_tbl := lw_at lw_m4 82 rfl
theorem q848 : (Jvm.Cond.selects "HandBlinds$Row" ({ cls := "HandBlinds$Lettered", name := "letters", desc := "()Ljava/lang/String;" } : Jvm.MethodName) ({ cls := "HandBlinds$Name", name := "letters", desc := "()Ljava/lang/String;" } : Jvm.MethodName)) ∈ lw_all := lw_g (lw_at lw_m4 83 rfl) rfl
theorem q849 : (Jvm.Cond.unhidden "HandBlinds$Row" "letters" "()Ljava/lang/String;") ∈ lw_tbl := lw_at lw_m4 84 rfl
theorem q857 : (Jvm.Cond.instanceMethod ({ cls := "HandBlinds$Row", name := "<init>", desc := "(LHandBlinds$Name;)V" } : Jvm.MethodName)) ∈ lw_all := lw_g (lw_at lw_m4 92 rfl) rfl
theorem q858 : (Jvm.Cond.code ({ cls := "HandBlinds$Row", name := "<init>", desc := "(LHandBlinds$Name;)V" } : Jvm.MethodName) prog_10_method_1_code (2 : Nat) (Option.none : Option Jvm.ClassFile.FieldType)) ∈ lw_all := lw_g (lw_at lw_m4 93 rfl) rfl
theorem q859 : (Jvm.Cond.methodLink "HandBlinds$Row" (1 : Nat) ({ cls := "HandBlinds$Name", name := "letters", desc := "()Ljava/lang/String;" } : Jvm.MethodName)) ∈ lw_all := lw_g (lw_at lw_m4 94 rfl) rfl
theorem q860 : (Jvm.Cond.methodLink "HandBlinds$Row" (11 : Nat) ({ cls := "HandBlinds$Name", name := "wide", desc := "()I" } : Jvm.MethodName)) ∈ lw_all := lw_g (lw_at lw_m4 95 rfl) rfl
theorem q1046 : (Jvm.Cond.instanceMethod ({ cls := "HandBlinds$Row", name := "wears", desc := "(II)Z" } : Jvm.MethodName)) ∈ lw_all := lw_g (lw_at lw_m5 41 rfl) rfl
theorem q1047 : (Jvm.Cond.selects "HandBlinds$Row" ({ cls := "HandBlinds$Row", name := "wears", desc := "(II)Z" } : Jvm.MethodName) ({ cls := "HandBlinds$Row", name := "wears", desc := "(II)Z" } : Jvm.MethodName)) ∈ lw_all := lw_g (lw_at lw_m5 42 rfl) rfl
theorem q1048 : (Jvm.Cond.code ({ cls := "HandBlinds$Row", name := "wears", desc := "(II)Z" } : Jvm.MethodName) prog_10_method_4_code (4 : Nat) (Option.some Jvm.ClassFile.FieldType.boolean)) ∈ lw_all := lw_g (lw_at lw_m5 43 rfl) rfl
theorem q1076 : (Jvm.Cond.sameMethod "HandBlinds$Row" "HandBlinds$Name" "kind" "()I") ∈ lw_all := lw_g (lw_at lw_m5 71 rfl) rfl
theorem q1078 : (Jvm.Cond.selects "HandBlinds$Row" ({ cls := "HandBlinds$Row", name := "kind", desc := "()I" } : Jvm.MethodName) ({ cls := "HandBlinds$Name", name := "kind", desc := "()I" } : Jvm.MethodName)) ∈ lw_all := lw_g (lw_at lw_m5 73 rfl) rfl
theorem q1144 : (Jvm.Cond.sameMethod "HandBlinds$Row" "HandBlinds$Name" "squeezed" "(I)I") ∈ lw_all := lw_g (lw_at lw_m5 139 rfl) rfl
theorem q1146 : (Jvm.Cond.selects "HandBlinds$Row" ({ cls := "HandBlinds$Row", name := "squeezed", desc := "(I)I" } : Jvm.MethodName) ({ cls := "HandBlinds$Name", name := "squeezed", desc := "(I)I" } : Jvm.MethodName)) ∈ lw_all := lw_g (lw_at lw_m5 141 rfl) rfl
theorem q1661 : (Jvm.Cond.selects "HandBlinds$Row" ({ cls := "HandBlinds$Name", name := "letters", desc := "()Ljava/lang/String;" } : Jvm.MethodName) ({ cls := "HandBlinds$Name", name := "letters", desc := "()Ljava/lang/String;" } : Jvm.MethodName)) ∈ lw_all := lw_g (lw_at lw_m7 176 rfl) rfl
theorem q1662 : (Jvm.Cond.selects "HandBlinds$Row" ({ cls := "HandBlinds$Row", name := "wide", desc := "()I" } : Jvm.MethodName) ({ cls := "HandBlinds$Row", name := "wide", desc := "()I" } : Jvm.MethodName)) ∈ lw_all := lw_g (lw_at lw_m7 177 rfl) rfl
theorem q1677 : (Jvm.Cond.castable "HandBlinds$Row" "java/lang/Object") ∈ lw_tbl := lw_at lw_m7 192 rfl
theorem in_X5 : ∀ w ∈ wsX50, w ∈ lw_all := lw_in wsX50 [340, 334, 336, 338] (by decide +kernel) (by decide +kernel)
/-! HandBlinds$Route -/
set_option maxRecDepth 100000
def RX6 : String := "HandBlinds$Route"
def TX6 : u_T := fun k => match k with
  | 0 => ("HandBlinds$Route", "rows", "Ljava/util/BitSet;", true)
  | 1 => ("HandBlinds$Route", "stops", "I", false)
  | _ => ("HandBlinds$Route", "right", "I", false)
def tyX6 : Nat → FieldType := fun k => match k with
  | 0 => .object "java/util/BitSet"
  | 1 => .int
  | _ => .int
abbrev wsX60 : List Cond := u_ws RX6 TX6 3
theorem nmX6 : ∀ a, a < 3 → ∀ b, b < 3 → a ≠ b → (TX6 a).2.1 ≠ (TX6 b).2.1 := by decide +kernel
theorem tyX6_ok : ∀ k, k < 3 → parseFieldDescriptor (TX6 k).2.2.1 = some (tyX6 k) := by decide +kernel
abbrev cX6_init : ByteArray := prog_9_method_2_code
def yX6_init : MethodName := ⟨RX6, "<init>", "(LHandBlinds$Route;)V"⟩
def dkwX6_init_1 : List UInt8 := [177]
abbrev dktX6_init_1 : List UInt8 := dkwX6_init_1 ++ []
def dkwX6_init_0 : List UInt8 := [42, 43, 182, 0, 24, 183, 0, 28, 42, 43, 180, 0, 29, 181, 0, 29, 42, 43, 180, 0, 33, 181, 0, 33]
abbrev dktX6_init_0 : List UInt8 := dkwX6_init_0 ++ dktX6_init_1
theorem dksX6_init_0 : cX6_init.data.toList.drop 0 = dktX6_init_0 := by decide +kernel
theorem dksX6_init_1 : cX6_init.data.toList.drop 24 = dktX6_init_1 := dk_seg dksX6_init_0 24 rfl rfl
theorem dX6_init_0 : decode cX6_init 0 = .ok (.aload_n 0, 1) := dk_42 (dk_at dksX6_init_0 0 rfl rfl)
theorem dX6_init_1 : decode cX6_init 1 = .ok (.aload_n 1, 1) := dk_43 (dk_at dksX6_init_0 1 rfl rfl)
theorem dX6_init_2 : decode cX6_init 2 = .ok (.invokevirtual 24, 3) := dk_182 0 24 (dk_at dksX6_init_0 2 rfl rfl)
theorem dX6_init_5 : decode cX6_init 5 = .ok (.invokespecial 28, 3) := dk_183 0 28 (dk_at dksX6_init_0 5 rfl rfl)
theorem dX6_init_8 : decode cX6_init 8 = .ok (.aload_n 0, 1) := dk_42 (dk_at dksX6_init_0 8 rfl rfl)
theorem dX6_init_9 : decode cX6_init 9 = .ok (.aload_n 1, 1) := dk_43 (dk_at dksX6_init_0 9 rfl rfl)
theorem dX6_init_10 : decode cX6_init 10 = .ok (.getfield 29, 3) := dk_180 0 29 (dk_at dksX6_init_0 10 rfl rfl)
theorem dX6_init_13 : decode cX6_init 13 = .ok (.putfield 29, 3) := dk_181 0 29 (dk_at dksX6_init_0 13 rfl rfl)
theorem dX6_init_16 : decode cX6_init 16 = .ok (.aload_n 0, 1) := dk_42 (dk_at dksX6_init_0 16 rfl rfl)
theorem dX6_init_17 : decode cX6_init 17 = .ok (.aload_n 1, 1) := dk_43 (dk_at dksX6_init_0 17 rfl rfl)
theorem dX6_init_18 : decode cX6_init 18 = .ok (.getfield 33, 3) := dk_180 0 33 (dk_at dksX6_init_0 18 rfl rfl)
theorem dX6_init_21 : decode cX6_init 21 = .ok (.putfield 33, 3) := dk_181 0 33 (dk_at dksX6_init_0 21 rfl rfl)
theorem dX6_init_24 : decode cX6_init 24 = .ok (.return_, 1) := dk_177 (dk_at dksX6_init_1 0 rfl rfl)
abbrev cX6_bits : ByteArray := prog_9_method_3_code
def yX6_bits : MethodName := ⟨RX6, "bits", "()I"⟩
def dkwX6_bits_1 : List UInt8 := [120, 167, 0, 4, 3, 128, 60, 132, 2, 1, 167, 255, 226, 27, 172]
abbrev dktX6_bits_1 : List UInt8 := dkwX6_bits_1 ++ []
def dkwX6_bits_0 : List UInt8 := [3, 60, 3, 61, 28, 16, 20, 162, 0, 30, 27, 42, 180, 0, 14, 28, 182, 0, 36, 153, 0, 9, 4, 28]
abbrev dktX6_bits_0 : List UInt8 := dkwX6_bits_0 ++ dktX6_bits_1
theorem dksX6_bits_0 : cX6_bits.data.toList.drop 0 = dktX6_bits_0 := by decide +kernel
theorem dksX6_bits_1 : cX6_bits.data.toList.drop 24 = dktX6_bits_1 := dk_seg dksX6_bits_0 24 rfl rfl
theorem dX6_bits_0 : decode cX6_bits 0 = .ok (.iconst 0, 1) := dk_3 (dk_at dksX6_bits_0 0 rfl rfl)
theorem dX6_bits_1 : decode cX6_bits 1 = .ok (.istore_n 1, 1) := dk_60 (dk_at dksX6_bits_0 1 rfl rfl)
theorem dX6_bits_2 : decode cX6_bits 2 = .ok (.iconst 0, 1) := dk_3 (dk_at dksX6_bits_0 2 rfl rfl)
theorem dX6_bits_3 : decode cX6_bits 3 = .ok (.istore_n 2, 1) := dk_61 (dk_at dksX6_bits_0 3 rfl rfl)
theorem dX6_bits_4 : decode cX6_bits 4 = .ok (.iload_n 2, 1) := dk_28 (dk_at dksX6_bits_0 4 rfl rfl)
theorem dX6_bits_5 : decode cX6_bits 5 = .ok (.bipush 20, 2) := dk_16 20 (dk_at dksX6_bits_0 5 rfl rfl)
theorem dX6_bits_7 : decode cX6_bits 7 = .ok (.if_icmp .ge 30, 3) := dk_162 0 30 (dk_at dksX6_bits_0 7 rfl rfl)
theorem dX6_bits_10 : decode cX6_bits 10 = .ok (.iload_n 1, 1) := dk_27 (dk_at dksX6_bits_0 10 rfl rfl)
theorem dX6_bits_11 : decode cX6_bits 11 = .ok (.aload_n 0, 1) := dk_42 (dk_at dksX6_bits_0 11 rfl rfl)
theorem dX6_bits_12 : decode cX6_bits 12 = .ok (.getfield 14, 3) := dk_180 0 14 (dk_at dksX6_bits_0 12 rfl rfl)
theorem dX6_bits_15 : decode cX6_bits 15 = .ok (.iload_n 2, 1) := dk_28 (dk_at dksX6_bits_0 15 rfl rfl)
theorem dX6_bits_16 : decode cX6_bits 16 = .ok (.invokevirtual 36, 3) := dk_182 0 36 (dk_at dksX6_bits_0 16 rfl rfl)
theorem dX6_bits_19 : decode cX6_bits 19 = .ok (.ifCond .eq 9, 3) := dk_153 0 9 (dk_at dksX6_bits_0 19 rfl rfl)
theorem dX6_bits_22 : decode cX6_bits 22 = .ok (.iconst 1, 1) := dk_4 (dk_at dksX6_bits_0 22 rfl rfl)
theorem dX6_bits_23 : decode cX6_bits 23 = .ok (.iload_n 2, 1) := dk_28 (dk_at dksX6_bits_0 23 rfl rfl)
theorem dX6_bits_24 : decode cX6_bits 24 = .ok (.ishl, 1) := dk_120 (dk_at dksX6_bits_1 0 rfl rfl)
theorem dX6_bits_25 : decode cX6_bits 25 = .ok (.goto 4, 3) := dk_167 0 4 (dk_at dksX6_bits_1 1 rfl rfl)
theorem dX6_bits_28 : decode cX6_bits 28 = .ok (.iconst 0, 1) := dk_3 (dk_at dksX6_bits_1 4 rfl rfl)
theorem dX6_bits_29 : decode cX6_bits 29 = .ok (.ior, 1) := dk_128 (dk_at dksX6_bits_1 5 rfl rfl)
theorem dX6_bits_30 : decode cX6_bits 30 = .ok (.istore_n 1, 1) := dk_60 (dk_at dksX6_bits_1 6 rfl rfl)
theorem dX6_bits_31 : decode cX6_bits 31 = .ok (.iinc 2 1, 3) := dk_132 2 1 (dk_at dksX6_bits_1 7 rfl rfl)
theorem dX6_bits_34 : decode cX6_bits 34 = .ok (.goto (-30), 3) := dk_167 255 226 (dk_at dksX6_bits_1 10 rfl rfl)
theorem dX6_bits_37 : decode cX6_bits 37 = .ok (.iload_n 1, 1) := dk_27 (dk_at dksX6_bits_1 13 rfl rfl)
theorem dX6_bits_38 : decode cX6_bits 38 = .ok (.ireturn, 1) := dk_172 (dk_at dksX6_bits_1 14 rfl rfl)
abbrev cX6_init_2 : ByteArray := prog_9_method_1_code
def yX6_init_2 : MethodName := ⟨RX6, "<init>", "(I)V"⟩
def dkwX6_init_2_2 : List UInt8 := [182, 0, 20, 132, 2, 1, 167, 255, 225, 177]
abbrev dktX6_init_2_2 : List UInt8 := dkwX6_init_2_2 ++ []
def dkwX6_init_2_1 : List UInt8 := [162, 0, 31, 42, 180, 0, 14, 28, 27, 28, 122, 4, 126, 4, 160, 0, 7, 4, 167, 0, 4, 3]
abbrev dktX6_init_2_1 : List UInt8 := dkwX6_init_2_1 ++ dktX6_init_2_2
def dkwX6_init_2_0 : List UInt8 := [42, 183, 0, 3, 42, 187, 0, 9, 89, 16, 20, 183, 0, 11, 181, 0, 14, 3, 61, 28, 16, 20]
abbrev dktX6_init_2_0 : List UInt8 := dkwX6_init_2_0 ++ dktX6_init_2_1
theorem dksX6_init_2_0 : cX6_init_2.data.toList.drop 0 = dktX6_init_2_0 := by decide +kernel
theorem dksX6_init_2_1 : cX6_init_2.data.toList.drop 22 = dktX6_init_2_1 := dk_seg dksX6_init_2_0 22 rfl rfl
theorem dksX6_init_2_2 : cX6_init_2.data.toList.drop 44 = dktX6_init_2_2 := dk_seg dksX6_init_2_1 22 rfl rfl
theorem dX6_init_2_0 : decode cX6_init_2 0 = .ok (.aload_n 0, 1) := dk_42 (dk_at dksX6_init_2_0 0 rfl rfl)
theorem dX6_init_2_1 : decode cX6_init_2 1 = .ok (.invokespecial 3, 3) := dk_183 0 3 (dk_at dksX6_init_2_0 1 rfl rfl)
theorem dX6_init_2_4 : decode cX6_init_2 4 = .ok (.aload_n 0, 1) := dk_42 (dk_at dksX6_init_2_0 4 rfl rfl)
theorem dX6_init_2_5 : decode cX6_init_2 5 = .ok (.new 9, 3) := dk_187 0 9 (dk_at dksX6_init_2_0 5 rfl rfl)
theorem dX6_init_2_8 : decode cX6_init_2 8 = .ok (.dup, 1) := dk_89 (dk_at dksX6_init_2_0 8 rfl rfl)
theorem dX6_init_2_9 : decode cX6_init_2 9 = .ok (.bipush 20, 2) := dk_16 20 (dk_at dksX6_init_2_0 9 rfl rfl)
theorem dX6_init_2_11 : decode cX6_init_2 11 = .ok (.invokespecial 11, 3) := dk_183 0 11 (dk_at dksX6_init_2_0 11 rfl rfl)
theorem dX6_init_2_14 : decode cX6_init_2 14 = .ok (.putfield 14, 3) := dk_181 0 14 (dk_at dksX6_init_2_0 14 rfl rfl)
theorem dX6_init_2_17 : decode cX6_init_2 17 = .ok (.iconst 0, 1) := dk_3 (dk_at dksX6_init_2_0 17 rfl rfl)
theorem dX6_init_2_18 : decode cX6_init_2 18 = .ok (.istore_n 2, 1) := dk_61 (dk_at dksX6_init_2_0 18 rfl rfl)
theorem dX6_init_2_19 : decode cX6_init_2 19 = .ok (.iload_n 2, 1) := dk_28 (dk_at dksX6_init_2_0 19 rfl rfl)
theorem dX6_init_2_20 : decode cX6_init_2 20 = .ok (.bipush 20, 2) := dk_16 20 (dk_at dksX6_init_2_0 20 rfl rfl)
theorem dX6_init_2_22 : decode cX6_init_2 22 = .ok (.if_icmp .ge 31, 3) := dk_162 0 31 (dk_at dksX6_init_2_1 0 rfl rfl)
theorem dX6_init_2_25 : decode cX6_init_2 25 = .ok (.aload_n 0, 1) := dk_42 (dk_at dksX6_init_2_1 3 rfl rfl)
theorem dX6_init_2_26 : decode cX6_init_2 26 = .ok (.getfield 14, 3) := dk_180 0 14 (dk_at dksX6_init_2_1 4 rfl rfl)
theorem dX6_init_2_29 : decode cX6_init_2 29 = .ok (.iload_n 2, 1) := dk_28 (dk_at dksX6_init_2_1 7 rfl rfl)
theorem dX6_init_2_30 : decode cX6_init_2 30 = .ok (.iload_n 1, 1) := dk_27 (dk_at dksX6_init_2_1 8 rfl rfl)
theorem dX6_init_2_31 : decode cX6_init_2 31 = .ok (.iload_n 2, 1) := dk_28 (dk_at dksX6_init_2_1 9 rfl rfl)
theorem dX6_init_2_32 : decode cX6_init_2 32 = .ok (.ishr, 1) := dk_122 (dk_at dksX6_init_2_1 10 rfl rfl)
theorem dX6_init_2_33 : decode cX6_init_2 33 = .ok (.iconst 1, 1) := dk_4 (dk_at dksX6_init_2_1 11 rfl rfl)
theorem dX6_init_2_34 : decode cX6_init_2 34 = .ok (.iand, 1) := dk_126 (dk_at dksX6_init_2_1 12 rfl rfl)
theorem dX6_init_2_35 : decode cX6_init_2 35 = .ok (.iconst 1, 1) := dk_4 (dk_at dksX6_init_2_1 13 rfl rfl)
theorem dX6_init_2_36 : decode cX6_init_2 36 = .ok (.if_icmp .ne 7, 3) := dk_160 0 7 (dk_at dksX6_init_2_1 14 rfl rfl)
theorem dX6_init_2_39 : decode cX6_init_2 39 = .ok (.iconst 1, 1) := dk_4 (dk_at dksX6_init_2_1 17 rfl rfl)
theorem dX6_init_2_40 : decode cX6_init_2 40 = .ok (.goto 4, 3) := dk_167 0 4 (dk_at dksX6_init_2_1 18 rfl rfl)
theorem dX6_init_2_43 : decode cX6_init_2 43 = .ok (.iconst 0, 1) := dk_3 (dk_at dksX6_init_2_1 21 rfl rfl)
theorem dX6_init_2_44 : decode cX6_init_2 44 = .ok (.invokevirtual 20, 3) := dk_182 0 20 (dk_at dksX6_init_2_2 0 rfl rfl)
theorem dX6_init_2_47 : decode cX6_init_2 47 = .ok (.iinc 2 1, 3) := dk_132 2 1 (dk_at dksX6_init_2_2 3 rfl rfl)
theorem dX6_init_2_50 : decode cX6_init_2 50 = .ok (.goto (-31), 3) := dk_167 255 225 (dk_at dksX6_init_2_2 6 rfl rfl)
theorem dX6_init_2_53 : decode cX6_init_2 53 = .ok (.return_, 1) := dk_177 (dk_at dksX6_init_2_2 9 rfl rfl)
abbrev cX6_loses : ByteArray := prog_9_method_4_code
def yX6_loses : MethodName := ⟨RX6, "loses", "(I)V"⟩
def dkwX6_loses_1 : List UInt8 := [182, 0, 20, 132, 2, 1, 167, 255, 229, 42, 180, 0, 14, 16, 19, 3, 182, 0, 20, 177]
abbrev dktX6_loses_1 : List UInt8 := dkwX6_loses_1 ++ []
def dkwX6_loses_0 : List UInt8 := [27, 61, 28, 16, 19, 162, 0, 27, 42, 180, 0, 14, 28, 42, 180, 0, 14, 28, 4, 96, 182, 0, 36]
abbrev dktX6_loses_0 : List UInt8 := dkwX6_loses_0 ++ dktX6_loses_1
theorem dksX6_loses_0 : cX6_loses.data.toList.drop 0 = dktX6_loses_0 := by decide +kernel
theorem dksX6_loses_1 : cX6_loses.data.toList.drop 23 = dktX6_loses_1 := dk_seg dksX6_loses_0 23 rfl rfl
theorem dX6_loses_0 : decode cX6_loses 0 = .ok (.iload_n 1, 1) := dk_27 (dk_at dksX6_loses_0 0 rfl rfl)
theorem dX6_loses_1 : decode cX6_loses 1 = .ok (.istore_n 2, 1) := dk_61 (dk_at dksX6_loses_0 1 rfl rfl)
theorem dX6_loses_2 : decode cX6_loses 2 = .ok (.iload_n 2, 1) := dk_28 (dk_at dksX6_loses_0 2 rfl rfl)
theorem dX6_loses_3 : decode cX6_loses 3 = .ok (.bipush 19, 2) := dk_16 19 (dk_at dksX6_loses_0 3 rfl rfl)
theorem dX6_loses_5 : decode cX6_loses 5 = .ok (.if_icmp .ge 27, 3) := dk_162 0 27 (dk_at dksX6_loses_0 5 rfl rfl)
theorem dX6_loses_8 : decode cX6_loses 8 = .ok (.aload_n 0, 1) := dk_42 (dk_at dksX6_loses_0 8 rfl rfl)
theorem dX6_loses_9 : decode cX6_loses 9 = .ok (.getfield 14, 3) := dk_180 0 14 (dk_at dksX6_loses_0 9 rfl rfl)
theorem dX6_loses_12 : decode cX6_loses 12 = .ok (.iload_n 2, 1) := dk_28 (dk_at dksX6_loses_0 12 rfl rfl)
theorem dX6_loses_13 : decode cX6_loses 13 = .ok (.aload_n 0, 1) := dk_42 (dk_at dksX6_loses_0 13 rfl rfl)
theorem dX6_loses_14 : decode cX6_loses 14 = .ok (.getfield 14, 3) := dk_180 0 14 (dk_at dksX6_loses_0 14 rfl rfl)
theorem dX6_loses_17 : decode cX6_loses 17 = .ok (.iload_n 2, 1) := dk_28 (dk_at dksX6_loses_0 17 rfl rfl)
theorem dX6_loses_18 : decode cX6_loses 18 = .ok (.iconst 1, 1) := dk_4 (dk_at dksX6_loses_0 18 rfl rfl)
theorem dX6_loses_19 : decode cX6_loses 19 = .ok (.iadd, 1) := dk_96 (dk_at dksX6_loses_0 19 rfl rfl)
theorem dX6_loses_20 : decode cX6_loses 20 = .ok (.invokevirtual 36, 3) := dk_182 0 36 (dk_at dksX6_loses_0 20 rfl rfl)
theorem dX6_loses_23 : decode cX6_loses 23 = .ok (.invokevirtual 20, 3) := dk_182 0 20 (dk_at dksX6_loses_1 0 rfl rfl)
theorem dX6_loses_26 : decode cX6_loses 26 = .ok (.iinc 2 1, 3) := dk_132 2 1 (dk_at dksX6_loses_1 3 rfl rfl)
theorem dX6_loses_29 : decode cX6_loses 29 = .ok (.goto (-27), 3) := dk_167 255 229 (dk_at dksX6_loses_1 6 rfl rfl)
theorem dX6_loses_32 : decode cX6_loses 32 = .ok (.aload_n 0, 1) := dk_42 (dk_at dksX6_loses_1 9 rfl rfl)
theorem dX6_loses_33 : decode cX6_loses 33 = .ok (.getfield 14, 3) := dk_180 0 14 (dk_at dksX6_loses_1 10 rfl rfl)
theorem dX6_loses_36 : decode cX6_loses 36 = .ok (.bipush 19, 2) := dk_16 19 (dk_at dksX6_loses_1 13 rfl rfl)
theorem dX6_loses_38 : decode cX6_loses 38 = .ok (.iconst 0, 1) := dk_3 (dk_at dksX6_loses_1 15 rfl rfl)
theorem dX6_loses_39 : decode cX6_loses 39 = .ok (.invokevirtual 20, 3) := dk_182 0 20 (dk_at dksX6_loses_1 16 rfl rfl)
theorem dX6_loses_42 : decode cX6_loses 42 = .ok (.return_, 1) := dk_177 (dk_at dksX6_loses_1 19 rfl rfl)
abbrev cX6_changes : ByteArray := prog_9_method_5_code
def yX6_changes : MethodName := ⟨RX6, "changes", "(II)V"⟩
def dkwX6_changes_1 : List UInt8 := [182, 0, 20, 42, 180, 0, 14, 28, 29, 182, 0, 20, 177]
abbrev dktX6_changes_1 : List UInt8 := dkwX6_changes_1 ++ []
def dkwX6_changes_0 : List UInt8 := [42, 180, 0, 14, 27, 182, 0, 36, 62, 42, 180, 0, 14, 27, 42, 180, 0, 14, 28, 182, 0, 36]
abbrev dktX6_changes_0 : List UInt8 := dkwX6_changes_0 ++ dktX6_changes_1
theorem dksX6_changes_0 : cX6_changes.data.toList.drop 0 = dktX6_changes_0 := by decide +kernel
theorem dksX6_changes_1 : cX6_changes.data.toList.drop 22 = dktX6_changes_1 := dk_seg dksX6_changes_0 22 rfl rfl
theorem dX6_changes_0 : decode cX6_changes 0 = .ok (.aload_n 0, 1) := dk_42 (dk_at dksX6_changes_0 0 rfl rfl)
theorem dX6_changes_1 : decode cX6_changes 1 = .ok (.getfield 14, 3) := dk_180 0 14 (dk_at dksX6_changes_0 1 rfl rfl)
theorem dX6_changes_4 : decode cX6_changes 4 = .ok (.iload_n 1, 1) := dk_27 (dk_at dksX6_changes_0 4 rfl rfl)
theorem dX6_changes_5 : decode cX6_changes 5 = .ok (.invokevirtual 36, 3) := dk_182 0 36 (dk_at dksX6_changes_0 5 rfl rfl)
theorem dX6_changes_8 : decode cX6_changes 8 = .ok (.istore_n 3, 1) := dk_62 (dk_at dksX6_changes_0 8 rfl rfl)
theorem dX6_changes_9 : decode cX6_changes 9 = .ok (.aload_n 0, 1) := dk_42 (dk_at dksX6_changes_0 9 rfl rfl)
theorem dX6_changes_10 : decode cX6_changes 10 = .ok (.getfield 14, 3) := dk_180 0 14 (dk_at dksX6_changes_0 10 rfl rfl)
theorem dX6_changes_13 : decode cX6_changes 13 = .ok (.iload_n 1, 1) := dk_27 (dk_at dksX6_changes_0 13 rfl rfl)
theorem dX6_changes_14 : decode cX6_changes 14 = .ok (.aload_n 0, 1) := dk_42 (dk_at dksX6_changes_0 14 rfl rfl)
theorem dX6_changes_15 : decode cX6_changes 15 = .ok (.getfield 14, 3) := dk_180 0 14 (dk_at dksX6_changes_0 15 rfl rfl)
theorem dX6_changes_18 : decode cX6_changes 18 = .ok (.iload_n 2, 1) := dk_28 (dk_at dksX6_changes_0 18 rfl rfl)
theorem dX6_changes_19 : decode cX6_changes 19 = .ok (.invokevirtual 36, 3) := dk_182 0 36 (dk_at dksX6_changes_0 19 rfl rfl)
theorem dX6_changes_22 : decode cX6_changes 22 = .ok (.invokevirtual 20, 3) := dk_182 0 20 (dk_at dksX6_changes_1 0 rfl rfl)
theorem dX6_changes_25 : decode cX6_changes 25 = .ok (.aload_n 0, 1) := dk_42 (dk_at dksX6_changes_1 3 rfl rfl)
theorem dX6_changes_26 : decode cX6_changes 26 = .ok (.getfield 14, 3) := dk_180 0 14 (dk_at dksX6_changes_1 4 rfl rfl)
theorem dX6_changes_29 : decode cX6_changes 29 = .ok (.iload_n 2, 1) := dk_28 (dk_at dksX6_changes_1 7 rfl rfl)
theorem dX6_changes_30 : decode cX6_changes 30 = .ok (.iload_n 3, 1) := dk_29 (dk_at dksX6_changes_1 8 rfl rfl)
theorem dX6_changes_31 : decode cX6_changes 31 = .ok (.invokevirtual 20, 3) := dk_182 0 20 (dk_at dksX6_changes_1 9 rfl rfl)
theorem dX6_changes_34 : decode cX6_changes 34 = .ok (.return_, 1) := dk_177 (dk_at dksX6_changes_1 12 rfl rfl)
theorem q67 : (Jvm.Cond.initialized "HandBlinds$Route") ∈ lw_all := lw_g (lw_at lw_m1 22 rfl) rfl
theorem q382 : (Jvm.Cond.selects "HandBlinds$Route" ({ cls := "java/lang/Object", name := "getClass", desc := "()Ljava/lang/Class;" } : Jvm.MethodName) ({ cls := "java/lang/Object", name := "getClass", desc := "()Ljava/lang/Class;" } : Jvm.MethodName)) ∈ lw_all := lw_g (lw_at lw_m2 97 rfl) rfl
theorem q430 : (Jvm.Cond.instantiable "HandBlinds$Route" (3 : Nat)) ∈ lw_all := lw_g (lw_at lw_m2 145 rfl) rfl
theorem q432 : (Jvm.Cond.instanceMethod ({ cls := "HandBlinds$Route", name := "<init>", desc := "(LHandBlinds$Route;)V" } : Jvm.MethodName)) ∈ lw_all := lw_g (lw_at lw_m2 147 rfl) rfl
theorem q433 : (Jvm.Cond.code ({ cls := "HandBlinds$Route", name := "<init>", desc := "(LHandBlinds$Route;)V" } : Jvm.MethodName) prog_9_method_2_code (2 : Nat) (Option.none : Option Jvm.ClassFile.FieldType)) ∈ lw_all := lw_g (lw_at lw_m2 148 rfl) rfl
theorem q434 : (Jvm.Cond.methodLink "HandBlinds$Route" (24 : Nat) ({ cls := "HandBlinds$Route", name := "bits", desc := "()I" } : Jvm.MethodName)) ∈ lw_all := lw_g (lw_at lw_m2 149 rfl) rfl
theorem q435 : (Jvm.Cond.instanceMethod ({ cls := "HandBlinds$Route", name := "bits", desc := "()I" } : Jvm.MethodName)) ∈ lw_all := lw_g (lw_at lw_m2 150 rfl) rfl
theorem q436 : (Jvm.Cond.selects "HandBlinds$Route" ({ cls := "HandBlinds$Route", name := "bits", desc := "()I" } : Jvm.MethodName) ({ cls := "HandBlinds$Route", name := "bits", desc := "()I" } : Jvm.MethodName)) ∈ lw_all := lw_g (lw_at lw_m2 151 rfl) rfl
theorem q437 : (Jvm.Cond.code ({ cls := "HandBlinds$Route", name := "bits", desc := "()I" } : Jvm.MethodName) prog_9_method_3_code (3 : Nat) (Option.some Jvm.ClassFile.FieldType.int)) ∈ lw_all := lw_g (lw_at lw_m2 152 rfl) rfl
theorem q438 : (Jvm.Cond.methodLink "HandBlinds$Route" (36 : Nat) ({ cls := "java/util/BitSet", name := "get", desc := "(I)Z" } : Jvm.MethodName)) ∈ lw_all := lw_g (lw_at lw_m2 153 rfl) rfl
theorem q452 : (Jvm.Cond.methodLink "HandBlinds$Route" (28 : Nat) ({ cls := "HandBlinds$Route", name := "<init>", desc := "(I)V" } : Jvm.MethodName)) ∈ lw_all := lw_g (lw_at lw_m2 167 rfl) rfl
theorem q453 : (Jvm.Cond.instanceMethod ({ cls := "HandBlinds$Route", name := "<init>", desc := "(I)V" } : Jvm.MethodName)) ∈ lw_all := lw_g (lw_at lw_m2 168 rfl) rfl
theorem q454 : (Jvm.Cond.code ({ cls := "HandBlinds$Route", name := "<init>", desc := "(I)V" } : Jvm.MethodName) prog_9_method_1_code (3 : Nat) (Option.none : Option Jvm.ClassFile.FieldType)) ∈ lw_all := lw_g (lw_at lw_m2 169 rfl) rfl
theorem q455 : (Jvm.Cond.methodLink "HandBlinds$Route" (3 : Nat) ({ cls := "java/lang/Object", name := "<init>", desc := "()V" } : Jvm.MethodName)) ∈ lw_all := lw_g (lw_at lw_m2 170 rfl) rfl
theorem q456 : (Jvm.Cond.classLink "HandBlinds$Route" (9 : Nat) "java/util/BitSet") ∈ lw_all := lw_g (lw_at lw_m2 171 rfl) rfl
theorem q457 : (Jvm.Cond.methodLink "HandBlinds$Route" (11 : Nat) ({ cls := "java/util/BitSet", name := "<init>", desc := "(I)V" } : Jvm.MethodName)) ∈ lw_all := lw_g (lw_at lw_m2 172 rfl) rfl
theorem q476 : (Jvm.Cond.methodLink "HandBlinds$Route" (20 : Nat) ({ cls := "java/util/BitSet", name := "set", desc := "(IZ)V" } : Jvm.MethodName)) ∈ lw_all := lw_g (lw_at lw_m2 191 rfl) rfl
theorem q512 : (Jvm.Cond.fieldLink "HandBlinds$Route" (14 : Nat) "HandBlinds$Route" "rows" "Ljava/util/BitSet;") ∈ lw_all := lw_g (lw_at lw_m2 227 rfl) rfl
theorem q515 : (Jvm.Cond.fieldLink "HandBlinds$Route" (29 : Nat) "HandBlinds$Route" "stops" "I") ∈ lw_all := lw_g (lw_at lw_m2 230 rfl) rfl
theorem q518 : (Jvm.Cond.fieldLink "HandBlinds$Route" (33 : Nat) "HandBlinds$Route" "right" "I") ∈ lw_all := lw_g (lw_at lw_m2 233 rfl) rfl
theorem q521 : (Jvm.Cond.laysFinal "HandBlinds$Route" "HandBlinds$Route" "rows" "Ljava/util/BitSet;") ∈ lw_all := lw_g (lw_at lw_m2 236 rfl) rfl
theorem q522 : (Jvm.Cond.soleField "HandBlinds$Route" "rows") ∈ lw_all := lw_g (lw_at lw_m2 237 rfl) rfl
theorem q523 : (Jvm.Cond.lays "HandBlinds$Route" "HandBlinds$Route" "stops" "I") ∈ lw_all := lw_g (lw_at lw_m2 238 rfl) rfl
theorem q524 : (Jvm.Cond.soleField "HandBlinds$Route" "stops") ∈ lw_all := lw_g (lw_at lw_m2 239 rfl) rfl
theorem q525 : (Jvm.Cond.lays "HandBlinds$Route" "HandBlinds$Route" "right" "I") ∈ lw_all := lw_g (lw_at lw_m3 0 rfl) rfl
theorem q526 : (Jvm.Cond.soleField "HandBlinds$Route" "right") ∈ lw_all := lw_g (lw_at lw_m3 1 rfl) rfl
theorem q527 : (Jvm.Cond.superclass "HandBlinds$Route" "java/lang/Object") ∈ lw_all := lw_g (lw_at lw_m3 2 rfl) rfl
theorem q961 : (Jvm.Cond.instanceMethod ({ cls := "HandBlinds$Route", name := "loses", desc := "(I)V" } : Jvm.MethodName)) ∈ lw_all := lw_g (lw_at lw_m4 196 rfl) rfl
theorem q962 : (Jvm.Cond.selects "HandBlinds$Route" ({ cls := "HandBlinds$Route", name := "loses", desc := "(I)V" } : Jvm.MethodName) ({ cls := "HandBlinds$Route", name := "loses", desc := "(I)V" } : Jvm.MethodName)) ∈ lw_all := lw_g (lw_at lw_m4 197 rfl) rfl
theorem q963 : (Jvm.Cond.code ({ cls := "HandBlinds$Route", name := "loses", desc := "(I)V" } : Jvm.MethodName) prog_9_method_4_code (3 : Nat) (Option.none : Option Jvm.ClassFile.FieldType)) ∈ lw_all := lw_g (lw_at lw_m4 198 rfl) rfl
theorem q977 : (Jvm.Cond.instanceMethod ({ cls := "HandBlinds$Route", name := "changes", desc := "(II)V" } : Jvm.MethodName)) ∈ lw_all := lw_g (lw_at lw_m4 212 rfl) rfl
theorem q978 : (Jvm.Cond.selects "HandBlinds$Route" ({ cls := "HandBlinds$Route", name := "changes", desc := "(II)V" } : Jvm.MethodName) ({ cls := "HandBlinds$Route", name := "changes", desc := "(II)V" } : Jvm.MethodName)) ∈ lw_all := lw_g (lw_at lw_m4 213 rfl) rfl
theorem q979 : (Jvm.Cond.code ({ cls := "HandBlinds$Route", name := "changes", desc := "(II)V" } : Jvm.MethodName) prog_9_method_5_code (4 : Nat) (Option.none : Option Jvm.ClassFile.FieldType)) ∈ lw_all := lw_g (lw_at lw_m4 214 rfl) rfl
theorem q1679 : (Jvm.Cond.castable "HandBlinds$Route" "java/lang/Object") ∈ lw_tbl := lw_at lw_m7 194 rfl
theorem in_X6 : ∀ w ∈ wsX60, w ∈ lw_all := lw_in wsX60 [521, 523, 525] (by decide +kernel) (by decide +kernel)
/-! HandBlinds$Fault -/
set_option maxRecDepth 100000
def RX7 : String := "HandBlinds$Fault"
def TX7 : u_T := fun k => match k with
  | 0 => ("java/lang/Throwable", "cause", "Ljava/lang/Throwable;", false)
  | 1 => ("java/lang/Throwable", "stackTrace", "[Ljava/lang/StackTraceElement;", false)
  | 2 => ("java/lang/Throwable", "suppressedExceptions", "Ljava/util/List;", false)
  | 3 => ("java/lang/Throwable", "detailMessage", "Ljava/lang/String;", false)
  | 4 => ("java/lang/Throwable", "backtrace", "Ljava/lang/Object;", false)
  | 5 => ("java/lang/Throwable", "depth", "I", false)
  | _ => ("HandBlinds$Fault", "told", "[I", true)
def tyX7 : Nat → FieldType := fun k => match k with
  | 0 => .object "java/lang/Throwable"
  | 1 => .array (.object "java/lang/StackTraceElement")
  | 2 => .object "java/util/List"
  | 3 => .object "java/lang/String"
  | 4 => .object "java/lang/Object"
  | 5 => .int
  | _ => .array .int
abbrev wsX70 : List Cond := u_ws RX7 TX7 7
theorem nmX7 : ∀ a, a < 7 → ∀ b, b < 7 → a ≠ b → (TX7 a).2.1 ≠ (TX7 b).2.1 := by decide +kernel
theorem tyX7_ok : ∀ k, k < 7 → parseFieldDescriptor (TX7 k).2.2.1 = some (tyX7 k) := by decide +kernel
abbrev cX7_init : ByteArray := prog_5_method_1_code
def yX7_init : MethodName := ⟨RX7, "<init>", "([I)V"⟩
def dkwX7_init_0 : List UInt8 := [42, 18, 1, 183, 0, 3, 42, 43, 181, 0, 9, 177]
abbrev dktX7_init_0 : List UInt8 := dkwX7_init_0 ++ []
theorem dksX7_init_0 : cX7_init.data.toList.drop 0 = dktX7_init_0 := by decide +kernel
theorem dX7_init_0 : decode cX7_init 0 = .ok (.aload_n 0, 1) := dk_42 (dk_at dksX7_init_0 0 rfl rfl)
theorem dX7_init_1 : decode cX7_init 1 = .ok (.ldc 1, 2) := dk_18 1 (dk_at dksX7_init_0 1 rfl rfl)
theorem dX7_init_3 : decode cX7_init 3 = .ok (.invokespecial 3, 3) := dk_183 0 3 (dk_at dksX7_init_0 3 rfl rfl)
theorem dX7_init_6 : decode cX7_init 6 = .ok (.aload_n 0, 1) := dk_42 (dk_at dksX7_init_0 6 rfl rfl)
theorem dX7_init_7 : decode cX7_init 7 = .ok (.aload_n 1, 1) := dk_43 (dk_at dksX7_init_0 7 rfl rfl)
theorem dX7_init_8 : decode cX7_init 8 = .ok (.putfield 9, 3) := dk_181 0 9 (dk_at dksX7_init_0 8 rfl rfl)
theorem dX7_init_11 : decode cX7_init 11 = .ok (.return_, 1) := dk_177 (dk_at dksX7_init_0 11 rfl rfl)
theorem q73 : (Jvm.Cond.initialized "HandBlinds$Fault") ∈ lw_all := lw_g (lw_at lw_m1 28 rfl) rfl
theorem q379 : (Jvm.Cond.selects "HandBlinds$Fault" ({ cls := "java/lang/Object", name := "getClass", desc := "()Ljava/lang/Class;" } : Jvm.MethodName) ({ cls := "java/lang/Object", name := "getClass", desc := "()Ljava/lang/Class;" } : Jvm.MethodName)) ∈ lw_all := lw_g (lw_at lw_m2 94 rfl) rfl
theorem q751 : (Jvm.Cond.instantiable "HandBlinds$Fault" (7 : Nat)) ∈ lw_all := lw_g (lw_at lw_m3 226 rfl) rfl
theorem q752 : (Jvm.Cond.castable "HandBlinds$Fault" "HandBlinds$Fault") ∈ lw_tbl := lw_at lw_m3 227 rfl
theorem q757 : (Jvm.Cond.selects "HandBlinds$Fault" ({ cls := "java/lang/Throwable", name := "fillInStackTrace", desc := "(I)Ljava/lang/Throwable;" } : Jvm.MethodName) ({ cls := "java/lang/Throwable", name := "fillInStackTrace", desc := "(I)Ljava/lang/Throwable;" } : Jvm.MethodName)) ∈ lw_all := lw_g (lw_at lw_m3 232 rfl) rfl
theorem q758 : (Jvm.Cond.selects "HandBlinds$Fault" ({ cls := "java/lang/Throwable", name := "fillInStackTrace", desc := "()Ljava/lang/Throwable;" } : Jvm.MethodName) ({ cls := "java/lang/Throwable", name := "fillInStackTrace", desc := "()Ljava/lang/Throwable;" } : Jvm.MethodName)) ∈ lw_all := lw_g (lw_at lw_m3 233 rfl) rfl
theorem q759 : (Jvm.Cond.lays "HandBlinds$Fault" "java/lang/Throwable" "cause" "Ljava/lang/Throwable;") ∈ lw_all := lw_g (lw_at lw_m3 234 rfl) rfl
theorem q761 : (Jvm.Cond.lays "HandBlinds$Fault" "java/lang/Throwable" "stackTrace" "[Ljava/lang/StackTraceElement;") ∈ lw_all := lw_g (lw_at lw_m3 236 rfl) rfl
theorem q763 : (Jvm.Cond.lays "HandBlinds$Fault" "java/lang/Throwable" "suppressedExceptions" "Ljava/util/List;") ∈ lw_all := lw_g (lw_at lw_m3 238 rfl) rfl
theorem q765 : (Jvm.Cond.lays "HandBlinds$Fault" "java/lang/Throwable" "detailMessage" "Ljava/lang/String;") ∈ lw_all := lw_g (lw_at lw_m4 0 rfl) rfl
theorem q767 : (Jvm.Cond.lays "HandBlinds$Fault" "java/lang/Throwable" "backtrace" "Ljava/lang/Object;") ∈ lw_all := lw_g (lw_at lw_m4 2 rfl) rfl
theorem q789 : (Jvm.Cond.instanceMethod ({ cls := "HandBlinds$Fault", name := "<init>", desc := "([I)V" } : Jvm.MethodName)) ∈ lw_all := lw_g (lw_at lw_m4 24 rfl) rfl
theorem q790 : (Jvm.Cond.code ({ cls := "HandBlinds$Fault", name := "<init>", desc := "([I)V" } : Jvm.MethodName) prog_5_method_1_code (2 : Nat) (Option.none : Option Jvm.ClassFile.FieldType)) ∈ lw_all := lw_g (lw_at lw_m4 25 rfl) rfl
theorem q791 : (Jvm.Cond.stringRef "HandBlinds$Fault" (1 : Nat) "a fault") ∈ lw_tbl := lw_at lw_m4 26 rfl
theorem q792 : (Jvm.Cond.methodLink "HandBlinds$Fault" (3 : Nat) ({ cls := "java/lang/Exception", name := "<init>", desc := "(Ljava/lang/String;)V" } : Jvm.MethodName)) ∈ lw_all := lw_g (lw_at lw_m4 27 rfl) rfl
theorem q798 : (Jvm.Cond.fieldLink "HandBlinds$Fault" (9 : Nat) "HandBlinds$Fault" "told" "[I") ∈ lw_all := lw_g (lw_at lw_m4 33 rfl) rfl
theorem q805 : (Jvm.Cond.laysFinal "HandBlinds$Fault" "HandBlinds$Fault" "told" "[I") ∈ lw_all := lw_g (lw_at lw_m4 40 rfl) rfl
theorem q806 : (Jvm.Cond.soleField "HandBlinds$Fault" "told") ∈ lw_all := lw_g (lw_at lw_m4 41 rfl) rfl
theorem q811 : (Jvm.Cond.lays "HandBlinds$Fault" "java/lang/Throwable" "depth" "I") ∈ lw_all := lw_g (lw_at lw_m4 46 rfl) rfl
theorem q814 : (Jvm.Cond.superclass "HandBlinds$Fault" "java/lang/Exception") ∈ lw_all := lw_g (lw_at lw_m4 49 rfl) rfl
theorem q1682 : (Jvm.Cond.castable "HandBlinds$Fault" "java/lang/Object") ∈ lw_tbl := lw_at lw_m7 197 rfl
theorem in_X7 : ∀ w ∈ wsX70, w ∈ lw_all := lw_in wsX70 [759, 761, 763, 765, 767, 811, 805] (by decide +kernel) (by decide +kernel)
/-! HandBlinds$Lettered -/
set_option maxRecDepth 100000
def RX8 : String := "HandBlinds$Lettered"
abbrev cX8_wide : ByteArray := prog_6_method_3_code
def yX8_wide : MethodName := ⟨RX8, "wide", "()I"⟩
def dkwX8_wide_1 : List UInt8 := [182, 0, 13, 184, 0, 17, 96, 60, 132, 3, 1, 167, 255, 234, 27, 172]
abbrev dktX8_wide_1 : List UInt8 := dkwX8_wide_1 ++ []
def dkwX8_wide_0 : List UInt8 := [3, 60, 42, 185, 0, 1, 1, 0, 77, 3, 62, 29, 44, 182, 0, 7, 162, 0, 20, 27, 44, 29]
abbrev dktX8_wide_0 : List UInt8 := dkwX8_wide_0 ++ dktX8_wide_1
theorem dksX8_wide_0 : cX8_wide.data.toList.drop 0 = dktX8_wide_0 := by decide +kernel
theorem dksX8_wide_1 : cX8_wide.data.toList.drop 22 = dktX8_wide_1 := dk_seg dksX8_wide_0 22 rfl rfl
theorem dX8_wide_0 : decode cX8_wide 0 = .ok (.iconst 0, 1) := dk_3 (dk_at dksX8_wide_0 0 rfl rfl)
theorem dX8_wide_1 : decode cX8_wide 1 = .ok (.istore_n 1, 1) := dk_60 (dk_at dksX8_wide_0 1 rfl rfl)
theorem dX8_wide_2 : decode cX8_wide 2 = .ok (.aload_n 0, 1) := dk_42 (dk_at dksX8_wide_0 2 rfl rfl)
theorem dX8_wide_3 : decode cX8_wide 3 = .ok (.invokeinterface 1 1, 5) := by decide +kernel
theorem dX8_wide_8 : decode cX8_wide 8 = .ok (.astore_n 2, 1) := dk_77 (dk_at dksX8_wide_0 8 rfl rfl)
theorem dX8_wide_9 : decode cX8_wide 9 = .ok (.iconst 0, 1) := dk_3 (dk_at dksX8_wide_0 9 rfl rfl)
theorem dX8_wide_10 : decode cX8_wide 10 = .ok (.istore_n 3, 1) := dk_62 (dk_at dksX8_wide_0 10 rfl rfl)
theorem dX8_wide_11 : decode cX8_wide 11 = .ok (.iload_n 3, 1) := dk_29 (dk_at dksX8_wide_0 11 rfl rfl)
theorem dX8_wide_12 : decode cX8_wide 12 = .ok (.aload_n 2, 1) := dk_44 (dk_at dksX8_wide_0 12 rfl rfl)
theorem dX8_wide_13 : decode cX8_wide 13 = .ok (.invokevirtual 7, 3) := dk_182 0 7 (dk_at dksX8_wide_0 13 rfl rfl)
theorem dX8_wide_16 : decode cX8_wide 16 = .ok (.if_icmp .ge 20, 3) := dk_162 0 20 (dk_at dksX8_wide_0 16 rfl rfl)
theorem dX8_wide_19 : decode cX8_wide 19 = .ok (.iload_n 1, 1) := dk_27 (dk_at dksX8_wide_0 19 rfl rfl)
theorem dX8_wide_20 : decode cX8_wide 20 = .ok (.aload_n 2, 1) := dk_44 (dk_at dksX8_wide_0 20 rfl rfl)
theorem dX8_wide_21 : decode cX8_wide 21 = .ok (.iload_n 3, 1) := dk_29 (dk_at dksX8_wide_0 21 rfl rfl)
theorem dX8_wide_22 : decode cX8_wide 22 = .ok (.invokevirtual 13, 3) := dk_182 0 13 (dk_at dksX8_wide_1 0 rfl rfl)
theorem dX8_wide_25 : decode cX8_wide 25 = .ok (.invokestatic 17, 3) := dk_184 0 17 (dk_at dksX8_wide_1 3 rfl rfl)
theorem dX8_wide_28 : decode cX8_wide 28 = .ok (.iadd, 1) := dk_96 (dk_at dksX8_wide_1 6 rfl rfl)
theorem dX8_wide_29 : decode cX8_wide 29 = .ok (.istore_n 1, 1) := dk_60 (dk_at dksX8_wide_1 7 rfl rfl)
theorem dX8_wide_30 : decode cX8_wide 30 = .ok (.iinc 3 1, 3) := dk_132 3 1 (dk_at dksX8_wide_1 8 rfl rfl)
theorem dX8_wide_33 : decode cX8_wide 33 = .ok (.goto (-22), 3) := dk_167 255 234 (dk_at dksX8_wide_1 11 rfl rfl)
theorem dX8_wide_36 : decode cX8_wide 36 = .ok (.iload_n 1, 1) := dk_27 (dk_at dksX8_wide_1 14 rfl rfl)
theorem dX8_wide_37 : decode cX8_wide 37 = .ok (.ireturn, 1) := dk_172 (dk_at dksX8_wide_1 15 rfl rfl)
abbrev cX8_width : ByteArray := prog_6_method_2_code
def yX8_width : MethodName := ⟨RX8, "width", "(C)I"⟩
def dkwX8_width_1 : List UInt8 := [16, 87, 160, 0, 7, 6, 167, 0, 4, 5, 172]
abbrev dktX8_width_1 : List UInt8 := dkwX8_width_1 ++ []
def dkwX8_width_0 : List UInt8 := [26, 16, 73, 159, 0, 9, 26, 16, 32, 160, 0, 7, 4, 167, 0, 20, 26, 16, 77, 159, 0, 9, 26]
abbrev dktX8_width_0 : List UInt8 := dkwX8_width_0 ++ dktX8_width_1
theorem dksX8_width_0 : cX8_width.data.toList.drop 0 = dktX8_width_0 := by decide +kernel
theorem dksX8_width_1 : cX8_width.data.toList.drop 23 = dktX8_width_1 := dk_seg dksX8_width_0 23 rfl rfl
theorem dX8_width_0 : decode cX8_width 0 = .ok (.iload_n 0, 1) := dk_26 (dk_at dksX8_width_0 0 rfl rfl)
theorem dX8_width_1 : decode cX8_width 1 = .ok (.bipush 73, 2) := dk_16 73 (dk_at dksX8_width_0 1 rfl rfl)
theorem dX8_width_3 : decode cX8_width 3 = .ok (.if_icmp .eq 9, 3) := dk_159 0 9 (dk_at dksX8_width_0 3 rfl rfl)
theorem dX8_width_6 : decode cX8_width 6 = .ok (.iload_n 0, 1) := dk_26 (dk_at dksX8_width_0 6 rfl rfl)
theorem dX8_width_7 : decode cX8_width 7 = .ok (.bipush 32, 2) := dk_16 32 (dk_at dksX8_width_0 7 rfl rfl)
theorem dX8_width_9 : decode cX8_width 9 = .ok (.if_icmp .ne 7, 3) := dk_160 0 7 (dk_at dksX8_width_0 9 rfl rfl)
theorem dX8_width_12 : decode cX8_width 12 = .ok (.iconst 1, 1) := dk_4 (dk_at dksX8_width_0 12 rfl rfl)
theorem dX8_width_13 : decode cX8_width 13 = .ok (.goto 20, 3) := dk_167 0 20 (dk_at dksX8_width_0 13 rfl rfl)
theorem dX8_width_16 : decode cX8_width 16 = .ok (.iload_n 0, 1) := dk_26 (dk_at dksX8_width_0 16 rfl rfl)
theorem dX8_width_17 : decode cX8_width 17 = .ok (.bipush 77, 2) := dk_16 77 (dk_at dksX8_width_0 17 rfl rfl)
theorem dX8_width_19 : decode cX8_width 19 = .ok (.if_icmp .eq 9, 3) := dk_159 0 9 (dk_at dksX8_width_0 19 rfl rfl)
theorem dX8_width_22 : decode cX8_width 22 = .ok (.iload_n 0, 1) := dk_26 (dk_at dksX8_width_0 22 rfl rfl)
theorem dX8_width_23 : decode cX8_width 23 = .ok (.bipush 87, 2) := dk_16 87 (dk_at dksX8_width_1 0 rfl rfl)
theorem dX8_width_25 : decode cX8_width 25 = .ok (.if_icmp .ne 7, 3) := dk_160 0 7 (dk_at dksX8_width_1 2 rfl rfl)
theorem dX8_width_28 : decode cX8_width 28 = .ok (.iconst 3, 1) := dk_6 (dk_at dksX8_width_1 5 rfl rfl)
theorem dX8_width_29 : decode cX8_width 29 = .ok (.goto 4, 3) := dk_167 0 4 (dk_at dksX8_width_1 6 rfl rfl)
theorem dX8_width_32 : decode cX8_width 32 = .ok (.iconst 2, 1) := dk_5 (dk_at dksX8_width_1 9 rfl rfl)
theorem dX8_width_33 : decode cX8_width 33 = .ok (.ireturn, 1) := dk_172 (dk_at dksX8_width_1 10 rfl rfl)
theorem q74 : (Jvm.Cond.initialized "HandBlinds$Lettered") ∈ lw_all := lw_g (lw_at lw_m1 29 rfl) rfl
theorem q835 : (Jvm.Cond.interfaceMethod "HandBlinds$Lettered" "HandBlinds$Lettered" "wide" "()I") ∈ lw_tbl := lw_at lw_m4 70 rfl
theorem q836 : (Jvm.Cond.declares ({ cls := "HandBlinds$Lettered", name := "wide", desc := "()I" } : Jvm.MethodName)) ∈ lw_tbl := lw_at lw_m4 71 rfl
theorem q837 : (Jvm.Cond.instanceMethod ({ cls := "HandBlinds$Lettered", name := "wide", desc := "()I" } : Jvm.MethodName)) ∈ lw_all := lw_g (lw_at lw_m4 72 rfl) rfl
theorem q838 : (Jvm.Cond.code ({ cls := "HandBlinds$Lettered", name := "wide", desc := "()I" } : Jvm.MethodName) prog_6_method_3_code (4 : Nat) (Option.some Jvm.ClassFile.FieldType.int)) ∈ lw_all := lw_g (lw_at lw_m4 73 rfl) rfl
theorem q839 : (Jvm.Cond.interfaceEntry "HandBlinds$Lettered" (1 : Nat)) ∈ lw_tbl := lw_at lw_m4 74 rfl
theorem q840 : (Jvm.Cond.methodLink "HandBlinds$Lettered" (1 : Nat) ({ cls := "HandBlinds$Lettered", name := "letters", desc := "()Ljava/lang/String;" } : Jvm.MethodName)) ∈ lw_all := lw_g (lw_at lw_m4 75 rfl) rfl
theorem q841 : (Jvm.Cond.interfaceMethod "HandBlinds$Lettered" "HandBlinds$Lettered" "letters" "()Ljava/lang/String;") ∈ lw_tbl := lw_at lw_m4 76 rfl
theorem q842 : (Jvm.Cond.declares ({ cls := "HandBlinds$Lettered", name := "letters", desc := "()Ljava/lang/String;" } : Jvm.MethodName)) ∈ lw_tbl := lw_at lw_m4 77 rfl
theorem q850 : (Jvm.Cond.methodLink "HandBlinds$Lettered" (7 : Nat) ({ cls := "java/lang/String", name := "length", desc := "()I" } : Jvm.MethodName)) ∈ lw_all := lw_g (lw_at lw_m4 85 rfl) rfl
theorem q851 : (Jvm.Cond.methodLink "HandBlinds$Lettered" (13 : Nat) ({ cls := "java/lang/String", name := "charAt", desc := "(I)C" } : Jvm.MethodName)) ∈ lw_all := lw_g (lw_at lw_m4 86 rfl) rfl
theorem q852 : (Jvm.Cond.methodLink "HandBlinds$Lettered" (17 : Nat) ({ cls := "HandBlinds$Lettered", name := "width", desc := "(C)I" } : Jvm.MethodName)) ∈ lw_all := lw_g (lw_at lw_m4 87 rfl) rfl
theorem q853 : (Jvm.Cond.static ({ cls := "HandBlinds$Lettered", name := "width", desc := "(C)I" } : Jvm.MethodName)) ∈ lw_all := lw_g (lw_at lw_m4 88 rfl) rfl
theorem q854 : (Jvm.Cond.code ({ cls := "HandBlinds$Lettered", name := "width", desc := "(C)I" } : Jvm.MethodName) prog_6_method_2_code (1 : Nat) (Option.some Jvm.ClassFile.FieldType.int)) ∈ lw_all := lw_g (lw_at lw_m4 89 rfl) rfl
/-! HandBlinds$Refused -/
set_option maxRecDepth 100000
def RX9 : String := "HandBlinds$Refused"
def TX9 : u_T := fun k => match k with
  | 0 => ("java/lang/Throwable", "cause", "Ljava/lang/Throwable;", false)
  | 1 => ("java/lang/Throwable", "stackTrace", "[Ljava/lang/StackTraceElement;", false)
  | 2 => ("java/lang/Throwable", "suppressedExceptions", "Ljava/util/List;", false)
  | 3 => ("java/lang/Throwable", "detailMessage", "Ljava/lang/String;", false)
  | 4 => ("java/lang/Throwable", "backtrace", "Ljava/lang/Object;", false)
  | 5 => ("java/lang/Throwable", "depth", "I", false)
  | _ => ("HandBlinds$Refused", "code", "I", true)
def tyX9 : Nat → FieldType := fun k => match k with
  | 0 => .object "java/lang/Throwable"
  | 1 => .array (.object "java/lang/StackTraceElement")
  | 2 => .object "java/util/List"
  | 3 => .object "java/lang/String"
  | 4 => .object "java/lang/Object"
  | 5 => .int
  | _ => .int
abbrev wsX90 : List Cond := u_ws RX9 TX9 7
theorem nmX9 : ∀ a, a < 7 → ∀ b, b < 7 → a ≠ b → (TX9 a).2.1 ≠ (TX9 b).2.1 := by decide +kernel
theorem tyX9_ok : ∀ k, k < 7 → parseFieldDescriptor (TX9 k).2.2.1 = some (tyX9 k) := by decide +kernel
abbrev cX9_init : ByteArray := prog_8_method_1_code
def yX9_init : MethodName := ⟨RX9, "<init>", "(I)V"⟩
def dkwX9_init_0 : List UInt8 := [42, 18, 1, 183, 0, 3, 42, 27, 181, 0, 9, 177]
abbrev dktX9_init_0 : List UInt8 := dkwX9_init_0 ++ []
theorem dksX9_init_0 : cX9_init.data.toList.drop 0 = dktX9_init_0 := by decide +kernel
theorem dX9_init_0 : decode cX9_init 0 = .ok (.aload_n 0, 1) := dk_42 (dk_at dksX9_init_0 0 rfl rfl)
theorem dX9_init_1 : decode cX9_init 1 = .ok (.ldc 1, 2) := dk_18 1 (dk_at dksX9_init_0 1 rfl rfl)
theorem dX9_init_3 : decode cX9_init 3 = .ok (.invokespecial 3, 3) := dk_183 0 3 (dk_at dksX9_init_0 3 rfl rfl)
theorem dX9_init_6 : decode cX9_init 6 = .ok (.aload_n 0, 1) := dk_42 (dk_at dksX9_init_0 6 rfl rfl)
theorem dX9_init_7 : decode cX9_init 7 = .ok (.iload_n 1, 1) := dk_27 (dk_at dksX9_init_0 7 rfl rfl)
theorem dX9_init_8 : decode cX9_init 8 = .ok (.putfield 9, 3) := dk_181 0 9 (dk_at dksX9_init_0 8 rfl rfl)
theorem dX9_init_11 : decode cX9_init 11 = .ok (.return_, 1) := dk_177 (dk_at dksX9_init_0 11 rfl rfl)
theorem q75 : (Jvm.Cond.initialized "HandBlinds$Refused") ∈ lw_all := lw_g (lw_at lw_m1 30 rfl) rfl
theorem q381 : (Jvm.Cond.selects "HandBlinds$Refused" ({ cls := "java/lang/Object", name := "getClass", desc := "()Ljava/lang/Class;" } : Jvm.MethodName) ({ cls := "java/lang/Object", name := "getClass", desc := "()Ljava/lang/Class;" } : Jvm.MethodName)) ∈ lw_all := lw_g (lw_at lw_m2 96 rfl) rfl
theorem q781 : (Jvm.Cond.selects "HandBlinds$Refused" ({ cls := "java/lang/Throwable", name := "fillInStackTrace", desc := "()Ljava/lang/Throwable;" } : Jvm.MethodName) ({ cls := "java/lang/Throwable", name := "fillInStackTrace", desc := "()Ljava/lang/Throwable;" } : Jvm.MethodName)) ∈ lw_all := lw_g (lw_at lw_m4 16 rfl) rfl
theorem q931 : (Jvm.Cond.instantiable "HandBlinds$Refused" (7 : Nat)) ∈ lw_all := lw_g (lw_at lw_m4 166 rfl) rfl
theorem q932 : (Jvm.Cond.castable "HandBlinds$Refused" "HandBlinds$Refused") ∈ lw_tbl := lw_at lw_m4 167 rfl
theorem q933 : (Jvm.Cond.selects "HandBlinds$Refused" ({ cls := "java/lang/Throwable", name := "fillInStackTrace", desc := "(I)Ljava/lang/Throwable;" } : Jvm.MethodName) ({ cls := "java/lang/Throwable", name := "fillInStackTrace", desc := "(I)Ljava/lang/Throwable;" } : Jvm.MethodName)) ∈ lw_all := lw_g (lw_at lw_m4 168 rfl) rfl
theorem q934 : (Jvm.Cond.lays "HandBlinds$Refused" "java/lang/Throwable" "cause" "Ljava/lang/Throwable;") ∈ lw_all := lw_g (lw_at lw_m4 169 rfl) rfl
theorem q935 : (Jvm.Cond.lays "HandBlinds$Refused" "java/lang/Throwable" "stackTrace" "[Ljava/lang/StackTraceElement;") ∈ lw_all := lw_g (lw_at lw_m4 170 rfl) rfl
theorem q936 : (Jvm.Cond.lays "HandBlinds$Refused" "java/lang/Throwable" "suppressedExceptions" "Ljava/util/List;") ∈ lw_all := lw_g (lw_at lw_m4 171 rfl) rfl
theorem q937 : (Jvm.Cond.lays "HandBlinds$Refused" "java/lang/Throwable" "detailMessage" "Ljava/lang/String;") ∈ lw_all := lw_g (lw_at lw_m4 172 rfl) rfl
theorem q938 : (Jvm.Cond.lays "HandBlinds$Refused" "java/lang/Throwable" "backtrace" "Ljava/lang/Object;") ∈ lw_all := lw_g (lw_at lw_m4 173 rfl) rfl
theorem q940 : (Jvm.Cond.instanceMethod ({ cls := "HandBlinds$Refused", name := "<init>", desc := "(I)V" } : Jvm.MethodName)) ∈ lw_all := lw_g (lw_at lw_m4 175 rfl) rfl
theorem q941 : (Jvm.Cond.code ({ cls := "HandBlinds$Refused", name := "<init>", desc := "(I)V" } : Jvm.MethodName) prog_8_method_1_code (2 : Nat) (Option.none : Option Jvm.ClassFile.FieldType)) ∈ lw_all := lw_g (lw_at lw_m4 176 rfl) rfl
theorem q942 : (Jvm.Cond.stringRef "HandBlinds$Refused" (1 : Nat) "refused") ∈ lw_tbl := lw_at lw_m4 177 rfl
theorem q943 : (Jvm.Cond.methodLink "HandBlinds$Refused" (3 : Nat) ({ cls := "java/lang/Exception", name := "<init>", desc := "(Ljava/lang/String;)V" } : Jvm.MethodName)) ∈ lw_all := lw_g (lw_at lw_m4 178 rfl) rfl
theorem q944 : (Jvm.Cond.fieldLink "HandBlinds$Refused" (9 : Nat) "HandBlinds$Refused" "code" "I") ∈ lw_all := lw_g (lw_at lw_m4 179 rfl) rfl
theorem q946 : (Jvm.Cond.laysFinal "HandBlinds$Refused" "HandBlinds$Refused" "code" "I") ∈ lw_all := lw_g (lw_at lw_m4 181 rfl) rfl
theorem q947 : (Jvm.Cond.soleField "HandBlinds$Refused" "code") ∈ lw_all := lw_g (lw_at lw_m4 182 rfl) rfl
theorem q948 : (Jvm.Cond.lays "HandBlinds$Refused" "java/lang/Throwable" "depth" "I") ∈ lw_all := lw_g (lw_at lw_m4 183 rfl) rfl
theorem q949 : (Jvm.Cond.superclass "HandBlinds$Refused" "java/lang/Exception") ∈ lw_all := lw_g (lw_at lw_m4 184 rfl) rfl
theorem q1684 : (Jvm.Cond.castable "HandBlinds$Refused" "java/lang/Object") ∈ lw_tbl := lw_at lw_m7 199 rfl
theorem in_X9 : ∀ w ∈ wsX90, w ∈ lw_all := lw_in wsX90 [934, 935, 936, 937, 938, 948, 946] (by decide +kernel) (by decide +kernel)
