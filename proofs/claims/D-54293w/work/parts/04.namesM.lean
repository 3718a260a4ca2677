/-! HandBlindsModel -/
set_option maxRecDepth 100000
def RX2 : String := "HandBlindsModel"
def TX2 : u_T := fun k => match k with
  | 0 => ("HandBlindsModel", "s", "[I", true)
  | 1 => ("HandBlindsModel", "past", "[I", true)
  | 2 => ("HandBlindsModel", "tried", "[I", true)
  | 3 => ("HandBlindsModel", "pasts", "I", false)
  | 4 => ("HandBlindsModel", "text", "[I", true)
  | 5 => ("HandBlindsModel", "typed", "I", false)
  | 6 => ("HandBlindsModel", "spot", "I", false)
  | 7 => ("HandBlindsModel", "from", "I", false)
  | 8 => ("HandBlindsModel", "reason", "I", false)
  | 9 => ("HandBlindsModel", "cause", "I", false)
  | 10 => ("HandBlindsModel", "names", "I", false)
  | 11 => ("HandBlindsModel", "gone", "I", false)
  | _ => ("HandBlindsModel", "torn", "I", false)
def tyX2 : Nat → FieldType := fun k => match k with
  | 0 => .array .int
  | 1 => .array .int
  | 2 => .array .int
  | 3 => .int
  | 4 => .array .int
  | 5 => .int
  | 6 => .int
  | 7 => .int
  | 8 => .int
  | 9 => .int
  | 10 => .int
  | 11 => .int
  | _ => .int
abbrev wsX20 : List Cond := u_ws RX2 TX2 13
set_option maxRecDepth 100000 in
theorem nmX2 : ∀ a, a < 13 → ∀ b, b < 13 → a ≠ b → (TX2 a).2.1 ≠ (TX2 b).2.1 := by decide +kernel
set_option maxRecDepth 100000 in
theorem tyX2_ok : ∀ k, k < 13 → parseFieldDescriptor (TX2 k).2.2.1 = some (tyX2 k) := by decide +kernel
abbrev cX2_init : ByteArray := prog_12_method_1_code
def yX2_init : MethodName := ⟨RX2, "<init>", "()V"⟩
def dkwX2_init_3 : List UInt8 := [42, 180, 0, 7, 16, 10, 16, 10, 79, 177]
abbrev dktX2_init_3 : List UInt8 := dkwX2_init_3 ++ []
def dkwX2_init_2 : List UInt8 := [180, 0, 7, 6, 2, 79, 42, 180, 0, 7, 16, 8, 16, 24, 79, 42, 180, 0, 7, 16, 9, 16, 30, 79]
abbrev dktX2_init_2 : List UInt8 := dkwX2_init_2 ++ dktX2_init_3
def dkwX2_init_1 : List UInt8 := [17, 1, 113, 188, 10, 181, 0, 16, 42, 16, 60, 188, 10, 181, 0, 19, 42, 180, 0, 7, 4, 2, 79, 42]
abbrev dktX2_init_1 : List UInt8 := dkwX2_init_1 ++ dktX2_init_2
def dkwX2_init_0 : List UInt8 := [42, 183, 0, 1, 42, 17, 1, 113, 188, 10, 181, 0, 7, 42, 17, 5, 196, 188, 10, 181, 0, 13, 42]
abbrev dktX2_init_0 : List UInt8 := dkwX2_init_0 ++ dktX2_init_1
theorem dksX2_init_0 : cX2_init.data.toList.drop 0 = dktX2_init_0 := by decide +kernel
theorem dksX2_init_1 : cX2_init.data.toList.drop 23 = dktX2_init_1 := dk_seg dksX2_init_0 23 rfl rfl
theorem dksX2_init_2 : cX2_init.data.toList.drop 47 = dktX2_init_2 := dk_seg dksX2_init_1 24 rfl rfl
theorem dksX2_init_3 : cX2_init.data.toList.drop 71 = dktX2_init_3 := dk_seg dksX2_init_2 24 rfl rfl
theorem dX2_init_0 : decode cX2_init 0 = .ok (.aload_n 0, 1) := dk_42 (dk_at dksX2_init_0 0 rfl rfl)
theorem dX2_init_1 : decode cX2_init 1 = .ok (.invokespecial 1, 3) := dk_183 0 1 (dk_at dksX2_init_0 1 rfl rfl)
theorem dX2_init_4 : decode cX2_init 4 = .ok (.aload_n 0, 1) := dk_42 (dk_at dksX2_init_0 4 rfl rfl)
theorem dX2_init_5 : decode cX2_init 5 = .ok (.sipush 369, 3) := dk_17 1 113 (dk_at dksX2_init_0 5 rfl rfl)
theorem dX2_init_8 : decode cX2_init 8 = .ok (.newarray .int, 2) := dk_188_10 (dk_at dksX2_init_0 8 rfl rfl)
theorem dX2_init_10 : decode cX2_init 10 = .ok (.putfield 7, 3) := dk_181 0 7 (dk_at dksX2_init_0 10 rfl rfl)
theorem dX2_init_13 : decode cX2_init 13 = .ok (.aload_n 0, 1) := dk_42 (dk_at dksX2_init_0 13 rfl rfl)
theorem dX2_init_14 : decode cX2_init 14 = .ok (.sipush 1476, 3) := dk_17 5 196 (dk_at dksX2_init_0 14 rfl rfl)
theorem dX2_init_17 : decode cX2_init 17 = .ok (.newarray .int, 2) := dk_188_10 (dk_at dksX2_init_0 17 rfl rfl)
theorem dX2_init_19 : decode cX2_init 19 = .ok (.putfield 13, 3) := dk_181 0 13 (dk_at dksX2_init_0 19 rfl rfl)
theorem dX2_init_22 : decode cX2_init 22 = .ok (.aload_n 0, 1) := dk_42 (dk_at dksX2_init_0 22 rfl rfl)
theorem dX2_init_23 : decode cX2_init 23 = .ok (.sipush 369, 3) := dk_17 1 113 (dk_at dksX2_init_1 0 rfl rfl)
theorem dX2_init_26 : decode cX2_init 26 = .ok (.newarray .int, 2) := dk_188_10 (dk_at dksX2_init_1 3 rfl rfl)
theorem dX2_init_28 : decode cX2_init 28 = .ok (.putfield 16, 3) := dk_181 0 16 (dk_at dksX2_init_1 5 rfl rfl)
theorem dX2_init_31 : decode cX2_init 31 = .ok (.aload_n 0, 1) := dk_42 (dk_at dksX2_init_1 8 rfl rfl)
theorem dX2_init_32 : decode cX2_init 32 = .ok (.bipush 60, 2) := dk_16 60 (dk_at dksX2_init_1 9 rfl rfl)
theorem dX2_init_34 : decode cX2_init 34 = .ok (.newarray .int, 2) := dk_188_10 (dk_at dksX2_init_1 11 rfl rfl)
theorem dX2_init_36 : decode cX2_init 36 = .ok (.putfield 19, 3) := dk_181 0 19 (dk_at dksX2_init_1 13 rfl rfl)
theorem dX2_init_39 : decode cX2_init 39 = .ok (.aload_n 0, 1) := dk_42 (dk_at dksX2_init_1 16 rfl rfl)
theorem dX2_init_40 : decode cX2_init 40 = .ok (.getfield 7, 3) := dk_180 0 7 (dk_at dksX2_init_1 17 rfl rfl)
theorem dX2_init_43 : decode cX2_init 43 = .ok (.iconst 1, 1) := dk_4 (dk_at dksX2_init_1 20 rfl rfl)
theorem dX2_init_44 : decode cX2_init 44 = .ok (.iconst (-1), 1) := dk_2 (dk_at dksX2_init_1 21 rfl rfl)
theorem dX2_init_45 : decode cX2_init 45 = .ok (.iastore, 1) := dk_79 (dk_at dksX2_init_1 22 rfl rfl)
theorem dX2_init_46 : decode cX2_init 46 = .ok (.aload_n 0, 1) := dk_42 (dk_at dksX2_init_1 23 rfl rfl)
theorem dX2_init_47 : decode cX2_init 47 = .ok (.getfield 7, 3) := dk_180 0 7 (dk_at dksX2_init_2 0 rfl rfl)
theorem dX2_init_50 : decode cX2_init 50 = .ok (.iconst 3, 1) := dk_6 (dk_at dksX2_init_2 3 rfl rfl)
theorem dX2_init_51 : decode cX2_init 51 = .ok (.iconst (-1), 1) := dk_2 (dk_at dksX2_init_2 4 rfl rfl)
theorem dX2_init_52 : decode cX2_init 52 = .ok (.iastore, 1) := dk_79 (dk_at dksX2_init_2 5 rfl rfl)
theorem dX2_init_53 : decode cX2_init 53 = .ok (.aload_n 0, 1) := dk_42 (dk_at dksX2_init_2 6 rfl rfl)
theorem dX2_init_54 : decode cX2_init 54 = .ok (.getfield 7, 3) := dk_180 0 7 (dk_at dksX2_init_2 7 rfl rfl)
theorem dX2_init_57 : decode cX2_init 57 = .ok (.bipush 8, 2) := dk_16 8 (dk_at dksX2_init_2 10 rfl rfl)
theorem dX2_init_59 : decode cX2_init 59 = .ok (.bipush 24, 2) := dk_16 24 (dk_at dksX2_init_2 12 rfl rfl)
theorem dX2_init_61 : decode cX2_init 61 = .ok (.iastore, 1) := dk_79 (dk_at dksX2_init_2 14 rfl rfl)
theorem dX2_init_62 : decode cX2_init 62 = .ok (.aload_n 0, 1) := dk_42 (dk_at dksX2_init_2 15 rfl rfl)
theorem dX2_init_63 : decode cX2_init 63 = .ok (.getfield 7, 3) := dk_180 0 7 (dk_at dksX2_init_2 16 rfl rfl)
theorem dX2_init_66 : decode cX2_init 66 = .ok (.bipush 9, 2) := dk_16 9 (dk_at dksX2_init_2 19 rfl rfl)
theorem dX2_init_68 : decode cX2_init 68 = .ok (.bipush 30, 2) := dk_16 30 (dk_at dksX2_init_2 21 rfl rfl)
theorem dX2_init_70 : decode cX2_init 70 = .ok (.iastore, 1) := dk_79 (dk_at dksX2_init_2 23 rfl rfl)
theorem dX2_init_71 : decode cX2_init 71 = .ok (.aload_n 0, 1) := dk_42 (dk_at dksX2_init_3 0 rfl rfl)
theorem dX2_init_72 : decode cX2_init 72 = .ok (.getfield 7, 3) := dk_180 0 7 (dk_at dksX2_init_3 1 rfl rfl)
theorem dX2_init_75 : decode cX2_init 75 = .ok (.bipush 10, 2) := dk_16 10 (dk_at dksX2_init_3 4 rfl rfl)
theorem dX2_init_77 : decode cX2_init 77 = .ok (.bipush 10, 2) := dk_16 10 (dk_at dksX2_init_3 6 rfl rfl)
theorem dX2_init_79 : decode cX2_init 79 = .ok (.iastore, 1) := dk_79 (dk_at dksX2_init_3 8 rfl rfl)
theorem dX2_init_80 : decode cX2_init 80 = .ok (.return_, 1) := dk_177 (dk_at dksX2_init_3 9 rfl rfl)
abbrev cX2_fault : ByteArray := prog_12_method_23_code
def yX2_fault : MethodName := ⟨RX2, "fault", "(I)I"⟩
def dkwX2_fault_3 : List UInt8 := [180, 0, 49, 172]
abbrev dktX2_fault_3 : List UInt8 := dkwX2_fault_3 ++ []
def dkwX2_fault_2 : List UInt8 := [27, 154, 0, 10, 42, 180, 0, 58, 167, 0, 19, 27, 4, 160, 0, 10, 42, 180, 0, 46, 167, 0, 7, 42]
abbrev dktX2_fault_2 : List UInt8 := dkwX2_fault_2 ++ dktX2_fault_3
def dkwX2_fault_1 : List UInt8 := [182, 0, 97, 61, 42, 180, 0, 16, 42, 180, 0, 7, 184, 0, 93, 28, 153, 0, 8, 18, 100, 167, 0, 30]
abbrev dktX2_fault_1 : List UInt8 := dkwX2_fault_1 ++ dktX2_fault_2
def dkwX2_fault_0 : List UInt8 := [27, 3, 5, 184, 0, 61, 154, 0, 6, 18, 92, 172, 42, 180, 0, 7, 42, 180, 0, 16, 184, 0, 93, 42]
abbrev dktX2_fault_0 : List UInt8 := dkwX2_fault_0 ++ dktX2_fault_1
theorem dksX2_fault_0 : cX2_fault.data.toList.drop 0 = dktX2_fault_0 := by decide +kernel
theorem dksX2_fault_1 : cX2_fault.data.toList.drop 24 = dktX2_fault_1 := dk_seg dksX2_fault_0 24 rfl rfl
theorem dksX2_fault_2 : cX2_fault.data.toList.drop 48 = dktX2_fault_2 := dk_seg dksX2_fault_1 24 rfl rfl
theorem dksX2_fault_3 : cX2_fault.data.toList.drop 72 = dktX2_fault_3 := dk_seg dksX2_fault_2 24 rfl rfl
theorem dX2_fault_0 : decode cX2_fault 0 = .ok (.iload_n 1, 1) := dk_27 (dk_at dksX2_fault_0 0 rfl rfl)
theorem dX2_fault_1 : decode cX2_fault 1 = .ok (.iconst 0, 1) := dk_3 (dk_at dksX2_fault_0 1 rfl rfl)
theorem dX2_fault_2 : decode cX2_fault 2 = .ok (.iconst 2, 1) := dk_5 (dk_at dksX2_fault_0 2 rfl rfl)
theorem dX2_fault_3 : decode cX2_fault 3 = .ok (.invokestatic 61, 3) := dk_184 0 61 (dk_at dksX2_fault_0 3 rfl rfl)
theorem dX2_fault_6 : decode cX2_fault 6 = .ok (.ifCond .ne 6, 3) := dk_154 0 6 (dk_at dksX2_fault_0 6 rfl rfl)
theorem dX2_fault_9 : decode cX2_fault 9 = .ok (.ldc 92, 2) := dk_18 92 (dk_at dksX2_fault_0 9 rfl rfl)
theorem dX2_fault_11 : decode cX2_fault 11 = .ok (.ireturn, 1) := dk_172 (dk_at dksX2_fault_0 11 rfl rfl)
theorem dX2_fault_12 : decode cX2_fault 12 = .ok (.aload_n 0, 1) := dk_42 (dk_at dksX2_fault_0 12 rfl rfl)
theorem dX2_fault_13 : decode cX2_fault 13 = .ok (.getfield 7, 3) := dk_180 0 7 (dk_at dksX2_fault_0 13 rfl rfl)
theorem dX2_fault_16 : decode cX2_fault 16 = .ok (.aload_n 0, 1) := dk_42 (dk_at dksX2_fault_0 16 rfl rfl)
theorem dX2_fault_17 : decode cX2_fault 17 = .ok (.getfield 16, 3) := dk_180 0 16 (dk_at dksX2_fault_0 17 rfl rfl)
theorem dX2_fault_20 : decode cX2_fault 20 = .ok (.invokestatic 93, 3) := dk_184 0 93 (dk_at dksX2_fault_0 20 rfl rfl)
theorem dX2_fault_23 : decode cX2_fault 23 = .ok (.aload_n 0, 1) := dk_42 (dk_at dksX2_fault_0 23 rfl rfl)
theorem dX2_fault_24 : decode cX2_fault 24 = .ok (.invokevirtual 97, 3) := dk_182 0 97 (dk_at dksX2_fault_1 0 rfl rfl)
theorem dX2_fault_27 : decode cX2_fault 27 = .ok (.istore_n 2, 1) := dk_61 (dk_at dksX2_fault_1 3 rfl rfl)
theorem dX2_fault_28 : decode cX2_fault 28 = .ok (.aload_n 0, 1) := dk_42 (dk_at dksX2_fault_1 4 rfl rfl)
theorem dX2_fault_29 : decode cX2_fault 29 = .ok (.getfield 16, 3) := dk_180 0 16 (dk_at dksX2_fault_1 5 rfl rfl)
theorem dX2_fault_32 : decode cX2_fault 32 = .ok (.aload_n 0, 1) := dk_42 (dk_at dksX2_fault_1 8 rfl rfl)
theorem dX2_fault_33 : decode cX2_fault 33 = .ok (.getfield 7, 3) := dk_180 0 7 (dk_at dksX2_fault_1 9 rfl rfl)
theorem dX2_fault_36 : decode cX2_fault 36 = .ok (.invokestatic 93, 3) := dk_184 0 93 (dk_at dksX2_fault_1 12 rfl rfl)
theorem dX2_fault_39 : decode cX2_fault 39 = .ok (.iload_n 2, 1) := dk_28 (dk_at dksX2_fault_1 15 rfl rfl)
theorem dX2_fault_40 : decode cX2_fault 40 = .ok (.ifCond .eq 8, 3) := dk_153 0 8 (dk_at dksX2_fault_1 16 rfl rfl)
theorem dX2_fault_43 : decode cX2_fault 43 = .ok (.ldc 100, 2) := dk_18 100 (dk_at dksX2_fault_1 19 rfl rfl)
theorem dX2_fault_45 : decode cX2_fault 45 = .ok (.goto 30, 3) := dk_167 0 30 (dk_at dksX2_fault_1 21 rfl rfl)
theorem dX2_fault_48 : decode cX2_fault 48 = .ok (.iload_n 1, 1) := dk_27 (dk_at dksX2_fault_2 0 rfl rfl)
theorem dX2_fault_49 : decode cX2_fault 49 = .ok (.ifCond .ne 10, 3) := dk_154 0 10 (dk_at dksX2_fault_2 1 rfl rfl)
theorem dX2_fault_52 : decode cX2_fault 52 = .ok (.aload_n 0, 1) := dk_42 (dk_at dksX2_fault_2 4 rfl rfl)
theorem dX2_fault_53 : decode cX2_fault 53 = .ok (.getfield 58, 3) := dk_180 0 58 (dk_at dksX2_fault_2 5 rfl rfl)
theorem dX2_fault_56 : decode cX2_fault 56 = .ok (.goto 19, 3) := dk_167 0 19 (dk_at dksX2_fault_2 8 rfl rfl)
theorem dX2_fault_59 : decode cX2_fault 59 = .ok (.iload_n 1, 1) := dk_27 (dk_at dksX2_fault_2 11 rfl rfl)
theorem dX2_fault_60 : decode cX2_fault 60 = .ok (.iconst 1, 1) := dk_4 (dk_at dksX2_fault_2 12 rfl rfl)
theorem dX2_fault_61 : decode cX2_fault 61 = .ok (.if_icmp .ne 10, 3) := dk_160 0 10 (dk_at dksX2_fault_2 13 rfl rfl)
theorem dX2_fault_64 : decode cX2_fault 64 = .ok (.aload_n 0, 1) := dk_42 (dk_at dksX2_fault_2 16 rfl rfl)
theorem dX2_fault_65 : decode cX2_fault 65 = .ok (.getfield 46, 3) := dk_180 0 46 (dk_at dksX2_fault_2 17 rfl rfl)
theorem dX2_fault_68 : decode cX2_fault 68 = .ok (.goto 7, 3) := dk_167 0 7 (dk_at dksX2_fault_2 20 rfl rfl)
theorem dX2_fault_71 : decode cX2_fault 71 = .ok (.aload_n 0, 1) := dk_42 (dk_at dksX2_fault_2 23 rfl rfl)
theorem dX2_fault_72 : decode cX2_fault 72 = .ok (.getfield 49, 3) := dk_180 0 49 (dk_at dksX2_fault_3 0 rfl rfl)
theorem dX2_fault_75 : decode cX2_fault 75 = .ok (.ireturn, 1) := dk_172 (dk_at dksX2_fault_3 3 rfl rfl)
abbrev cX2_in : ByteArray := prog_12_method_3_code
def yX2_in : MethodName := ⟨RX2, "in", "(III)Z"⟩
def dkwX2_in_0 : List UInt8 := [26, 27, 161, 0, 12, 26, 28, 163, 0, 7, 4, 167, 0, 4, 3, 172]
abbrev dktX2_in_0 : List UInt8 := dkwX2_in_0 ++ []
theorem dksX2_in_0 : cX2_in.data.toList.drop 0 = dktX2_in_0 := by decide +kernel
theorem dX2_in_0 : decode cX2_in 0 = .ok (.iload_n 0, 1) := dk_26 (dk_at dksX2_in_0 0 rfl rfl)
theorem dX2_in_1 : decode cX2_in 1 = .ok (.iload_n 1, 1) := dk_27 (dk_at dksX2_in_0 1 rfl rfl)
theorem dX2_in_2 : decode cX2_in 2 = .ok (.if_icmp .lt 12, 3) := dk_161 0 12 (dk_at dksX2_in_0 2 rfl rfl)
theorem dX2_in_5 : decode cX2_in 5 = .ok (.iload_n 0, 1) := dk_26 (dk_at dksX2_in_0 5 rfl rfl)
theorem dX2_in_6 : decode cX2_in 6 = .ok (.iload_n 2, 1) := dk_28 (dk_at dksX2_in_0 6 rfl rfl)
theorem dX2_in_7 : decode cX2_in 7 = .ok (.if_icmp .gt 7, 3) := dk_163 0 7 (dk_at dksX2_in_0 7 rfl rfl)
theorem dX2_in_10 : decode cX2_in 10 = .ok (.iconst 1, 1) := dk_4 (dk_at dksX2_in_0 10 rfl rfl)
theorem dX2_in_11 : decode cX2_in 11 = .ok (.goto 4, 3) := dk_167 0 4 (dk_at dksX2_in_0 11 rfl rfl)
theorem dX2_in_14 : decode cX2_in 14 = .ok (.iconst 0, 1) := dk_3 (dk_at dksX2_in_0 14 rfl rfl)
theorem dX2_in_15 : decode cX2_in 15 = .ok (.ireturn, 1) := dk_172 (dk_at dksX2_in_0 15 rfl rfl)
abbrev cX2_copies : ByteArray := prog_12_method_4_code
def yX2_copies : MethodName := ⟨RX2, "copies", "([I[I)V"⟩
def dkwX2_copies_0 : List UInt8 := [3, 61, 28, 17, 1, 113, 162, 0, 15, 43, 28, 42, 28, 46, 79, 132, 2, 1, 167, 255, 240, 177]
abbrev dktX2_copies_0 : List UInt8 := dkwX2_copies_0 ++ []
theorem dksX2_copies_0 : cX2_copies.data.toList.drop 0 = dktX2_copies_0 := by decide +kernel
theorem dX2_copies_0 : decode cX2_copies 0 = .ok (.iconst 0, 1) := dk_3 (dk_at dksX2_copies_0 0 rfl rfl)
theorem dX2_copies_1 : decode cX2_copies 1 = .ok (.istore_n 2, 1) := dk_61 (dk_at dksX2_copies_0 1 rfl rfl)
theorem dX2_copies_2 : decode cX2_copies 2 = .ok (.iload_n 2, 1) := dk_28 (dk_at dksX2_copies_0 2 rfl rfl)
theorem dX2_copies_3 : decode cX2_copies 3 = .ok (.sipush 369, 3) := dk_17 1 113 (dk_at dksX2_copies_0 3 rfl rfl)
theorem dX2_copies_6 : decode cX2_copies 6 = .ok (.if_icmp .ge 15, 3) := dk_162 0 15 (dk_at dksX2_copies_0 6 rfl rfl)
theorem dX2_copies_9 : decode cX2_copies 9 = .ok (.aload_n 1, 1) := dk_43 (dk_at dksX2_copies_0 9 rfl rfl)
theorem dX2_copies_10 : decode cX2_copies 10 = .ok (.iload_n 2, 1) := dk_28 (dk_at dksX2_copies_0 10 rfl rfl)
theorem dX2_copies_11 : decode cX2_copies 11 = .ok (.aload_n 0, 1) := dk_42 (dk_at dksX2_copies_0 11 rfl rfl)
theorem dX2_copies_12 : decode cX2_copies 12 = .ok (.iload_n 2, 1) := dk_28 (dk_at dksX2_copies_0 12 rfl rfl)
theorem dX2_copies_13 : decode cX2_copies 13 = .ok (.iaload, 1) := dk_46 (dk_at dksX2_copies_0 13 rfl rfl)
theorem dX2_copies_14 : decode cX2_copies 14 = .ok (.iastore, 1) := dk_79 (dk_at dksX2_copies_0 14 rfl rfl)
theorem dX2_copies_15 : decode cX2_copies 15 = .ok (.iinc 2 1, 3) := dk_132 2 1 (dk_at dksX2_copies_0 15 rfl rfl)
theorem dX2_copies_18 : decode cX2_copies 18 = .ok (.goto (-16), 3) := dk_167 255 240 (dk_at dksX2_copies_0 18 rfl rfl)
theorem dX2_copies_21 : decode cX2_copies 21 = .ok (.return_, 1) := dk_177 (dk_at dksX2_copies_0 21 rfl rfl)
abbrev cX2_addsAll : ByteArray := prog_12_method_22_code
def yX2_addsAll : MethodName := ⟨RX2, "addsAll", "()Z"⟩
def dkwX2_addsAll_2 : List UInt8 := [181, 0, 86, 42, 182, 0, 89, 60, 167, 255, 216, 27, 172]
abbrev dktX2_addsAll_2 : List UInt8 := dkwX2_addsAll_2 ++ []
def dkwX2_addsAll_1 : List UInt8 := [180, 0, 55, 162, 0, 31, 42, 89, 180, 0, 52, 4, 96, 181, 0, 52, 42, 89, 180, 0, 86, 4, 96]
abbrev dktX2_addsAll_1 : List UInt8 := dkwX2_addsAll_1 ++ dktX2_addsAll_2
def dkwX2_addsAll_0 : List UInt8 := [42, 3, 181, 0, 52, 42, 4, 181, 0, 86, 42, 182, 0, 89, 60, 27, 153, 0, 42, 42, 180, 0, 52, 42]
abbrev dktX2_addsAll_0 : List UInt8 := dkwX2_addsAll_0 ++ dktX2_addsAll_1
theorem dksX2_addsAll_0 : cX2_addsAll.data.toList.drop 0 = dktX2_addsAll_0 := by decide +kernel
theorem dksX2_addsAll_1 : cX2_addsAll.data.toList.drop 24 = dktX2_addsAll_1 := dk_seg dksX2_addsAll_0 24 rfl rfl
theorem dksX2_addsAll_2 : cX2_addsAll.data.toList.drop 47 = dktX2_addsAll_2 := dk_seg dksX2_addsAll_1 23 rfl rfl
theorem dX2_addsAll_0 : decode cX2_addsAll 0 = .ok (.aload_n 0, 1) := dk_42 (dk_at dksX2_addsAll_0 0 rfl rfl)
theorem dX2_addsAll_1 : decode cX2_addsAll 1 = .ok (.iconst 0, 1) := dk_3 (dk_at dksX2_addsAll_0 1 rfl rfl)
theorem dX2_addsAll_2 : decode cX2_addsAll 2 = .ok (.putfield 52, 3) := dk_181 0 52 (dk_at dksX2_addsAll_0 2 rfl rfl)
theorem dX2_addsAll_5 : decode cX2_addsAll 5 = .ok (.aload_n 0, 1) := dk_42 (dk_at dksX2_addsAll_0 5 rfl rfl)
theorem dX2_addsAll_6 : decode cX2_addsAll 6 = .ok (.iconst 1, 1) := dk_4 (dk_at dksX2_addsAll_0 6 rfl rfl)
theorem dX2_addsAll_7 : decode cX2_addsAll 7 = .ok (.putfield 86, 3) := dk_181 0 86 (dk_at dksX2_addsAll_0 7 rfl rfl)
theorem dX2_addsAll_10 : decode cX2_addsAll 10 = .ok (.aload_n 0, 1) := dk_42 (dk_at dksX2_addsAll_0 10 rfl rfl)
theorem dX2_addsAll_11 : decode cX2_addsAll 11 = .ok (.invokevirtual 89, 3) := dk_182 0 89 (dk_at dksX2_addsAll_0 11 rfl rfl)
theorem dX2_addsAll_14 : decode cX2_addsAll 14 = .ok (.istore_n 1, 1) := dk_60 (dk_at dksX2_addsAll_0 14 rfl rfl)
theorem dX2_addsAll_15 : decode cX2_addsAll 15 = .ok (.iload_n 1, 1) := dk_27 (dk_at dksX2_addsAll_0 15 rfl rfl)
theorem dX2_addsAll_16 : decode cX2_addsAll 16 = .ok (.ifCond .eq 42, 3) := dk_153 0 42 (dk_at dksX2_addsAll_0 16 rfl rfl)
theorem dX2_addsAll_19 : decode cX2_addsAll 19 = .ok (.aload_n 0, 1) := dk_42 (dk_at dksX2_addsAll_0 19 rfl rfl)
theorem dX2_addsAll_20 : decode cX2_addsAll 20 = .ok (.getfield 52, 3) := dk_180 0 52 (dk_at dksX2_addsAll_0 20 rfl rfl)
theorem dX2_addsAll_23 : decode cX2_addsAll 23 = .ok (.aload_n 0, 1) := dk_42 (dk_at dksX2_addsAll_0 23 rfl rfl)
theorem dX2_addsAll_24 : decode cX2_addsAll 24 = .ok (.getfield 55, 3) := dk_180 0 55 (dk_at dksX2_addsAll_1 0 rfl rfl)
theorem dX2_addsAll_27 : decode cX2_addsAll 27 = .ok (.if_icmp .ge 31, 3) := dk_162 0 31 (dk_at dksX2_addsAll_1 3 rfl rfl)
theorem dX2_addsAll_30 : decode cX2_addsAll 30 = .ok (.aload_n 0, 1) := dk_42 (dk_at dksX2_addsAll_1 6 rfl rfl)
theorem dX2_addsAll_31 : decode cX2_addsAll 31 = .ok (.dup, 1) := dk_89 (dk_at dksX2_addsAll_1 7 rfl rfl)
theorem dX2_addsAll_32 : decode cX2_addsAll 32 = .ok (.getfield 52, 3) := dk_180 0 52 (dk_at dksX2_addsAll_1 8 rfl rfl)
theorem dX2_addsAll_35 : decode cX2_addsAll 35 = .ok (.iconst 1, 1) := dk_4 (dk_at dksX2_addsAll_1 11 rfl rfl)
theorem dX2_addsAll_36 : decode cX2_addsAll 36 = .ok (.iadd, 1) := dk_96 (dk_at dksX2_addsAll_1 12 rfl rfl)
theorem dX2_addsAll_37 : decode cX2_addsAll 37 = .ok (.putfield 52, 3) := dk_181 0 52 (dk_at dksX2_addsAll_1 13 rfl rfl)
theorem dX2_addsAll_40 : decode cX2_addsAll 40 = .ok (.aload_n 0, 1) := dk_42 (dk_at dksX2_addsAll_1 16 rfl rfl)
theorem dX2_addsAll_41 : decode cX2_addsAll 41 = .ok (.dup, 1) := dk_89 (dk_at dksX2_addsAll_1 17 rfl rfl)
theorem dX2_addsAll_42 : decode cX2_addsAll 42 = .ok (.getfield 86, 3) := dk_180 0 86 (dk_at dksX2_addsAll_1 18 rfl rfl)
theorem dX2_addsAll_45 : decode cX2_addsAll 45 = .ok (.iconst 1, 1) := dk_4 (dk_at dksX2_addsAll_1 21 rfl rfl)
theorem dX2_addsAll_46 : decode cX2_addsAll 46 = .ok (.iadd, 1) := dk_96 (dk_at dksX2_addsAll_1 22 rfl rfl)
theorem dX2_addsAll_47 : decode cX2_addsAll 47 = .ok (.putfield 86, 3) := dk_181 0 86 (dk_at dksX2_addsAll_2 0 rfl rfl)
theorem dX2_addsAll_50 : decode cX2_addsAll 50 = .ok (.aload_n 0, 1) := dk_42 (dk_at dksX2_addsAll_2 3 rfl rfl)
theorem dX2_addsAll_51 : decode cX2_addsAll 51 = .ok (.invokevirtual 89, 3) := dk_182 0 89 (dk_at dksX2_addsAll_2 4 rfl rfl)
theorem dX2_addsAll_54 : decode cX2_addsAll 54 = .ok (.istore_n 1, 1) := dk_60 (dk_at dksX2_addsAll_2 7 rfl rfl)
theorem dX2_addsAll_55 : decode cX2_addsAll 55 = .ok (.goto (-40), 3) := dk_167 255 216 (dk_at dksX2_addsAll_2 8 rfl rfl)
theorem dX2_addsAll_58 : decode cX2_addsAll 58 = .ok (.iload_n 1, 1) := dk_27 (dk_at dksX2_addsAll_2 11 rfl rfl)
theorem dX2_addsAll_59 : decode cX2_addsAll 59 = .ok (.ireturn, 1) := dk_172 (dk_at dksX2_addsAll_2 12 rfl rfl)
abbrev cX2_adds : ByteArray := prog_12_method_21_code
def yX2_adds : MethodName := ⟨RX2, "adds", "()Z"⟩
def dkwX2_adds_8 : List UInt8 := [42, 180, 0, 7, 4, 46, 79, 4, 172]
abbrev dktX2_adds_8 : List UInt8 := dkwX2_adds_8 ++ []
def dkwX2_adds_7 : List UInt8 := [3, 92, 46, 4, 96, 79, 42, 180, 0, 7, 4, 42, 180, 0, 7, 4, 46, 156, 0, 7, 3, 167, 0, 9]
abbrev dktX2_adds_7 : List UInt8 := dkwX2_adds_7 ++ dktX2_adds_8
def dkwX2_adds_6 : List UInt8 := [180, 0, 19, 42, 180, 0, 58, 21, 4, 96, 46, 182, 0, 82, 132, 4, 1, 167, 255, 226, 42, 180, 0, 7]
abbrev dktX2_adds_6 : List UInt8 := dkwX2_adds_6 ++ dktX2_adds_7
def dkwX2_adds_5 : List UInt8 := [42, 29, 5, 3, 182, 0, 82, 3, 54, 4, 21, 4, 27, 162, 0, 30, 42, 29, 6, 21, 4, 96, 42]
abbrev dktX2_adds_5 : List UInt8 := dkwX2_adds_5 ++ dktX2_adds_6
def dkwX2_adds_4 : List UInt8 := [160, 0, 10, 42, 6, 27, 182, 0, 72, 172, 42, 29, 3, 27, 182, 0, 82, 42, 29, 4, 3, 182, 0, 82]
abbrev dktX2_adds_4 : List UInt8 := dkwX2_adds_4 ++ dktX2_adds_5
def dkwX2_adds_3 : List UInt8 := [164, 0, 14, 42, 5, 42, 28, 182, 0, 79, 182, 0, 72, 172, 42, 180, 0, 7, 3, 46, 62, 29, 16, 20]
abbrev dktX2_adds_3 : List UInt8 := dkwX2_adds_3 ++ dktX2_adds_4
def dkwX2_adds_2 : List UInt8 := [180, 0, 19, 29, 46, 184, 0, 30, 96, 61, 132, 3, 1, 167, 255, 233, 42, 28, 182, 0, 79, 17, 0, 150]
abbrev dktX2_adds_2 : List UInt8 := dkwX2_adds_2 ++ dktX2_adds_3
def dkwX2_adds_1 : List UInt8 := [180, 0, 58, 100, 60, 3, 61, 42, 180, 0, 58, 62, 29, 42, 180, 0, 52, 162, 0, 21, 28, 42]
abbrev dktX2_adds_1 : List UInt8 := dkwX2_adds_1 ++ dktX2_adds_2
def dkwX2_adds_0 : List UInt8 := [42, 42, 180, 0, 52, 181, 0, 58, 42, 182, 0, 76, 154, 0, 5, 3, 172, 42, 180, 0, 52, 42]
abbrev dktX2_adds_0 : List UInt8 := dkwX2_adds_0 ++ dktX2_adds_1
theorem dksX2_adds_0 : cX2_adds.data.toList.drop 0 = dktX2_adds_0 := by decide +kernel
theorem dksX2_adds_1 : cX2_adds.data.toList.drop 22 = dktX2_adds_1 := dk_seg dksX2_adds_0 22 rfl rfl
theorem dksX2_adds_2 : cX2_adds.data.toList.drop 44 = dktX2_adds_2 := dk_seg dksX2_adds_1 22 rfl rfl
theorem dksX2_adds_3 : cX2_adds.data.toList.drop 68 = dktX2_adds_3 := dk_seg dksX2_adds_2 24 rfl rfl
theorem dksX2_adds_4 : cX2_adds.data.toList.drop 92 = dktX2_adds_4 := dk_seg dksX2_adds_3 24 rfl rfl
theorem dksX2_adds_5 : cX2_adds.data.toList.drop 116 = dktX2_adds_5 := dk_seg dksX2_adds_4 24 rfl rfl
theorem dksX2_adds_6 : cX2_adds.data.toList.drop 139 = dktX2_adds_6 := dk_seg dksX2_adds_5 23 rfl rfl
theorem dksX2_adds_7 : cX2_adds.data.toList.drop 163 = dktX2_adds_7 := dk_seg dksX2_adds_6 24 rfl rfl
theorem dksX2_adds_8 : cX2_adds.data.toList.drop 187 = dktX2_adds_8 := dk_seg dksX2_adds_7 24 rfl rfl
theorem dX2_adds_0 : decode cX2_adds 0 = .ok (.aload_n 0, 1) := dk_42 (dk_at dksX2_adds_0 0 rfl rfl)
theorem dX2_adds_1 : decode cX2_adds 1 = .ok (.aload_n 0, 1) := dk_42 (dk_at dksX2_adds_0 1 rfl rfl)
theorem dX2_adds_2 : decode cX2_adds 2 = .ok (.getfield 52, 3) := dk_180 0 52 (dk_at dksX2_adds_0 2 rfl rfl)
theorem dX2_adds_5 : decode cX2_adds 5 = .ok (.putfield 58, 3) := dk_181 0 58 (dk_at dksX2_adds_0 5 rfl rfl)
theorem dX2_adds_8 : decode cX2_adds 8 = .ok (.aload_n 0, 1) := dk_42 (dk_at dksX2_adds_0 8 rfl rfl)
theorem dX2_adds_9 : decode cX2_adds 9 = .ok (.invokevirtual 76, 3) := dk_182 0 76 (dk_at dksX2_adds_0 9 rfl rfl)
theorem dX2_adds_12 : decode cX2_adds 12 = .ok (.ifCond .ne 5, 3) := dk_154 0 5 (dk_at dksX2_adds_0 12 rfl rfl)
theorem dX2_adds_15 : decode cX2_adds 15 = .ok (.iconst 0, 1) := dk_3 (dk_at dksX2_adds_0 15 rfl rfl)
theorem dX2_adds_16 : decode cX2_adds 16 = .ok (.ireturn, 1) := dk_172 (dk_at dksX2_adds_0 16 rfl rfl)
theorem dX2_adds_17 : decode cX2_adds 17 = .ok (.aload_n 0, 1) := dk_42 (dk_at dksX2_adds_0 17 rfl rfl)
theorem dX2_adds_18 : decode cX2_adds 18 = .ok (.getfield 52, 3) := dk_180 0 52 (dk_at dksX2_adds_0 18 rfl rfl)
theorem dX2_adds_21 : decode cX2_adds 21 = .ok (.aload_n 0, 1) := dk_42 (dk_at dksX2_adds_0 21 rfl rfl)
theorem dX2_adds_22 : decode cX2_adds 22 = .ok (.getfield 58, 3) := dk_180 0 58 (dk_at dksX2_adds_1 0 rfl rfl)
theorem dX2_adds_25 : decode cX2_adds 25 = .ok (.isub, 1) := dk_100 (dk_at dksX2_adds_1 3 rfl rfl)
theorem dX2_adds_26 : decode cX2_adds 26 = .ok (.istore_n 1, 1) := dk_60 (dk_at dksX2_adds_1 4 rfl rfl)
theorem dX2_adds_27 : decode cX2_adds 27 = .ok (.iconst 0, 1) := dk_3 (dk_at dksX2_adds_1 5 rfl rfl)
theorem dX2_adds_28 : decode cX2_adds 28 = .ok (.istore_n 2, 1) := dk_61 (dk_at dksX2_adds_1 6 rfl rfl)
theorem dX2_adds_29 : decode cX2_adds 29 = .ok (.aload_n 0, 1) := dk_42 (dk_at dksX2_adds_1 7 rfl rfl)
theorem dX2_adds_30 : decode cX2_adds 30 = .ok (.getfield 58, 3) := dk_180 0 58 (dk_at dksX2_adds_1 8 rfl rfl)
theorem dX2_adds_33 : decode cX2_adds 33 = .ok (.istore_n 3, 1) := dk_62 (dk_at dksX2_adds_1 11 rfl rfl)
theorem dX2_adds_34 : decode cX2_adds 34 = .ok (.iload_n 3, 1) := dk_29 (dk_at dksX2_adds_1 12 rfl rfl)
theorem dX2_adds_35 : decode cX2_adds 35 = .ok (.aload_n 0, 1) := dk_42 (dk_at dksX2_adds_1 13 rfl rfl)
theorem dX2_adds_36 : decode cX2_adds 36 = .ok (.getfield 52, 3) := dk_180 0 52 (dk_at dksX2_adds_1 14 rfl rfl)
theorem dX2_adds_39 : decode cX2_adds 39 = .ok (.if_icmp .ge 21, 3) := dk_162 0 21 (dk_at dksX2_adds_1 17 rfl rfl)
theorem dX2_adds_42 : decode cX2_adds 42 = .ok (.iload_n 2, 1) := dk_28 (dk_at dksX2_adds_1 20 rfl rfl)
theorem dX2_adds_43 : decode cX2_adds 43 = .ok (.aload_n 0, 1) := dk_42 (dk_at dksX2_adds_1 21 rfl rfl)
theorem dX2_adds_44 : decode cX2_adds 44 = .ok (.getfield 19, 3) := dk_180 0 19 (dk_at dksX2_adds_2 0 rfl rfl)
theorem dX2_adds_47 : decode cX2_adds 47 = .ok (.iload_n 3, 1) := dk_29 (dk_at dksX2_adds_2 3 rfl rfl)
theorem dX2_adds_48 : decode cX2_adds 48 = .ok (.iaload, 1) := dk_46 (dk_at dksX2_adds_2 4 rfl rfl)
theorem dX2_adds_49 : decode cX2_adds 49 = .ok (.invokestatic 30, 3) := dk_184 0 30 (dk_at dksX2_adds_2 5 rfl rfl)
theorem dX2_adds_52 : decode cX2_adds 52 = .ok (.iadd, 1) := dk_96 (dk_at dksX2_adds_2 8 rfl rfl)
theorem dX2_adds_53 : decode cX2_adds 53 = .ok (.istore_n 2, 1) := dk_61 (dk_at dksX2_adds_2 9 rfl rfl)
theorem dX2_adds_54 : decode cX2_adds 54 = .ok (.iinc 3 1, 3) := dk_132 3 1 (dk_at dksX2_adds_2 10 rfl rfl)
theorem dX2_adds_57 : decode cX2_adds 57 = .ok (.goto (-23), 3) := dk_167 255 233 (dk_at dksX2_adds_2 13 rfl rfl)
theorem dX2_adds_60 : decode cX2_adds 60 = .ok (.aload_n 0, 1) := dk_42 (dk_at dksX2_adds_2 16 rfl rfl)
theorem dX2_adds_61 : decode cX2_adds 61 = .ok (.iload_n 2, 1) := dk_28 (dk_at dksX2_adds_2 17 rfl rfl)
theorem dX2_adds_62 : decode cX2_adds 62 = .ok (.invokevirtual 79, 3) := dk_182 0 79 (dk_at dksX2_adds_2 18 rfl rfl)
theorem dX2_adds_65 : decode cX2_adds 65 = .ok (.sipush 150, 3) := dk_17 0 150 (dk_at dksX2_adds_2 21 rfl rfl)
theorem dX2_adds_68 : decode cX2_adds 68 = .ok (.if_icmp .le 14, 3) := dk_164 0 14 (dk_at dksX2_adds_3 0 rfl rfl)
theorem dX2_adds_71 : decode cX2_adds 71 = .ok (.aload_n 0, 1) := dk_42 (dk_at dksX2_adds_3 3 rfl rfl)
theorem dX2_adds_72 : decode cX2_adds 72 = .ok (.iconst 2, 1) := dk_5 (dk_at dksX2_adds_3 4 rfl rfl)
theorem dX2_adds_73 : decode cX2_adds 73 = .ok (.aload_n 0, 1) := dk_42 (dk_at dksX2_adds_3 5 rfl rfl)
theorem dX2_adds_74 : decode cX2_adds 74 = .ok (.iload_n 2, 1) := dk_28 (dk_at dksX2_adds_3 6 rfl rfl)
theorem dX2_adds_75 : decode cX2_adds 75 = .ok (.invokevirtual 79, 3) := dk_182 0 79 (dk_at dksX2_adds_3 7 rfl rfl)
theorem dX2_adds_78 : decode cX2_adds 78 = .ok (.invokevirtual 72, 3) := dk_182 0 72 (dk_at dksX2_adds_3 10 rfl rfl)
theorem dX2_adds_81 : decode cX2_adds 81 = .ok (.ireturn, 1) := dk_172 (dk_at dksX2_adds_3 13 rfl rfl)
theorem dX2_adds_82 : decode cX2_adds 82 = .ok (.aload_n 0, 1) := dk_42 (dk_at dksX2_adds_3 14 rfl rfl)
theorem dX2_adds_83 : decode cX2_adds 83 = .ok (.getfield 7, 3) := dk_180 0 7 (dk_at dksX2_adds_3 15 rfl rfl)
theorem dX2_adds_86 : decode cX2_adds 86 = .ok (.iconst 0, 1) := dk_3 (dk_at dksX2_adds_3 18 rfl rfl)
theorem dX2_adds_87 : decode cX2_adds 87 = .ok (.iaload, 1) := dk_46 (dk_at dksX2_adds_3 19 rfl rfl)
theorem dX2_adds_88 : decode cX2_adds 88 = .ok (.istore_n 3, 1) := dk_62 (dk_at dksX2_adds_3 20 rfl rfl)
theorem dX2_adds_89 : decode cX2_adds 89 = .ok (.iload_n 3, 1) := dk_29 (dk_at dksX2_adds_3 21 rfl rfl)
theorem dX2_adds_90 : decode cX2_adds 90 = .ok (.bipush 20, 2) := dk_16 20 (dk_at dksX2_adds_3 22 rfl rfl)
theorem dX2_adds_92 : decode cX2_adds 92 = .ok (.if_icmp .ne 10, 3) := dk_160 0 10 (dk_at dksX2_adds_4 0 rfl rfl)
theorem dX2_adds_95 : decode cX2_adds 95 = .ok (.aload_n 0, 1) := dk_42 (dk_at dksX2_adds_4 3 rfl rfl)
theorem dX2_adds_96 : decode cX2_adds 96 = .ok (.iconst 3, 1) := dk_6 (dk_at dksX2_adds_4 4 rfl rfl)
theorem dX2_adds_97 : decode cX2_adds 97 = .ok (.iload_n 1, 1) := dk_27 (dk_at dksX2_adds_4 5 rfl rfl)
theorem dX2_adds_98 : decode cX2_adds 98 = .ok (.invokevirtual 72, 3) := dk_182 0 72 (dk_at dksX2_adds_4 6 rfl rfl)
theorem dX2_adds_101 : decode cX2_adds 101 = .ok (.ireturn, 1) := dk_172 (dk_at dksX2_adds_4 9 rfl rfl)
theorem dX2_adds_102 : decode cX2_adds 102 = .ok (.aload_n 0, 1) := dk_42 (dk_at dksX2_adds_4 10 rfl rfl)
theorem dX2_adds_103 : decode cX2_adds 103 = .ok (.iload_n 3, 1) := dk_29 (dk_at dksX2_adds_4 11 rfl rfl)
theorem dX2_adds_104 : decode cX2_adds 104 = .ok (.iconst 0, 1) := dk_3 (dk_at dksX2_adds_4 12 rfl rfl)
theorem dX2_adds_105 : decode cX2_adds 105 = .ok (.iload_n 1, 1) := dk_27 (dk_at dksX2_adds_4 13 rfl rfl)
theorem dX2_adds_106 : decode cX2_adds 106 = .ok (.invokevirtual 82, 3) := dk_182 0 82 (dk_at dksX2_adds_4 14 rfl rfl)
theorem dX2_adds_109 : decode cX2_adds 109 = .ok (.aload_n 0, 1) := dk_42 (dk_at dksX2_adds_4 17 rfl rfl)
theorem dX2_adds_110 : decode cX2_adds 110 = .ok (.iload_n 3, 1) := dk_29 (dk_at dksX2_adds_4 18 rfl rfl)
theorem dX2_adds_111 : decode cX2_adds 111 = .ok (.iconst 1, 1) := dk_4 (dk_at dksX2_adds_4 19 rfl rfl)
theorem dX2_adds_112 : decode cX2_adds 112 = .ok (.iconst 0, 1) := dk_3 (dk_at dksX2_adds_4 20 rfl rfl)
theorem dX2_adds_113 : decode cX2_adds 113 = .ok (.invokevirtual 82, 3) := dk_182 0 82 (dk_at dksX2_adds_4 21 rfl rfl)
theorem dX2_adds_116 : decode cX2_adds 116 = .ok (.aload_n 0, 1) := dk_42 (dk_at dksX2_adds_5 0 rfl rfl)
theorem dX2_adds_117 : decode cX2_adds 117 = .ok (.iload_n 3, 1) := dk_29 (dk_at dksX2_adds_5 1 rfl rfl)
theorem dX2_adds_118 : decode cX2_adds 118 = .ok (.iconst 2, 1) := dk_5 (dk_at dksX2_adds_5 2 rfl rfl)
theorem dX2_adds_119 : decode cX2_adds 119 = .ok (.iconst 0, 1) := dk_3 (dk_at dksX2_adds_5 3 rfl rfl)
theorem dX2_adds_120 : decode cX2_adds 120 = .ok (.invokevirtual 82, 3) := dk_182 0 82 (dk_at dksX2_adds_5 4 rfl rfl)
theorem dX2_adds_123 : decode cX2_adds 123 = .ok (.iconst 0, 1) := dk_3 (dk_at dksX2_adds_5 7 rfl rfl)
theorem dX2_adds_124 : decode cX2_adds 124 = .ok (.istore 4, 2) := dk_54 4 (dk_at dksX2_adds_5 8 rfl rfl)
theorem dX2_adds_126 : decode cX2_adds 126 = .ok (.iload 4, 2) := dk_21 4 (dk_at dksX2_adds_5 10 rfl rfl)
theorem dX2_adds_128 : decode cX2_adds 128 = .ok (.iload_n 1, 1) := dk_27 (dk_at dksX2_adds_5 12 rfl rfl)
theorem dX2_adds_129 : decode cX2_adds 129 = .ok (.if_icmp .ge 30, 3) := dk_162 0 30 (dk_at dksX2_adds_5 13 rfl rfl)
theorem dX2_adds_132 : decode cX2_adds 132 = .ok (.aload_n 0, 1) := dk_42 (dk_at dksX2_adds_5 16 rfl rfl)
theorem dX2_adds_133 : decode cX2_adds 133 = .ok (.iload_n 3, 1) := dk_29 (dk_at dksX2_adds_5 17 rfl rfl)
theorem dX2_adds_134 : decode cX2_adds 134 = .ok (.iconst 3, 1) := dk_6 (dk_at dksX2_adds_5 18 rfl rfl)
theorem dX2_adds_135 : decode cX2_adds 135 = .ok (.iload 4, 2) := dk_21 4 (dk_at dksX2_adds_5 19 rfl rfl)
theorem dX2_adds_137 : decode cX2_adds 137 = .ok (.iadd, 1) := dk_96 (dk_at dksX2_adds_5 21 rfl rfl)
theorem dX2_adds_138 : decode cX2_adds 138 = .ok (.aload_n 0, 1) := dk_42 (dk_at dksX2_adds_5 22 rfl rfl)
theorem dX2_adds_139 : decode cX2_adds 139 = .ok (.getfield 19, 3) := dk_180 0 19 (dk_at dksX2_adds_6 0 rfl rfl)
theorem dX2_adds_142 : decode cX2_adds 142 = .ok (.aload_n 0, 1) := dk_42 (dk_at dksX2_adds_6 3 rfl rfl)
theorem dX2_adds_143 : decode cX2_adds 143 = .ok (.getfield 58, 3) := dk_180 0 58 (dk_at dksX2_adds_6 4 rfl rfl)
theorem dX2_adds_146 : decode cX2_adds 146 = .ok (.iload 4, 2) := dk_21 4 (dk_at dksX2_adds_6 7 rfl rfl)
theorem dX2_adds_148 : decode cX2_adds 148 = .ok (.iadd, 1) := dk_96 (dk_at dksX2_adds_6 9 rfl rfl)
theorem dX2_adds_149 : decode cX2_adds 149 = .ok (.iaload, 1) := dk_46 (dk_at dksX2_adds_6 10 rfl rfl)
theorem dX2_adds_150 : decode cX2_adds 150 = .ok (.invokevirtual 82, 3) := dk_182 0 82 (dk_at dksX2_adds_6 11 rfl rfl)
theorem dX2_adds_153 : decode cX2_adds 153 = .ok (.iinc 4 1, 3) := dk_132 4 1 (dk_at dksX2_adds_6 14 rfl rfl)
theorem dX2_adds_156 : decode cX2_adds 156 = .ok (.goto (-30), 3) := dk_167 255 226 (dk_at dksX2_adds_6 17 rfl rfl)
theorem dX2_adds_159 : decode cX2_adds 159 = .ok (.aload_n 0, 1) := dk_42 (dk_at dksX2_adds_6 20 rfl rfl)
theorem dX2_adds_160 : decode cX2_adds 160 = .ok (.getfield 7, 3) := dk_180 0 7 (dk_at dksX2_adds_6 21 rfl rfl)
theorem dX2_adds_163 : decode cX2_adds 163 = .ok (.iconst 0, 1) := dk_3 (dk_at dksX2_adds_7 0 rfl rfl)
theorem dX2_adds_164 : decode cX2_adds 164 = .ok (.dup2, 1) := dk_92 (dk_at dksX2_adds_7 1 rfl rfl)
theorem dX2_adds_165 : decode cX2_adds 165 = .ok (.iaload, 1) := dk_46 (dk_at dksX2_adds_7 2 rfl rfl)
theorem dX2_adds_166 : decode cX2_adds 166 = .ok (.iconst 1, 1) := dk_4 (dk_at dksX2_adds_7 3 rfl rfl)
theorem dX2_adds_167 : decode cX2_adds 167 = .ok (.iadd, 1) := dk_96 (dk_at dksX2_adds_7 4 rfl rfl)
theorem dX2_adds_168 : decode cX2_adds 168 = .ok (.iastore, 1) := dk_79 (dk_at dksX2_adds_7 5 rfl rfl)
theorem dX2_adds_169 : decode cX2_adds 169 = .ok (.aload_n 0, 1) := dk_42 (dk_at dksX2_adds_7 6 rfl rfl)
theorem dX2_adds_170 : decode cX2_adds 170 = .ok (.getfield 7, 3) := dk_180 0 7 (dk_at dksX2_adds_7 7 rfl rfl)
theorem dX2_adds_173 : decode cX2_adds 173 = .ok (.iconst 1, 1) := dk_4 (dk_at dksX2_adds_7 10 rfl rfl)
theorem dX2_adds_174 : decode cX2_adds 174 = .ok (.aload_n 0, 1) := dk_42 (dk_at dksX2_adds_7 11 rfl rfl)
theorem dX2_adds_175 : decode cX2_adds 175 = .ok (.getfield 7, 3) := dk_180 0 7 (dk_at dksX2_adds_7 12 rfl rfl)
theorem dX2_adds_178 : decode cX2_adds 178 = .ok (.iconst 1, 1) := dk_4 (dk_at dksX2_adds_7 15 rfl rfl)
theorem dX2_adds_179 : decode cX2_adds 179 = .ok (.iaload, 1) := dk_46 (dk_at dksX2_adds_7 16 rfl rfl)
theorem dX2_adds_180 : decode cX2_adds 180 = .ok (.ifCond .ge 7, 3) := dk_156 0 7 (dk_at dksX2_adds_7 17 rfl rfl)
theorem dX2_adds_183 : decode cX2_adds 183 = .ok (.iconst 0, 1) := dk_3 (dk_at dksX2_adds_7 20 rfl rfl)
theorem dX2_adds_184 : decode cX2_adds 184 = .ok (.goto 9, 3) := dk_167 0 9 (dk_at dksX2_adds_7 21 rfl rfl)
theorem dX2_adds_187 : decode cX2_adds 187 = .ok (.aload_n 0, 1) := dk_42 (dk_at dksX2_adds_8 0 rfl rfl)
theorem dX2_adds_188 : decode cX2_adds 188 = .ok (.getfield 7, 3) := dk_180 0 7 (dk_at dksX2_adds_8 1 rfl rfl)
theorem dX2_adds_191 : decode cX2_adds 191 = .ok (.iconst 1, 1) := dk_4 (dk_at dksX2_adds_8 4 rfl rfl)
theorem dX2_adds_192 : decode cX2_adds 192 = .ok (.iaload, 1) := dk_46 (dk_at dksX2_adds_8 5 rfl rfl)
theorem dX2_adds_193 : decode cX2_adds 193 = .ok (.iastore, 1) := dk_79 (dk_at dksX2_adds_8 6 rfl rfl)
theorem dX2_adds_194 : decode cX2_adds 194 = .ok (.iconst 1, 1) := dk_4 (dk_at dksX2_adds_8 7 rfl rfl)
theorem dX2_adds_195 : decode cX2_adds 195 = .ok (.ireturn, 1) := dk_172 (dk_at dksX2_adds_8 8 rfl rfl)
abbrev cX2_isFormed : ByteArray := prog_12_method_20_code
def yX2_isFormed : MethodName := ⟨RX2, "isFormed", "()Z"⟩
def dkwX2_isFormed_4 : List UInt8 := [172]
abbrev dktX2_isFormed_4 : List UInt8 := dkwX2_isFormed_4 ++ []
def dkwX2_isFormed_3 : List UInt8 := [4, 100, 46, 16, 32, 160, 0, 14, 42, 4, 27, 4, 100, 182, 0, 72, 153, 0, 7, 4, 167, 0, 4, 3]
abbrev dktX2_isFormed_3 : List UInt8 := dkwX2_isFormed_3 ++ dktX2_isFormed_4
def dkwX2_isFormed_2 : List UInt8 := [180, 0, 58, 100, 60, 27, 154, 0, 10, 42, 4, 3, 182, 0, 72, 172, 42, 180, 0, 19, 42, 180, 0, 52]
abbrev dktX2_isFormed_2 : List UInt8 := dkwX2_isFormed_2 ++ dktX2_isFormed_3
def dkwX2_isFormed_1 : List UInt8 := [100, 182, 0, 72, 172, 42, 89, 180, 0, 52, 4, 96, 181, 0, 52, 167, 255, 217, 42, 180, 0, 52, 42]
abbrev dktX2_isFormed_1 : List UInt8 := dkwX2_isFormed_1 ++ dktX2_isFormed_2
def dkwX2_isFormed_0 : List UInt8 := [42, 182, 0, 65, 154, 0, 38, 42, 182, 0, 69, 154, 0, 18, 42, 4, 42, 180, 0, 52, 42, 180, 0, 58]
abbrev dktX2_isFormed_0 : List UInt8 := dkwX2_isFormed_0 ++ dktX2_isFormed_1
theorem dksX2_isFormed_0 : cX2_isFormed.data.toList.drop 0 = dktX2_isFormed_0 := by decide +kernel
theorem dksX2_isFormed_1 : cX2_isFormed.data.toList.drop 24 = dktX2_isFormed_1 := dk_seg dksX2_isFormed_0 24 rfl rfl
theorem dksX2_isFormed_2 : cX2_isFormed.data.toList.drop 47 = dktX2_isFormed_2 := dk_seg dksX2_isFormed_1 23 rfl rfl
theorem dksX2_isFormed_3 : cX2_isFormed.data.toList.drop 71 = dktX2_isFormed_3 := dk_seg dksX2_isFormed_2 24 rfl rfl
theorem dksX2_isFormed_4 : cX2_isFormed.data.toList.drop 95 = dktX2_isFormed_4 := dk_seg dksX2_isFormed_3 24 rfl rfl
theorem dX2_isFormed_0 : decode cX2_isFormed 0 = .ok (.aload_n 0, 1) := dk_42 (dk_at dksX2_isFormed_0 0 rfl rfl)
theorem dX2_isFormed_1 : decode cX2_isFormed 1 = .ok (.invokevirtual 65, 3) := dk_182 0 65 (dk_at dksX2_isFormed_0 1 rfl rfl)
theorem dX2_isFormed_4 : decode cX2_isFormed 4 = .ok (.ifCond .ne 38, 3) := dk_154 0 38 (dk_at dksX2_isFormed_0 4 rfl rfl)
theorem dX2_isFormed_7 : decode cX2_isFormed 7 = .ok (.aload_n 0, 1) := dk_42 (dk_at dksX2_isFormed_0 7 rfl rfl)
theorem dX2_isFormed_8 : decode cX2_isFormed 8 = .ok (.invokevirtual 69, 3) := dk_182 0 69 (dk_at dksX2_isFormed_0 8 rfl rfl)
theorem dX2_isFormed_11 : decode cX2_isFormed 11 = .ok (.ifCond .ne 18, 3) := dk_154 0 18 (dk_at dksX2_isFormed_0 11 rfl rfl)
theorem dX2_isFormed_14 : decode cX2_isFormed 14 = .ok (.aload_n 0, 1) := dk_42 (dk_at dksX2_isFormed_0 14 rfl rfl)
theorem dX2_isFormed_15 : decode cX2_isFormed 15 = .ok (.iconst 1, 1) := dk_4 (dk_at dksX2_isFormed_0 15 rfl rfl)
theorem dX2_isFormed_16 : decode cX2_isFormed 16 = .ok (.aload_n 0, 1) := dk_42 (dk_at dksX2_isFormed_0 16 rfl rfl)
theorem dX2_isFormed_17 : decode cX2_isFormed 17 = .ok (.getfield 52, 3) := dk_180 0 52 (dk_at dksX2_isFormed_0 17 rfl rfl)
theorem dX2_isFormed_20 : decode cX2_isFormed 20 = .ok (.aload_n 0, 1) := dk_42 (dk_at dksX2_isFormed_0 20 rfl rfl)
theorem dX2_isFormed_21 : decode cX2_isFormed 21 = .ok (.getfield 58, 3) := dk_180 0 58 (dk_at dksX2_isFormed_0 21 rfl rfl)
theorem dX2_isFormed_24 : decode cX2_isFormed 24 = .ok (.isub, 1) := dk_100 (dk_at dksX2_isFormed_1 0 rfl rfl)
theorem dX2_isFormed_25 : decode cX2_isFormed 25 = .ok (.invokevirtual 72, 3) := dk_182 0 72 (dk_at dksX2_isFormed_1 1 rfl rfl)
theorem dX2_isFormed_28 : decode cX2_isFormed 28 = .ok (.ireturn, 1) := dk_172 (dk_at dksX2_isFormed_1 4 rfl rfl)
theorem dX2_isFormed_29 : decode cX2_isFormed 29 = .ok (.aload_n 0, 1) := dk_42 (dk_at dksX2_isFormed_1 5 rfl rfl)
theorem dX2_isFormed_30 : decode cX2_isFormed 30 = .ok (.dup, 1) := dk_89 (dk_at dksX2_isFormed_1 6 rfl rfl)
theorem dX2_isFormed_31 : decode cX2_isFormed 31 = .ok (.getfield 52, 3) := dk_180 0 52 (dk_at dksX2_isFormed_1 7 rfl rfl)
theorem dX2_isFormed_34 : decode cX2_isFormed 34 = .ok (.iconst 1, 1) := dk_4 (dk_at dksX2_isFormed_1 10 rfl rfl)
theorem dX2_isFormed_35 : decode cX2_isFormed 35 = .ok (.iadd, 1) := dk_96 (dk_at dksX2_isFormed_1 11 rfl rfl)
theorem dX2_isFormed_36 : decode cX2_isFormed 36 = .ok (.putfield 52, 3) := dk_181 0 52 (dk_at dksX2_isFormed_1 12 rfl rfl)
theorem dX2_isFormed_39 : decode cX2_isFormed 39 = .ok (.goto (-39), 3) := dk_167 255 217 (dk_at dksX2_isFormed_1 15 rfl rfl)
theorem dX2_isFormed_42 : decode cX2_isFormed 42 = .ok (.aload_n 0, 1) := dk_42 (dk_at dksX2_isFormed_1 18 rfl rfl)
theorem dX2_isFormed_43 : decode cX2_isFormed 43 = .ok (.getfield 52, 3) := dk_180 0 52 (dk_at dksX2_isFormed_1 19 rfl rfl)
theorem dX2_isFormed_46 : decode cX2_isFormed 46 = .ok (.aload_n 0, 1) := dk_42 (dk_at dksX2_isFormed_1 22 rfl rfl)
theorem dX2_isFormed_47 : decode cX2_isFormed 47 = .ok (.getfield 58, 3) := dk_180 0 58 (dk_at dksX2_isFormed_2 0 rfl rfl)
theorem dX2_isFormed_50 : decode cX2_isFormed 50 = .ok (.isub, 1) := dk_100 (dk_at dksX2_isFormed_2 3 rfl rfl)
theorem dX2_isFormed_51 : decode cX2_isFormed 51 = .ok (.istore_n 1, 1) := dk_60 (dk_at dksX2_isFormed_2 4 rfl rfl)
theorem dX2_isFormed_52 : decode cX2_isFormed 52 = .ok (.iload_n 1, 1) := dk_27 (dk_at dksX2_isFormed_2 5 rfl rfl)
theorem dX2_isFormed_53 : decode cX2_isFormed 53 = .ok (.ifCond .ne 10, 3) := dk_154 0 10 (dk_at dksX2_isFormed_2 6 rfl rfl)
theorem dX2_isFormed_56 : decode cX2_isFormed 56 = .ok (.aload_n 0, 1) := dk_42 (dk_at dksX2_isFormed_2 9 rfl rfl)
theorem dX2_isFormed_57 : decode cX2_isFormed 57 = .ok (.iconst 1, 1) := dk_4 (dk_at dksX2_isFormed_2 10 rfl rfl)
theorem dX2_isFormed_58 : decode cX2_isFormed 58 = .ok (.iconst 0, 1) := dk_3 (dk_at dksX2_isFormed_2 11 rfl rfl)
theorem dX2_isFormed_59 : decode cX2_isFormed 59 = .ok (.invokevirtual 72, 3) := dk_182 0 72 (dk_at dksX2_isFormed_2 12 rfl rfl)
theorem dX2_isFormed_62 : decode cX2_isFormed 62 = .ok (.ireturn, 1) := dk_172 (dk_at dksX2_isFormed_2 15 rfl rfl)
theorem dX2_isFormed_63 : decode cX2_isFormed 63 = .ok (.aload_n 0, 1) := dk_42 (dk_at dksX2_isFormed_2 16 rfl rfl)
theorem dX2_isFormed_64 : decode cX2_isFormed 64 = .ok (.getfield 19, 3) := dk_180 0 19 (dk_at dksX2_isFormed_2 17 rfl rfl)
theorem dX2_isFormed_67 : decode cX2_isFormed 67 = .ok (.aload_n 0, 1) := dk_42 (dk_at dksX2_isFormed_2 20 rfl rfl)
theorem dX2_isFormed_68 : decode cX2_isFormed 68 = .ok (.getfield 52, 3) := dk_180 0 52 (dk_at dksX2_isFormed_2 21 rfl rfl)
theorem dX2_isFormed_71 : decode cX2_isFormed 71 = .ok (.iconst 1, 1) := dk_4 (dk_at dksX2_isFormed_3 0 rfl rfl)
theorem dX2_isFormed_72 : decode cX2_isFormed 72 = .ok (.isub, 1) := dk_100 (dk_at dksX2_isFormed_3 1 rfl rfl)
theorem dX2_isFormed_73 : decode cX2_isFormed 73 = .ok (.iaload, 1) := dk_46 (dk_at dksX2_isFormed_3 2 rfl rfl)
theorem dX2_isFormed_74 : decode cX2_isFormed 74 = .ok (.bipush 32, 2) := dk_16 32 (dk_at dksX2_isFormed_3 3 rfl rfl)
theorem dX2_isFormed_76 : decode cX2_isFormed 76 = .ok (.if_icmp .ne 14, 3) := dk_160 0 14 (dk_at dksX2_isFormed_3 5 rfl rfl)
theorem dX2_isFormed_79 : decode cX2_isFormed 79 = .ok (.aload_n 0, 1) := dk_42 (dk_at dksX2_isFormed_3 8 rfl rfl)
theorem dX2_isFormed_80 : decode cX2_isFormed 80 = .ok (.iconst 1, 1) := dk_4 (dk_at dksX2_isFormed_3 9 rfl rfl)
theorem dX2_isFormed_81 : decode cX2_isFormed 81 = .ok (.iload_n 1, 1) := dk_27 (dk_at dksX2_isFormed_3 10 rfl rfl)
theorem dX2_isFormed_82 : decode cX2_isFormed 82 = .ok (.iconst 1, 1) := dk_4 (dk_at dksX2_isFormed_3 11 rfl rfl)
theorem dX2_isFormed_83 : decode cX2_isFormed 83 = .ok (.isub, 1) := dk_100 (dk_at dksX2_isFormed_3 12 rfl rfl)
theorem dX2_isFormed_84 : decode cX2_isFormed 84 = .ok (.invokevirtual 72, 3) := dk_182 0 72 (dk_at dksX2_isFormed_3 13 rfl rfl)
theorem dX2_isFormed_87 : decode cX2_isFormed 87 = .ok (.ifCond .eq 7, 3) := dk_153 0 7 (dk_at dksX2_isFormed_3 16 rfl rfl)
theorem dX2_isFormed_90 : decode cX2_isFormed 90 = .ok (.iconst 1, 1) := dk_4 (dk_at dksX2_isFormed_3 19 rfl rfl)
theorem dX2_isFormed_91 : decode cX2_isFormed 91 = .ok (.goto 4, 3) := dk_167 0 4 (dk_at dksX2_isFormed_3 20 rfl rfl)
theorem dX2_isFormed_94 : decode cX2_isFormed 94 = .ok (.iconst 0, 1) := dk_3 (dk_at dksX2_isFormed_3 23 rfl rfl)
theorem dX2_isFormed_95 : decode cX2_isFormed 95 = .ok (.ireturn, 1) := dk_172 (dk_at dksX2_isFormed_4 0 rfl rfl)
abbrev cX2_isEnd : ByteArray := prog_12_method_18_code
def yX2_isEnd : MethodName := ⟨RX2, "isEnd", "()Z"⟩
def dkwX2_isEnd_1 : List UInt8 := [160, 0, 7, 4, 167, 0, 4, 3, 172]
abbrev dktX2_isEnd_1 : List UInt8 := dkwX2_isEnd_1 ++ []
def dkwX2_isEnd_0 : List UInt8 := [42, 180, 0, 52, 42, 180, 0, 55, 159, 0, 17, 42, 180, 0, 19, 42, 180, 0, 52, 46, 16, 47]
abbrev dktX2_isEnd_0 : List UInt8 := dkwX2_isEnd_0 ++ dktX2_isEnd_1
theorem dksX2_isEnd_0 : cX2_isEnd.data.toList.drop 0 = dktX2_isEnd_0 := by decide +kernel
theorem dksX2_isEnd_1 : cX2_isEnd.data.toList.drop 22 = dktX2_isEnd_1 := dk_seg dksX2_isEnd_0 22 rfl rfl
theorem dX2_isEnd_0 : decode cX2_isEnd 0 = .ok (.aload_n 0, 1) := dk_42 (dk_at dksX2_isEnd_0 0 rfl rfl)
theorem dX2_isEnd_1 : decode cX2_isEnd 1 = .ok (.getfield 52, 3) := dk_180 0 52 (dk_at dksX2_isEnd_0 1 rfl rfl)
theorem dX2_isEnd_4 : decode cX2_isEnd 4 = .ok (.aload_n 0, 1) := dk_42 (dk_at dksX2_isEnd_0 4 rfl rfl)
theorem dX2_isEnd_5 : decode cX2_isEnd 5 = .ok (.getfield 55, 3) := dk_180 0 55 (dk_at dksX2_isEnd_0 5 rfl rfl)
theorem dX2_isEnd_8 : decode cX2_isEnd 8 = .ok (.if_icmp .eq 17, 3) := dk_159 0 17 (dk_at dksX2_isEnd_0 8 rfl rfl)
theorem dX2_isEnd_11 : decode cX2_isEnd 11 = .ok (.aload_n 0, 1) := dk_42 (dk_at dksX2_isEnd_0 11 rfl rfl)
theorem dX2_isEnd_12 : decode cX2_isEnd 12 = .ok (.getfield 19, 3) := dk_180 0 19 (dk_at dksX2_isEnd_0 12 rfl rfl)
theorem dX2_isEnd_15 : decode cX2_isEnd 15 = .ok (.aload_n 0, 1) := dk_42 (dk_at dksX2_isEnd_0 15 rfl rfl)
theorem dX2_isEnd_16 : decode cX2_isEnd 16 = .ok (.getfield 52, 3) := dk_180 0 52 (dk_at dksX2_isEnd_0 16 rfl rfl)
theorem dX2_isEnd_19 : decode cX2_isEnd 19 = .ok (.iaload, 1) := dk_46 (dk_at dksX2_isEnd_0 19 rfl rfl)
theorem dX2_isEnd_20 : decode cX2_isEnd 20 = .ok (.bipush 47, 2) := dk_16 47 (dk_at dksX2_isEnd_0 20 rfl rfl)
theorem dX2_isEnd_22 : decode cX2_isEnd 22 = .ok (.if_icmp .ne 7, 3) := dk_160 0 7 (dk_at dksX2_isEnd_1 0 rfl rfl)
theorem dX2_isEnd_25 : decode cX2_isEnd 25 = .ok (.iconst 1, 1) := dk_4 (dk_at dksX2_isEnd_1 3 rfl rfl)
theorem dX2_isEnd_26 : decode cX2_isEnd 26 = .ok (.goto 4, 3) := dk_167 0 4 (dk_at dksX2_isEnd_1 4 rfl rfl)
theorem dX2_isEnd_29 : decode cX2_isEnd 29 = .ok (.iconst 0, 1) := dk_3 (dk_at dksX2_isEnd_1 7 rfl rfl)
theorem dX2_isEnd_30 : decode cX2_isEnd 30 = .ok (.ireturn, 1) := dk_172 (dk_at dksX2_isEnd_1 8 rfl rfl)
abbrev cX2_mayStand : ByteArray := prog_12_method_19_code
def yX2_mayStand : MethodName := ⟨RX2, "mayStand", "()Z"⟩
def dkwX2_mayStand_3 : List UInt8 := [4, 100, 46, 16, 32, 159, 0, 7, 4, 167, 0, 4, 3, 172]
abbrev dktX2_mayStand_3 : List UInt8 := dkwX2_mayStand_3 ++ []
def dkwX2_mayStand_2 : List UInt8 := [16, 90, 184, 0, 61, 154, 0, 27, 28, 153, 0, 27, 27, 158, 0, 23, 42, 180, 0, 19, 42, 180, 0, 52]
abbrev dktX2_mayStand_2 : List UInt8 := dkwX2_mayStand_2 ++ dktX2_mayStand_3
def dkwX2_mayStand_1 : List UInt8 := [4, 167, 0, 4, 3, 61, 27, 16, 14, 162, 0, 50, 42, 180, 0, 19, 42, 180, 0, 52, 46, 16, 65]
abbrev dktX2_mayStand_1 : List UInt8 := dkwX2_mayStand_1 ++ dktX2_mayStand_2
def dkwX2_mayStand_0 : List UInt8 := [42, 180, 0, 52, 42, 180, 0, 58, 100, 60, 42, 180, 0, 19, 42, 180, 0, 52, 46, 16, 32, 160, 0, 7]
abbrev dktX2_mayStand_0 : List UInt8 := dkwX2_mayStand_0 ++ dktX2_mayStand_1
theorem dksX2_mayStand_0 : cX2_mayStand.data.toList.drop 0 = dktX2_mayStand_0 := by decide +kernel
theorem dksX2_mayStand_1 : cX2_mayStand.data.toList.drop 24 = dktX2_mayStand_1 := dk_seg dksX2_mayStand_0 24 rfl rfl
theorem dksX2_mayStand_2 : cX2_mayStand.data.toList.drop 47 = dktX2_mayStand_2 := dk_seg dksX2_mayStand_1 23 rfl rfl
theorem dksX2_mayStand_3 : cX2_mayStand.data.toList.drop 71 = dktX2_mayStand_3 := dk_seg dksX2_mayStand_2 24 rfl rfl
theorem dX2_mayStand_0 : decode cX2_mayStand 0 = .ok (.aload_n 0, 1) := dk_42 (dk_at dksX2_mayStand_0 0 rfl rfl)
theorem dX2_mayStand_1 : decode cX2_mayStand 1 = .ok (.getfield 52, 3) := dk_180 0 52 (dk_at dksX2_mayStand_0 1 rfl rfl)
theorem dX2_mayStand_4 : decode cX2_mayStand 4 = .ok (.aload_n 0, 1) := dk_42 (dk_at dksX2_mayStand_0 4 rfl rfl)
theorem dX2_mayStand_5 : decode cX2_mayStand 5 = .ok (.getfield 58, 3) := dk_180 0 58 (dk_at dksX2_mayStand_0 5 rfl rfl)
theorem dX2_mayStand_8 : decode cX2_mayStand 8 = .ok (.isub, 1) := dk_100 (dk_at dksX2_mayStand_0 8 rfl rfl)
theorem dX2_mayStand_9 : decode cX2_mayStand 9 = .ok (.istore_n 1, 1) := dk_60 (dk_at dksX2_mayStand_0 9 rfl rfl)
theorem dX2_mayStand_10 : decode cX2_mayStand 10 = .ok (.aload_n 0, 1) := dk_42 (dk_at dksX2_mayStand_0 10 rfl rfl)
theorem dX2_mayStand_11 : decode cX2_mayStand 11 = .ok (.getfield 19, 3) := dk_180 0 19 (dk_at dksX2_mayStand_0 11 rfl rfl)
theorem dX2_mayStand_14 : decode cX2_mayStand 14 = .ok (.aload_n 0, 1) := dk_42 (dk_at dksX2_mayStand_0 14 rfl rfl)
theorem dX2_mayStand_15 : decode cX2_mayStand 15 = .ok (.getfield 52, 3) := dk_180 0 52 (dk_at dksX2_mayStand_0 15 rfl rfl)
theorem dX2_mayStand_18 : decode cX2_mayStand 18 = .ok (.iaload, 1) := dk_46 (dk_at dksX2_mayStand_0 18 rfl rfl)
theorem dX2_mayStand_19 : decode cX2_mayStand 19 = .ok (.bipush 32, 2) := dk_16 32 (dk_at dksX2_mayStand_0 19 rfl rfl)
theorem dX2_mayStand_21 : decode cX2_mayStand 21 = .ok (.if_icmp .ne 7, 3) := dk_160 0 7 (dk_at dksX2_mayStand_0 21 rfl rfl)
theorem dX2_mayStand_24 : decode cX2_mayStand 24 = .ok (.iconst 1, 1) := dk_4 (dk_at dksX2_mayStand_1 0 rfl rfl)
theorem dX2_mayStand_25 : decode cX2_mayStand 25 = .ok (.goto 4, 3) := dk_167 0 4 (dk_at dksX2_mayStand_1 1 rfl rfl)
theorem dX2_mayStand_28 : decode cX2_mayStand 28 = .ok (.iconst 0, 1) := dk_3 (dk_at dksX2_mayStand_1 4 rfl rfl)
theorem dX2_mayStand_29 : decode cX2_mayStand 29 = .ok (.istore_n 2, 1) := dk_61 (dk_at dksX2_mayStand_1 5 rfl rfl)
theorem dX2_mayStand_30 : decode cX2_mayStand 30 = .ok (.iload_n 1, 1) := dk_27 (dk_at dksX2_mayStand_1 6 rfl rfl)
theorem dX2_mayStand_31 : decode cX2_mayStand 31 = .ok (.bipush 14, 2) := dk_16 14 (dk_at dksX2_mayStand_1 7 rfl rfl)
theorem dX2_mayStand_33 : decode cX2_mayStand 33 = .ok (.if_icmp .ge 50, 3) := dk_162 0 50 (dk_at dksX2_mayStand_1 9 rfl rfl)
theorem dX2_mayStand_36 : decode cX2_mayStand 36 = .ok (.aload_n 0, 1) := dk_42 (dk_at dksX2_mayStand_1 12 rfl rfl)
theorem dX2_mayStand_37 : decode cX2_mayStand 37 = .ok (.getfield 19, 3) := dk_180 0 19 (dk_at dksX2_mayStand_1 13 rfl rfl)
theorem dX2_mayStand_40 : decode cX2_mayStand 40 = .ok (.aload_n 0, 1) := dk_42 (dk_at dksX2_mayStand_1 16 rfl rfl)
theorem dX2_mayStand_41 : decode cX2_mayStand 41 = .ok (.getfield 52, 3) := dk_180 0 52 (dk_at dksX2_mayStand_1 17 rfl rfl)
theorem dX2_mayStand_44 : decode cX2_mayStand 44 = .ok (.iaload, 1) := dk_46 (dk_at dksX2_mayStand_1 20 rfl rfl)
theorem dX2_mayStand_45 : decode cX2_mayStand 45 = .ok (.bipush 65, 2) := dk_16 65 (dk_at dksX2_mayStand_1 21 rfl rfl)
theorem dX2_mayStand_47 : decode cX2_mayStand 47 = .ok (.bipush 90, 2) := dk_16 90 (dk_at dksX2_mayStand_2 0 rfl rfl)
theorem dX2_mayStand_49 : decode cX2_mayStand 49 = .ok (.invokestatic 61, 3) := dk_184 0 61 (dk_at dksX2_mayStand_2 2 rfl rfl)
theorem dX2_mayStand_52 : decode cX2_mayStand 52 = .ok (.ifCond .ne 27, 3) := dk_154 0 27 (dk_at dksX2_mayStand_2 5 rfl rfl)
theorem dX2_mayStand_55 : decode cX2_mayStand 55 = .ok (.iload_n 2, 1) := dk_28 (dk_at dksX2_mayStand_2 8 rfl rfl)
theorem dX2_mayStand_56 : decode cX2_mayStand 56 = .ok (.ifCond .eq 27, 3) := dk_153 0 27 (dk_at dksX2_mayStand_2 9 rfl rfl)
theorem dX2_mayStand_59 : decode cX2_mayStand 59 = .ok (.iload_n 1, 1) := dk_27 (dk_at dksX2_mayStand_2 12 rfl rfl)
theorem dX2_mayStand_60 : decode cX2_mayStand 60 = .ok (.ifCond .le 23, 3) := dk_158 0 23 (dk_at dksX2_mayStand_2 13 rfl rfl)
theorem dX2_mayStand_63 : decode cX2_mayStand 63 = .ok (.aload_n 0, 1) := dk_42 (dk_at dksX2_mayStand_2 16 rfl rfl)
theorem dX2_mayStand_64 : decode cX2_mayStand 64 = .ok (.getfield 19, 3) := dk_180 0 19 (dk_at dksX2_mayStand_2 17 rfl rfl)
theorem dX2_mayStand_67 : decode cX2_mayStand 67 = .ok (.aload_n 0, 1) := dk_42 (dk_at dksX2_mayStand_2 20 rfl rfl)
theorem dX2_mayStand_68 : decode cX2_mayStand 68 = .ok (.getfield 52, 3) := dk_180 0 52 (dk_at dksX2_mayStand_2 21 rfl rfl)
theorem dX2_mayStand_71 : decode cX2_mayStand 71 = .ok (.iconst 1, 1) := dk_4 (dk_at dksX2_mayStand_3 0 rfl rfl)
theorem dX2_mayStand_72 : decode cX2_mayStand 72 = .ok (.isub, 1) := dk_100 (dk_at dksX2_mayStand_3 1 rfl rfl)
theorem dX2_mayStand_73 : decode cX2_mayStand 73 = .ok (.iaload, 1) := dk_46 (dk_at dksX2_mayStand_3 2 rfl rfl)
theorem dX2_mayStand_74 : decode cX2_mayStand 74 = .ok (.bipush 32, 2) := dk_16 32 (dk_at dksX2_mayStand_3 3 rfl rfl)
theorem dX2_mayStand_76 : decode cX2_mayStand 76 = .ok (.if_icmp .eq 7, 3) := dk_159 0 7 (dk_at dksX2_mayStand_3 5 rfl rfl)
theorem dX2_mayStand_79 : decode cX2_mayStand 79 = .ok (.iconst 1, 1) := dk_4 (dk_at dksX2_mayStand_3 8 rfl rfl)
theorem dX2_mayStand_80 : decode cX2_mayStand 80 = .ok (.goto 4, 3) := dk_167 0 4 (dk_at dksX2_mayStand_3 9 rfl rfl)
theorem dX2_mayStand_83 : decode cX2_mayStand 83 = .ok (.iconst 0, 1) := dk_3 (dk_at dksX2_mayStand_3 12 rfl rfl)
theorem dX2_mayStand_84 : decode cX2_mayStand 84 = .ok (.ireturn, 1) := dk_172 (dk_at dksX2_mayStand_3 13 rfl rfl)
abbrev cX2_fails : ByteArray := prog_12_method_17_code
def yX2_fails : MethodName := ⟨RX2, "fails", "(II)Z"⟩
def dkwX2_fails_0 : List UInt8 := [42, 27, 181, 0, 46, 42, 28, 181, 0, 49, 3, 172]
abbrev dktX2_fails_0 : List UInt8 := dkwX2_fails_0 ++ []
theorem dksX2_fails_0 : cX2_fails.data.toList.drop 0 = dktX2_fails_0 := by decide +kernel
theorem dX2_fails_0 : decode cX2_fails 0 = .ok (.aload_n 0, 1) := dk_42 (dk_at dksX2_fails_0 0 rfl rfl)
theorem dX2_fails_1 : decode cX2_fails 1 = .ok (.iload_n 1, 1) := dk_27 (dk_at dksX2_fails_0 1 rfl rfl)
theorem dX2_fails_2 : decode cX2_fails 2 = .ok (.putfield 46, 3) := dk_181 0 46 (dk_at dksX2_fails_0 2 rfl rfl)
theorem dX2_fails_5 : decode cX2_fails 5 = .ok (.aload_n 0, 1) := dk_42 (dk_at dksX2_fails_0 5 rfl rfl)
theorem dX2_fails_6 : decode cX2_fails 6 = .ok (.iload_n 2, 1) := dk_28 (dk_at dksX2_fails_0 6 rfl rfl)
theorem dX2_fails_7 : decode cX2_fails 7 = .ok (.putfield 49, 3) := dk_181 0 49 (dk_at dksX2_fails_0 7 rfl rfl)
theorem dX2_fails_10 : decode cX2_fails 10 = .ok (.iconst 0, 1) := dk_3 (dk_at dksX2_fails_0 10 rfl rfl)
theorem dX2_fails_11 : decode cX2_fails 11 = .ok (.ireturn, 1) := dk_172 (dk_at dksX2_fails_0 11 rfl rfl)
abbrev cX2_wide : ByteArray := prog_12_method_12_code
def yX2_wide : MethodName := ⟨RX2, "wide", "(I)I"⟩
def dkwX2_wide_1 : List UInt8 := [16, 87, 160, 0, 7, 6, 167, 0, 4, 5, 172]
abbrev dktX2_wide_1 : List UInt8 := dkwX2_wide_1 ++ []
def dkwX2_wide_0 : List UInt8 := [26, 16, 73, 159, 0, 9, 26, 16, 32, 160, 0, 7, 4, 167, 0, 20, 26, 16, 77, 159, 0, 9, 26]
abbrev dktX2_wide_0 : List UInt8 := dkwX2_wide_0 ++ dktX2_wide_1
theorem dksX2_wide_0 : cX2_wide.data.toList.drop 0 = dktX2_wide_0 := by decide +kernel
theorem dksX2_wide_1 : cX2_wide.data.toList.drop 23 = dktX2_wide_1 := dk_seg dksX2_wide_0 23 rfl rfl
theorem dX2_wide_0 : decode cX2_wide 0 = .ok (.iload_n 0, 1) := dk_26 (dk_at dksX2_wide_0 0 rfl rfl)
theorem dX2_wide_1 : decode cX2_wide 1 = .ok (.bipush 73, 2) := dk_16 73 (dk_at dksX2_wide_0 1 rfl rfl)
theorem dX2_wide_3 : decode cX2_wide 3 = .ok (.if_icmp .eq 9, 3) := dk_159 0 9 (dk_at dksX2_wide_0 3 rfl rfl)
theorem dX2_wide_6 : decode cX2_wide 6 = .ok (.iload_n 0, 1) := dk_26 (dk_at dksX2_wide_0 6 rfl rfl)
theorem dX2_wide_7 : decode cX2_wide 7 = .ok (.bipush 32, 2) := dk_16 32 (dk_at dksX2_wide_0 7 rfl rfl)
theorem dX2_wide_9 : decode cX2_wide 9 = .ok (.if_icmp .ne 7, 3) := dk_160 0 7 (dk_at dksX2_wide_0 9 rfl rfl)
theorem dX2_wide_12 : decode cX2_wide 12 = .ok (.iconst 1, 1) := dk_4 (dk_at dksX2_wide_0 12 rfl rfl)
theorem dX2_wide_13 : decode cX2_wide 13 = .ok (.goto 20, 3) := dk_167 0 20 (dk_at dksX2_wide_0 13 rfl rfl)
theorem dX2_wide_16 : decode cX2_wide 16 = .ok (.iload_n 0, 1) := dk_26 (dk_at dksX2_wide_0 16 rfl rfl)
theorem dX2_wide_17 : decode cX2_wide 17 = .ok (.bipush 77, 2) := dk_16 77 (dk_at dksX2_wide_0 17 rfl rfl)
theorem dX2_wide_19 : decode cX2_wide 19 = .ok (.if_icmp .eq 9, 3) := dk_159 0 9 (dk_at dksX2_wide_0 19 rfl rfl)
theorem dX2_wide_22 : decode cX2_wide 22 = .ok (.iload_n 0, 1) := dk_26 (dk_at dksX2_wide_0 22 rfl rfl)
theorem dX2_wide_23 : decode cX2_wide 23 = .ok (.bipush 87, 2) := dk_16 87 (dk_at dksX2_wide_1 0 rfl rfl)
theorem dX2_wide_25 : decode cX2_wide 25 = .ok (.if_icmp .ne 7, 3) := dk_160 0 7 (dk_at dksX2_wide_1 2 rfl rfl)
theorem dX2_wide_28 : decode cX2_wide 28 = .ok (.iconst 3, 1) := dk_6 (dk_at dksX2_wide_1 5 rfl rfl)
theorem dX2_wide_29 : decode cX2_wide 29 = .ok (.goto 4, 3) := dk_167 0 4 (dk_at dksX2_wide_1 6 rfl rfl)
theorem dX2_wide_32 : decode cX2_wide 32 = .ok (.iconst 2, 1) := dk_5 (dk_at dksX2_wide_1 9 rfl rfl)
theorem dX2_wide_33 : decode cX2_wide 33 = .ok (.ireturn, 1) := dk_172 (dk_at dksX2_wide_1 10 rfl rfl)
abbrev cX2_squeezed : ByteArray := prog_12_method_14_code
def yX2_squeezed : MethodName := ⟨RX2, "squeezed", "(I)I"⟩
def dkwX2_squeezed_1 : List UInt8 := [167, 0, 5, 16, 100, 172]
abbrev dktX2_squeezed_1 : List UInt8 := dkwX2_squeezed_1 ++ []
def dkwX2_squeezed_0 : List UInt8 := [27, 42, 180, 0, 7, 16, 8, 46, 164, 0, 18, 27, 16, 100, 104, 42, 180, 0, 7, 16, 8, 46, 108]
abbrev dktX2_squeezed_0 : List UInt8 := dkwX2_squeezed_0 ++ dktX2_squeezed_1
theorem dksX2_squeezed_0 : cX2_squeezed.data.toList.drop 0 = dktX2_squeezed_0 := by decide +kernel
theorem dksX2_squeezed_1 : cX2_squeezed.data.toList.drop 23 = dktX2_squeezed_1 := dk_seg dksX2_squeezed_0 23 rfl rfl
theorem dX2_squeezed_0 : decode cX2_squeezed 0 = .ok (.iload_n 1, 1) := dk_27 (dk_at dksX2_squeezed_0 0 rfl rfl)
theorem dX2_squeezed_1 : decode cX2_squeezed 1 = .ok (.aload_n 0, 1) := dk_42 (dk_at dksX2_squeezed_0 1 rfl rfl)
theorem dX2_squeezed_2 : decode cX2_squeezed 2 = .ok (.getfield 7, 3) := dk_180 0 7 (dk_at dksX2_squeezed_0 2 rfl rfl)
theorem dX2_squeezed_5 : decode cX2_squeezed 5 = .ok (.bipush 8, 2) := dk_16 8 (dk_at dksX2_squeezed_0 5 rfl rfl)
theorem dX2_squeezed_7 : decode cX2_squeezed 7 = .ok (.iaload, 1) := dk_46 (dk_at dksX2_squeezed_0 7 rfl rfl)
theorem dX2_squeezed_8 : decode cX2_squeezed 8 = .ok (.if_icmp .le 18, 3) := dk_164 0 18 (dk_at dksX2_squeezed_0 8 rfl rfl)
theorem dX2_squeezed_11 : decode cX2_squeezed 11 = .ok (.iload_n 1, 1) := dk_27 (dk_at dksX2_squeezed_0 11 rfl rfl)
theorem dX2_squeezed_12 : decode cX2_squeezed 12 = .ok (.bipush 100, 2) := dk_16 100 (dk_at dksX2_squeezed_0 12 rfl rfl)
theorem dX2_squeezed_14 : decode cX2_squeezed 14 = .ok (.imul, 1) := dk_104 (dk_at dksX2_squeezed_0 14 rfl rfl)
theorem dX2_squeezed_15 : decode cX2_squeezed 15 = .ok (.aload_n 0, 1) := dk_42 (dk_at dksX2_squeezed_0 15 rfl rfl)
theorem dX2_squeezed_16 : decode cX2_squeezed 16 = .ok (.getfield 7, 3) := dk_180 0 7 (dk_at dksX2_squeezed_0 16 rfl rfl)
theorem dX2_squeezed_19 : decode cX2_squeezed 19 = .ok (.bipush 8, 2) := dk_16 8 (dk_at dksX2_squeezed_0 19 rfl rfl)
theorem dX2_squeezed_21 : decode cX2_squeezed 21 = .ok (.iaload, 1) := dk_46 (dk_at dksX2_squeezed_0 21 rfl rfl)
theorem dX2_squeezed_22 : decode cX2_squeezed 22 = .ok (.idiv, 1) := dk_108 (dk_at dksX2_squeezed_0 22 rfl rfl)
theorem dX2_squeezed_23 : decode cX2_squeezed 23 = .ok (.goto 5, 3) := dk_167 0 5 (dk_at dksX2_squeezed_1 0 rfl rfl)
theorem dX2_squeezed_26 : decode cX2_squeezed 26 = .ok (.bipush 100, 2) := dk_16 100 (dk_at dksX2_squeezed_1 3 rfl rfl)
theorem dX2_squeezed_28 : decode cX2_squeezed 28 = .ok (.ireturn, 1) := dk_172 (dk_at dksX2_squeezed_1 5 rfl rfl)
abbrev cX2_sets : ByteArray := prog_12_method_10_code
def yX2_sets : MethodName := ⟨RX2, "sets", "(III)V"⟩
def dkwX2_sets_0 : List UInt8 := [42, 180, 0, 7, 16, 11, 16, 17, 27, 104, 96, 28, 96, 29, 79, 177]
abbrev dktX2_sets_0 : List UInt8 := dkwX2_sets_0 ++ []
theorem dksX2_sets_0 : cX2_sets.data.toList.drop 0 = dktX2_sets_0 := by decide +kernel
theorem dX2_sets_0 : decode cX2_sets 0 = .ok (.aload_n 0, 1) := dk_42 (dk_at dksX2_sets_0 0 rfl rfl)
theorem dX2_sets_1 : decode cX2_sets 1 = .ok (.getfield 7, 3) := dk_180 0 7 (dk_at dksX2_sets_0 1 rfl rfl)
theorem dX2_sets_4 : decode cX2_sets 4 = .ok (.bipush 11, 2) := dk_16 11 (dk_at dksX2_sets_0 4 rfl rfl)
theorem dX2_sets_6 : decode cX2_sets 6 = .ok (.bipush 17, 2) := dk_16 17 (dk_at dksX2_sets_0 6 rfl rfl)
theorem dX2_sets_8 : decode cX2_sets 8 = .ok (.iload_n 1, 1) := dk_27 (dk_at dksX2_sets_0 8 rfl rfl)
theorem dX2_sets_9 : decode cX2_sets 9 = .ok (.imul, 1) := dk_104 (dk_at dksX2_sets_0 9 rfl rfl)
theorem dX2_sets_10 : decode cX2_sets 10 = .ok (.iadd, 1) := dk_96 (dk_at dksX2_sets_0 10 rfl rfl)
theorem dX2_sets_11 : decode cX2_sets 11 = .ok (.iload_n 2, 1) := dk_28 (dk_at dksX2_sets_0 11 rfl rfl)
theorem dX2_sets_12 : decode cX2_sets 12 = .ok (.iadd, 1) := dk_96 (dk_at dksX2_sets_0 12 rfl rfl)
theorem dX2_sets_13 : decode cX2_sets 13 = .ok (.iload_n 3, 1) := dk_29 (dk_at dksX2_sets_0 13 rfl rfl)
theorem dX2_sets_14 : decode cX2_sets 14 = .ok (.iastore, 1) := dk_79 (dk_at dksX2_sets_0 14 rfl rfl)
theorem dX2_sets_15 : decode cX2_sets 15 = .ok (.return_, 1) := dk_177 (dk_at dksX2_sets_0 15 rfl rfl)
abbrev cX2_add : ByteArray := prog_12_method_24_code
def yX2_add : MethodName := ⟨RX2, "add", "()I"⟩
def dkwX2_add_2 : List UInt8 := [180, 0, 86, 167, 0, 5, 18, 100, 172]
abbrev dktX2_add_2 : List UInt8 := dkwX2_add_2 ++ []
def dkwX2_add_1 : List UInt8 := [184, 0, 93, 27, 154, 0, 6, 18, 101, 172, 42, 182, 0, 102, 42, 182, 0, 97, 153, 0, 10, 42]
abbrev dktX2_add_1 : List UInt8 := dkwX2_add_1 ++ dktX2_add_2
def dkwX2_add_0 : List UInt8 := [42, 180, 0, 7, 42, 180, 0, 16, 184, 0, 93, 42, 182, 0, 97, 60, 42, 180, 0, 16, 42, 180, 0, 7]
abbrev dktX2_add_0 : List UInt8 := dkwX2_add_0 ++ dktX2_add_1
theorem dksX2_add_0 : cX2_add.data.toList.drop 0 = dktX2_add_0 := by decide +kernel
theorem dksX2_add_1 : cX2_add.data.toList.drop 24 = dktX2_add_1 := dk_seg dksX2_add_0 24 rfl rfl
theorem dksX2_add_2 : cX2_add.data.toList.drop 46 = dktX2_add_2 := dk_seg dksX2_add_1 22 rfl rfl
theorem dX2_add_0 : decode cX2_add 0 = .ok (.aload_n 0, 1) := dk_42 (dk_at dksX2_add_0 0 rfl rfl)
theorem dX2_add_1 : decode cX2_add 1 = .ok (.getfield 7, 3) := dk_180 0 7 (dk_at dksX2_add_0 1 rfl rfl)
theorem dX2_add_4 : decode cX2_add 4 = .ok (.aload_n 0, 1) := dk_42 (dk_at dksX2_add_0 4 rfl rfl)
theorem dX2_add_5 : decode cX2_add 5 = .ok (.getfield 16, 3) := dk_180 0 16 (dk_at dksX2_add_0 5 rfl rfl)
theorem dX2_add_8 : decode cX2_add 8 = .ok (.invokestatic 93, 3) := dk_184 0 93 (dk_at dksX2_add_0 8 rfl rfl)
theorem dX2_add_11 : decode cX2_add 11 = .ok (.aload_n 0, 1) := dk_42 (dk_at dksX2_add_0 11 rfl rfl)
theorem dX2_add_12 : decode cX2_add 12 = .ok (.invokevirtual 97, 3) := dk_182 0 97 (dk_at dksX2_add_0 12 rfl rfl)
theorem dX2_add_15 : decode cX2_add 15 = .ok (.istore_n 1, 1) := dk_60 (dk_at dksX2_add_0 15 rfl rfl)
theorem dX2_add_16 : decode cX2_add 16 = .ok (.aload_n 0, 1) := dk_42 (dk_at dksX2_add_0 16 rfl rfl)
theorem dX2_add_17 : decode cX2_add 17 = .ok (.getfield 16, 3) := dk_180 0 16 (dk_at dksX2_add_0 17 rfl rfl)
theorem dX2_add_20 : decode cX2_add 20 = .ok (.aload_n 0, 1) := dk_42 (dk_at dksX2_add_0 20 rfl rfl)
theorem dX2_add_21 : decode cX2_add 21 = .ok (.getfield 7, 3) := dk_180 0 7 (dk_at dksX2_add_0 21 rfl rfl)
theorem dX2_add_24 : decode cX2_add 24 = .ok (.invokestatic 93, 3) := dk_184 0 93 (dk_at dksX2_add_1 0 rfl rfl)
theorem dX2_add_27 : decode cX2_add 27 = .ok (.iload_n 1, 1) := dk_27 (dk_at dksX2_add_1 3 rfl rfl)
theorem dX2_add_28 : decode cX2_add 28 = .ok (.ifCond .ne 6, 3) := dk_154 0 6 (dk_at dksX2_add_1 4 rfl rfl)
theorem dX2_add_31 : decode cX2_add 31 = .ok (.ldc 101, 2) := dk_18 101 (dk_at dksX2_add_1 7 rfl rfl)
theorem dX2_add_33 : decode cX2_add 33 = .ok (.ireturn, 1) := dk_172 (dk_at dksX2_add_1 9 rfl rfl)
theorem dX2_add_34 : decode cX2_add 34 = .ok (.aload_n 0, 1) := dk_42 (dk_at dksX2_add_1 10 rfl rfl)
theorem dX2_add_35 : decode cX2_add 35 = .ok (.invokevirtual 102, 3) := dk_182 0 102 (dk_at dksX2_add_1 11 rfl rfl)
theorem dX2_add_38 : decode cX2_add 38 = .ok (.aload_n 0, 1) := dk_42 (dk_at dksX2_add_1 14 rfl rfl)
theorem dX2_add_39 : decode cX2_add 39 = .ok (.invokevirtual 97, 3) := dk_182 0 97 (dk_at dksX2_add_1 15 rfl rfl)
theorem dX2_add_42 : decode cX2_add 42 = .ok (.ifCond .eq 10, 3) := dk_153 0 10 (dk_at dksX2_add_1 18 rfl rfl)
theorem dX2_add_45 : decode cX2_add 45 = .ok (.aload_n 0, 1) := dk_42 (dk_at dksX2_add_1 21 rfl rfl)
theorem dX2_add_46 : decode cX2_add 46 = .ok (.getfield 86, 3) := dk_180 0 86 (dk_at dksX2_add_2 0 rfl rfl)
theorem dX2_add_49 : decode cX2_add 49 = .ok (.goto 5, 3) := dk_167 0 5 (dk_at dksX2_add_2 3 rfl rfl)
theorem dX2_add_52 : decode cX2_add 52 = .ok (.ldc 100, 2) := dk_18 100 (dk_at dksX2_add_2 6 rfl rfl)
theorem dX2_add_54 : decode cX2_add 54 = .ok (.ireturn, 1) := dk_172 (dk_at dksX2_add_2 8 rfl rfl)
abbrev cX2_changes : ByteArray := prog_12_method_5_code
def yX2_changes : MethodName := ⟨RX2, "changes", "()V"⟩
def dkwX2_changes_4 : List UInt8 := [181, 0, 22, 177]
abbrev dktX2_changes_4 : List UInt8 := dkwX2_changes_4 ++ []
def dkwX2_changes_3 : List UInt8 := [27, 96, 42, 180, 0, 7, 27, 46, 79, 132, 1, 1, 167, 255, 225, 42, 89, 180, 0, 22, 4, 96]
abbrev dktX2_changes_3 : List UInt8 := dkwX2_changes_3 ++ dktX2_changes_4
def dkwX2_changes_2 : List UInt8 := [181, 0, 22, 3, 60, 27, 17, 1, 113, 162, 0, 30, 42, 180, 0, 13, 17, 1, 113, 42, 180, 0, 22, 104]
abbrev dktX2_changes_2 : List UInt8 := dkwX2_changes_2 ++ dktX2_changes_3
def dkwX2_changes_1 : List UInt8 := [180, 0, 13, 27, 17, 1, 113, 96, 46, 79, 132, 1, 1, 167, 255, 230, 42, 89, 180, 0, 22, 4, 100]
abbrev dktX2_changes_1 : List UInt8 := dkwX2_changes_1 ++ dktX2_changes_2
def dkwX2_changes_0 : List UInt8 := [42, 180, 0, 22, 7, 160, 0, 44, 3, 60, 27, 17, 4, 83, 162, 0, 25, 42, 180, 0, 13, 27, 42]
abbrev dktX2_changes_0 : List UInt8 := dkwX2_changes_0 ++ dktX2_changes_1
theorem dksX2_changes_0 : cX2_changes.data.toList.drop 0 = dktX2_changes_0 := by decide +kernel
theorem dksX2_changes_1 : cX2_changes.data.toList.drop 23 = dktX2_changes_1 := dk_seg dksX2_changes_0 23 rfl rfl
theorem dksX2_changes_2 : cX2_changes.data.toList.drop 46 = dktX2_changes_2 := dk_seg dksX2_changes_1 23 rfl rfl
theorem dksX2_changes_3 : cX2_changes.data.toList.drop 70 = dktX2_changes_3 := dk_seg dksX2_changes_2 24 rfl rfl
theorem dksX2_changes_4 : cX2_changes.data.toList.drop 92 = dktX2_changes_4 := dk_seg dksX2_changes_3 22 rfl rfl
theorem dX2_changes_0 : decode cX2_changes 0 = .ok (.aload_n 0, 1) := dk_42 (dk_at dksX2_changes_0 0 rfl rfl)
theorem dX2_changes_1 : decode cX2_changes 1 = .ok (.getfield 22, 3) := dk_180 0 22 (dk_at dksX2_changes_0 1 rfl rfl)
theorem dX2_changes_4 : decode cX2_changes 4 = .ok (.iconst 4, 1) := dk_7 (dk_at dksX2_changes_0 4 rfl rfl)
theorem dX2_changes_5 : decode cX2_changes 5 = .ok (.if_icmp .ne 44, 3) := dk_160 0 44 (dk_at dksX2_changes_0 5 rfl rfl)
theorem dX2_changes_8 : decode cX2_changes 8 = .ok (.iconst 0, 1) := dk_3 (dk_at dksX2_changes_0 8 rfl rfl)
theorem dX2_changes_9 : decode cX2_changes 9 = .ok (.istore_n 1, 1) := dk_60 (dk_at dksX2_changes_0 9 rfl rfl)
theorem dX2_changes_10 : decode cX2_changes 10 = .ok (.iload_n 1, 1) := dk_27 (dk_at dksX2_changes_0 10 rfl rfl)
theorem dX2_changes_11 : decode cX2_changes 11 = .ok (.sipush 1107, 3) := dk_17 4 83 (dk_at dksX2_changes_0 11 rfl rfl)
theorem dX2_changes_14 : decode cX2_changes 14 = .ok (.if_icmp .ge 25, 3) := dk_162 0 25 (dk_at dksX2_changes_0 14 rfl rfl)
theorem dX2_changes_17 : decode cX2_changes 17 = .ok (.aload_n 0, 1) := dk_42 (dk_at dksX2_changes_0 17 rfl rfl)
theorem dX2_changes_18 : decode cX2_changes 18 = .ok (.getfield 13, 3) := dk_180 0 13 (dk_at dksX2_changes_0 18 rfl rfl)
theorem dX2_changes_21 : decode cX2_changes 21 = .ok (.iload_n 1, 1) := dk_27 (dk_at dksX2_changes_0 21 rfl rfl)
theorem dX2_changes_22 : decode cX2_changes 22 = .ok (.aload_n 0, 1) := dk_42 (dk_at dksX2_changes_0 22 rfl rfl)
theorem dX2_changes_23 : decode cX2_changes 23 = .ok (.getfield 13, 3) := dk_180 0 13 (dk_at dksX2_changes_1 0 rfl rfl)
theorem dX2_changes_26 : decode cX2_changes 26 = .ok (.iload_n 1, 1) := dk_27 (dk_at dksX2_changes_1 3 rfl rfl)
theorem dX2_changes_27 : decode cX2_changes 27 = .ok (.sipush 369, 3) := dk_17 1 113 (dk_at dksX2_changes_1 4 rfl rfl)
theorem dX2_changes_30 : decode cX2_changes 30 = .ok (.iadd, 1) := dk_96 (dk_at dksX2_changes_1 7 rfl rfl)
theorem dX2_changes_31 : decode cX2_changes 31 = .ok (.iaload, 1) := dk_46 (dk_at dksX2_changes_1 8 rfl rfl)
theorem dX2_changes_32 : decode cX2_changes 32 = .ok (.iastore, 1) := dk_79 (dk_at dksX2_changes_1 9 rfl rfl)
theorem dX2_changes_33 : decode cX2_changes 33 = .ok (.iinc 1 1, 3) := dk_132 1 1 (dk_at dksX2_changes_1 10 rfl rfl)
theorem dX2_changes_36 : decode cX2_changes 36 = .ok (.goto (-26), 3) := dk_167 255 230 (dk_at dksX2_changes_1 13 rfl rfl)
theorem dX2_changes_39 : decode cX2_changes 39 = .ok (.aload_n 0, 1) := dk_42 (dk_at dksX2_changes_1 16 rfl rfl)
theorem dX2_changes_40 : decode cX2_changes 40 = .ok (.dup, 1) := dk_89 (dk_at dksX2_changes_1 17 rfl rfl)
theorem dX2_changes_41 : decode cX2_changes 41 = .ok (.getfield 22, 3) := dk_180 0 22 (dk_at dksX2_changes_1 18 rfl rfl)
theorem dX2_changes_44 : decode cX2_changes 44 = .ok (.iconst 1, 1) := dk_4 (dk_at dksX2_changes_1 21 rfl rfl)
theorem dX2_changes_45 : decode cX2_changes 45 = .ok (.isub, 1) := dk_100 (dk_at dksX2_changes_1 22 rfl rfl)
theorem dX2_changes_46 : decode cX2_changes 46 = .ok (.putfield 22, 3) := dk_181 0 22 (dk_at dksX2_changes_2 0 rfl rfl)
theorem dX2_changes_49 : decode cX2_changes 49 = .ok (.iconst 0, 1) := dk_3 (dk_at dksX2_changes_2 3 rfl rfl)
theorem dX2_changes_50 : decode cX2_changes 50 = .ok (.istore_n 1, 1) := dk_60 (dk_at dksX2_changes_2 4 rfl rfl)
theorem dX2_changes_51 : decode cX2_changes 51 = .ok (.iload_n 1, 1) := dk_27 (dk_at dksX2_changes_2 5 rfl rfl)
theorem dX2_changes_52 : decode cX2_changes 52 = .ok (.sipush 369, 3) := dk_17 1 113 (dk_at dksX2_changes_2 6 rfl rfl)
theorem dX2_changes_55 : decode cX2_changes 55 = .ok (.if_icmp .ge 30, 3) := dk_162 0 30 (dk_at dksX2_changes_2 9 rfl rfl)
theorem dX2_changes_58 : decode cX2_changes 58 = .ok (.aload_n 0, 1) := dk_42 (dk_at dksX2_changes_2 12 rfl rfl)
theorem dX2_changes_59 : decode cX2_changes 59 = .ok (.getfield 13, 3) := dk_180 0 13 (dk_at dksX2_changes_2 13 rfl rfl)
theorem dX2_changes_62 : decode cX2_changes 62 = .ok (.sipush 369, 3) := dk_17 1 113 (dk_at dksX2_changes_2 16 rfl rfl)
theorem dX2_changes_65 : decode cX2_changes 65 = .ok (.aload_n 0, 1) := dk_42 (dk_at dksX2_changes_2 19 rfl rfl)
theorem dX2_changes_66 : decode cX2_changes 66 = .ok (.getfield 22, 3) := dk_180 0 22 (dk_at dksX2_changes_2 20 rfl rfl)
theorem dX2_changes_69 : decode cX2_changes 69 = .ok (.imul, 1) := dk_104 (dk_at dksX2_changes_2 23 rfl rfl)
theorem dX2_changes_70 : decode cX2_changes 70 = .ok (.iload_n 1, 1) := dk_27 (dk_at dksX2_changes_3 0 rfl rfl)
theorem dX2_changes_71 : decode cX2_changes 71 = .ok (.iadd, 1) := dk_96 (dk_at dksX2_changes_3 1 rfl rfl)
theorem dX2_changes_72 : decode cX2_changes 72 = .ok (.aload_n 0, 1) := dk_42 (dk_at dksX2_changes_3 2 rfl rfl)
theorem dX2_changes_73 : decode cX2_changes 73 = .ok (.getfield 7, 3) := dk_180 0 7 (dk_at dksX2_changes_3 3 rfl rfl)
theorem dX2_changes_76 : decode cX2_changes 76 = .ok (.iload_n 1, 1) := dk_27 (dk_at dksX2_changes_3 6 rfl rfl)
theorem dX2_changes_77 : decode cX2_changes 77 = .ok (.iaload, 1) := dk_46 (dk_at dksX2_changes_3 7 rfl rfl)
theorem dX2_changes_78 : decode cX2_changes 78 = .ok (.iastore, 1) := dk_79 (dk_at dksX2_changes_3 8 rfl rfl)
theorem dX2_changes_79 : decode cX2_changes 79 = .ok (.iinc 1 1, 3) := dk_132 1 1 (dk_at dksX2_changes_3 9 rfl rfl)
theorem dX2_changes_82 : decode cX2_changes 82 = .ok (.goto (-31), 3) := dk_167 255 225 (dk_at dksX2_changes_3 12 rfl rfl)
theorem dX2_changes_85 : decode cX2_changes 85 = .ok (.aload_n 0, 1) := dk_42 (dk_at dksX2_changes_3 15 rfl rfl)
theorem dX2_changes_86 : decode cX2_changes 86 = .ok (.dup, 1) := dk_89 (dk_at dksX2_changes_3 16 rfl rfl)
theorem dX2_changes_87 : decode cX2_changes 87 = .ok (.getfield 22, 3) := dk_180 0 22 (dk_at dksX2_changes_3 17 rfl rfl)
theorem dX2_changes_90 : decode cX2_changes 90 = .ok (.iconst 1, 1) := dk_4 (dk_at dksX2_changes_3 20 rfl rfl)
theorem dX2_changes_91 : decode cX2_changes 91 = .ok (.iadd, 1) := dk_96 (dk_at dksX2_changes_3 21 rfl rfl)
theorem dX2_changes_92 : decode cX2_changes 92 = .ok (.putfield 22, 3) := dk_181 0 22 (dk_at dksX2_changes_4 0 rfl rfl)
theorem dX2_changes_95 : decode cX2_changes 95 = .ok (.return_, 1) := dk_177 (dk_at dksX2_changes_4 3 rfl rfl)
abbrev cX2_cut : ByteArray := prog_12_method_26_code
def yX2_cut : MethodName := ⟨RX2, "cut", "(I)I"⟩
def dkwX2_cut_6 : List UInt8 := [160, 0, 7, 4, 167, 0, 4, 3, 100, 79, 42, 180, 0, 7, 4, 46, 172]
abbrev dktX2_cut_6 : List UInt8 := dkwX2_cut_6 ++ []
def dkwX2_cut_5 : List UInt8 := [46, 42, 180, 0, 7, 4, 46, 27, 163, 0, 18, 42, 180, 0, 7, 4, 46, 42, 180, 0, 7, 3, 46]
abbrev dktX2_cut_5 : List UInt8 := dkwX2_cut_5 ++ dktX2_cut_6
def dkwX2_cut_4 : List UInt8 := [96, 42, 28, 3, 182, 0, 109, 27, 184, 0, 112, 79, 132, 2, 1, 167, 255, 219, 42, 180, 0, 7, 4, 92]
abbrev dktX2_cut_4 : List UInt8 := dkwX2_cut_4 ++ dktX2_cut_5
def dkwX2_cut_3 : List UInt8 := [3, 61, 28, 42, 180, 0, 7, 5, 46, 162, 0, 33, 42, 180, 0, 7, 17, 1, 95, 6, 28, 104, 96, 3]
abbrev dktX2_cut_3 : List UInt8 := dkwX2_cut_3 ++ dktX2_cut_4
def dkwX2_cut_2 : List UInt8 := [162, 0, 24, 42, 180, 0, 7, 28, 42, 180, 0, 7, 28, 16, 17, 96, 46, 79, 132, 2, 1, 167, 255, 222]
abbrev dktX2_cut_2 : List UInt8 := dkwX2_cut_2 ++ dktX2_cut_3
def dkwX2_cut_1 : List UInt8 := [79, 16, 11, 16, 17, 27, 104, 96, 61, 28, 16, 11, 16, 17, 42, 180, 0, 7, 3, 46, 104, 96]
abbrev dktX2_cut_1 : List UInt8 := dkwX2_cut_1 ++ dktX2_cut_2
def dkwX2_cut_0 : List UInt8 := [42, 27, 182, 0, 105, 154, 0, 6, 18, 92, 172, 42, 182, 0, 102, 42, 180, 0, 7, 3, 92, 46, 4, 100]
abbrev dktX2_cut_0 : List UInt8 := dkwX2_cut_0 ++ dktX2_cut_1
theorem dksX2_cut_0 : cX2_cut.data.toList.drop 0 = dktX2_cut_0 := by decide +kernel
theorem dksX2_cut_1 : cX2_cut.data.toList.drop 24 = dktX2_cut_1 := dk_seg dksX2_cut_0 24 rfl rfl
theorem dksX2_cut_2 : cX2_cut.data.toList.drop 46 = dktX2_cut_2 := dk_seg dksX2_cut_1 22 rfl rfl
theorem dksX2_cut_3 : cX2_cut.data.toList.drop 70 = dktX2_cut_3 := dk_seg dksX2_cut_2 24 rfl rfl
theorem dksX2_cut_4 : cX2_cut.data.toList.drop 94 = dktX2_cut_4 := dk_seg dksX2_cut_3 24 rfl rfl
theorem dksX2_cut_5 : cX2_cut.data.toList.drop 118 = dktX2_cut_5 := dk_seg dksX2_cut_4 24 rfl rfl
theorem dksX2_cut_6 : cX2_cut.data.toList.drop 141 = dktX2_cut_6 := dk_seg dksX2_cut_5 23 rfl rfl
theorem dX2_cut_0 : decode cX2_cut 0 = .ok (.aload_n 0, 1) := dk_42 (dk_at dksX2_cut_0 0 rfl rfl)
theorem dX2_cut_1 : decode cX2_cut 1 = .ok (.iload_n 1, 1) := dk_27 (dk_at dksX2_cut_0 1 rfl rfl)
theorem dX2_cut_2 : decode cX2_cut 2 = .ok (.invokevirtual 105, 3) := dk_182 0 105 (dk_at dksX2_cut_0 2 rfl rfl)
theorem dX2_cut_5 : decode cX2_cut 5 = .ok (.ifCond .ne 6, 3) := dk_154 0 6 (dk_at dksX2_cut_0 5 rfl rfl)
theorem dX2_cut_8 : decode cX2_cut 8 = .ok (.ldc 92, 2) := dk_18 92 (dk_at dksX2_cut_0 8 rfl rfl)
theorem dX2_cut_10 : decode cX2_cut 10 = .ok (.ireturn, 1) := dk_172 (dk_at dksX2_cut_0 10 rfl rfl)
theorem dX2_cut_11 : decode cX2_cut 11 = .ok (.aload_n 0, 1) := dk_42 (dk_at dksX2_cut_0 11 rfl rfl)
theorem dX2_cut_12 : decode cX2_cut 12 = .ok (.invokevirtual 102, 3) := dk_182 0 102 (dk_at dksX2_cut_0 12 rfl rfl)
theorem dX2_cut_15 : decode cX2_cut 15 = .ok (.aload_n 0, 1) := dk_42 (dk_at dksX2_cut_0 15 rfl rfl)
theorem dX2_cut_16 : decode cX2_cut 16 = .ok (.getfield 7, 3) := dk_180 0 7 (dk_at dksX2_cut_0 16 rfl rfl)
theorem dX2_cut_19 : decode cX2_cut 19 = .ok (.iconst 0, 1) := dk_3 (dk_at dksX2_cut_0 19 rfl rfl)
theorem dX2_cut_20 : decode cX2_cut 20 = .ok (.dup2, 1) := dk_92 (dk_at dksX2_cut_0 20 rfl rfl)
theorem dX2_cut_21 : decode cX2_cut 21 = .ok (.iaload, 1) := dk_46 (dk_at dksX2_cut_0 21 rfl rfl)
theorem dX2_cut_22 : decode cX2_cut 22 = .ok (.iconst 1, 1) := dk_4 (dk_at dksX2_cut_0 22 rfl rfl)
theorem dX2_cut_23 : decode cX2_cut 23 = .ok (.isub, 1) := dk_100 (dk_at dksX2_cut_0 23 rfl rfl)
theorem dX2_cut_24 : decode cX2_cut 24 = .ok (.iastore, 1) := dk_79 (dk_at dksX2_cut_1 0 rfl rfl)
theorem dX2_cut_25 : decode cX2_cut 25 = .ok (.bipush 11, 2) := dk_16 11 (dk_at dksX2_cut_1 1 rfl rfl)
theorem dX2_cut_27 : decode cX2_cut 27 = .ok (.bipush 17, 2) := dk_16 17 (dk_at dksX2_cut_1 3 rfl rfl)
theorem dX2_cut_29 : decode cX2_cut 29 = .ok (.iload_n 1, 1) := dk_27 (dk_at dksX2_cut_1 5 rfl rfl)
theorem dX2_cut_30 : decode cX2_cut 30 = .ok (.imul, 1) := dk_104 (dk_at dksX2_cut_1 6 rfl rfl)
theorem dX2_cut_31 : decode cX2_cut 31 = .ok (.iadd, 1) := dk_96 (dk_at dksX2_cut_1 7 rfl rfl)
theorem dX2_cut_32 : decode cX2_cut 32 = .ok (.istore_n 2, 1) := dk_61 (dk_at dksX2_cut_1 8 rfl rfl)
theorem dX2_cut_33 : decode cX2_cut 33 = .ok (.iload_n 2, 1) := dk_28 (dk_at dksX2_cut_1 9 rfl rfl)
theorem dX2_cut_34 : decode cX2_cut 34 = .ok (.bipush 11, 2) := dk_16 11 (dk_at dksX2_cut_1 10 rfl rfl)
theorem dX2_cut_36 : decode cX2_cut 36 = .ok (.bipush 17, 2) := dk_16 17 (dk_at dksX2_cut_1 12 rfl rfl)
theorem dX2_cut_38 : decode cX2_cut 38 = .ok (.aload_n 0, 1) := dk_42 (dk_at dksX2_cut_1 14 rfl rfl)
theorem dX2_cut_39 : decode cX2_cut 39 = .ok (.getfield 7, 3) := dk_180 0 7 (dk_at dksX2_cut_1 15 rfl rfl)
theorem dX2_cut_42 : decode cX2_cut 42 = .ok (.iconst 0, 1) := dk_3 (dk_at dksX2_cut_1 18 rfl rfl)
theorem dX2_cut_43 : decode cX2_cut 43 = .ok (.iaload, 1) := dk_46 (dk_at dksX2_cut_1 19 rfl rfl)
theorem dX2_cut_44 : decode cX2_cut 44 = .ok (.imul, 1) := dk_104 (dk_at dksX2_cut_1 20 rfl rfl)
theorem dX2_cut_45 : decode cX2_cut 45 = .ok (.iadd, 1) := dk_96 (dk_at dksX2_cut_1 21 rfl rfl)
theorem dX2_cut_46 : decode cX2_cut 46 = .ok (.if_icmp .ge 24, 3) := dk_162 0 24 (dk_at dksX2_cut_2 0 rfl rfl)
theorem dX2_cut_49 : decode cX2_cut 49 = .ok (.aload_n 0, 1) := dk_42 (dk_at dksX2_cut_2 3 rfl rfl)
theorem dX2_cut_50 : decode cX2_cut 50 = .ok (.getfield 7, 3) := dk_180 0 7 (dk_at dksX2_cut_2 4 rfl rfl)
theorem dX2_cut_53 : decode cX2_cut 53 = .ok (.iload_n 2, 1) := dk_28 (dk_at dksX2_cut_2 7 rfl rfl)
theorem dX2_cut_54 : decode cX2_cut 54 = .ok (.aload_n 0, 1) := dk_42 (dk_at dksX2_cut_2 8 rfl rfl)
theorem dX2_cut_55 : decode cX2_cut 55 = .ok (.getfield 7, 3) := dk_180 0 7 (dk_at dksX2_cut_2 9 rfl rfl)
theorem dX2_cut_58 : decode cX2_cut 58 = .ok (.iload_n 2, 1) := dk_28 (dk_at dksX2_cut_2 12 rfl rfl)
theorem dX2_cut_59 : decode cX2_cut 59 = .ok (.bipush 17, 2) := dk_16 17 (dk_at dksX2_cut_2 13 rfl rfl)
theorem dX2_cut_61 : decode cX2_cut 61 = .ok (.iadd, 1) := dk_96 (dk_at dksX2_cut_2 15 rfl rfl)
theorem dX2_cut_62 : decode cX2_cut 62 = .ok (.iaload, 1) := dk_46 (dk_at dksX2_cut_2 16 rfl rfl)
theorem dX2_cut_63 : decode cX2_cut 63 = .ok (.iastore, 1) := dk_79 (dk_at dksX2_cut_2 17 rfl rfl)
theorem dX2_cut_64 : decode cX2_cut 64 = .ok (.iinc 2 1, 3) := dk_132 2 1 (dk_at dksX2_cut_2 18 rfl rfl)
theorem dX2_cut_67 : decode cX2_cut 67 = .ok (.goto (-34), 3) := dk_167 255 222 (dk_at dksX2_cut_2 21 rfl rfl)
theorem dX2_cut_70 : decode cX2_cut 70 = .ok (.iconst 0, 1) := dk_3 (dk_at dksX2_cut_3 0 rfl rfl)
theorem dX2_cut_71 : decode cX2_cut 71 = .ok (.istore_n 2, 1) := dk_61 (dk_at dksX2_cut_3 1 rfl rfl)
theorem dX2_cut_72 : decode cX2_cut 72 = .ok (.iload_n 2, 1) := dk_28 (dk_at dksX2_cut_3 2 rfl rfl)
theorem dX2_cut_73 : decode cX2_cut 73 = .ok (.aload_n 0, 1) := dk_42 (dk_at dksX2_cut_3 3 rfl rfl)
theorem dX2_cut_74 : decode cX2_cut 74 = .ok (.getfield 7, 3) := dk_180 0 7 (dk_at dksX2_cut_3 4 rfl rfl)
theorem dX2_cut_77 : decode cX2_cut 77 = .ok (.iconst 2, 1) := dk_5 (dk_at dksX2_cut_3 7 rfl rfl)
theorem dX2_cut_78 : decode cX2_cut 78 = .ok (.iaload, 1) := dk_46 (dk_at dksX2_cut_3 8 rfl rfl)
theorem dX2_cut_79 : decode cX2_cut 79 = .ok (.if_icmp .ge 33, 3) := dk_162 0 33 (dk_at dksX2_cut_3 9 rfl rfl)
theorem dX2_cut_82 : decode cX2_cut 82 = .ok (.aload_n 0, 1) := dk_42 (dk_at dksX2_cut_3 12 rfl rfl)
theorem dX2_cut_83 : decode cX2_cut 83 = .ok (.getfield 7, 3) := dk_180 0 7 (dk_at dksX2_cut_3 13 rfl rfl)
theorem dX2_cut_86 : decode cX2_cut 86 = .ok (.sipush 351, 3) := dk_17 1 95 (dk_at dksX2_cut_3 16 rfl rfl)
theorem dX2_cut_89 : decode cX2_cut 89 = .ok (.iconst 3, 1) := dk_6 (dk_at dksX2_cut_3 19 rfl rfl)
theorem dX2_cut_90 : decode cX2_cut 90 = .ok (.iload_n 2, 1) := dk_28 (dk_at dksX2_cut_3 20 rfl rfl)
theorem dX2_cut_91 : decode cX2_cut 91 = .ok (.imul, 1) := dk_104 (dk_at dksX2_cut_3 21 rfl rfl)
theorem dX2_cut_92 : decode cX2_cut 92 = .ok (.iadd, 1) := dk_96 (dk_at dksX2_cut_3 22 rfl rfl)
theorem dX2_cut_93 : decode cX2_cut 93 = .ok (.iconst 0, 1) := dk_3 (dk_at dksX2_cut_3 23 rfl rfl)
theorem dX2_cut_94 : decode cX2_cut 94 = .ok (.iadd, 1) := dk_96 (dk_at dksX2_cut_4 0 rfl rfl)
theorem dX2_cut_95 : decode cX2_cut 95 = .ok (.aload_n 0, 1) := dk_42 (dk_at dksX2_cut_4 1 rfl rfl)
theorem dX2_cut_96 : decode cX2_cut 96 = .ok (.iload_n 2, 1) := dk_28 (dk_at dksX2_cut_4 2 rfl rfl)
theorem dX2_cut_97 : decode cX2_cut 97 = .ok (.iconst 0, 1) := dk_3 (dk_at dksX2_cut_4 3 rfl rfl)
theorem dX2_cut_98 : decode cX2_cut 98 = .ok (.invokevirtual 109, 3) := dk_182 0 109 (dk_at dksX2_cut_4 4 rfl rfl)
theorem dX2_cut_101 : decode cX2_cut 101 = .ok (.iload_n 1, 1) := dk_27 (dk_at dksX2_cut_4 7 rfl rfl)
theorem dX2_cut_102 : decode cX2_cut 102 = .ok (.invokestatic 112, 3) := dk_184 0 112 (dk_at dksX2_cut_4 8 rfl rfl)
theorem dX2_cut_105 : decode cX2_cut 105 = .ok (.iastore, 1) := dk_79 (dk_at dksX2_cut_4 11 rfl rfl)
theorem dX2_cut_106 : decode cX2_cut 106 = .ok (.iinc 2 1, 3) := dk_132 2 1 (dk_at dksX2_cut_4 12 rfl rfl)
theorem dX2_cut_109 : decode cX2_cut 109 = .ok (.goto (-37), 3) := dk_167 255 219 (dk_at dksX2_cut_4 15 rfl rfl)
theorem dX2_cut_112 : decode cX2_cut 112 = .ok (.aload_n 0, 1) := dk_42 (dk_at dksX2_cut_4 18 rfl rfl)
theorem dX2_cut_113 : decode cX2_cut 113 = .ok (.getfield 7, 3) := dk_180 0 7 (dk_at dksX2_cut_4 19 rfl rfl)
theorem dX2_cut_116 : decode cX2_cut 116 = .ok (.iconst 1, 1) := dk_4 (dk_at dksX2_cut_4 22 rfl rfl)
theorem dX2_cut_117 : decode cX2_cut 117 = .ok (.dup2, 1) := dk_92 (dk_at dksX2_cut_4 23 rfl rfl)
theorem dX2_cut_118 : decode cX2_cut 118 = .ok (.iaload, 1) := dk_46 (dk_at dksX2_cut_5 0 rfl rfl)
theorem dX2_cut_119 : decode cX2_cut 119 = .ok (.aload_n 0, 1) := dk_42 (dk_at dksX2_cut_5 1 rfl rfl)
theorem dX2_cut_120 : decode cX2_cut 120 = .ok (.getfield 7, 3) := dk_180 0 7 (dk_at dksX2_cut_5 2 rfl rfl)
theorem dX2_cut_123 : decode cX2_cut 123 = .ok (.iconst 1, 1) := dk_4 (dk_at dksX2_cut_5 5 rfl rfl)
theorem dX2_cut_124 : decode cX2_cut 124 = .ok (.iaload, 1) := dk_46 (dk_at dksX2_cut_5 6 rfl rfl)
theorem dX2_cut_125 : decode cX2_cut 125 = .ok (.iload_n 1, 1) := dk_27 (dk_at dksX2_cut_5 7 rfl rfl)
theorem dX2_cut_126 : decode cX2_cut 126 = .ok (.if_icmp .gt 18, 3) := dk_163 0 18 (dk_at dksX2_cut_5 8 rfl rfl)
theorem dX2_cut_129 : decode cX2_cut 129 = .ok (.aload_n 0, 1) := dk_42 (dk_at dksX2_cut_5 11 rfl rfl)
theorem dX2_cut_130 : decode cX2_cut 130 = .ok (.getfield 7, 3) := dk_180 0 7 (dk_at dksX2_cut_5 12 rfl rfl)
theorem dX2_cut_133 : decode cX2_cut 133 = .ok (.iconst 1, 1) := dk_4 (dk_at dksX2_cut_5 15 rfl rfl)
theorem dX2_cut_134 : decode cX2_cut 134 = .ok (.iaload, 1) := dk_46 (dk_at dksX2_cut_5 16 rfl rfl)
theorem dX2_cut_135 : decode cX2_cut 135 = .ok (.aload_n 0, 1) := dk_42 (dk_at dksX2_cut_5 17 rfl rfl)
theorem dX2_cut_136 : decode cX2_cut 136 = .ok (.getfield 7, 3) := dk_180 0 7 (dk_at dksX2_cut_5 18 rfl rfl)
theorem dX2_cut_139 : decode cX2_cut 139 = .ok (.iconst 0, 1) := dk_3 (dk_at dksX2_cut_5 21 rfl rfl)
theorem dX2_cut_140 : decode cX2_cut 140 = .ok (.iaload, 1) := dk_46 (dk_at dksX2_cut_5 22 rfl rfl)
theorem dX2_cut_141 : decode cX2_cut 141 = .ok (.if_icmp .ne 7, 3) := dk_160 0 7 (dk_at dksX2_cut_6 0 rfl rfl)
theorem dX2_cut_144 : decode cX2_cut 144 = .ok (.iconst 1, 1) := dk_4 (dk_at dksX2_cut_6 3 rfl rfl)
theorem dX2_cut_145 : decode cX2_cut 145 = .ok (.goto 4, 3) := dk_167 0 4 (dk_at dksX2_cut_6 4 rfl rfl)
theorem dX2_cut_148 : decode cX2_cut 148 = .ok (.iconst 0, 1) := dk_3 (dk_at dksX2_cut_6 7 rfl rfl)
theorem dX2_cut_149 : decode cX2_cut 149 = .ok (.isub, 1) := dk_100 (dk_at dksX2_cut_6 8 rfl rfl)
theorem dX2_cut_150 : decode cX2_cut 150 = .ok (.iastore, 1) := dk_79 (dk_at dksX2_cut_6 9 rfl rfl)
theorem dX2_cut_151 : decode cX2_cut 151 = .ok (.aload_n 0, 1) := dk_42 (dk_at dksX2_cut_6 10 rfl rfl)
theorem dX2_cut_152 : decode cX2_cut 152 = .ok (.getfield 7, 3) := dk_180 0 7 (dk_at dksX2_cut_6 11 rfl rfl)
theorem dX2_cut_155 : decode cX2_cut 155 = .ok (.iconst 1, 1) := dk_4 (dk_at dksX2_cut_6 14 rfl rfl)
theorem dX2_cut_156 : decode cX2_cut 156 = .ok (.iaload, 1) := dk_46 (dk_at dksX2_cut_6 15 rfl rfl)
theorem dX2_cut_157 : decode cX2_cut 157 = .ok (.ireturn, 1) := dk_172 (dk_at dksX2_cut_6 16 rfl rfl)
abbrev cX2_isRow : ByteArray := prog_12_method_7_code
def yX2_isRow : MethodName := ⟨RX2, "isRow", "(I)Z"⟩
def dkwX2_isRow_0 : List UInt8 := [27, 155, 0, 17, 27, 42, 180, 0, 7, 3, 46, 162, 0, 7, 4, 167, 0, 4, 3, 172]
abbrev dktX2_isRow_0 : List UInt8 := dkwX2_isRow_0 ++ []
theorem dksX2_isRow_0 : cX2_isRow.data.toList.drop 0 = dktX2_isRow_0 := by decide +kernel
theorem dX2_isRow_0 : decode cX2_isRow 0 = .ok (.iload_n 1, 1) := dk_27 (dk_at dksX2_isRow_0 0 rfl rfl)
theorem dX2_isRow_1 : decode cX2_isRow 1 = .ok (.ifCond .lt 17, 3) := dk_155 0 17 (dk_at dksX2_isRow_0 1 rfl rfl)
theorem dX2_isRow_4 : decode cX2_isRow 4 = .ok (.iload_n 1, 1) := dk_27 (dk_at dksX2_isRow_0 4 rfl rfl)
theorem dX2_isRow_5 : decode cX2_isRow 5 = .ok (.aload_n 0, 1) := dk_42 (dk_at dksX2_isRow_0 5 rfl rfl)
theorem dX2_isRow_6 : decode cX2_isRow 6 = .ok (.getfield 7, 3) := dk_180 0 7 (dk_at dksX2_isRow_0 6 rfl rfl)
theorem dX2_isRow_9 : decode cX2_isRow 9 = .ok (.iconst 0, 1) := dk_3 (dk_at dksX2_isRow_0 9 rfl rfl)
theorem dX2_isRow_10 : decode cX2_isRow 10 = .ok (.iaload, 1) := dk_46 (dk_at dksX2_isRow_0 10 rfl rfl)
theorem dX2_isRow_11 : decode cX2_isRow 11 = .ok (.if_icmp .ge 7, 3) := dk_162 0 7 (dk_at dksX2_isRow_0 11 rfl rfl)
theorem dX2_isRow_14 : decode cX2_isRow 14 = .ok (.iconst 1, 1) := dk_4 (dk_at dksX2_isRow_0 14 rfl rfl)
theorem dX2_isRow_15 : decode cX2_isRow 15 = .ok (.goto 4, 3) := dk_167 0 4 (dk_at dksX2_isRow_0 15 rfl rfl)
theorem dX2_isRow_18 : decode cX2_isRow 18 = .ok (.iconst 0, 1) := dk_3 (dk_at dksX2_isRow_0 18 rfl rfl)
theorem dX2_isRow_19 : decode cX2_isRow 19 = .ok (.ireturn, 1) := dk_172 (dk_at dksX2_isRow_0 19 rfl rfl)
abbrev cX2_ofRoute : ByteArray := prog_12_method_11_code
def yX2_ofRoute : MethodName := ⟨RX2, "ofRoute", "(II)I"⟩
def dkwX2_ofRoute_0 : List UInt8 := [42, 180, 0, 7, 17, 1, 95, 6, 27, 104, 96, 28, 96, 46, 172]
abbrev dktX2_ofRoute_0 : List UInt8 := dkwX2_ofRoute_0 ++ []
theorem dksX2_ofRoute_0 : cX2_ofRoute.data.toList.drop 0 = dktX2_ofRoute_0 := by decide +kernel
theorem dX2_ofRoute_0 : decode cX2_ofRoute 0 = .ok (.aload_n 0, 1) := dk_42 (dk_at dksX2_ofRoute_0 0 rfl rfl)
theorem dX2_ofRoute_1 : decode cX2_ofRoute 1 = .ok (.getfield 7, 3) := dk_180 0 7 (dk_at dksX2_ofRoute_0 1 rfl rfl)
theorem dX2_ofRoute_4 : decode cX2_ofRoute 4 = .ok (.sipush 351, 3) := dk_17 1 95 (dk_at dksX2_ofRoute_0 4 rfl rfl)
theorem dX2_ofRoute_7 : decode cX2_ofRoute 7 = .ok (.iconst 3, 1) := dk_6 (dk_at dksX2_ofRoute_0 7 rfl rfl)
theorem dX2_ofRoute_8 : decode cX2_ofRoute 8 = .ok (.iload_n 1, 1) := dk_27 (dk_at dksX2_ofRoute_0 8 rfl rfl)
theorem dX2_ofRoute_9 : decode cX2_ofRoute 9 = .ok (.imul, 1) := dk_104 (dk_at dksX2_ofRoute_0 9 rfl rfl)
theorem dX2_ofRoute_10 : decode cX2_ofRoute 10 = .ok (.iadd, 1) := dk_96 (dk_at dksX2_ofRoute_0 10 rfl rfl)
theorem dX2_ofRoute_11 : decode cX2_ofRoute 11 = .ok (.iload_n 2, 1) := dk_28 (dk_at dksX2_ofRoute_0 11 rfl rfl)
theorem dX2_ofRoute_12 : decode cX2_ofRoute 12 = .ok (.iadd, 1) := dk_96 (dk_at dksX2_ofRoute_0 12 rfl rfl)
theorem dX2_ofRoute_13 : decode cX2_ofRoute 13 = .ok (.iaload, 1) := dk_46 (dk_at dksX2_ofRoute_0 13 rfl rfl)
theorem dX2_ofRoute_14 : decode cX2_ofRoute 14 = .ok (.ireturn, 1) := dk_172 (dk_at dksX2_ofRoute_0 14 rfl rfl)
abbrev cX2_without : ByteArray := prog_12_method_25_code
def yX2_without : MethodName := ⟨RX2, "without", "(II)I"⟩
def dkwX2_without_0 : List UInt8 := [26, 4, 27, 120, 4, 100, 126, 61, 28, 26, 27, 4, 96, 122, 27, 120, 128, 172]
abbrev dktX2_without_0 : List UInt8 := dkwX2_without_0 ++ []
theorem dksX2_without_0 : cX2_without.data.toList.drop 0 = dktX2_without_0 := by decide +kernel
theorem dX2_without_0 : decode cX2_without 0 = .ok (.iload_n 0, 1) := dk_26 (dk_at dksX2_without_0 0 rfl rfl)
theorem dX2_without_1 : decode cX2_without 1 = .ok (.iconst 1, 1) := dk_4 (dk_at dksX2_without_0 1 rfl rfl)
theorem dX2_without_2 : decode cX2_without 2 = .ok (.iload_n 1, 1) := dk_27 (dk_at dksX2_without_0 2 rfl rfl)
theorem dX2_without_3 : decode cX2_without 3 = .ok (.ishl, 1) := dk_120 (dk_at dksX2_without_0 3 rfl rfl)
theorem dX2_without_4 : decode cX2_without 4 = .ok (.iconst 1, 1) := dk_4 (dk_at dksX2_without_0 4 rfl rfl)
theorem dX2_without_5 : decode cX2_without 5 = .ok (.isub, 1) := dk_100 (dk_at dksX2_without_0 5 rfl rfl)
theorem dX2_without_6 : decode cX2_without 6 = .ok (.iand, 1) := dk_126 (dk_at dksX2_without_0 6 rfl rfl)
theorem dX2_without_7 : decode cX2_without 7 = .ok (.istore_n 2, 1) := dk_61 (dk_at dksX2_without_0 7 rfl rfl)
theorem dX2_without_8 : decode cX2_without 8 = .ok (.iload_n 2, 1) := dk_28 (dk_at dksX2_without_0 8 rfl rfl)
theorem dX2_without_9 : decode cX2_without 9 = .ok (.iload_n 0, 1) := dk_26 (dk_at dksX2_without_0 9 rfl rfl)
theorem dX2_without_10 : decode cX2_without 10 = .ok (.iload_n 1, 1) := dk_27 (dk_at dksX2_without_0 10 rfl rfl)
theorem dX2_without_11 : decode cX2_without 11 = .ok (.iconst 1, 1) := dk_4 (dk_at dksX2_without_0 11 rfl rfl)
theorem dX2_without_12 : decode cX2_without 12 = .ok (.iadd, 1) := dk_96 (dk_at dksX2_without_0 12 rfl rfl)
theorem dX2_without_13 : decode cX2_without 13 = .ok (.ishr, 1) := dk_122 (dk_at dksX2_without_0 13 rfl rfl)
theorem dX2_without_14 : decode cX2_without 14 = .ok (.iload_n 1, 1) := dk_27 (dk_at dksX2_without_0 14 rfl rfl)
theorem dX2_without_15 : decode cX2_without 15 = .ok (.ishl, 1) := dk_120 (dk_at dksX2_without_0 15 rfl rfl)
theorem dX2_without_16 : decode cX2_without 16 = .ok (.ior, 1) := dk_128 (dk_at dksX2_without_0 16 rfl rfl)
theorem dX2_without_17 : decode cX2_without 17 = .ok (.ireturn, 1) := dk_172 (dk_at dksX2_without_0 17 rfl rfl)
abbrev cX2_swap : ByteArray := prog_12_method_27_code
def yX2_swap : MethodName := ⟨RX2, "swap", "(II)I"⟩
def dkwX2_swap_6 : List UInt8 := [21, 4, 79, 132, 3, 1, 167, 255, 179, 42, 180, 0, 7, 4, 46, 172]
abbrev dktX2_swap_6 : List UInt8 := dkwX2_swap_6 ++ []
def dkwX2_swap_5 : List UInt8 := [29, 104, 96, 3, 96, 21, 5, 153, 0, 16, 21, 4, 4, 27, 120, 4, 28, 120, 128, 130, 167, 0, 5]
abbrev dktX2_swap_5 : List UInt8 := dkwX2_swap_5 ++ dktX2_swap_6
def dkwX2_swap_4 : List UInt8 := [21, 4, 28, 122, 4, 126, 159, 0, 7, 4, 167, 0, 4, 3, 54, 5, 42, 180, 0, 7, 17, 1, 95, 6]
abbrev dktX2_swap_4 : List UInt8 := dkwX2_swap_4 ++ dktX2_swap_5
def dkwX2_swap_3 : List UInt8 := [29, 42, 180, 0, 7, 5, 46, 162, 0, 73, 42, 29, 3, 182, 0, 109, 54, 4, 21, 4, 27, 122, 4, 126]
abbrev dktX2_swap_3 : List UInt8 := dkwX2_swap_3 ++ dktX2_swap_4
def dkwX2_swap_2 : List UInt8 := [28, 29, 182, 0, 26, 182, 0, 82, 42, 28, 29, 21, 4, 182, 0, 82, 132, 3, 1, 167, 255, 219, 3, 62]
abbrev dktX2_swap_2 : List UInt8 := dkwX2_swap_2 ++ dktX2_swap_3
def dkwX2_swap_1 : List UInt8 := [42, 182, 0, 102, 3, 62, 29, 16, 17, 162, 0, 37, 42, 27, 29, 182, 0, 26, 54, 4, 42, 27, 29, 42]
abbrev dktX2_swap_1 : List UInt8 := dkwX2_swap_1 ++ dktX2_swap_2
def dkwX2_swap_0 : List UInt8 := [42, 27, 182, 0, 105, 153, 0, 16, 42, 28, 182, 0, 105, 153, 0, 8, 27, 28, 160, 0, 6, 18, 92, 172]
abbrev dktX2_swap_0 : List UInt8 := dkwX2_swap_0 ++ dktX2_swap_1
theorem dksX2_swap_0 : cX2_swap.data.toList.drop 0 = dktX2_swap_0 := by decide +kernel
theorem dksX2_swap_1 : cX2_swap.data.toList.drop 24 = dktX2_swap_1 := dk_seg dksX2_swap_0 24 rfl rfl
theorem dksX2_swap_2 : cX2_swap.data.toList.drop 48 = dktX2_swap_2 := dk_seg dksX2_swap_1 24 rfl rfl
theorem dksX2_swap_3 : cX2_swap.data.toList.drop 72 = dktX2_swap_3 := dk_seg dksX2_swap_2 24 rfl rfl
theorem dksX2_swap_4 : cX2_swap.data.toList.drop 96 = dktX2_swap_4 := dk_seg dksX2_swap_3 24 rfl rfl
theorem dksX2_swap_5 : cX2_swap.data.toList.drop 120 = dktX2_swap_5 := dk_seg dksX2_swap_4 24 rfl rfl
theorem dksX2_swap_6 : cX2_swap.data.toList.drop 143 = dktX2_swap_6 := dk_seg dksX2_swap_5 23 rfl rfl
theorem dX2_swap_0 : decode cX2_swap 0 = .ok (.aload_n 0, 1) := dk_42 (dk_at dksX2_swap_0 0 rfl rfl)
theorem dX2_swap_1 : decode cX2_swap 1 = .ok (.iload_n 1, 1) := dk_27 (dk_at dksX2_swap_0 1 rfl rfl)
theorem dX2_swap_2 : decode cX2_swap 2 = .ok (.invokevirtual 105, 3) := dk_182 0 105 (dk_at dksX2_swap_0 2 rfl rfl)
theorem dX2_swap_5 : decode cX2_swap 5 = .ok (.ifCond .eq 16, 3) := dk_153 0 16 (dk_at dksX2_swap_0 5 rfl rfl)
theorem dX2_swap_8 : decode cX2_swap 8 = .ok (.aload_n 0, 1) := dk_42 (dk_at dksX2_swap_0 8 rfl rfl)
theorem dX2_swap_9 : decode cX2_swap 9 = .ok (.iload_n 2, 1) := dk_28 (dk_at dksX2_swap_0 9 rfl rfl)
theorem dX2_swap_10 : decode cX2_swap 10 = .ok (.invokevirtual 105, 3) := dk_182 0 105 (dk_at dksX2_swap_0 10 rfl rfl)
theorem dX2_swap_13 : decode cX2_swap 13 = .ok (.ifCond .eq 8, 3) := dk_153 0 8 (dk_at dksX2_swap_0 13 rfl rfl)
theorem dX2_swap_16 : decode cX2_swap 16 = .ok (.iload_n 1, 1) := dk_27 (dk_at dksX2_swap_0 16 rfl rfl)
theorem dX2_swap_17 : decode cX2_swap 17 = .ok (.iload_n 2, 1) := dk_28 (dk_at dksX2_swap_0 17 rfl rfl)
theorem dX2_swap_18 : decode cX2_swap 18 = .ok (.if_icmp .ne 6, 3) := dk_160 0 6 (dk_at dksX2_swap_0 18 rfl rfl)
theorem dX2_swap_21 : decode cX2_swap 21 = .ok (.ldc 92, 2) := dk_18 92 (dk_at dksX2_swap_0 21 rfl rfl)
theorem dX2_swap_23 : decode cX2_swap 23 = .ok (.ireturn, 1) := dk_172 (dk_at dksX2_swap_0 23 rfl rfl)
theorem dX2_swap_24 : decode cX2_swap 24 = .ok (.aload_n 0, 1) := dk_42 (dk_at dksX2_swap_1 0 rfl rfl)
theorem dX2_swap_25 : decode cX2_swap 25 = .ok (.invokevirtual 102, 3) := dk_182 0 102 (dk_at dksX2_swap_1 1 rfl rfl)
theorem dX2_swap_28 : decode cX2_swap 28 = .ok (.iconst 0, 1) := dk_3 (dk_at dksX2_swap_1 4 rfl rfl)
theorem dX2_swap_29 : decode cX2_swap 29 = .ok (.istore_n 3, 1) := dk_62 (dk_at dksX2_swap_1 5 rfl rfl)
theorem dX2_swap_30 : decode cX2_swap 30 = .ok (.iload_n 3, 1) := dk_29 (dk_at dksX2_swap_1 6 rfl rfl)
theorem dX2_swap_31 : decode cX2_swap 31 = .ok (.bipush 17, 2) := dk_16 17 (dk_at dksX2_swap_1 7 rfl rfl)
theorem dX2_swap_33 : decode cX2_swap 33 = .ok (.if_icmp .ge 37, 3) := dk_162 0 37 (dk_at dksX2_swap_1 9 rfl rfl)
theorem dX2_swap_36 : decode cX2_swap 36 = .ok (.aload_n 0, 1) := dk_42 (dk_at dksX2_swap_1 12 rfl rfl)
theorem dX2_swap_37 : decode cX2_swap 37 = .ok (.iload_n 1, 1) := dk_27 (dk_at dksX2_swap_1 13 rfl rfl)
theorem dX2_swap_38 : decode cX2_swap 38 = .ok (.iload_n 3, 1) := dk_29 (dk_at dksX2_swap_1 14 rfl rfl)
theorem dX2_swap_39 : decode cX2_swap 39 = .ok (.invokevirtual 26, 3) := dk_182 0 26 (dk_at dksX2_swap_1 15 rfl rfl)
theorem dX2_swap_42 : decode cX2_swap 42 = .ok (.istore 4, 2) := dk_54 4 (dk_at dksX2_swap_1 18 rfl rfl)
theorem dX2_swap_44 : decode cX2_swap 44 = .ok (.aload_n 0, 1) := dk_42 (dk_at dksX2_swap_1 20 rfl rfl)
theorem dX2_swap_45 : decode cX2_swap 45 = .ok (.iload_n 1, 1) := dk_27 (dk_at dksX2_swap_1 21 rfl rfl)
theorem dX2_swap_46 : decode cX2_swap 46 = .ok (.iload_n 3, 1) := dk_29 (dk_at dksX2_swap_1 22 rfl rfl)
theorem dX2_swap_47 : decode cX2_swap 47 = .ok (.aload_n 0, 1) := dk_42 (dk_at dksX2_swap_1 23 rfl rfl)
theorem dX2_swap_48 : decode cX2_swap 48 = .ok (.iload_n 2, 1) := dk_28 (dk_at dksX2_swap_2 0 rfl rfl)
theorem dX2_swap_49 : decode cX2_swap 49 = .ok (.iload_n 3, 1) := dk_29 (dk_at dksX2_swap_2 1 rfl rfl)
theorem dX2_swap_50 : decode cX2_swap 50 = .ok (.invokevirtual 26, 3) := dk_182 0 26 (dk_at dksX2_swap_2 2 rfl rfl)
theorem dX2_swap_53 : decode cX2_swap 53 = .ok (.invokevirtual 82, 3) := dk_182 0 82 (dk_at dksX2_swap_2 5 rfl rfl)
theorem dX2_swap_56 : decode cX2_swap 56 = .ok (.aload_n 0, 1) := dk_42 (dk_at dksX2_swap_2 8 rfl rfl)
theorem dX2_swap_57 : decode cX2_swap 57 = .ok (.iload_n 2, 1) := dk_28 (dk_at dksX2_swap_2 9 rfl rfl)
theorem dX2_swap_58 : decode cX2_swap 58 = .ok (.iload_n 3, 1) := dk_29 (dk_at dksX2_swap_2 10 rfl rfl)
theorem dX2_swap_59 : decode cX2_swap 59 = .ok (.iload 4, 2) := dk_21 4 (dk_at dksX2_swap_2 11 rfl rfl)
theorem dX2_swap_61 : decode cX2_swap 61 = .ok (.invokevirtual 82, 3) := dk_182 0 82 (dk_at dksX2_swap_2 13 rfl rfl)
theorem dX2_swap_64 : decode cX2_swap 64 = .ok (.iinc 3 1, 3) := dk_132 3 1 (dk_at dksX2_swap_2 16 rfl rfl)
theorem dX2_swap_67 : decode cX2_swap 67 = .ok (.goto (-37), 3) := dk_167 255 219 (dk_at dksX2_swap_2 19 rfl rfl)
theorem dX2_swap_70 : decode cX2_swap 70 = .ok (.iconst 0, 1) := dk_3 (dk_at dksX2_swap_2 22 rfl rfl)
theorem dX2_swap_71 : decode cX2_swap 71 = .ok (.istore_n 3, 1) := dk_62 (dk_at dksX2_swap_2 23 rfl rfl)
theorem dX2_swap_72 : decode cX2_swap 72 = .ok (.iload_n 3, 1) := dk_29 (dk_at dksX2_swap_3 0 rfl rfl)
theorem dX2_swap_73 : decode cX2_swap 73 = .ok (.aload_n 0, 1) := dk_42 (dk_at dksX2_swap_3 1 rfl rfl)
theorem dX2_swap_74 : decode cX2_swap 74 = .ok (.getfield 7, 3) := dk_180 0 7 (dk_at dksX2_swap_3 2 rfl rfl)
theorem dX2_swap_77 : decode cX2_swap 77 = .ok (.iconst 2, 1) := dk_5 (dk_at dksX2_swap_3 5 rfl rfl)
theorem dX2_swap_78 : decode cX2_swap 78 = .ok (.iaload, 1) := dk_46 (dk_at dksX2_swap_3 6 rfl rfl)
theorem dX2_swap_79 : decode cX2_swap 79 = .ok (.if_icmp .ge 73, 3) := dk_162 0 73 (dk_at dksX2_swap_3 7 rfl rfl)
theorem dX2_swap_82 : decode cX2_swap 82 = .ok (.aload_n 0, 1) := dk_42 (dk_at dksX2_swap_3 10 rfl rfl)
theorem dX2_swap_83 : decode cX2_swap 83 = .ok (.iload_n 3, 1) := dk_29 (dk_at dksX2_swap_3 11 rfl rfl)
theorem dX2_swap_84 : decode cX2_swap 84 = .ok (.iconst 0, 1) := dk_3 (dk_at dksX2_swap_3 12 rfl rfl)
theorem dX2_swap_85 : decode cX2_swap 85 = .ok (.invokevirtual 109, 3) := dk_182 0 109 (dk_at dksX2_swap_3 13 rfl rfl)
theorem dX2_swap_88 : decode cX2_swap 88 = .ok (.istore 4, 2) := dk_54 4 (dk_at dksX2_swap_3 16 rfl rfl)
theorem dX2_swap_90 : decode cX2_swap 90 = .ok (.iload 4, 2) := dk_21 4 (dk_at dksX2_swap_3 18 rfl rfl)
theorem dX2_swap_92 : decode cX2_swap 92 = .ok (.iload_n 1, 1) := dk_27 (dk_at dksX2_swap_3 20 rfl rfl)
theorem dX2_swap_93 : decode cX2_swap 93 = .ok (.ishr, 1) := dk_122 (dk_at dksX2_swap_3 21 rfl rfl)
theorem dX2_swap_94 : decode cX2_swap 94 = .ok (.iconst 1, 1) := dk_4 (dk_at dksX2_swap_3 22 rfl rfl)
theorem dX2_swap_95 : decode cX2_swap 95 = .ok (.iand, 1) := dk_126 (dk_at dksX2_swap_3 23 rfl rfl)
theorem dX2_swap_96 : decode cX2_swap 96 = .ok (.iload 4, 2) := dk_21 4 (dk_at dksX2_swap_4 0 rfl rfl)
theorem dX2_swap_98 : decode cX2_swap 98 = .ok (.iload_n 2, 1) := dk_28 (dk_at dksX2_swap_4 2 rfl rfl)
theorem dX2_swap_99 : decode cX2_swap 99 = .ok (.ishr, 1) := dk_122 (dk_at dksX2_swap_4 3 rfl rfl)
theorem dX2_swap_100 : decode cX2_swap 100 = .ok (.iconst 1, 1) := dk_4 (dk_at dksX2_swap_4 4 rfl rfl)
theorem dX2_swap_101 : decode cX2_swap 101 = .ok (.iand, 1) := dk_126 (dk_at dksX2_swap_4 5 rfl rfl)
theorem dX2_swap_102 : decode cX2_swap 102 = .ok (.if_icmp .eq 7, 3) := dk_159 0 7 (dk_at dksX2_swap_4 6 rfl rfl)
theorem dX2_swap_105 : decode cX2_swap 105 = .ok (.iconst 1, 1) := dk_4 (dk_at dksX2_swap_4 9 rfl rfl)
theorem dX2_swap_106 : decode cX2_swap 106 = .ok (.goto 4, 3) := dk_167 0 4 (dk_at dksX2_swap_4 10 rfl rfl)
theorem dX2_swap_109 : decode cX2_swap 109 = .ok (.iconst 0, 1) := dk_3 (dk_at dksX2_swap_4 13 rfl rfl)
theorem dX2_swap_110 : decode cX2_swap 110 = .ok (.istore 5, 2) := dk_54 5 (dk_at dksX2_swap_4 14 rfl rfl)
theorem dX2_swap_112 : decode cX2_swap 112 = .ok (.aload_n 0, 1) := dk_42 (dk_at dksX2_swap_4 16 rfl rfl)
theorem dX2_swap_113 : decode cX2_swap 113 = .ok (.getfield 7, 3) := dk_180 0 7 (dk_at dksX2_swap_4 17 rfl rfl)
theorem dX2_swap_116 : decode cX2_swap 116 = .ok (.sipush 351, 3) := dk_17 1 95 (dk_at dksX2_swap_4 20 rfl rfl)
theorem dX2_swap_119 : decode cX2_swap 119 = .ok (.iconst 3, 1) := dk_6 (dk_at dksX2_swap_4 23 rfl rfl)
theorem dX2_swap_120 : decode cX2_swap 120 = .ok (.iload_n 3, 1) := dk_29 (dk_at dksX2_swap_5 0 rfl rfl)
theorem dX2_swap_121 : decode cX2_swap 121 = .ok (.imul, 1) := dk_104 (dk_at dksX2_swap_5 1 rfl rfl)
theorem dX2_swap_122 : decode cX2_swap 122 = .ok (.iadd, 1) := dk_96 (dk_at dksX2_swap_5 2 rfl rfl)
theorem dX2_swap_123 : decode cX2_swap 123 = .ok (.iconst 0, 1) := dk_3 (dk_at dksX2_swap_5 3 rfl rfl)
theorem dX2_swap_124 : decode cX2_swap 124 = .ok (.iadd, 1) := dk_96 (dk_at dksX2_swap_5 4 rfl rfl)
theorem dX2_swap_125 : decode cX2_swap 125 = .ok (.iload 5, 2) := dk_21 5 (dk_at dksX2_swap_5 5 rfl rfl)
theorem dX2_swap_127 : decode cX2_swap 127 = .ok (.ifCond .eq 16, 3) := dk_153 0 16 (dk_at dksX2_swap_5 7 rfl rfl)
theorem dX2_swap_130 : decode cX2_swap 130 = .ok (.iload 4, 2) := dk_21 4 (dk_at dksX2_swap_5 10 rfl rfl)
theorem dX2_swap_132 : decode cX2_swap 132 = .ok (.iconst 1, 1) := dk_4 (dk_at dksX2_swap_5 12 rfl rfl)
theorem dX2_swap_133 : decode cX2_swap 133 = .ok (.iload_n 1, 1) := dk_27 (dk_at dksX2_swap_5 13 rfl rfl)
theorem dX2_swap_134 : decode cX2_swap 134 = .ok (.ishl, 1) := dk_120 (dk_at dksX2_swap_5 14 rfl rfl)
theorem dX2_swap_135 : decode cX2_swap 135 = .ok (.iconst 1, 1) := dk_4 (dk_at dksX2_swap_5 15 rfl rfl)
theorem dX2_swap_136 : decode cX2_swap 136 = .ok (.iload_n 2, 1) := dk_28 (dk_at dksX2_swap_5 16 rfl rfl)
theorem dX2_swap_137 : decode cX2_swap 137 = .ok (.ishl, 1) := dk_120 (dk_at dksX2_swap_5 17 rfl rfl)
theorem dX2_swap_138 : decode cX2_swap 138 = .ok (.ior, 1) := dk_128 (dk_at dksX2_swap_5 18 rfl rfl)
theorem dX2_swap_139 : decode cX2_swap 139 = .ok (.ixor, 1) := dk_130 (dk_at dksX2_swap_5 19 rfl rfl)
theorem dX2_swap_140 : decode cX2_swap 140 = .ok (.goto 5, 3) := dk_167 0 5 (dk_at dksX2_swap_5 20 rfl rfl)
theorem dX2_swap_143 : decode cX2_swap 143 = .ok (.iload 4, 2) := dk_21 4 (dk_at dksX2_swap_6 0 rfl rfl)
theorem dX2_swap_145 : decode cX2_swap 145 = .ok (.iastore, 1) := dk_79 (dk_at dksX2_swap_6 2 rfl rfl)
theorem dX2_swap_146 : decode cX2_swap 146 = .ok (.iinc 3 1, 3) := dk_132 3 1 (dk_at dksX2_swap_6 3 rfl rfl)
theorem dX2_swap_149 : decode cX2_swap 149 = .ok (.goto (-77), 3) := dk_167 255 179 (dk_at dksX2_swap_6 6 rfl rfl)
theorem dX2_swap_152 : decode cX2_swap 152 = .ok (.aload_n 0, 1) := dk_42 (dk_at dksX2_swap_6 9 rfl rfl)
theorem dX2_swap_153 : decode cX2_swap 153 = .ok (.getfield 7, 3) := dk_180 0 7 (dk_at dksX2_swap_6 10 rfl rfl)
theorem dX2_swap_156 : decode cX2_swap 156 = .ok (.iconst 1, 1) := dk_4 (dk_at dksX2_swap_6 13 rfl rfl)
theorem dX2_swap_157 : decode cX2_swap 157 = .ok (.iaload, 1) := dk_46 (dk_at dksX2_swap_6 14 rfl rfl)
theorem dX2_swap_158 : decode cX2_swap 158 = .ok (.ireturn, 1) := dk_172 (dk_at dksX2_swap_6 15 rfl rfl)
abbrev cX2_of : ByteArray := prog_12_method_9_code
def yX2_of : MethodName := ⟨RX2, "of", "(II)I"⟩
def dkwX2_of_0 : List UInt8 := [42, 180, 0, 7, 16, 11, 16, 17, 27, 104, 96, 28, 96, 46, 172]
abbrev dktX2_of_0 : List UInt8 := dkwX2_of_0 ++ []
theorem dksX2_of_0 : cX2_of.data.toList.drop 0 = dktX2_of_0 := by decide +kernel
theorem dX2_of_0 : decode cX2_of 0 = .ok (.aload_n 0, 1) := dk_42 (dk_at dksX2_of_0 0 rfl rfl)
theorem dX2_of_1 : decode cX2_of 1 = .ok (.getfield 7, 3) := dk_180 0 7 (dk_at dksX2_of_0 1 rfl rfl)
theorem dX2_of_4 : decode cX2_of 4 = .ok (.bipush 11, 2) := dk_16 11 (dk_at dksX2_of_0 4 rfl rfl)
theorem dX2_of_6 : decode cX2_of 6 = .ok (.bipush 17, 2) := dk_16 17 (dk_at dksX2_of_0 6 rfl rfl)
theorem dX2_of_8 : decode cX2_of 8 = .ok (.iload_n 1, 1) := dk_27 (dk_at dksX2_of_0 8 rfl rfl)
theorem dX2_of_9 : decode cX2_of 9 = .ok (.imul, 1) := dk_104 (dk_at dksX2_of_0 9 rfl rfl)
theorem dX2_of_10 : decode cX2_of 10 = .ok (.iadd, 1) := dk_96 (dk_at dksX2_of_0 10 rfl rfl)
theorem dX2_of_11 : decode cX2_of 11 = .ok (.iload_n 2, 1) := dk_28 (dk_at dksX2_of_0 11 rfl rfl)
theorem dX2_of_12 : decode cX2_of 12 = .ok (.iadd, 1) := dk_96 (dk_at dksX2_of_0 12 rfl rfl)
theorem dX2_of_13 : decode cX2_of 13 = .ok (.iaload, 1) := dk_46 (dk_at dksX2_of_0 13 rfl rfl)
theorem dX2_of_14 : decode cX2_of 14 = .ok (.ireturn, 1) := dk_172 (dk_at dksX2_of_0 14 rfl rfl)
abbrev cX2_mend : ByteArray := prog_12_method_29_code
def yX2_mend : MethodName := ⟨RX2, "mend", "(I)I"⟩
def dkwX2_mend_2 : List UInt8 := [42, 27, 4, 182, 0, 26, 172]
abbrev dktX2_mend_2 : List UInt8 := dkwX2_mend_2 ++ []
def dkwX2_mend_1 : List UInt8 := [182, 0, 102, 42, 27, 4, 42, 27, 4, 182, 0, 26, 5, 108, 182, 0, 82, 42, 27, 5, 3, 182, 0, 82]
abbrev dktX2_mend_1 : List UInt8 := dkwX2_mend_1 ++ dktX2_mend_2
def dkwX2_mend_0 : List UInt8 := [42, 27, 182, 0, 105, 154, 0, 6, 18, 92, 172, 42, 27, 182, 0, 115, 154, 0, 6, 18, 101, 172, 42]
abbrev dktX2_mend_0 : List UInt8 := dkwX2_mend_0 ++ dktX2_mend_1
theorem dksX2_mend_0 : cX2_mend.data.toList.drop 0 = dktX2_mend_0 := by decide +kernel
theorem dksX2_mend_1 : cX2_mend.data.toList.drop 23 = dktX2_mend_1 := dk_seg dksX2_mend_0 23 rfl rfl
theorem dksX2_mend_2 : cX2_mend.data.toList.drop 47 = dktX2_mend_2 := dk_seg dksX2_mend_1 24 rfl rfl
theorem dX2_mend_0 : decode cX2_mend 0 = .ok (.aload_n 0, 1) := dk_42 (dk_at dksX2_mend_0 0 rfl rfl)
theorem dX2_mend_1 : decode cX2_mend 1 = .ok (.iload_n 1, 1) := dk_27 (dk_at dksX2_mend_0 1 rfl rfl)
theorem dX2_mend_2 : decode cX2_mend 2 = .ok (.invokevirtual 105, 3) := dk_182 0 105 (dk_at dksX2_mend_0 2 rfl rfl)
theorem dX2_mend_5 : decode cX2_mend 5 = .ok (.ifCond .ne 6, 3) := dk_154 0 6 (dk_at dksX2_mend_0 5 rfl rfl)
theorem dX2_mend_8 : decode cX2_mend 8 = .ok (.ldc 92, 2) := dk_18 92 (dk_at dksX2_mend_0 8 rfl rfl)
theorem dX2_mend_10 : decode cX2_mend 10 = .ok (.ireturn, 1) := dk_172 (dk_at dksX2_mend_0 10 rfl rfl)
theorem dX2_mend_11 : decode cX2_mend 11 = .ok (.aload_n 0, 1) := dk_42 (dk_at dksX2_mend_0 11 rfl rfl)
theorem dX2_mend_12 : decode cX2_mend 12 = .ok (.iload_n 1, 1) := dk_27 (dk_at dksX2_mend_0 12 rfl rfl)
theorem dX2_mend_13 : decode cX2_mend 13 = .ok (.invokevirtual 115, 3) := dk_182 0 115 (dk_at dksX2_mend_0 13 rfl rfl)
theorem dX2_mend_16 : decode cX2_mend 16 = .ok (.ifCond .ne 6, 3) := dk_154 0 6 (dk_at dksX2_mend_0 16 rfl rfl)
theorem dX2_mend_19 : decode cX2_mend 19 = .ok (.ldc 101, 2) := dk_18 101 (dk_at dksX2_mend_0 19 rfl rfl)
theorem dX2_mend_21 : decode cX2_mend 21 = .ok (.ireturn, 1) := dk_172 (dk_at dksX2_mend_0 21 rfl rfl)
theorem dX2_mend_22 : decode cX2_mend 22 = .ok (.aload_n 0, 1) := dk_42 (dk_at dksX2_mend_0 22 rfl rfl)
theorem dX2_mend_23 : decode cX2_mend 23 = .ok (.invokevirtual 102, 3) := dk_182 0 102 (dk_at dksX2_mend_1 0 rfl rfl)
theorem dX2_mend_26 : decode cX2_mend 26 = .ok (.aload_n 0, 1) := dk_42 (dk_at dksX2_mend_1 3 rfl rfl)
theorem dX2_mend_27 : decode cX2_mend 27 = .ok (.iload_n 1, 1) := dk_27 (dk_at dksX2_mend_1 4 rfl rfl)
theorem dX2_mend_28 : decode cX2_mend 28 = .ok (.iconst 1, 1) := dk_4 (dk_at dksX2_mend_1 5 rfl rfl)
theorem dX2_mend_29 : decode cX2_mend 29 = .ok (.aload_n 0, 1) := dk_42 (dk_at dksX2_mend_1 6 rfl rfl)
theorem dX2_mend_30 : decode cX2_mend 30 = .ok (.iload_n 1, 1) := dk_27 (dk_at dksX2_mend_1 7 rfl rfl)
theorem dX2_mend_31 : decode cX2_mend 31 = .ok (.iconst 1, 1) := dk_4 (dk_at dksX2_mend_1 8 rfl rfl)
theorem dX2_mend_32 : decode cX2_mend 32 = .ok (.invokevirtual 26, 3) := dk_182 0 26 (dk_at dksX2_mend_1 9 rfl rfl)
theorem dX2_mend_35 : decode cX2_mend 35 = .ok (.iconst 2, 1) := dk_5 (dk_at dksX2_mend_1 12 rfl rfl)
theorem dX2_mend_36 : decode cX2_mend 36 = .ok (.idiv, 1) := dk_108 (dk_at dksX2_mend_1 13 rfl rfl)
theorem dX2_mend_37 : decode cX2_mend 37 = .ok (.invokevirtual 82, 3) := dk_182 0 82 (dk_at dksX2_mend_1 14 rfl rfl)
theorem dX2_mend_40 : decode cX2_mend 40 = .ok (.aload_n 0, 1) := dk_42 (dk_at dksX2_mend_1 17 rfl rfl)
theorem dX2_mend_41 : decode cX2_mend 41 = .ok (.iload_n 1, 1) := dk_27 (dk_at dksX2_mend_1 18 rfl rfl)
theorem dX2_mend_42 : decode cX2_mend 42 = .ok (.iconst 2, 1) := dk_5 (dk_at dksX2_mend_1 19 rfl rfl)
theorem dX2_mend_43 : decode cX2_mend 43 = .ok (.iconst 0, 1) := dk_3 (dk_at dksX2_mend_1 20 rfl rfl)
theorem dX2_mend_44 : decode cX2_mend 44 = .ok (.invokevirtual 82, 3) := dk_182 0 82 (dk_at dksX2_mend_1 21 rfl rfl)
theorem dX2_mend_47 : decode cX2_mend 47 = .ok (.aload_n 0, 1) := dk_42 (dk_at dksX2_mend_2 0 rfl rfl)
theorem dX2_mend_48 : decode cX2_mend 48 = .ok (.iload_n 1, 1) := dk_27 (dk_at dksX2_mend_2 1 rfl rfl)
theorem dX2_mend_49 : decode cX2_mend 49 = .ok (.iconst 1, 1) := dk_4 (dk_at dksX2_mend_2 2 rfl rfl)
theorem dX2_mend_50 : decode cX2_mend 50 = .ok (.invokevirtual 26, 3) := dk_182 0 26 (dk_at dksX2_mend_2 3 rfl rfl)
theorem dX2_mend_53 : decode cX2_mend 53 = .ok (.ireturn, 1) := dk_172 (dk_at dksX2_mend_2 6 rfl rfl)
abbrev cX2_isTorn : ByteArray := prog_12_method_28_code
def yX2_isTorn : MethodName := ⟨RX2, "isTorn", "(I)Z"⟩
def dkwX2_isTorn_0 : List UInt8 := [42, 27, 5, 182, 0, 26, 4, 160, 0, 7, 4, 167, 0, 4, 3, 172]
abbrev dktX2_isTorn_0 : List UInt8 := dkwX2_isTorn_0 ++ []
theorem dksX2_isTorn_0 : cX2_isTorn.data.toList.drop 0 = dktX2_isTorn_0 := by decide +kernel
theorem dX2_isTorn_0 : decode cX2_isTorn 0 = .ok (.aload_n 0, 1) := dk_42 (dk_at dksX2_isTorn_0 0 rfl rfl)
theorem dX2_isTorn_1 : decode cX2_isTorn 1 = .ok (.iload_n 1, 1) := dk_27 (dk_at dksX2_isTorn_0 1 rfl rfl)
theorem dX2_isTorn_2 : decode cX2_isTorn 2 = .ok (.iconst 2, 1) := dk_5 (dk_at dksX2_isTorn_0 2 rfl rfl)
theorem dX2_isTorn_3 : decode cX2_isTorn 3 = .ok (.invokevirtual 26, 3) := dk_182 0 26 (dk_at dksX2_isTorn_0 3 rfl rfl)
theorem dX2_isTorn_6 : decode cX2_isTorn 6 = .ok (.iconst 1, 1) := dk_4 (dk_at dksX2_isTorn_0 6 rfl rfl)
theorem dX2_isTorn_7 : decode cX2_isTorn 7 = .ok (.if_icmp .ne 7, 3) := dk_160 0 7 (dk_at dksX2_isTorn_0 7 rfl rfl)
theorem dX2_isTorn_10 : decode cX2_isTorn 10 = .ok (.iconst 1, 1) := dk_4 (dk_at dksX2_isTorn_0 10 rfl rfl)
theorem dX2_isTorn_11 : decode cX2_isTorn 11 = .ok (.goto 4, 3) := dk_167 0 4 (dk_at dksX2_isTorn_0 11 rfl rfl)
theorem dX2_isTorn_14 : decode cX2_isTorn 14 = .ok (.iconst 0, 1) := dk_3 (dk_at dksX2_isTorn_0 14 rfl rfl)
theorem dX2_isTorn_15 : decode cX2_isTorn 15 = .ok (.ireturn, 1) := dk_172 (dk_at dksX2_isTorn_0 15 rfl rfl)
abbrev cX2_crank : ByteArray := prog_12_method_33_code
def yX2_crank : MethodName := ⟨RX2, "crank", "(II)I"⟩
def dkwX2_crank_1 : List UInt8 := [54, 4, 21, 4, 156, 0, 8, 18, 100, 167, 0, 9, 42, 180, 0, 7, 4, 46, 172]
abbrev dktX2_crank_1 : List UInt8 := dkwX2_crank_1 ++ []
def dkwX2_crank_0 : List UInt8 := [42, 27, 28, 182, 0, 128, 62, 29, 156, 0, 5, 29, 172, 42, 182, 0, 102, 42, 27, 28, 182, 0, 131]
abbrev dktX2_crank_0 : List UInt8 := dkwX2_crank_0 ++ dktX2_crank_1
theorem dksX2_crank_0 : cX2_crank.data.toList.drop 0 = dktX2_crank_0 := by decide +kernel
theorem dksX2_crank_1 : cX2_crank.data.toList.drop 23 = dktX2_crank_1 := dk_seg dksX2_crank_0 23 rfl rfl
theorem dX2_crank_0 : decode cX2_crank 0 = .ok (.aload_n 0, 1) := dk_42 (dk_at dksX2_crank_0 0 rfl rfl)
theorem dX2_crank_1 : decode cX2_crank 1 = .ok (.iload_n 1, 1) := dk_27 (dk_at dksX2_crank_0 1 rfl rfl)
theorem dX2_crank_2 : decode cX2_crank 2 = .ok (.iload_n 2, 1) := dk_28 (dk_at dksX2_crank_0 2 rfl rfl)
theorem dX2_crank_3 : decode cX2_crank 3 = .ok (.invokevirtual 128, 3) := dk_182 0 128 (dk_at dksX2_crank_0 3 rfl rfl)
theorem dX2_crank_6 : decode cX2_crank 6 = .ok (.istore_n 3, 1) := dk_62 (dk_at dksX2_crank_0 6 rfl rfl)
theorem dX2_crank_7 : decode cX2_crank 7 = .ok (.iload_n 3, 1) := dk_29 (dk_at dksX2_crank_0 7 rfl rfl)
theorem dX2_crank_8 : decode cX2_crank 8 = .ok (.ifCond .ge 5, 3) := dk_156 0 5 (dk_at dksX2_crank_0 8 rfl rfl)
theorem dX2_crank_11 : decode cX2_crank 11 = .ok (.iload_n 3, 1) := dk_29 (dk_at dksX2_crank_0 11 rfl rfl)
theorem dX2_crank_12 : decode cX2_crank 12 = .ok (.ireturn, 1) := dk_172 (dk_at dksX2_crank_0 12 rfl rfl)
theorem dX2_crank_13 : decode cX2_crank 13 = .ok (.aload_n 0, 1) := dk_42 (dk_at dksX2_crank_0 13 rfl rfl)
theorem dX2_crank_14 : decode cX2_crank 14 = .ok (.invokevirtual 102, 3) := dk_182 0 102 (dk_at dksX2_crank_0 14 rfl rfl)
theorem dX2_crank_17 : decode cX2_crank 17 = .ok (.aload_n 0, 1) := dk_42 (dk_at dksX2_crank_0 17 rfl rfl)
theorem dX2_crank_18 : decode cX2_crank 18 = .ok (.iload_n 1, 1) := dk_27 (dk_at dksX2_crank_0 18 rfl rfl)
theorem dX2_crank_19 : decode cX2_crank 19 = .ok (.iload_n 2, 1) := dk_28 (dk_at dksX2_crank_0 19 rfl rfl)
theorem dX2_crank_20 : decode cX2_crank 20 = .ok (.invokevirtual 131, 3) := dk_182 0 131 (dk_at dksX2_crank_0 20 rfl rfl)
theorem dX2_crank_23 : decode cX2_crank 23 = .ok (.istore 4, 2) := dk_54 4 (dk_at dksX2_crank_1 0 rfl rfl)
theorem dX2_crank_25 : decode cX2_crank 25 = .ok (.iload 4, 2) := dk_21 4 (dk_at dksX2_crank_1 2 rfl rfl)
theorem dX2_crank_27 : decode cX2_crank 27 = .ok (.ifCond .ge 8, 3) := dk_156 0 8 (dk_at dksX2_crank_1 4 rfl rfl)
theorem dX2_crank_30 : decode cX2_crank 30 = .ok (.ldc 100, 2) := dk_18 100 (dk_at dksX2_crank_1 7 rfl rfl)
theorem dX2_crank_32 : decode cX2_crank 32 = .ok (.goto 9, 3) := dk_167 0 9 (dk_at dksX2_crank_1 9 rfl rfl)
theorem dX2_crank_35 : decode cX2_crank 35 = .ok (.aload_n 0, 1) := dk_42 (dk_at dksX2_crank_1 12 rfl rfl)
theorem dX2_crank_36 : decode cX2_crank 36 = .ok (.getfield 7, 3) := dk_180 0 7 (dk_at dksX2_crank_1 13 rfl rfl)
theorem dX2_crank_39 : decode cX2_crank 39 = .ok (.iconst 1, 1) := dk_4 (dk_at dksX2_crank_1 16 rfl rfl)
theorem dX2_crank_40 : decode cX2_crank 40 = .ok (.iaload, 1) := dk_46 (dk_at dksX2_crank_1 17 rfl rfl)
theorem dX2_crank_41 : decode cX2_crank 41 = .ok (.ireturn, 1) := dk_172 (dk_at dksX2_crank_1 18 rfl rfl)
abbrev cX2_mayCrank : ByteArray := prog_12_method_32_code
def yX2_mayCrank : MethodName := ⟨RX2, "mayCrank", "(II)I"⟩
def dkwX2_mayCrank_1 : List UInt8 := [18, 92, 167, 0, 18, 42, 180, 0, 7, 3, 46, 154, 0, 8, 18, 101, 167, 0, 4, 3, 172]
abbrev dktX2_mayCrank_1 : List UInt8 := dkwX2_mayCrank_1 ++ []
def dkwX2_mayCrank_0 : List UInt8 := [27, 16, 236, 16, 20, 184, 0, 61, 153, 0, 16, 27, 153, 0, 12, 28, 4, 6, 184, 0, 61, 154, 0, 8]
abbrev dktX2_mayCrank_0 : List UInt8 := dkwX2_mayCrank_0 ++ dktX2_mayCrank_1
theorem dksX2_mayCrank_0 : cX2_mayCrank.data.toList.drop 0 = dktX2_mayCrank_0 := by decide +kernel
theorem dksX2_mayCrank_1 : cX2_mayCrank.data.toList.drop 24 = dktX2_mayCrank_1 := dk_seg dksX2_mayCrank_0 24 rfl rfl
theorem dX2_mayCrank_0 : decode cX2_mayCrank 0 = .ok (.iload_n 1, 1) := dk_27 (dk_at dksX2_mayCrank_0 0 rfl rfl)
theorem dX2_mayCrank_1 : decode cX2_mayCrank 1 = .ok (.bipush (-20), 2) := dk_16 236 (dk_at dksX2_mayCrank_0 1 rfl rfl)
theorem dX2_mayCrank_3 : decode cX2_mayCrank 3 = .ok (.bipush 20, 2) := dk_16 20 (dk_at dksX2_mayCrank_0 3 rfl rfl)
theorem dX2_mayCrank_5 : decode cX2_mayCrank 5 = .ok (.invokestatic 61, 3) := dk_184 0 61 (dk_at dksX2_mayCrank_0 5 rfl rfl)
theorem dX2_mayCrank_8 : decode cX2_mayCrank 8 = .ok (.ifCond .eq 16, 3) := dk_153 0 16 (dk_at dksX2_mayCrank_0 8 rfl rfl)
theorem dX2_mayCrank_11 : decode cX2_mayCrank 11 = .ok (.iload_n 1, 1) := dk_27 (dk_at dksX2_mayCrank_0 11 rfl rfl)
theorem dX2_mayCrank_12 : decode cX2_mayCrank 12 = .ok (.ifCond .eq 12, 3) := dk_153 0 12 (dk_at dksX2_mayCrank_0 12 rfl rfl)
theorem dX2_mayCrank_15 : decode cX2_mayCrank 15 = .ok (.iload_n 2, 1) := dk_28 (dk_at dksX2_mayCrank_0 15 rfl rfl)
theorem dX2_mayCrank_16 : decode cX2_mayCrank 16 = .ok (.iconst 1, 1) := dk_4 (dk_at dksX2_mayCrank_0 16 rfl rfl)
theorem dX2_mayCrank_17 : decode cX2_mayCrank 17 = .ok (.iconst 3, 1) := dk_6 (dk_at dksX2_mayCrank_0 17 rfl rfl)
theorem dX2_mayCrank_18 : decode cX2_mayCrank 18 = .ok (.invokestatic 61, 3) := dk_184 0 61 (dk_at dksX2_mayCrank_0 18 rfl rfl)
theorem dX2_mayCrank_21 : decode cX2_mayCrank 21 = .ok (.ifCond .ne 8, 3) := dk_154 0 8 (dk_at dksX2_mayCrank_0 21 rfl rfl)
theorem dX2_mayCrank_24 : decode cX2_mayCrank 24 = .ok (.ldc 92, 2) := dk_18 92 (dk_at dksX2_mayCrank_1 0 rfl rfl)
theorem dX2_mayCrank_26 : decode cX2_mayCrank 26 = .ok (.goto 18, 3) := dk_167 0 18 (dk_at dksX2_mayCrank_1 2 rfl rfl)
theorem dX2_mayCrank_29 : decode cX2_mayCrank 29 = .ok (.aload_n 0, 1) := dk_42 (dk_at dksX2_mayCrank_1 5 rfl rfl)
theorem dX2_mayCrank_30 : decode cX2_mayCrank 30 = .ok (.getfield 7, 3) := dk_180 0 7 (dk_at dksX2_mayCrank_1 6 rfl rfl)
theorem dX2_mayCrank_33 : decode cX2_mayCrank 33 = .ok (.iconst 0, 1) := dk_3 (dk_at dksX2_mayCrank_1 9 rfl rfl)
theorem dX2_mayCrank_34 : decode cX2_mayCrank 34 = .ok (.iaload, 1) := dk_46 (dk_at dksX2_mayCrank_1 10 rfl rfl)
theorem dX2_mayCrank_35 : decode cX2_mayCrank 35 = .ok (.ifCond .ne 8, 3) := dk_154 0 8 (dk_at dksX2_mayCrank_1 11 rfl rfl)
theorem dX2_mayCrank_38 : decode cX2_mayCrank 38 = .ok (.ldc 101, 2) := dk_18 101 (dk_at dksX2_mayCrank_1 14 rfl rfl)
theorem dX2_mayCrank_40 : decode cX2_mayCrank 40 = .ok (.goto 4, 3) := dk_167 0 4 (dk_at dksX2_mayCrank_1 16 rfl rfl)
theorem dX2_mayCrank_43 : decode cX2_mayCrank 43 = .ok (.iconst 0, 1) := dk_3 (dk_at dksX2_mayCrank_1 19 rfl rfl)
theorem dX2_mayCrank_44 : decode cX2_mayCrank 44 = .ok (.ireturn, 1) := dk_172 (dk_at dksX2_mayCrank_1 20 rfl rfl)
abbrev cX2_cranks : ByteArray := prog_12_method_31_code
def yX2_cranks : MethodName := ⟨RX2, "cranks", "(II)I"⟩
def dkwX2_cranks_6 : List UInt8 := [4, 46, 29, 96, 182, 0, 105, 153, 0, 7, 5, 167, 0, 4, 4, 172]
abbrev dktX2_cranks_6 : List UInt8 := dkwX2_cranks_6 ++ []
def dkwX2_cranks_5 : List UInt8 := [180, 0, 118, 96, 79, 42, 180, 0, 118, 27, 29, 104, 160, 0, 7, 3, 167, 0, 23, 42, 42, 180, 0, 7]
abbrev dktX2_cranks_5 : List UInt8 := dkwX2_cranks_5 ++ dktX2_cranks_6
def dkwX2_cranks_4 : List UInt8 := [167, 255, 183, 42, 180, 0, 7, 7, 92, 46, 42, 180, 0, 121, 96, 79, 42, 180, 0, 7, 8, 92, 46, 42]
abbrev dktX2_cranks_4 : List UInt8 := dkwX2_cranks_4 ++ dktX2_cranks_5
def dkwX2_cranks_3 : List UInt8 := [96, 79, 42, 42, 180, 0, 7, 4, 46, 182, 0, 115, 54, 4, 42, 89, 180, 0, 118, 4, 96, 181, 0, 118]
abbrev dktX2_cranks_3 : List UInt8 := dkwX2_cranks_3 ++ dktX2_cranks_4
def dkwX2_cranks_2 : List UInt8 := [21, 4, 154, 0, 49, 42, 42, 180, 0, 7, 4, 46, 28, 182, 0, 124, 42, 180, 0, 7, 4, 92, 46, 29]
abbrev dktX2_cranks_2 : List UInt8 := dkwX2_cranks_2 ++ dktX2_cranks_3
def dkwX2_cranks_1 : List UInt8 := [180, 0, 118, 27, 29, 104, 159, 0, 69, 42, 42, 180, 0, 7, 4, 46, 29, 96, 182, 0, 105, 153, 0, 54]
abbrev dktX2_cranks_1 : List UInt8 := dkwX2_cranks_1 ++ dktX2_cranks_2
def dkwX2_cranks_0 : List UInt8 := [27, 158, 0, 7, 4, 167, 0, 4, 2, 62, 42, 3, 181, 0, 118, 42, 3, 181, 0, 121, 3, 54, 4, 42]
abbrev dktX2_cranks_0 : List UInt8 := dkwX2_cranks_0 ++ dktX2_cranks_1
theorem dksX2_cranks_0 : cX2_cranks.data.toList.drop 0 = dktX2_cranks_0 := by decide +kernel
theorem dksX2_cranks_1 : cX2_cranks.data.toList.drop 24 = dktX2_cranks_1 := dk_seg dksX2_cranks_0 24 rfl rfl
theorem dksX2_cranks_2 : cX2_cranks.data.toList.drop 48 = dktX2_cranks_2 := dk_seg dksX2_cranks_1 24 rfl rfl
theorem dksX2_cranks_3 : cX2_cranks.data.toList.drop 72 = dktX2_cranks_3 := dk_seg dksX2_cranks_2 24 rfl rfl
theorem dksX2_cranks_4 : cX2_cranks.data.toList.drop 96 = dktX2_cranks_4 := dk_seg dksX2_cranks_3 24 rfl rfl
theorem dksX2_cranks_5 : cX2_cranks.data.toList.drop 120 = dktX2_cranks_5 := dk_seg dksX2_cranks_4 24 rfl rfl
theorem dksX2_cranks_6 : cX2_cranks.data.toList.drop 144 = dktX2_cranks_6 := dk_seg dksX2_cranks_5 24 rfl rfl
theorem dX2_cranks_0 : decode cX2_cranks 0 = .ok (.iload_n 1, 1) := dk_27 (dk_at dksX2_cranks_0 0 rfl rfl)
theorem dX2_cranks_1 : decode cX2_cranks 1 = .ok (.ifCond .le 7, 3) := dk_158 0 7 (dk_at dksX2_cranks_0 1 rfl rfl)
theorem dX2_cranks_4 : decode cX2_cranks 4 = .ok (.iconst 1, 1) := dk_4 (dk_at dksX2_cranks_0 4 rfl rfl)
theorem dX2_cranks_5 : decode cX2_cranks 5 = .ok (.goto 4, 3) := dk_167 0 4 (dk_at dksX2_cranks_0 5 rfl rfl)
theorem dX2_cranks_8 : decode cX2_cranks 8 = .ok (.iconst (-1), 1) := dk_2 (dk_at dksX2_cranks_0 8 rfl rfl)
theorem dX2_cranks_9 : decode cX2_cranks 9 = .ok (.istore_n 3, 1) := dk_62 (dk_at dksX2_cranks_0 9 rfl rfl)
theorem dX2_cranks_10 : decode cX2_cranks 10 = .ok (.aload_n 0, 1) := dk_42 (dk_at dksX2_cranks_0 10 rfl rfl)
theorem dX2_cranks_11 : decode cX2_cranks 11 = .ok (.iconst 0, 1) := dk_3 (dk_at dksX2_cranks_0 11 rfl rfl)
theorem dX2_cranks_12 : decode cX2_cranks 12 = .ok (.putfield 118, 3) := dk_181 0 118 (dk_at dksX2_cranks_0 12 rfl rfl)
theorem dX2_cranks_15 : decode cX2_cranks 15 = .ok (.aload_n 0, 1) := dk_42 (dk_at dksX2_cranks_0 15 rfl rfl)
theorem dX2_cranks_16 : decode cX2_cranks 16 = .ok (.iconst 0, 1) := dk_3 (dk_at dksX2_cranks_0 16 rfl rfl)
theorem dX2_cranks_17 : decode cX2_cranks 17 = .ok (.putfield 121, 3) := dk_181 0 121 (dk_at dksX2_cranks_0 17 rfl rfl)
theorem dX2_cranks_20 : decode cX2_cranks 20 = .ok (.iconst 0, 1) := dk_3 (dk_at dksX2_cranks_0 20 rfl rfl)
theorem dX2_cranks_21 : decode cX2_cranks 21 = .ok (.istore 4, 2) := dk_54 4 (dk_at dksX2_cranks_0 21 rfl rfl)
theorem dX2_cranks_23 : decode cX2_cranks 23 = .ok (.aload_n 0, 1) := dk_42 (dk_at dksX2_cranks_0 23 rfl rfl)
theorem dX2_cranks_24 : decode cX2_cranks 24 = .ok (.getfield 118, 3) := dk_180 0 118 (dk_at dksX2_cranks_1 0 rfl rfl)
theorem dX2_cranks_27 : decode cX2_cranks 27 = .ok (.iload_n 1, 1) := dk_27 (dk_at dksX2_cranks_1 3 rfl rfl)
theorem dX2_cranks_28 : decode cX2_cranks 28 = .ok (.iload_n 3, 1) := dk_29 (dk_at dksX2_cranks_1 4 rfl rfl)
theorem dX2_cranks_29 : decode cX2_cranks 29 = .ok (.imul, 1) := dk_104 (dk_at dksX2_cranks_1 5 rfl rfl)
theorem dX2_cranks_30 : decode cX2_cranks 30 = .ok (.if_icmp .eq 69, 3) := dk_159 0 69 (dk_at dksX2_cranks_1 6 rfl rfl)
theorem dX2_cranks_33 : decode cX2_cranks 33 = .ok (.aload_n 0, 1) := dk_42 (dk_at dksX2_cranks_1 9 rfl rfl)
theorem dX2_cranks_34 : decode cX2_cranks 34 = .ok (.aload_n 0, 1) := dk_42 (dk_at dksX2_cranks_1 10 rfl rfl)
theorem dX2_cranks_35 : decode cX2_cranks 35 = .ok (.getfield 7, 3) := dk_180 0 7 (dk_at dksX2_cranks_1 11 rfl rfl)
theorem dX2_cranks_38 : decode cX2_cranks 38 = .ok (.iconst 1, 1) := dk_4 (dk_at dksX2_cranks_1 14 rfl rfl)
theorem dX2_cranks_39 : decode cX2_cranks 39 = .ok (.iaload, 1) := dk_46 (dk_at dksX2_cranks_1 15 rfl rfl)
theorem dX2_cranks_40 : decode cX2_cranks 40 = .ok (.iload_n 3, 1) := dk_29 (dk_at dksX2_cranks_1 16 rfl rfl)
theorem dX2_cranks_41 : decode cX2_cranks 41 = .ok (.iadd, 1) := dk_96 (dk_at dksX2_cranks_1 17 rfl rfl)
theorem dX2_cranks_42 : decode cX2_cranks 42 = .ok (.invokevirtual 105, 3) := dk_182 0 105 (dk_at dksX2_cranks_1 18 rfl rfl)
theorem dX2_cranks_45 : decode cX2_cranks 45 = .ok (.ifCond .eq 54, 3) := dk_153 0 54 (dk_at dksX2_cranks_1 21 rfl rfl)
theorem dX2_cranks_48 : decode cX2_cranks 48 = .ok (.iload 4, 2) := dk_21 4 (dk_at dksX2_cranks_2 0 rfl rfl)
theorem dX2_cranks_50 : decode cX2_cranks 50 = .ok (.ifCond .ne 49, 3) := dk_154 0 49 (dk_at dksX2_cranks_2 2 rfl rfl)
theorem dX2_cranks_53 : decode cX2_cranks 53 = .ok (.aload_n 0, 1) := dk_42 (dk_at dksX2_cranks_2 5 rfl rfl)
theorem dX2_cranks_54 : decode cX2_cranks 54 = .ok (.aload_n 0, 1) := dk_42 (dk_at dksX2_cranks_2 6 rfl rfl)
theorem dX2_cranks_55 : decode cX2_cranks 55 = .ok (.getfield 7, 3) := dk_180 0 7 (dk_at dksX2_cranks_2 7 rfl rfl)
theorem dX2_cranks_58 : decode cX2_cranks 58 = .ok (.iconst 1, 1) := dk_4 (dk_at dksX2_cranks_2 10 rfl rfl)
theorem dX2_cranks_59 : decode cX2_cranks 59 = .ok (.iaload, 1) := dk_46 (dk_at dksX2_cranks_2 11 rfl rfl)
theorem dX2_cranks_60 : decode cX2_cranks 60 = .ok (.iload_n 2, 1) := dk_28 (dk_at dksX2_cranks_2 12 rfl rfl)
theorem dX2_cranks_61 : decode cX2_cranks 61 = .ok (.invokevirtual 124, 3) := dk_182 0 124 (dk_at dksX2_cranks_2 13 rfl rfl)
theorem dX2_cranks_64 : decode cX2_cranks 64 = .ok (.aload_n 0, 1) := dk_42 (dk_at dksX2_cranks_2 16 rfl rfl)
theorem dX2_cranks_65 : decode cX2_cranks 65 = .ok (.getfield 7, 3) := dk_180 0 7 (dk_at dksX2_cranks_2 17 rfl rfl)
theorem dX2_cranks_68 : decode cX2_cranks 68 = .ok (.iconst 1, 1) := dk_4 (dk_at dksX2_cranks_2 20 rfl rfl)
theorem dX2_cranks_69 : decode cX2_cranks 69 = .ok (.dup2, 1) := dk_92 (dk_at dksX2_cranks_2 21 rfl rfl)
theorem dX2_cranks_70 : decode cX2_cranks 70 = .ok (.iaload, 1) := dk_46 (dk_at dksX2_cranks_2 22 rfl rfl)
theorem dX2_cranks_71 : decode cX2_cranks 71 = .ok (.iload_n 3, 1) := dk_29 (dk_at dksX2_cranks_2 23 rfl rfl)
theorem dX2_cranks_72 : decode cX2_cranks 72 = .ok (.iadd, 1) := dk_96 (dk_at dksX2_cranks_3 0 rfl rfl)
theorem dX2_cranks_73 : decode cX2_cranks 73 = .ok (.iastore, 1) := dk_79 (dk_at dksX2_cranks_3 1 rfl rfl)
theorem dX2_cranks_74 : decode cX2_cranks 74 = .ok (.aload_n 0, 1) := dk_42 (dk_at dksX2_cranks_3 2 rfl rfl)
theorem dX2_cranks_75 : decode cX2_cranks 75 = .ok (.aload_n 0, 1) := dk_42 (dk_at dksX2_cranks_3 3 rfl rfl)
theorem dX2_cranks_76 : decode cX2_cranks 76 = .ok (.getfield 7, 3) := dk_180 0 7 (dk_at dksX2_cranks_3 4 rfl rfl)
theorem dX2_cranks_79 : decode cX2_cranks 79 = .ok (.iconst 1, 1) := dk_4 (dk_at dksX2_cranks_3 7 rfl rfl)
theorem dX2_cranks_80 : decode cX2_cranks 80 = .ok (.iaload, 1) := dk_46 (dk_at dksX2_cranks_3 8 rfl rfl)
theorem dX2_cranks_81 : decode cX2_cranks 81 = .ok (.invokevirtual 115, 3) := dk_182 0 115 (dk_at dksX2_cranks_3 9 rfl rfl)
theorem dX2_cranks_84 : decode cX2_cranks 84 = .ok (.istore 4, 2) := dk_54 4 (dk_at dksX2_cranks_3 12 rfl rfl)
theorem dX2_cranks_86 : decode cX2_cranks 86 = .ok (.aload_n 0, 1) := dk_42 (dk_at dksX2_cranks_3 14 rfl rfl)
theorem dX2_cranks_87 : decode cX2_cranks 87 = .ok (.dup, 1) := dk_89 (dk_at dksX2_cranks_3 15 rfl rfl)
theorem dX2_cranks_88 : decode cX2_cranks 88 = .ok (.getfield 118, 3) := dk_180 0 118 (dk_at dksX2_cranks_3 16 rfl rfl)
theorem dX2_cranks_91 : decode cX2_cranks 91 = .ok (.iconst 1, 1) := dk_4 (dk_at dksX2_cranks_3 19 rfl rfl)
theorem dX2_cranks_92 : decode cX2_cranks 92 = .ok (.iadd, 1) := dk_96 (dk_at dksX2_cranks_3 20 rfl rfl)
theorem dX2_cranks_93 : decode cX2_cranks 93 = .ok (.putfield 118, 3) := dk_181 0 118 (dk_at dksX2_cranks_3 21 rfl rfl)
theorem dX2_cranks_96 : decode cX2_cranks 96 = .ok (.goto (-73), 3) := dk_167 255 183 (dk_at dksX2_cranks_4 0 rfl rfl)
theorem dX2_cranks_99 : decode cX2_cranks 99 = .ok (.aload_n 0, 1) := dk_42 (dk_at dksX2_cranks_4 3 rfl rfl)
theorem dX2_cranks_100 : decode cX2_cranks 100 = .ok (.getfield 7, 3) := dk_180 0 7 (dk_at dksX2_cranks_4 4 rfl rfl)
theorem dX2_cranks_103 : decode cX2_cranks 103 = .ok (.iconst 4, 1) := dk_7 (dk_at dksX2_cranks_4 7 rfl rfl)
theorem dX2_cranks_104 : decode cX2_cranks 104 = .ok (.dup2, 1) := dk_92 (dk_at dksX2_cranks_4 8 rfl rfl)
theorem dX2_cranks_105 : decode cX2_cranks 105 = .ok (.iaload, 1) := dk_46 (dk_at dksX2_cranks_4 9 rfl rfl)
theorem dX2_cranks_106 : decode cX2_cranks 106 = .ok (.aload_n 0, 1) := dk_42 (dk_at dksX2_cranks_4 10 rfl rfl)
theorem dX2_cranks_107 : decode cX2_cranks 107 = .ok (.getfield 121, 3) := dk_180 0 121 (dk_at dksX2_cranks_4 11 rfl rfl)
theorem dX2_cranks_110 : decode cX2_cranks 110 = .ok (.iadd, 1) := dk_96 (dk_at dksX2_cranks_4 14 rfl rfl)
theorem dX2_cranks_111 : decode cX2_cranks 111 = .ok (.iastore, 1) := dk_79 (dk_at dksX2_cranks_4 15 rfl rfl)
theorem dX2_cranks_112 : decode cX2_cranks 112 = .ok (.aload_n 0, 1) := dk_42 (dk_at dksX2_cranks_4 16 rfl rfl)
theorem dX2_cranks_113 : decode cX2_cranks 113 = .ok (.getfield 7, 3) := dk_180 0 7 (dk_at dksX2_cranks_4 17 rfl rfl)
theorem dX2_cranks_116 : decode cX2_cranks 116 = .ok (.iconst 5, 1) := dk_8 (dk_at dksX2_cranks_4 20 rfl rfl)
theorem dX2_cranks_117 : decode cX2_cranks 117 = .ok (.dup2, 1) := dk_92 (dk_at dksX2_cranks_4 21 rfl rfl)
theorem dX2_cranks_118 : decode cX2_cranks 118 = .ok (.iaload, 1) := dk_46 (dk_at dksX2_cranks_4 22 rfl rfl)
theorem dX2_cranks_119 : decode cX2_cranks 119 = .ok (.aload_n 0, 1) := dk_42 (dk_at dksX2_cranks_4 23 rfl rfl)
theorem dX2_cranks_120 : decode cX2_cranks 120 = .ok (.getfield 118, 3) := dk_180 0 118 (dk_at dksX2_cranks_5 0 rfl rfl)
theorem dX2_cranks_123 : decode cX2_cranks 123 = .ok (.iadd, 1) := dk_96 (dk_at dksX2_cranks_5 3 rfl rfl)
theorem dX2_cranks_124 : decode cX2_cranks 124 = .ok (.iastore, 1) := dk_79 (dk_at dksX2_cranks_5 4 rfl rfl)
theorem dX2_cranks_125 : decode cX2_cranks 125 = .ok (.aload_n 0, 1) := dk_42 (dk_at dksX2_cranks_5 5 rfl rfl)
theorem dX2_cranks_126 : decode cX2_cranks 126 = .ok (.getfield 118, 3) := dk_180 0 118 (dk_at dksX2_cranks_5 6 rfl rfl)
theorem dX2_cranks_129 : decode cX2_cranks 129 = .ok (.iload_n 1, 1) := dk_27 (dk_at dksX2_cranks_5 9 rfl rfl)
theorem dX2_cranks_130 : decode cX2_cranks 130 = .ok (.iload_n 3, 1) := dk_29 (dk_at dksX2_cranks_5 10 rfl rfl)
theorem dX2_cranks_131 : decode cX2_cranks 131 = .ok (.imul, 1) := dk_104 (dk_at dksX2_cranks_5 11 rfl rfl)
theorem dX2_cranks_132 : decode cX2_cranks 132 = .ok (.if_icmp .ne 7, 3) := dk_160 0 7 (dk_at dksX2_cranks_5 12 rfl rfl)
theorem dX2_cranks_135 : decode cX2_cranks 135 = .ok (.iconst 0, 1) := dk_3 (dk_at dksX2_cranks_5 15 rfl rfl)
theorem dX2_cranks_136 : decode cX2_cranks 136 = .ok (.goto 23, 3) := dk_167 0 23 (dk_at dksX2_cranks_5 16 rfl rfl)
theorem dX2_cranks_139 : decode cX2_cranks 139 = .ok (.aload_n 0, 1) := dk_42 (dk_at dksX2_cranks_5 19 rfl rfl)
theorem dX2_cranks_140 : decode cX2_cranks 140 = .ok (.aload_n 0, 1) := dk_42 (dk_at dksX2_cranks_5 20 rfl rfl)
theorem dX2_cranks_141 : decode cX2_cranks 141 = .ok (.getfield 7, 3) := dk_180 0 7 (dk_at dksX2_cranks_5 21 rfl rfl)
theorem dX2_cranks_144 : decode cX2_cranks 144 = .ok (.iconst 1, 1) := dk_4 (dk_at dksX2_cranks_6 0 rfl rfl)
theorem dX2_cranks_145 : decode cX2_cranks 145 = .ok (.iaload, 1) := dk_46 (dk_at dksX2_cranks_6 1 rfl rfl)
theorem dX2_cranks_146 : decode cX2_cranks 146 = .ok (.iload_n 3, 1) := dk_29 (dk_at dksX2_cranks_6 2 rfl rfl)
theorem dX2_cranks_147 : decode cX2_cranks 147 = .ok (.iadd, 1) := dk_96 (dk_at dksX2_cranks_6 3 rfl rfl)
theorem dX2_cranks_148 : decode cX2_cranks 148 = .ok (.invokevirtual 105, 3) := dk_182 0 105 (dk_at dksX2_cranks_6 4 rfl rfl)
theorem dX2_cranks_151 : decode cX2_cranks 151 = .ok (.ifCond .eq 7, 3) := dk_153 0 7 (dk_at dksX2_cranks_6 7 rfl rfl)
theorem dX2_cranks_154 : decode cX2_cranks 154 = .ok (.iconst 2, 1) := dk_5 (dk_at dksX2_cranks_6 10 rfl rfl)
theorem dX2_cranks_155 : decode cX2_cranks 155 = .ok (.goto 4, 3) := dk_167 0 4 (dk_at dksX2_cranks_6 11 rfl rfl)
theorem dX2_cranks_158 : decode cX2_cranks 158 = .ok (.iconst 1, 1) := dk_4 (dk_at dksX2_cranks_6 14 rfl rfl)
theorem dX2_cranks_159 : decode cX2_cranks 159 = .ok (.ireturn, 1) := dk_172 (dk_at dksX2_cranks_6 15 rfl rfl)
abbrev cX2_leaves : ByteArray := prog_12_method_30_code
def yX2_leaves : MethodName := ⟨RX2, "leaves", "(II)V"⟩
def dkwX2_leaves_4 : List UInt8 := [167, 0, 4, 3, 96, 181, 0, 121, 177]
abbrev dktX2_leaves_4 : List UInt8 := dkwX2_leaves_4 ++ []
def dkwX2_leaves_3 : List UInt8 := [182, 0, 115, 153, 0, 7, 4, 167, 0, 4, 3, 182, 0, 82, 42, 89, 180, 0, 121, 29, 153, 0, 7, 4]
abbrev dktX2_leaves_3 : List UInt8 := dkwX2_leaves_3 ++ dktX2_leaves_4
def dkwX2_leaves_2 : List UInt8 := [180, 0, 7, 16, 9, 46, 164, 0, 7, 4, 167, 0, 4, 3, 62, 42, 27, 5, 29, 154, 0, 11, 42, 27]
abbrev dktX2_leaves_2 : List UInt8 := dkwX2_leaves_2 ++ dktX2_leaves_3
def dkwX2_leaves_1 : List UInt8 := [182, 0, 26, 28, 96, 182, 0, 82, 42, 27, 182, 0, 115, 154, 0, 23, 42, 27, 4, 182, 0, 26, 42]
abbrev dktX2_leaves_1 : List UInt8 := dkwX2_leaves_1 ++ dktX2_leaves_2
def dkwX2_leaves_0 : List UInt8 := [28, 6, 160, 0, 14, 42, 180, 0, 118, 5, 112, 4, 160, 0, 4, 177, 42, 27, 4, 42, 27, 4]
abbrev dktX2_leaves_0 : List UInt8 := dkwX2_leaves_0 ++ dktX2_leaves_1
theorem dksX2_leaves_0 : cX2_leaves.data.toList.drop 0 = dktX2_leaves_0 := by decide +kernel
theorem dksX2_leaves_1 : cX2_leaves.data.toList.drop 22 = dktX2_leaves_1 := dk_seg dksX2_leaves_0 22 rfl rfl
theorem dksX2_leaves_2 : cX2_leaves.data.toList.drop 45 = dktX2_leaves_2 := dk_seg dksX2_leaves_1 23 rfl rfl
theorem dksX2_leaves_3 : cX2_leaves.data.toList.drop 69 = dktX2_leaves_3 := dk_seg dksX2_leaves_2 24 rfl rfl
theorem dksX2_leaves_4 : cX2_leaves.data.toList.drop 93 = dktX2_leaves_4 := dk_seg dksX2_leaves_3 24 rfl rfl
theorem dX2_leaves_0 : decode cX2_leaves 0 = .ok (.iload_n 2, 1) := dk_28 (dk_at dksX2_leaves_0 0 rfl rfl)
theorem dX2_leaves_1 : decode cX2_leaves 1 = .ok (.iconst 3, 1) := dk_6 (dk_at dksX2_leaves_0 1 rfl rfl)
theorem dX2_leaves_2 : decode cX2_leaves 2 = .ok (.if_icmp .ne 14, 3) := dk_160 0 14 (dk_at dksX2_leaves_0 2 rfl rfl)
theorem dX2_leaves_5 : decode cX2_leaves 5 = .ok (.aload_n 0, 1) := dk_42 (dk_at dksX2_leaves_0 5 rfl rfl)
theorem dX2_leaves_6 : decode cX2_leaves 6 = .ok (.getfield 118, 3) := dk_180 0 118 (dk_at dksX2_leaves_0 6 rfl rfl)
theorem dX2_leaves_9 : decode cX2_leaves 9 = .ok (.iconst 2, 1) := dk_5 (dk_at dksX2_leaves_0 9 rfl rfl)
theorem dX2_leaves_10 : decode cX2_leaves 10 = .ok (.irem, 1) := dk_112 (dk_at dksX2_leaves_0 10 rfl rfl)
theorem dX2_leaves_11 : decode cX2_leaves 11 = .ok (.iconst 1, 1) := dk_4 (dk_at dksX2_leaves_0 11 rfl rfl)
theorem dX2_leaves_12 : decode cX2_leaves 12 = .ok (.if_icmp .ne 4, 3) := dk_160 0 4 (dk_at dksX2_leaves_0 12 rfl rfl)
theorem dX2_leaves_15 : decode cX2_leaves 15 = .ok (.return_, 1) := dk_177 (dk_at dksX2_leaves_0 15 rfl rfl)
theorem dX2_leaves_16 : decode cX2_leaves 16 = .ok (.aload_n 0, 1) := dk_42 (dk_at dksX2_leaves_0 16 rfl rfl)
theorem dX2_leaves_17 : decode cX2_leaves 17 = .ok (.iload_n 1, 1) := dk_27 (dk_at dksX2_leaves_0 17 rfl rfl)
theorem dX2_leaves_18 : decode cX2_leaves 18 = .ok (.iconst 1, 1) := dk_4 (dk_at dksX2_leaves_0 18 rfl rfl)
theorem dX2_leaves_19 : decode cX2_leaves 19 = .ok (.aload_n 0, 1) := dk_42 (dk_at dksX2_leaves_0 19 rfl rfl)
theorem dX2_leaves_20 : decode cX2_leaves 20 = .ok (.iload_n 1, 1) := dk_27 (dk_at dksX2_leaves_0 20 rfl rfl)
theorem dX2_leaves_21 : decode cX2_leaves 21 = .ok (.iconst 1, 1) := dk_4 (dk_at dksX2_leaves_0 21 rfl rfl)
theorem dX2_leaves_22 : decode cX2_leaves 22 = .ok (.invokevirtual 26, 3) := dk_182 0 26 (dk_at dksX2_leaves_1 0 rfl rfl)
theorem dX2_leaves_25 : decode cX2_leaves 25 = .ok (.iload_n 2, 1) := dk_28 (dk_at dksX2_leaves_1 3 rfl rfl)
theorem dX2_leaves_26 : decode cX2_leaves 26 = .ok (.iadd, 1) := dk_96 (dk_at dksX2_leaves_1 4 rfl rfl)
theorem dX2_leaves_27 : decode cX2_leaves 27 = .ok (.invokevirtual 82, 3) := dk_182 0 82 (dk_at dksX2_leaves_1 5 rfl rfl)
theorem dX2_leaves_30 : decode cX2_leaves 30 = .ok (.aload_n 0, 1) := dk_42 (dk_at dksX2_leaves_1 8 rfl rfl)
theorem dX2_leaves_31 : decode cX2_leaves 31 = .ok (.iload_n 1, 1) := dk_27 (dk_at dksX2_leaves_1 9 rfl rfl)
theorem dX2_leaves_32 : decode cX2_leaves 32 = .ok (.invokevirtual 115, 3) := dk_182 0 115 (dk_at dksX2_leaves_1 10 rfl rfl)
theorem dX2_leaves_35 : decode cX2_leaves 35 = .ok (.ifCond .ne 23, 3) := dk_154 0 23 (dk_at dksX2_leaves_1 13 rfl rfl)
theorem dX2_leaves_38 : decode cX2_leaves 38 = .ok (.aload_n 0, 1) := dk_42 (dk_at dksX2_leaves_1 16 rfl rfl)
theorem dX2_leaves_39 : decode cX2_leaves 39 = .ok (.iload_n 1, 1) := dk_27 (dk_at dksX2_leaves_1 17 rfl rfl)
theorem dX2_leaves_40 : decode cX2_leaves 40 = .ok (.iconst 1, 1) := dk_4 (dk_at dksX2_leaves_1 18 rfl rfl)
theorem dX2_leaves_41 : decode cX2_leaves 41 = .ok (.invokevirtual 26, 3) := dk_182 0 26 (dk_at dksX2_leaves_1 19 rfl rfl)
theorem dX2_leaves_44 : decode cX2_leaves 44 = .ok (.aload_n 0, 1) := dk_42 (dk_at dksX2_leaves_1 22 rfl rfl)
theorem dX2_leaves_45 : decode cX2_leaves 45 = .ok (.getfield 7, 3) := dk_180 0 7 (dk_at dksX2_leaves_2 0 rfl rfl)
theorem dX2_leaves_48 : decode cX2_leaves 48 = .ok (.bipush 9, 2) := dk_16 9 (dk_at dksX2_leaves_2 3 rfl rfl)
theorem dX2_leaves_50 : decode cX2_leaves 50 = .ok (.iaload, 1) := dk_46 (dk_at dksX2_leaves_2 5 rfl rfl)
theorem dX2_leaves_51 : decode cX2_leaves 51 = .ok (.if_icmp .le 7, 3) := dk_164 0 7 (dk_at dksX2_leaves_2 6 rfl rfl)
theorem dX2_leaves_54 : decode cX2_leaves 54 = .ok (.iconst 1, 1) := dk_4 (dk_at dksX2_leaves_2 9 rfl rfl)
theorem dX2_leaves_55 : decode cX2_leaves 55 = .ok (.goto 4, 3) := dk_167 0 4 (dk_at dksX2_leaves_2 10 rfl rfl)
theorem dX2_leaves_58 : decode cX2_leaves 58 = .ok (.iconst 0, 1) := dk_3 (dk_at dksX2_leaves_2 13 rfl rfl)
theorem dX2_leaves_59 : decode cX2_leaves 59 = .ok (.istore_n 3, 1) := dk_62 (dk_at dksX2_leaves_2 14 rfl rfl)
theorem dX2_leaves_60 : decode cX2_leaves 60 = .ok (.aload_n 0, 1) := dk_42 (dk_at dksX2_leaves_2 15 rfl rfl)
theorem dX2_leaves_61 : decode cX2_leaves 61 = .ok (.iload_n 1, 1) := dk_27 (dk_at dksX2_leaves_2 16 rfl rfl)
theorem dX2_leaves_62 : decode cX2_leaves 62 = .ok (.iconst 2, 1) := dk_5 (dk_at dksX2_leaves_2 17 rfl rfl)
theorem dX2_leaves_63 : decode cX2_leaves 63 = .ok (.iload_n 3, 1) := dk_29 (dk_at dksX2_leaves_2 18 rfl rfl)
theorem dX2_leaves_64 : decode cX2_leaves 64 = .ok (.ifCond .ne 11, 3) := dk_154 0 11 (dk_at dksX2_leaves_2 19 rfl rfl)
theorem dX2_leaves_67 : decode cX2_leaves 67 = .ok (.aload_n 0, 1) := dk_42 (dk_at dksX2_leaves_2 22 rfl rfl)
theorem dX2_leaves_68 : decode cX2_leaves 68 = .ok (.iload_n 1, 1) := dk_27 (dk_at dksX2_leaves_2 23 rfl rfl)
theorem dX2_leaves_69 : decode cX2_leaves 69 = .ok (.invokevirtual 115, 3) := dk_182 0 115 (dk_at dksX2_leaves_3 0 rfl rfl)
theorem dX2_leaves_72 : decode cX2_leaves 72 = .ok (.ifCond .eq 7, 3) := dk_153 0 7 (dk_at dksX2_leaves_3 3 rfl rfl)
theorem dX2_leaves_75 : decode cX2_leaves 75 = .ok (.iconst 1, 1) := dk_4 (dk_at dksX2_leaves_3 6 rfl rfl)
theorem dX2_leaves_76 : decode cX2_leaves 76 = .ok (.goto 4, 3) := dk_167 0 4 (dk_at dksX2_leaves_3 7 rfl rfl)
theorem dX2_leaves_79 : decode cX2_leaves 79 = .ok (.iconst 0, 1) := dk_3 (dk_at dksX2_leaves_3 10 rfl rfl)
theorem dX2_leaves_80 : decode cX2_leaves 80 = .ok (.invokevirtual 82, 3) := dk_182 0 82 (dk_at dksX2_leaves_3 11 rfl rfl)
theorem dX2_leaves_83 : decode cX2_leaves 83 = .ok (.aload_n 0, 1) := dk_42 (dk_at dksX2_leaves_3 14 rfl rfl)
theorem dX2_leaves_84 : decode cX2_leaves 84 = .ok (.dup, 1) := dk_89 (dk_at dksX2_leaves_3 15 rfl rfl)
theorem dX2_leaves_85 : decode cX2_leaves 85 = .ok (.getfield 121, 3) := dk_180 0 121 (dk_at dksX2_leaves_3 16 rfl rfl)
theorem dX2_leaves_88 : decode cX2_leaves 88 = .ok (.iload_n 3, 1) := dk_29 (dk_at dksX2_leaves_3 19 rfl rfl)
theorem dX2_leaves_89 : decode cX2_leaves 89 = .ok (.ifCond .eq 7, 3) := dk_153 0 7 (dk_at dksX2_leaves_3 20 rfl rfl)
theorem dX2_leaves_92 : decode cX2_leaves 92 = .ok (.iconst 1, 1) := dk_4 (dk_at dksX2_leaves_3 23 rfl rfl)
theorem dX2_leaves_93 : decode cX2_leaves 93 = .ok (.goto 4, 3) := dk_167 0 4 (dk_at dksX2_leaves_4 0 rfl rfl)
theorem dX2_leaves_96 : decode cX2_leaves 96 = .ok (.iconst 0, 1) := dk_3 (dk_at dksX2_leaves_4 3 rfl rfl)
theorem dX2_leaves_97 : decode cX2_leaves 97 = .ok (.iadd, 1) := dk_96 (dk_at dksX2_leaves_4 4 rfl rfl)
theorem dX2_leaves_98 : decode cX2_leaves 98 = .ok (.putfield 121, 3) := dk_181 0 121 (dk_at dksX2_leaves_4 5 rfl rfl)
theorem dX2_leaves_101 : decode cX2_leaves 101 = .ok (.return_, 1) := dk_177 (dk_at dksX2_leaves_4 8 rfl rfl)
abbrev cX2_route : ByteArray := prog_12_method_34_code
def yX2_route : MethodName := ⟨RX2, "route", "(I)I"⟩
def dkwX2_route_4 : List UInt8 := [4, 96, 79, 28, 172]
abbrev dktX2_route_4 : List UInt8 := dkwX2_route_4 ++ []
def dkwX2_route_3 : List UInt8 := [3, 79, 42, 180, 0, 7, 17, 1, 95, 6, 28, 104, 96, 5, 96, 3, 79, 42, 180, 0, 7, 5, 92, 46]
abbrev dktX2_route_3 : List UInt8 := dkwX2_route_3 ++ dktX2_route_4
def dkwX2_route_2 : List UInt8 := [17, 1, 95, 6, 28, 104, 96, 3, 96, 27, 79, 42, 180, 0, 7, 17, 1, 95, 6, 28, 104, 96, 4, 96]
abbrev dktX2_route_2 : List UInt8 := dkwX2_route_2 ++ dktX2_route_3
def dkwX2_route_1 : List UInt8 := [180, 0, 7, 5, 46, 61, 28, 16, 6, 160, 0, 6, 18, 134, 172, 42, 182, 0, 102, 42, 180, 0, 7]
abbrev dktX2_route_1 : List UInt8 := dkwX2_route_1 ++ dktX2_route_2
def dkwX2_route_0 : List UInt8 := [27, 4, 4, 42, 180, 0, 7, 3, 46, 120, 4, 100, 184, 0, 61, 154, 0, 6, 18, 92, 172, 42]
abbrev dktX2_route_0 : List UInt8 := dkwX2_route_0 ++ dktX2_route_1
theorem dksX2_route_0 : cX2_route.data.toList.drop 0 = dktX2_route_0 := by decide +kernel
theorem dksX2_route_1 : cX2_route.data.toList.drop 22 = dktX2_route_1 := dk_seg dksX2_route_0 22 rfl rfl
theorem dksX2_route_2 : cX2_route.data.toList.drop 45 = dktX2_route_2 := dk_seg dksX2_route_1 23 rfl rfl
theorem dksX2_route_3 : cX2_route.data.toList.drop 69 = dktX2_route_3 := dk_seg dksX2_route_2 24 rfl rfl
theorem dksX2_route_4 : cX2_route.data.toList.drop 93 = dktX2_route_4 := dk_seg dksX2_route_3 24 rfl rfl
theorem dX2_route_0 : decode cX2_route 0 = .ok (.iload_n 1, 1) := dk_27 (dk_at dksX2_route_0 0 rfl rfl)
theorem dX2_route_1 : decode cX2_route 1 = .ok (.iconst 1, 1) := dk_4 (dk_at dksX2_route_0 1 rfl rfl)
theorem dX2_route_2 : decode cX2_route 2 = .ok (.iconst 1, 1) := dk_4 (dk_at dksX2_route_0 2 rfl rfl)
theorem dX2_route_3 : decode cX2_route 3 = .ok (.aload_n 0, 1) := dk_42 (dk_at dksX2_route_0 3 rfl rfl)
theorem dX2_route_4 : decode cX2_route 4 = .ok (.getfield 7, 3) := dk_180 0 7 (dk_at dksX2_route_0 4 rfl rfl)
theorem dX2_route_7 : decode cX2_route 7 = .ok (.iconst 0, 1) := dk_3 (dk_at dksX2_route_0 7 rfl rfl)
theorem dX2_route_8 : decode cX2_route 8 = .ok (.iaload, 1) := dk_46 (dk_at dksX2_route_0 8 rfl rfl)
theorem dX2_route_9 : decode cX2_route 9 = .ok (.ishl, 1) := dk_120 (dk_at dksX2_route_0 9 rfl rfl)
theorem dX2_route_10 : decode cX2_route 10 = .ok (.iconst 1, 1) := dk_4 (dk_at dksX2_route_0 10 rfl rfl)
theorem dX2_route_11 : decode cX2_route 11 = .ok (.isub, 1) := dk_100 (dk_at dksX2_route_0 11 rfl rfl)
theorem dX2_route_12 : decode cX2_route 12 = .ok (.invokestatic 61, 3) := dk_184 0 61 (dk_at dksX2_route_0 12 rfl rfl)
theorem dX2_route_15 : decode cX2_route 15 = .ok (.ifCond .ne 6, 3) := dk_154 0 6 (dk_at dksX2_route_0 15 rfl rfl)
theorem dX2_route_18 : decode cX2_route 18 = .ok (.ldc 92, 2) := dk_18 92 (dk_at dksX2_route_0 18 rfl rfl)
theorem dX2_route_20 : decode cX2_route 20 = .ok (.ireturn, 1) := dk_172 (dk_at dksX2_route_0 20 rfl rfl)
theorem dX2_route_21 : decode cX2_route 21 = .ok (.aload_n 0, 1) := dk_42 (dk_at dksX2_route_0 21 rfl rfl)
theorem dX2_route_22 : decode cX2_route 22 = .ok (.getfield 7, 3) := dk_180 0 7 (dk_at dksX2_route_1 0 rfl rfl)
theorem dX2_route_25 : decode cX2_route 25 = .ok (.iconst 2, 1) := dk_5 (dk_at dksX2_route_1 3 rfl rfl)
theorem dX2_route_26 : decode cX2_route 26 = .ok (.iaload, 1) := dk_46 (dk_at dksX2_route_1 4 rfl rfl)
theorem dX2_route_27 : decode cX2_route 27 = .ok (.istore_n 2, 1) := dk_61 (dk_at dksX2_route_1 5 rfl rfl)
theorem dX2_route_28 : decode cX2_route 28 = .ok (.iload_n 2, 1) := dk_28 (dk_at dksX2_route_1 6 rfl rfl)
theorem dX2_route_29 : decode cX2_route 29 = .ok (.bipush 6, 2) := dk_16 6 (dk_at dksX2_route_1 7 rfl rfl)
theorem dX2_route_31 : decode cX2_route 31 = .ok (.if_icmp .ne 6, 3) := dk_160 0 6 (dk_at dksX2_route_1 9 rfl rfl)
theorem dX2_route_34 : decode cX2_route 34 = .ok (.ldc 134, 2) := dk_18 134 (dk_at dksX2_route_1 12 rfl rfl)
theorem dX2_route_36 : decode cX2_route 36 = .ok (.ireturn, 1) := dk_172 (dk_at dksX2_route_1 14 rfl rfl)
theorem dX2_route_37 : decode cX2_route 37 = .ok (.aload_n 0, 1) := dk_42 (dk_at dksX2_route_1 15 rfl rfl)
theorem dX2_route_38 : decode cX2_route 38 = .ok (.invokevirtual 102, 3) := dk_182 0 102 (dk_at dksX2_route_1 16 rfl rfl)
theorem dX2_route_41 : decode cX2_route 41 = .ok (.aload_n 0, 1) := dk_42 (dk_at dksX2_route_1 19 rfl rfl)
theorem dX2_route_42 : decode cX2_route 42 = .ok (.getfield 7, 3) := dk_180 0 7 (dk_at dksX2_route_1 20 rfl rfl)
theorem dX2_route_45 : decode cX2_route 45 = .ok (.sipush 351, 3) := dk_17 1 95 (dk_at dksX2_route_2 0 rfl rfl)
theorem dX2_route_48 : decode cX2_route 48 = .ok (.iconst 3, 1) := dk_6 (dk_at dksX2_route_2 3 rfl rfl)
theorem dX2_route_49 : decode cX2_route 49 = .ok (.iload_n 2, 1) := dk_28 (dk_at dksX2_route_2 4 rfl rfl)
theorem dX2_route_50 : decode cX2_route 50 = .ok (.imul, 1) := dk_104 (dk_at dksX2_route_2 5 rfl rfl)
theorem dX2_route_51 : decode cX2_route 51 = .ok (.iadd, 1) := dk_96 (dk_at dksX2_route_2 6 rfl rfl)
theorem dX2_route_52 : decode cX2_route 52 = .ok (.iconst 0, 1) := dk_3 (dk_at dksX2_route_2 7 rfl rfl)
theorem dX2_route_53 : decode cX2_route 53 = .ok (.iadd, 1) := dk_96 (dk_at dksX2_route_2 8 rfl rfl)
theorem dX2_route_54 : decode cX2_route 54 = .ok (.iload_n 1, 1) := dk_27 (dk_at dksX2_route_2 9 rfl rfl)
theorem dX2_route_55 : decode cX2_route 55 = .ok (.iastore, 1) := dk_79 (dk_at dksX2_route_2 10 rfl rfl)
theorem dX2_route_56 : decode cX2_route 56 = .ok (.aload_n 0, 1) := dk_42 (dk_at dksX2_route_2 11 rfl rfl)
theorem dX2_route_57 : decode cX2_route 57 = .ok (.getfield 7, 3) := dk_180 0 7 (dk_at dksX2_route_2 12 rfl rfl)
theorem dX2_route_60 : decode cX2_route 60 = .ok (.sipush 351, 3) := dk_17 1 95 (dk_at dksX2_route_2 15 rfl rfl)
theorem dX2_route_63 : decode cX2_route 63 = .ok (.iconst 3, 1) := dk_6 (dk_at dksX2_route_2 18 rfl rfl)
theorem dX2_route_64 : decode cX2_route 64 = .ok (.iload_n 2, 1) := dk_28 (dk_at dksX2_route_2 19 rfl rfl)
theorem dX2_route_65 : decode cX2_route 65 = .ok (.imul, 1) := dk_104 (dk_at dksX2_route_2 20 rfl rfl)
theorem dX2_route_66 : decode cX2_route 66 = .ok (.iadd, 1) := dk_96 (dk_at dksX2_route_2 21 rfl rfl)
theorem dX2_route_67 : decode cX2_route 67 = .ok (.iconst 1, 1) := dk_4 (dk_at dksX2_route_2 22 rfl rfl)
theorem dX2_route_68 : decode cX2_route 68 = .ok (.iadd, 1) := dk_96 (dk_at dksX2_route_2 23 rfl rfl)
theorem dX2_route_69 : decode cX2_route 69 = .ok (.iconst 0, 1) := dk_3 (dk_at dksX2_route_3 0 rfl rfl)
theorem dX2_route_70 : decode cX2_route 70 = .ok (.iastore, 1) := dk_79 (dk_at dksX2_route_3 1 rfl rfl)
theorem dX2_route_71 : decode cX2_route 71 = .ok (.aload_n 0, 1) := dk_42 (dk_at dksX2_route_3 2 rfl rfl)
theorem dX2_route_72 : decode cX2_route 72 = .ok (.getfield 7, 3) := dk_180 0 7 (dk_at dksX2_route_3 3 rfl rfl)
theorem dX2_route_75 : decode cX2_route 75 = .ok (.sipush 351, 3) := dk_17 1 95 (dk_at dksX2_route_3 6 rfl rfl)
theorem dX2_route_78 : decode cX2_route 78 = .ok (.iconst 3, 1) := dk_6 (dk_at dksX2_route_3 9 rfl rfl)
theorem dX2_route_79 : decode cX2_route 79 = .ok (.iload_n 2, 1) := dk_28 (dk_at dksX2_route_3 10 rfl rfl)
theorem dX2_route_80 : decode cX2_route 80 = .ok (.imul, 1) := dk_104 (dk_at dksX2_route_3 11 rfl rfl)
theorem dX2_route_81 : decode cX2_route 81 = .ok (.iadd, 1) := dk_96 (dk_at dksX2_route_3 12 rfl rfl)
theorem dX2_route_82 : decode cX2_route 82 = .ok (.iconst 2, 1) := dk_5 (dk_at dksX2_route_3 13 rfl rfl)
theorem dX2_route_83 : decode cX2_route 83 = .ok (.iadd, 1) := dk_96 (dk_at dksX2_route_3 14 rfl rfl)
theorem dX2_route_84 : decode cX2_route 84 = .ok (.iconst 0, 1) := dk_3 (dk_at dksX2_route_3 15 rfl rfl)
theorem dX2_route_85 : decode cX2_route 85 = .ok (.iastore, 1) := dk_79 (dk_at dksX2_route_3 16 rfl rfl)
theorem dX2_route_86 : decode cX2_route 86 = .ok (.aload_n 0, 1) := dk_42 (dk_at dksX2_route_3 17 rfl rfl)
theorem dX2_route_87 : decode cX2_route 87 = .ok (.getfield 7, 3) := dk_180 0 7 (dk_at dksX2_route_3 18 rfl rfl)
theorem dX2_route_90 : decode cX2_route 90 = .ok (.iconst 2, 1) := dk_5 (dk_at dksX2_route_3 21 rfl rfl)
theorem dX2_route_91 : decode cX2_route 91 = .ok (.dup2, 1) := dk_92 (dk_at dksX2_route_3 22 rfl rfl)
theorem dX2_route_92 : decode cX2_route 92 = .ok (.iaload, 1) := dk_46 (dk_at dksX2_route_3 23 rfl rfl)
theorem dX2_route_93 : decode cX2_route 93 = .ok (.iconst 1, 1) := dk_4 (dk_at dksX2_route_4 0 rfl rfl)
theorem dX2_route_94 : decode cX2_route 94 = .ok (.iadd, 1) := dk_96 (dk_at dksX2_route_4 1 rfl rfl)
theorem dX2_route_95 : decode cX2_route 95 = .ok (.iastore, 1) := dk_79 (dk_at dksX2_route_4 2 rfl rfl)
theorem dX2_route_96 : decode cX2_route 96 = .ok (.iload_n 2, 1) := dk_28 (dk_at dksX2_route_4 3 rfl rfl)
theorem dX2_route_97 : decode cX2_route 97 = .ok (.ireturn, 1) := dk_172 (dk_at dksX2_route_4 4 rfl rfl)
abbrev cX2_drive : ByteArray := prog_12_method_35_code
def yX2_drive : MethodName := ⟨RX2, "drive", "(I)I"⟩
def dkwX2_drive_1 : List UInt8 := [6, 46, 61, 42, 180, 0, 7, 6, 27, 79, 28, 172]
abbrev dktX2_drive_1 : List UInt8 := dkwX2_drive_1 ++ []
def dkwX2_drive_0 : List UInt8 := [27, 2, 159, 0, 14, 42, 27, 182, 0, 135, 154, 0, 6, 18, 92, 172, 42, 182, 0, 102, 42, 180, 0, 7]
abbrev dktX2_drive_0 : List UInt8 := dkwX2_drive_0 ++ dktX2_drive_1
theorem dksX2_drive_0 : cX2_drive.data.toList.drop 0 = dktX2_drive_0 := by decide +kernel
theorem dksX2_drive_1 : cX2_drive.data.toList.drop 24 = dktX2_drive_1 := dk_seg dksX2_drive_0 24 rfl rfl
theorem dX2_drive_0 : decode cX2_drive 0 = .ok (.iload_n 1, 1) := dk_27 (dk_at dksX2_drive_0 0 rfl rfl)
theorem dX2_drive_1 : decode cX2_drive 1 = .ok (.iconst (-1), 1) := dk_2 (dk_at dksX2_drive_0 1 rfl rfl)
theorem dX2_drive_2 : decode cX2_drive 2 = .ok (.if_icmp .eq 14, 3) := dk_159 0 14 (dk_at dksX2_drive_0 2 rfl rfl)
theorem dX2_drive_5 : decode cX2_drive 5 = .ok (.aload_n 0, 1) := dk_42 (dk_at dksX2_drive_0 5 rfl rfl)
theorem dX2_drive_6 : decode cX2_drive 6 = .ok (.iload_n 1, 1) := dk_27 (dk_at dksX2_drive_0 6 rfl rfl)
theorem dX2_drive_7 : decode cX2_drive 7 = .ok (.invokevirtual 135, 3) := dk_182 0 135 (dk_at dksX2_drive_0 7 rfl rfl)
theorem dX2_drive_10 : decode cX2_drive 10 = .ok (.ifCond .ne 6, 3) := dk_154 0 6 (dk_at dksX2_drive_0 10 rfl rfl)
theorem dX2_drive_13 : decode cX2_drive 13 = .ok (.ldc 92, 2) := dk_18 92 (dk_at dksX2_drive_0 13 rfl rfl)
theorem dX2_drive_15 : decode cX2_drive 15 = .ok (.ireturn, 1) := dk_172 (dk_at dksX2_drive_0 15 rfl rfl)
theorem dX2_drive_16 : decode cX2_drive 16 = .ok (.aload_n 0, 1) := dk_42 (dk_at dksX2_drive_0 16 rfl rfl)
theorem dX2_drive_17 : decode cX2_drive 17 = .ok (.invokevirtual 102, 3) := dk_182 0 102 (dk_at dksX2_drive_0 17 rfl rfl)
theorem dX2_drive_20 : decode cX2_drive 20 = .ok (.aload_n 0, 1) := dk_42 (dk_at dksX2_drive_0 20 rfl rfl)
theorem dX2_drive_21 : decode cX2_drive 21 = .ok (.getfield 7, 3) := dk_180 0 7 (dk_at dksX2_drive_0 21 rfl rfl)
theorem dX2_drive_24 : decode cX2_drive 24 = .ok (.iconst 3, 1) := dk_6 (dk_at dksX2_drive_1 0 rfl rfl)
theorem dX2_drive_25 : decode cX2_drive 25 = .ok (.iaload, 1) := dk_46 (dk_at dksX2_drive_1 1 rfl rfl)
theorem dX2_drive_26 : decode cX2_drive 26 = .ok (.istore_n 2, 1) := dk_61 (dk_at dksX2_drive_1 2 rfl rfl)
theorem dX2_drive_27 : decode cX2_drive 27 = .ok (.aload_n 0, 1) := dk_42 (dk_at dksX2_drive_1 3 rfl rfl)
theorem dX2_drive_28 : decode cX2_drive 28 = .ok (.getfield 7, 3) := dk_180 0 7 (dk_at dksX2_drive_1 4 rfl rfl)
theorem dX2_drive_31 : decode cX2_drive 31 = .ok (.iconst 3, 1) := dk_6 (dk_at dksX2_drive_1 7 rfl rfl)
theorem dX2_drive_32 : decode cX2_drive 32 = .ok (.iload_n 1, 1) := dk_27 (dk_at dksX2_drive_1 8 rfl rfl)
theorem dX2_drive_33 : decode cX2_drive 33 = .ok (.iastore, 1) := dk_79 (dk_at dksX2_drive_1 9 rfl rfl)
theorem dX2_drive_34 : decode cX2_drive 34 = .ok (.iload_n 2, 1) := dk_28 (dk_at dksX2_drive_1 10 rfl rfl)
theorem dX2_drive_35 : decode cX2_drive 35 = .ok (.ireturn, 1) := dk_172 (dk_at dksX2_drive_1 11 rfl rfl)
abbrev cX2_isRoute : ByteArray := prog_12_method_8_code
def yX2_isRoute : MethodName := ⟨RX2, "isRoute", "(I)Z"⟩
def dkwX2_isRoute_0 : List UInt8 := [27, 155, 0, 17, 27, 42, 180, 0, 7, 5, 46, 162, 0, 7, 4, 167, 0, 4, 3, 172]
abbrev dktX2_isRoute_0 : List UInt8 := dkwX2_isRoute_0 ++ []
theorem dksX2_isRoute_0 : cX2_isRoute.data.toList.drop 0 = dktX2_isRoute_0 := by decide +kernel
theorem dX2_isRoute_0 : decode cX2_isRoute 0 = .ok (.iload_n 1, 1) := dk_27 (dk_at dksX2_isRoute_0 0 rfl rfl)
theorem dX2_isRoute_1 : decode cX2_isRoute 1 = .ok (.ifCond .lt 17, 3) := dk_155 0 17 (dk_at dksX2_isRoute_0 1 rfl rfl)
theorem dX2_isRoute_4 : decode cX2_isRoute 4 = .ok (.iload_n 1, 1) := dk_27 (dk_at dksX2_isRoute_0 4 rfl rfl)
theorem dX2_isRoute_5 : decode cX2_isRoute 5 = .ok (.aload_n 0, 1) := dk_42 (dk_at dksX2_isRoute_0 5 rfl rfl)
theorem dX2_isRoute_6 : decode cX2_isRoute 6 = .ok (.getfield 7, 3) := dk_180 0 7 (dk_at dksX2_isRoute_0 6 rfl rfl)
theorem dX2_isRoute_9 : decode cX2_isRoute 9 = .ok (.iconst 2, 1) := dk_5 (dk_at dksX2_isRoute_0 9 rfl rfl)
theorem dX2_isRoute_10 : decode cX2_isRoute 10 = .ok (.iaload, 1) := dk_46 (dk_at dksX2_isRoute_0 10 rfl rfl)
theorem dX2_isRoute_11 : decode cX2_isRoute 11 = .ok (.if_icmp .ge 7, 3) := dk_162 0 7 (dk_at dksX2_isRoute_0 11 rfl rfl)
theorem dX2_isRoute_14 : decode cX2_isRoute 14 = .ok (.iconst 1, 1) := dk_4 (dk_at dksX2_isRoute_0 14 rfl rfl)
theorem dX2_isRoute_15 : decode cX2_isRoute 15 = .ok (.goto 4, 3) := dk_167 0 4 (dk_at dksX2_isRoute_0 15 rfl rfl)
theorem dX2_isRoute_18 : decode cX2_isRoute 18 = .ok (.iconst 0, 1) := dk_3 (dk_at dksX2_isRoute_0 18 rfl rfl)
theorem dX2_isRoute_19 : decode cX2_isRoute 19 = .ok (.ireturn, 1) := dk_172 (dk_at dksX2_isRoute_0 19 rfl rfl)
abbrev cX2_stop : ByteArray := prog_12_method_37_code
def yX2_stop : MethodName := ⟨RX2, "stop", "()I"⟩
def dkwX2_stop_4 : List UInt8 := [96, 92, 46, 28, 96, 79, 27, 172]
abbrev dktX2_stop_4 : List UInt8 := dkwX2_stop_4 ++ []
def dkwX2_stop_3 : List UInt8 := [4, 96, 92, 46, 4, 96, 79, 42, 180, 0, 7, 17, 1, 95, 6, 42, 180, 0, 7, 6, 46, 104, 96, 5]
abbrev dktX2_stop_3 : List UInt8 := dkwX2_stop_3 ++ dktX2_stop_4
def dkwX2_stop_2 : List UInt8 := [180, 0, 7, 6, 46, 155, 0, 49, 42, 180, 0, 7, 17, 1, 95, 6, 42, 180, 0, 7, 6, 46, 104, 96]
abbrev dktX2_stop_2 : List UInt8 := dkwX2_stop_2 ++ dktX2_stop_3
def dkwX2_stop_1 : List UInt8 := [61, 42, 180, 0, 7, 16, 6, 92, 46, 4, 96, 79, 42, 180, 0, 7, 16, 7, 92, 46, 28, 96, 79, 42]
abbrev dktX2_stop_1 : List UInt8 := dkwX2_stop_1 ++ dktX2_stop_2
def dkwX2_stop_0 : List UInt8 := [42, 182, 0, 102, 42, 42, 180, 0, 7, 4, 46, 182, 0, 144, 60, 27, 154, 0, 7, 4, 167, 0, 4, 3]
abbrev dktX2_stop_0 : List UInt8 := dkwX2_stop_0 ++ dktX2_stop_1
theorem dksX2_stop_0 : cX2_stop.data.toList.drop 0 = dktX2_stop_0 := by decide +kernel
theorem dksX2_stop_1 : cX2_stop.data.toList.drop 24 = dktX2_stop_1 := dk_seg dksX2_stop_0 24 rfl rfl
theorem dksX2_stop_2 : cX2_stop.data.toList.drop 48 = dktX2_stop_2 := dk_seg dksX2_stop_1 24 rfl rfl
theorem dksX2_stop_3 : cX2_stop.data.toList.drop 72 = dktX2_stop_3 := dk_seg dksX2_stop_2 24 rfl rfl
theorem dksX2_stop_4 : cX2_stop.data.toList.drop 96 = dktX2_stop_4 := dk_seg dksX2_stop_3 24 rfl rfl
theorem dX2_stop_0 : decode cX2_stop 0 = .ok (.aload_n 0, 1) := dk_42 (dk_at dksX2_stop_0 0 rfl rfl)
theorem dX2_stop_1 : decode cX2_stop 1 = .ok (.invokevirtual 102, 3) := dk_182 0 102 (dk_at dksX2_stop_0 1 rfl rfl)
theorem dX2_stop_4 : decode cX2_stop 4 = .ok (.aload_n 0, 1) := dk_42 (dk_at dksX2_stop_0 4 rfl rfl)
theorem dX2_stop_5 : decode cX2_stop 5 = .ok (.aload_n 0, 1) := dk_42 (dk_at dksX2_stop_0 5 rfl rfl)
theorem dX2_stop_6 : decode cX2_stop 6 = .ok (.getfield 7, 3) := dk_180 0 7 (dk_at dksX2_stop_0 6 rfl rfl)
theorem dX2_stop_9 : decode cX2_stop 9 = .ok (.iconst 1, 1) := dk_4 (dk_at dksX2_stop_0 9 rfl rfl)
theorem dX2_stop_10 : decode cX2_stop 10 = .ok (.iaload, 1) := dk_46 (dk_at dksX2_stop_0 10 rfl rfl)
theorem dX2_stop_11 : decode cX2_stop 11 = .ok (.invokevirtual 144, 3) := dk_182 0 144 (dk_at dksX2_stop_0 11 rfl rfl)
theorem dX2_stop_14 : decode cX2_stop 14 = .ok (.istore_n 1, 1) := dk_60 (dk_at dksX2_stop_0 14 rfl rfl)
theorem dX2_stop_15 : decode cX2_stop 15 = .ok (.iload_n 1, 1) := dk_27 (dk_at dksX2_stop_0 15 rfl rfl)
theorem dX2_stop_16 : decode cX2_stop 16 = .ok (.ifCond .ne 7, 3) := dk_154 0 7 (dk_at dksX2_stop_0 16 rfl rfl)
theorem dX2_stop_19 : decode cX2_stop 19 = .ok (.iconst 1, 1) := dk_4 (dk_at dksX2_stop_0 19 rfl rfl)
theorem dX2_stop_20 : decode cX2_stop 20 = .ok (.goto 4, 3) := dk_167 0 4 (dk_at dksX2_stop_0 20 rfl rfl)
theorem dX2_stop_23 : decode cX2_stop 23 = .ok (.iconst 0, 1) := dk_3 (dk_at dksX2_stop_0 23 rfl rfl)
theorem dX2_stop_24 : decode cX2_stop 24 = .ok (.istore_n 2, 1) := dk_61 (dk_at dksX2_stop_1 0 rfl rfl)
theorem dX2_stop_25 : decode cX2_stop 25 = .ok (.aload_n 0, 1) := dk_42 (dk_at dksX2_stop_1 1 rfl rfl)
theorem dX2_stop_26 : decode cX2_stop 26 = .ok (.getfield 7, 3) := dk_180 0 7 (dk_at dksX2_stop_1 2 rfl rfl)
theorem dX2_stop_29 : decode cX2_stop 29 = .ok (.bipush 6, 2) := dk_16 6 (dk_at dksX2_stop_1 5 rfl rfl)
theorem dX2_stop_31 : decode cX2_stop 31 = .ok (.dup2, 1) := dk_92 (dk_at dksX2_stop_1 7 rfl rfl)
theorem dX2_stop_32 : decode cX2_stop 32 = .ok (.iaload, 1) := dk_46 (dk_at dksX2_stop_1 8 rfl rfl)
theorem dX2_stop_33 : decode cX2_stop 33 = .ok (.iconst 1, 1) := dk_4 (dk_at dksX2_stop_1 9 rfl rfl)
theorem dX2_stop_34 : decode cX2_stop 34 = .ok (.iadd, 1) := dk_96 (dk_at dksX2_stop_1 10 rfl rfl)
theorem dX2_stop_35 : decode cX2_stop 35 = .ok (.iastore, 1) := dk_79 (dk_at dksX2_stop_1 11 rfl rfl)
theorem dX2_stop_36 : decode cX2_stop 36 = .ok (.aload_n 0, 1) := dk_42 (dk_at dksX2_stop_1 12 rfl rfl)
theorem dX2_stop_37 : decode cX2_stop 37 = .ok (.getfield 7, 3) := dk_180 0 7 (dk_at dksX2_stop_1 13 rfl rfl)
theorem dX2_stop_40 : decode cX2_stop 40 = .ok (.bipush 7, 2) := dk_16 7 (dk_at dksX2_stop_1 16 rfl rfl)
theorem dX2_stop_42 : decode cX2_stop 42 = .ok (.dup2, 1) := dk_92 (dk_at dksX2_stop_1 18 rfl rfl)
theorem dX2_stop_43 : decode cX2_stop 43 = .ok (.iaload, 1) := dk_46 (dk_at dksX2_stop_1 19 rfl rfl)
theorem dX2_stop_44 : decode cX2_stop 44 = .ok (.iload_n 2, 1) := dk_28 (dk_at dksX2_stop_1 20 rfl rfl)
theorem dX2_stop_45 : decode cX2_stop 45 = .ok (.iadd, 1) := dk_96 (dk_at dksX2_stop_1 21 rfl rfl)
theorem dX2_stop_46 : decode cX2_stop 46 = .ok (.iastore, 1) := dk_79 (dk_at dksX2_stop_1 22 rfl rfl)
theorem dX2_stop_47 : decode cX2_stop 47 = .ok (.aload_n 0, 1) := dk_42 (dk_at dksX2_stop_1 23 rfl rfl)
theorem dX2_stop_48 : decode cX2_stop 48 = .ok (.getfield 7, 3) := dk_180 0 7 (dk_at dksX2_stop_2 0 rfl rfl)
theorem dX2_stop_51 : decode cX2_stop 51 = .ok (.iconst 3, 1) := dk_6 (dk_at dksX2_stop_2 3 rfl rfl)
theorem dX2_stop_52 : decode cX2_stop 52 = .ok (.iaload, 1) := dk_46 (dk_at dksX2_stop_2 4 rfl rfl)
theorem dX2_stop_53 : decode cX2_stop 53 = .ok (.ifCond .lt 49, 3) := dk_155 0 49 (dk_at dksX2_stop_2 5 rfl rfl)
theorem dX2_stop_56 : decode cX2_stop 56 = .ok (.aload_n 0, 1) := dk_42 (dk_at dksX2_stop_2 8 rfl rfl)
theorem dX2_stop_57 : decode cX2_stop 57 = .ok (.getfield 7, 3) := dk_180 0 7 (dk_at dksX2_stop_2 9 rfl rfl)
theorem dX2_stop_60 : decode cX2_stop 60 = .ok (.sipush 351, 3) := dk_17 1 95 (dk_at dksX2_stop_2 12 rfl rfl)
theorem dX2_stop_63 : decode cX2_stop 63 = .ok (.iconst 3, 1) := dk_6 (dk_at dksX2_stop_2 15 rfl rfl)
theorem dX2_stop_64 : decode cX2_stop 64 = .ok (.aload_n 0, 1) := dk_42 (dk_at dksX2_stop_2 16 rfl rfl)
theorem dX2_stop_65 : decode cX2_stop 65 = .ok (.getfield 7, 3) := dk_180 0 7 (dk_at dksX2_stop_2 17 rfl rfl)
theorem dX2_stop_68 : decode cX2_stop 68 = .ok (.iconst 3, 1) := dk_6 (dk_at dksX2_stop_2 20 rfl rfl)
theorem dX2_stop_69 : decode cX2_stop 69 = .ok (.iaload, 1) := dk_46 (dk_at dksX2_stop_2 21 rfl rfl)
theorem dX2_stop_70 : decode cX2_stop 70 = .ok (.imul, 1) := dk_104 (dk_at dksX2_stop_2 22 rfl rfl)
theorem dX2_stop_71 : decode cX2_stop 71 = .ok (.iadd, 1) := dk_96 (dk_at dksX2_stop_2 23 rfl rfl)
theorem dX2_stop_72 : decode cX2_stop 72 = .ok (.iconst 1, 1) := dk_4 (dk_at dksX2_stop_3 0 rfl rfl)
theorem dX2_stop_73 : decode cX2_stop 73 = .ok (.iadd, 1) := dk_96 (dk_at dksX2_stop_3 1 rfl rfl)
theorem dX2_stop_74 : decode cX2_stop 74 = .ok (.dup2, 1) := dk_92 (dk_at dksX2_stop_3 2 rfl rfl)
theorem dX2_stop_75 : decode cX2_stop 75 = .ok (.iaload, 1) := dk_46 (dk_at dksX2_stop_3 3 rfl rfl)
theorem dX2_stop_76 : decode cX2_stop 76 = .ok (.iconst 1, 1) := dk_4 (dk_at dksX2_stop_3 4 rfl rfl)
theorem dX2_stop_77 : decode cX2_stop 77 = .ok (.iadd, 1) := dk_96 (dk_at dksX2_stop_3 5 rfl rfl)
theorem dX2_stop_78 : decode cX2_stop 78 = .ok (.iastore, 1) := dk_79 (dk_at dksX2_stop_3 6 rfl rfl)
theorem dX2_stop_79 : decode cX2_stop 79 = .ok (.aload_n 0, 1) := dk_42 (dk_at dksX2_stop_3 7 rfl rfl)
theorem dX2_stop_80 : decode cX2_stop 80 = .ok (.getfield 7, 3) := dk_180 0 7 (dk_at dksX2_stop_3 8 rfl rfl)
theorem dX2_stop_83 : decode cX2_stop 83 = .ok (.sipush 351, 3) := dk_17 1 95 (dk_at dksX2_stop_3 11 rfl rfl)
theorem dX2_stop_86 : decode cX2_stop 86 = .ok (.iconst 3, 1) := dk_6 (dk_at dksX2_stop_3 14 rfl rfl)
theorem dX2_stop_87 : decode cX2_stop 87 = .ok (.aload_n 0, 1) := dk_42 (dk_at dksX2_stop_3 15 rfl rfl)
theorem dX2_stop_88 : decode cX2_stop 88 = .ok (.getfield 7, 3) := dk_180 0 7 (dk_at dksX2_stop_3 16 rfl rfl)
theorem dX2_stop_91 : decode cX2_stop 91 = .ok (.iconst 3, 1) := dk_6 (dk_at dksX2_stop_3 19 rfl rfl)
theorem dX2_stop_92 : decode cX2_stop 92 = .ok (.iaload, 1) := dk_46 (dk_at dksX2_stop_3 20 rfl rfl)
theorem dX2_stop_93 : decode cX2_stop 93 = .ok (.imul, 1) := dk_104 (dk_at dksX2_stop_3 21 rfl rfl)
theorem dX2_stop_94 : decode cX2_stop 94 = .ok (.iadd, 1) := dk_96 (dk_at dksX2_stop_3 22 rfl rfl)
theorem dX2_stop_95 : decode cX2_stop 95 = .ok (.iconst 2, 1) := dk_5 (dk_at dksX2_stop_3 23 rfl rfl)
theorem dX2_stop_96 : decode cX2_stop 96 = .ok (.iadd, 1) := dk_96 (dk_at dksX2_stop_4 0 rfl rfl)
theorem dX2_stop_97 : decode cX2_stop 97 = .ok (.dup2, 1) := dk_92 (dk_at dksX2_stop_4 1 rfl rfl)
theorem dX2_stop_98 : decode cX2_stop 98 = .ok (.iaload, 1) := dk_46 (dk_at dksX2_stop_4 2 rfl rfl)
theorem dX2_stop_99 : decode cX2_stop 99 = .ok (.iload_n 2, 1) := dk_28 (dk_at dksX2_stop_4 3 rfl rfl)
theorem dX2_stop_100 : decode cX2_stop 100 = .ok (.iadd, 1) := dk_96 (dk_at dksX2_stop_4 4 rfl rfl)
theorem dX2_stop_101 : decode cX2_stop 101 = .ok (.iastore, 1) := dk_79 (dk_at dksX2_stop_4 5 rfl rfl)
theorem dX2_stop_102 : decode cX2_stop 102 = .ok (.iload_n 1, 1) := dk_27 (dk_at dksX2_stop_4 6 rfl rfl)
theorem dX2_stop_103 : decode cX2_stop 103 = .ok (.ireturn, 1) := dk_172 (dk_at dksX2_stop_4 7 rfl rfl)
abbrev cX2_wrongBy : ByteArray := prog_12_method_36_code
def yX2_wrongBy : MethodName := ⟨RX2, "wrongBy", "(I)I"⟩
def dkwX2_wrongBy_4 : List UInt8 := [16, 120, 164, 0, 7, 8, 167, 0, 4, 3, 172]
abbrev dktX2_wrongBy_4 : List UInt8 := dkwX2_wrongBy_4 ++ []
def dkwX2_wrongBy_3 : List UInt8 := [154, 0, 14, 42, 27, 182, 0, 138, 5, 159, 0, 5, 7, 172, 42, 42, 27, 182, 0, 141, 182, 0, 79]
abbrev dktX2_wrongBy_3 : List UInt8 := dkwX2_wrongBy_3 ++ dktX2_wrongBy_4
def dkwX2_wrongBy_2 : List UInt8 := [180, 0, 7, 6, 46, 155, 0, 32, 42, 42, 180, 0, 7, 6, 46, 3, 182, 0, 109, 27, 122, 4, 126]
abbrev dktX2_wrongBy_2 : List UInt8 := dkwX2_wrongBy_2 ++ dktX2_wrongBy_3
def dkwX2_wrongBy_1 : List UInt8 := [156, 0, 23, 42, 27, 182, 0, 138, 4, 159, 0, 14, 42, 27, 182, 0, 138, 5, 159, 0, 5, 6, 172, 42]
abbrev dktX2_wrongBy_1 : List UInt8 := dkwX2_wrongBy_1 ++ dktX2_wrongBy_2
def dkwX2_wrongBy_0 : List UInt8 := [27, 156, 0, 5, 4, 172, 42, 27, 182, 0, 115, 153, 0, 5, 5, 172, 42, 180, 0, 7, 6, 46]
abbrev dktX2_wrongBy_0 : List UInt8 := dkwX2_wrongBy_0 ++ dktX2_wrongBy_1
theorem dksX2_wrongBy_0 : cX2_wrongBy.data.toList.drop 0 = dktX2_wrongBy_0 := by decide +kernel
theorem dksX2_wrongBy_1 : cX2_wrongBy.data.toList.drop 22 = dktX2_wrongBy_1 := dk_seg dksX2_wrongBy_0 22 rfl rfl
theorem dksX2_wrongBy_2 : cX2_wrongBy.data.toList.drop 46 = dktX2_wrongBy_2 := dk_seg dksX2_wrongBy_1 24 rfl rfl
theorem dksX2_wrongBy_3 : cX2_wrongBy.data.toList.drop 69 = dktX2_wrongBy_3 := dk_seg dksX2_wrongBy_2 23 rfl rfl
theorem dksX2_wrongBy_4 : cX2_wrongBy.data.toList.drop 92 = dktX2_wrongBy_4 := dk_seg dksX2_wrongBy_3 23 rfl rfl
theorem dX2_wrongBy_0 : decode cX2_wrongBy 0 = .ok (.iload_n 1, 1) := dk_27 (dk_at dksX2_wrongBy_0 0 rfl rfl)
theorem dX2_wrongBy_1 : decode cX2_wrongBy 1 = .ok (.ifCond .ge 5, 3) := dk_156 0 5 (dk_at dksX2_wrongBy_0 1 rfl rfl)
theorem dX2_wrongBy_4 : decode cX2_wrongBy 4 = .ok (.iconst 1, 1) := dk_4 (dk_at dksX2_wrongBy_0 4 rfl rfl)
theorem dX2_wrongBy_5 : decode cX2_wrongBy 5 = .ok (.ireturn, 1) := dk_172 (dk_at dksX2_wrongBy_0 5 rfl rfl)
theorem dX2_wrongBy_6 : decode cX2_wrongBy 6 = .ok (.aload_n 0, 1) := dk_42 (dk_at dksX2_wrongBy_0 6 rfl rfl)
theorem dX2_wrongBy_7 : decode cX2_wrongBy 7 = .ok (.iload_n 1, 1) := dk_27 (dk_at dksX2_wrongBy_0 7 rfl rfl)
theorem dX2_wrongBy_8 : decode cX2_wrongBy 8 = .ok (.invokevirtual 115, 3) := dk_182 0 115 (dk_at dksX2_wrongBy_0 8 rfl rfl)
theorem dX2_wrongBy_11 : decode cX2_wrongBy 11 = .ok (.ifCond .eq 5, 3) := dk_153 0 5 (dk_at dksX2_wrongBy_0 11 rfl rfl)
theorem dX2_wrongBy_14 : decode cX2_wrongBy 14 = .ok (.iconst 2, 1) := dk_5 (dk_at dksX2_wrongBy_0 14 rfl rfl)
theorem dX2_wrongBy_15 : decode cX2_wrongBy 15 = .ok (.ireturn, 1) := dk_172 (dk_at dksX2_wrongBy_0 15 rfl rfl)
theorem dX2_wrongBy_16 : decode cX2_wrongBy 16 = .ok (.aload_n 0, 1) := dk_42 (dk_at dksX2_wrongBy_0 16 rfl rfl)
theorem dX2_wrongBy_17 : decode cX2_wrongBy 17 = .ok (.getfield 7, 3) := dk_180 0 7 (dk_at dksX2_wrongBy_0 17 rfl rfl)
theorem dX2_wrongBy_20 : decode cX2_wrongBy 20 = .ok (.iconst 3, 1) := dk_6 (dk_at dksX2_wrongBy_0 20 rfl rfl)
theorem dX2_wrongBy_21 : decode cX2_wrongBy 21 = .ok (.iaload, 1) := dk_46 (dk_at dksX2_wrongBy_0 21 rfl rfl)
theorem dX2_wrongBy_22 : decode cX2_wrongBy 22 = .ok (.ifCond .ge 23, 3) := dk_156 0 23 (dk_at dksX2_wrongBy_1 0 rfl rfl)
theorem dX2_wrongBy_25 : decode cX2_wrongBy 25 = .ok (.aload_n 0, 1) := dk_42 (dk_at dksX2_wrongBy_1 3 rfl rfl)
theorem dX2_wrongBy_26 : decode cX2_wrongBy 26 = .ok (.iload_n 1, 1) := dk_27 (dk_at dksX2_wrongBy_1 4 rfl rfl)
theorem dX2_wrongBy_27 : decode cX2_wrongBy 27 = .ok (.invokevirtual 138, 3) := dk_182 0 138 (dk_at dksX2_wrongBy_1 5 rfl rfl)
theorem dX2_wrongBy_30 : decode cX2_wrongBy 30 = .ok (.iconst 1, 1) := dk_4 (dk_at dksX2_wrongBy_1 8 rfl rfl)
theorem dX2_wrongBy_31 : decode cX2_wrongBy 31 = .ok (.if_icmp .eq 14, 3) := dk_159 0 14 (dk_at dksX2_wrongBy_1 9 rfl rfl)
theorem dX2_wrongBy_34 : decode cX2_wrongBy 34 = .ok (.aload_n 0, 1) := dk_42 (dk_at dksX2_wrongBy_1 12 rfl rfl)
theorem dX2_wrongBy_35 : decode cX2_wrongBy 35 = .ok (.iload_n 1, 1) := dk_27 (dk_at dksX2_wrongBy_1 13 rfl rfl)
theorem dX2_wrongBy_36 : decode cX2_wrongBy 36 = .ok (.invokevirtual 138, 3) := dk_182 0 138 (dk_at dksX2_wrongBy_1 14 rfl rfl)
theorem dX2_wrongBy_39 : decode cX2_wrongBy 39 = .ok (.iconst 2, 1) := dk_5 (dk_at dksX2_wrongBy_1 17 rfl rfl)
theorem dX2_wrongBy_40 : decode cX2_wrongBy 40 = .ok (.if_icmp .eq 5, 3) := dk_159 0 5 (dk_at dksX2_wrongBy_1 18 rfl rfl)
theorem dX2_wrongBy_43 : decode cX2_wrongBy 43 = .ok (.iconst 3, 1) := dk_6 (dk_at dksX2_wrongBy_1 21 rfl rfl)
theorem dX2_wrongBy_44 : decode cX2_wrongBy 44 = .ok (.ireturn, 1) := dk_172 (dk_at dksX2_wrongBy_1 22 rfl rfl)
theorem dX2_wrongBy_45 : decode cX2_wrongBy 45 = .ok (.aload_n 0, 1) := dk_42 (dk_at dksX2_wrongBy_1 23 rfl rfl)
theorem dX2_wrongBy_46 : decode cX2_wrongBy 46 = .ok (.getfield 7, 3) := dk_180 0 7 (dk_at dksX2_wrongBy_2 0 rfl rfl)
theorem dX2_wrongBy_49 : decode cX2_wrongBy 49 = .ok (.iconst 3, 1) := dk_6 (dk_at dksX2_wrongBy_2 3 rfl rfl)
theorem dX2_wrongBy_50 : decode cX2_wrongBy 50 = .ok (.iaload, 1) := dk_46 (dk_at dksX2_wrongBy_2 4 rfl rfl)
theorem dX2_wrongBy_51 : decode cX2_wrongBy 51 = .ok (.ifCond .lt 32, 3) := dk_155 0 32 (dk_at dksX2_wrongBy_2 5 rfl rfl)
theorem dX2_wrongBy_54 : decode cX2_wrongBy 54 = .ok (.aload_n 0, 1) := dk_42 (dk_at dksX2_wrongBy_2 8 rfl rfl)
theorem dX2_wrongBy_55 : decode cX2_wrongBy 55 = .ok (.aload_n 0, 1) := dk_42 (dk_at dksX2_wrongBy_2 9 rfl rfl)
theorem dX2_wrongBy_56 : decode cX2_wrongBy 56 = .ok (.getfield 7, 3) := dk_180 0 7 (dk_at dksX2_wrongBy_2 10 rfl rfl)
theorem dX2_wrongBy_59 : decode cX2_wrongBy 59 = .ok (.iconst 3, 1) := dk_6 (dk_at dksX2_wrongBy_2 13 rfl rfl)
theorem dX2_wrongBy_60 : decode cX2_wrongBy 60 = .ok (.iaload, 1) := dk_46 (dk_at dksX2_wrongBy_2 14 rfl rfl)
theorem dX2_wrongBy_61 : decode cX2_wrongBy 61 = .ok (.iconst 0, 1) := dk_3 (dk_at dksX2_wrongBy_2 15 rfl rfl)
theorem dX2_wrongBy_62 : decode cX2_wrongBy 62 = .ok (.invokevirtual 109, 3) := dk_182 0 109 (dk_at dksX2_wrongBy_2 16 rfl rfl)
theorem dX2_wrongBy_65 : decode cX2_wrongBy 65 = .ok (.iload_n 1, 1) := dk_27 (dk_at dksX2_wrongBy_2 19 rfl rfl)
theorem dX2_wrongBy_66 : decode cX2_wrongBy 66 = .ok (.ishr, 1) := dk_122 (dk_at dksX2_wrongBy_2 20 rfl rfl)
theorem dX2_wrongBy_67 : decode cX2_wrongBy 67 = .ok (.iconst 1, 1) := dk_4 (dk_at dksX2_wrongBy_2 21 rfl rfl)
theorem dX2_wrongBy_68 : decode cX2_wrongBy 68 = .ok (.iand, 1) := dk_126 (dk_at dksX2_wrongBy_2 22 rfl rfl)
theorem dX2_wrongBy_69 : decode cX2_wrongBy 69 = .ok (.ifCond .ne 14, 3) := dk_154 0 14 (dk_at dksX2_wrongBy_3 0 rfl rfl)
theorem dX2_wrongBy_72 : decode cX2_wrongBy 72 = .ok (.aload_n 0, 1) := dk_42 (dk_at dksX2_wrongBy_3 3 rfl rfl)
theorem dX2_wrongBy_73 : decode cX2_wrongBy 73 = .ok (.iload_n 1, 1) := dk_27 (dk_at dksX2_wrongBy_3 4 rfl rfl)
theorem dX2_wrongBy_74 : decode cX2_wrongBy 74 = .ok (.invokevirtual 138, 3) := dk_182 0 138 (dk_at dksX2_wrongBy_3 5 rfl rfl)
theorem dX2_wrongBy_77 : decode cX2_wrongBy 77 = .ok (.iconst 2, 1) := dk_5 (dk_at dksX2_wrongBy_3 8 rfl rfl)
theorem dX2_wrongBy_78 : decode cX2_wrongBy 78 = .ok (.if_icmp .eq 5, 3) := dk_159 0 5 (dk_at dksX2_wrongBy_3 9 rfl rfl)
theorem dX2_wrongBy_81 : decode cX2_wrongBy 81 = .ok (.iconst 4, 1) := dk_7 (dk_at dksX2_wrongBy_3 12 rfl rfl)
theorem dX2_wrongBy_82 : decode cX2_wrongBy 82 = .ok (.ireturn, 1) := dk_172 (dk_at dksX2_wrongBy_3 13 rfl rfl)
theorem dX2_wrongBy_83 : decode cX2_wrongBy 83 = .ok (.aload_n 0, 1) := dk_42 (dk_at dksX2_wrongBy_3 14 rfl rfl)
theorem dX2_wrongBy_84 : decode cX2_wrongBy 84 = .ok (.aload_n 0, 1) := dk_42 (dk_at dksX2_wrongBy_3 15 rfl rfl)
theorem dX2_wrongBy_85 : decode cX2_wrongBy 85 = .ok (.iload_n 1, 1) := dk_27 (dk_at dksX2_wrongBy_3 16 rfl rfl)
theorem dX2_wrongBy_86 : decode cX2_wrongBy 86 = .ok (.invokevirtual 141, 3) := dk_182 0 141 (dk_at dksX2_wrongBy_3 17 rfl rfl)
theorem dX2_wrongBy_89 : decode cX2_wrongBy 89 = .ok (.invokevirtual 79, 3) := dk_182 0 79 (dk_at dksX2_wrongBy_3 20 rfl rfl)
theorem dX2_wrongBy_92 : decode cX2_wrongBy 92 = .ok (.bipush 120, 2) := dk_16 120 (dk_at dksX2_wrongBy_4 0 rfl rfl)
theorem dX2_wrongBy_94 : decode cX2_wrongBy 94 = .ok (.if_icmp .le 7, 3) := dk_164 0 7 (dk_at dksX2_wrongBy_4 2 rfl rfl)
theorem dX2_wrongBy_97 : decode cX2_wrongBy 97 = .ok (.iconst 5, 1) := dk_8 (dk_at dksX2_wrongBy_4 5 rfl rfl)
theorem dX2_wrongBy_98 : decode cX2_wrongBy 98 = .ok (.goto 4, 3) := dk_167 0 4 (dk_at dksX2_wrongBy_4 6 rfl rfl)
theorem dX2_wrongBy_101 : decode cX2_wrongBy 101 = .ok (.iconst 0, 1) := dk_3 (dk_at dksX2_wrongBy_4 9 rfl rfl)
theorem dX2_wrongBy_102 : decode cX2_wrongBy 102 = .ok (.ireturn, 1) := dk_172 (dk_at dksX2_wrongBy_4 10 rfl rfl)
abbrev cX2_kind : ByteArray := prog_12_method_16_code
def yX2_kind : MethodName := ⟨RX2, "kind", "(I)I"⟩
def dkwX2_kind_2 : List UInt8 := [160, 0, 7, 7, 167, 0, 4, 3, 172]
abbrev dktX2_kind_2 : List UInt8 := dkwX2_kind_2 ++ []
def dkwX2_kind_1 : List UInt8 := [5, 172, 42, 27, 20, 0, 44, 182, 0, 38, 153, 0, 5, 6, 172, 42, 27, 3, 182, 0, 26, 4]
abbrev dktX2_kind_1 : List UInt8 := dkwX2_kind_1 ++ dktX2_kind_2
def dkwX2_kind_0 : List UInt8 := [42, 27, 20, 0, 36, 182, 0, 38, 153, 0, 5, 4, 172, 42, 27, 20, 0, 42, 182, 0, 38, 153, 0, 5]
abbrev dktX2_kind_0 : List UInt8 := dkwX2_kind_0 ++ dktX2_kind_1
theorem dksX2_kind_0 : cX2_kind.data.toList.drop 0 = dktX2_kind_0 := by decide +kernel
theorem dksX2_kind_1 : cX2_kind.data.toList.drop 24 = dktX2_kind_1 := dk_seg dksX2_kind_0 24 rfl rfl
theorem dksX2_kind_2 : cX2_kind.data.toList.drop 46 = dktX2_kind_2 := dk_seg dksX2_kind_1 22 rfl rfl
theorem dX2_kind_0 : decode cX2_kind 0 = .ok (.aload_n 0, 1) := dk_42 (dk_at dksX2_kind_0 0 rfl rfl)
theorem dX2_kind_1 : decode cX2_kind 1 = .ok (.iload_n 1, 1) := dk_27 (dk_at dksX2_kind_0 1 rfl rfl)
theorem dX2_kind_2 : decode cX2_kind 2 = .ok (.ldc2_w 36, 3) := dk_20 0 36 (dk_at dksX2_kind_0 2 rfl rfl)
theorem dX2_kind_5 : decode cX2_kind 5 = .ok (.invokevirtual 38, 3) := dk_182 0 38 (dk_at dksX2_kind_0 5 rfl rfl)
theorem dX2_kind_8 : decode cX2_kind 8 = .ok (.ifCond .eq 5, 3) := dk_153 0 5 (dk_at dksX2_kind_0 8 rfl rfl)
theorem dX2_kind_11 : decode cX2_kind 11 = .ok (.iconst 1, 1) := dk_4 (dk_at dksX2_kind_0 11 rfl rfl)
theorem dX2_kind_12 : decode cX2_kind 12 = .ok (.ireturn, 1) := dk_172 (dk_at dksX2_kind_0 12 rfl rfl)
theorem dX2_kind_13 : decode cX2_kind 13 = .ok (.aload_n 0, 1) := dk_42 (dk_at dksX2_kind_0 13 rfl rfl)
theorem dX2_kind_14 : decode cX2_kind 14 = .ok (.iload_n 1, 1) := dk_27 (dk_at dksX2_kind_0 14 rfl rfl)
theorem dX2_kind_15 : decode cX2_kind 15 = .ok (.ldc2_w 42, 3) := dk_20 0 42 (dk_at dksX2_kind_0 15 rfl rfl)
theorem dX2_kind_18 : decode cX2_kind 18 = .ok (.invokevirtual 38, 3) := dk_182 0 38 (dk_at dksX2_kind_0 18 rfl rfl)
theorem dX2_kind_21 : decode cX2_kind 21 = .ok (.ifCond .eq 5, 3) := dk_153 0 5 (dk_at dksX2_kind_0 21 rfl rfl)
theorem dX2_kind_24 : decode cX2_kind 24 = .ok (.iconst 2, 1) := dk_5 (dk_at dksX2_kind_1 0 rfl rfl)
theorem dX2_kind_25 : decode cX2_kind 25 = .ok (.ireturn, 1) := dk_172 (dk_at dksX2_kind_1 1 rfl rfl)
theorem dX2_kind_26 : decode cX2_kind 26 = .ok (.aload_n 0, 1) := dk_42 (dk_at dksX2_kind_1 2 rfl rfl)
theorem dX2_kind_27 : decode cX2_kind 27 = .ok (.iload_n 1, 1) := dk_27 (dk_at dksX2_kind_1 3 rfl rfl)
theorem dX2_kind_28 : decode cX2_kind 28 = .ok (.ldc2_w 44, 3) := dk_20 0 44 (dk_at dksX2_kind_1 4 rfl rfl)
theorem dX2_kind_31 : decode cX2_kind 31 = .ok (.invokevirtual 38, 3) := dk_182 0 38 (dk_at dksX2_kind_1 7 rfl rfl)
theorem dX2_kind_34 : decode cX2_kind 34 = .ok (.ifCond .eq 5, 3) := dk_153 0 5 (dk_at dksX2_kind_1 10 rfl rfl)
theorem dX2_kind_37 : decode cX2_kind 37 = .ok (.iconst 3, 1) := dk_6 (dk_at dksX2_kind_1 13 rfl rfl)
theorem dX2_kind_38 : decode cX2_kind 38 = .ok (.ireturn, 1) := dk_172 (dk_at dksX2_kind_1 14 rfl rfl)
theorem dX2_kind_39 : decode cX2_kind 39 = .ok (.aload_n 0, 1) := dk_42 (dk_at dksX2_kind_1 15 rfl rfl)
theorem dX2_kind_40 : decode cX2_kind 40 = .ok (.iload_n 1, 1) := dk_27 (dk_at dksX2_kind_1 16 rfl rfl)
theorem dX2_kind_41 : decode cX2_kind 41 = .ok (.iconst 0, 1) := dk_3 (dk_at dksX2_kind_1 17 rfl rfl)
theorem dX2_kind_42 : decode cX2_kind 42 = .ok (.invokevirtual 26, 3) := dk_182 0 26 (dk_at dksX2_kind_1 18 rfl rfl)
theorem dX2_kind_45 : decode cX2_kind 45 = .ok (.iconst 1, 1) := dk_4 (dk_at dksX2_kind_1 21 rfl rfl)
theorem dX2_kind_46 : decode cX2_kind 46 = .ok (.if_icmp .ne 7, 3) := dk_160 0 7 (dk_at dksX2_kind_2 0 rfl rfl)
theorem dX2_kind_49 : decode cX2_kind 49 = .ok (.iconst 4, 1) := dk_7 (dk_at dksX2_kind_2 3 rfl rfl)
theorem dX2_kind_50 : decode cX2_kind 50 = .ok (.goto 4, 3) := dk_167 0 4 (dk_at dksX2_kind_2 4 rfl rfl)
theorem dX2_kind_53 : decode cX2_kind 53 = .ok (.iconst 0, 1) := dk_3 (dk_at dksX2_kind_2 7 rfl rfl)
theorem dX2_kind_54 : decode cX2_kind 54 = .ok (.ireturn, 1) := dk_172 (dk_at dksX2_kind_2 8 rfl rfl)
abbrev cX2_isName : ByteArray := prog_12_method_15_code
def yX2_isName : MethodName := ⟨RX2, "isName", "(IJ)Z"⟩
def dkwX2_isName_2 : List UInt8 := [148, 154, 0, 7, 4, 167, 0, 4, 3, 172]
abbrev dktX2_isName_2 : List UInt8 := dkwX2_isName_2 ++ []
def dkwX2_isName_1 : List UInt8 := [27, 6, 21, 6, 96, 182, 0, 26, 16, 32, 112, 133, 97, 55, 4, 132, 6, 1, 167, 255, 220, 22, 4, 32]
abbrev dktX2_isName_1 : List UInt8 := dkwX2_isName_1 ++ dktX2_isName_2
def dkwX2_isName_0 : List UInt8 := [9, 55, 4, 3, 54, 6, 21, 6, 42, 27, 3, 182, 0, 26, 162, 0, 31, 20, 0, 34, 22, 4, 105, 42]
abbrev dktX2_isName_0 : List UInt8 := dkwX2_isName_0 ++ dktX2_isName_1
theorem dksX2_isName_0 : cX2_isName.data.toList.drop 0 = dktX2_isName_0 := by decide +kernel
theorem dksX2_isName_1 : cX2_isName.data.toList.drop 24 = dktX2_isName_1 := dk_seg dksX2_isName_0 24 rfl rfl
theorem dksX2_isName_2 : cX2_isName.data.toList.drop 48 = dktX2_isName_2 := dk_seg dksX2_isName_1 24 rfl rfl
theorem dX2_isName_0 : decode cX2_isName 0 = .ok (.lconst 0, 1) := dk_9 (dk_at dksX2_isName_0 0 rfl rfl)
theorem dX2_isName_1 : decode cX2_isName 1 = .ok (.lstore 4, 2) := dk_55 4 (dk_at dksX2_isName_0 1 rfl rfl)
theorem dX2_isName_3 : decode cX2_isName 3 = .ok (.iconst 0, 1) := dk_3 (dk_at dksX2_isName_0 3 rfl rfl)
theorem dX2_isName_4 : decode cX2_isName 4 = .ok (.istore 6, 2) := dk_54 6 (dk_at dksX2_isName_0 4 rfl rfl)
theorem dX2_isName_6 : decode cX2_isName 6 = .ok (.iload 6, 2) := dk_21 6 (dk_at dksX2_isName_0 6 rfl rfl)
theorem dX2_isName_8 : decode cX2_isName 8 = .ok (.aload_n 0, 1) := dk_42 (dk_at dksX2_isName_0 8 rfl rfl)
theorem dX2_isName_9 : decode cX2_isName 9 = .ok (.iload_n 1, 1) := dk_27 (dk_at dksX2_isName_0 9 rfl rfl)
theorem dX2_isName_10 : decode cX2_isName 10 = .ok (.iconst 0, 1) := dk_3 (dk_at dksX2_isName_0 10 rfl rfl)
theorem dX2_isName_11 : decode cX2_isName 11 = .ok (.invokevirtual 26, 3) := dk_182 0 26 (dk_at dksX2_isName_0 11 rfl rfl)
theorem dX2_isName_14 : decode cX2_isName 14 = .ok (.if_icmp .ge 31, 3) := dk_162 0 31 (dk_at dksX2_isName_0 14 rfl rfl)
theorem dX2_isName_17 : decode cX2_isName 17 = .ok (.ldc2_w 34, 3) := dk_20 0 34 (dk_at dksX2_isName_0 17 rfl rfl)
theorem dX2_isName_20 : decode cX2_isName 20 = .ok (.lload 4, 2) := dk_22 4 (dk_at dksX2_isName_0 20 rfl rfl)
theorem dX2_isName_22 : decode cX2_isName 22 = .ok (.lmul, 1) := dk_105 (dk_at dksX2_isName_0 22 rfl rfl)
theorem dX2_isName_23 : decode cX2_isName 23 = .ok (.aload_n 0, 1) := dk_42 (dk_at dksX2_isName_0 23 rfl rfl)
theorem dX2_isName_24 : decode cX2_isName 24 = .ok (.iload_n 1, 1) := dk_27 (dk_at dksX2_isName_1 0 rfl rfl)
theorem dX2_isName_25 : decode cX2_isName 25 = .ok (.iconst 3, 1) := dk_6 (dk_at dksX2_isName_1 1 rfl rfl)
theorem dX2_isName_26 : decode cX2_isName 26 = .ok (.iload 6, 2) := dk_21 6 (dk_at dksX2_isName_1 2 rfl rfl)
theorem dX2_isName_28 : decode cX2_isName 28 = .ok (.iadd, 1) := dk_96 (dk_at dksX2_isName_1 4 rfl rfl)
theorem dX2_isName_29 : decode cX2_isName 29 = .ok (.invokevirtual 26, 3) := dk_182 0 26 (dk_at dksX2_isName_1 5 rfl rfl)
theorem dX2_isName_32 : decode cX2_isName 32 = .ok (.bipush 32, 2) := dk_16 32 (dk_at dksX2_isName_1 8 rfl rfl)
theorem dX2_isName_34 : decode cX2_isName 34 = .ok (.irem, 1) := dk_112 (dk_at dksX2_isName_1 10 rfl rfl)
theorem dX2_isName_35 : decode cX2_isName 35 = .ok (.i2l, 1) := dk_133 (dk_at dksX2_isName_1 11 rfl rfl)
theorem dX2_isName_36 : decode cX2_isName 36 = .ok (.ladd, 1) := dk_97 (dk_at dksX2_isName_1 12 rfl rfl)
theorem dX2_isName_37 : decode cX2_isName 37 = .ok (.lstore 4, 2) := dk_55 4 (dk_at dksX2_isName_1 13 rfl rfl)
theorem dX2_isName_39 : decode cX2_isName 39 = .ok (.iinc 6 1, 3) := dk_132 6 1 (dk_at dksX2_isName_1 15 rfl rfl)
theorem dX2_isName_42 : decode cX2_isName 42 = .ok (.goto (-36), 3) := dk_167 255 220 (dk_at dksX2_isName_1 18 rfl rfl)
theorem dX2_isName_45 : decode cX2_isName 45 = .ok (.lload 4, 2) := dk_22 4 (dk_at dksX2_isName_1 21 rfl rfl)
theorem dX2_isName_47 : decode cX2_isName 47 = .ok (.lload_n 2, 1) := dk_32 (dk_at dksX2_isName_1 23 rfl rfl)
theorem dX2_isName_48 : decode cX2_isName 48 = .ok (.lcmp, 1) := dk_148 (dk_at dksX2_isName_2 0 rfl rfl)
theorem dX2_isName_49 : decode cX2_isName 49 = .ok (.ifCond .ne 7, 3) := dk_154 0 7 (dk_at dksX2_isName_2 1 rfl rfl)
theorem dX2_isName_52 : decode cX2_isName 52 = .ok (.iconst 1, 1) := dk_4 (dk_at dksX2_isName_2 4 rfl rfl)
theorem dX2_isName_53 : decode cX2_isName 53 = .ok (.goto 4, 3) := dk_167 0 4 (dk_at dksX2_isName_2 5 rfl rfl)
theorem dX2_isName_56 : decode cX2_isName 56 = .ok (.iconst 0, 1) := dk_3 (dk_at dksX2_isName_2 8 rfl rfl)
theorem dX2_isName_57 : decode cX2_isName 57 = .ok (.ireturn, 1) := dk_172 (dk_at dksX2_isName_2 9 rfl rfl)
abbrev cX2_width : ByteArray := prog_12_method_13_code
def yX2_width : MethodName := ⟨RX2, "width", "(I)I"⟩
def dkwX2_width_1 : List UInt8 := [184, 0, 30, 96, 61, 132, 3, 1, 167, 255, 229, 28, 172]
abbrev dktX2_width_1 : List UInt8 := dkwX2_width_1 ++ []
def dkwX2_width_0 : List UInt8 := [3, 61, 3, 62, 29, 42, 27, 3, 182, 0, 26, 162, 0, 23, 28, 42, 27, 6, 29, 96, 182, 0, 26]
abbrev dktX2_width_0 : List UInt8 := dkwX2_width_0 ++ dktX2_width_1
theorem dksX2_width_0 : cX2_width.data.toList.drop 0 = dktX2_width_0 := by decide +kernel
theorem dksX2_width_1 : cX2_width.data.toList.drop 23 = dktX2_width_1 := dk_seg dksX2_width_0 23 rfl rfl
theorem dX2_width_0 : decode cX2_width 0 = .ok (.iconst 0, 1) := dk_3 (dk_at dksX2_width_0 0 rfl rfl)
theorem dX2_width_1 : decode cX2_width 1 = .ok (.istore_n 2, 1) := dk_61 (dk_at dksX2_width_0 1 rfl rfl)
theorem dX2_width_2 : decode cX2_width 2 = .ok (.iconst 0, 1) := dk_3 (dk_at dksX2_width_0 2 rfl rfl)
theorem dX2_width_3 : decode cX2_width 3 = .ok (.istore_n 3, 1) := dk_62 (dk_at dksX2_width_0 3 rfl rfl)
theorem dX2_width_4 : decode cX2_width 4 = .ok (.iload_n 3, 1) := dk_29 (dk_at dksX2_width_0 4 rfl rfl)
theorem dX2_width_5 : decode cX2_width 5 = .ok (.aload_n 0, 1) := dk_42 (dk_at dksX2_width_0 5 rfl rfl)
theorem dX2_width_6 : decode cX2_width 6 = .ok (.iload_n 1, 1) := dk_27 (dk_at dksX2_width_0 6 rfl rfl)
theorem dX2_width_7 : decode cX2_width 7 = .ok (.iconst 0, 1) := dk_3 (dk_at dksX2_width_0 7 rfl rfl)
theorem dX2_width_8 : decode cX2_width 8 = .ok (.invokevirtual 26, 3) := dk_182 0 26 (dk_at dksX2_width_0 8 rfl rfl)
theorem dX2_width_11 : decode cX2_width 11 = .ok (.if_icmp .ge 23, 3) := dk_162 0 23 (dk_at dksX2_width_0 11 rfl rfl)
theorem dX2_width_14 : decode cX2_width 14 = .ok (.iload_n 2, 1) := dk_28 (dk_at dksX2_width_0 14 rfl rfl)
theorem dX2_width_15 : decode cX2_width 15 = .ok (.aload_n 0, 1) := dk_42 (dk_at dksX2_width_0 15 rfl rfl)
theorem dX2_width_16 : decode cX2_width 16 = .ok (.iload_n 1, 1) := dk_27 (dk_at dksX2_width_0 16 rfl rfl)
theorem dX2_width_17 : decode cX2_width 17 = .ok (.iconst 3, 1) := dk_6 (dk_at dksX2_width_0 17 rfl rfl)
theorem dX2_width_18 : decode cX2_width 18 = .ok (.iload_n 3, 1) := dk_29 (dk_at dksX2_width_0 18 rfl rfl)
theorem dX2_width_19 : decode cX2_width 19 = .ok (.iadd, 1) := dk_96 (dk_at dksX2_width_0 19 rfl rfl)
theorem dX2_width_20 : decode cX2_width 20 = .ok (.invokevirtual 26, 3) := dk_182 0 26 (dk_at dksX2_width_0 20 rfl rfl)
theorem dX2_width_23 : decode cX2_width 23 = .ok (.invokestatic 30, 3) := dk_184 0 30 (dk_at dksX2_width_1 0 rfl rfl)
theorem dX2_width_26 : decode cX2_width 26 = .ok (.iadd, 1) := dk_96 (dk_at dksX2_width_1 3 rfl rfl)
theorem dX2_width_27 : decode cX2_width 27 = .ok (.istore_n 2, 1) := dk_61 (dk_at dksX2_width_1 4 rfl rfl)
theorem dX2_width_28 : decode cX2_width 28 = .ok (.iinc 3 1, 3) := dk_132 3 1 (dk_at dksX2_width_1 5 rfl rfl)
theorem dX2_width_31 : decode cX2_width 31 = .ok (.goto (-27), 3) := dk_167 255 229 (dk_at dksX2_width_1 8 rfl rfl)
theorem dX2_width_34 : decode cX2_width 34 = .ok (.iload_n 2, 1) := dk_28 (dk_at dksX2_width_1 11 rfl rfl)
theorem dX2_width_35 : decode cX2_width 35 = .ok (.ireturn, 1) := dk_172 (dk_at dksX2_width_1 12 rfl rfl)
abbrev cX2_set : ByteArray := prog_12_method_39_code
def yX2_set : MethodName := ⟨RX2, "set", "(II)I"⟩
def dkwX2_set_2 : List UInt8 := [180, 0, 7, 16, 8, 27, 96, 28, 79, 29, 172]
abbrev dktX2_set_2 : List UInt8 := dkwX2_set_2 ++ []
def dkwX2_set_1 : List UInt8 := [184, 0, 61, 154, 0, 6, 18, 92, 172, 42, 182, 0, 102, 42, 180, 0, 7, 16, 8, 27, 96, 46, 62, 42]
abbrev dktX2_set_1 : List UInt8 := dkwX2_set_1 ++ dktX2_set_2
def dkwX2_set_0 : List UInt8 := [27, 3, 5, 184, 0, 61, 153, 0, 23, 28, 27, 154, 0, 7, 7, 167, 0, 4, 4, 27, 184, 0, 147]
abbrev dktX2_set_0 : List UInt8 := dkwX2_set_0 ++ dktX2_set_1
theorem dksX2_set_0 : cX2_set.data.toList.drop 0 = dktX2_set_0 := by decide +kernel
theorem dksX2_set_1 : cX2_set.data.toList.drop 23 = dktX2_set_1 := dk_seg dksX2_set_0 23 rfl rfl
theorem dksX2_set_2 : cX2_set.data.toList.drop 47 = dktX2_set_2 := dk_seg dksX2_set_1 24 rfl rfl
theorem dX2_set_0 : decode cX2_set 0 = .ok (.iload_n 1, 1) := dk_27 (dk_at dksX2_set_0 0 rfl rfl)
theorem dX2_set_1 : decode cX2_set 1 = .ok (.iconst 0, 1) := dk_3 (dk_at dksX2_set_0 1 rfl rfl)
theorem dX2_set_2 : decode cX2_set 2 = .ok (.iconst 2, 1) := dk_5 (dk_at dksX2_set_0 2 rfl rfl)
theorem dX2_set_3 : decode cX2_set 3 = .ok (.invokestatic 61, 3) := dk_184 0 61 (dk_at dksX2_set_0 3 rfl rfl)
theorem dX2_set_6 : decode cX2_set 6 = .ok (.ifCond .eq 23, 3) := dk_153 0 23 (dk_at dksX2_set_0 6 rfl rfl)
theorem dX2_set_9 : decode cX2_set 9 = .ok (.iload_n 2, 1) := dk_28 (dk_at dksX2_set_0 9 rfl rfl)
theorem dX2_set_10 : decode cX2_set 10 = .ok (.iload_n 1, 1) := dk_27 (dk_at dksX2_set_0 10 rfl rfl)
theorem dX2_set_11 : decode cX2_set 11 = .ok (.ifCond .ne 7, 3) := dk_154 0 7 (dk_at dksX2_set_0 11 rfl rfl)
theorem dX2_set_14 : decode cX2_set 14 = .ok (.iconst 4, 1) := dk_7 (dk_at dksX2_set_0 14 rfl rfl)
theorem dX2_set_15 : decode cX2_set 15 = .ok (.goto 4, 3) := dk_167 0 4 (dk_at dksX2_set_0 15 rfl rfl)
theorem dX2_set_18 : decode cX2_set 18 = .ok (.iconst 1, 1) := dk_4 (dk_at dksX2_set_0 18 rfl rfl)
theorem dX2_set_19 : decode cX2_set 19 = .ok (.iload_n 1, 1) := dk_27 (dk_at dksX2_set_0 19 rfl rfl)
theorem dX2_set_20 : decode cX2_set 20 = .ok (.invokestatic 147, 3) := dk_184 0 147 (dk_at dksX2_set_0 20 rfl rfl)
theorem dX2_set_23 : decode cX2_set 23 = .ok (.invokestatic 61, 3) := dk_184 0 61 (dk_at dksX2_set_1 0 rfl rfl)
theorem dX2_set_26 : decode cX2_set 26 = .ok (.ifCond .ne 6, 3) := dk_154 0 6 (dk_at dksX2_set_1 3 rfl rfl)
theorem dX2_set_29 : decode cX2_set 29 = .ok (.ldc 92, 2) := dk_18 92 (dk_at dksX2_set_1 6 rfl rfl)
theorem dX2_set_31 : decode cX2_set 31 = .ok (.ireturn, 1) := dk_172 (dk_at dksX2_set_1 8 rfl rfl)
theorem dX2_set_32 : decode cX2_set 32 = .ok (.aload_n 0, 1) := dk_42 (dk_at dksX2_set_1 9 rfl rfl)
theorem dX2_set_33 : decode cX2_set 33 = .ok (.invokevirtual 102, 3) := dk_182 0 102 (dk_at dksX2_set_1 10 rfl rfl)
theorem dX2_set_36 : decode cX2_set 36 = .ok (.aload_n 0, 1) := dk_42 (dk_at dksX2_set_1 13 rfl rfl)
theorem dX2_set_37 : decode cX2_set 37 = .ok (.getfield 7, 3) := dk_180 0 7 (dk_at dksX2_set_1 14 rfl rfl)
theorem dX2_set_40 : decode cX2_set 40 = .ok (.bipush 8, 2) := dk_16 8 (dk_at dksX2_set_1 17 rfl rfl)
theorem dX2_set_42 : decode cX2_set 42 = .ok (.iload_n 1, 1) := dk_27 (dk_at dksX2_set_1 19 rfl rfl)
theorem dX2_set_43 : decode cX2_set 43 = .ok (.iadd, 1) := dk_96 (dk_at dksX2_set_1 20 rfl rfl)
theorem dX2_set_44 : decode cX2_set 44 = .ok (.iaload, 1) := dk_46 (dk_at dksX2_set_1 21 rfl rfl)
theorem dX2_set_45 : decode cX2_set 45 = .ok (.istore_n 3, 1) := dk_62 (dk_at dksX2_set_1 22 rfl rfl)
theorem dX2_set_46 : decode cX2_set 46 = .ok (.aload_n 0, 1) := dk_42 (dk_at dksX2_set_1 23 rfl rfl)
theorem dX2_set_47 : decode cX2_set 47 = .ok (.getfield 7, 3) := dk_180 0 7 (dk_at dksX2_set_2 0 rfl rfl)
theorem dX2_set_50 : decode cX2_set 50 = .ok (.bipush 8, 2) := dk_16 8 (dk_at dksX2_set_2 3 rfl rfl)
theorem dX2_set_52 : decode cX2_set 52 = .ok (.iload_n 1, 1) := dk_27 (dk_at dksX2_set_2 5 rfl rfl)
theorem dX2_set_53 : decode cX2_set 53 = .ok (.iadd, 1) := dk_96 (dk_at dksX2_set_2 6 rfl rfl)
theorem dX2_set_54 : decode cX2_set 54 = .ok (.iload_n 2, 1) := dk_28 (dk_at dksX2_set_2 7 rfl rfl)
theorem dX2_set_55 : decode cX2_set 55 = .ok (.iastore, 1) := dk_79 (dk_at dksX2_set_2 8 rfl rfl)
theorem dX2_set_56 : decode cX2_set 56 = .ok (.iload_n 3, 1) := dk_29 (dk_at dksX2_set_2 9 rfl rfl)
theorem dX2_set_57 : decode cX2_set 57 = .ok (.ireturn, 1) := dk_172 (dk_at dksX2_set_2 10 rfl rfl)
abbrev cX2_mostOf : ByteArray := prog_12_method_38_code
def yX2_mostOf : MethodName := ⟨RX2, "mostOf", "(I)I"⟩
def dkwX2_mostOf_0 : List UInt8 := [26, 154, 0, 8, 16, 60, 167, 0, 16, 26, 4, 160, 0, 9, 17, 0, 200, 167, 0, 5, 16, 50, 172]
abbrev dktX2_mostOf_0 : List UInt8 := dkwX2_mostOf_0 ++ []
theorem dksX2_mostOf_0 : cX2_mostOf.data.toList.drop 0 = dktX2_mostOf_0 := by decide +kernel
theorem dX2_mostOf_0 : decode cX2_mostOf 0 = .ok (.iload_n 0, 1) := dk_26 (dk_at dksX2_mostOf_0 0 rfl rfl)
theorem dX2_mostOf_1 : decode cX2_mostOf 1 = .ok (.ifCond .ne 8, 3) := dk_154 0 8 (dk_at dksX2_mostOf_0 1 rfl rfl)
theorem dX2_mostOf_4 : decode cX2_mostOf 4 = .ok (.bipush 60, 2) := dk_16 60 (dk_at dksX2_mostOf_0 4 rfl rfl)
theorem dX2_mostOf_6 : decode cX2_mostOf 6 = .ok (.goto 16, 3) := dk_167 0 16 (dk_at dksX2_mostOf_0 6 rfl rfl)
theorem dX2_mostOf_9 : decode cX2_mostOf 9 = .ok (.iload_n 0, 1) := dk_26 (dk_at dksX2_mostOf_0 9 rfl rfl)
theorem dX2_mostOf_10 : decode cX2_mostOf 10 = .ok (.iconst 1, 1) := dk_4 (dk_at dksX2_mostOf_0 10 rfl rfl)
theorem dX2_mostOf_11 : decode cX2_mostOf 11 = .ok (.if_icmp .ne 9, 3) := dk_160 0 9 (dk_at dksX2_mostOf_0 11 rfl rfl)
theorem dX2_mostOf_14 : decode cX2_mostOf 14 = .ok (.sipush 200, 3) := dk_17 0 200 (dk_at dksX2_mostOf_0 14 rfl rfl)
theorem dX2_mostOf_17 : decode cX2_mostOf 17 = .ok (.goto 5, 3) := dk_167 0 5 (dk_at dksX2_mostOf_0 17 rfl rfl)
theorem dX2_mostOf_20 : decode cX2_mostOf 20 = .ok (.bipush 50, 2) := dk_16 50 (dk_at dksX2_mostOf_0 20 rfl rfl)
theorem dX2_mostOf_22 : decode cX2_mostOf 22 = .ok (.ireturn, 1) := dk_172 (dk_at dksX2_mostOf_0 22 rfl rfl)
abbrev cX2_rowOf : ByteArray := prog_12_method_41_code
def yX2_rowOf : MethodName := ⟨RX2, "rowOf", "(II)I"⟩
def dkwX2_rowOf_4 : List UInt8 := [172, 42, 180, 0, 7, 4, 46, 27, 160, 0, 7, 4, 167, 0, 4, 3, 172]
abbrev dktX2_rowOf_4 : List UInt8 := dkwX2_rowOf_4 ++ []
def dkwX2_rowOf_3 : List UInt8 := [27, 182, 0, 138, 172, 42, 27, 4, 182, 0, 26, 172, 42, 27, 5, 182, 0, 26, 172, 42, 27, 182, 0, 150]
abbrev dktX2_rowOf_3 : List UInt8 := dkwX2_rowOf_3 ++ dktX2_rowOf_4
def dkwX2_rowOf_2 : List UInt8 := [42, 27, 3, 182, 0, 26, 172, 42, 27, 182, 0, 141, 172, 42, 42, 27, 182, 0, 141, 182, 0, 79, 172, 42]
abbrev dktX2_rowOf_2 : List UInt8 := dkwX2_rowOf_2 ++ dktX2_rowOf_3
def dkwX2_rowOf_1 : List UInt8 := [170, 0, 0, 0, 0, 91, 0, 0, 0, 0, 0, 0, 0, 6, 0, 0, 0, 42, 0, 0, 0, 49, 0, 0, 0, 55, 0, 0, 0, 65, 0, 0, 0, 71, 0, 0, 0, 78, 0, 0, 0, 85]
abbrev dktX2_rowOf_1 : List UInt8 := dkwX2_rowOf_1 ++ dktX2_rowOf_2
def dkwX2_rowOf_0 : List UInt8 := [42, 27, 182, 0, 105, 153, 0, 13, 28, 3, 16, 7, 184, 0, 61, 154, 0, 6, 18, 92, 172, 28]
abbrev dktX2_rowOf_0 : List UInt8 := dkwX2_rowOf_0 ++ dktX2_rowOf_1
theorem dksX2_rowOf_0 : cX2_rowOf.data.toList.drop 0 = dktX2_rowOf_0 := by decide +kernel
theorem dksX2_rowOf_1 : cX2_rowOf.data.toList.drop 22 = dktX2_rowOf_1 := dk_seg dksX2_rowOf_0 22 rfl rfl
theorem dksX2_rowOf_2 : cX2_rowOf.data.toList.drop 64 = dktX2_rowOf_2 := dk_seg dksX2_rowOf_1 42 rfl rfl
theorem dksX2_rowOf_3 : cX2_rowOf.data.toList.drop 88 = dktX2_rowOf_3 := dk_seg dksX2_rowOf_2 24 rfl rfl
theorem dksX2_rowOf_4 : cX2_rowOf.data.toList.drop 112 = dktX2_rowOf_4 := dk_seg dksX2_rowOf_3 24 rfl rfl
theorem dX2_rowOf_0 : decode cX2_rowOf 0 = .ok (.aload_n 0, 1) := dk_42 (dk_at dksX2_rowOf_0 0 rfl rfl)
theorem dX2_rowOf_1 : decode cX2_rowOf 1 = .ok (.iload_n 1, 1) := dk_27 (dk_at dksX2_rowOf_0 1 rfl rfl)
theorem dX2_rowOf_2 : decode cX2_rowOf 2 = .ok (.invokevirtual 105, 3) := dk_182 0 105 (dk_at dksX2_rowOf_0 2 rfl rfl)
theorem dX2_rowOf_5 : decode cX2_rowOf 5 = .ok (.ifCond .eq 13, 3) := dk_153 0 13 (dk_at dksX2_rowOf_0 5 rfl rfl)
theorem dX2_rowOf_8 : decode cX2_rowOf 8 = .ok (.iload_n 2, 1) := dk_28 (dk_at dksX2_rowOf_0 8 rfl rfl)
theorem dX2_rowOf_9 : decode cX2_rowOf 9 = .ok (.iconst 0, 1) := dk_3 (dk_at dksX2_rowOf_0 9 rfl rfl)
theorem dX2_rowOf_10 : decode cX2_rowOf 10 = .ok (.bipush 7, 2) := dk_16 7 (dk_at dksX2_rowOf_0 10 rfl rfl)
theorem dX2_rowOf_12 : decode cX2_rowOf 12 = .ok (.invokestatic 61, 3) := dk_184 0 61 (dk_at dksX2_rowOf_0 12 rfl rfl)
theorem dX2_rowOf_15 : decode cX2_rowOf 15 = .ok (.ifCond .ne 6, 3) := dk_154 0 6 (dk_at dksX2_rowOf_0 15 rfl rfl)
theorem dX2_rowOf_18 : decode cX2_rowOf 18 = .ok (.ldc 92, 2) := dk_18 92 (dk_at dksX2_rowOf_0 18 rfl rfl)
theorem dX2_rowOf_20 : decode cX2_rowOf 20 = .ok (.ireturn, 1) := dk_172 (dk_at dksX2_rowOf_0 20 rfl rfl)
theorem dX2_rowOf_21 : decode cX2_rowOf 21 = .ok (.iload_n 2, 1) := dk_28 (dk_at dksX2_rowOf_0 21 rfl rfl)
theorem dX2_rowOf_22 : decode cX2_rowOf 22 = .ok (.tableswitch 91 0 6 #[42, 49, 55, 65, 71, 78, 85], 42) := by decide +kernel
theorem dX2_rowOf_64 : decode cX2_rowOf 64 = .ok (.aload_n 0, 1) := dk_42 (dk_at dksX2_rowOf_2 0 rfl rfl)
theorem dX2_rowOf_65 : decode cX2_rowOf 65 = .ok (.iload_n 1, 1) := dk_27 (dk_at dksX2_rowOf_2 1 rfl rfl)
theorem dX2_rowOf_66 : decode cX2_rowOf 66 = .ok (.iconst 0, 1) := dk_3 (dk_at dksX2_rowOf_2 2 rfl rfl)
theorem dX2_rowOf_67 : decode cX2_rowOf 67 = .ok (.invokevirtual 26, 3) := dk_182 0 26 (dk_at dksX2_rowOf_2 3 rfl rfl)
theorem dX2_rowOf_70 : decode cX2_rowOf 70 = .ok (.ireturn, 1) := dk_172 (dk_at dksX2_rowOf_2 6 rfl rfl)
theorem dX2_rowOf_71 : decode cX2_rowOf 71 = .ok (.aload_n 0, 1) := dk_42 (dk_at dksX2_rowOf_2 7 rfl rfl)
theorem dX2_rowOf_72 : decode cX2_rowOf 72 = .ok (.iload_n 1, 1) := dk_27 (dk_at dksX2_rowOf_2 8 rfl rfl)
theorem dX2_rowOf_73 : decode cX2_rowOf 73 = .ok (.invokevirtual 141, 3) := dk_182 0 141 (dk_at dksX2_rowOf_2 9 rfl rfl)
theorem dX2_rowOf_76 : decode cX2_rowOf 76 = .ok (.ireturn, 1) := dk_172 (dk_at dksX2_rowOf_2 12 rfl rfl)
theorem dX2_rowOf_77 : decode cX2_rowOf 77 = .ok (.aload_n 0, 1) := dk_42 (dk_at dksX2_rowOf_2 13 rfl rfl)
theorem dX2_rowOf_78 : decode cX2_rowOf 78 = .ok (.aload_n 0, 1) := dk_42 (dk_at dksX2_rowOf_2 14 rfl rfl)
theorem dX2_rowOf_79 : decode cX2_rowOf 79 = .ok (.iload_n 1, 1) := dk_27 (dk_at dksX2_rowOf_2 15 rfl rfl)
theorem dX2_rowOf_80 : decode cX2_rowOf 80 = .ok (.invokevirtual 141, 3) := dk_182 0 141 (dk_at dksX2_rowOf_2 16 rfl rfl)
theorem dX2_rowOf_83 : decode cX2_rowOf 83 = .ok (.invokevirtual 79, 3) := dk_182 0 79 (dk_at dksX2_rowOf_2 19 rfl rfl)
theorem dX2_rowOf_86 : decode cX2_rowOf 86 = .ok (.ireturn, 1) := dk_172 (dk_at dksX2_rowOf_2 22 rfl rfl)
theorem dX2_rowOf_87 : decode cX2_rowOf 87 = .ok (.aload_n 0, 1) := dk_42 (dk_at dksX2_rowOf_2 23 rfl rfl)
theorem dX2_rowOf_88 : decode cX2_rowOf 88 = .ok (.iload_n 1, 1) := dk_27 (dk_at dksX2_rowOf_3 0 rfl rfl)
theorem dX2_rowOf_89 : decode cX2_rowOf 89 = .ok (.invokevirtual 138, 3) := dk_182 0 138 (dk_at dksX2_rowOf_3 1 rfl rfl)
theorem dX2_rowOf_92 : decode cX2_rowOf 92 = .ok (.ireturn, 1) := dk_172 (dk_at dksX2_rowOf_3 4 rfl rfl)
theorem dX2_rowOf_93 : decode cX2_rowOf 93 = .ok (.aload_n 0, 1) := dk_42 (dk_at dksX2_rowOf_3 5 rfl rfl)
theorem dX2_rowOf_94 : decode cX2_rowOf 94 = .ok (.iload_n 1, 1) := dk_27 (dk_at dksX2_rowOf_3 6 rfl rfl)
theorem dX2_rowOf_95 : decode cX2_rowOf 95 = .ok (.iconst 1, 1) := dk_4 (dk_at dksX2_rowOf_3 7 rfl rfl)
theorem dX2_rowOf_96 : decode cX2_rowOf 96 = .ok (.invokevirtual 26, 3) := dk_182 0 26 (dk_at dksX2_rowOf_3 8 rfl rfl)
theorem dX2_rowOf_99 : decode cX2_rowOf 99 = .ok (.ireturn, 1) := dk_172 (dk_at dksX2_rowOf_3 11 rfl rfl)
theorem dX2_rowOf_100 : decode cX2_rowOf 100 = .ok (.aload_n 0, 1) := dk_42 (dk_at dksX2_rowOf_3 12 rfl rfl)
theorem dX2_rowOf_101 : decode cX2_rowOf 101 = .ok (.iload_n 1, 1) := dk_27 (dk_at dksX2_rowOf_3 13 rfl rfl)
theorem dX2_rowOf_102 : decode cX2_rowOf 102 = .ok (.iconst 2, 1) := dk_5 (dk_at dksX2_rowOf_3 14 rfl rfl)
theorem dX2_rowOf_103 : decode cX2_rowOf 103 = .ok (.invokevirtual 26, 3) := dk_182 0 26 (dk_at dksX2_rowOf_3 15 rfl rfl)
theorem dX2_rowOf_106 : decode cX2_rowOf 106 = .ok (.ireturn, 1) := dk_172 (dk_at dksX2_rowOf_3 18 rfl rfl)
theorem dX2_rowOf_107 : decode cX2_rowOf 107 = .ok (.aload_n 0, 1) := dk_42 (dk_at dksX2_rowOf_3 19 rfl rfl)
theorem dX2_rowOf_108 : decode cX2_rowOf 108 = .ok (.iload_n 1, 1) := dk_27 (dk_at dksX2_rowOf_3 20 rfl rfl)
theorem dX2_rowOf_109 : decode cX2_rowOf 109 = .ok (.invokevirtual 150, 3) := dk_182 0 150 (dk_at dksX2_rowOf_3 21 rfl rfl)
theorem dX2_rowOf_112 : decode cX2_rowOf 112 = .ok (.ireturn, 1) := dk_172 (dk_at dksX2_rowOf_4 0 rfl rfl)
theorem dX2_rowOf_113 : decode cX2_rowOf 113 = .ok (.aload_n 0, 1) := dk_42 (dk_at dksX2_rowOf_4 1 rfl rfl)
theorem dX2_rowOf_114 : decode cX2_rowOf 114 = .ok (.getfield 7, 3) := dk_180 0 7 (dk_at dksX2_rowOf_4 2 rfl rfl)
theorem dX2_rowOf_117 : decode cX2_rowOf 117 = .ok (.iconst 1, 1) := dk_4 (dk_at dksX2_rowOf_4 5 rfl rfl)
theorem dX2_rowOf_118 : decode cX2_rowOf 118 = .ok (.iaload, 1) := dk_46 (dk_at dksX2_rowOf_4 6 rfl rfl)
theorem dX2_rowOf_119 : decode cX2_rowOf 119 = .ok (.iload_n 1, 1) := dk_27 (dk_at dksX2_rowOf_4 7 rfl rfl)
theorem dX2_rowOf_120 : decode cX2_rowOf 120 = .ok (.if_icmp .ne 7, 3) := dk_160 0 7 (dk_at dksX2_rowOf_4 8 rfl rfl)
theorem dX2_rowOf_123 : decode cX2_rowOf 123 = .ok (.iconst 1, 1) := dk_4 (dk_at dksX2_rowOf_4 11 rfl rfl)
theorem dX2_rowOf_124 : decode cX2_rowOf 124 = .ok (.goto 4, 3) := dk_167 0 4 (dk_at dksX2_rowOf_4 12 rfl rfl)
theorem dX2_rowOf_127 : decode cX2_rowOf 127 = .ok (.iconst 0, 1) := dk_3 (dk_at dksX2_rowOf_4 15 rfl rfl)
theorem dX2_rowOf_128 : decode cX2_rowOf 128 = .ok (.ireturn, 1) := dk_172 (dk_at dksX2_rowOf_4 16 rfl rfl)
abbrev cX2_routesOf : ByteArray := prog_12_method_40_code
def yX2_routesOf : MethodName := ⟨RX2, "routesOf", "(I)I"⟩
def dkwX2_routesOf_1 : List UInt8 := [126, 29, 120, 128, 61, 132, 3, 1, 167, 255, 228, 28, 172]
abbrev dktX2_routesOf_1 : List UInt8 := dkwX2_routesOf_1 ++ []
def dkwX2_routesOf_0 : List UInt8 := [3, 61, 3, 62, 29, 42, 180, 0, 7, 5, 46, 162, 0, 24, 28, 42, 29, 3, 182, 0, 109, 27, 122, 4]
abbrev dktX2_routesOf_0 : List UInt8 := dkwX2_routesOf_0 ++ dktX2_routesOf_1
theorem dksX2_routesOf_0 : cX2_routesOf.data.toList.drop 0 = dktX2_routesOf_0 := by decide +kernel
theorem dksX2_routesOf_1 : cX2_routesOf.data.toList.drop 24 = dktX2_routesOf_1 := dk_seg dksX2_routesOf_0 24 rfl rfl
theorem dX2_routesOf_0 : decode cX2_routesOf 0 = .ok (.iconst 0, 1) := dk_3 (dk_at dksX2_routesOf_0 0 rfl rfl)
theorem dX2_routesOf_1 : decode cX2_routesOf 1 = .ok (.istore_n 2, 1) := dk_61 (dk_at dksX2_routesOf_0 1 rfl rfl)
theorem dX2_routesOf_2 : decode cX2_routesOf 2 = .ok (.iconst 0, 1) := dk_3 (dk_at dksX2_routesOf_0 2 rfl rfl)
theorem dX2_routesOf_3 : decode cX2_routesOf 3 = .ok (.istore_n 3, 1) := dk_62 (dk_at dksX2_routesOf_0 3 rfl rfl)
theorem dX2_routesOf_4 : decode cX2_routesOf 4 = .ok (.iload_n 3, 1) := dk_29 (dk_at dksX2_routesOf_0 4 rfl rfl)
theorem dX2_routesOf_5 : decode cX2_routesOf 5 = .ok (.aload_n 0, 1) := dk_42 (dk_at dksX2_routesOf_0 5 rfl rfl)
theorem dX2_routesOf_6 : decode cX2_routesOf 6 = .ok (.getfield 7, 3) := dk_180 0 7 (dk_at dksX2_routesOf_0 6 rfl rfl)
theorem dX2_routesOf_9 : decode cX2_routesOf 9 = .ok (.iconst 2, 1) := dk_5 (dk_at dksX2_routesOf_0 9 rfl rfl)
theorem dX2_routesOf_10 : decode cX2_routesOf 10 = .ok (.iaload, 1) := dk_46 (dk_at dksX2_routesOf_0 10 rfl rfl)
theorem dX2_routesOf_11 : decode cX2_routesOf 11 = .ok (.if_icmp .ge 24, 3) := dk_162 0 24 (dk_at dksX2_routesOf_0 11 rfl rfl)
theorem dX2_routesOf_14 : decode cX2_routesOf 14 = .ok (.iload_n 2, 1) := dk_28 (dk_at dksX2_routesOf_0 14 rfl rfl)
theorem dX2_routesOf_15 : decode cX2_routesOf 15 = .ok (.aload_n 0, 1) := dk_42 (dk_at dksX2_routesOf_0 15 rfl rfl)
theorem dX2_routesOf_16 : decode cX2_routesOf 16 = .ok (.iload_n 3, 1) := dk_29 (dk_at dksX2_routesOf_0 16 rfl rfl)
theorem dX2_routesOf_17 : decode cX2_routesOf 17 = .ok (.iconst 0, 1) := dk_3 (dk_at dksX2_routesOf_0 17 rfl rfl)
theorem dX2_routesOf_18 : decode cX2_routesOf 18 = .ok (.invokevirtual 109, 3) := dk_182 0 109 (dk_at dksX2_routesOf_0 18 rfl rfl)
theorem dX2_routesOf_21 : decode cX2_routesOf 21 = .ok (.iload_n 1, 1) := dk_27 (dk_at dksX2_routesOf_0 21 rfl rfl)
theorem dX2_routesOf_22 : decode cX2_routesOf 22 = .ok (.ishr, 1) := dk_122 (dk_at dksX2_routesOf_0 22 rfl rfl)
theorem dX2_routesOf_23 : decode cX2_routesOf 23 = .ok (.iconst 1, 1) := dk_4 (dk_at dksX2_routesOf_0 23 rfl rfl)
theorem dX2_routesOf_24 : decode cX2_routesOf 24 = .ok (.iand, 1) := dk_126 (dk_at dksX2_routesOf_1 0 rfl rfl)
theorem dX2_routesOf_25 : decode cX2_routesOf 25 = .ok (.iload_n 3, 1) := dk_29 (dk_at dksX2_routesOf_1 1 rfl rfl)
theorem dX2_routesOf_26 : decode cX2_routesOf 26 = .ok (.ishl, 1) := dk_120 (dk_at dksX2_routesOf_1 2 rfl rfl)
theorem dX2_routesOf_27 : decode cX2_routesOf 27 = .ok (.ior, 1) := dk_128 (dk_at dksX2_routesOf_1 3 rfl rfl)
theorem dX2_routesOf_28 : decode cX2_routesOf 28 = .ok (.istore_n 2, 1) := dk_61 (dk_at dksX2_routesOf_1 4 rfl rfl)
theorem dX2_routesOf_29 : decode cX2_routesOf 29 = .ok (.iinc 3 1, 3) := dk_132 3 1 (dk_at dksX2_routesOf_1 5 rfl rfl)
theorem dX2_routesOf_32 : decode cX2_routesOf 32 = .ok (.goto (-28), 3) := dk_167 255 228 (dk_at dksX2_routesOf_1 8 rfl rfl)
theorem dX2_routesOf_35 : decode cX2_routesOf 35 = .ok (.iload_n 2, 1) := dk_28 (dk_at dksX2_routesOf_1 11 rfl rfl)
theorem dX2_routesOf_36 : decode cX2_routesOf 36 = .ok (.ireturn, 1) := dk_172 (dk_at dksX2_routesOf_1 12 rfl rfl)
abbrev cX2_letter : ByteArray := prog_12_method_42_code
def yX2_letter : MethodName := ⟨RX2, "letter", "(II)I"⟩
def dkwX2_letter_1 : List UInt8 := [162, 0, 14, 42, 27, 6, 28, 96, 182, 0, 26, 167, 0, 5, 18, 100, 172]
abbrev dktX2_letter_1 : List UInt8 := dkwX2_letter_1 ++ []
def dkwX2_letter_0 : List UInt8 := [42, 27, 182, 0, 105, 153, 0, 7, 28, 156, 0, 6, 18, 92, 172, 28, 42, 27, 3, 182, 0, 26]
abbrev dktX2_letter_0 : List UInt8 := dkwX2_letter_0 ++ dktX2_letter_1
theorem dksX2_letter_0 : cX2_letter.data.toList.drop 0 = dktX2_letter_0 := by decide +kernel
theorem dksX2_letter_1 : cX2_letter.data.toList.drop 22 = dktX2_letter_1 := dk_seg dksX2_letter_0 22 rfl rfl
theorem dX2_letter_0 : decode cX2_letter 0 = .ok (.aload_n 0, 1) := dk_42 (dk_at dksX2_letter_0 0 rfl rfl)
theorem dX2_letter_1 : decode cX2_letter 1 = .ok (.iload_n 1, 1) := dk_27 (dk_at dksX2_letter_0 1 rfl rfl)
theorem dX2_letter_2 : decode cX2_letter 2 = .ok (.invokevirtual 105, 3) := dk_182 0 105 (dk_at dksX2_letter_0 2 rfl rfl)
theorem dX2_letter_5 : decode cX2_letter 5 = .ok (.ifCond .eq 7, 3) := dk_153 0 7 (dk_at dksX2_letter_0 5 rfl rfl)
theorem dX2_letter_8 : decode cX2_letter 8 = .ok (.iload_n 2, 1) := dk_28 (dk_at dksX2_letter_0 8 rfl rfl)
theorem dX2_letter_9 : decode cX2_letter 9 = .ok (.ifCond .ge 6, 3) := dk_156 0 6 (dk_at dksX2_letter_0 9 rfl rfl)
theorem dX2_letter_12 : decode cX2_letter 12 = .ok (.ldc 92, 2) := dk_18 92 (dk_at dksX2_letter_0 12 rfl rfl)
theorem dX2_letter_14 : decode cX2_letter 14 = .ok (.ireturn, 1) := dk_172 (dk_at dksX2_letter_0 14 rfl rfl)
theorem dX2_letter_15 : decode cX2_letter 15 = .ok (.iload_n 2, 1) := dk_28 (dk_at dksX2_letter_0 15 rfl rfl)
theorem dX2_letter_16 : decode cX2_letter 16 = .ok (.aload_n 0, 1) := dk_42 (dk_at dksX2_letter_0 16 rfl rfl)
theorem dX2_letter_17 : decode cX2_letter 17 = .ok (.iload_n 1, 1) := dk_27 (dk_at dksX2_letter_0 17 rfl rfl)
theorem dX2_letter_18 : decode cX2_letter 18 = .ok (.iconst 0, 1) := dk_3 (dk_at dksX2_letter_0 18 rfl rfl)
theorem dX2_letter_19 : decode cX2_letter 19 = .ok (.invokevirtual 26, 3) := dk_182 0 26 (dk_at dksX2_letter_0 19 rfl rfl)
theorem dX2_letter_22 : decode cX2_letter 22 = .ok (.if_icmp .ge 14, 3) := dk_162 0 14 (dk_at dksX2_letter_1 0 rfl rfl)
theorem dX2_letter_25 : decode cX2_letter 25 = .ok (.aload_n 0, 1) := dk_42 (dk_at dksX2_letter_1 3 rfl rfl)
theorem dX2_letter_26 : decode cX2_letter 26 = .ok (.iload_n 1, 1) := dk_27 (dk_at dksX2_letter_1 4 rfl rfl)
theorem dX2_letter_27 : decode cX2_letter 27 = .ok (.iconst 3, 1) := dk_6 (dk_at dksX2_letter_1 5 rfl rfl)
theorem dX2_letter_28 : decode cX2_letter 28 = .ok (.iload_n 2, 1) := dk_28 (dk_at dksX2_letter_1 6 rfl rfl)
theorem dX2_letter_29 : decode cX2_letter 29 = .ok (.iadd, 1) := dk_96 (dk_at dksX2_letter_1 7 rfl rfl)
theorem dX2_letter_30 : decode cX2_letter 30 = .ok (.invokevirtual 26, 3) := dk_182 0 26 (dk_at dksX2_letter_1 8 rfl rfl)
theorem dX2_letter_33 : decode cX2_letter 33 = .ok (.goto 5, 3) := dk_167 0 5 (dk_at dksX2_letter_1 11 rfl rfl)
theorem dX2_letter_36 : decode cX2_letter 36 = .ok (.ldc 100, 2) := dk_18 100 (dk_at dksX2_letter_1 14 rfl rfl)
theorem dX2_letter_38 : decode cX2_letter 38 = .ok (.ireturn, 1) := dk_172 (dk_at dksX2_letter_1 16 rfl rfl)
abbrev cX2_routeOf : ByteArray := prog_12_method_44_code
def yX2_routeOf : MethodName := ⟨RX2, "routeOf", "(II)I"⟩
def dkwX2_routeOf_2 : List UInt8 := [28, 5, 160, 0, 12, 29, 42, 182, 0, 156, 126, 167, 0, 11, 42, 27, 28, 5, 100, 182, 0, 109, 172]
abbrev dktX2_routeOf_2 : List UInt8 := dkwX2_routeOf_2 ++ []
def dkwX2_routeOf_1 : List UInt8 := [182, 0, 109, 62, 28, 154, 0, 7, 29, 167, 0, 37, 28, 4, 160, 0, 10, 29, 184, 0, 153, 167, 0, 25]
abbrev dktX2_routeOf_1 : List UInt8 := dkwX2_routeOf_1 ++ dktX2_routeOf_2
def dkwX2_routeOf_0 : List UInt8 := [42, 27, 182, 0, 135, 153, 0, 12, 28, 3, 7, 184, 0, 61, 154, 0, 6, 18, 92, 172, 42, 27, 3]
abbrev dktX2_routeOf_0 : List UInt8 := dkwX2_routeOf_0 ++ dktX2_routeOf_1
theorem dksX2_routeOf_0 : cX2_routeOf.data.toList.drop 0 = dktX2_routeOf_0 := by decide +kernel
theorem dksX2_routeOf_1 : cX2_routeOf.data.toList.drop 23 = dktX2_routeOf_1 := dk_seg dksX2_routeOf_0 23 rfl rfl
theorem dksX2_routeOf_2 : cX2_routeOf.data.toList.drop 47 = dktX2_routeOf_2 := dk_seg dksX2_routeOf_1 24 rfl rfl
theorem dX2_routeOf_0 : decode cX2_routeOf 0 = .ok (.aload_n 0, 1) := dk_42 (dk_at dksX2_routeOf_0 0 rfl rfl)
theorem dX2_routeOf_1 : decode cX2_routeOf 1 = .ok (.iload_n 1, 1) := dk_27 (dk_at dksX2_routeOf_0 1 rfl rfl)
theorem dX2_routeOf_2 : decode cX2_routeOf 2 = .ok (.invokevirtual 135, 3) := dk_182 0 135 (dk_at dksX2_routeOf_0 2 rfl rfl)
theorem dX2_routeOf_5 : decode cX2_routeOf 5 = .ok (.ifCond .eq 12, 3) := dk_153 0 12 (dk_at dksX2_routeOf_0 5 rfl rfl)
theorem dX2_routeOf_8 : decode cX2_routeOf 8 = .ok (.iload_n 2, 1) := dk_28 (dk_at dksX2_routeOf_0 8 rfl rfl)
theorem dX2_routeOf_9 : decode cX2_routeOf 9 = .ok (.iconst 0, 1) := dk_3 (dk_at dksX2_routeOf_0 9 rfl rfl)
theorem dX2_routeOf_10 : decode cX2_routeOf 10 = .ok (.iconst 4, 1) := dk_7 (dk_at dksX2_routeOf_0 10 rfl rfl)
theorem dX2_routeOf_11 : decode cX2_routeOf 11 = .ok (.invokestatic 61, 3) := dk_184 0 61 (dk_at dksX2_routeOf_0 11 rfl rfl)
theorem dX2_routeOf_14 : decode cX2_routeOf 14 = .ok (.ifCond .ne 6, 3) := dk_154 0 6 (dk_at dksX2_routeOf_0 14 rfl rfl)
theorem dX2_routeOf_17 : decode cX2_routeOf 17 = .ok (.ldc 92, 2) := dk_18 92 (dk_at dksX2_routeOf_0 17 rfl rfl)
theorem dX2_routeOf_19 : decode cX2_routeOf 19 = .ok (.ireturn, 1) := dk_172 (dk_at dksX2_routeOf_0 19 rfl rfl)
theorem dX2_routeOf_20 : decode cX2_routeOf 20 = .ok (.aload_n 0, 1) := dk_42 (dk_at dksX2_routeOf_0 20 rfl rfl)
theorem dX2_routeOf_21 : decode cX2_routeOf 21 = .ok (.iload_n 1, 1) := dk_27 (dk_at dksX2_routeOf_0 21 rfl rfl)
theorem dX2_routeOf_22 : decode cX2_routeOf 22 = .ok (.iconst 0, 1) := dk_3 (dk_at dksX2_routeOf_0 22 rfl rfl)
theorem dX2_routeOf_23 : decode cX2_routeOf 23 = .ok (.invokevirtual 109, 3) := dk_182 0 109 (dk_at dksX2_routeOf_1 0 rfl rfl)
theorem dX2_routeOf_26 : decode cX2_routeOf 26 = .ok (.istore_n 3, 1) := dk_62 (dk_at dksX2_routeOf_1 3 rfl rfl)
theorem dX2_routeOf_27 : decode cX2_routeOf 27 = .ok (.iload_n 2, 1) := dk_28 (dk_at dksX2_routeOf_1 4 rfl rfl)
theorem dX2_routeOf_28 : decode cX2_routeOf 28 = .ok (.ifCond .ne 7, 3) := dk_154 0 7 (dk_at dksX2_routeOf_1 5 rfl rfl)
theorem dX2_routeOf_31 : decode cX2_routeOf 31 = .ok (.iload_n 3, 1) := dk_29 (dk_at dksX2_routeOf_1 8 rfl rfl)
theorem dX2_routeOf_32 : decode cX2_routeOf 32 = .ok (.goto 37, 3) := dk_167 0 37 (dk_at dksX2_routeOf_1 9 rfl rfl)
theorem dX2_routeOf_35 : decode cX2_routeOf 35 = .ok (.iload_n 2, 1) := dk_28 (dk_at dksX2_routeOf_1 12 rfl rfl)
theorem dX2_routeOf_36 : decode cX2_routeOf 36 = .ok (.iconst 1, 1) := dk_4 (dk_at dksX2_routeOf_1 13 rfl rfl)
theorem dX2_routeOf_37 : decode cX2_routeOf 37 = .ok (.if_icmp .ne 10, 3) := dk_160 0 10 (dk_at dksX2_routeOf_1 14 rfl rfl)
theorem dX2_routeOf_40 : decode cX2_routeOf 40 = .ok (.iload_n 3, 1) := dk_29 (dk_at dksX2_routeOf_1 17 rfl rfl)
theorem dX2_routeOf_41 : decode cX2_routeOf 41 = .ok (.invokestatic 153, 3) := dk_184 0 153 (dk_at dksX2_routeOf_1 18 rfl rfl)
theorem dX2_routeOf_44 : decode cX2_routeOf 44 = .ok (.goto 25, 3) := dk_167 0 25 (dk_at dksX2_routeOf_1 21 rfl rfl)
theorem dX2_routeOf_47 : decode cX2_routeOf 47 = .ok (.iload_n 2, 1) := dk_28 (dk_at dksX2_routeOf_2 0 rfl rfl)
theorem dX2_routeOf_48 : decode cX2_routeOf 48 = .ok (.iconst 2, 1) := dk_5 (dk_at dksX2_routeOf_2 1 rfl rfl)
theorem dX2_routeOf_49 : decode cX2_routeOf 49 = .ok (.if_icmp .ne 12, 3) := dk_160 0 12 (dk_at dksX2_routeOf_2 2 rfl rfl)
theorem dX2_routeOf_52 : decode cX2_routeOf 52 = .ok (.iload_n 3, 1) := dk_29 (dk_at dksX2_routeOf_2 5 rfl rfl)
theorem dX2_routeOf_53 : decode cX2_routeOf 53 = .ok (.aload_n 0, 1) := dk_42 (dk_at dksX2_routeOf_2 6 rfl rfl)
theorem dX2_routeOf_54 : decode cX2_routeOf 54 = .ok (.invokevirtual 156, 3) := dk_182 0 156 (dk_at dksX2_routeOf_2 7 rfl rfl)
theorem dX2_routeOf_57 : decode cX2_routeOf 57 = .ok (.iand, 1) := dk_126 (dk_at dksX2_routeOf_2 10 rfl rfl)
theorem dX2_routeOf_58 : decode cX2_routeOf 58 = .ok (.goto 11, 3) := dk_167 0 11 (dk_at dksX2_routeOf_2 11 rfl rfl)
theorem dX2_routeOf_61 : decode cX2_routeOf 61 = .ok (.aload_n 0, 1) := dk_42 (dk_at dksX2_routeOf_2 14 rfl rfl)
theorem dX2_routeOf_62 : decode cX2_routeOf 62 = .ok (.iload_n 1, 1) := dk_27 (dk_at dksX2_routeOf_2 15 rfl rfl)
theorem dX2_routeOf_63 : decode cX2_routeOf 63 = .ok (.iload_n 2, 1) := dk_28 (dk_at dksX2_routeOf_2 16 rfl rfl)
theorem dX2_routeOf_64 : decode cX2_routeOf 64 = .ok (.iconst 2, 1) := dk_5 (dk_at dksX2_routeOf_2 17 rfl rfl)
theorem dX2_routeOf_65 : decode cX2_routeOf 65 = .ok (.isub, 1) := dk_100 (dk_at dksX2_routeOf_2 18 rfl rfl)
theorem dX2_routeOf_66 : decode cX2_routeOf 66 = .ok (.invokevirtual 109, 3) := dk_182 0 109 (dk_at dksX2_routeOf_2 19 rfl rfl)
theorem dX2_routeOf_69 : decode cX2_routeOf 69 = .ok (.ireturn, 1) := dk_172 (dk_at dksX2_routeOf_2 22 rfl rfl)
abbrev cX2_ones : ByteArray := prog_12_method_6_code
def yX2_ones : MethodName := ⟨RX2, "ones", "(I)I"⟩
def dkwX2_ones_0 : List UInt8 := [3, 60, 26, 61, 28, 153, 0, 15, 132, 1, 1, 28, 28, 4, 100, 126, 61, 167, 255, 243, 27, 172]
abbrev dktX2_ones_0 : List UInt8 := dkwX2_ones_0 ++ []
theorem dksX2_ones_0 : cX2_ones.data.toList.drop 0 = dktX2_ones_0 := by decide +kernel
theorem dX2_ones_0 : decode cX2_ones 0 = .ok (.iconst 0, 1) := dk_3 (dk_at dksX2_ones_0 0 rfl rfl)
theorem dX2_ones_1 : decode cX2_ones 1 = .ok (.istore_n 1, 1) := dk_60 (dk_at dksX2_ones_0 1 rfl rfl)
theorem dX2_ones_2 : decode cX2_ones 2 = .ok (.iload_n 0, 1) := dk_26 (dk_at dksX2_ones_0 2 rfl rfl)
theorem dX2_ones_3 : decode cX2_ones 3 = .ok (.istore_n 2, 1) := dk_61 (dk_at dksX2_ones_0 3 rfl rfl)
theorem dX2_ones_4 : decode cX2_ones 4 = .ok (.iload_n 2, 1) := dk_28 (dk_at dksX2_ones_0 4 rfl rfl)
theorem dX2_ones_5 : decode cX2_ones 5 = .ok (.ifCond .eq 15, 3) := dk_153 0 15 (dk_at dksX2_ones_0 5 rfl rfl)
theorem dX2_ones_8 : decode cX2_ones 8 = .ok (.iinc 1 1, 3) := dk_132 1 1 (dk_at dksX2_ones_0 8 rfl rfl)
theorem dX2_ones_11 : decode cX2_ones 11 = .ok (.iload_n 2, 1) := dk_28 (dk_at dksX2_ones_0 11 rfl rfl)
theorem dX2_ones_12 : decode cX2_ones 12 = .ok (.iload_n 2, 1) := dk_28 (dk_at dksX2_ones_0 12 rfl rfl)
theorem dX2_ones_13 : decode cX2_ones 13 = .ok (.iconst 1, 1) := dk_4 (dk_at dksX2_ones_0 13 rfl rfl)
theorem dX2_ones_14 : decode cX2_ones 14 = .ok (.isub, 1) := dk_100 (dk_at dksX2_ones_0 14 rfl rfl)
theorem dX2_ones_15 : decode cX2_ones 15 = .ok (.iand, 1) := dk_126 (dk_at dksX2_ones_0 15 rfl rfl)
theorem dX2_ones_16 : decode cX2_ones 16 = .ok (.istore_n 2, 1) := dk_61 (dk_at dksX2_ones_0 16 rfl rfl)
theorem dX2_ones_17 : decode cX2_ones 17 = .ok (.goto (-13), 3) := dk_167 255 243 (dk_at dksX2_ones_0 17 rfl rfl)
theorem dX2_ones_20 : decode cX2_ones 20 = .ok (.iload_n 1, 1) := dk_27 (dk_at dksX2_ones_0 20 rfl rfl)
theorem dX2_ones_21 : decode cX2_ones 21 = .ok (.ireturn, 1) := dk_172 (dk_at dksX2_ones_0 21 rfl rfl)
abbrev cX2_tornOnes : ByteArray := prog_12_method_43_code
def yX2_tornOnes : MethodName := ⟨RX2, "tornOnes", "()I"⟩
def dkwX2_tornOnes_1 : List UInt8 := [60, 132, 2, 1, 167, 255, 232, 27, 172]
abbrev dktX2_tornOnes_1 : List UInt8 := dkwX2_tornOnes_1 ++ []
def dkwX2_tornOnes_0 : List UInt8 := [3, 60, 3, 61, 28, 42, 180, 0, 7, 3, 46, 162, 0, 20, 27, 42, 28, 5, 182, 0, 26, 28, 120, 128]
abbrev dktX2_tornOnes_0 : List UInt8 := dkwX2_tornOnes_0 ++ dktX2_tornOnes_1
theorem dksX2_tornOnes_0 : cX2_tornOnes.data.toList.drop 0 = dktX2_tornOnes_0 := by decide +kernel
theorem dksX2_tornOnes_1 : cX2_tornOnes.data.toList.drop 24 = dktX2_tornOnes_1 := dk_seg dksX2_tornOnes_0 24 rfl rfl
theorem dX2_tornOnes_0 : decode cX2_tornOnes 0 = .ok (.iconst 0, 1) := dk_3 (dk_at dksX2_tornOnes_0 0 rfl rfl)
theorem dX2_tornOnes_1 : decode cX2_tornOnes 1 = .ok (.istore_n 1, 1) := dk_60 (dk_at dksX2_tornOnes_0 1 rfl rfl)
theorem dX2_tornOnes_2 : decode cX2_tornOnes 2 = .ok (.iconst 0, 1) := dk_3 (dk_at dksX2_tornOnes_0 2 rfl rfl)
theorem dX2_tornOnes_3 : decode cX2_tornOnes 3 = .ok (.istore_n 2, 1) := dk_61 (dk_at dksX2_tornOnes_0 3 rfl rfl)
theorem dX2_tornOnes_4 : decode cX2_tornOnes 4 = .ok (.iload_n 2, 1) := dk_28 (dk_at dksX2_tornOnes_0 4 rfl rfl)
theorem dX2_tornOnes_5 : decode cX2_tornOnes 5 = .ok (.aload_n 0, 1) := dk_42 (dk_at dksX2_tornOnes_0 5 rfl rfl)
theorem dX2_tornOnes_6 : decode cX2_tornOnes 6 = .ok (.getfield 7, 3) := dk_180 0 7 (dk_at dksX2_tornOnes_0 6 rfl rfl)
theorem dX2_tornOnes_9 : decode cX2_tornOnes 9 = .ok (.iconst 0, 1) := dk_3 (dk_at dksX2_tornOnes_0 9 rfl rfl)
theorem dX2_tornOnes_10 : decode cX2_tornOnes 10 = .ok (.iaload, 1) := dk_46 (dk_at dksX2_tornOnes_0 10 rfl rfl)
theorem dX2_tornOnes_11 : decode cX2_tornOnes 11 = .ok (.if_icmp .ge 20, 3) := dk_162 0 20 (dk_at dksX2_tornOnes_0 11 rfl rfl)
theorem dX2_tornOnes_14 : decode cX2_tornOnes 14 = .ok (.iload_n 1, 1) := dk_27 (dk_at dksX2_tornOnes_0 14 rfl rfl)
theorem dX2_tornOnes_15 : decode cX2_tornOnes 15 = .ok (.aload_n 0, 1) := dk_42 (dk_at dksX2_tornOnes_0 15 rfl rfl)
theorem dX2_tornOnes_16 : decode cX2_tornOnes 16 = .ok (.iload_n 2, 1) := dk_28 (dk_at dksX2_tornOnes_0 16 rfl rfl)
theorem dX2_tornOnes_17 : decode cX2_tornOnes 17 = .ok (.iconst 2, 1) := dk_5 (dk_at dksX2_tornOnes_0 17 rfl rfl)
theorem dX2_tornOnes_18 : decode cX2_tornOnes 18 = .ok (.invokevirtual 26, 3) := dk_182 0 26 (dk_at dksX2_tornOnes_0 18 rfl rfl)
theorem dX2_tornOnes_21 : decode cX2_tornOnes 21 = .ok (.iload_n 2, 1) := dk_28 (dk_at dksX2_tornOnes_0 21 rfl rfl)
theorem dX2_tornOnes_22 : decode cX2_tornOnes 22 = .ok (.ishl, 1) := dk_120 (dk_at dksX2_tornOnes_0 22 rfl rfl)
theorem dX2_tornOnes_23 : decode cX2_tornOnes 23 = .ok (.ior, 1) := dk_128 (dk_at dksX2_tornOnes_0 23 rfl rfl)
theorem dX2_tornOnes_24 : decode cX2_tornOnes 24 = .ok (.istore_n 1, 1) := dk_60 (dk_at dksX2_tornOnes_1 0 rfl rfl)
theorem dX2_tornOnes_25 : decode cX2_tornOnes 25 = .ok (.iinc 2 1, 3) := dk_132 2 1 (dk_at dksX2_tornOnes_1 1 rfl rfl)
theorem dX2_tornOnes_28 : decode cX2_tornOnes 28 = .ok (.goto (-24), 3) := dk_167 255 232 (dk_at dksX2_tornOnes_1 4 rfl rfl)
theorem dX2_tornOnes_31 : decode cX2_tornOnes 31 = .ok (.iload_n 1, 1) := dk_27 (dk_at dksX2_tornOnes_1 7 rfl rfl)
theorem dX2_tornOnes_32 : decode cX2_tornOnes 32 = .ok (.ireturn, 1) := dk_172 (dk_at dksX2_tornOnes_1 8 rfl rfl)
abbrev cX2_would : ByteArray := prog_12_method_45_code
def yX2_would : MethodName := ⟨RX2, "would", "(III)I"⟩
def dkwX2_would_4 : List UInt8 := [180, 0, 7, 184, 0, 93, 21, 6, 172]
abbrev dktX2_would_4 : List UInt8 := dkwX2_would_4 ++ []
def dkwX2_would_3 : List UInt8 := [167, 0, 17, 29, 5, 160, 0, 10, 42, 180, 0, 118, 167, 0, 5, 21, 5, 54, 6, 42, 180, 0, 16, 42]
abbrev dktX2_would_3 : List UInt8 := dkwX2_would_3 ++ dktX2_would_4
def dkwX2_would_2 : List UInt8 := [54, 5, 29, 154, 0, 12, 42, 180, 0, 7, 4, 46, 167, 0, 29, 29, 4, 160, 0, 10, 42, 180, 0, 121]
abbrev dktX2_would_2 : List UInt8 := dkwX2_would_2 ++ dktX2_would_3
def dkwX2_would_1 : List UInt8 := [156, 0, 6, 21, 4, 172, 42, 180, 0, 7, 42, 180, 0, 16, 184, 0, 93, 42, 27, 28, 182, 0, 131]
abbrev dktX2_would_1 : List UInt8 := dkwX2_would_1 ++ dktX2_would_2
def dkwX2_would_0 : List UInt8 := [29, 3, 6, 184, 0, 61, 154, 0, 6, 18, 92, 172, 42, 27, 28, 182, 0, 128, 54, 4, 21, 4]
abbrev dktX2_would_0 : List UInt8 := dkwX2_would_0 ++ dktX2_would_1
theorem dksX2_would_0 : cX2_would.data.toList.drop 0 = dktX2_would_0 := by decide +kernel
theorem dksX2_would_1 : cX2_would.data.toList.drop 22 = dktX2_would_1 := dk_seg dksX2_would_0 22 rfl rfl
theorem dksX2_would_2 : cX2_would.data.toList.drop 45 = dktX2_would_2 := dk_seg dksX2_would_1 23 rfl rfl
theorem dksX2_would_3 : cX2_would.data.toList.drop 69 = dktX2_would_3 := dk_seg dksX2_would_2 24 rfl rfl
theorem dksX2_would_4 : cX2_would.data.toList.drop 93 = dktX2_would_4 := dk_seg dksX2_would_3 24 rfl rfl
theorem dX2_would_0 : decode cX2_would 0 = .ok (.iload_n 3, 1) := dk_29 (dk_at dksX2_would_0 0 rfl rfl)
theorem dX2_would_1 : decode cX2_would 1 = .ok (.iconst 0, 1) := dk_3 (dk_at dksX2_would_0 1 rfl rfl)
theorem dX2_would_2 : decode cX2_would 2 = .ok (.iconst 3, 1) := dk_6 (dk_at dksX2_would_0 2 rfl rfl)
theorem dX2_would_3 : decode cX2_would 3 = .ok (.invokestatic 61, 3) := dk_184 0 61 (dk_at dksX2_would_0 3 rfl rfl)
theorem dX2_would_6 : decode cX2_would 6 = .ok (.ifCond .ne 6, 3) := dk_154 0 6 (dk_at dksX2_would_0 6 rfl rfl)
theorem dX2_would_9 : decode cX2_would 9 = .ok (.ldc 92, 2) := dk_18 92 (dk_at dksX2_would_0 9 rfl rfl)
theorem dX2_would_11 : decode cX2_would 11 = .ok (.ireturn, 1) := dk_172 (dk_at dksX2_would_0 11 rfl rfl)
theorem dX2_would_12 : decode cX2_would 12 = .ok (.aload_n 0, 1) := dk_42 (dk_at dksX2_would_0 12 rfl rfl)
theorem dX2_would_13 : decode cX2_would 13 = .ok (.iload_n 1, 1) := dk_27 (dk_at dksX2_would_0 13 rfl rfl)
theorem dX2_would_14 : decode cX2_would 14 = .ok (.iload_n 2, 1) := dk_28 (dk_at dksX2_would_0 14 rfl rfl)
theorem dX2_would_15 : decode cX2_would 15 = .ok (.invokevirtual 128, 3) := dk_182 0 128 (dk_at dksX2_would_0 15 rfl rfl)
theorem dX2_would_18 : decode cX2_would 18 = .ok (.istore 4, 2) := dk_54 4 (dk_at dksX2_would_0 18 rfl rfl)
theorem dX2_would_20 : decode cX2_would 20 = .ok (.iload 4, 2) := dk_21 4 (dk_at dksX2_would_0 20 rfl rfl)
theorem dX2_would_22 : decode cX2_would 22 = .ok (.ifCond .ge 6, 3) := dk_156 0 6 (dk_at dksX2_would_1 0 rfl rfl)
theorem dX2_would_25 : decode cX2_would 25 = .ok (.iload 4, 2) := dk_21 4 (dk_at dksX2_would_1 3 rfl rfl)
theorem dX2_would_27 : decode cX2_would 27 = .ok (.ireturn, 1) := dk_172 (dk_at dksX2_would_1 5 rfl rfl)
theorem dX2_would_28 : decode cX2_would 28 = .ok (.aload_n 0, 1) := dk_42 (dk_at dksX2_would_1 6 rfl rfl)
theorem dX2_would_29 : decode cX2_would 29 = .ok (.getfield 7, 3) := dk_180 0 7 (dk_at dksX2_would_1 7 rfl rfl)
theorem dX2_would_32 : decode cX2_would 32 = .ok (.aload_n 0, 1) := dk_42 (dk_at dksX2_would_1 10 rfl rfl)
theorem dX2_would_33 : decode cX2_would 33 = .ok (.getfield 16, 3) := dk_180 0 16 (dk_at dksX2_would_1 11 rfl rfl)
theorem dX2_would_36 : decode cX2_would 36 = .ok (.invokestatic 93, 3) := dk_184 0 93 (dk_at dksX2_would_1 14 rfl rfl)
theorem dX2_would_39 : decode cX2_would 39 = .ok (.aload_n 0, 1) := dk_42 (dk_at dksX2_would_1 17 rfl rfl)
theorem dX2_would_40 : decode cX2_would 40 = .ok (.iload_n 1, 1) := dk_27 (dk_at dksX2_would_1 18 rfl rfl)
theorem dX2_would_41 : decode cX2_would 41 = .ok (.iload_n 2, 1) := dk_28 (dk_at dksX2_would_1 19 rfl rfl)
theorem dX2_would_42 : decode cX2_would 42 = .ok (.invokevirtual 131, 3) := dk_182 0 131 (dk_at dksX2_would_1 20 rfl rfl)
theorem dX2_would_45 : decode cX2_would 45 = .ok (.istore 5, 2) := dk_54 5 (dk_at dksX2_would_2 0 rfl rfl)
theorem dX2_would_47 : decode cX2_would 47 = .ok (.iload_n 3, 1) := dk_29 (dk_at dksX2_would_2 2 rfl rfl)
theorem dX2_would_48 : decode cX2_would 48 = .ok (.ifCond .ne 12, 3) := dk_154 0 12 (dk_at dksX2_would_2 3 rfl rfl)
theorem dX2_would_51 : decode cX2_would 51 = .ok (.aload_n 0, 1) := dk_42 (dk_at dksX2_would_2 6 rfl rfl)
theorem dX2_would_52 : decode cX2_would 52 = .ok (.getfield 7, 3) := dk_180 0 7 (dk_at dksX2_would_2 7 rfl rfl)
theorem dX2_would_55 : decode cX2_would 55 = .ok (.iconst 1, 1) := dk_4 (dk_at dksX2_would_2 10 rfl rfl)
theorem dX2_would_56 : decode cX2_would 56 = .ok (.iaload, 1) := dk_46 (dk_at dksX2_would_2 11 rfl rfl)
theorem dX2_would_57 : decode cX2_would 57 = .ok (.goto 29, 3) := dk_167 0 29 (dk_at dksX2_would_2 12 rfl rfl)
theorem dX2_would_60 : decode cX2_would 60 = .ok (.iload_n 3, 1) := dk_29 (dk_at dksX2_would_2 15 rfl rfl)
theorem dX2_would_61 : decode cX2_would 61 = .ok (.iconst 1, 1) := dk_4 (dk_at dksX2_would_2 16 rfl rfl)
theorem dX2_would_62 : decode cX2_would 62 = .ok (.if_icmp .ne 10, 3) := dk_160 0 10 (dk_at dksX2_would_2 17 rfl rfl)
theorem dX2_would_65 : decode cX2_would 65 = .ok (.aload_n 0, 1) := dk_42 (dk_at dksX2_would_2 20 rfl rfl)
theorem dX2_would_66 : decode cX2_would 66 = .ok (.getfield 121, 3) := dk_180 0 121 (dk_at dksX2_would_2 21 rfl rfl)
theorem dX2_would_69 : decode cX2_would 69 = .ok (.goto 17, 3) := dk_167 0 17 (dk_at dksX2_would_3 0 rfl rfl)
theorem dX2_would_72 : decode cX2_would 72 = .ok (.iload_n 3, 1) := dk_29 (dk_at dksX2_would_3 3 rfl rfl)
theorem dX2_would_73 : decode cX2_would 73 = .ok (.iconst 2, 1) := dk_5 (dk_at dksX2_would_3 4 rfl rfl)
theorem dX2_would_74 : decode cX2_would 74 = .ok (.if_icmp .ne 10, 3) := dk_160 0 10 (dk_at dksX2_would_3 5 rfl rfl)
theorem dX2_would_77 : decode cX2_would 77 = .ok (.aload_n 0, 1) := dk_42 (dk_at dksX2_would_3 8 rfl rfl)
theorem dX2_would_78 : decode cX2_would 78 = .ok (.getfield 118, 3) := dk_180 0 118 (dk_at dksX2_would_3 9 rfl rfl)
theorem dX2_would_81 : decode cX2_would 81 = .ok (.goto 5, 3) := dk_167 0 5 (dk_at dksX2_would_3 12 rfl rfl)
theorem dX2_would_84 : decode cX2_would 84 = .ok (.iload 5, 2) := dk_21 5 (dk_at dksX2_would_3 15 rfl rfl)
theorem dX2_would_86 : decode cX2_would 86 = .ok (.istore 6, 2) := dk_54 6 (dk_at dksX2_would_3 17 rfl rfl)
theorem dX2_would_88 : decode cX2_would 88 = .ok (.aload_n 0, 1) := dk_42 (dk_at dksX2_would_3 19 rfl rfl)
theorem dX2_would_89 : decode cX2_would 89 = .ok (.getfield 16, 3) := dk_180 0 16 (dk_at dksX2_would_3 20 rfl rfl)
theorem dX2_would_92 : decode cX2_would 92 = .ok (.aload_n 0, 1) := dk_42 (dk_at dksX2_would_3 23 rfl rfl)
theorem dX2_would_93 : decode cX2_would 93 = .ok (.getfield 7, 3) := dk_180 0 7 (dk_at dksX2_would_4 0 rfl rfl)
theorem dX2_would_96 : decode cX2_would 96 = .ok (.invokestatic 93, 3) := dk_184 0 93 (dk_at dksX2_would_4 3 rfl rfl)
theorem dX2_would_99 : decode cX2_would 99 = .ok (.iload 6, 2) := dk_21 6 (dk_at dksX2_would_4 6 rfl rfl)
theorem dX2_would_101 : decode cX2_would 101 = .ok (.ireturn, 1) := dk_172 (dk_at dksX2_would_4 8 rfl rfl)
abbrev cX2_nearest : ByteArray := prog_12_method_46_code
def yX2_nearest : MethodName := ⟨RX2, "nearest", "(I)I"⟩
def dkwX2_nearest_5 : List UInt8 := [172, 132, 2, 1, 167, 255, 148, 18, 100, 172]
abbrev dktX2_nearest_5 : List UInt8 := dkwX2_nearest_5 ++ []
def dkwX2_nearest_4 : List UInt8 := [29, 153, 0, 24, 27, 154, 0, 16, 42, 180, 0, 7, 4, 46, 29, 28, 104, 96, 167, 0, 6, 29, 28, 104]
abbrev dktX2_nearest_4 : List UInt8 := dkwX2_nearest_4 ++ dktX2_nearest_5
def dkwX2_nearest_3 : List UInt8 := [153, 0, 22, 42, 42, 180, 0, 7, 4, 46, 28, 100, 182, 0, 144, 154, 0, 7, 2, 167, 0, 4, 3, 62]
abbrev dktX2_nearest_3 : List UInt8 := dkwX2_nearest_3 ++ dktX2_nearest_4
def dkwX2_nearest_2 : List UInt8 := [182, 0, 144, 154, 0, 7, 4, 167, 0, 38, 42, 42, 180, 0, 7, 4, 46, 28, 100, 182, 0, 105]
abbrev dktX2_nearest_2 : List UInt8 := dkwX2_nearest_2 ++ dktX2_nearest_3
def dkwX2_nearest_1 : List UInt8 := [42, 42, 180, 0, 7, 4, 46, 28, 96, 182, 0, 105, 153, 0, 22, 42, 42, 180, 0, 7, 4, 46, 28, 96]
abbrev dktX2_nearest_1 : List UInt8 := dkwX2_nearest_1 ++ dktX2_nearest_2
def dkwX2_nearest_0 : List UInt8 := [27, 3, 4, 184, 0, 61, 154, 0, 6, 18, 92, 172, 3, 61, 28, 42, 180, 0, 7, 3, 46, 162, 0, 104]
abbrev dktX2_nearest_0 : List UInt8 := dkwX2_nearest_0 ++ dktX2_nearest_1
theorem dksX2_nearest_0 : cX2_nearest.data.toList.drop 0 = dktX2_nearest_0 := by decide +kernel
theorem dksX2_nearest_1 : cX2_nearest.data.toList.drop 24 = dktX2_nearest_1 := dk_seg dksX2_nearest_0 24 rfl rfl
theorem dksX2_nearest_2 : cX2_nearest.data.toList.drop 48 = dktX2_nearest_2 := dk_seg dksX2_nearest_1 24 rfl rfl
theorem dksX2_nearest_3 : cX2_nearest.data.toList.drop 70 = dktX2_nearest_3 := dk_seg dksX2_nearest_2 22 rfl rfl
theorem dksX2_nearest_4 : cX2_nearest.data.toList.drop 94 = dktX2_nearest_4 := dk_seg dksX2_nearest_3 24 rfl rfl
theorem dksX2_nearest_5 : cX2_nearest.data.toList.drop 118 = dktX2_nearest_5 := dk_seg dksX2_nearest_4 24 rfl rfl
theorem dX2_nearest_0 : decode cX2_nearest 0 = .ok (.iload_n 1, 1) := dk_27 (dk_at dksX2_nearest_0 0 rfl rfl)
theorem dX2_nearest_1 : decode cX2_nearest 1 = .ok (.iconst 0, 1) := dk_3 (dk_at dksX2_nearest_0 1 rfl rfl)
theorem dX2_nearest_2 : decode cX2_nearest 2 = .ok (.iconst 1, 1) := dk_4 (dk_at dksX2_nearest_0 2 rfl rfl)
theorem dX2_nearest_3 : decode cX2_nearest 3 = .ok (.invokestatic 61, 3) := dk_184 0 61 (dk_at dksX2_nearest_0 3 rfl rfl)
theorem dX2_nearest_6 : decode cX2_nearest 6 = .ok (.ifCond .ne 6, 3) := dk_154 0 6 (dk_at dksX2_nearest_0 6 rfl rfl)
theorem dX2_nearest_9 : decode cX2_nearest 9 = .ok (.ldc 92, 2) := dk_18 92 (dk_at dksX2_nearest_0 9 rfl rfl)
theorem dX2_nearest_11 : decode cX2_nearest 11 = .ok (.ireturn, 1) := dk_172 (dk_at dksX2_nearest_0 11 rfl rfl)
theorem dX2_nearest_12 : decode cX2_nearest 12 = .ok (.iconst 0, 1) := dk_3 (dk_at dksX2_nearest_0 12 rfl rfl)
theorem dX2_nearest_13 : decode cX2_nearest 13 = .ok (.istore_n 2, 1) := dk_61 (dk_at dksX2_nearest_0 13 rfl rfl)
theorem dX2_nearest_14 : decode cX2_nearest 14 = .ok (.iload_n 2, 1) := dk_28 (dk_at dksX2_nearest_0 14 rfl rfl)
theorem dX2_nearest_15 : decode cX2_nearest 15 = .ok (.aload_n 0, 1) := dk_42 (dk_at dksX2_nearest_0 15 rfl rfl)
theorem dX2_nearest_16 : decode cX2_nearest 16 = .ok (.getfield 7, 3) := dk_180 0 7 (dk_at dksX2_nearest_0 16 rfl rfl)
theorem dX2_nearest_19 : decode cX2_nearest 19 = .ok (.iconst 0, 1) := dk_3 (dk_at dksX2_nearest_0 19 rfl rfl)
theorem dX2_nearest_20 : decode cX2_nearest 20 = .ok (.iaload, 1) := dk_46 (dk_at dksX2_nearest_0 20 rfl rfl)
theorem dX2_nearest_21 : decode cX2_nearest 21 = .ok (.if_icmp .ge 104, 3) := dk_162 0 104 (dk_at dksX2_nearest_0 21 rfl rfl)
theorem dX2_nearest_24 : decode cX2_nearest 24 = .ok (.aload_n 0, 1) := dk_42 (dk_at dksX2_nearest_1 0 rfl rfl)
theorem dX2_nearest_25 : decode cX2_nearest 25 = .ok (.aload_n 0, 1) := dk_42 (dk_at dksX2_nearest_1 1 rfl rfl)
theorem dX2_nearest_26 : decode cX2_nearest 26 = .ok (.getfield 7, 3) := dk_180 0 7 (dk_at dksX2_nearest_1 2 rfl rfl)
theorem dX2_nearest_29 : decode cX2_nearest 29 = .ok (.iconst 1, 1) := dk_4 (dk_at dksX2_nearest_1 5 rfl rfl)
theorem dX2_nearest_30 : decode cX2_nearest 30 = .ok (.iaload, 1) := dk_46 (dk_at dksX2_nearest_1 6 rfl rfl)
theorem dX2_nearest_31 : decode cX2_nearest 31 = .ok (.iload_n 2, 1) := dk_28 (dk_at dksX2_nearest_1 7 rfl rfl)
theorem dX2_nearest_32 : decode cX2_nearest 32 = .ok (.iadd, 1) := dk_96 (dk_at dksX2_nearest_1 8 rfl rfl)
theorem dX2_nearest_33 : decode cX2_nearest 33 = .ok (.invokevirtual 105, 3) := dk_182 0 105 (dk_at dksX2_nearest_1 9 rfl rfl)
theorem dX2_nearest_36 : decode cX2_nearest 36 = .ok (.ifCond .eq 22, 3) := dk_153 0 22 (dk_at dksX2_nearest_1 12 rfl rfl)
theorem dX2_nearest_39 : decode cX2_nearest 39 = .ok (.aload_n 0, 1) := dk_42 (dk_at dksX2_nearest_1 15 rfl rfl)
theorem dX2_nearest_40 : decode cX2_nearest 40 = .ok (.aload_n 0, 1) := dk_42 (dk_at dksX2_nearest_1 16 rfl rfl)
theorem dX2_nearest_41 : decode cX2_nearest 41 = .ok (.getfield 7, 3) := dk_180 0 7 (dk_at dksX2_nearest_1 17 rfl rfl)
theorem dX2_nearest_44 : decode cX2_nearest 44 = .ok (.iconst 1, 1) := dk_4 (dk_at dksX2_nearest_1 20 rfl rfl)
theorem dX2_nearest_45 : decode cX2_nearest 45 = .ok (.iaload, 1) := dk_46 (dk_at dksX2_nearest_1 21 rfl rfl)
theorem dX2_nearest_46 : decode cX2_nearest 46 = .ok (.iload_n 2, 1) := dk_28 (dk_at dksX2_nearest_1 22 rfl rfl)
theorem dX2_nearest_47 : decode cX2_nearest 47 = .ok (.iadd, 1) := dk_96 (dk_at dksX2_nearest_1 23 rfl rfl)
theorem dX2_nearest_48 : decode cX2_nearest 48 = .ok (.invokevirtual 144, 3) := dk_182 0 144 (dk_at dksX2_nearest_2 0 rfl rfl)
theorem dX2_nearest_51 : decode cX2_nearest 51 = .ok (.ifCond .ne 7, 3) := dk_154 0 7 (dk_at dksX2_nearest_2 3 rfl rfl)
theorem dX2_nearest_54 : decode cX2_nearest 54 = .ok (.iconst 1, 1) := dk_4 (dk_at dksX2_nearest_2 6 rfl rfl)
theorem dX2_nearest_55 : decode cX2_nearest 55 = .ok (.goto 38, 3) := dk_167 0 38 (dk_at dksX2_nearest_2 7 rfl rfl)
theorem dX2_nearest_58 : decode cX2_nearest 58 = .ok (.aload_n 0, 1) := dk_42 (dk_at dksX2_nearest_2 10 rfl rfl)
theorem dX2_nearest_59 : decode cX2_nearest 59 = .ok (.aload_n 0, 1) := dk_42 (dk_at dksX2_nearest_2 11 rfl rfl)
theorem dX2_nearest_60 : decode cX2_nearest 60 = .ok (.getfield 7, 3) := dk_180 0 7 (dk_at dksX2_nearest_2 12 rfl rfl)
theorem dX2_nearest_63 : decode cX2_nearest 63 = .ok (.iconst 1, 1) := dk_4 (dk_at dksX2_nearest_2 15 rfl rfl)
theorem dX2_nearest_64 : decode cX2_nearest 64 = .ok (.iaload, 1) := dk_46 (dk_at dksX2_nearest_2 16 rfl rfl)
theorem dX2_nearest_65 : decode cX2_nearest 65 = .ok (.iload_n 2, 1) := dk_28 (dk_at dksX2_nearest_2 17 rfl rfl)
theorem dX2_nearest_66 : decode cX2_nearest 66 = .ok (.isub, 1) := dk_100 (dk_at dksX2_nearest_2 18 rfl rfl)
theorem dX2_nearest_67 : decode cX2_nearest 67 = .ok (.invokevirtual 105, 3) := dk_182 0 105 (dk_at dksX2_nearest_2 19 rfl rfl)
theorem dX2_nearest_70 : decode cX2_nearest 70 = .ok (.ifCond .eq 22, 3) := dk_153 0 22 (dk_at dksX2_nearest_3 0 rfl rfl)
theorem dX2_nearest_73 : decode cX2_nearest 73 = .ok (.aload_n 0, 1) := dk_42 (dk_at dksX2_nearest_3 3 rfl rfl)
theorem dX2_nearest_74 : decode cX2_nearest 74 = .ok (.aload_n 0, 1) := dk_42 (dk_at dksX2_nearest_3 4 rfl rfl)
theorem dX2_nearest_75 : decode cX2_nearest 75 = .ok (.getfield 7, 3) := dk_180 0 7 (dk_at dksX2_nearest_3 5 rfl rfl)
theorem dX2_nearest_78 : decode cX2_nearest 78 = .ok (.iconst 1, 1) := dk_4 (dk_at dksX2_nearest_3 8 rfl rfl)
theorem dX2_nearest_79 : decode cX2_nearest 79 = .ok (.iaload, 1) := dk_46 (dk_at dksX2_nearest_3 9 rfl rfl)
theorem dX2_nearest_80 : decode cX2_nearest 80 = .ok (.iload_n 2, 1) := dk_28 (dk_at dksX2_nearest_3 10 rfl rfl)
theorem dX2_nearest_81 : decode cX2_nearest 81 = .ok (.isub, 1) := dk_100 (dk_at dksX2_nearest_3 11 rfl rfl)
theorem dX2_nearest_82 : decode cX2_nearest 82 = .ok (.invokevirtual 144, 3) := dk_182 0 144 (dk_at dksX2_nearest_3 12 rfl rfl)
theorem dX2_nearest_85 : decode cX2_nearest 85 = .ok (.ifCond .ne 7, 3) := dk_154 0 7 (dk_at dksX2_nearest_3 15 rfl rfl)
theorem dX2_nearest_88 : decode cX2_nearest 88 = .ok (.iconst (-1), 1) := dk_2 (dk_at dksX2_nearest_3 18 rfl rfl)
theorem dX2_nearest_89 : decode cX2_nearest 89 = .ok (.goto 4, 3) := dk_167 0 4 (dk_at dksX2_nearest_3 19 rfl rfl)
theorem dX2_nearest_92 : decode cX2_nearest 92 = .ok (.iconst 0, 1) := dk_3 (dk_at dksX2_nearest_3 22 rfl rfl)
theorem dX2_nearest_93 : decode cX2_nearest 93 = .ok (.istore_n 3, 1) := dk_62 (dk_at dksX2_nearest_3 23 rfl rfl)
theorem dX2_nearest_94 : decode cX2_nearest 94 = .ok (.iload_n 3, 1) := dk_29 (dk_at dksX2_nearest_4 0 rfl rfl)
theorem dX2_nearest_95 : decode cX2_nearest 95 = .ok (.ifCond .eq 24, 3) := dk_153 0 24 (dk_at dksX2_nearest_4 1 rfl rfl)
theorem dX2_nearest_98 : decode cX2_nearest 98 = .ok (.iload_n 1, 1) := dk_27 (dk_at dksX2_nearest_4 4 rfl rfl)
theorem dX2_nearest_99 : decode cX2_nearest 99 = .ok (.ifCond .ne 16, 3) := dk_154 0 16 (dk_at dksX2_nearest_4 5 rfl rfl)
theorem dX2_nearest_102 : decode cX2_nearest 102 = .ok (.aload_n 0, 1) := dk_42 (dk_at dksX2_nearest_4 8 rfl rfl)
theorem dX2_nearest_103 : decode cX2_nearest 103 = .ok (.getfield 7, 3) := dk_180 0 7 (dk_at dksX2_nearest_4 9 rfl rfl)
theorem dX2_nearest_106 : decode cX2_nearest 106 = .ok (.iconst 1, 1) := dk_4 (dk_at dksX2_nearest_4 12 rfl rfl)
theorem dX2_nearest_107 : decode cX2_nearest 107 = .ok (.iaload, 1) := dk_46 (dk_at dksX2_nearest_4 13 rfl rfl)
theorem dX2_nearest_108 : decode cX2_nearest 108 = .ok (.iload_n 3, 1) := dk_29 (dk_at dksX2_nearest_4 14 rfl rfl)
theorem dX2_nearest_109 : decode cX2_nearest 109 = .ok (.iload_n 2, 1) := dk_28 (dk_at dksX2_nearest_4 15 rfl rfl)
theorem dX2_nearest_110 : decode cX2_nearest 110 = .ok (.imul, 1) := dk_104 (dk_at dksX2_nearest_4 16 rfl rfl)
theorem dX2_nearest_111 : decode cX2_nearest 111 = .ok (.iadd, 1) := dk_96 (dk_at dksX2_nearest_4 17 rfl rfl)
theorem dX2_nearest_112 : decode cX2_nearest 112 = .ok (.goto 6, 3) := dk_167 0 6 (dk_at dksX2_nearest_4 18 rfl rfl)
theorem dX2_nearest_115 : decode cX2_nearest 115 = .ok (.iload_n 3, 1) := dk_29 (dk_at dksX2_nearest_4 21 rfl rfl)
theorem dX2_nearest_116 : decode cX2_nearest 116 = .ok (.iload_n 2, 1) := dk_28 (dk_at dksX2_nearest_4 22 rfl rfl)
theorem dX2_nearest_117 : decode cX2_nearest 117 = .ok (.imul, 1) := dk_104 (dk_at dksX2_nearest_4 23 rfl rfl)
theorem dX2_nearest_118 : decode cX2_nearest 118 = .ok (.ireturn, 1) := dk_172 (dk_at dksX2_nearest_5 0 rfl rfl)
theorem dX2_nearest_119 : decode cX2_nearest 119 = .ok (.iinc 2 1, 3) := dk_132 2 1 (dk_at dksX2_nearest_5 1 rfl rfl)
theorem dX2_nearest_122 : decode cX2_nearest 122 = .ok (.goto (-108), 3) := dk_167 255 148 (dk_at dksX2_nearest_5 4 rfl rfl)
theorem dX2_nearest_125 : decode cX2_nearest 125 = .ok (.ldc 100, 2) := dk_18 100 (dk_at dksX2_nearest_5 7 rfl rfl)
theorem dX2_nearest_127 : decode cX2_nearest 127 = .ok (.ireturn, 1) := dk_172 (dk_at dksX2_nearest_5 9 rfl rfl)
abbrev cX2_alike : ByteArray := prog_12_method_47_code
def yX2_alike : MethodName := ⟨RX2, "alike", "(II)I"⟩
def dkwX2_alike_2 : List UInt8 := [182, 0, 26, 42, 28, 6, 29, 96, 182, 0, 26, 160, 0, 9, 132, 3, 1, 167, 255, 214, 29, 172]
abbrev dktX2_alike_2 : List UInt8 := dkwX2_alike_2 ++ []
def dkwX2_alike_1 : List UInt8 := [3, 182, 0, 26, 162, 0, 38, 29, 42, 28, 3, 182, 0, 26, 162, 0, 28, 42, 27, 6, 29, 96]
abbrev dktX2_alike_1 : List UInt8 := dkwX2_alike_1 ++ dktX2_alike_2
def dkwX2_alike_0 : List UInt8 := [42, 27, 182, 0, 105, 153, 0, 11, 42, 28, 182, 0, 105, 154, 0, 6, 18, 92, 172, 3, 62, 29, 42, 27]
abbrev dktX2_alike_0 : List UInt8 := dkwX2_alike_0 ++ dktX2_alike_1
theorem dksX2_alike_0 : cX2_alike.data.toList.drop 0 = dktX2_alike_0 := by decide +kernel
theorem dksX2_alike_1 : cX2_alike.data.toList.drop 24 = dktX2_alike_1 := dk_seg dksX2_alike_0 24 rfl rfl
theorem dksX2_alike_2 : cX2_alike.data.toList.drop 46 = dktX2_alike_2 := dk_seg dksX2_alike_1 22 rfl rfl
theorem dX2_alike_0 : decode cX2_alike 0 = .ok (.aload_n 0, 1) := dk_42 (dk_at dksX2_alike_0 0 rfl rfl)
theorem dX2_alike_1 : decode cX2_alike 1 = .ok (.iload_n 1, 1) := dk_27 (dk_at dksX2_alike_0 1 rfl rfl)
theorem dX2_alike_2 : decode cX2_alike 2 = .ok (.invokevirtual 105, 3) := dk_182 0 105 (dk_at dksX2_alike_0 2 rfl rfl)
theorem dX2_alike_5 : decode cX2_alike 5 = .ok (.ifCond .eq 11, 3) := dk_153 0 11 (dk_at dksX2_alike_0 5 rfl rfl)
theorem dX2_alike_8 : decode cX2_alike 8 = .ok (.aload_n 0, 1) := dk_42 (dk_at dksX2_alike_0 8 rfl rfl)
theorem dX2_alike_9 : decode cX2_alike 9 = .ok (.iload_n 2, 1) := dk_28 (dk_at dksX2_alike_0 9 rfl rfl)
theorem dX2_alike_10 : decode cX2_alike 10 = .ok (.invokevirtual 105, 3) := dk_182 0 105 (dk_at dksX2_alike_0 10 rfl rfl)
theorem dX2_alike_13 : decode cX2_alike 13 = .ok (.ifCond .ne 6, 3) := dk_154 0 6 (dk_at dksX2_alike_0 13 rfl rfl)
theorem dX2_alike_16 : decode cX2_alike 16 = .ok (.ldc 92, 2) := dk_18 92 (dk_at dksX2_alike_0 16 rfl rfl)
theorem dX2_alike_18 : decode cX2_alike 18 = .ok (.ireturn, 1) := dk_172 (dk_at dksX2_alike_0 18 rfl rfl)
theorem dX2_alike_19 : decode cX2_alike 19 = .ok (.iconst 0, 1) := dk_3 (dk_at dksX2_alike_0 19 rfl rfl)
theorem dX2_alike_20 : decode cX2_alike 20 = .ok (.istore_n 3, 1) := dk_62 (dk_at dksX2_alike_0 20 rfl rfl)
theorem dX2_alike_21 : decode cX2_alike 21 = .ok (.iload_n 3, 1) := dk_29 (dk_at dksX2_alike_0 21 rfl rfl)
theorem dX2_alike_22 : decode cX2_alike 22 = .ok (.aload_n 0, 1) := dk_42 (dk_at dksX2_alike_0 22 rfl rfl)
theorem dX2_alike_23 : decode cX2_alike 23 = .ok (.iload_n 1, 1) := dk_27 (dk_at dksX2_alike_0 23 rfl rfl)
theorem dX2_alike_24 : decode cX2_alike 24 = .ok (.iconst 0, 1) := dk_3 (dk_at dksX2_alike_1 0 rfl rfl)
theorem dX2_alike_25 : decode cX2_alike 25 = .ok (.invokevirtual 26, 3) := dk_182 0 26 (dk_at dksX2_alike_1 1 rfl rfl)
theorem dX2_alike_28 : decode cX2_alike 28 = .ok (.if_icmp .ge 38, 3) := dk_162 0 38 (dk_at dksX2_alike_1 4 rfl rfl)
theorem dX2_alike_31 : decode cX2_alike 31 = .ok (.iload_n 3, 1) := dk_29 (dk_at dksX2_alike_1 7 rfl rfl)
theorem dX2_alike_32 : decode cX2_alike 32 = .ok (.aload_n 0, 1) := dk_42 (dk_at dksX2_alike_1 8 rfl rfl)
theorem dX2_alike_33 : decode cX2_alike 33 = .ok (.iload_n 2, 1) := dk_28 (dk_at dksX2_alike_1 9 rfl rfl)
theorem dX2_alike_34 : decode cX2_alike 34 = .ok (.iconst 0, 1) := dk_3 (dk_at dksX2_alike_1 10 rfl rfl)
theorem dX2_alike_35 : decode cX2_alike 35 = .ok (.invokevirtual 26, 3) := dk_182 0 26 (dk_at dksX2_alike_1 11 rfl rfl)
theorem dX2_alike_38 : decode cX2_alike 38 = .ok (.if_icmp .ge 28, 3) := dk_162 0 28 (dk_at dksX2_alike_1 14 rfl rfl)
theorem dX2_alike_41 : decode cX2_alike 41 = .ok (.aload_n 0, 1) := dk_42 (dk_at dksX2_alike_1 17 rfl rfl)
theorem dX2_alike_42 : decode cX2_alike 42 = .ok (.iload_n 1, 1) := dk_27 (dk_at dksX2_alike_1 18 rfl rfl)
theorem dX2_alike_43 : decode cX2_alike 43 = .ok (.iconst 3, 1) := dk_6 (dk_at dksX2_alike_1 19 rfl rfl)
theorem dX2_alike_44 : decode cX2_alike 44 = .ok (.iload_n 3, 1) := dk_29 (dk_at dksX2_alike_1 20 rfl rfl)
theorem dX2_alike_45 : decode cX2_alike 45 = .ok (.iadd, 1) := dk_96 (dk_at dksX2_alike_1 21 rfl rfl)
theorem dX2_alike_46 : decode cX2_alike 46 = .ok (.invokevirtual 26, 3) := dk_182 0 26 (dk_at dksX2_alike_2 0 rfl rfl)
theorem dX2_alike_49 : decode cX2_alike 49 = .ok (.aload_n 0, 1) := dk_42 (dk_at dksX2_alike_2 3 rfl rfl)
theorem dX2_alike_50 : decode cX2_alike 50 = .ok (.iload_n 2, 1) := dk_28 (dk_at dksX2_alike_2 4 rfl rfl)
theorem dX2_alike_51 : decode cX2_alike 51 = .ok (.iconst 3, 1) := dk_6 (dk_at dksX2_alike_2 5 rfl rfl)
theorem dX2_alike_52 : decode cX2_alike 52 = .ok (.iload_n 3, 1) := dk_29 (dk_at dksX2_alike_2 6 rfl rfl)
theorem dX2_alike_53 : decode cX2_alike 53 = .ok (.iadd, 1) := dk_96 (dk_at dksX2_alike_2 7 rfl rfl)
theorem dX2_alike_54 : decode cX2_alike 54 = .ok (.invokevirtual 26, 3) := dk_182 0 26 (dk_at dksX2_alike_2 8 rfl rfl)
theorem dX2_alike_57 : decode cX2_alike 57 = .ok (.if_icmp .ne 9, 3) := dk_160 0 9 (dk_at dksX2_alike_2 11 rfl rfl)
theorem dX2_alike_60 : decode cX2_alike 60 = .ok (.iinc 3 1, 3) := dk_132 3 1 (dk_at dksX2_alike_2 14 rfl rfl)
theorem dX2_alike_63 : decode cX2_alike 63 = .ok (.goto (-42), 3) := dk_167 255 214 (dk_at dksX2_alike_2 17 rfl rfl)
theorem dX2_alike_66 : decode cX2_alike 66 = .ok (.iload_n 3, 1) := dk_29 (dk_at dksX2_alike_2 20 rfl rfl)
theorem dX2_alike_67 : decode cX2_alike 67 = .ok (.ireturn, 1) := dk_172 (dk_at dksX2_alike_2 21 rfl rfl)
abbrev cX2_read : ByteArray := prog_12_method_48_code
def yX2_read : MethodName := ⟨RX2, "read", "(I)I"⟩
def dkwX2_read_5 : List UInt8 := [4, 167, 0, 4, 3, 96, 62, 132, 4, 1, 167, 255, 166, 29, 172]
abbrev dktX2_read_5 : List UInt8 := dkwX2_read_5 ++ []
def dkwX2_read_4 : List UInt8 := [182, 0, 141, 182, 0, 79, 108, 27, 161, 0, 7, 4, 167, 0, 4, 3, 54, 6, 29, 21, 6, 153, 0, 7]
abbrev dktX2_read_4 : List UInt8 := dkwX2_read_4 ++ dktX2_read_5
def dkwX2_read_3 : List UInt8 := [16, 32, 159, 0, 33, 21, 5, 184, 0, 30, 42, 180, 0, 7, 16, 10, 46, 104, 16, 100, 104, 42, 42, 28]
abbrev dktX2_read_3 : List UInt8 := dkwX2_read_3 ++ dktX2_read_4
def dkwX2_read_2 : List UInt8 := [162, 0, 85, 42, 28, 182, 0, 115, 154, 0, 77, 42, 28, 6, 21, 4, 96, 182, 0, 26, 54, 5, 21, 5]
abbrev dktX2_read_2 : List UInt8 := dkwX2_read_2 ++ dktX2_read_3
def dkwX2_read_1 : List UInt8 := [18, 100, 172, 42, 180, 0, 7, 4, 46, 61, 3, 62, 3, 54, 4, 21, 4, 42, 28, 3, 182, 0, 26]
abbrev dktX2_read_1 : List UInt8 := dkwX2_read_1 ++ dktX2_read_2
def dkwX2_read_0 : List UInt8 := [27, 4, 17, 3, 231, 184, 0, 61, 154, 0, 6, 18, 92, 172, 42, 180, 0, 7, 3, 46, 154, 0, 6]
abbrev dktX2_read_0 : List UInt8 := dkwX2_read_0 ++ dktX2_read_1
theorem dksX2_read_0 : cX2_read.data.toList.drop 0 = dktX2_read_0 := by decide +kernel
theorem dksX2_read_1 : cX2_read.data.toList.drop 23 = dktX2_read_1 := dk_seg dksX2_read_0 23 rfl rfl
theorem dksX2_read_2 : cX2_read.data.toList.drop 46 = dktX2_read_2 := dk_seg dksX2_read_1 23 rfl rfl
theorem dksX2_read_3 : cX2_read.data.toList.drop 70 = dktX2_read_3 := dk_seg dksX2_read_2 24 rfl rfl
theorem dksX2_read_4 : cX2_read.data.toList.drop 94 = dktX2_read_4 := dk_seg dksX2_read_3 24 rfl rfl
theorem dksX2_read_5 : cX2_read.data.toList.drop 118 = dktX2_read_5 := dk_seg dksX2_read_4 24 rfl rfl
theorem dX2_read_0 : decode cX2_read 0 = .ok (.iload_n 1, 1) := dk_27 (dk_at dksX2_read_0 0 rfl rfl)
theorem dX2_read_1 : decode cX2_read 1 = .ok (.iconst 1, 1) := dk_4 (dk_at dksX2_read_0 1 rfl rfl)
theorem dX2_read_2 : decode cX2_read 2 = .ok (.sipush 999, 3) := dk_17 3 231 (dk_at dksX2_read_0 2 rfl rfl)
theorem dX2_read_5 : decode cX2_read 5 = .ok (.invokestatic 61, 3) := dk_184 0 61 (dk_at dksX2_read_0 5 rfl rfl)
theorem dX2_read_8 : decode cX2_read 8 = .ok (.ifCond .ne 6, 3) := dk_154 0 6 (dk_at dksX2_read_0 8 rfl rfl)
theorem dX2_read_11 : decode cX2_read 11 = .ok (.ldc 92, 2) := dk_18 92 (dk_at dksX2_read_0 11 rfl rfl)
theorem dX2_read_13 : decode cX2_read 13 = .ok (.ireturn, 1) := dk_172 (dk_at dksX2_read_0 13 rfl rfl)
theorem dX2_read_14 : decode cX2_read 14 = .ok (.aload_n 0, 1) := dk_42 (dk_at dksX2_read_0 14 rfl rfl)
theorem dX2_read_15 : decode cX2_read 15 = .ok (.getfield 7, 3) := dk_180 0 7 (dk_at dksX2_read_0 15 rfl rfl)
theorem dX2_read_18 : decode cX2_read 18 = .ok (.iconst 0, 1) := dk_3 (dk_at dksX2_read_0 18 rfl rfl)
theorem dX2_read_19 : decode cX2_read 19 = .ok (.iaload, 1) := dk_46 (dk_at dksX2_read_0 19 rfl rfl)
theorem dX2_read_20 : decode cX2_read 20 = .ok (.ifCond .ne 6, 3) := dk_154 0 6 (dk_at dksX2_read_0 20 rfl rfl)
theorem dX2_read_23 : decode cX2_read 23 = .ok (.ldc 100, 2) := dk_18 100 (dk_at dksX2_read_1 0 rfl rfl)
theorem dX2_read_25 : decode cX2_read 25 = .ok (.ireturn, 1) := dk_172 (dk_at dksX2_read_1 2 rfl rfl)
theorem dX2_read_26 : decode cX2_read 26 = .ok (.aload_n 0, 1) := dk_42 (dk_at dksX2_read_1 3 rfl rfl)
theorem dX2_read_27 : decode cX2_read 27 = .ok (.getfield 7, 3) := dk_180 0 7 (dk_at dksX2_read_1 4 rfl rfl)
theorem dX2_read_30 : decode cX2_read 30 = .ok (.iconst 1, 1) := dk_4 (dk_at dksX2_read_1 7 rfl rfl)
theorem dX2_read_31 : decode cX2_read 31 = .ok (.iaload, 1) := dk_46 (dk_at dksX2_read_1 8 rfl rfl)
theorem dX2_read_32 : decode cX2_read 32 = .ok (.istore_n 2, 1) := dk_61 (dk_at dksX2_read_1 9 rfl rfl)
theorem dX2_read_33 : decode cX2_read 33 = .ok (.iconst 0, 1) := dk_3 (dk_at dksX2_read_1 10 rfl rfl)
theorem dX2_read_34 : decode cX2_read 34 = .ok (.istore_n 3, 1) := dk_62 (dk_at dksX2_read_1 11 rfl rfl)
theorem dX2_read_35 : decode cX2_read 35 = .ok (.iconst 0, 1) := dk_3 (dk_at dksX2_read_1 12 rfl rfl)
theorem dX2_read_36 : decode cX2_read 36 = .ok (.istore 4, 2) := dk_54 4 (dk_at dksX2_read_1 13 rfl rfl)
theorem dX2_read_38 : decode cX2_read 38 = .ok (.iload 4, 2) := dk_21 4 (dk_at dksX2_read_1 15 rfl rfl)
theorem dX2_read_40 : decode cX2_read 40 = .ok (.aload_n 0, 1) := dk_42 (dk_at dksX2_read_1 17 rfl rfl)
theorem dX2_read_41 : decode cX2_read 41 = .ok (.iload_n 2, 1) := dk_28 (dk_at dksX2_read_1 18 rfl rfl)
theorem dX2_read_42 : decode cX2_read 42 = .ok (.iconst 0, 1) := dk_3 (dk_at dksX2_read_1 19 rfl rfl)
theorem dX2_read_43 : decode cX2_read 43 = .ok (.invokevirtual 26, 3) := dk_182 0 26 (dk_at dksX2_read_1 20 rfl rfl)
theorem dX2_read_46 : decode cX2_read 46 = .ok (.if_icmp .ge 85, 3) := dk_162 0 85 (dk_at dksX2_read_2 0 rfl rfl)
theorem dX2_read_49 : decode cX2_read 49 = .ok (.aload_n 0, 1) := dk_42 (dk_at dksX2_read_2 3 rfl rfl)
theorem dX2_read_50 : decode cX2_read 50 = .ok (.iload_n 2, 1) := dk_28 (dk_at dksX2_read_2 4 rfl rfl)
theorem dX2_read_51 : decode cX2_read 51 = .ok (.invokevirtual 115, 3) := dk_182 0 115 (dk_at dksX2_read_2 5 rfl rfl)
theorem dX2_read_54 : decode cX2_read 54 = .ok (.ifCond .ne 77, 3) := dk_154 0 77 (dk_at dksX2_read_2 8 rfl rfl)
theorem dX2_read_57 : decode cX2_read 57 = .ok (.aload_n 0, 1) := dk_42 (dk_at dksX2_read_2 11 rfl rfl)
theorem dX2_read_58 : decode cX2_read 58 = .ok (.iload_n 2, 1) := dk_28 (dk_at dksX2_read_2 12 rfl rfl)
theorem dX2_read_59 : decode cX2_read 59 = .ok (.iconst 3, 1) := dk_6 (dk_at dksX2_read_2 13 rfl rfl)
theorem dX2_read_60 : decode cX2_read 60 = .ok (.iload 4, 2) := dk_21 4 (dk_at dksX2_read_2 14 rfl rfl)
theorem dX2_read_62 : decode cX2_read 62 = .ok (.iadd, 1) := dk_96 (dk_at dksX2_read_2 16 rfl rfl)
theorem dX2_read_63 : decode cX2_read 63 = .ok (.invokevirtual 26, 3) := dk_182 0 26 (dk_at dksX2_read_2 17 rfl rfl)
theorem dX2_read_66 : decode cX2_read 66 = .ok (.istore 5, 2) := dk_54 5 (dk_at dksX2_read_2 20 rfl rfl)
theorem dX2_read_68 : decode cX2_read 68 = .ok (.iload 5, 2) := dk_21 5 (dk_at dksX2_read_2 22 rfl rfl)
theorem dX2_read_70 : decode cX2_read 70 = .ok (.bipush 32, 2) := dk_16 32 (dk_at dksX2_read_3 0 rfl rfl)
theorem dX2_read_72 : decode cX2_read 72 = .ok (.if_icmp .eq 33, 3) := dk_159 0 33 (dk_at dksX2_read_3 2 rfl rfl)
theorem dX2_read_75 : decode cX2_read 75 = .ok (.iload 5, 2) := dk_21 5 (dk_at dksX2_read_3 5 rfl rfl)
theorem dX2_read_77 : decode cX2_read 77 = .ok (.invokestatic 30, 3) := dk_184 0 30 (dk_at dksX2_read_3 7 rfl rfl)
theorem dX2_read_80 : decode cX2_read 80 = .ok (.aload_n 0, 1) := dk_42 (dk_at dksX2_read_3 10 rfl rfl)
theorem dX2_read_81 : decode cX2_read 81 = .ok (.getfield 7, 3) := dk_180 0 7 (dk_at dksX2_read_3 11 rfl rfl)
theorem dX2_read_84 : decode cX2_read 84 = .ok (.bipush 10, 2) := dk_16 10 (dk_at dksX2_read_3 14 rfl rfl)
theorem dX2_read_86 : decode cX2_read 86 = .ok (.iaload, 1) := dk_46 (dk_at dksX2_read_3 16 rfl rfl)
theorem dX2_read_87 : decode cX2_read 87 = .ok (.imul, 1) := dk_104 (dk_at dksX2_read_3 17 rfl rfl)
theorem dX2_read_88 : decode cX2_read 88 = .ok (.bipush 100, 2) := dk_16 100 (dk_at dksX2_read_3 18 rfl rfl)
theorem dX2_read_90 : decode cX2_read 90 = .ok (.imul, 1) := dk_104 (dk_at dksX2_read_3 20 rfl rfl)
theorem dX2_read_91 : decode cX2_read 91 = .ok (.aload_n 0, 1) := dk_42 (dk_at dksX2_read_3 21 rfl rfl)
theorem dX2_read_92 : decode cX2_read 92 = .ok (.aload_n 0, 1) := dk_42 (dk_at dksX2_read_3 22 rfl rfl)
theorem dX2_read_93 : decode cX2_read 93 = .ok (.iload_n 2, 1) := dk_28 (dk_at dksX2_read_3 23 rfl rfl)
theorem dX2_read_94 : decode cX2_read 94 = .ok (.invokevirtual 141, 3) := dk_182 0 141 (dk_at dksX2_read_4 0 rfl rfl)
theorem dX2_read_97 : decode cX2_read 97 = .ok (.invokevirtual 79, 3) := dk_182 0 79 (dk_at dksX2_read_4 3 rfl rfl)
theorem dX2_read_100 : decode cX2_read 100 = .ok (.idiv, 1) := dk_108 (dk_at dksX2_read_4 6 rfl rfl)
theorem dX2_read_101 : decode cX2_read 101 = .ok (.iload_n 1, 1) := dk_27 (dk_at dksX2_read_4 7 rfl rfl)
theorem dX2_read_102 : decode cX2_read 102 = .ok (.if_icmp .lt 7, 3) := dk_161 0 7 (dk_at dksX2_read_4 8 rfl rfl)
theorem dX2_read_105 : decode cX2_read 105 = .ok (.iconst 1, 1) := dk_4 (dk_at dksX2_read_4 11 rfl rfl)
theorem dX2_read_106 : decode cX2_read 106 = .ok (.goto 4, 3) := dk_167 0 4 (dk_at dksX2_read_4 12 rfl rfl)
theorem dX2_read_109 : decode cX2_read 109 = .ok (.iconst 0, 1) := dk_3 (dk_at dksX2_read_4 15 rfl rfl)
theorem dX2_read_110 : decode cX2_read 110 = .ok (.istore 6, 2) := dk_54 6 (dk_at dksX2_read_4 16 rfl rfl)
theorem dX2_read_112 : decode cX2_read 112 = .ok (.iload_n 3, 1) := dk_29 (dk_at dksX2_read_4 18 rfl rfl)
theorem dX2_read_113 : decode cX2_read 113 = .ok (.iload 6, 2) := dk_21 6 (dk_at dksX2_read_4 19 rfl rfl)
theorem dX2_read_115 : decode cX2_read 115 = .ok (.ifCond .eq 7, 3) := dk_153 0 7 (dk_at dksX2_read_4 21 rfl rfl)
theorem dX2_read_118 : decode cX2_read 118 = .ok (.iconst 1, 1) := dk_4 (dk_at dksX2_read_5 0 rfl rfl)
theorem dX2_read_119 : decode cX2_read 119 = .ok (.goto 4, 3) := dk_167 0 4 (dk_at dksX2_read_5 1 rfl rfl)
theorem dX2_read_122 : decode cX2_read 122 = .ok (.iconst 0, 1) := dk_3 (dk_at dksX2_read_5 4 rfl rfl)
theorem dX2_read_123 : decode cX2_read 123 = .ok (.iadd, 1) := dk_96 (dk_at dksX2_read_5 5 rfl rfl)
theorem dX2_read_124 : decode cX2_read 124 = .ok (.istore_n 3, 1) := dk_62 (dk_at dksX2_read_5 6 rfl rfl)
theorem dX2_read_125 : decode cX2_read 125 = .ok (.iinc 4 1, 3) := dk_132 4 1 (dk_at dksX2_read_5 7 rfl rfl)
theorem dX2_read_128 : decode cX2_read 128 = .ok (.goto (-90), 3) := dk_167 255 166 (dk_at dksX2_read_5 10 rfl rfl)
theorem dX2_read_131 : decode cX2_read 131 = .ok (.iload_n 3, 1) := dk_29 (dk_at dksX2_read_5 13 rfl rfl)
theorem dX2_read_132 : decode cX2_read 132 = .ok (.ireturn, 1) := dk_172 (dk_at dksX2_read_5 14 rfl rfl)
abbrev cX2_find : ByteArray := prog_12_method_49_code
def yX2_find : MethodName := ⟨RX2, "find", "()I"⟩
def dkwX2_find_3 : List UInt8 := [132, 3, 1, 167, 255, 218, 28, 153, 0, 5, 27, 172, 132, 1, 1, 167, 255, 175, 18, 100, 172]
abbrev dktX2_find_3 : List UInt8 := dkwX2_find_3 ++ []
def dkwX2_find_2 : List UInt8 := [27, 6, 29, 96, 182, 0, 26, 42, 180, 0, 19, 29, 46, 160, 0, 7, 4, 167, 0, 4, 3, 61]
abbrev dktX2_find_2 : List UInt8 := dkwX2_find_2 ++ dktX2_find_3
def dkwX2_find_1 : List UInt8 := [160, 0, 7, 4, 167, 0, 4, 3, 61, 3, 62, 29, 42, 180, 0, 55, 162, 0, 36, 28, 153, 0, 32, 42]
abbrev dktX2_find_1 : List UInt8 := dkwX2_find_1 ++ dktX2_find_2
def dkwX2_find_0 : List UInt8 := [3, 60, 27, 42, 180, 0, 7, 3, 46, 162, 0, 77, 42, 27, 3, 182, 0, 26, 42, 180, 0, 55]
abbrev dktX2_find_0 : List UInt8 := dkwX2_find_0 ++ dktX2_find_1
theorem dksX2_find_0 : cX2_find.data.toList.drop 0 = dktX2_find_0 := by decide +kernel
theorem dksX2_find_1 : cX2_find.data.toList.drop 22 = dktX2_find_1 := dk_seg dksX2_find_0 22 rfl rfl
theorem dksX2_find_2 : cX2_find.data.toList.drop 46 = dktX2_find_2 := dk_seg dksX2_find_1 24 rfl rfl
theorem dksX2_find_3 : cX2_find.data.toList.drop 68 = dktX2_find_3 := dk_seg dksX2_find_2 22 rfl rfl
theorem dX2_find_0 : decode cX2_find 0 = .ok (.iconst 0, 1) := dk_3 (dk_at dksX2_find_0 0 rfl rfl)
theorem dX2_find_1 : decode cX2_find 1 = .ok (.istore_n 1, 1) := dk_60 (dk_at dksX2_find_0 1 rfl rfl)
theorem dX2_find_2 : decode cX2_find 2 = .ok (.iload_n 1, 1) := dk_27 (dk_at dksX2_find_0 2 rfl rfl)
theorem dX2_find_3 : decode cX2_find 3 = .ok (.aload_n 0, 1) := dk_42 (dk_at dksX2_find_0 3 rfl rfl)
theorem dX2_find_4 : decode cX2_find 4 = .ok (.getfield 7, 3) := dk_180 0 7 (dk_at dksX2_find_0 4 rfl rfl)
theorem dX2_find_7 : decode cX2_find 7 = .ok (.iconst 0, 1) := dk_3 (dk_at dksX2_find_0 7 rfl rfl)
theorem dX2_find_8 : decode cX2_find 8 = .ok (.iaload, 1) := dk_46 (dk_at dksX2_find_0 8 rfl rfl)
theorem dX2_find_9 : decode cX2_find 9 = .ok (.if_icmp .ge 77, 3) := dk_162 0 77 (dk_at dksX2_find_0 9 rfl rfl)
theorem dX2_find_12 : decode cX2_find 12 = .ok (.aload_n 0, 1) := dk_42 (dk_at dksX2_find_0 12 rfl rfl)
theorem dX2_find_13 : decode cX2_find 13 = .ok (.iload_n 1, 1) := dk_27 (dk_at dksX2_find_0 13 rfl rfl)
theorem dX2_find_14 : decode cX2_find 14 = .ok (.iconst 0, 1) := dk_3 (dk_at dksX2_find_0 14 rfl rfl)
theorem dX2_find_15 : decode cX2_find 15 = .ok (.invokevirtual 26, 3) := dk_182 0 26 (dk_at dksX2_find_0 15 rfl rfl)
theorem dX2_find_18 : decode cX2_find 18 = .ok (.aload_n 0, 1) := dk_42 (dk_at dksX2_find_0 18 rfl rfl)
theorem dX2_find_19 : decode cX2_find 19 = .ok (.getfield 55, 3) := dk_180 0 55 (dk_at dksX2_find_0 19 rfl rfl)
theorem dX2_find_22 : decode cX2_find 22 = .ok (.if_icmp .ne 7, 3) := dk_160 0 7 (dk_at dksX2_find_1 0 rfl rfl)
theorem dX2_find_25 : decode cX2_find 25 = .ok (.iconst 1, 1) := dk_4 (dk_at dksX2_find_1 3 rfl rfl)
theorem dX2_find_26 : decode cX2_find 26 = .ok (.goto 4, 3) := dk_167 0 4 (dk_at dksX2_find_1 4 rfl rfl)
theorem dX2_find_29 : decode cX2_find 29 = .ok (.iconst 0, 1) := dk_3 (dk_at dksX2_find_1 7 rfl rfl)
theorem dX2_find_30 : decode cX2_find 30 = .ok (.istore_n 2, 1) := dk_61 (dk_at dksX2_find_1 8 rfl rfl)
theorem dX2_find_31 : decode cX2_find 31 = .ok (.iconst 0, 1) := dk_3 (dk_at dksX2_find_1 9 rfl rfl)
theorem dX2_find_32 : decode cX2_find 32 = .ok (.istore_n 3, 1) := dk_62 (dk_at dksX2_find_1 10 rfl rfl)
theorem dX2_find_33 : decode cX2_find 33 = .ok (.iload_n 3, 1) := dk_29 (dk_at dksX2_find_1 11 rfl rfl)
theorem dX2_find_34 : decode cX2_find 34 = .ok (.aload_n 0, 1) := dk_42 (dk_at dksX2_find_1 12 rfl rfl)
theorem dX2_find_35 : decode cX2_find 35 = .ok (.getfield 55, 3) := dk_180 0 55 (dk_at dksX2_find_1 13 rfl rfl)
theorem dX2_find_38 : decode cX2_find 38 = .ok (.if_icmp .ge 36, 3) := dk_162 0 36 (dk_at dksX2_find_1 16 rfl rfl)
theorem dX2_find_41 : decode cX2_find 41 = .ok (.iload_n 2, 1) := dk_28 (dk_at dksX2_find_1 19 rfl rfl)
theorem dX2_find_42 : decode cX2_find 42 = .ok (.ifCond .eq 32, 3) := dk_153 0 32 (dk_at dksX2_find_1 20 rfl rfl)
theorem dX2_find_45 : decode cX2_find 45 = .ok (.aload_n 0, 1) := dk_42 (dk_at dksX2_find_1 23 rfl rfl)
theorem dX2_find_46 : decode cX2_find 46 = .ok (.iload_n 1, 1) := dk_27 (dk_at dksX2_find_2 0 rfl rfl)
theorem dX2_find_47 : decode cX2_find 47 = .ok (.iconst 3, 1) := dk_6 (dk_at dksX2_find_2 1 rfl rfl)
theorem dX2_find_48 : decode cX2_find 48 = .ok (.iload_n 3, 1) := dk_29 (dk_at dksX2_find_2 2 rfl rfl)
theorem dX2_find_49 : decode cX2_find 49 = .ok (.iadd, 1) := dk_96 (dk_at dksX2_find_2 3 rfl rfl)
theorem dX2_find_50 : decode cX2_find 50 = .ok (.invokevirtual 26, 3) := dk_182 0 26 (dk_at dksX2_find_2 4 rfl rfl)
theorem dX2_find_53 : decode cX2_find 53 = .ok (.aload_n 0, 1) := dk_42 (dk_at dksX2_find_2 7 rfl rfl)
theorem dX2_find_54 : decode cX2_find 54 = .ok (.getfield 19, 3) := dk_180 0 19 (dk_at dksX2_find_2 8 rfl rfl)
theorem dX2_find_57 : decode cX2_find 57 = .ok (.iload_n 3, 1) := dk_29 (dk_at dksX2_find_2 11 rfl rfl)
theorem dX2_find_58 : decode cX2_find 58 = .ok (.iaload, 1) := dk_46 (dk_at dksX2_find_2 12 rfl rfl)
theorem dX2_find_59 : decode cX2_find 59 = .ok (.if_icmp .ne 7, 3) := dk_160 0 7 (dk_at dksX2_find_2 13 rfl rfl)
theorem dX2_find_62 : decode cX2_find 62 = .ok (.iconst 1, 1) := dk_4 (dk_at dksX2_find_2 16 rfl rfl)
theorem dX2_find_63 : decode cX2_find 63 = .ok (.goto 4, 3) := dk_167 0 4 (dk_at dksX2_find_2 17 rfl rfl)
theorem dX2_find_66 : decode cX2_find 66 = .ok (.iconst 0, 1) := dk_3 (dk_at dksX2_find_2 20 rfl rfl)
theorem dX2_find_67 : decode cX2_find 67 = .ok (.istore_n 2, 1) := dk_61 (dk_at dksX2_find_2 21 rfl rfl)
theorem dX2_find_68 : decode cX2_find 68 = .ok (.iinc 3 1, 3) := dk_132 3 1 (dk_at dksX2_find_3 0 rfl rfl)
theorem dX2_find_71 : decode cX2_find 71 = .ok (.goto (-38), 3) := dk_167 255 218 (dk_at dksX2_find_3 3 rfl rfl)
theorem dX2_find_74 : decode cX2_find 74 = .ok (.iload_n 2, 1) := dk_28 (dk_at dksX2_find_3 6 rfl rfl)
theorem dX2_find_75 : decode cX2_find 75 = .ok (.ifCond .eq 5, 3) := dk_153 0 5 (dk_at dksX2_find_3 7 rfl rfl)
theorem dX2_find_78 : decode cX2_find 78 = .ok (.iload_n 1, 1) := dk_27 (dk_at dksX2_find_3 10 rfl rfl)
theorem dX2_find_79 : decode cX2_find 79 = .ok (.ireturn, 1) := dk_172 (dk_at dksX2_find_3 11 rfl rfl)
theorem dX2_find_80 : decode cX2_find 80 = .ok (.iinc 1 1, 3) := dk_132 1 1 (dk_at dksX2_find_3 12 rfl rfl)
theorem dX2_find_83 : decode cX2_find 83 = .ok (.goto (-81), 3) := dk_167 255 175 (dk_at dksX2_find_3 15 rfl rfl)
theorem dX2_find_86 : decode cX2_find 86 = .ok (.ldc 100, 2) := dk_18 100 (dk_at dksX2_find_3 18 rfl rfl)
theorem dX2_find_88 : decode cX2_find 88 = .ok (.ireturn, 1) := dk_172 (dk_at dksX2_find_3 20 rfl rfl)
abbrev cX2_mean : ByteArray := prog_12_method_50_code
def yX2_mean : MethodName := ⟨RX2, "mean", "()I"⟩
def dkwX2_mean_3 : List UInt8 := [184, 0, 160, 172]
abbrev dktX2_mean_3 : List UInt8 := dkwX2_mean_3 ++ []
def dkwX2_mean_2 : List UInt8 := [180, 0, 7, 3, 46, 134, 110, 69, 42, 180, 0, 7, 3, 46, 154, 0, 8, 18, 100, 167, 0, 7, 36]
abbrev dktX2_mean_2 : List UInt8 := dkwX2_mean_2 ++ dktX2_mean_3
def dkwX2_mean_1 : List UInt8 := [132, 2, 1, 167, 255, 235, 27, 134, 42, 180, 0, 7, 3, 46, 154, 0, 7, 4, 167, 0, 9, 42]
abbrev dktX2_mean_1 : List UInt8 := dkwX2_mean_1 ++ dktX2_mean_2
def dkwX2_mean_0 : List UInt8 := [3, 60, 3, 61, 28, 42, 180, 0, 7, 3, 46, 162, 0, 17, 27, 42, 28, 182, 0, 141, 96, 60]
abbrev dktX2_mean_0 : List UInt8 := dkwX2_mean_0 ++ dktX2_mean_1
theorem dksX2_mean_0 : cX2_mean.data.toList.drop 0 = dktX2_mean_0 := by decide +kernel
theorem dksX2_mean_1 : cX2_mean.data.toList.drop 22 = dktX2_mean_1 := dk_seg dksX2_mean_0 22 rfl rfl
theorem dksX2_mean_2 : cX2_mean.data.toList.drop 44 = dktX2_mean_2 := dk_seg dksX2_mean_1 22 rfl rfl
theorem dksX2_mean_3 : cX2_mean.data.toList.drop 67 = dktX2_mean_3 := dk_seg dksX2_mean_2 23 rfl rfl
theorem dX2_mean_0 : decode cX2_mean 0 = .ok (.iconst 0, 1) := dk_3 (dk_at dksX2_mean_0 0 rfl rfl)
theorem dX2_mean_1 : decode cX2_mean 1 = .ok (.istore_n 1, 1) := dk_60 (dk_at dksX2_mean_0 1 rfl rfl)
theorem dX2_mean_2 : decode cX2_mean 2 = .ok (.iconst 0, 1) := dk_3 (dk_at dksX2_mean_0 2 rfl rfl)
theorem dX2_mean_3 : decode cX2_mean 3 = .ok (.istore_n 2, 1) := dk_61 (dk_at dksX2_mean_0 3 rfl rfl)
theorem dX2_mean_4 : decode cX2_mean 4 = .ok (.iload_n 2, 1) := dk_28 (dk_at dksX2_mean_0 4 rfl rfl)
theorem dX2_mean_5 : decode cX2_mean 5 = .ok (.aload_n 0, 1) := dk_42 (dk_at dksX2_mean_0 5 rfl rfl)
theorem dX2_mean_6 : decode cX2_mean 6 = .ok (.getfield 7, 3) := dk_180 0 7 (dk_at dksX2_mean_0 6 rfl rfl)
theorem dX2_mean_9 : decode cX2_mean 9 = .ok (.iconst 0, 1) := dk_3 (dk_at dksX2_mean_0 9 rfl rfl)
theorem dX2_mean_10 : decode cX2_mean 10 = .ok (.iaload, 1) := dk_46 (dk_at dksX2_mean_0 10 rfl rfl)
theorem dX2_mean_11 : decode cX2_mean 11 = .ok (.if_icmp .ge 17, 3) := dk_162 0 17 (dk_at dksX2_mean_0 11 rfl rfl)
theorem dX2_mean_14 : decode cX2_mean 14 = .ok (.iload_n 1, 1) := dk_27 (dk_at dksX2_mean_0 14 rfl rfl)
theorem dX2_mean_15 : decode cX2_mean 15 = .ok (.aload_n 0, 1) := dk_42 (dk_at dksX2_mean_0 15 rfl rfl)
theorem dX2_mean_16 : decode cX2_mean 16 = .ok (.iload_n 2, 1) := dk_28 (dk_at dksX2_mean_0 16 rfl rfl)
theorem dX2_mean_17 : decode cX2_mean 17 = .ok (.invokevirtual 141, 3) := dk_182 0 141 (dk_at dksX2_mean_0 17 rfl rfl)
theorem dX2_mean_20 : decode cX2_mean 20 = .ok (.iadd, 1) := dk_96 (dk_at dksX2_mean_0 20 rfl rfl)
theorem dX2_mean_21 : decode cX2_mean 21 = .ok (.istore_n 1, 1) := dk_60 (dk_at dksX2_mean_0 21 rfl rfl)
theorem dX2_mean_22 : decode cX2_mean 22 = .ok (.iinc 2 1, 3) := dk_132 2 1 (dk_at dksX2_mean_1 0 rfl rfl)
theorem dX2_mean_25 : decode cX2_mean 25 = .ok (.goto (-21), 3) := dk_167 255 235 (dk_at dksX2_mean_1 3 rfl rfl)
theorem dX2_mean_28 : decode cX2_mean 28 = .ok (.iload_n 1, 1) := dk_27 (dk_at dksX2_mean_1 6 rfl rfl)
theorem dX2_mean_29 : decode cX2_mean 29 = .ok (.i2f, 1) := dk_134 (dk_at dksX2_mean_1 7 rfl rfl)
theorem dX2_mean_30 : decode cX2_mean 30 = .ok (.aload_n 0, 1) := dk_42 (dk_at dksX2_mean_1 8 rfl rfl)
theorem dX2_mean_31 : decode cX2_mean 31 = .ok (.getfield 7, 3) := dk_180 0 7 (dk_at dksX2_mean_1 9 rfl rfl)
theorem dX2_mean_34 : decode cX2_mean 34 = .ok (.iconst 0, 1) := dk_3 (dk_at dksX2_mean_1 12 rfl rfl)
theorem dX2_mean_35 : decode cX2_mean 35 = .ok (.iaload, 1) := dk_46 (dk_at dksX2_mean_1 13 rfl rfl)
theorem dX2_mean_36 : decode cX2_mean 36 = .ok (.ifCond .ne 7, 3) := dk_154 0 7 (dk_at dksX2_mean_1 14 rfl rfl)
theorem dX2_mean_39 : decode cX2_mean 39 = .ok (.iconst 1, 1) := dk_4 (dk_at dksX2_mean_1 17 rfl rfl)
theorem dX2_mean_40 : decode cX2_mean 40 = .ok (.goto 9, 3) := dk_167 0 9 (dk_at dksX2_mean_1 18 rfl rfl)
theorem dX2_mean_43 : decode cX2_mean 43 = .ok (.aload_n 0, 1) := dk_42 (dk_at dksX2_mean_1 21 rfl rfl)
theorem dX2_mean_44 : decode cX2_mean 44 = .ok (.getfield 7, 3) := dk_180 0 7 (dk_at dksX2_mean_2 0 rfl rfl)
theorem dX2_mean_47 : decode cX2_mean 47 = .ok (.iconst 0, 1) := dk_3 (dk_at dksX2_mean_2 3 rfl rfl)
theorem dX2_mean_48 : decode cX2_mean 48 = .ok (.iaload, 1) := dk_46 (dk_at dksX2_mean_2 4 rfl rfl)
theorem dX2_mean_49 : decode cX2_mean 49 = .ok (.i2f, 1) := dk_134 (dk_at dksX2_mean_2 5 rfl rfl)
theorem dX2_mean_50 : decode cX2_mean 50 = .ok (.fdiv, 1) := dk_110 (dk_at dksX2_mean_2 6 rfl rfl)
theorem dX2_mean_51 : decode cX2_mean 51 = .ok (.fstore_n 2, 1) := dk_69 (dk_at dksX2_mean_2 7 rfl rfl)
theorem dX2_mean_52 : decode cX2_mean 52 = .ok (.aload_n 0, 1) := dk_42 (dk_at dksX2_mean_2 8 rfl rfl)
theorem dX2_mean_53 : decode cX2_mean 53 = .ok (.getfield 7, 3) := dk_180 0 7 (dk_at dksX2_mean_2 9 rfl rfl)
theorem dX2_mean_56 : decode cX2_mean 56 = .ok (.iconst 0, 1) := dk_3 (dk_at dksX2_mean_2 12 rfl rfl)
theorem dX2_mean_57 : decode cX2_mean 57 = .ok (.iaload, 1) := dk_46 (dk_at dksX2_mean_2 13 rfl rfl)
theorem dX2_mean_58 : decode cX2_mean 58 = .ok (.ifCond .ne 8, 3) := dk_154 0 8 (dk_at dksX2_mean_2 14 rfl rfl)
theorem dX2_mean_61 : decode cX2_mean 61 = .ok (.ldc 100, 2) := dk_18 100 (dk_at dksX2_mean_2 17 rfl rfl)
theorem dX2_mean_63 : decode cX2_mean 63 = .ok (.goto 7, 3) := dk_167 0 7 (dk_at dksX2_mean_2 19 rfl rfl)
theorem dX2_mean_66 : decode cX2_mean 66 = .ok (.fload_n 2, 1) := dk_36 (dk_at dksX2_mean_2 22 rfl rfl)
theorem dX2_mean_67 : decode cX2_mean 67 = .ok (.invokestatic 160, 3) := dk_184 0 160 (dk_at dksX2_mean_3 0 rfl rfl)
theorem dX2_mean_70 : decode cX2_mean 70 = .ok (.ireturn, 1) := dk_172 (dk_at dksX2_mean_3 3 rfl rfl)
abbrev cX2_count : ByteArray := prog_12_method_53_code
def yX2_count : MethodName := ⟨RX2, "count", "(I)I"⟩
def dkwX2_count_5 : List UInt8 := [180, 0, 7, 16, 8, 27, 96, 16, 20, 100, 46, 167, 0, 5, 18, 92, 172]
abbrev dktX2_count_5 : List UInt8 := dkwX2_count_5 ++ []
def dkwX2_count_4 : List UInt8 := [42, 180, 0, 22, 172, 42, 180, 0, 55, 172, 27, 16, 20, 16, 22, 184, 0, 61, 153, 0, 18, 42]
abbrev dktX2_count_4 : List UInt8 := dkwX2_count_4 ++ dktX2_count_5
def dkwX2_count_3 : List UInt8 := [180, 0, 7, 27, 4, 100, 46, 172, 42, 42, 180, 0, 7, 4, 46, 182, 0, 144, 172, 42, 182, 0, 169, 172]
abbrev dktX2_count_3 : List UInt8 := dkwX2_count_3 ++ dktX2_count_4
def dkwX2_count_2 : List UInt8 := [42, 180, 0, 7, 27, 46, 172, 42, 180, 0, 7, 27, 46, 184, 0, 166, 172, 42, 182, 0, 156, 172, 42]
abbrev dktX2_count_2 : List UInt8 := dkwX2_count_2 ++ dktX2_count_3
def dkwX2_count_1 : List UInt8 := [170, 0, 0, 0, 0, 0, 124, 0, 0, 0, 0, 0, 0, 0, 12, 0, 0, 0, 67, 0, 0, 0, 74, 0, 0, 0, 67, 0, 0, 0, 74, 0, 0, 0, 84, 0, 0, 0, 89, 0, 0, 0, 89, 0, 0, 0, 89, 0, 0, 0, 89, 0, 0, 0, 98, 0, 0, 0, 109, 0, 0, 0, 114, 0, 0, 0, 119]
abbrev dktX2_count_1 : List UInt8 := dkwX2_count_1 ++ dktX2_count_2
def dkwX2_count_0 : List UInt8 := [27]
abbrev dktX2_count_0 : List UInt8 := dkwX2_count_0 ++ dktX2_count_1
theorem dksX2_count_0 : cX2_count.data.toList.drop 0 = dktX2_count_0 := by decide +kernel
theorem dksX2_count_1 : cX2_count.data.toList.drop 1 = dktX2_count_1 := dk_seg dksX2_count_0 1 rfl rfl
theorem dksX2_count_2 : cX2_count.data.toList.drop 68 = dktX2_count_2 := dk_seg dksX2_count_1 67 rfl rfl
theorem dksX2_count_3 : cX2_count.data.toList.drop 91 = dktX2_count_3 := dk_seg dksX2_count_2 23 rfl rfl
theorem dksX2_count_4 : cX2_count.data.toList.drop 115 = dktX2_count_4 := dk_seg dksX2_count_3 24 rfl rfl
theorem dksX2_count_5 : cX2_count.data.toList.drop 137 = dktX2_count_5 := dk_seg dksX2_count_4 22 rfl rfl
theorem dX2_count_0 : decode cX2_count 0 = .ok (.iload_n 1, 1) := dk_27 (dk_at dksX2_count_0 0 rfl rfl)
theorem dX2_count_1 : decode cX2_count 1 = .ok (.tableswitch 124 0 12 #[67, 74, 67, 74, 84, 89, 89, 89, 89, 98, 109, 114, 119], 67) := by decide +kernel
theorem dX2_count_68 : decode cX2_count 68 = .ok (.aload_n 0, 1) := dk_42 (dk_at dksX2_count_2 0 rfl rfl)
theorem dX2_count_69 : decode cX2_count 69 = .ok (.getfield 7, 3) := dk_180 0 7 (dk_at dksX2_count_2 1 rfl rfl)
theorem dX2_count_72 : decode cX2_count 72 = .ok (.iload_n 1, 1) := dk_27 (dk_at dksX2_count_2 4 rfl rfl)
theorem dX2_count_73 : decode cX2_count 73 = .ok (.iaload, 1) := dk_46 (dk_at dksX2_count_2 5 rfl rfl)
theorem dX2_count_74 : decode cX2_count 74 = .ok (.ireturn, 1) := dk_172 (dk_at dksX2_count_2 6 rfl rfl)
theorem dX2_count_75 : decode cX2_count 75 = .ok (.aload_n 0, 1) := dk_42 (dk_at dksX2_count_2 7 rfl rfl)
theorem dX2_count_76 : decode cX2_count 76 = .ok (.getfield 7, 3) := dk_180 0 7 (dk_at dksX2_count_2 8 rfl rfl)
theorem dX2_count_79 : decode cX2_count 79 = .ok (.iload_n 1, 1) := dk_27 (dk_at dksX2_count_2 11 rfl rfl)
theorem dX2_count_80 : decode cX2_count 80 = .ok (.iaload, 1) := dk_46 (dk_at dksX2_count_2 12 rfl rfl)
theorem dX2_count_81 : decode cX2_count 81 = .ok (.invokestatic 166, 3) := dk_184 0 166 (dk_at dksX2_count_2 13 rfl rfl)
theorem dX2_count_84 : decode cX2_count 84 = .ok (.ireturn, 1) := dk_172 (dk_at dksX2_count_2 16 rfl rfl)
theorem dX2_count_85 : decode cX2_count 85 = .ok (.aload_n 0, 1) := dk_42 (dk_at dksX2_count_2 17 rfl rfl)
theorem dX2_count_86 : decode cX2_count 86 = .ok (.invokevirtual 156, 3) := dk_182 0 156 (dk_at dksX2_count_2 18 rfl rfl)
theorem dX2_count_89 : decode cX2_count 89 = .ok (.ireturn, 1) := dk_172 (dk_at dksX2_count_2 21 rfl rfl)
theorem dX2_count_90 : decode cX2_count 90 = .ok (.aload_n 0, 1) := dk_42 (dk_at dksX2_count_2 22 rfl rfl)
theorem dX2_count_91 : decode cX2_count 91 = .ok (.getfield 7, 3) := dk_180 0 7 (dk_at dksX2_count_3 0 rfl rfl)
theorem dX2_count_94 : decode cX2_count 94 = .ok (.iload_n 1, 1) := dk_27 (dk_at dksX2_count_3 3 rfl rfl)
theorem dX2_count_95 : decode cX2_count 95 = .ok (.iconst 1, 1) := dk_4 (dk_at dksX2_count_3 4 rfl rfl)
theorem dX2_count_96 : decode cX2_count 96 = .ok (.isub, 1) := dk_100 (dk_at dksX2_count_3 5 rfl rfl)
theorem dX2_count_97 : decode cX2_count 97 = .ok (.iaload, 1) := dk_46 (dk_at dksX2_count_3 6 rfl rfl)
theorem dX2_count_98 : decode cX2_count 98 = .ok (.ireturn, 1) := dk_172 (dk_at dksX2_count_3 7 rfl rfl)
theorem dX2_count_99 : decode cX2_count 99 = .ok (.aload_n 0, 1) := dk_42 (dk_at dksX2_count_3 8 rfl rfl)
theorem dX2_count_100 : decode cX2_count 100 = .ok (.aload_n 0, 1) := dk_42 (dk_at dksX2_count_3 9 rfl rfl)
theorem dX2_count_101 : decode cX2_count 101 = .ok (.getfield 7, 3) := dk_180 0 7 (dk_at dksX2_count_3 10 rfl rfl)
theorem dX2_count_104 : decode cX2_count 104 = .ok (.iconst 1, 1) := dk_4 (dk_at dksX2_count_3 13 rfl rfl)
theorem dX2_count_105 : decode cX2_count 105 = .ok (.iaload, 1) := dk_46 (dk_at dksX2_count_3 14 rfl rfl)
theorem dX2_count_106 : decode cX2_count 106 = .ok (.invokevirtual 144, 3) := dk_182 0 144 (dk_at dksX2_count_3 15 rfl rfl)
theorem dX2_count_109 : decode cX2_count 109 = .ok (.ireturn, 1) := dk_172 (dk_at dksX2_count_3 18 rfl rfl)
theorem dX2_count_110 : decode cX2_count 110 = .ok (.aload_n 0, 1) := dk_42 (dk_at dksX2_count_3 19 rfl rfl)
theorem dX2_count_111 : decode cX2_count 111 = .ok (.invokevirtual 169, 3) := dk_182 0 169 (dk_at dksX2_count_3 20 rfl rfl)
theorem dX2_count_114 : decode cX2_count 114 = .ok (.ireturn, 1) := dk_172 (dk_at dksX2_count_3 23 rfl rfl)
theorem dX2_count_115 : decode cX2_count 115 = .ok (.aload_n 0, 1) := dk_42 (dk_at dksX2_count_4 0 rfl rfl)
theorem dX2_count_116 : decode cX2_count 116 = .ok (.getfield 22, 3) := dk_180 0 22 (dk_at dksX2_count_4 1 rfl rfl)
theorem dX2_count_119 : decode cX2_count 119 = .ok (.ireturn, 1) := dk_172 (dk_at dksX2_count_4 4 rfl rfl)
theorem dX2_count_120 : decode cX2_count 120 = .ok (.aload_n 0, 1) := dk_42 (dk_at dksX2_count_4 5 rfl rfl)
theorem dX2_count_121 : decode cX2_count 121 = .ok (.getfield 55, 3) := dk_180 0 55 (dk_at dksX2_count_4 6 rfl rfl)
theorem dX2_count_124 : decode cX2_count 124 = .ok (.ireturn, 1) := dk_172 (dk_at dksX2_count_4 9 rfl rfl)
theorem dX2_count_125 : decode cX2_count 125 = .ok (.iload_n 1, 1) := dk_27 (dk_at dksX2_count_4 10 rfl rfl)
theorem dX2_count_126 : decode cX2_count 126 = .ok (.bipush 20, 2) := dk_16 20 (dk_at dksX2_count_4 11 rfl rfl)
theorem dX2_count_128 : decode cX2_count 128 = .ok (.bipush 22, 2) := dk_16 22 (dk_at dksX2_count_4 13 rfl rfl)
theorem dX2_count_130 : decode cX2_count 130 = .ok (.invokestatic 61, 3) := dk_184 0 61 (dk_at dksX2_count_4 15 rfl rfl)
theorem dX2_count_133 : decode cX2_count 133 = .ok (.ifCond .eq 18, 3) := dk_153 0 18 (dk_at dksX2_count_4 18 rfl rfl)
theorem dX2_count_136 : decode cX2_count 136 = .ok (.aload_n 0, 1) := dk_42 (dk_at dksX2_count_4 21 rfl rfl)
theorem dX2_count_137 : decode cX2_count 137 = .ok (.getfield 7, 3) := dk_180 0 7 (dk_at dksX2_count_5 0 rfl rfl)
theorem dX2_count_140 : decode cX2_count 140 = .ok (.bipush 8, 2) := dk_16 8 (dk_at dksX2_count_5 3 rfl rfl)
theorem dX2_count_142 : decode cX2_count 142 = .ok (.iload_n 1, 1) := dk_27 (dk_at dksX2_count_5 5 rfl rfl)
theorem dX2_count_143 : decode cX2_count 143 = .ok (.iadd, 1) := dk_96 (dk_at dksX2_count_5 6 rfl rfl)
theorem dX2_count_144 : decode cX2_count 144 = .ok (.bipush 20, 2) := dk_16 20 (dk_at dksX2_count_5 7 rfl rfl)
theorem dX2_count_146 : decode cX2_count 146 = .ok (.isub, 1) := dk_100 (dk_at dksX2_count_5 9 rfl rfl)
theorem dX2_count_147 : decode cX2_count 147 = .ok (.iaload, 1) := dk_46 (dk_at dksX2_count_5 10 rfl rfl)
theorem dX2_count_148 : decode cX2_count 148 = .ok (.goto 5, 3) := dk_167 0 5 (dk_at dksX2_count_5 11 rfl rfl)
theorem dX2_count_151 : decode cX2_count 151 = .ok (.ldc 92, 2) := dk_18 92 (dk_at dksX2_count_5 14 rfl rfl)
theorem dX2_count_153 : decode cX2_count 153 = .ok (.ireturn, 1) := dk_172 (dk_at dksX2_count_5 16 rfl rfl)
abbrev cX2_told : ByteArray := prog_12_method_52_code
def yX2_told : MethodName := ⟨RX2, "told", "(I)I"⟩
def dkwX2_told_0 : List UInt8 := [26, 156, 0, 8, 18, 100, 167, 0, 4, 26, 172]
abbrev dktX2_told_0 : List UInt8 := dkwX2_told_0 ++ []
theorem dksX2_told_0 : cX2_told.data.toList.drop 0 = dktX2_told_0 := by decide +kernel
theorem dX2_told_0 : decode cX2_told 0 = .ok (.iload_n 0, 1) := dk_26 (dk_at dksX2_told_0 0 rfl rfl)
theorem dX2_told_1 : decode cX2_told 1 = .ok (.ifCond .ge 8, 3) := dk_156 0 8 (dk_at dksX2_told_0 1 rfl rfl)
theorem dX2_told_4 : decode cX2_told 4 = .ok (.ldc 100, 2) := dk_18 100 (dk_at dksX2_told_0 4 rfl rfl)
theorem dX2_told_6 : decode cX2_told 6 = .ok (.goto 4, 3) := dk_167 0 4 (dk_at dksX2_told_0 6 rfl rfl)
theorem dX2_told_9 : decode cX2_told 9 = .ok (.iload_n 0, 1) := dk_26 (dk_at dksX2_told_0 9 rfl rfl)
theorem dX2_told_10 : decode cX2_told 10 = .ok (.ireturn, 1) := dk_172 (dk_at dksX2_told_0 10 rfl rfl)
abbrev cX2_widest : ByteArray := prog_12_method_51_code
def yX2_widest : MethodName := ⟨RX2, "widest", "()I"⟩
def dkwX2_widest_2 : List UInt8 := [167, 0, 4, 28, 61, 132, 3, 1, 167, 255, 209, 27, 172]
abbrev dktX2_widest_2 : List UInt8 := dkwX2_widest_2 ++ []
def dkwX2_widest_1 : List UInt8 := [164, 0, 7, 29, 167, 0, 4, 27, 60, 42, 29, 182, 0, 141, 28, 164, 0, 11, 42, 29, 182, 0, 141]
abbrev dktX2_widest_1 : List UInt8 := dkwX2_widest_1 ++ dktX2_widest_2
def dkwX2_widest_0 : List UInt8 := [18, 100, 60, 3, 61, 3, 62, 29, 42, 180, 0, 7, 3, 46, 162, 0, 43, 42, 29, 182, 0, 141, 28]
abbrev dktX2_widest_0 : List UInt8 := dkwX2_widest_0 ++ dktX2_widest_1
theorem dksX2_widest_0 : cX2_widest.data.toList.drop 0 = dktX2_widest_0 := by decide +kernel
theorem dksX2_widest_1 : cX2_widest.data.toList.drop 23 = dktX2_widest_1 := dk_seg dksX2_widest_0 23 rfl rfl
theorem dksX2_widest_2 : cX2_widest.data.toList.drop 46 = dktX2_widest_2 := dk_seg dksX2_widest_1 23 rfl rfl
theorem dX2_widest_0 : decode cX2_widest 0 = .ok (.ldc 100, 2) := dk_18 100 (dk_at dksX2_widest_0 0 rfl rfl)
theorem dX2_widest_2 : decode cX2_widest 2 = .ok (.istore_n 1, 1) := dk_60 (dk_at dksX2_widest_0 2 rfl rfl)
theorem dX2_widest_3 : decode cX2_widest 3 = .ok (.iconst 0, 1) := dk_3 (dk_at dksX2_widest_0 3 rfl rfl)
theorem dX2_widest_4 : decode cX2_widest 4 = .ok (.istore_n 2, 1) := dk_61 (dk_at dksX2_widest_0 4 rfl rfl)
theorem dX2_widest_5 : decode cX2_widest 5 = .ok (.iconst 0, 1) := dk_3 (dk_at dksX2_widest_0 5 rfl rfl)
theorem dX2_widest_6 : decode cX2_widest 6 = .ok (.istore_n 3, 1) := dk_62 (dk_at dksX2_widest_0 6 rfl rfl)
theorem dX2_widest_7 : decode cX2_widest 7 = .ok (.iload_n 3, 1) := dk_29 (dk_at dksX2_widest_0 7 rfl rfl)
theorem dX2_widest_8 : decode cX2_widest 8 = .ok (.aload_n 0, 1) := dk_42 (dk_at dksX2_widest_0 8 rfl rfl)
theorem dX2_widest_9 : decode cX2_widest 9 = .ok (.getfield 7, 3) := dk_180 0 7 (dk_at dksX2_widest_0 9 rfl rfl)
theorem dX2_widest_12 : decode cX2_widest 12 = .ok (.iconst 0, 1) := dk_3 (dk_at dksX2_widest_0 12 rfl rfl)
theorem dX2_widest_13 : decode cX2_widest 13 = .ok (.iaload, 1) := dk_46 (dk_at dksX2_widest_0 13 rfl rfl)
theorem dX2_widest_14 : decode cX2_widest 14 = .ok (.if_icmp .ge 43, 3) := dk_162 0 43 (dk_at dksX2_widest_0 14 rfl rfl)
theorem dX2_widest_17 : decode cX2_widest 17 = .ok (.aload_n 0, 1) := dk_42 (dk_at dksX2_widest_0 17 rfl rfl)
theorem dX2_widest_18 : decode cX2_widest 18 = .ok (.iload_n 3, 1) := dk_29 (dk_at dksX2_widest_0 18 rfl rfl)
theorem dX2_widest_19 : decode cX2_widest 19 = .ok (.invokevirtual 141, 3) := dk_182 0 141 (dk_at dksX2_widest_0 19 rfl rfl)
theorem dX2_widest_22 : decode cX2_widest 22 = .ok (.iload_n 2, 1) := dk_28 (dk_at dksX2_widest_0 22 rfl rfl)
theorem dX2_widest_23 : decode cX2_widest 23 = .ok (.if_icmp .le 7, 3) := dk_164 0 7 (dk_at dksX2_widest_1 0 rfl rfl)
theorem dX2_widest_26 : decode cX2_widest 26 = .ok (.iload_n 3, 1) := dk_29 (dk_at dksX2_widest_1 3 rfl rfl)
theorem dX2_widest_27 : decode cX2_widest 27 = .ok (.goto 4, 3) := dk_167 0 4 (dk_at dksX2_widest_1 4 rfl rfl)
theorem dX2_widest_30 : decode cX2_widest 30 = .ok (.iload_n 1, 1) := dk_27 (dk_at dksX2_widest_1 7 rfl rfl)
theorem dX2_widest_31 : decode cX2_widest 31 = .ok (.istore_n 1, 1) := dk_60 (dk_at dksX2_widest_1 8 rfl rfl)
theorem dX2_widest_32 : decode cX2_widest 32 = .ok (.aload_n 0, 1) := dk_42 (dk_at dksX2_widest_1 9 rfl rfl)
theorem dX2_widest_33 : decode cX2_widest 33 = .ok (.iload_n 3, 1) := dk_29 (dk_at dksX2_widest_1 10 rfl rfl)
theorem dX2_widest_34 : decode cX2_widest 34 = .ok (.invokevirtual 141, 3) := dk_182 0 141 (dk_at dksX2_widest_1 11 rfl rfl)
theorem dX2_widest_37 : decode cX2_widest 37 = .ok (.iload_n 2, 1) := dk_28 (dk_at dksX2_widest_1 14 rfl rfl)
theorem dX2_widest_38 : decode cX2_widest 38 = .ok (.if_icmp .le 11, 3) := dk_164 0 11 (dk_at dksX2_widest_1 15 rfl rfl)
theorem dX2_widest_41 : decode cX2_widest 41 = .ok (.aload_n 0, 1) := dk_42 (dk_at dksX2_widest_1 18 rfl rfl)
theorem dX2_widest_42 : decode cX2_widest 42 = .ok (.iload_n 3, 1) := dk_29 (dk_at dksX2_widest_1 19 rfl rfl)
theorem dX2_widest_43 : decode cX2_widest 43 = .ok (.invokevirtual 141, 3) := dk_182 0 141 (dk_at dksX2_widest_1 20 rfl rfl)
theorem dX2_widest_46 : decode cX2_widest 46 = .ok (.goto 4, 3) := dk_167 0 4 (dk_at dksX2_widest_2 0 rfl rfl)
theorem dX2_widest_49 : decode cX2_widest 49 = .ok (.iload_n 2, 1) := dk_28 (dk_at dksX2_widest_2 3 rfl rfl)
theorem dX2_widest_50 : decode cX2_widest 50 = .ok (.istore_n 2, 1) := dk_61 (dk_at dksX2_widest_2 4 rfl rfl)
theorem dX2_widest_51 : decode cX2_widest 51 = .ok (.iinc 3 1, 3) := dk_132 3 1 (dk_at dksX2_widest_2 5 rfl rfl)
theorem dX2_widest_54 : decode cX2_widest 54 = .ok (.goto (-47), 3) := dk_167 255 209 (dk_at dksX2_widest_2 8 rfl rfl)
theorem dX2_widest_57 : decode cX2_widest 57 = .ok (.iload_n 1, 1) := dk_27 (dk_at dksX2_widest_2 11 rfl rfl)
theorem dX2_widest_58 : decode cX2_widest 58 = .ok (.ireturn, 1) := dk_172 (dk_at dksX2_widest_2 12 rfl rfl)
abbrev cX2_undo : ByteArray := prog_12_method_54_code
def yX2_undo : MethodName := ⟨RX2, "undo", "()I"⟩
def dkwX2_undo_2 : List UInt8 := [96, 46, 79, 132, 1, 1, 167, 255, 225, 42, 180, 0, 22, 172]
abbrev dktX2_undo_2 : List UInt8 := dkwX2_undo_2 ++ []
def dkwX2_undo_1 : List UInt8 := [17, 1, 113, 162, 0, 30, 42, 180, 0, 7, 27, 42, 180, 0, 13, 17, 1, 113, 42, 180, 0, 22, 104, 27]
abbrev dktX2_undo_1 : List UInt8 := dkwX2_undo_1 ++ dktX2_undo_2
def dkwX2_undo_0 : List UInt8 := [42, 180, 0, 22, 154, 0, 6, 18, 101, 172, 42, 89, 180, 0, 22, 4, 100, 181, 0, 22, 3, 60, 27]
abbrev dktX2_undo_0 : List UInt8 := dkwX2_undo_0 ++ dktX2_undo_1
theorem dksX2_undo_0 : cX2_undo.data.toList.drop 0 = dktX2_undo_0 := by decide +kernel
theorem dksX2_undo_1 : cX2_undo.data.toList.drop 23 = dktX2_undo_1 := dk_seg dksX2_undo_0 23 rfl rfl
theorem dksX2_undo_2 : cX2_undo.data.toList.drop 47 = dktX2_undo_2 := dk_seg dksX2_undo_1 24 rfl rfl
theorem dX2_undo_0 : decode cX2_undo 0 = .ok (.aload_n 0, 1) := dk_42 (dk_at dksX2_undo_0 0 rfl rfl)
theorem dX2_undo_1 : decode cX2_undo 1 = .ok (.getfield 22, 3) := dk_180 0 22 (dk_at dksX2_undo_0 1 rfl rfl)
theorem dX2_undo_4 : decode cX2_undo 4 = .ok (.ifCond .ne 6, 3) := dk_154 0 6 (dk_at dksX2_undo_0 4 rfl rfl)
theorem dX2_undo_7 : decode cX2_undo 7 = .ok (.ldc 101, 2) := dk_18 101 (dk_at dksX2_undo_0 7 rfl rfl)
theorem dX2_undo_9 : decode cX2_undo 9 = .ok (.ireturn, 1) := dk_172 (dk_at dksX2_undo_0 9 rfl rfl)
theorem dX2_undo_10 : decode cX2_undo 10 = .ok (.aload_n 0, 1) := dk_42 (dk_at dksX2_undo_0 10 rfl rfl)
theorem dX2_undo_11 : decode cX2_undo 11 = .ok (.dup, 1) := dk_89 (dk_at dksX2_undo_0 11 rfl rfl)
theorem dX2_undo_12 : decode cX2_undo 12 = .ok (.getfield 22, 3) := dk_180 0 22 (dk_at dksX2_undo_0 12 rfl rfl)
theorem dX2_undo_15 : decode cX2_undo 15 = .ok (.iconst 1, 1) := dk_4 (dk_at dksX2_undo_0 15 rfl rfl)
theorem dX2_undo_16 : decode cX2_undo 16 = .ok (.isub, 1) := dk_100 (dk_at dksX2_undo_0 16 rfl rfl)
theorem dX2_undo_17 : decode cX2_undo 17 = .ok (.putfield 22, 3) := dk_181 0 22 (dk_at dksX2_undo_0 17 rfl rfl)
theorem dX2_undo_20 : decode cX2_undo 20 = .ok (.iconst 0, 1) := dk_3 (dk_at dksX2_undo_0 20 rfl rfl)
theorem dX2_undo_21 : decode cX2_undo 21 = .ok (.istore_n 1, 1) := dk_60 (dk_at dksX2_undo_0 21 rfl rfl)
theorem dX2_undo_22 : decode cX2_undo 22 = .ok (.iload_n 1, 1) := dk_27 (dk_at dksX2_undo_0 22 rfl rfl)
theorem dX2_undo_23 : decode cX2_undo 23 = .ok (.sipush 369, 3) := dk_17 1 113 (dk_at dksX2_undo_1 0 rfl rfl)
theorem dX2_undo_26 : decode cX2_undo 26 = .ok (.if_icmp .ge 30, 3) := dk_162 0 30 (dk_at dksX2_undo_1 3 rfl rfl)
theorem dX2_undo_29 : decode cX2_undo 29 = .ok (.aload_n 0, 1) := dk_42 (dk_at dksX2_undo_1 6 rfl rfl)
theorem dX2_undo_30 : decode cX2_undo 30 = .ok (.getfield 7, 3) := dk_180 0 7 (dk_at dksX2_undo_1 7 rfl rfl)
theorem dX2_undo_33 : decode cX2_undo 33 = .ok (.iload_n 1, 1) := dk_27 (dk_at dksX2_undo_1 10 rfl rfl)
theorem dX2_undo_34 : decode cX2_undo 34 = .ok (.aload_n 0, 1) := dk_42 (dk_at dksX2_undo_1 11 rfl rfl)
theorem dX2_undo_35 : decode cX2_undo 35 = .ok (.getfield 13, 3) := dk_180 0 13 (dk_at dksX2_undo_1 12 rfl rfl)
theorem dX2_undo_38 : decode cX2_undo 38 = .ok (.sipush 369, 3) := dk_17 1 113 (dk_at dksX2_undo_1 15 rfl rfl)
theorem dX2_undo_41 : decode cX2_undo 41 = .ok (.aload_n 0, 1) := dk_42 (dk_at dksX2_undo_1 18 rfl rfl)
theorem dX2_undo_42 : decode cX2_undo 42 = .ok (.getfield 22, 3) := dk_180 0 22 (dk_at dksX2_undo_1 19 rfl rfl)
theorem dX2_undo_45 : decode cX2_undo 45 = .ok (.imul, 1) := dk_104 (dk_at dksX2_undo_1 22 rfl rfl)
theorem dX2_undo_46 : decode cX2_undo 46 = .ok (.iload_n 1, 1) := dk_27 (dk_at dksX2_undo_1 23 rfl rfl)
theorem dX2_undo_47 : decode cX2_undo 47 = .ok (.iadd, 1) := dk_96 (dk_at dksX2_undo_2 0 rfl rfl)
theorem dX2_undo_48 : decode cX2_undo 48 = .ok (.iaload, 1) := dk_46 (dk_at dksX2_undo_2 1 rfl rfl)
theorem dX2_undo_49 : decode cX2_undo 49 = .ok (.iastore, 1) := dk_79 (dk_at dksX2_undo_2 2 rfl rfl)
theorem dX2_undo_50 : decode cX2_undo 50 = .ok (.iinc 1 1, 3) := dk_132 1 1 (dk_at dksX2_undo_2 3 rfl rfl)
theorem dX2_undo_53 : decode cX2_undo 53 = .ok (.goto (-31), 3) := dk_167 255 225 (dk_at dksX2_undo_2 6 rfl rfl)
theorem dX2_undo_56 : decode cX2_undo 56 = .ok (.aload_n 0, 1) := dk_42 (dk_at dksX2_undo_2 9 rfl rfl)
theorem dX2_undo_57 : decode cX2_undo 57 = .ok (.getfield 22, 3) := dk_180 0 22 (dk_at dksX2_undo_2 10 rfl rfl)
theorem dX2_undo_60 : decode cX2_undo 60 = .ok (.ireturn, 1) := dk_172 (dk_at dksX2_undo_2 13 rfl rfl)
abbrev cX2_type : ByteArray := prog_12_method_55_code
def yX2_type : MethodName := ⟨RX2, "type", "(I)I"⟩
def dkwX2_type_2 : List UInt8 := [180, 0, 55, 172]
abbrev dktX2_type_2 : List UInt8 := dkwX2_type_2 ++ []
def dkwX2_type_1 : List UInt8 := [18, 134, 172, 42, 180, 0, 19, 42, 180, 0, 55, 27, 79, 42, 89, 180, 0, 55, 4, 96, 181, 0, 55, 42]
abbrev dktX2_type_1 : List UInt8 := dkwX2_type_1 ++ dktX2_type_2
def dkwX2_type_0 : List UInt8 := [27, 16, 32, 16, 126, 184, 0, 61, 154, 0, 6, 18, 92, 172, 42, 180, 0, 55, 16, 60, 160, 0, 6]
abbrev dktX2_type_0 : List UInt8 := dkwX2_type_0 ++ dktX2_type_1
theorem dksX2_type_0 : cX2_type.data.toList.drop 0 = dktX2_type_0 := by decide +kernel
theorem dksX2_type_1 : cX2_type.data.toList.drop 23 = dktX2_type_1 := dk_seg dksX2_type_0 23 rfl rfl
theorem dksX2_type_2 : cX2_type.data.toList.drop 47 = dktX2_type_2 := dk_seg dksX2_type_1 24 rfl rfl
theorem dX2_type_0 : decode cX2_type 0 = .ok (.iload_n 1, 1) := dk_27 (dk_at dksX2_type_0 0 rfl rfl)
theorem dX2_type_1 : decode cX2_type 1 = .ok (.bipush 32, 2) := dk_16 32 (dk_at dksX2_type_0 1 rfl rfl)
theorem dX2_type_3 : decode cX2_type 3 = .ok (.bipush 126, 2) := dk_16 126 (dk_at dksX2_type_0 3 rfl rfl)
theorem dX2_type_5 : decode cX2_type 5 = .ok (.invokestatic 61, 3) := dk_184 0 61 (dk_at dksX2_type_0 5 rfl rfl)
theorem dX2_type_8 : decode cX2_type 8 = .ok (.ifCond .ne 6, 3) := dk_154 0 6 (dk_at dksX2_type_0 8 rfl rfl)
theorem dX2_type_11 : decode cX2_type 11 = .ok (.ldc 92, 2) := dk_18 92 (dk_at dksX2_type_0 11 rfl rfl)
theorem dX2_type_13 : decode cX2_type 13 = .ok (.ireturn, 1) := dk_172 (dk_at dksX2_type_0 13 rfl rfl)
theorem dX2_type_14 : decode cX2_type 14 = .ok (.aload_n 0, 1) := dk_42 (dk_at dksX2_type_0 14 rfl rfl)
theorem dX2_type_15 : decode cX2_type 15 = .ok (.getfield 55, 3) := dk_180 0 55 (dk_at dksX2_type_0 15 rfl rfl)
theorem dX2_type_18 : decode cX2_type 18 = .ok (.bipush 60, 2) := dk_16 60 (dk_at dksX2_type_0 18 rfl rfl)
theorem dX2_type_20 : decode cX2_type 20 = .ok (.if_icmp .ne 6, 3) := dk_160 0 6 (dk_at dksX2_type_0 20 rfl rfl)
theorem dX2_type_23 : decode cX2_type 23 = .ok (.ldc 134, 2) := dk_18 134 (dk_at dksX2_type_1 0 rfl rfl)
theorem dX2_type_25 : decode cX2_type 25 = .ok (.ireturn, 1) := dk_172 (dk_at dksX2_type_1 2 rfl rfl)
theorem dX2_type_26 : decode cX2_type 26 = .ok (.aload_n 0, 1) := dk_42 (dk_at dksX2_type_1 3 rfl rfl)
theorem dX2_type_27 : decode cX2_type 27 = .ok (.getfield 19, 3) := dk_180 0 19 (dk_at dksX2_type_1 4 rfl rfl)
theorem dX2_type_30 : decode cX2_type 30 = .ok (.aload_n 0, 1) := dk_42 (dk_at dksX2_type_1 7 rfl rfl)
theorem dX2_type_31 : decode cX2_type 31 = .ok (.getfield 55, 3) := dk_180 0 55 (dk_at dksX2_type_1 8 rfl rfl)
theorem dX2_type_34 : decode cX2_type 34 = .ok (.iload_n 1, 1) := dk_27 (dk_at dksX2_type_1 11 rfl rfl)
theorem dX2_type_35 : decode cX2_type 35 = .ok (.iastore, 1) := dk_79 (dk_at dksX2_type_1 12 rfl rfl)
theorem dX2_type_36 : decode cX2_type 36 = .ok (.aload_n 0, 1) := dk_42 (dk_at dksX2_type_1 13 rfl rfl)
theorem dX2_type_37 : decode cX2_type 37 = .ok (.dup, 1) := dk_89 (dk_at dksX2_type_1 14 rfl rfl)
theorem dX2_type_38 : decode cX2_type 38 = .ok (.getfield 55, 3) := dk_180 0 55 (dk_at dksX2_type_1 15 rfl rfl)
theorem dX2_type_41 : decode cX2_type 41 = .ok (.iconst 1, 1) := dk_4 (dk_at dksX2_type_1 18 rfl rfl)
theorem dX2_type_42 : decode cX2_type 42 = .ok (.iadd, 1) := dk_96 (dk_at dksX2_type_1 19 rfl rfl)
theorem dX2_type_43 : decode cX2_type 43 = .ok (.putfield 55, 3) := dk_181 0 55 (dk_at dksX2_type_1 20 rfl rfl)
theorem dX2_type_46 : decode cX2_type 46 = .ok (.aload_n 0, 1) := dk_42 (dk_at dksX2_type_1 23 rfl rfl)
theorem dX2_type_47 : decode cX2_type 47 = .ok (.getfield 55, 3) := dk_180 0 55 (dk_at dksX2_type_2 0 rfl rfl)
theorem dX2_type_50 : decode cX2_type 50 = .ok (.ireturn, 1) := dk_172 (dk_at dksX2_type_2 3 rfl rfl)
abbrev cX2_clearText : ByteArray := prog_12_method_56_code
def yX2_clearText : MethodName := ⟨RX2, "clearText", "()I"⟩
def dkwX2_clearText_0 : List UInt8 := [42, 180, 0, 55, 60, 42, 3, 181, 0, 55, 27, 172]
abbrev dktX2_clearText_0 : List UInt8 := dkwX2_clearText_0 ++ []
theorem dksX2_clearText_0 : cX2_clearText.data.toList.drop 0 = dktX2_clearText_0 := by decide +kernel
theorem dX2_clearText_0 : decode cX2_clearText 0 = .ok (.aload_n 0, 1) := dk_42 (dk_at dksX2_clearText_0 0 rfl rfl)
theorem dX2_clearText_1 : decode cX2_clearText 1 = .ok (.getfield 55, 3) := dk_180 0 55 (dk_at dksX2_clearText_0 1 rfl rfl)
theorem dX2_clearText_4 : decode cX2_clearText 4 = .ok (.istore_n 1, 1) := dk_60 (dk_at dksX2_clearText_0 4 rfl rfl)
theorem dX2_clearText_5 : decode cX2_clearText 5 = .ok (.aload_n 0, 1) := dk_42 (dk_at dksX2_clearText_0 5 rfl rfl)
theorem dX2_clearText_6 : decode cX2_clearText 6 = .ok (.iconst 0, 1) := dk_3 (dk_at dksX2_clearText_0 6 rfl rfl)
theorem dX2_clearText_7 : decode cX2_clearText 7 = .ok (.putfield 55, 3) := dk_181 0 55 (dk_at dksX2_clearText_0 7 rfl rfl)
theorem dX2_clearText_10 : decode cX2_clearText 10 = .ok (.iload_n 1, 1) := dk_27 (dk_at dksX2_clearText_0 10 rfl rfl)
theorem dX2_clearText_11 : decode cX2_clearText 11 = .ok (.ireturn, 1) := dk_172 (dk_at dksX2_clearText_0 11 rfl rfl)
theorem q56 : (Jvm.Cond.initialized "HandBlindsModel") ∈ lw_all := lw_g (lw_at lw_m1 11 rfl) rfl
theorem q384 : (Jvm.Cond.selects "HandBlindsModel" ({ cls := "java/lang/Object", name := "getClass", desc := "()Ljava/lang/Class;" } : Jvm.MethodName) ({ cls := "java/lang/Object", name := "getClass", desc := "()Ljava/lang/Class;" } : Jvm.MethodName)) ∈ lw_all := lw_g (lw_at lw_m2 99 rfl) rfl
theorem q1395 : (Jvm.Cond.instantiable "HandBlindsModel" (13 : Nat)) ∈ lw_all := lw_g (lw_at lw_m6 150 rfl) rfl
theorem q1397 : (Jvm.Cond.instanceMethod ({ cls := "HandBlindsModel", name := "<init>", desc := "()V" } : Jvm.MethodName)) ∈ lw_all := lw_g (lw_at lw_m6 152 rfl) rfl
theorem q1398 : (Jvm.Cond.code ({ cls := "HandBlindsModel", name := "<init>", desc := "()V" } : Jvm.MethodName) prog_12_method_1_code (1 : Nat) (Option.none : Option Jvm.ClassFile.FieldType)) ∈ lw_all := lw_g (lw_at lw_m6 153 rfl) rfl
theorem q1399 : (Jvm.Cond.methodLink "HandBlindsModel" (1 : Nat) ({ cls := "java/lang/Object", name := "<init>", desc := "()V" } : Jvm.MethodName)) ∈ lw_all := lw_g (lw_at lw_m6 154 rfl) rfl
theorem q1400 : (Jvm.Cond.fieldLink "HandBlindsModel" (7 : Nat) "HandBlindsModel" "s" "[I") ∈ lw_all := lw_g (lw_at lw_m6 155 rfl) rfl
theorem q1401 : (Jvm.Cond.fieldLink "HandBlindsModel" (13 : Nat) "HandBlindsModel" "past" "[I") ∈ lw_all := lw_g (lw_at lw_m6 156 rfl) rfl
theorem q1402 : (Jvm.Cond.fieldLink "HandBlindsModel" (16 : Nat) "HandBlindsModel" "tried" "[I") ∈ lw_all := lw_g (lw_at lw_m6 157 rfl) rfl
theorem q1403 : (Jvm.Cond.fieldLink "HandBlindsModel" (22 : Nat) "HandBlindsModel" "pasts" "I") ∈ lw_all := lw_g (lw_at lw_m6 158 rfl) rfl
theorem q1404 : (Jvm.Cond.fieldLink "HandBlindsModel" (19 : Nat) "HandBlindsModel" "text" "[I") ∈ lw_all := lw_g (lw_at lw_m6 159 rfl) rfl
theorem q1405 : (Jvm.Cond.fieldLink "HandBlindsModel" (55 : Nat) "HandBlindsModel" "typed" "I") ∈ lw_all := lw_g (lw_at lw_m6 160 rfl) rfl
theorem q1406 : (Jvm.Cond.fieldLink "HandBlindsModel" (52 : Nat) "HandBlindsModel" "spot" "I") ∈ lw_all := lw_g (lw_at lw_m6 161 rfl) rfl
theorem q1407 : (Jvm.Cond.fieldLink "HandBlindsModel" (58 : Nat) "HandBlindsModel" "from" "I") ∈ lw_all := lw_g (lw_at lw_m6 162 rfl) rfl
theorem q1408 : (Jvm.Cond.fieldLink "HandBlindsModel" (46 : Nat) "HandBlindsModel" "reason" "I") ∈ lw_all := lw_g (lw_at lw_m6 163 rfl) rfl
theorem q1409 : (Jvm.Cond.fieldLink "HandBlindsModel" (49 : Nat) "HandBlindsModel" "cause" "I") ∈ lw_all := lw_g (lw_at lw_m6 164 rfl) rfl
theorem q1410 : (Jvm.Cond.fieldLink "HandBlindsModel" (86 : Nat) "HandBlindsModel" "names" "I") ∈ lw_all := lw_g (lw_at lw_m6 165 rfl) rfl
theorem q1411 : (Jvm.Cond.fieldLink "HandBlindsModel" (118 : Nat) "HandBlindsModel" "gone" "I") ∈ lw_all := lw_g (lw_at lw_m6 166 rfl) rfl
theorem q1412 : (Jvm.Cond.fieldLink "HandBlindsModel" (121 : Nat) "HandBlindsModel" "torn" "I") ∈ lw_all := lw_g (lw_at lw_m6 167 rfl) rfl
theorem q1413 : (Jvm.Cond.laysFinal "HandBlindsModel" "HandBlindsModel" "s" "[I") ∈ lw_all := lw_g (lw_at lw_m6 168 rfl) rfl
theorem q1414 : (Jvm.Cond.soleField "HandBlindsModel" "s") ∈ lw_all := lw_g (lw_at lw_m6 169 rfl) rfl
theorem q1415 : (Jvm.Cond.laysFinal "HandBlindsModel" "HandBlindsModel" "past" "[I") ∈ lw_all := lw_g (lw_at lw_m6 170 rfl) rfl
theorem q1416 : (Jvm.Cond.soleField "HandBlindsModel" "past") ∈ lw_all := lw_g (lw_at lw_m6 171 rfl) rfl
theorem q1417 : (Jvm.Cond.laysFinal "HandBlindsModel" "HandBlindsModel" "tried" "[I") ∈ lw_all := lw_g (lw_at lw_m6 172 rfl) rfl
theorem q1418 : (Jvm.Cond.soleField "HandBlindsModel" "tried") ∈ lw_all := lw_g (lw_at lw_m6 173 rfl) rfl
theorem q1419 : (Jvm.Cond.lays "HandBlindsModel" "HandBlindsModel" "pasts" "I") ∈ lw_all := lw_g (lw_at lw_m6 174 rfl) rfl
theorem q1420 : (Jvm.Cond.soleField "HandBlindsModel" "pasts") ∈ lw_all := lw_g (lw_at lw_m6 175 rfl) rfl
theorem q1421 : (Jvm.Cond.laysFinal "HandBlindsModel" "HandBlindsModel" "text" "[I") ∈ lw_all := lw_g (lw_at lw_m6 176 rfl) rfl
theorem q1422 : (Jvm.Cond.soleField "HandBlindsModel" "text") ∈ lw_all := lw_g (lw_at lw_m6 177 rfl) rfl
theorem q1423 : (Jvm.Cond.lays "HandBlindsModel" "HandBlindsModel" "typed" "I") ∈ lw_all := lw_g (lw_at lw_m6 178 rfl) rfl
theorem q1424 : (Jvm.Cond.soleField "HandBlindsModel" "typed") ∈ lw_all := lw_g (lw_at lw_m6 179 rfl) rfl
theorem q1425 : (Jvm.Cond.lays "HandBlindsModel" "HandBlindsModel" "spot" "I") ∈ lw_all := lw_g (lw_at lw_m6 180 rfl) rfl
theorem q1426 : (Jvm.Cond.soleField "HandBlindsModel" "spot") ∈ lw_all := lw_g (lw_at lw_m6 181 rfl) rfl
theorem q1427 : (Jvm.Cond.lays "HandBlindsModel" "HandBlindsModel" "from" "I") ∈ lw_all := lw_g (lw_at lw_m6 182 rfl) rfl
theorem q1428 : (Jvm.Cond.soleField "HandBlindsModel" "from") ∈ lw_all := lw_g (lw_at lw_m6 183 rfl) rfl
theorem q1429 : (Jvm.Cond.lays "HandBlindsModel" "HandBlindsModel" "reason" "I") ∈ lw_all := lw_g (lw_at lw_m6 184 rfl) rfl
theorem q1430 : (Jvm.Cond.soleField "HandBlindsModel" "reason") ∈ lw_all := lw_g (lw_at lw_m6 185 rfl) rfl
theorem q1431 : (Jvm.Cond.lays "HandBlindsModel" "HandBlindsModel" "cause" "I") ∈ lw_all := lw_g (lw_at lw_m6 186 rfl) rfl
theorem q1432 : (Jvm.Cond.soleField "HandBlindsModel" "cause") ∈ lw_all := lw_g (lw_at lw_m6 187 rfl) rfl
theorem q1433 : (Jvm.Cond.lays "HandBlindsModel" "HandBlindsModel" "names" "I") ∈ lw_all := lw_g (lw_at lw_m6 188 rfl) rfl
theorem q1434 : (Jvm.Cond.soleField "HandBlindsModel" "names") ∈ lw_all := lw_g (lw_at lw_m6 189 rfl) rfl
theorem q1435 : (Jvm.Cond.lays "HandBlindsModel" "HandBlindsModel" "gone" "I") ∈ lw_all := lw_g (lw_at lw_m6 190 rfl) rfl
theorem q1436 : (Jvm.Cond.soleField "HandBlindsModel" "gone") ∈ lw_all := lw_g (lw_at lw_m6 191 rfl) rfl
theorem q1437 : (Jvm.Cond.lays "HandBlindsModel" "HandBlindsModel" "torn" "I") ∈ lw_all := lw_g (lw_at lw_m6 192 rfl) rfl
theorem q1438 : (Jvm.Cond.soleField "HandBlindsModel" "torn") ∈ lw_all := lw_g (lw_at lw_m6 193 rfl) rfl
theorem q1439 : (Jvm.Cond.superclass "HandBlindsModel" "java/lang/Object") ∈ lw_all := lw_g (lw_at lw_m6 194 rfl) rfl
theorem q1441 : (Jvm.Cond.instanceMethod ({ cls := "HandBlindsModel", name := "fault", desc := "(I)I" } : Jvm.MethodName)) ∈ lw_all := lw_g (lw_at lw_m6 196 rfl) rfl
theorem q1442 : (Jvm.Cond.selects "HandBlindsModel" ({ cls := "HandBlindsModel", name := "fault", desc := "(I)I" } : Jvm.MethodName) ({ cls := "HandBlindsModel", name := "fault", desc := "(I)I" } : Jvm.MethodName)) ∈ lw_all := lw_g (lw_at lw_m6 197 rfl) rfl
theorem q1443 : (Jvm.Cond.code ({ cls := "HandBlindsModel", name := "fault", desc := "(I)I" } : Jvm.MethodName) prog_12_method_23_code (3 : Nat) (Option.some Jvm.ClassFile.FieldType.int)) ∈ lw_all := lw_g (lw_at lw_m6 198 rfl) rfl
theorem q1444 : (Jvm.Cond.methodLink "HandBlindsModel" (61 : Nat) ({ cls := "HandBlindsModel", name := "in", desc := "(III)Z" } : Jvm.MethodName)) ∈ lw_all := lw_g (lw_at lw_m6 199 rfl) rfl
theorem q1445 : (Jvm.Cond.static ({ cls := "HandBlindsModel", name := "in", desc := "(III)Z" } : Jvm.MethodName)) ∈ lw_all := lw_g (lw_at lw_m6 200 rfl) rfl
theorem q1446 : (Jvm.Cond.code ({ cls := "HandBlindsModel", name := "in", desc := "(III)Z" } : Jvm.MethodName) prog_12_method_3_code (3 : Nat) (Option.some Jvm.ClassFile.FieldType.boolean)) ∈ lw_all := lw_g (lw_at lw_m6 201 rfl) rfl
theorem q1447 : (Jvm.Cond.constant "HandBlindsModel" (92 : Nat) (-1000001 : Int32)) ∈ lw_all := lw_g (lw_at lw_m6 202 rfl) rfl
theorem q1448 : (Jvm.Cond.methodLink "HandBlindsModel" (93 : Nat) ({ cls := "HandBlindsModel", name := "copies", desc := "([I[I)V" } : Jvm.MethodName)) ∈ lw_all := lw_g (lw_at lw_m6 203 rfl) rfl
theorem q1449 : (Jvm.Cond.static ({ cls := "HandBlindsModel", name := "copies", desc := "([I[I)V" } : Jvm.MethodName)) ∈ lw_all := lw_g (lw_at lw_m6 204 rfl) rfl
theorem q1450 : (Jvm.Cond.code ({ cls := "HandBlindsModel", name := "copies", desc := "([I[I)V" } : Jvm.MethodName) prog_12_method_4_code (3 : Nat) (Option.none : Option Jvm.ClassFile.FieldType)) ∈ lw_all := lw_g (lw_at lw_m6 205 rfl) rfl
theorem q1451 : (Jvm.Cond.methodLink "HandBlindsModel" (97 : Nat) ({ cls := "HandBlindsModel", name := "addsAll", desc := "()Z" } : Jvm.MethodName)) ∈ lw_all := lw_g (lw_at lw_m6 206 rfl) rfl
theorem q1452 : (Jvm.Cond.privateMethod ({ cls := "HandBlindsModel", name := "addsAll", desc := "()Z" } : Jvm.MethodName)) ∈ lw_tbl := lw_at lw_m6 207 rfl
theorem q1453 : (Jvm.Cond.instanceMethod ({ cls := "HandBlindsModel", name := "addsAll", desc := "()Z" } : Jvm.MethodName)) ∈ lw_all := lw_g (lw_at lw_m6 208 rfl) rfl
theorem q1454 : (Jvm.Cond.code ({ cls := "HandBlindsModel", name := "addsAll", desc := "()Z" } : Jvm.MethodName) prog_12_method_22_code (2 : Nat) (Option.some Jvm.ClassFile.FieldType.boolean)) ∈ lw_all := lw_g (lw_at lw_m6 209 rfl) rfl
theorem q1455 : (Jvm.Cond.methodLink "HandBlindsModel" (89 : Nat) ({ cls := "HandBlindsModel", name := "adds", desc := "()Z" } : Jvm.MethodName)) ∈ lw_all := lw_g (lw_at lw_m6 210 rfl) rfl
theorem q1456 : (Jvm.Cond.privateMethod ({ cls := "HandBlindsModel", name := "adds", desc := "()Z" } : Jvm.MethodName)) ∈ lw_tbl := lw_at lw_m6 211 rfl
theorem q1457 : (Jvm.Cond.instanceMethod ({ cls := "HandBlindsModel", name := "adds", desc := "()Z" } : Jvm.MethodName)) ∈ lw_all := lw_g (lw_at lw_m6 212 rfl) rfl
theorem q1458 : (Jvm.Cond.code ({ cls := "HandBlindsModel", name := "adds", desc := "()Z" } : Jvm.MethodName) prog_12_method_21_code (5 : Nat) (Option.some Jvm.ClassFile.FieldType.boolean)) ∈ lw_all := lw_g (lw_at lw_m6 213 rfl) rfl
theorem q1459 : (Jvm.Cond.methodLink "HandBlindsModel" (76 : Nat) ({ cls := "HandBlindsModel", name := "isFormed", desc := "()Z" } : Jvm.MethodName)) ∈ lw_all := lw_g (lw_at lw_m6 214 rfl) rfl
theorem q1460 : (Jvm.Cond.privateMethod ({ cls := "HandBlindsModel", name := "isFormed", desc := "()Z" } : Jvm.MethodName)) ∈ lw_tbl := lw_at lw_m6 215 rfl
theorem q1461 : (Jvm.Cond.instanceMethod ({ cls := "HandBlindsModel", name := "isFormed", desc := "()Z" } : Jvm.MethodName)) ∈ lw_all := lw_g (lw_at lw_m6 216 rfl) rfl
theorem q1462 : (Jvm.Cond.code ({ cls := "HandBlindsModel", name := "isFormed", desc := "()Z" } : Jvm.MethodName) prog_12_method_20_code (2 : Nat) (Option.some Jvm.ClassFile.FieldType.boolean)) ∈ lw_all := lw_g (lw_at lw_m6 217 rfl) rfl
theorem q1463 : (Jvm.Cond.methodLink "HandBlindsModel" (65 : Nat) ({ cls := "HandBlindsModel", name := "isEnd", desc := "()Z" } : Jvm.MethodName)) ∈ lw_all := lw_g (lw_at lw_m6 218 rfl) rfl
theorem q1464 : (Jvm.Cond.privateMethod ({ cls := "HandBlindsModel", name := "isEnd", desc := "()Z" } : Jvm.MethodName)) ∈ lw_tbl := lw_at lw_m6 219 rfl
theorem q1465 : (Jvm.Cond.instanceMethod ({ cls := "HandBlindsModel", name := "isEnd", desc := "()Z" } : Jvm.MethodName)) ∈ lw_all := lw_g (lw_at lw_m6 220 rfl) rfl
theorem q1466 : (Jvm.Cond.code ({ cls := "HandBlindsModel", name := "isEnd", desc := "()Z" } : Jvm.MethodName) prog_12_method_18_code (1 : Nat) (Option.some Jvm.ClassFile.FieldType.boolean)) ∈ lw_all := lw_g (lw_at lw_m6 221 rfl) rfl
theorem q1467 : (Jvm.Cond.methodLink "HandBlindsModel" (69 : Nat) ({ cls := "HandBlindsModel", name := "mayStand", desc := "()Z" } : Jvm.MethodName)) ∈ lw_all := lw_g (lw_at lw_m6 222 rfl) rfl
theorem q1468 : (Jvm.Cond.privateMethod ({ cls := "HandBlindsModel", name := "mayStand", desc := "()Z" } : Jvm.MethodName)) ∈ lw_tbl := lw_at lw_m6 223 rfl
theorem q1469 : (Jvm.Cond.instanceMethod ({ cls := "HandBlindsModel", name := "mayStand", desc := "()Z" } : Jvm.MethodName)) ∈ lw_all := lw_g (lw_at lw_m6 224 rfl) rfl
theorem q1470 : (Jvm.Cond.code ({ cls := "HandBlindsModel", name := "mayStand", desc := "()Z" } : Jvm.MethodName) prog_12_method_19_code (3 : Nat) (Option.some Jvm.ClassFile.FieldType.boolean)) ∈ lw_all := lw_g (lw_at lw_m6 225 rfl) rfl
theorem q1471 : (Jvm.Cond.methodLink "HandBlindsModel" (72 : Nat) ({ cls := "HandBlindsModel", name := "fails", desc := "(II)Z" } : Jvm.MethodName)) ∈ lw_all := lw_g (lw_at lw_m6 226 rfl) rfl
theorem q1472 : (Jvm.Cond.privateMethod ({ cls := "HandBlindsModel", name := "fails", desc := "(II)Z" } : Jvm.MethodName)) ∈ lw_tbl := lw_at lw_m6 227 rfl
theorem q1473 : (Jvm.Cond.instanceMethod ({ cls := "HandBlindsModel", name := "fails", desc := "(II)Z" } : Jvm.MethodName)) ∈ lw_all := lw_g (lw_at lw_m6 228 rfl) rfl
theorem q1474 : (Jvm.Cond.code ({ cls := "HandBlindsModel", name := "fails", desc := "(II)Z" } : Jvm.MethodName) prog_12_method_17_code (3 : Nat) (Option.some Jvm.ClassFile.FieldType.boolean)) ∈ lw_all := lw_g (lw_at lw_m6 229 rfl) rfl
theorem q1475 : (Jvm.Cond.methodLink "HandBlindsModel" (30 : Nat) ({ cls := "HandBlindsModel", name := "wide", desc := "(I)I" } : Jvm.MethodName)) ∈ lw_all := lw_g (lw_at lw_m6 230 rfl) rfl
theorem q1476 : (Jvm.Cond.static ({ cls := "HandBlindsModel", name := "wide", desc := "(I)I" } : Jvm.MethodName)) ∈ lw_all := lw_g (lw_at lw_m6 231 rfl) rfl
theorem q1477 : (Jvm.Cond.code ({ cls := "HandBlindsModel", name := "wide", desc := "(I)I" } : Jvm.MethodName) prog_12_method_12_code (1 : Nat) (Option.some Jvm.ClassFile.FieldType.int)) ∈ lw_all := lw_g (lw_at lw_m6 232 rfl) rfl
theorem q1478 : (Jvm.Cond.methodLink "HandBlindsModel" (79 : Nat) ({ cls := "HandBlindsModel", name := "squeezed", desc := "(I)I" } : Jvm.MethodName)) ∈ lw_all := lw_g (lw_at lw_m6 233 rfl) rfl
theorem q1479 : (Jvm.Cond.privateMethod ({ cls := "HandBlindsModel", name := "squeezed", desc := "(I)I" } : Jvm.MethodName)) ∈ lw_tbl := lw_at lw_m6 234 rfl
theorem q1480 : (Jvm.Cond.instanceMethod ({ cls := "HandBlindsModel", name := "squeezed", desc := "(I)I" } : Jvm.MethodName)) ∈ lw_all := lw_g (lw_at lw_m6 235 rfl) rfl
theorem q1481 : (Jvm.Cond.code ({ cls := "HandBlindsModel", name := "squeezed", desc := "(I)I" } : Jvm.MethodName) prog_12_method_14_code (2 : Nat) (Option.some Jvm.ClassFile.FieldType.int)) ∈ lw_all := lw_g (lw_at lw_m6 236 rfl) rfl
theorem q1482 : (Jvm.Cond.methodLink "HandBlindsModel" (82 : Nat) ({ cls := "HandBlindsModel", name := "sets", desc := "(III)V" } : Jvm.MethodName)) ∈ lw_all := lw_g (lw_at lw_m6 237 rfl) rfl
theorem q1483 : (Jvm.Cond.privateMethod ({ cls := "HandBlindsModel", name := "sets", desc := "(III)V" } : Jvm.MethodName)) ∈ lw_tbl := lw_at lw_m6 238 rfl
theorem q1484 : (Jvm.Cond.instanceMethod ({ cls := "HandBlindsModel", name := "sets", desc := "(III)V" } : Jvm.MethodName)) ∈ lw_all := lw_g (lw_at lw_m6 239 rfl) rfl
theorem q1485 : (Jvm.Cond.code ({ cls := "HandBlindsModel", name := "sets", desc := "(III)V" } : Jvm.MethodName) prog_12_method_10_code (4 : Nat) (Option.none : Option Jvm.ClassFile.FieldType)) ∈ lw_all := lw_g (lw_at lw_m7 0 rfl) rfl
theorem q1486 : (Jvm.Cond.constant "HandBlindsModel" (100 : Nat) (-1000004 : Int32)) ∈ lw_all := lw_g (lw_at lw_m7 1 rfl) rfl
theorem q1488 : (Jvm.Cond.instanceMethod ({ cls := "HandBlindsModel", name := "add", desc := "()I" } : Jvm.MethodName)) ∈ lw_all := lw_g (lw_at lw_m7 3 rfl) rfl
theorem q1489 : (Jvm.Cond.selects "HandBlindsModel" ({ cls := "HandBlindsModel", name := "add", desc := "()I" } : Jvm.MethodName) ({ cls := "HandBlindsModel", name := "add", desc := "()I" } : Jvm.MethodName)) ∈ lw_all := lw_g (lw_at lw_m7 4 rfl) rfl
theorem q1490 : (Jvm.Cond.code ({ cls := "HandBlindsModel", name := "add", desc := "()I" } : Jvm.MethodName) prog_12_method_24_code (2 : Nat) (Option.some Jvm.ClassFile.FieldType.int)) ∈ lw_all := lw_g (lw_at lw_m7 5 rfl) rfl
theorem q1491 : (Jvm.Cond.constant "HandBlindsModel" (101 : Nat) (-1000002 : Int32)) ∈ lw_all := lw_g (lw_at lw_m7 6 rfl) rfl
theorem q1492 : (Jvm.Cond.methodLink "HandBlindsModel" (102 : Nat) ({ cls := "HandBlindsModel", name := "changes", desc := "()V" } : Jvm.MethodName)) ∈ lw_all := lw_g (lw_at lw_m7 7 rfl) rfl
theorem q1493 : (Jvm.Cond.privateMethod ({ cls := "HandBlindsModel", name := "changes", desc := "()V" } : Jvm.MethodName)) ∈ lw_tbl := lw_at lw_m7 8 rfl
theorem q1494 : (Jvm.Cond.instanceMethod ({ cls := "HandBlindsModel", name := "changes", desc := "()V" } : Jvm.MethodName)) ∈ lw_all := lw_g (lw_at lw_m7 9 rfl) rfl
theorem q1495 : (Jvm.Cond.code ({ cls := "HandBlindsModel", name := "changes", desc := "()V" } : Jvm.MethodName) prog_12_method_5_code (2 : Nat) (Option.none : Option Jvm.ClassFile.FieldType)) ∈ lw_all := lw_g (lw_at lw_m7 10 rfl) rfl
theorem q1497 : (Jvm.Cond.instanceMethod ({ cls := "HandBlindsModel", name := "cut", desc := "(I)I" } : Jvm.MethodName)) ∈ lw_all := lw_g (lw_at lw_m7 12 rfl) rfl
theorem q1498 : (Jvm.Cond.selects "HandBlindsModel" ({ cls := "HandBlindsModel", name := "cut", desc := "(I)I" } : Jvm.MethodName) ({ cls := "HandBlindsModel", name := "cut", desc := "(I)I" } : Jvm.MethodName)) ∈ lw_all := lw_g (lw_at lw_m7 13 rfl) rfl
theorem q1499 : (Jvm.Cond.code ({ cls := "HandBlindsModel", name := "cut", desc := "(I)I" } : Jvm.MethodName) prog_12_method_26_code (3 : Nat) (Option.some Jvm.ClassFile.FieldType.int)) ∈ lw_all := lw_g (lw_at lw_m7 14 rfl) rfl
theorem q1500 : (Jvm.Cond.methodLink "HandBlindsModel" (105 : Nat) ({ cls := "HandBlindsModel", name := "isRow", desc := "(I)Z" } : Jvm.MethodName)) ∈ lw_all := lw_g (lw_at lw_m7 15 rfl) rfl
theorem q1501 : (Jvm.Cond.privateMethod ({ cls := "HandBlindsModel", name := "isRow", desc := "(I)Z" } : Jvm.MethodName)) ∈ lw_tbl := lw_at lw_m7 16 rfl
theorem q1502 : (Jvm.Cond.instanceMethod ({ cls := "HandBlindsModel", name := "isRow", desc := "(I)Z" } : Jvm.MethodName)) ∈ lw_all := lw_g (lw_at lw_m7 17 rfl) rfl
theorem q1503 : (Jvm.Cond.code ({ cls := "HandBlindsModel", name := "isRow", desc := "(I)Z" } : Jvm.MethodName) prog_12_method_7_code (2 : Nat) (Option.some Jvm.ClassFile.FieldType.boolean)) ∈ lw_all := lw_g (lw_at lw_m7 18 rfl) rfl
theorem q1504 : (Jvm.Cond.methodLink "HandBlindsModel" (109 : Nat) ({ cls := "HandBlindsModel", name := "ofRoute", desc := "(II)I" } : Jvm.MethodName)) ∈ lw_all := lw_g (lw_at lw_m7 19 rfl) rfl
theorem q1505 : (Jvm.Cond.privateMethod ({ cls := "HandBlindsModel", name := "ofRoute", desc := "(II)I" } : Jvm.MethodName)) ∈ lw_tbl := lw_at lw_m7 20 rfl
theorem q1506 : (Jvm.Cond.instanceMethod ({ cls := "HandBlindsModel", name := "ofRoute", desc := "(II)I" } : Jvm.MethodName)) ∈ lw_all := lw_g (lw_at lw_m7 21 rfl) rfl
theorem q1507 : (Jvm.Cond.code ({ cls := "HandBlindsModel", name := "ofRoute", desc := "(II)I" } : Jvm.MethodName) prog_12_method_11_code (3 : Nat) (Option.some Jvm.ClassFile.FieldType.int)) ∈ lw_all := lw_g (lw_at lw_m7 22 rfl) rfl
theorem q1508 : (Jvm.Cond.methodLink "HandBlindsModel" (112 : Nat) ({ cls := "HandBlindsModel", name := "without", desc := "(II)I" } : Jvm.MethodName)) ∈ lw_all := lw_g (lw_at lw_m7 23 rfl) rfl
theorem q1509 : (Jvm.Cond.static ({ cls := "HandBlindsModel", name := "without", desc := "(II)I" } : Jvm.MethodName)) ∈ lw_all := lw_g (lw_at lw_m7 24 rfl) rfl
theorem q1510 : (Jvm.Cond.code ({ cls := "HandBlindsModel", name := "without", desc := "(II)I" } : Jvm.MethodName) prog_12_method_25_code (3 : Nat) (Option.some Jvm.ClassFile.FieldType.int)) ∈ lw_all := lw_g (lw_at lw_m7 25 rfl) rfl
theorem q1512 : (Jvm.Cond.instanceMethod ({ cls := "HandBlindsModel", name := "swap", desc := "(II)I" } : Jvm.MethodName)) ∈ lw_all := lw_g (lw_at lw_m7 27 rfl) rfl
theorem q1513 : (Jvm.Cond.selects "HandBlindsModel" ({ cls := "HandBlindsModel", name := "swap", desc := "(II)I" } : Jvm.MethodName) ({ cls := "HandBlindsModel", name := "swap", desc := "(II)I" } : Jvm.MethodName)) ∈ lw_all := lw_g (lw_at lw_m7 28 rfl) rfl
theorem q1514 : (Jvm.Cond.code ({ cls := "HandBlindsModel", name := "swap", desc := "(II)I" } : Jvm.MethodName) prog_12_method_27_code (6 : Nat) (Option.some Jvm.ClassFile.FieldType.int)) ∈ lw_all := lw_g (lw_at lw_m7 29 rfl) rfl
theorem q1515 : (Jvm.Cond.methodLink "HandBlindsModel" (26 : Nat) ({ cls := "HandBlindsModel", name := "of", desc := "(II)I" } : Jvm.MethodName)) ∈ lw_all := lw_g (lw_at lw_m7 30 rfl) rfl
theorem q1516 : (Jvm.Cond.privateMethod ({ cls := "HandBlindsModel", name := "of", desc := "(II)I" } : Jvm.MethodName)) ∈ lw_tbl := lw_at lw_m7 31 rfl
theorem q1517 : (Jvm.Cond.instanceMethod ({ cls := "HandBlindsModel", name := "of", desc := "(II)I" } : Jvm.MethodName)) ∈ lw_all := lw_g (lw_at lw_m7 32 rfl) rfl
theorem q1518 : (Jvm.Cond.code ({ cls := "HandBlindsModel", name := "of", desc := "(II)I" } : Jvm.MethodName) prog_12_method_9_code (3 : Nat) (Option.some Jvm.ClassFile.FieldType.int)) ∈ lw_all := lw_g (lw_at lw_m7 33 rfl) rfl
theorem q1520 : (Jvm.Cond.instanceMethod ({ cls := "HandBlindsModel", name := "mend", desc := "(I)I" } : Jvm.MethodName)) ∈ lw_all := lw_g (lw_at lw_m7 35 rfl) rfl
theorem q1521 : (Jvm.Cond.selects "HandBlindsModel" ({ cls := "HandBlindsModel", name := "mend", desc := "(I)I" } : Jvm.MethodName) ({ cls := "HandBlindsModel", name := "mend", desc := "(I)I" } : Jvm.MethodName)) ∈ lw_all := lw_g (lw_at lw_m7 36 rfl) rfl
theorem q1522 : (Jvm.Cond.code ({ cls := "HandBlindsModel", name := "mend", desc := "(I)I" } : Jvm.MethodName) prog_12_method_29_code (2 : Nat) (Option.some Jvm.ClassFile.FieldType.int)) ∈ lw_all := lw_g (lw_at lw_m7 37 rfl) rfl
theorem q1523 : (Jvm.Cond.methodLink "HandBlindsModel" (115 : Nat) ({ cls := "HandBlindsModel", name := "isTorn", desc := "(I)Z" } : Jvm.MethodName)) ∈ lw_all := lw_g (lw_at lw_m7 38 rfl) rfl
theorem q1524 : (Jvm.Cond.privateMethod ({ cls := "HandBlindsModel", name := "isTorn", desc := "(I)Z" } : Jvm.MethodName)) ∈ lw_tbl := lw_at lw_m7 39 rfl
theorem q1525 : (Jvm.Cond.instanceMethod ({ cls := "HandBlindsModel", name := "isTorn", desc := "(I)Z" } : Jvm.MethodName)) ∈ lw_all := lw_g (lw_at lw_m7 40 rfl) rfl
theorem q1526 : (Jvm.Cond.code ({ cls := "HandBlindsModel", name := "isTorn", desc := "(I)Z" } : Jvm.MethodName) prog_12_method_28_code (2 : Nat) (Option.some Jvm.ClassFile.FieldType.boolean)) ∈ lw_all := lw_g (lw_at lw_m7 41 rfl) rfl
theorem q1528 : (Jvm.Cond.instanceMethod ({ cls := "HandBlindsModel", name := "crank", desc := "(II)I" } : Jvm.MethodName)) ∈ lw_all := lw_g (lw_at lw_m7 43 rfl) rfl
theorem q1529 : (Jvm.Cond.selects "HandBlindsModel" ({ cls := "HandBlindsModel", name := "crank", desc := "(II)I" } : Jvm.MethodName) ({ cls := "HandBlindsModel", name := "crank", desc := "(II)I" } : Jvm.MethodName)) ∈ lw_all := lw_g (lw_at lw_m7 44 rfl) rfl
theorem q1530 : (Jvm.Cond.code ({ cls := "HandBlindsModel", name := "crank", desc := "(II)I" } : Jvm.MethodName) prog_12_method_33_code (5 : Nat) (Option.some Jvm.ClassFile.FieldType.int)) ∈ lw_all := lw_g (lw_at lw_m7 45 rfl) rfl
theorem q1531 : (Jvm.Cond.methodLink "HandBlindsModel" (128 : Nat) ({ cls := "HandBlindsModel", name := "mayCrank", desc := "(II)I" } : Jvm.MethodName)) ∈ lw_all := lw_g (lw_at lw_m7 46 rfl) rfl
theorem q1532 : (Jvm.Cond.privateMethod ({ cls := "HandBlindsModel", name := "mayCrank", desc := "(II)I" } : Jvm.MethodName)) ∈ lw_tbl := lw_at lw_m7 47 rfl
theorem q1533 : (Jvm.Cond.instanceMethod ({ cls := "HandBlindsModel", name := "mayCrank", desc := "(II)I" } : Jvm.MethodName)) ∈ lw_all := lw_g (lw_at lw_m7 48 rfl) rfl
theorem q1534 : (Jvm.Cond.code ({ cls := "HandBlindsModel", name := "mayCrank", desc := "(II)I" } : Jvm.MethodName) prog_12_method_32_code (3 : Nat) (Option.some Jvm.ClassFile.FieldType.int)) ∈ lw_all := lw_g (lw_at lw_m7 49 rfl) rfl
theorem q1535 : (Jvm.Cond.methodLink "HandBlindsModel" (131 : Nat) ({ cls := "HandBlindsModel", name := "cranks", desc := "(II)I" } : Jvm.MethodName)) ∈ lw_all := lw_g (lw_at lw_m7 50 rfl) rfl
theorem q1536 : (Jvm.Cond.privateMethod ({ cls := "HandBlindsModel", name := "cranks", desc := "(II)I" } : Jvm.MethodName)) ∈ lw_tbl := lw_at lw_m7 51 rfl
theorem q1537 : (Jvm.Cond.instanceMethod ({ cls := "HandBlindsModel", name := "cranks", desc := "(II)I" } : Jvm.MethodName)) ∈ lw_all := lw_g (lw_at lw_m7 52 rfl) rfl
theorem q1538 : (Jvm.Cond.code ({ cls := "HandBlindsModel", name := "cranks", desc := "(II)I" } : Jvm.MethodName) prog_12_method_31_code (5 : Nat) (Option.some Jvm.ClassFile.FieldType.int)) ∈ lw_all := lw_g (lw_at lw_m7 53 rfl) rfl
theorem q1539 : (Jvm.Cond.methodLink "HandBlindsModel" (124 : Nat) ({ cls := "HandBlindsModel", name := "leaves", desc := "(II)V" } : Jvm.MethodName)) ∈ lw_all := lw_g (lw_at lw_m7 54 rfl) rfl
theorem q1540 : (Jvm.Cond.privateMethod ({ cls := "HandBlindsModel", name := "leaves", desc := "(II)V" } : Jvm.MethodName)) ∈ lw_tbl := lw_at lw_m7 55 rfl
theorem q1541 : (Jvm.Cond.instanceMethod ({ cls := "HandBlindsModel", name := "leaves", desc := "(II)V" } : Jvm.MethodName)) ∈ lw_all := lw_g (lw_at lw_m7 56 rfl) rfl
theorem q1542 : (Jvm.Cond.code ({ cls := "HandBlindsModel", name := "leaves", desc := "(II)V" } : Jvm.MethodName) prog_12_method_30_code (4 : Nat) (Option.none : Option Jvm.ClassFile.FieldType)) ∈ lw_all := lw_g (lw_at lw_m7 57 rfl) rfl
theorem q1544 : (Jvm.Cond.instanceMethod ({ cls := "HandBlindsModel", name := "route", desc := "(I)I" } : Jvm.MethodName)) ∈ lw_all := lw_g (lw_at lw_m7 59 rfl) rfl
theorem q1545 : (Jvm.Cond.selects "HandBlindsModel" ({ cls := "HandBlindsModel", name := "route", desc := "(I)I" } : Jvm.MethodName) ({ cls := "HandBlindsModel", name := "route", desc := "(I)I" } : Jvm.MethodName)) ∈ lw_all := lw_g (lw_at lw_m7 60 rfl) rfl
theorem q1546 : (Jvm.Cond.code ({ cls := "HandBlindsModel", name := "route", desc := "(I)I" } : Jvm.MethodName) prog_12_method_34_code (3 : Nat) (Option.some Jvm.ClassFile.FieldType.int)) ∈ lw_all := lw_g (lw_at lw_m7 61 rfl) rfl
theorem q1547 : (Jvm.Cond.constant "HandBlindsModel" (134 : Nat) (-1000003 : Int32)) ∈ lw_all := lw_g (lw_at lw_m7 62 rfl) rfl
theorem q1549 : (Jvm.Cond.instanceMethod ({ cls := "HandBlindsModel", name := "drive", desc := "(I)I" } : Jvm.MethodName)) ∈ lw_all := lw_g (lw_at lw_m7 64 rfl) rfl
theorem q1550 : (Jvm.Cond.selects "HandBlindsModel" ({ cls := "HandBlindsModel", name := "drive", desc := "(I)I" } : Jvm.MethodName) ({ cls := "HandBlindsModel", name := "drive", desc := "(I)I" } : Jvm.MethodName)) ∈ lw_all := lw_g (lw_at lw_m7 65 rfl) rfl
theorem q1551 : (Jvm.Cond.code ({ cls := "HandBlindsModel", name := "drive", desc := "(I)I" } : Jvm.MethodName) prog_12_method_35_code (3 : Nat) (Option.some Jvm.ClassFile.FieldType.int)) ∈ lw_all := lw_g (lw_at lw_m7 66 rfl) rfl
theorem q1552 : (Jvm.Cond.methodLink "HandBlindsModel" (135 : Nat) ({ cls := "HandBlindsModel", name := "isRoute", desc := "(I)Z" } : Jvm.MethodName)) ∈ lw_all := lw_g (lw_at lw_m7 67 rfl) rfl
theorem q1553 : (Jvm.Cond.privateMethod ({ cls := "HandBlindsModel", name := "isRoute", desc := "(I)Z" } : Jvm.MethodName)) ∈ lw_tbl := lw_at lw_m7 68 rfl
theorem q1554 : (Jvm.Cond.instanceMethod ({ cls := "HandBlindsModel", name := "isRoute", desc := "(I)Z" } : Jvm.MethodName)) ∈ lw_all := lw_g (lw_at lw_m7 69 rfl) rfl
theorem q1555 : (Jvm.Cond.code ({ cls := "HandBlindsModel", name := "isRoute", desc := "(I)Z" } : Jvm.MethodName) prog_12_method_8_code (2 : Nat) (Option.some Jvm.ClassFile.FieldType.boolean)) ∈ lw_all := lw_g (lw_at lw_m7 70 rfl) rfl
theorem q1557 : (Jvm.Cond.instanceMethod ({ cls := "HandBlindsModel", name := "stop", desc := "()I" } : Jvm.MethodName)) ∈ lw_all := lw_g (lw_at lw_m7 72 rfl) rfl
theorem q1558 : (Jvm.Cond.selects "HandBlindsModel" ({ cls := "HandBlindsModel", name := "stop", desc := "()I" } : Jvm.MethodName) ({ cls := "HandBlindsModel", name := "stop", desc := "()I" } : Jvm.MethodName)) ∈ lw_all := lw_g (lw_at lw_m7 73 rfl) rfl
theorem q1559 : (Jvm.Cond.code ({ cls := "HandBlindsModel", name := "stop", desc := "()I" } : Jvm.MethodName) prog_12_method_37_code (3 : Nat) (Option.some Jvm.ClassFile.FieldType.int)) ∈ lw_all := lw_g (lw_at lw_m7 74 rfl) rfl
theorem q1560 : (Jvm.Cond.methodLink "HandBlindsModel" (144 : Nat) ({ cls := "HandBlindsModel", name := "wrongBy", desc := "(I)I" } : Jvm.MethodName)) ∈ lw_all := lw_g (lw_at lw_m7 75 rfl) rfl
theorem q1561 : (Jvm.Cond.privateMethod ({ cls := "HandBlindsModel", name := "wrongBy", desc := "(I)I" } : Jvm.MethodName)) ∈ lw_tbl := lw_at lw_m7 76 rfl
theorem q1562 : (Jvm.Cond.instanceMethod ({ cls := "HandBlindsModel", name := "wrongBy", desc := "(I)I" } : Jvm.MethodName)) ∈ lw_all := lw_g (lw_at lw_m7 77 rfl) rfl
theorem q1563 : (Jvm.Cond.code ({ cls := "HandBlindsModel", name := "wrongBy", desc := "(I)I" } : Jvm.MethodName) prog_12_method_36_code (2 : Nat) (Option.some Jvm.ClassFile.FieldType.int)) ∈ lw_all := lw_g (lw_at lw_m7 78 rfl) rfl
theorem q1564 : (Jvm.Cond.methodLink "HandBlindsModel" (138 : Nat) ({ cls := "HandBlindsModel", name := "kind", desc := "(I)I" } : Jvm.MethodName)) ∈ lw_all := lw_g (lw_at lw_m7 79 rfl) rfl
theorem q1565 : (Jvm.Cond.privateMethod ({ cls := "HandBlindsModel", name := "kind", desc := "(I)I" } : Jvm.MethodName)) ∈ lw_tbl := lw_at lw_m7 80 rfl
theorem q1566 : (Jvm.Cond.instanceMethod ({ cls := "HandBlindsModel", name := "kind", desc := "(I)I" } : Jvm.MethodName)) ∈ lw_all := lw_g (lw_at lw_m7 81 rfl) rfl
theorem q1567 : (Jvm.Cond.code ({ cls := "HandBlindsModel", name := "kind", desc := "(I)I" } : Jvm.MethodName) prog_12_method_16_code (2 : Nat) (Option.some Jvm.ClassFile.FieldType.int)) ∈ lw_all := lw_g (lw_at lw_m7 82 rfl) rfl
theorem q1568 : (Jvm.Cond.constantLong "HandBlindsModel" (36 : Nat) (4375028 : Int64)) ∈ lw_all := lw_g (lw_at lw_m7 83 rfl) rfl
theorem q1569 : (Jvm.Cond.methodLink "HandBlindsModel" (38 : Nat) ({ cls := "HandBlindsModel", name := "isName", desc := "(IJ)Z" } : Jvm.MethodName)) ∈ lw_all := lw_g (lw_at lw_m7 84 rfl) rfl
theorem q1570 : (Jvm.Cond.privateMethod ({ cls := "HandBlindsModel", name := "isName", desc := "(IJ)Z" } : Jvm.MethodName)) ∈ lw_tbl := lw_at lw_m7 85 rfl
theorem q1571 : (Jvm.Cond.instanceMethod ({ cls := "HandBlindsModel", name := "isName", desc := "(IJ)Z" } : Jvm.MethodName)) ∈ lw_all := lw_g (lw_at lw_m7 86 rfl) rfl
theorem q1572 : (Jvm.Cond.code ({ cls := "HandBlindsModel", name := "isName", desc := "(IJ)Z" } : Jvm.MethodName) prog_12_method_15_code (7 : Nat) (Option.some Jvm.ClassFile.FieldType.boolean)) ∈ lw_all := lw_g (lw_at lw_m7 87 rfl) rfl
theorem q1573 : (Jvm.Cond.constantLong "HandBlindsModel" (34 : Nat) (32 : Int64)) ∈ lw_all := lw_g (lw_at lw_m7 88 rfl) rfl
theorem q1574 : (Jvm.Cond.constantLong "HandBlindsModel" (42 : Nat) (20433497 : Int64)) ∈ lw_all := lw_g (lw_at lw_m7 89 rfl) rfl
theorem q1575 : (Jvm.Cond.constantLong "HandBlindsModel" (44 : Nat) (17794008709 : Int64)) ∈ lw_all := lw_g (lw_at lw_m7 90 rfl) rfl
theorem q1576 : (Jvm.Cond.methodLink "HandBlindsModel" (141 : Nat) ({ cls := "HandBlindsModel", name := "width", desc := "(I)I" } : Jvm.MethodName)) ∈ lw_all := lw_g (lw_at lw_m7 91 rfl) rfl
theorem q1577 : (Jvm.Cond.privateMethod ({ cls := "HandBlindsModel", name := "width", desc := "(I)I" } : Jvm.MethodName)) ∈ lw_tbl := lw_at lw_m7 92 rfl
theorem q1578 : (Jvm.Cond.instanceMethod ({ cls := "HandBlindsModel", name := "width", desc := "(I)I" } : Jvm.MethodName)) ∈ lw_all := lw_g (lw_at lw_m7 93 rfl) rfl
theorem q1579 : (Jvm.Cond.code ({ cls := "HandBlindsModel", name := "width", desc := "(I)I" } : Jvm.MethodName) prog_12_method_13_code (4 : Nat) (Option.some Jvm.ClassFile.FieldType.int)) ∈ lw_all := lw_g (lw_at lw_m7 94 rfl) rfl
theorem q1581 : (Jvm.Cond.instanceMethod ({ cls := "HandBlindsModel", name := "set", desc := "(II)I" } : Jvm.MethodName)) ∈ lw_all := lw_g (lw_at lw_m7 96 rfl) rfl
theorem q1582 : (Jvm.Cond.selects "HandBlindsModel" ({ cls := "HandBlindsModel", name := "set", desc := "(II)I" } : Jvm.MethodName) ({ cls := "HandBlindsModel", name := "set", desc := "(II)I" } : Jvm.MethodName)) ∈ lw_all := lw_g (lw_at lw_m7 97 rfl) rfl
theorem q1583 : (Jvm.Cond.code ({ cls := "HandBlindsModel", name := "set", desc := "(II)I" } : Jvm.MethodName) prog_12_method_39_code (4 : Nat) (Option.some Jvm.ClassFile.FieldType.int)) ∈ lw_all := lw_g (lw_at lw_m7 98 rfl) rfl
theorem q1584 : (Jvm.Cond.methodLink "HandBlindsModel" (147 : Nat) ({ cls := "HandBlindsModel", name := "mostOf", desc := "(I)I" } : Jvm.MethodName)) ∈ lw_all := lw_g (lw_at lw_m7 99 rfl) rfl
theorem q1585 : (Jvm.Cond.static ({ cls := "HandBlindsModel", name := "mostOf", desc := "(I)I" } : Jvm.MethodName)) ∈ lw_all := lw_g (lw_at lw_m7 100 rfl) rfl
theorem q1586 : (Jvm.Cond.code ({ cls := "HandBlindsModel", name := "mostOf", desc := "(I)I" } : Jvm.MethodName) prog_12_method_38_code (1 : Nat) (Option.some Jvm.ClassFile.FieldType.int)) ∈ lw_all := lw_g (lw_at lw_m7 101 rfl) rfl
theorem q1588 : (Jvm.Cond.instanceMethod ({ cls := "HandBlindsModel", name := "rowOf", desc := "(II)I" } : Jvm.MethodName)) ∈ lw_all := lw_g (lw_at lw_m7 103 rfl) rfl
theorem q1589 : (Jvm.Cond.selects "HandBlindsModel" ({ cls := "HandBlindsModel", name := "rowOf", desc := "(II)I" } : Jvm.MethodName) ({ cls := "HandBlindsModel", name := "rowOf", desc := "(II)I" } : Jvm.MethodName)) ∈ lw_all := lw_g (lw_at lw_m7 104 rfl) rfl
theorem q1590 : (Jvm.Cond.code ({ cls := "HandBlindsModel", name := "rowOf", desc := "(II)I" } : Jvm.MethodName) prog_12_method_41_code (3 : Nat) (Option.some Jvm.ClassFile.FieldType.int)) ∈ lw_all := lw_g (lw_at lw_m7 105 rfl) rfl
theorem q1591 : (Jvm.Cond.methodLink "HandBlindsModel" (150 : Nat) ({ cls := "HandBlindsModel", name := "routesOf", desc := "(I)I" } : Jvm.MethodName)) ∈ lw_all := lw_g (lw_at lw_m7 106 rfl) rfl
theorem q1592 : (Jvm.Cond.privateMethod ({ cls := "HandBlindsModel", name := "routesOf", desc := "(I)I" } : Jvm.MethodName)) ∈ lw_tbl := lw_at lw_m7 107 rfl
theorem q1593 : (Jvm.Cond.instanceMethod ({ cls := "HandBlindsModel", name := "routesOf", desc := "(I)I" } : Jvm.MethodName)) ∈ lw_all := lw_g (lw_at lw_m7 108 rfl) rfl
theorem q1594 : (Jvm.Cond.code ({ cls := "HandBlindsModel", name := "routesOf", desc := "(I)I" } : Jvm.MethodName) prog_12_method_40_code (4 : Nat) (Option.some Jvm.ClassFile.FieldType.int)) ∈ lw_all := lw_g (lw_at lw_m7 109 rfl) rfl
theorem q1596 : (Jvm.Cond.instanceMethod ({ cls := "HandBlindsModel", name := "letter", desc := "(II)I" } : Jvm.MethodName)) ∈ lw_all := lw_g (lw_at lw_m7 111 rfl) rfl
theorem q1597 : (Jvm.Cond.selects "HandBlindsModel" ({ cls := "HandBlindsModel", name := "letter", desc := "(II)I" } : Jvm.MethodName) ({ cls := "HandBlindsModel", name := "letter", desc := "(II)I" } : Jvm.MethodName)) ∈ lw_all := lw_g (lw_at lw_m7 112 rfl) rfl
theorem q1598 : (Jvm.Cond.code ({ cls := "HandBlindsModel", name := "letter", desc := "(II)I" } : Jvm.MethodName) prog_12_method_42_code (3 : Nat) (Option.some Jvm.ClassFile.FieldType.int)) ∈ lw_all := lw_g (lw_at lw_m7 113 rfl) rfl
theorem q1600 : (Jvm.Cond.instanceMethod ({ cls := "HandBlindsModel", name := "routeOf", desc := "(II)I" } : Jvm.MethodName)) ∈ lw_all := lw_g (lw_at lw_m7 115 rfl) rfl
theorem q1601 : (Jvm.Cond.selects "HandBlindsModel" ({ cls := "HandBlindsModel", name := "routeOf", desc := "(II)I" } : Jvm.MethodName) ({ cls := "HandBlindsModel", name := "routeOf", desc := "(II)I" } : Jvm.MethodName)) ∈ lw_all := lw_g (lw_at lw_m7 116 rfl) rfl
theorem q1602 : (Jvm.Cond.code ({ cls := "HandBlindsModel", name := "routeOf", desc := "(II)I" } : Jvm.MethodName) prog_12_method_44_code (4 : Nat) (Option.some Jvm.ClassFile.FieldType.int)) ∈ lw_all := lw_g (lw_at lw_m7 117 rfl) rfl
theorem q1603 : (Jvm.Cond.methodLink "HandBlindsModel" (153 : Nat) ({ cls := "HandBlindsModel", name := "ones", desc := "(I)I" } : Jvm.MethodName)) ∈ lw_all := lw_g (lw_at lw_m7 118 rfl) rfl
theorem q1604 : (Jvm.Cond.static ({ cls := "HandBlindsModel", name := "ones", desc := "(I)I" } : Jvm.MethodName)) ∈ lw_all := lw_g (lw_at lw_m7 119 rfl) rfl
theorem q1605 : (Jvm.Cond.code ({ cls := "HandBlindsModel", name := "ones", desc := "(I)I" } : Jvm.MethodName) prog_12_method_6_code (3 : Nat) (Option.some Jvm.ClassFile.FieldType.int)) ∈ lw_all := lw_g (lw_at lw_m7 120 rfl) rfl
theorem q1606 : (Jvm.Cond.methodLink "HandBlindsModel" (156 : Nat) ({ cls := "HandBlindsModel", name := "tornOnes", desc := "()I" } : Jvm.MethodName)) ∈ lw_all := lw_g (lw_at lw_m7 121 rfl) rfl
theorem q1607 : (Jvm.Cond.privateMethod ({ cls := "HandBlindsModel", name := "tornOnes", desc := "()I" } : Jvm.MethodName)) ∈ lw_tbl := lw_at lw_m7 122 rfl
theorem q1608 : (Jvm.Cond.instanceMethod ({ cls := "HandBlindsModel", name := "tornOnes", desc := "()I" } : Jvm.MethodName)) ∈ lw_all := lw_g (lw_at lw_m7 123 rfl) rfl
theorem q1609 : (Jvm.Cond.code ({ cls := "HandBlindsModel", name := "tornOnes", desc := "()I" } : Jvm.MethodName) prog_12_method_43_code (3 : Nat) (Option.some Jvm.ClassFile.FieldType.int)) ∈ lw_all := lw_g (lw_at lw_m7 124 rfl) rfl
theorem q1611 : (Jvm.Cond.instanceMethod ({ cls := "HandBlindsModel", name := "would", desc := "(III)I" } : Jvm.MethodName)) ∈ lw_all := lw_g (lw_at lw_m7 126 rfl) rfl
theorem q1612 : (Jvm.Cond.selects "HandBlindsModel" ({ cls := "HandBlindsModel", name := "would", desc := "(III)I" } : Jvm.MethodName) ({ cls := "HandBlindsModel", name := "would", desc := "(III)I" } : Jvm.MethodName)) ∈ lw_all := lw_g (lw_at lw_m7 127 rfl) rfl
theorem q1613 : (Jvm.Cond.code ({ cls := "HandBlindsModel", name := "would", desc := "(III)I" } : Jvm.MethodName) prog_12_method_45_code (7 : Nat) (Option.some Jvm.ClassFile.FieldType.int)) ∈ lw_all := lw_g (lw_at lw_m7 128 rfl) rfl
theorem q1615 : (Jvm.Cond.instanceMethod ({ cls := "HandBlindsModel", name := "nearest", desc := "(I)I" } : Jvm.MethodName)) ∈ lw_all := lw_g (lw_at lw_m7 130 rfl) rfl
theorem q1616 : (Jvm.Cond.selects "HandBlindsModel" ({ cls := "HandBlindsModel", name := "nearest", desc := "(I)I" } : Jvm.MethodName) ({ cls := "HandBlindsModel", name := "nearest", desc := "(I)I" } : Jvm.MethodName)) ∈ lw_all := lw_g (lw_at lw_m7 131 rfl) rfl
theorem q1617 : (Jvm.Cond.code ({ cls := "HandBlindsModel", name := "nearest", desc := "(I)I" } : Jvm.MethodName) prog_12_method_46_code (4 : Nat) (Option.some Jvm.ClassFile.FieldType.int)) ∈ lw_all := lw_g (lw_at lw_m7 132 rfl) rfl
theorem q1619 : (Jvm.Cond.instanceMethod ({ cls := "HandBlindsModel", name := "alike", desc := "(II)I" } : Jvm.MethodName)) ∈ lw_all := lw_g (lw_at lw_m7 134 rfl) rfl
theorem q1620 : (Jvm.Cond.selects "HandBlindsModel" ({ cls := "HandBlindsModel", name := "alike", desc := "(II)I" } : Jvm.MethodName) ({ cls := "HandBlindsModel", name := "alike", desc := "(II)I" } : Jvm.MethodName)) ∈ lw_all := lw_g (lw_at lw_m7 135 rfl) rfl
theorem q1621 : (Jvm.Cond.code ({ cls := "HandBlindsModel", name := "alike", desc := "(II)I" } : Jvm.MethodName) prog_12_method_47_code (4 : Nat) (Option.some Jvm.ClassFile.FieldType.int)) ∈ lw_all := lw_g (lw_at lw_m7 136 rfl) rfl
theorem q1623 : (Jvm.Cond.instanceMethod ({ cls := "HandBlindsModel", name := "read", desc := "(I)I" } : Jvm.MethodName)) ∈ lw_all := lw_g (lw_at lw_m7 138 rfl) rfl
theorem q1624 : (Jvm.Cond.selects "HandBlindsModel" ({ cls := "HandBlindsModel", name := "read", desc := "(I)I" } : Jvm.MethodName) ({ cls := "HandBlindsModel", name := "read", desc := "(I)I" } : Jvm.MethodName)) ∈ lw_all := lw_g (lw_at lw_m7 139 rfl) rfl
theorem q1625 : (Jvm.Cond.code ({ cls := "HandBlindsModel", name := "read", desc := "(I)I" } : Jvm.MethodName) prog_12_method_48_code (7 : Nat) (Option.some Jvm.ClassFile.FieldType.int)) ∈ lw_all := lw_g (lw_at lw_m7 140 rfl) rfl
theorem q1627 : (Jvm.Cond.instanceMethod ({ cls := "HandBlindsModel", name := "find", desc := "()I" } : Jvm.MethodName)) ∈ lw_all := lw_g (lw_at lw_m7 142 rfl) rfl
theorem q1628 : (Jvm.Cond.selects "HandBlindsModel" ({ cls := "HandBlindsModel", name := "find", desc := "()I" } : Jvm.MethodName) ({ cls := "HandBlindsModel", name := "find", desc := "()I" } : Jvm.MethodName)) ∈ lw_all := lw_g (lw_at lw_m7 143 rfl) rfl
theorem q1629 : (Jvm.Cond.code ({ cls := "HandBlindsModel", name := "find", desc := "()I" } : Jvm.MethodName) prog_12_method_49_code (4 : Nat) (Option.some Jvm.ClassFile.FieldType.int)) ∈ lw_all := lw_g (lw_at lw_m7 144 rfl) rfl
theorem q1631 : (Jvm.Cond.instanceMethod ({ cls := "HandBlindsModel", name := "mean", desc := "()I" } : Jvm.MethodName)) ∈ lw_all := lw_g (lw_at lw_m7 146 rfl) rfl
theorem q1632 : (Jvm.Cond.selects "HandBlindsModel" ({ cls := "HandBlindsModel", name := "mean", desc := "()I" } : Jvm.MethodName) ({ cls := "HandBlindsModel", name := "mean", desc := "()I" } : Jvm.MethodName)) ∈ lw_all := lw_g (lw_at lw_m7 147 rfl) rfl
theorem q1633 : (Jvm.Cond.code ({ cls := "HandBlindsModel", name := "mean", desc := "()I" } : Jvm.MethodName) prog_12_method_50_code (3 : Nat) (Option.some Jvm.ClassFile.FieldType.int)) ∈ lw_all := lw_g (lw_at lw_m7 148 rfl) rfl
theorem q1634 : (Jvm.Cond.methodLink "HandBlindsModel" (160 : Nat) ({ cls := "java/lang/Float", name := "floatToIntBits", desc := "(F)I" } : Jvm.MethodName)) ∈ lw_all := lw_g (lw_at lw_m7 149 rfl) rfl
theorem q1636 : (Jvm.Cond.instanceMethod ({ cls := "HandBlindsModel", name := "count", desc := "(I)I" } : Jvm.MethodName)) ∈ lw_all := lw_g (lw_at lw_m7 151 rfl) rfl
theorem q1637 : (Jvm.Cond.selects "HandBlindsModel" ({ cls := "HandBlindsModel", name := "count", desc := "(I)I" } : Jvm.MethodName) ({ cls := "HandBlindsModel", name := "count", desc := "(I)I" } : Jvm.MethodName)) ∈ lw_all := lw_g (lw_at lw_m7 152 rfl) rfl
theorem q1638 : (Jvm.Cond.code ({ cls := "HandBlindsModel", name := "count", desc := "(I)I" } : Jvm.MethodName) prog_12_method_53_code (2 : Nat) (Option.some Jvm.ClassFile.FieldType.int)) ∈ lw_all := lw_g (lw_at lw_m7 153 rfl) rfl
theorem q1639 : (Jvm.Cond.methodLink "HandBlindsModel" (166 : Nat) ({ cls := "HandBlindsModel", name := "told", desc := "(I)I" } : Jvm.MethodName)) ∈ lw_all := lw_g (lw_at lw_m7 154 rfl) rfl
theorem q1640 : (Jvm.Cond.static ({ cls := "HandBlindsModel", name := "told", desc := "(I)I" } : Jvm.MethodName)) ∈ lw_all := lw_g (lw_at lw_m7 155 rfl) rfl
theorem q1641 : (Jvm.Cond.code ({ cls := "HandBlindsModel", name := "told", desc := "(I)I" } : Jvm.MethodName) prog_12_method_52_code (1 : Nat) (Option.some Jvm.ClassFile.FieldType.int)) ∈ lw_all := lw_g (lw_at lw_m7 156 rfl) rfl
theorem q1642 : (Jvm.Cond.methodLink "HandBlindsModel" (169 : Nat) ({ cls := "HandBlindsModel", name := "widest", desc := "()I" } : Jvm.MethodName)) ∈ lw_all := lw_g (lw_at lw_m7 157 rfl) rfl
theorem q1643 : (Jvm.Cond.privateMethod ({ cls := "HandBlindsModel", name := "widest", desc := "()I" } : Jvm.MethodName)) ∈ lw_tbl := lw_at lw_m7 158 rfl
theorem q1644 : (Jvm.Cond.instanceMethod ({ cls := "HandBlindsModel", name := "widest", desc := "()I" } : Jvm.MethodName)) ∈ lw_all := lw_g (lw_at lw_m7 159 rfl) rfl
theorem q1645 : (Jvm.Cond.code ({ cls := "HandBlindsModel", name := "widest", desc := "()I" } : Jvm.MethodName) prog_12_method_51_code (4 : Nat) (Option.some Jvm.ClassFile.FieldType.int)) ∈ lw_all := lw_g (lw_at lw_m7 160 rfl) rfl
theorem q1647 : (Jvm.Cond.instanceMethod ({ cls := "HandBlindsModel", name := "undo", desc := "()I" } : Jvm.MethodName)) ∈ lw_all := lw_g (lw_at lw_m7 162 rfl) rfl
theorem q1648 : (Jvm.Cond.selects "HandBlindsModel" ({ cls := "HandBlindsModel", name := "undo", desc := "()I" } : Jvm.MethodName) ({ cls := "HandBlindsModel", name := "undo", desc := "()I" } : Jvm.MethodName)) ∈ lw_all := lw_g (lw_at lw_m7 163 rfl) rfl
theorem q1649 : (Jvm.Cond.code ({ cls := "HandBlindsModel", name := "undo", desc := "()I" } : Jvm.MethodName) prog_12_method_54_code (2 : Nat) (Option.some Jvm.ClassFile.FieldType.int)) ∈ lw_all := lw_g (lw_at lw_m7 164 rfl) rfl
theorem q1651 : (Jvm.Cond.instanceMethod ({ cls := "HandBlindsModel", name := "type", desc := "(I)I" } : Jvm.MethodName)) ∈ lw_all := lw_g (lw_at lw_m7 166 rfl) rfl
theorem q1652 : (Jvm.Cond.selects "HandBlindsModel" ({ cls := "HandBlindsModel", name := "type", desc := "(I)I" } : Jvm.MethodName) ({ cls := "HandBlindsModel", name := "type", desc := "(I)I" } : Jvm.MethodName)) ∈ lw_all := lw_g (lw_at lw_m7 167 rfl) rfl
theorem q1653 : (Jvm.Cond.code ({ cls := "HandBlindsModel", name := "type", desc := "(I)I" } : Jvm.MethodName) prog_12_method_55_code (2 : Nat) (Option.some Jvm.ClassFile.FieldType.int)) ∈ lw_all := lw_g (lw_at lw_m7 168 rfl) rfl
theorem q1655 : (Jvm.Cond.instanceMethod ({ cls := "HandBlindsModel", name := "clearText", desc := "()I" } : Jvm.MethodName)) ∈ lw_all := lw_g (lw_at lw_m7 170 rfl) rfl
theorem q1656 : (Jvm.Cond.selects "HandBlindsModel" ({ cls := "HandBlindsModel", name := "clearText", desc := "()I" } : Jvm.MethodName) ({ cls := "HandBlindsModel", name := "clearText", desc := "()I" } : Jvm.MethodName)) ∈ lw_all := lw_g (lw_at lw_m7 171 rfl) rfl
theorem q1657 : (Jvm.Cond.code ({ cls := "HandBlindsModel", name := "clearText", desc := "()I" } : Jvm.MethodName) prog_12_method_56_code (2 : Nat) (Option.some Jvm.ClassFile.FieldType.int)) ∈ lw_all := lw_g (lw_at lw_m7 172 rfl) rfl
theorem q1675 : (Jvm.Cond.castable "HandBlindsModel" "java/lang/Object") ∈ lw_tbl := lw_at lw_m7 190 rfl
theorem in_X2 : ∀ w ∈ wsX20, w ∈ lw_all := lw_in wsX20 [1413, 1415, 1417, 1419, 1421, 1423, 1425, 1427, 1429, 1431, 1433, 1435, 1437] (by decide +kernel) (by decide +kernel)
