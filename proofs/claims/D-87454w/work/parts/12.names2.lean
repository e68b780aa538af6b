/-! PatentHall$Reader -/
set_option maxRecDepth 100000
def RX1 : String := "PatentHall$Reader"
def TX1 : u_T := fun k => match k with
  | 0 => ("PatentHall$Reader", "wrong", "LPatentHall$Refused;", true)
  | 1 => ("PatentHall$Reader", "text", "[B", true)
  | 2 => ("PatentHall$Reader", "letters", "[C", true)
  | 3 => ("PatentHall$Reader", "size", "I", false)
  | 4 => ("PatentHall$Reader", "end", "I", false)
  | 5 => ("PatentHall$Reader", "token", "I", false)
  | 6 => ("PatentHall$Reader", "at", "I", false)
  | _ => ("PatentHall$Reader", "word", "Ljava/lang/String;", false)
def tyX1 : Nat → FieldType := fun k => match k with
  | 0 => .object "PatentHall$Refused"
  | 1 => .array .byte
  | 2 => .array .char
  | 3 => .int
  | 4 => .int
  | 5 => .int
  | 6 => .int
  | _ => .object "java/lang/String"
abbrev wsX10 : List Cond := u_ws RX1 TX1 8
theorem nmX1 : ∀ a, a < 8 → ∀ b, b < 8 → a ≠ b → (TX1 a).2.1 ≠ (TX1 b).2.1 := by decide +kernel
theorem tyX1_ok : ∀ k, k < 8 → parseFieldDescriptor (TX1 k).2.2.1 = some (tyX1 k) := by decide +kernel
abbrev cX1_init : ByteArray := prog_17_method_1_code
def yX1_init : MethodName := ⟨RX1, "<init>", "([B)V"⟩
def dkwX1_init_1 : List UInt8 := [43, 181, 0, 22, 177]
abbrev dktX1_init_1 : List UInt8 := dkwX1_init_1 ++ []
def dkwX1_init_0 : List UInt8 := [42, 183, 0, 3, 42, 187, 0, 9, 89, 183, 0, 11, 181, 0, 12, 42, 16, 10, 188, 5, 181, 0, 18, 42]
abbrev dktX1_init_0 : List UInt8 := dkwX1_init_0 ++ dktX1_init_1
theorem dksX1_init_0 : cX1_init.data.toList.drop 0 = dktX1_init_0 := by decide +kernel
theorem dksX1_init_1 : cX1_init.data.toList.drop 24 = dktX1_init_1 := dk_seg dksX1_init_0 24 rfl rfl
theorem dX1_init_0 : decode cX1_init 0 = .ok (.aload_n 0, 1) := dk_42 (dk_at dksX1_init_0 0 rfl rfl)
theorem dX1_init_1 : decode cX1_init 1 = .ok (.invokespecial 3, 3) := dk_183 0 3 (dk_at dksX1_init_0 1 rfl rfl)
theorem dX1_init_4 : decode cX1_init 4 = .ok (.aload_n 0, 1) := dk_42 (dk_at dksX1_init_0 4 rfl rfl)
theorem dX1_init_5 : decode cX1_init 5 = .ok (.new 9, 3) := dk_187 0 9 (dk_at dksX1_init_0 5 rfl rfl)
theorem dX1_init_8 : decode cX1_init 8 = .ok (.dup, 1) := dk_89 (dk_at dksX1_init_0 8 rfl rfl)
theorem dX1_init_9 : decode cX1_init 9 = .ok (.invokespecial 11, 3) := dk_183 0 11 (dk_at dksX1_init_0 9 rfl rfl)
theorem dX1_init_12 : decode cX1_init 12 = .ok (.putfield 12, 3) := dk_181 0 12 (dk_at dksX1_init_0 12 rfl rfl)
theorem dX1_init_15 : decode cX1_init 15 = .ok (.aload_n 0, 1) := dk_42 (dk_at dksX1_init_0 15 rfl rfl)
theorem dX1_init_16 : decode cX1_init 16 = .ok (.bipush 10, 2) := dk_16 10 (dk_at dksX1_init_0 16 rfl rfl)
theorem dX1_init_18 : decode cX1_init 18 = .ok (.newarray .char, 2) := dk_188_5 (dk_at dksX1_init_0 18 rfl rfl)
theorem dX1_init_20 : decode cX1_init 20 = .ok (.putfield 18, 3) := dk_181 0 18 (dk_at dksX1_init_0 20 rfl rfl)
theorem dX1_init_23 : decode cX1_init 23 = .ok (.aload_n 0, 1) := dk_42 (dk_at dksX1_init_0 23 rfl rfl)
theorem dX1_init_24 : decode cX1_init 24 = .ok (.aload_n 1, 1) := dk_43 (dk_at dksX1_init_1 0 rfl rfl)
theorem dX1_init_25 : decode cX1_init 25 = .ok (.putfield 22, 3) := dk_181 0 22 (dk_at dksX1_init_1 1 rfl rfl)
theorem dX1_init_28 : decode cX1_init 28 = .ok (.return_, 1) := dk_177 (dk_at dksX1_init_1 4 rfl rfl)
abbrev cX1_alone : ByteArray := prog_17_method_7_code
def yX1_alone : MethodName := ⟨RX1, "alone", "(I)Ljava/lang/String;"⟩
def dkwX1_alone_1 : List UInt8 := [42, 180, 0, 46, 154, 0, 7, 44, 167, 0, 4, 1, 176]
abbrev dktX1_alone_1 : List UInt8 := dkwX1_alone_1 ++ []
def dkwX1_alone_0 : List UInt8 := [42, 27, 182, 0, 64, 42, 180, 0, 46, 5, 159, 0, 5, 1, 176, 42, 180, 0, 60, 77, 42, 182, 0, 37]
abbrev dktX1_alone_0 : List UInt8 := dkwX1_alone_0 ++ dktX1_alone_1
theorem dksX1_alone_0 : cX1_alone.data.toList.drop 0 = dktX1_alone_0 := by decide +kernel
theorem dksX1_alone_1 : cX1_alone.data.toList.drop 24 = dktX1_alone_1 := dk_seg dksX1_alone_0 24 rfl rfl
theorem dX1_alone_0 : decode cX1_alone 0 = .ok (.aload_n 0, 1) := dk_42 (dk_at dksX1_alone_0 0 rfl rfl)
theorem dX1_alone_1 : decode cX1_alone 1 = .ok (.iload_n 1, 1) := dk_27 (dk_at dksX1_alone_0 1 rfl rfl)
theorem dX1_alone_2 : decode cX1_alone 2 = .ok (.invokevirtual 64, 3) := dk_182 0 64 (dk_at dksX1_alone_0 2 rfl rfl)
theorem dX1_alone_5 : decode cX1_alone 5 = .ok (.aload_n 0, 1) := dk_42 (dk_at dksX1_alone_0 5 rfl rfl)
theorem dX1_alone_6 : decode cX1_alone 6 = .ok (.getfield 46, 3) := dk_180 0 46 (dk_at dksX1_alone_0 6 rfl rfl)
theorem dX1_alone_9 : decode cX1_alone 9 = .ok (.iconst 2, 1) := dk_5 (dk_at dksX1_alone_0 9 rfl rfl)
theorem dX1_alone_10 : decode cX1_alone 10 = .ok (.if_icmp .eq 5, 3) := dk_159 0 5 (dk_at dksX1_alone_0 10 rfl rfl)
theorem dX1_alone_13 : decode cX1_alone 13 = .ok (.aconst_null, 1) := dk_1 (dk_at dksX1_alone_0 13 rfl rfl)
theorem dX1_alone_14 : decode cX1_alone 14 = .ok (.areturn, 1) := dk_176 (dk_at dksX1_alone_0 14 rfl rfl)
theorem dX1_alone_15 : decode cX1_alone 15 = .ok (.aload_n 0, 1) := dk_42 (dk_at dksX1_alone_0 15 rfl rfl)
theorem dX1_alone_16 : decode cX1_alone 16 = .ok (.getfield 60, 3) := dk_180 0 60 (dk_at dksX1_alone_0 16 rfl rfl)
theorem dX1_alone_19 : decode cX1_alone 19 = .ok (.astore_n 2, 1) := dk_77 (dk_at dksX1_alone_0 19 rfl rfl)
theorem dX1_alone_20 : decode cX1_alone 20 = .ok (.aload_n 0, 1) := dk_42 (dk_at dksX1_alone_0 20 rfl rfl)
theorem dX1_alone_21 : decode cX1_alone 21 = .ok (.invokevirtual 37, 3) := dk_182 0 37 (dk_at dksX1_alone_0 21 rfl rfl)
theorem dX1_alone_24 : decode cX1_alone 24 = .ok (.aload_n 0, 1) := dk_42 (dk_at dksX1_alone_1 0 rfl rfl)
theorem dX1_alone_25 : decode cX1_alone 25 = .ok (.getfield 46, 3) := dk_180 0 46 (dk_at dksX1_alone_1 1 rfl rfl)
theorem dX1_alone_28 : decode cX1_alone 28 = .ok (.ifCond .ne 7, 3) := dk_154 0 7 (dk_at dksX1_alone_1 4 rfl rfl)
theorem dX1_alone_31 : decode cX1_alone 31 = .ok (.aload_n 2, 1) := dk_44 (dk_at dksX1_alone_1 7 rfl rfl)
theorem dX1_alone_32 : decode cX1_alone 32 = .ok (.goto 4, 3) := dk_167 0 4 (dk_at dksX1_alone_1 8 rfl rfl)
theorem dX1_alone_35 : decode cX1_alone 35 = .ok (.aconst_null, 1) := dk_1 (dk_at dksX1_alone_1 11 rfl rfl)
theorem dX1_alone_36 : decode cX1_alone 36 = .ok (.areturn, 1) := dk_176 (dk_at dksX1_alone_1 12 rfl rfl)
abbrev cX1_begin : ByteArray := prog_17_method_5_code
def yX1_begin : MethodName := ⟨RX1, "begin", "(I)V"⟩
def dkwX1_begin_0 : List UInt8 := [42, 27, 181, 0, 30, 42, 3, 181, 0, 34, 42, 182, 0, 37, 177]
abbrev dktX1_begin_0 : List UInt8 := dkwX1_begin_0 ++ []
theorem dksX1_begin_0 : cX1_begin.data.toList.drop 0 = dktX1_begin_0 := by decide +kernel
theorem dX1_begin_0 : decode cX1_begin 0 = .ok (.aload_n 0, 1) := dk_42 (dk_at dksX1_begin_0 0 rfl rfl)
theorem dX1_begin_1 : decode cX1_begin 1 = .ok (.iload_n 1, 1) := dk_27 (dk_at dksX1_begin_0 1 rfl rfl)
theorem dX1_begin_2 : decode cX1_begin 2 = .ok (.putfield 30, 3) := dk_181 0 30 (dk_at dksX1_begin_0 2 rfl rfl)
theorem dX1_begin_5 : decode cX1_begin 5 = .ok (.aload_n 0, 1) := dk_42 (dk_at dksX1_begin_0 5 rfl rfl)
theorem dX1_begin_6 : decode cX1_begin 6 = .ok (.iconst 0, 1) := dk_3 (dk_at dksX1_begin_0 6 rfl rfl)
theorem dX1_begin_7 : decode cX1_begin 7 = .ok (.putfield 34, 3) := dk_181 0 34 (dk_at dksX1_begin_0 7 rfl rfl)
theorem dX1_begin_10 : decode cX1_begin 10 = .ok (.aload_n 0, 1) := dk_42 (dk_at dksX1_begin_0 10 rfl rfl)
theorem dX1_begin_11 : decode cX1_begin 11 = .ok (.invokevirtual 37, 3) := dk_182 0 37 (dk_at dksX1_begin_0 11 rfl rfl)
theorem dX1_begin_14 : decode cX1_begin 14 = .ok (.return_, 1) := dk_177 (dk_at dksX1_begin_0 14 rfl rfl)
abbrev cX1_next : ByteArray := prog_17_method_6_code
def yX1_next : MethodName := ⟨RX1, "next", "()V"⟩
def dkwX1_next_8 : List UInt8 := [16, 58, 159, 0, 9, 28, 16, 59, 160, 0, 7, 28, 167, 0, 4, 4, 181, 0, 46, 177]
abbrev dktX1_next_8 : List UInt8 := dkwX1_next_8 ++ []
def dkwX1_next_7 : List UInt8 := [3, 42, 180, 0, 34, 27, 100, 183, 0, 55, 167, 0, 5, 18, 58, 181, 0, 60, 167, 0, 24, 42, 28]
abbrev dktX1_next_7 : List UInt8 := dkwX1_next_7 ++ dktX1_next_8
def dkwX1_next_6 : List UInt8 := [167, 0, 4, 5, 181, 0, 46, 42, 42, 180, 0, 46, 5, 160, 0, 24, 187, 0, 53, 89, 42, 180, 0, 18]
abbrev dktX1_next_6 : List UInt8 := dkwX1_next_6 ++ dktX1_next_7
def dkwX1_next_5 : List UInt8 := [180, 0, 34, 4, 96, 181, 0, 34, 167, 255, 201, 42, 42, 180, 0, 34, 27, 100, 16, 10, 164, 0, 7, 4]
abbrev dktX1_next_5 : List UInt8 := dkwX1_next_5 ++ dktX1_next_6
def dkwX1_next_4 : List UInt8 := [42, 180, 0, 18, 42, 180, 0, 34, 27, 100, 42, 42, 180, 0, 34, 182, 0, 40, 146, 85, 42, 89]
abbrev dktX1_next_4 : List UInt8 := dkwX1_next_4 ++ dktX1_next_5
def dkwX1_next_3 : List UInt8 := [42, 180, 0, 34, 182, 0, 40, 184, 0, 49, 153, 0, 47, 42, 180, 0, 34, 27, 100, 16, 10, 162, 0, 23]
abbrev dktX1_next_3 : List UInt8 := dkwX1_next_3 ++ dktX1_next_4
def dkwX1_next_2 : List UInt8 := [181, 0, 46, 42, 27, 181, 0, 34, 167, 0, 152, 28, 184, 0, 49, 153, 0, 124, 42, 27, 181, 0, 34, 42]
abbrev dktX1_next_2 : List UInt8 := dkwX1_next_2 ++ dktX1_next_3
def dkwX1_next_1 : List UInt8 := [181, 0, 44, 42, 27, 4, 96, 181, 0, 34, 42, 27, 182, 0, 40, 61, 28, 2, 160, 0, 16, 42, 3]
abbrev dktX1_next_1 : List UInt8 := dkwX1_next_1 ++ dktX1_next_2
def dkwX1_next_0 : List UInt8 := [42, 180, 0, 34, 60, 42, 27, 182, 0, 40, 16, 32, 160, 0, 9, 132, 1, 1, 167, 255, 243, 42, 27]
abbrev dktX1_next_0 : List UInt8 := dkwX1_next_0 ++ dktX1_next_1
theorem dksX1_next_0 : cX1_next.data.toList.drop 0 = dktX1_next_0 := by decide +kernel
theorem dksX1_next_1 : cX1_next.data.toList.drop 23 = dktX1_next_1 := dk_seg dksX1_next_0 23 rfl rfl
theorem dksX1_next_2 : cX1_next.data.toList.drop 46 = dktX1_next_2 := dk_seg dksX1_next_1 23 rfl rfl
theorem dksX1_next_3 : cX1_next.data.toList.drop 70 = dktX1_next_3 := dk_seg dksX1_next_2 24 rfl rfl
theorem dksX1_next_4 : cX1_next.data.toList.drop 94 = dktX1_next_4 := dk_seg dksX1_next_3 24 rfl rfl
theorem dksX1_next_5 : cX1_next.data.toList.drop 116 = dktX1_next_5 := dk_seg dksX1_next_4 22 rfl rfl
theorem dksX1_next_6 : cX1_next.data.toList.drop 140 = dktX1_next_6 := dk_seg dksX1_next_5 24 rfl rfl
theorem dksX1_next_7 : cX1_next.data.toList.drop 164 = dktX1_next_7 := dk_seg dksX1_next_6 24 rfl rfl
theorem dksX1_next_8 : cX1_next.data.toList.drop 187 = dktX1_next_8 := dk_seg dksX1_next_7 23 rfl rfl
theorem dX1_next_0 : decode cX1_next 0 = .ok (.aload_n 0, 1) := dk_42 (dk_at dksX1_next_0 0 rfl rfl)
theorem dX1_next_1 : decode cX1_next 1 = .ok (.getfield 34, 3) := dk_180 0 34 (dk_at dksX1_next_0 1 rfl rfl)
theorem dX1_next_4 : decode cX1_next 4 = .ok (.istore_n 1, 1) := dk_60 (dk_at dksX1_next_0 4 rfl rfl)
theorem dX1_next_5 : decode cX1_next 5 = .ok (.aload_n 0, 1) := dk_42 (dk_at dksX1_next_0 5 rfl rfl)
theorem dX1_next_6 : decode cX1_next 6 = .ok (.iload_n 1, 1) := dk_27 (dk_at dksX1_next_0 6 rfl rfl)
theorem dX1_next_7 : decode cX1_next 7 = .ok (.invokevirtual 40, 3) := dk_182 0 40 (dk_at dksX1_next_0 7 rfl rfl)
theorem dX1_next_10 : decode cX1_next 10 = .ok (.bipush 32, 2) := dk_16 32 (dk_at dksX1_next_0 10 rfl rfl)
theorem dX1_next_12 : decode cX1_next 12 = .ok (.if_icmp .ne 9, 3) := dk_160 0 9 (dk_at dksX1_next_0 12 rfl rfl)
theorem dX1_next_15 : decode cX1_next 15 = .ok (.iinc 1 1, 3) := dk_132 1 1 (dk_at dksX1_next_0 15 rfl rfl)
theorem dX1_next_18 : decode cX1_next 18 = .ok (.goto (-13), 3) := dk_167 255 243 (dk_at dksX1_next_0 18 rfl rfl)
theorem dX1_next_21 : decode cX1_next 21 = .ok (.aload_n 0, 1) := dk_42 (dk_at dksX1_next_0 21 rfl rfl)
theorem dX1_next_22 : decode cX1_next 22 = .ok (.iload_n 1, 1) := dk_27 (dk_at dksX1_next_0 22 rfl rfl)
theorem dX1_next_23 : decode cX1_next 23 = .ok (.putfield 44, 3) := dk_181 0 44 (dk_at dksX1_next_1 0 rfl rfl)
theorem dX1_next_26 : decode cX1_next 26 = .ok (.aload_n 0, 1) := dk_42 (dk_at dksX1_next_1 3 rfl rfl)
theorem dX1_next_27 : decode cX1_next 27 = .ok (.iload_n 1, 1) := dk_27 (dk_at dksX1_next_1 4 rfl rfl)
theorem dX1_next_28 : decode cX1_next 28 = .ok (.iconst 1, 1) := dk_4 (dk_at dksX1_next_1 5 rfl rfl)
theorem dX1_next_29 : decode cX1_next 29 = .ok (.iadd, 1) := dk_96 (dk_at dksX1_next_1 6 rfl rfl)
theorem dX1_next_30 : decode cX1_next 30 = .ok (.putfield 34, 3) := dk_181 0 34 (dk_at dksX1_next_1 7 rfl rfl)
theorem dX1_next_33 : decode cX1_next 33 = .ok (.aload_n 0, 1) := dk_42 (dk_at dksX1_next_1 10 rfl rfl)
theorem dX1_next_34 : decode cX1_next 34 = .ok (.iload_n 1, 1) := dk_27 (dk_at dksX1_next_1 11 rfl rfl)
theorem dX1_next_35 : decode cX1_next 35 = .ok (.invokevirtual 40, 3) := dk_182 0 40 (dk_at dksX1_next_1 12 rfl rfl)
theorem dX1_next_38 : decode cX1_next 38 = .ok (.istore_n 2, 1) := dk_61 (dk_at dksX1_next_1 15 rfl rfl)
theorem dX1_next_39 : decode cX1_next 39 = .ok (.iload_n 2, 1) := dk_28 (dk_at dksX1_next_1 16 rfl rfl)
theorem dX1_next_40 : decode cX1_next 40 = .ok (.iconst (-1), 1) := dk_2 (dk_at dksX1_next_1 17 rfl rfl)
theorem dX1_next_41 : decode cX1_next 41 = .ok (.if_icmp .ne 16, 3) := dk_160 0 16 (dk_at dksX1_next_1 18 rfl rfl)
theorem dX1_next_44 : decode cX1_next 44 = .ok (.aload_n 0, 1) := dk_42 (dk_at dksX1_next_1 21 rfl rfl)
theorem dX1_next_45 : decode cX1_next 45 = .ok (.iconst 0, 1) := dk_3 (dk_at dksX1_next_1 22 rfl rfl)
theorem dX1_next_46 : decode cX1_next 46 = .ok (.putfield 46, 3) := dk_181 0 46 (dk_at dksX1_next_2 0 rfl rfl)
theorem dX1_next_49 : decode cX1_next 49 = .ok (.aload_n 0, 1) := dk_42 (dk_at dksX1_next_2 3 rfl rfl)
theorem dX1_next_50 : decode cX1_next 50 = .ok (.iload_n 1, 1) := dk_27 (dk_at dksX1_next_2 4 rfl rfl)
theorem dX1_next_51 : decode cX1_next 51 = .ok (.putfield 34, 3) := dk_181 0 34 (dk_at dksX1_next_2 5 rfl rfl)
theorem dX1_next_54 : decode cX1_next 54 = .ok (.goto 152, 3) := dk_167 0 152 (dk_at dksX1_next_2 8 rfl rfl)
theorem dX1_next_57 : decode cX1_next 57 = .ok (.iload_n 2, 1) := dk_28 (dk_at dksX1_next_2 11 rfl rfl)
theorem dX1_next_58 : decode cX1_next 58 = .ok (.invokestatic 49, 3) := dk_184 0 49 (dk_at dksX1_next_2 12 rfl rfl)
theorem dX1_next_61 : decode cX1_next 61 = .ok (.ifCond .eq 124, 3) := dk_153 0 124 (dk_at dksX1_next_2 15 rfl rfl)
theorem dX1_next_64 : decode cX1_next 64 = .ok (.aload_n 0, 1) := dk_42 (dk_at dksX1_next_2 18 rfl rfl)
theorem dX1_next_65 : decode cX1_next 65 = .ok (.iload_n 1, 1) := dk_27 (dk_at dksX1_next_2 19 rfl rfl)
theorem dX1_next_66 : decode cX1_next 66 = .ok (.putfield 34, 3) := dk_181 0 34 (dk_at dksX1_next_2 20 rfl rfl)
theorem dX1_next_69 : decode cX1_next 69 = .ok (.aload_n 0, 1) := dk_42 (dk_at dksX1_next_2 23 rfl rfl)
theorem dX1_next_70 : decode cX1_next 70 = .ok (.aload_n 0, 1) := dk_42 (dk_at dksX1_next_3 0 rfl rfl)
theorem dX1_next_71 : decode cX1_next 71 = .ok (.getfield 34, 3) := dk_180 0 34 (dk_at dksX1_next_3 1 rfl rfl)
theorem dX1_next_74 : decode cX1_next 74 = .ok (.invokevirtual 40, 3) := dk_182 0 40 (dk_at dksX1_next_3 4 rfl rfl)
theorem dX1_next_77 : decode cX1_next 77 = .ok (.invokestatic 49, 3) := dk_184 0 49 (dk_at dksX1_next_3 7 rfl rfl)
theorem dX1_next_80 : decode cX1_next 80 = .ok (.ifCond .eq 47, 3) := dk_153 0 47 (dk_at dksX1_next_3 10 rfl rfl)
theorem dX1_next_83 : decode cX1_next 83 = .ok (.aload_n 0, 1) := dk_42 (dk_at dksX1_next_3 13 rfl rfl)
theorem dX1_next_84 : decode cX1_next 84 = .ok (.getfield 34, 3) := dk_180 0 34 (dk_at dksX1_next_3 14 rfl rfl)
theorem dX1_next_87 : decode cX1_next 87 = .ok (.iload_n 1, 1) := dk_27 (dk_at dksX1_next_3 17 rfl rfl)
theorem dX1_next_88 : decode cX1_next 88 = .ok (.isub, 1) := dk_100 (dk_at dksX1_next_3 18 rfl rfl)
theorem dX1_next_89 : decode cX1_next 89 = .ok (.bipush 10, 2) := dk_16 10 (dk_at dksX1_next_3 19 rfl rfl)
theorem dX1_next_91 : decode cX1_next 91 = .ok (.if_icmp .ge 23, 3) := dk_162 0 23 (dk_at dksX1_next_3 21 rfl rfl)
theorem dX1_next_94 : decode cX1_next 94 = .ok (.aload_n 0, 1) := dk_42 (dk_at dksX1_next_4 0 rfl rfl)
theorem dX1_next_95 : decode cX1_next 95 = .ok (.getfield 18, 3) := dk_180 0 18 (dk_at dksX1_next_4 1 rfl rfl)
theorem dX1_next_98 : decode cX1_next 98 = .ok (.aload_n 0, 1) := dk_42 (dk_at dksX1_next_4 4 rfl rfl)
theorem dX1_next_99 : decode cX1_next 99 = .ok (.getfield 34, 3) := dk_180 0 34 (dk_at dksX1_next_4 5 rfl rfl)
theorem dX1_next_102 : decode cX1_next 102 = .ok (.iload_n 1, 1) := dk_27 (dk_at dksX1_next_4 8 rfl rfl)
theorem dX1_next_103 : decode cX1_next 103 = .ok (.isub, 1) := dk_100 (dk_at dksX1_next_4 9 rfl rfl)
theorem dX1_next_104 : decode cX1_next 104 = .ok (.aload_n 0, 1) := dk_42 (dk_at dksX1_next_4 10 rfl rfl)
theorem dX1_next_105 : decode cX1_next 105 = .ok (.aload_n 0, 1) := dk_42 (dk_at dksX1_next_4 11 rfl rfl)
theorem dX1_next_106 : decode cX1_next 106 = .ok (.getfield 34, 3) := dk_180 0 34 (dk_at dksX1_next_4 12 rfl rfl)
theorem dX1_next_109 : decode cX1_next 109 = .ok (.invokevirtual 40, 3) := dk_182 0 40 (dk_at dksX1_next_4 15 rfl rfl)
theorem dX1_next_112 : decode cX1_next 112 = .ok (.i2c, 1) := dk_146 (dk_at dksX1_next_4 18 rfl rfl)
theorem dX1_next_113 : decode cX1_next 113 = .ok (.castore, 1) := dk_85 (dk_at dksX1_next_4 19 rfl rfl)
theorem dX1_next_114 : decode cX1_next 114 = .ok (.aload_n 0, 1) := dk_42 (dk_at dksX1_next_4 20 rfl rfl)
theorem dX1_next_115 : decode cX1_next 115 = .ok (.dup, 1) := dk_89 (dk_at dksX1_next_4 21 rfl rfl)
theorem dX1_next_116 : decode cX1_next 116 = .ok (.getfield 34, 3) := dk_180 0 34 (dk_at dksX1_next_5 0 rfl rfl)
theorem dX1_next_119 : decode cX1_next 119 = .ok (.iconst 1, 1) := dk_4 (dk_at dksX1_next_5 3 rfl rfl)
theorem dX1_next_120 : decode cX1_next 120 = .ok (.iadd, 1) := dk_96 (dk_at dksX1_next_5 4 rfl rfl)
theorem dX1_next_121 : decode cX1_next 121 = .ok (.putfield 34, 3) := dk_181 0 34 (dk_at dksX1_next_5 5 rfl rfl)
theorem dX1_next_124 : decode cX1_next 124 = .ok (.goto (-55), 3) := dk_167 255 201 (dk_at dksX1_next_5 8 rfl rfl)
theorem dX1_next_127 : decode cX1_next 127 = .ok (.aload_n 0, 1) := dk_42 (dk_at dksX1_next_5 11 rfl rfl)
theorem dX1_next_128 : decode cX1_next 128 = .ok (.aload_n 0, 1) := dk_42 (dk_at dksX1_next_5 12 rfl rfl)
theorem dX1_next_129 : decode cX1_next 129 = .ok (.getfield 34, 3) := dk_180 0 34 (dk_at dksX1_next_5 13 rfl rfl)
theorem dX1_next_132 : decode cX1_next 132 = .ok (.iload_n 1, 1) := dk_27 (dk_at dksX1_next_5 16 rfl rfl)
theorem dX1_next_133 : decode cX1_next 133 = .ok (.isub, 1) := dk_100 (dk_at dksX1_next_5 17 rfl rfl)
theorem dX1_next_134 : decode cX1_next 134 = .ok (.bipush 10, 2) := dk_16 10 (dk_at dksX1_next_5 18 rfl rfl)
theorem dX1_next_136 : decode cX1_next 136 = .ok (.if_icmp .le 7, 3) := dk_164 0 7 (dk_at dksX1_next_5 20 rfl rfl)
theorem dX1_next_139 : decode cX1_next 139 = .ok (.iconst 1, 1) := dk_4 (dk_at dksX1_next_5 23 rfl rfl)
theorem dX1_next_140 : decode cX1_next 140 = .ok (.goto 4, 3) := dk_167 0 4 (dk_at dksX1_next_6 0 rfl rfl)
theorem dX1_next_143 : decode cX1_next 143 = .ok (.iconst 2, 1) := dk_5 (dk_at dksX1_next_6 3 rfl rfl)
theorem dX1_next_144 : decode cX1_next 144 = .ok (.putfield 46, 3) := dk_181 0 46 (dk_at dksX1_next_6 4 rfl rfl)
theorem dX1_next_147 : decode cX1_next 147 = .ok (.aload_n 0, 1) := dk_42 (dk_at dksX1_next_6 7 rfl rfl)
theorem dX1_next_148 : decode cX1_next 148 = .ok (.aload_n 0, 1) := dk_42 (dk_at dksX1_next_6 8 rfl rfl)
theorem dX1_next_149 : decode cX1_next 149 = .ok (.getfield 46, 3) := dk_180 0 46 (dk_at dksX1_next_6 9 rfl rfl)
theorem dX1_next_152 : decode cX1_next 152 = .ok (.iconst 2, 1) := dk_5 (dk_at dksX1_next_6 12 rfl rfl)
theorem dX1_next_153 : decode cX1_next 153 = .ok (.if_icmp .ne 24, 3) := dk_160 0 24 (dk_at dksX1_next_6 13 rfl rfl)
theorem dX1_next_156 : decode cX1_next 156 = .ok (.new 53, 3) := dk_187 0 53 (dk_at dksX1_next_6 16 rfl rfl)
theorem dX1_next_159 : decode cX1_next 159 = .ok (.dup, 1) := dk_89 (dk_at dksX1_next_6 19 rfl rfl)
theorem dX1_next_160 : decode cX1_next 160 = .ok (.aload_n 0, 1) := dk_42 (dk_at dksX1_next_6 20 rfl rfl)
theorem dX1_next_161 : decode cX1_next 161 = .ok (.getfield 18, 3) := dk_180 0 18 (dk_at dksX1_next_6 21 rfl rfl)
theorem dX1_next_164 : decode cX1_next 164 = .ok (.iconst 0, 1) := dk_3 (dk_at dksX1_next_7 0 rfl rfl)
theorem dX1_next_165 : decode cX1_next 165 = .ok (.aload_n 0, 1) := dk_42 (dk_at dksX1_next_7 1 rfl rfl)
theorem dX1_next_166 : decode cX1_next 166 = .ok (.getfield 34, 3) := dk_180 0 34 (dk_at dksX1_next_7 2 rfl rfl)
theorem dX1_next_169 : decode cX1_next 169 = .ok (.iload_n 1, 1) := dk_27 (dk_at dksX1_next_7 5 rfl rfl)
theorem dX1_next_170 : decode cX1_next 170 = .ok (.isub, 1) := dk_100 (dk_at dksX1_next_7 6 rfl rfl)
theorem dX1_next_171 : decode cX1_next 171 = .ok (.invokespecial 55, 3) := dk_183 0 55 (dk_at dksX1_next_7 7 rfl rfl)
theorem dX1_next_174 : decode cX1_next 174 = .ok (.goto 5, 3) := dk_167 0 5 (dk_at dksX1_next_7 10 rfl rfl)
theorem dX1_next_177 : decode cX1_next 177 = .ok (.ldc 58, 2) := dk_18 58 (dk_at dksX1_next_7 13 rfl rfl)
theorem dX1_next_179 : decode cX1_next 179 = .ok (.putfield 60, 3) := dk_181 0 60 (dk_at dksX1_next_7 15 rfl rfl)
theorem dX1_next_182 : decode cX1_next 182 = .ok (.goto 24, 3) := dk_167 0 24 (dk_at dksX1_next_7 18 rfl rfl)
theorem dX1_next_185 : decode cX1_next 185 = .ok (.aload_n 0, 1) := dk_42 (dk_at dksX1_next_7 21 rfl rfl)
theorem dX1_next_186 : decode cX1_next 186 = .ok (.iload_n 2, 1) := dk_28 (dk_at dksX1_next_7 22 rfl rfl)
theorem dX1_next_187 : decode cX1_next 187 = .ok (.bipush 58, 2) := dk_16 58 (dk_at dksX1_next_8 0 rfl rfl)
theorem dX1_next_189 : decode cX1_next 189 = .ok (.if_icmp .eq 9, 3) := dk_159 0 9 (dk_at dksX1_next_8 2 rfl rfl)
theorem dX1_next_192 : decode cX1_next 192 = .ok (.iload_n 2, 1) := dk_28 (dk_at dksX1_next_8 5 rfl rfl)
theorem dX1_next_193 : decode cX1_next 193 = .ok (.bipush 59, 2) := dk_16 59 (dk_at dksX1_next_8 6 rfl rfl)
theorem dX1_next_195 : decode cX1_next 195 = .ok (.if_icmp .ne 7, 3) := dk_160 0 7 (dk_at dksX1_next_8 8 rfl rfl)
theorem dX1_next_198 : decode cX1_next 198 = .ok (.iload_n 2, 1) := dk_28 (dk_at dksX1_next_8 11 rfl rfl)
theorem dX1_next_199 : decode cX1_next 199 = .ok (.goto 4, 3) := dk_167 0 4 (dk_at dksX1_next_8 12 rfl rfl)
theorem dX1_next_202 : decode cX1_next 202 = .ok (.iconst 1, 1) := dk_4 (dk_at dksX1_next_8 15 rfl rfl)
theorem dX1_next_203 : decode cX1_next 203 = .ok (.putfield 46, 3) := dk_181 0 46 (dk_at dksX1_next_8 16 rfl rfl)
theorem dX1_next_206 : decode cX1_next 206 = .ok (.return_, 1) := dk_177 (dk_at dksX1_next_8 19 rfl rfl)
abbrev cX1_see : ByteArray := prog_17_method_3_code
def yX1_see : MethodName := ⟨RX1, "see", "(I)I"⟩
def dkwX1_see_0 : List UInt8 := [27, 42, 180, 0, 30, 162, 0, 16, 42, 180, 0, 22, 27, 51, 17, 0, 255, 126, 167, 0, 4, 2, 172]
abbrev dktX1_see_0 : List UInt8 := dkwX1_see_0 ++ []
theorem dksX1_see_0 : cX1_see.data.toList.drop 0 = dktX1_see_0 := by decide +kernel
theorem dX1_see_0 : decode cX1_see 0 = .ok (.iload_n 1, 1) := dk_27 (dk_at dksX1_see_0 0 rfl rfl)
theorem dX1_see_1 : decode cX1_see 1 = .ok (.aload_n 0, 1) := dk_42 (dk_at dksX1_see_0 1 rfl rfl)
theorem dX1_see_2 : decode cX1_see 2 = .ok (.getfield 30, 3) := dk_180 0 30 (dk_at dksX1_see_0 2 rfl rfl)
theorem dX1_see_5 : decode cX1_see 5 = .ok (.if_icmp .ge 16, 3) := dk_162 0 16 (dk_at dksX1_see_0 5 rfl rfl)
theorem dX1_see_8 : decode cX1_see 8 = .ok (.aload_n 0, 1) := dk_42 (dk_at dksX1_see_0 8 rfl rfl)
theorem dX1_see_9 : decode cX1_see 9 = .ok (.getfield 22, 3) := dk_180 0 22 (dk_at dksX1_see_0 9 rfl rfl)
theorem dX1_see_12 : decode cX1_see 12 = .ok (.iload_n 1, 1) := dk_27 (dk_at dksX1_see_0 12 rfl rfl)
theorem dX1_see_13 : decode cX1_see 13 = .ok (.baload, 1) := dk_51 (dk_at dksX1_see_0 13 rfl rfl)
theorem dX1_see_14 : decode cX1_see 14 = .ok (.sipush 255, 3) := dk_17 0 255 (dk_at dksX1_see_0 14 rfl rfl)
theorem dX1_see_17 : decode cX1_see 17 = .ok (.iand, 1) := dk_126 (dk_at dksX1_see_0 17 rfl rfl)
theorem dX1_see_18 : decode cX1_see 18 = .ok (.goto 4, 3) := dk_167 0 4 (dk_at dksX1_see_0 18 rfl rfl)
theorem dX1_see_21 : decode cX1_see 21 = .ok (.iconst (-1), 1) := dk_2 (dk_at dksX1_see_0 21 rfl rfl)
theorem dX1_see_22 : decode cX1_see 22 = .ok (.ireturn, 1) := dk_172 (dk_at dksX1_see_0 22 rfl rfl)
abbrev cX1_isSmall : ByteArray := prog_17_method_4_code
def yX1_isSmall : MethodName := ⟨RX1, "isSmall", "(I)Z"⟩
def dkwX1_isSmall_0 : List UInt8 := [26, 16, 97, 161, 0, 13, 26, 16, 122, 163, 0, 7, 4, 167, 0, 4, 3, 172]
abbrev dktX1_isSmall_0 : List UInt8 := dkwX1_isSmall_0 ++ []
theorem dksX1_isSmall_0 : cX1_isSmall.data.toList.drop 0 = dktX1_isSmall_0 := by decide +kernel
theorem dX1_isSmall_0 : decode cX1_isSmall 0 = .ok (.iload_n 0, 1) := dk_26 (dk_at dksX1_isSmall_0 0 rfl rfl)
theorem dX1_isSmall_1 : decode cX1_isSmall 1 = .ok (.bipush 97, 2) := dk_16 97 (dk_at dksX1_isSmall_0 1 rfl rfl)
theorem dX1_isSmall_3 : decode cX1_isSmall 3 = .ok (.if_icmp .lt 13, 3) := dk_161 0 13 (dk_at dksX1_isSmall_0 3 rfl rfl)
theorem dX1_isSmall_6 : decode cX1_isSmall 6 = .ok (.iload_n 0, 1) := dk_26 (dk_at dksX1_isSmall_0 6 rfl rfl)
theorem dX1_isSmall_7 : decode cX1_isSmall 7 = .ok (.bipush 122, 2) := dk_16 122 (dk_at dksX1_isSmall_0 7 rfl rfl)
theorem dX1_isSmall_9 : decode cX1_isSmall 9 = .ok (.if_icmp .gt 7, 3) := dk_163 0 7 (dk_at dksX1_isSmall_0 9 rfl rfl)
theorem dX1_isSmall_12 : decode cX1_isSmall 12 = .ok (.iconst 1, 1) := dk_4 (dk_at dksX1_isSmall_0 12 rfl rfl)
theorem dX1_isSmall_13 : decode cX1_isSmall 13 = .ok (.goto 4, 3) := dk_167 0 4 (dk_at dksX1_isSmall_0 13 rfl rfl)
theorem dX1_isSmall_16 : decode cX1_isSmall 16 = .ok (.iconst 0, 1) := dk_3 (dk_at dksX1_isSmall_0 16 rfl rfl)
theorem dX1_isSmall_17 : decode cX1_isSmall 17 = .ok (.ireturn, 1) := dk_172 (dk_at dksX1_isSmall_0 17 rfl rfl)
abbrev cX1_read : ByteArray := prog_17_method_11_code
def yX1_read : MethodName := ⟨RX1, "read", "(ILPatentHall;LPatentHall$Text;II)LPatentHall$Text;"⟩
def dkwX1_read_6 : List UInt8 := [153, 0, 13, 42, 4, 42, 180, 0, 44, 182, 0, 68, 191, 45, 176]
abbrev dktX1_read_6 : List UInt8 := dkwX1_read_6 ++ []
def dkwX1_read_5 : List UInt8 := [4, 167, 0, 4, 3, 54, 6, 21, 6, 153, 0, 7, 42, 182, 0, 37, 167, 255, 132, 42, 180, 0, 46]
abbrev dktX1_read_5 : List UInt8 := dkwX1_read_5 ++ dktX1_read_6
def dkwX1_read_4 : List UInt8 := [167, 0, 15, 42, 44, 45, 25, 7, 21, 8, 21, 5, 182, 0, 93, 42, 180, 0, 46, 16, 59, 160, 0, 7]
abbrev dktX1_read_4 : List UInt8 := dkwX1_read_4 ++ dktX1_read_5
def dkwX1_read_3 : List UInt8 := [180, 0, 86, 21, 4, 160, 0, 11, 42, 7, 21, 8, 182, 0, 68, 191, 45, 25, 7, 21, 9, 182, 0, 89]
abbrev dktX1_read_3 : List UInt8 := dkwX1_read_3 ++ dktX1_read_4
def dkwX1_read_2 : List UInt8 := [159, 0, 11, 42, 6, 21, 8, 182, 0, 68, 191, 42, 182, 0, 37, 42, 44, 182, 0, 83, 54, 9, 45]
abbrev dktX1_read_2 : List UInt8 := dkwX1_read_2 ++ dktX1_read_3
def dkwX1_read_1 : List UInt8 := [54, 8, 42, 182, 0, 37, 42, 180, 0, 46, 16, 58, 160, 0, 60, 45, 25, 7, 182, 0, 78, 2]
abbrev dktX1_read_1 : List UInt8 := dkwX1_read_1 ++ dktX1_read_2
def dkwX1_read_0 : List UInt8 := [42, 27, 182, 0, 64, 4, 54, 6, 21, 6, 153, 0, 125, 42, 182, 0, 71, 58, 7, 42, 180, 0, 44]
abbrev dktX1_read_0 : List UInt8 := dkwX1_read_0 ++ dktX1_read_1
theorem dksX1_read_0 : cX1_read.data.toList.drop 0 = dktX1_read_0 := by decide +kernel
theorem dksX1_read_1 : cX1_read.data.toList.drop 23 = dktX1_read_1 := dk_seg dksX1_read_0 23 rfl rfl
theorem dksX1_read_2 : cX1_read.data.toList.drop 45 = dktX1_read_2 := dk_seg dksX1_read_1 22 rfl rfl
theorem dksX1_read_3 : cX1_read.data.toList.drop 68 = dktX1_read_3 := dk_seg dksX1_read_2 23 rfl rfl
theorem dksX1_read_4 : cX1_read.data.toList.drop 92 = dktX1_read_4 := dk_seg dksX1_read_3 24 rfl rfl
theorem dksX1_read_5 : cX1_read.data.toList.drop 116 = dktX1_read_5 := dk_seg dksX1_read_4 24 rfl rfl
theorem dksX1_read_6 : cX1_read.data.toList.drop 139 = dktX1_read_6 := dk_seg dksX1_read_5 23 rfl rfl
theorem dX1_read_0 : decode cX1_read 0 = .ok (.aload_n 0, 1) := dk_42 (dk_at dksX1_read_0 0 rfl rfl)
theorem dX1_read_1 : decode cX1_read 1 = .ok (.iload_n 1, 1) := dk_27 (dk_at dksX1_read_0 1 rfl rfl)
theorem dX1_read_2 : decode cX1_read 2 = .ok (.invokevirtual 64, 3) := dk_182 0 64 (dk_at dksX1_read_0 2 rfl rfl)
theorem dX1_read_5 : decode cX1_read 5 = .ok (.iconst 1, 1) := dk_4 (dk_at dksX1_read_0 5 rfl rfl)
theorem dX1_read_6 : decode cX1_read 6 = .ok (.istore 6, 2) := dk_54 6 (dk_at dksX1_read_0 6 rfl rfl)
theorem dX1_read_8 : decode cX1_read 8 = .ok (.iload 6, 2) := dk_21 6 (dk_at dksX1_read_0 8 rfl rfl)
theorem dX1_read_10 : decode cX1_read 10 = .ok (.ifCond .eq 125, 3) := dk_153 0 125 (dk_at dksX1_read_0 10 rfl rfl)
theorem dX1_read_13 : decode cX1_read 13 = .ok (.aload_n 0, 1) := dk_42 (dk_at dksX1_read_0 13 rfl rfl)
theorem dX1_read_14 : decode cX1_read 14 = .ok (.invokevirtual 71, 3) := dk_182 0 71 (dk_at dksX1_read_0 14 rfl rfl)
theorem dX1_read_17 : decode cX1_read 17 = .ok (.astore 7, 2) := dk_58 7 (dk_at dksX1_read_0 17 rfl rfl)
theorem dX1_read_19 : decode cX1_read 19 = .ok (.aload_n 0, 1) := dk_42 (dk_at dksX1_read_0 19 rfl rfl)
theorem dX1_read_20 : decode cX1_read 20 = .ok (.getfield 44, 3) := dk_180 0 44 (dk_at dksX1_read_0 20 rfl rfl)
theorem dX1_read_23 : decode cX1_read 23 = .ok (.istore 8, 2) := dk_54 8 (dk_at dksX1_read_1 0 rfl rfl)
theorem dX1_read_25 : decode cX1_read 25 = .ok (.aload_n 0, 1) := dk_42 (dk_at dksX1_read_1 2 rfl rfl)
theorem dX1_read_26 : decode cX1_read 26 = .ok (.invokevirtual 37, 3) := dk_182 0 37 (dk_at dksX1_read_1 3 rfl rfl)
theorem dX1_read_29 : decode cX1_read 29 = .ok (.aload_n 0, 1) := dk_42 (dk_at dksX1_read_1 6 rfl rfl)
theorem dX1_read_30 : decode cX1_read 30 = .ok (.getfield 46, 3) := dk_180 0 46 (dk_at dksX1_read_1 7 rfl rfl)
theorem dX1_read_33 : decode cX1_read 33 = .ok (.bipush 58, 2) := dk_16 58 (dk_at dksX1_read_1 10 rfl rfl)
theorem dX1_read_35 : decode cX1_read 35 = .ok (.if_icmp .ne 60, 3) := dk_160 0 60 (dk_at dksX1_read_1 12 rfl rfl)
theorem dX1_read_38 : decode cX1_read 38 = .ok (.aload_n 3, 1) := dk_45 (dk_at dksX1_read_1 15 rfl rfl)
theorem dX1_read_39 : decode cX1_read 39 = .ok (.aload 7, 2) := dk_25 7 (dk_at dksX1_read_1 16 rfl rfl)
theorem dX1_read_41 : decode cX1_read 41 = .ok (.invokevirtual 78, 3) := dk_182 0 78 (dk_at dksX1_read_1 18 rfl rfl)
theorem dX1_read_44 : decode cX1_read 44 = .ok (.iconst (-1), 1) := dk_2 (dk_at dksX1_read_1 21 rfl rfl)
theorem dX1_read_45 : decode cX1_read 45 = .ok (.if_icmp .eq 11, 3) := dk_159 0 11 (dk_at dksX1_read_2 0 rfl rfl)
theorem dX1_read_48 : decode cX1_read 48 = .ok (.aload_n 0, 1) := dk_42 (dk_at dksX1_read_2 3 rfl rfl)
theorem dX1_read_49 : decode cX1_read 49 = .ok (.iconst 3, 1) := dk_6 (dk_at dksX1_read_2 4 rfl rfl)
theorem dX1_read_50 : decode cX1_read 50 = .ok (.iload 8, 2) := dk_21 8 (dk_at dksX1_read_2 5 rfl rfl)
theorem dX1_read_52 : decode cX1_read 52 = .ok (.invokevirtual 68, 3) := dk_182 0 68 (dk_at dksX1_read_2 7 rfl rfl)
theorem dX1_read_55 : decode cX1_read 55 = .ok (.athrow, 1) := dk_191 (dk_at dksX1_read_2 10 rfl rfl)
theorem dX1_read_56 : decode cX1_read 56 = .ok (.aload_n 0, 1) := dk_42 (dk_at dksX1_read_2 11 rfl rfl)
theorem dX1_read_57 : decode cX1_read 57 = .ok (.invokevirtual 37, 3) := dk_182 0 37 (dk_at dksX1_read_2 12 rfl rfl)
theorem dX1_read_60 : decode cX1_read 60 = .ok (.aload_n 0, 1) := dk_42 (dk_at dksX1_read_2 15 rfl rfl)
theorem dX1_read_61 : decode cX1_read 61 = .ok (.aload_n 2, 1) := dk_44 (dk_at dksX1_read_2 16 rfl rfl)
theorem dX1_read_62 : decode cX1_read 62 = .ok (.invokevirtual 83, 3) := dk_182 0 83 (dk_at dksX1_read_2 17 rfl rfl)
theorem dX1_read_65 : decode cX1_read 65 = .ok (.istore 9, 2) := dk_54 9 (dk_at dksX1_read_2 20 rfl rfl)
theorem dX1_read_67 : decode cX1_read 67 = .ok (.aload_n 3, 1) := dk_45 (dk_at dksX1_read_2 22 rfl rfl)
theorem dX1_read_68 : decode cX1_read 68 = .ok (.getfield 86, 3) := dk_180 0 86 (dk_at dksX1_read_3 0 rfl rfl)
theorem dX1_read_71 : decode cX1_read 71 = .ok (.iload 4, 2) := dk_21 4 (dk_at dksX1_read_3 3 rfl rfl)
theorem dX1_read_73 : decode cX1_read 73 = .ok (.if_icmp .ne 11, 3) := dk_160 0 11 (dk_at dksX1_read_3 5 rfl rfl)
theorem dX1_read_76 : decode cX1_read 76 = .ok (.aload_n 0, 1) := dk_42 (dk_at dksX1_read_3 8 rfl rfl)
theorem dX1_read_77 : decode cX1_read 77 = .ok (.iconst 4, 1) := dk_7 (dk_at dksX1_read_3 9 rfl rfl)
theorem dX1_read_78 : decode cX1_read 78 = .ok (.iload 8, 2) := dk_21 8 (dk_at dksX1_read_3 10 rfl rfl)
theorem dX1_read_80 : decode cX1_read 80 = .ok (.invokevirtual 68, 3) := dk_182 0 68 (dk_at dksX1_read_3 12 rfl rfl)
theorem dX1_read_83 : decode cX1_read 83 = .ok (.athrow, 1) := dk_191 (dk_at dksX1_read_3 15 rfl rfl)
theorem dX1_read_84 : decode cX1_read 84 = .ok (.aload_n 3, 1) := dk_45 (dk_at dksX1_read_3 16 rfl rfl)
theorem dX1_read_85 : decode cX1_read 85 = .ok (.aload 7, 2) := dk_25 7 (dk_at dksX1_read_3 17 rfl rfl)
theorem dX1_read_87 : decode cX1_read 87 = .ok (.iload 9, 2) := dk_21 9 (dk_at dksX1_read_3 19 rfl rfl)
theorem dX1_read_89 : decode cX1_read 89 = .ok (.invokevirtual 89, 3) := dk_182 0 89 (dk_at dksX1_read_3 21 rfl rfl)
theorem dX1_read_92 : decode cX1_read 92 = .ok (.goto 15, 3) := dk_167 0 15 (dk_at dksX1_read_4 0 rfl rfl)
theorem dX1_read_95 : decode cX1_read 95 = .ok (.aload_n 0, 1) := dk_42 (dk_at dksX1_read_4 3 rfl rfl)
theorem dX1_read_96 : decode cX1_read 96 = .ok (.aload_n 2, 1) := dk_44 (dk_at dksX1_read_4 4 rfl rfl)
theorem dX1_read_97 : decode cX1_read 97 = .ok (.aload_n 3, 1) := dk_45 (dk_at dksX1_read_4 5 rfl rfl)
theorem dX1_read_98 : decode cX1_read 98 = .ok (.aload 7, 2) := dk_25 7 (dk_at dksX1_read_4 6 rfl rfl)
theorem dX1_read_100 : decode cX1_read 100 = .ok (.iload 8, 2) := dk_21 8 (dk_at dksX1_read_4 8 rfl rfl)
theorem dX1_read_102 : decode cX1_read 102 = .ok (.iload 5, 2) := dk_21 5 (dk_at dksX1_read_4 10 rfl rfl)
theorem dX1_read_104 : decode cX1_read 104 = .ok (.invokevirtual 93, 3) := dk_182 0 93 (dk_at dksX1_read_4 12 rfl rfl)
theorem dX1_read_107 : decode cX1_read 107 = .ok (.aload_n 0, 1) := dk_42 (dk_at dksX1_read_4 15 rfl rfl)
theorem dX1_read_108 : decode cX1_read 108 = .ok (.getfield 46, 3) := dk_180 0 46 (dk_at dksX1_read_4 16 rfl rfl)
theorem dX1_read_111 : decode cX1_read 111 = .ok (.bipush 59, 2) := dk_16 59 (dk_at dksX1_read_4 19 rfl rfl)
theorem dX1_read_113 : decode cX1_read 113 = .ok (.if_icmp .ne 7, 3) := dk_160 0 7 (dk_at dksX1_read_4 21 rfl rfl)
theorem dX1_read_116 : decode cX1_read 116 = .ok (.iconst 1, 1) := dk_4 (dk_at dksX1_read_5 0 rfl rfl)
theorem dX1_read_117 : decode cX1_read 117 = .ok (.goto 4, 3) := dk_167 0 4 (dk_at dksX1_read_5 1 rfl rfl)
theorem dX1_read_120 : decode cX1_read 120 = .ok (.iconst 0, 1) := dk_3 (dk_at dksX1_read_5 4 rfl rfl)
theorem dX1_read_121 : decode cX1_read 121 = .ok (.istore 6, 2) := dk_54 6 (dk_at dksX1_read_5 5 rfl rfl)
theorem dX1_read_123 : decode cX1_read 123 = .ok (.iload 6, 2) := dk_21 6 (dk_at dksX1_read_5 7 rfl rfl)
theorem dX1_read_125 : decode cX1_read 125 = .ok (.ifCond .eq 7, 3) := dk_153 0 7 (dk_at dksX1_read_5 9 rfl rfl)
theorem dX1_read_128 : decode cX1_read 128 = .ok (.aload_n 0, 1) := dk_42 (dk_at dksX1_read_5 12 rfl rfl)
theorem dX1_read_129 : decode cX1_read 129 = .ok (.invokevirtual 37, 3) := dk_182 0 37 (dk_at dksX1_read_5 13 rfl rfl)
theorem dX1_read_132 : decode cX1_read 132 = .ok (.goto (-124), 3) := dk_167 255 132 (dk_at dksX1_read_5 16 rfl rfl)
theorem dX1_read_135 : decode cX1_read 135 = .ok (.aload_n 0, 1) := dk_42 (dk_at dksX1_read_5 19 rfl rfl)
theorem dX1_read_136 : decode cX1_read 136 = .ok (.getfield 46, 3) := dk_180 0 46 (dk_at dksX1_read_5 20 rfl rfl)
theorem dX1_read_139 : decode cX1_read 139 = .ok (.ifCond .eq 13, 3) := dk_153 0 13 (dk_at dksX1_read_6 0 rfl rfl)
theorem dX1_read_142 : decode cX1_read 142 = .ok (.aload_n 0, 1) := dk_42 (dk_at dksX1_read_6 3 rfl rfl)
theorem dX1_read_143 : decode cX1_read 143 = .ok (.iconst 1, 1) := dk_4 (dk_at dksX1_read_6 4 rfl rfl)
theorem dX1_read_144 : decode cX1_read 144 = .ok (.aload_n 0, 1) := dk_42 (dk_at dksX1_read_6 5 rfl rfl)
theorem dX1_read_145 : decode cX1_read 145 = .ok (.getfield 44, 3) := dk_180 0 44 (dk_at dksX1_read_6 6 rfl rfl)
theorem dX1_read_148 : decode cX1_read 148 = .ok (.invokevirtual 68, 3) := dk_182 0 68 (dk_at dksX1_read_6 9 rfl rfl)
theorem dX1_read_151 : decode cX1_read 151 = .ok (.athrow, 1) := dk_191 (dk_at dksX1_read_6 12 rfl rfl)
theorem dX1_read_152 : decode cX1_read 152 = .ok (.aload_n 3, 1) := dk_45 (dk_at dksX1_read_6 13 rfl rfl)
theorem dX1_read_153 : decode cX1_read 153 = .ok (.areturn, 1) := dk_176 (dk_at dksX1_read_6 14 rfl rfl)
abbrev cX1_letters : ByteArray := prog_17_method_8_code
def yX1_letters : MethodName := ⟨RX1, "letters", "()Ljava/lang/String;"⟩
def dkwX1_letters_0 : List UInt8 := [42, 180, 0, 46, 5, 159, 0, 13, 42, 4, 42, 180, 0, 44, 182, 0, 68, 191, 42, 180, 0, 60, 176]
abbrev dktX1_letters_0 : List UInt8 := dkwX1_letters_0 ++ []
theorem dksX1_letters_0 : cX1_letters.data.toList.drop 0 = dktX1_letters_0 := by decide +kernel
theorem dX1_letters_0 : decode cX1_letters 0 = .ok (.aload_n 0, 1) := dk_42 (dk_at dksX1_letters_0 0 rfl rfl)
theorem dX1_letters_1 : decode cX1_letters 1 = .ok (.getfield 46, 3) := dk_180 0 46 (dk_at dksX1_letters_0 1 rfl rfl)
theorem dX1_letters_4 : decode cX1_letters 4 = .ok (.iconst 2, 1) := dk_5 (dk_at dksX1_letters_0 4 rfl rfl)
theorem dX1_letters_5 : decode cX1_letters 5 = .ok (.if_icmp .eq 13, 3) := dk_159 0 13 (dk_at dksX1_letters_0 5 rfl rfl)
theorem dX1_letters_8 : decode cX1_letters 8 = .ok (.aload_n 0, 1) := dk_42 (dk_at dksX1_letters_0 8 rfl rfl)
theorem dX1_letters_9 : decode cX1_letters 9 = .ok (.iconst 1, 1) := dk_4 (dk_at dksX1_letters_0 9 rfl rfl)
theorem dX1_letters_10 : decode cX1_letters 10 = .ok (.aload_n 0, 1) := dk_42 (dk_at dksX1_letters_0 10 rfl rfl)
theorem dX1_letters_11 : decode cX1_letters 11 = .ok (.getfield 44, 3) := dk_180 0 44 (dk_at dksX1_letters_0 11 rfl rfl)
theorem dX1_letters_14 : decode cX1_letters 14 = .ok (.invokevirtual 68, 3) := dk_182 0 68 (dk_at dksX1_letters_0 14 rfl rfl)
theorem dX1_letters_17 : decode cX1_letters 17 = .ok (.athrow, 1) := dk_191 (dk_at dksX1_letters_0 17 rfl rfl)
theorem dX1_letters_18 : decode cX1_letters 18 = .ok (.aload_n 0, 1) := dk_42 (dk_at dksX1_letters_0 18 rfl rfl)
theorem dX1_letters_19 : decode cX1_letters 19 = .ok (.getfield 60, 3) := dk_180 0 60 (dk_at dksX1_letters_0 19 rfl rfl)
theorem dX1_letters_22 : decode cX1_letters 22 = .ok (.areturn, 1) := dk_176 (dk_at dksX1_letters_0 22 rfl rfl)
abbrev cX1_fail : ByteArray := prog_17_method_2_code
def yX1_fail : MethodName := ⟨RX1, "fail", "(II)LPatentHall$Refused;"⟩
def dkwX1_fail_0 : List UInt8 := [42, 180, 0, 12, 27, 28, 182, 0, 26, 176]
abbrev dktX1_fail_0 : List UInt8 := dkwX1_fail_0 ++ []
theorem dksX1_fail_0 : cX1_fail.data.toList.drop 0 = dktX1_fail_0 := by decide +kernel
theorem dX1_fail_0 : decode cX1_fail 0 = .ok (.aload_n 0, 1) := dk_42 (dk_at dksX1_fail_0 0 rfl rfl)
theorem dX1_fail_1 : decode cX1_fail 1 = .ok (.getfield 12, 3) := dk_180 0 12 (dk_at dksX1_fail_0 1 rfl rfl)
theorem dX1_fail_4 : decode cX1_fail 4 = .ok (.iload_n 1, 1) := dk_27 (dk_at dksX1_fail_0 4 rfl rfl)
theorem dX1_fail_5 : decode cX1_fail 5 = .ok (.iload_n 2, 1) := dk_28 (dk_at dksX1_fail_0 5 rfl rfl)
theorem dX1_fail_6 : decode cX1_fail 6 = .ok (.invokevirtual 26, 3) := dk_182 0 26 (dk_at dksX1_fail_0 6 rfl rfl)
theorem dX1_fail_9 : decode cX1_fail 9 = .ok (.areturn, 1) := dk_176 (dk_at dksX1_fail_0 9 rfl rfl)
abbrev cX1_wordOf : ByteArray := prog_17_method_9_code
def yX1_wordOf : MethodName := ⟨RX1, "wordOf", "(LPatentHall;)I"⟩
def dkwX1_wordOf_1 : List UInt8 := [42, 182, 0, 37, 28, 172]
abbrev dktX1_wordOf_1 : List UInt8 := dkwX1_wordOf_1 ++ []
def dkwX1_wordOf_0 : List UInt8 := [43, 42, 182, 0, 71, 182, 0, 74, 61, 28, 2, 160, 0, 13, 42, 5, 42, 180, 0, 44, 182, 0, 68, 191]
abbrev dktX1_wordOf_0 : List UInt8 := dkwX1_wordOf_0 ++ dktX1_wordOf_1
theorem dksX1_wordOf_0 : cX1_wordOf.data.toList.drop 0 = dktX1_wordOf_0 := by decide +kernel
theorem dksX1_wordOf_1 : cX1_wordOf.data.toList.drop 24 = dktX1_wordOf_1 := dk_seg dksX1_wordOf_0 24 rfl rfl
theorem dX1_wordOf_0 : decode cX1_wordOf 0 = .ok (.aload_n 1, 1) := dk_43 (dk_at dksX1_wordOf_0 0 rfl rfl)
theorem dX1_wordOf_1 : decode cX1_wordOf 1 = .ok (.aload_n 0, 1) := dk_42 (dk_at dksX1_wordOf_0 1 rfl rfl)
theorem dX1_wordOf_2 : decode cX1_wordOf 2 = .ok (.invokevirtual 71, 3) := dk_182 0 71 (dk_at dksX1_wordOf_0 2 rfl rfl)
theorem dX1_wordOf_5 : decode cX1_wordOf 5 = .ok (.invokevirtual 74, 3) := dk_182 0 74 (dk_at dksX1_wordOf_0 5 rfl rfl)
theorem dX1_wordOf_8 : decode cX1_wordOf 8 = .ok (.istore_n 2, 1) := dk_61 (dk_at dksX1_wordOf_0 8 rfl rfl)
theorem dX1_wordOf_9 : decode cX1_wordOf 9 = .ok (.iload_n 2, 1) := dk_28 (dk_at dksX1_wordOf_0 9 rfl rfl)
theorem dX1_wordOf_10 : decode cX1_wordOf 10 = .ok (.iconst (-1), 1) := dk_2 (dk_at dksX1_wordOf_0 10 rfl rfl)
theorem dX1_wordOf_11 : decode cX1_wordOf 11 = .ok (.if_icmp .ne 13, 3) := dk_160 0 13 (dk_at dksX1_wordOf_0 11 rfl rfl)
theorem dX1_wordOf_14 : decode cX1_wordOf 14 = .ok (.aload_n 0, 1) := dk_42 (dk_at dksX1_wordOf_0 14 rfl rfl)
theorem dX1_wordOf_15 : decode cX1_wordOf 15 = .ok (.iconst 2, 1) := dk_5 (dk_at dksX1_wordOf_0 15 rfl rfl)
theorem dX1_wordOf_16 : decode cX1_wordOf 16 = .ok (.aload_n 0, 1) := dk_42 (dk_at dksX1_wordOf_0 16 rfl rfl)
theorem dX1_wordOf_17 : decode cX1_wordOf 17 = .ok (.getfield 44, 3) := dk_180 0 44 (dk_at dksX1_wordOf_0 17 rfl rfl)
theorem dX1_wordOf_20 : decode cX1_wordOf 20 = .ok (.invokevirtual 68, 3) := dk_182 0 68 (dk_at dksX1_wordOf_0 20 rfl rfl)
theorem dX1_wordOf_23 : decode cX1_wordOf 23 = .ok (.athrow, 1) := dk_191 (dk_at dksX1_wordOf_0 23 rfl rfl)
theorem dX1_wordOf_24 : decode cX1_wordOf 24 = .ok (.aload_n 0, 1) := dk_42 (dk_at dksX1_wordOf_1 0 rfl rfl)
theorem dX1_wordOf_25 : decode cX1_wordOf 25 = .ok (.invokevirtual 37, 3) := dk_182 0 37 (dk_at dksX1_wordOf_1 1 rfl rfl)
theorem dX1_wordOf_28 : decode cX1_wordOf 28 = .ok (.iload_n 2, 1) := dk_28 (dk_at dksX1_wordOf_1 4 rfl rfl)
theorem dX1_wordOf_29 : decode cX1_wordOf 29 = .ok (.ireturn, 1) := dk_172 (dk_at dksX1_wordOf_1 5 rfl rfl)
abbrev cX1_link : ByteArray := prog_17_method_12_code
def yX1_link : MethodName := ⟨RX1, "link", "(LPatentHall;LPatentHall$Text;Ljava/lang/String;II)V"⟩
def dkwX1_link_3 : List UInt8 := [21, 5, 160, 0, 11, 42, 7, 21, 4, 182, 0, 68, 191, 44, 25, 8, 182, 0, 113, 42, 182, 0, 37, 177]
abbrev dktX1_link_3 : List UInt8 := dkwX1_link_3 ++ []
def dkwX1_link_2 : List UInt8 := [58, 8, 44, 25, 8, 182, 0, 106, 153, 0, 11, 42, 6, 21, 4, 182, 0, 68, 191, 44, 180, 0, 110]
abbrev dktX1_link_2 : List UInt8 := dkwX1_link_2 ++ dktX1_link_3
def dkwX1_link_1 : List UInt8 := [187, 0, 101, 89, 21, 6, 21, 7, 42, 44, 42, 182, 0, 71, 42, 180, 0, 44, 182, 0, 97, 183, 0, 103]
abbrev dktX1_link_1 : List UInt8 := dkwX1_link_1 ++ dktX1_link_2
def dkwX1_link_0 : List UInt8 := [42, 182, 0, 71, 87, 42, 44, 45, 21, 4, 182, 0, 97, 54, 6, 42, 43, 182, 0, 83, 54, 7]
abbrev dktX1_link_0 : List UInt8 := dkwX1_link_0 ++ dktX1_link_1
theorem dksX1_link_0 : cX1_link.data.toList.drop 0 = dktX1_link_0 := by decide +kernel
theorem dksX1_link_1 : cX1_link.data.toList.drop 22 = dktX1_link_1 := dk_seg dksX1_link_0 22 rfl rfl
theorem dksX1_link_2 : cX1_link.data.toList.drop 46 = dktX1_link_2 := dk_seg dksX1_link_1 24 rfl rfl
theorem dksX1_link_3 : cX1_link.data.toList.drop 69 = dktX1_link_3 := dk_seg dksX1_link_2 23 rfl rfl
theorem dX1_link_0 : decode cX1_link 0 = .ok (.aload_n 0, 1) := dk_42 (dk_at dksX1_link_0 0 rfl rfl)
theorem dX1_link_1 : decode cX1_link 1 = .ok (.invokevirtual 71, 3) := dk_182 0 71 (dk_at dksX1_link_0 1 rfl rfl)
theorem dX1_link_4 : decode cX1_link 4 = .ok (.pop, 1) := dk_87 (dk_at dksX1_link_0 4 rfl rfl)
theorem dX1_link_5 : decode cX1_link 5 = .ok (.aload_n 0, 1) := dk_42 (dk_at dksX1_link_0 5 rfl rfl)
theorem dX1_link_6 : decode cX1_link 6 = .ok (.aload_n 2, 1) := dk_44 (dk_at dksX1_link_0 6 rfl rfl)
theorem dX1_link_7 : decode cX1_link 7 = .ok (.aload_n 3, 1) := dk_45 (dk_at dksX1_link_0 7 rfl rfl)
theorem dX1_link_8 : decode cX1_link 8 = .ok (.iload 4, 2) := dk_21 4 (dk_at dksX1_link_0 8 rfl rfl)
theorem dX1_link_10 : decode cX1_link 10 = .ok (.invokevirtual 97, 3) := dk_182 0 97 (dk_at dksX1_link_0 10 rfl rfl)
theorem dX1_link_13 : decode cX1_link 13 = .ok (.istore 6, 2) := dk_54 6 (dk_at dksX1_link_0 13 rfl rfl)
theorem dX1_link_15 : decode cX1_link 15 = .ok (.aload_n 0, 1) := dk_42 (dk_at dksX1_link_0 15 rfl rfl)
theorem dX1_link_16 : decode cX1_link 16 = .ok (.aload_n 1, 1) := dk_43 (dk_at dksX1_link_0 16 rfl rfl)
theorem dX1_link_17 : decode cX1_link 17 = .ok (.invokevirtual 83, 3) := dk_182 0 83 (dk_at dksX1_link_0 17 rfl rfl)
theorem dX1_link_20 : decode cX1_link 20 = .ok (.istore 7, 2) := dk_54 7 (dk_at dksX1_link_0 20 rfl rfl)
theorem dX1_link_22 : decode cX1_link 22 = .ok (.new 101, 3) := dk_187 0 101 (dk_at dksX1_link_1 0 rfl rfl)
theorem dX1_link_25 : decode cX1_link 25 = .ok (.dup, 1) := dk_89 (dk_at dksX1_link_1 3 rfl rfl)
theorem dX1_link_26 : decode cX1_link 26 = .ok (.iload 6, 2) := dk_21 6 (dk_at dksX1_link_1 4 rfl rfl)
theorem dX1_link_28 : decode cX1_link 28 = .ok (.iload 7, 2) := dk_21 7 (dk_at dksX1_link_1 6 rfl rfl)
theorem dX1_link_30 : decode cX1_link 30 = .ok (.aload_n 0, 1) := dk_42 (dk_at dksX1_link_1 8 rfl rfl)
theorem dX1_link_31 : decode cX1_link 31 = .ok (.aload_n 2, 1) := dk_44 (dk_at dksX1_link_1 9 rfl rfl)
theorem dX1_link_32 : decode cX1_link 32 = .ok (.aload_n 0, 1) := dk_42 (dk_at dksX1_link_1 10 rfl rfl)
theorem dX1_link_33 : decode cX1_link 33 = .ok (.invokevirtual 71, 3) := dk_182 0 71 (dk_at dksX1_link_1 11 rfl rfl)
theorem dX1_link_36 : decode cX1_link 36 = .ok (.aload_n 0, 1) := dk_42 (dk_at dksX1_link_1 14 rfl rfl)
theorem dX1_link_37 : decode cX1_link 37 = .ok (.getfield 44, 3) := dk_180 0 44 (dk_at dksX1_link_1 15 rfl rfl)
theorem dX1_link_40 : decode cX1_link 40 = .ok (.invokevirtual 97, 3) := dk_182 0 97 (dk_at dksX1_link_1 18 rfl rfl)
theorem dX1_link_43 : decode cX1_link 43 = .ok (.invokespecial 103, 3) := dk_183 0 103 (dk_at dksX1_link_1 21 rfl rfl)
theorem dX1_link_46 : decode cX1_link 46 = .ok (.astore 8, 2) := dk_58 8 (dk_at dksX1_link_2 0 rfl rfl)
theorem dX1_link_48 : decode cX1_link 48 = .ok (.aload_n 2, 1) := dk_44 (dk_at dksX1_link_2 2 rfl rfl)
theorem dX1_link_49 : decode cX1_link 49 = .ok (.aload 8, 2) := dk_25 8 (dk_at dksX1_link_2 3 rfl rfl)
theorem dX1_link_51 : decode cX1_link 51 = .ok (.invokevirtual 106, 3) := dk_182 0 106 (dk_at dksX1_link_2 5 rfl rfl)
theorem dX1_link_54 : decode cX1_link 54 = .ok (.ifCond .eq 11, 3) := dk_153 0 11 (dk_at dksX1_link_2 8 rfl rfl)
theorem dX1_link_57 : decode cX1_link 57 = .ok (.aload_n 0, 1) := dk_42 (dk_at dksX1_link_2 11 rfl rfl)
theorem dX1_link_58 : decode cX1_link 58 = .ok (.iconst 3, 1) := dk_6 (dk_at dksX1_link_2 12 rfl rfl)
theorem dX1_link_59 : decode cX1_link 59 = .ok (.iload 4, 2) := dk_21 4 (dk_at dksX1_link_2 13 rfl rfl)
theorem dX1_link_61 : decode cX1_link 61 = .ok (.invokevirtual 68, 3) := dk_182 0 68 (dk_at dksX1_link_2 15 rfl rfl)
theorem dX1_link_64 : decode cX1_link 64 = .ok (.athrow, 1) := dk_191 (dk_at dksX1_link_2 18 rfl rfl)
theorem dX1_link_65 : decode cX1_link 65 = .ok (.aload_n 2, 1) := dk_44 (dk_at dksX1_link_2 19 rfl rfl)
theorem dX1_link_66 : decode cX1_link 66 = .ok (.getfield 110, 3) := dk_180 0 110 (dk_at dksX1_link_2 20 rfl rfl)
theorem dX1_link_69 : decode cX1_link 69 = .ok (.iload 5, 2) := dk_21 5 (dk_at dksX1_link_3 0 rfl rfl)
theorem dX1_link_71 : decode cX1_link 71 = .ok (.if_icmp .ne 11, 3) := dk_160 0 11 (dk_at dksX1_link_3 2 rfl rfl)
theorem dX1_link_74 : decode cX1_link 74 = .ok (.aload_n 0, 1) := dk_42 (dk_at dksX1_link_3 5 rfl rfl)
theorem dX1_link_75 : decode cX1_link 75 = .ok (.iconst 4, 1) := dk_7 (dk_at dksX1_link_3 6 rfl rfl)
theorem dX1_link_76 : decode cX1_link 76 = .ok (.iload 4, 2) := dk_21 4 (dk_at dksX1_link_3 7 rfl rfl)
theorem dX1_link_78 : decode cX1_link 78 = .ok (.invokevirtual 68, 3) := dk_182 0 68 (dk_at dksX1_link_3 9 rfl rfl)
theorem dX1_link_81 : decode cX1_link 81 = .ok (.athrow, 1) := dk_191 (dk_at dksX1_link_3 12 rfl rfl)
theorem dX1_link_82 : decode cX1_link 82 = .ok (.aload_n 2, 1) := dk_44 (dk_at dksX1_link_3 13 rfl rfl)
theorem dX1_link_83 : decode cX1_link 83 = .ok (.aload 8, 2) := dk_25 8 (dk_at dksX1_link_3 14 rfl rfl)
theorem dX1_link_85 : decode cX1_link 85 = .ok (.invokevirtual 113, 3) := dk_182 0 113 (dk_at dksX1_link_3 16 rfl rfl)
theorem dX1_link_88 : decode cX1_link 88 = .ok (.aload_n 0, 1) := dk_42 (dk_at dksX1_link_3 19 rfl rfl)
theorem dX1_link_89 : decode cX1_link 89 = .ok (.invokevirtual 37, 3) := dk_182 0 37 (dk_at dksX1_link_3 20 rfl rfl)
theorem dX1_link_92 : decode cX1_link 92 = .ok (.return_, 1) := dk_177 (dk_at dksX1_link_3 23 rfl rfl)
abbrev cX1_part : ByteArray := prog_17_method_10_code
def yX1_part : MethodName := ⟨RX1, "part", "(LPatentHall$Text;Ljava/lang/String;I)I"⟩
def dkwX1_part_0 : List UInt8 := [43, 44, 182, 0, 78, 54, 4, 21, 4, 2, 160, 0, 10, 42, 5, 29, 182, 0, 68, 191, 21, 4, 172]
abbrev dktX1_part_0 : List UInt8 := dkwX1_part_0 ++ []
theorem dksX1_part_0 : cX1_part.data.toList.drop 0 = dktX1_part_0 := by decide +kernel
theorem dX1_part_0 : decode cX1_part 0 = .ok (.aload_n 1, 1) := dk_43 (dk_at dksX1_part_0 0 rfl rfl)
theorem dX1_part_1 : decode cX1_part 1 = .ok (.aload_n 2, 1) := dk_44 (dk_at dksX1_part_0 1 rfl rfl)
theorem dX1_part_2 : decode cX1_part 2 = .ok (.invokevirtual 78, 3) := dk_182 0 78 (dk_at dksX1_part_0 2 rfl rfl)
theorem dX1_part_5 : decode cX1_part 5 = .ok (.istore 4, 2) := dk_54 4 (dk_at dksX1_part_0 5 rfl rfl)
theorem dX1_part_7 : decode cX1_part 7 = .ok (.iload 4, 2) := dk_21 4 (dk_at dksX1_part_0 7 rfl rfl)
theorem dX1_part_9 : decode cX1_part 9 = .ok (.iconst (-1), 1) := dk_2 (dk_at dksX1_part_0 9 rfl rfl)
theorem dX1_part_10 : decode cX1_part 10 = .ok (.if_icmp .ne 10, 3) := dk_160 0 10 (dk_at dksX1_part_0 10 rfl rfl)
theorem dX1_part_13 : decode cX1_part 13 = .ok (.aload_n 0, 1) := dk_42 (dk_at dksX1_part_0 13 rfl rfl)
theorem dX1_part_14 : decode cX1_part 14 = .ok (.iconst 2, 1) := dk_5 (dk_at dksX1_part_0 14 rfl rfl)
theorem dX1_part_15 : decode cX1_part 15 = .ok (.iload_n 3, 1) := dk_29 (dk_at dksX1_part_0 15 rfl rfl)
theorem dX1_part_16 : decode cX1_part 16 = .ok (.invokevirtual 68, 3) := dk_182 0 68 (dk_at dksX1_part_0 16 rfl rfl)
theorem dX1_part_19 : decode cX1_part 19 = .ok (.athrow, 1) := dk_191 (dk_at dksX1_part_0 19 rfl rfl)
theorem dX1_part_20 : decode cX1_part 20 = .ok (.iload 4, 2) := dk_21 4 (dk_at dksX1_part_0 20 rfl rfl)
theorem dX1_part_22 : decode cX1_part 22 = .ok (.ireturn, 1) := dk_172 (dk_at dksX1_part_0 22 rfl rfl)
theorem q60 : (Jvm.Cond.initialized "PatentHall$Reader") ∈ lw_all := lw_g (lw_at lw_m1 2 rfl) rfl
theorem q100 : (Jvm.Cond.instantiable "PatentHall$Reader" (8 : Nat)) ∈ lw_all := lw_g (lw_at lw_m1 42 rfl) rfl
theorem q102 : (Jvm.Cond.instanceMethod ({ cls := "PatentHall$Reader", name := "<init>", desc := "([B)V" } : Jvm.MethodName)) ∈ lw_all := lw_g (lw_at lw_m1 44 rfl) rfl
theorem q103 : (Jvm.Cond.code ({ cls := "PatentHall$Reader", name := "<init>", desc := "([B)V" } : Jvm.MethodName) prog_17_method_1_code (2 : Nat) (Option.none : Option Jvm.ClassFile.FieldType)) ∈ lw_all := lw_g (lw_at lw_m1 45 rfl) rfl
theorem q104 : (Jvm.Cond.methodLink "PatentHall$Reader" (3 : Nat) ({ cls := "java/lang/Object", name := "<init>", desc := "()V" } : Jvm.MethodName)) ∈ lw_all := lw_g (lw_at lw_m1 46 rfl) rfl
theorem q105 : (Jvm.Cond.classLink "PatentHall$Reader" (9 : Nat) "PatentHall$Refused") ∈ lw_all := lw_g (lw_at lw_m1 47 rfl) rfl
theorem q145 : (Jvm.Cond.methodLink "PatentHall$Reader" (11 : Nat) ({ cls := "PatentHall$Refused", name := "<init>", desc := "()V" } : Jvm.MethodName)) ∈ lw_all := lw_g (lw_at lw_m1 87 rfl) rfl
theorem q183 : (Jvm.Cond.fieldLink "PatentHall$Reader" (12 : Nat) "PatentHall$Reader" "wrong" "LPatentHall$Refused;") ∈ lw_all := lw_g (lw_at lw_m1 125 rfl) rfl
theorem q184 : (Jvm.Cond.fieldLink "PatentHall$Reader" (22 : Nat) "PatentHall$Reader" "text" "[B") ∈ lw_all := lw_g (lw_at lw_m1 126 rfl) rfl
theorem q185 : (Jvm.Cond.fieldLink "PatentHall$Reader" (18 : Nat) "PatentHall$Reader" "letters" "[C") ∈ lw_all := lw_g (lw_at lw_m1 127 rfl) rfl
theorem q186 : (Jvm.Cond.fieldLink "PatentHall$Reader" (30 : Nat) "PatentHall$Reader" "size" "I") ∈ lw_all := lw_g (lw_at lw_m1 128 rfl) rfl
theorem q187 : (Jvm.Cond.fieldLink "PatentHall$Reader" (34 : Nat) "PatentHall$Reader" "end" "I") ∈ lw_all := lw_g (lw_at lw_m1 129 rfl) rfl
theorem q188 : (Jvm.Cond.fieldLink "PatentHall$Reader" (46 : Nat) "PatentHall$Reader" "token" "I") ∈ lw_all := lw_g (lw_at lw_m1 130 rfl) rfl
theorem q189 : (Jvm.Cond.fieldLink "PatentHall$Reader" (44 : Nat) "PatentHall$Reader" "at" "I") ∈ lw_all := lw_g (lw_at lw_m1 131 rfl) rfl
theorem q190 : (Jvm.Cond.fieldLink "PatentHall$Reader" (60 : Nat) "PatentHall$Reader" "word" "Ljava/lang/String;") ∈ lw_all := lw_g (lw_at lw_m1 132 rfl) rfl
theorem q191 : (Jvm.Cond.laysFinal "PatentHall$Reader" "PatentHall$Reader" "wrong" "LPatentHall$Refused;") ∈ lw_all := lw_g (lw_at lw_m1 133 rfl) rfl
theorem q192 : (Jvm.Cond.soleField "PatentHall$Reader" "wrong") ∈ lw_all := lw_g (lw_at lw_m1 134 rfl) rfl
theorem q193 : (Jvm.Cond.laysFinal "PatentHall$Reader" "PatentHall$Reader" "text" "[B") ∈ lw_all := lw_g (lw_at lw_m1 135 rfl) rfl
theorem q194 : (Jvm.Cond.soleField "PatentHall$Reader" "text") ∈ lw_all := lw_g (lw_at lw_m1 136 rfl) rfl
theorem q195 : (Jvm.Cond.laysFinal "PatentHall$Reader" "PatentHall$Reader" "letters" "[C") ∈ lw_all := lw_g (lw_at lw_m1 137 rfl) rfl
theorem q196 : (Jvm.Cond.soleField "PatentHall$Reader" "letters") ∈ lw_all := lw_g (lw_at lw_m1 138 rfl) rfl
theorem q197 : (Jvm.Cond.lays "PatentHall$Reader" "PatentHall$Reader" "size" "I") ∈ lw_all := lw_g (lw_at lw_m1 139 rfl) rfl
theorem q198 : (Jvm.Cond.soleField "PatentHall$Reader" "size") ∈ lw_all := lw_g (lw_at lw_m1 140 rfl) rfl
theorem q199 : (Jvm.Cond.lays "PatentHall$Reader" "PatentHall$Reader" "end" "I") ∈ lw_all := lw_g (lw_at lw_m1 141 rfl) rfl
theorem q200 : (Jvm.Cond.soleField "PatentHall$Reader" "end") ∈ lw_all := lw_g (lw_at lw_m1 142 rfl) rfl
theorem q201 : (Jvm.Cond.lays "PatentHall$Reader" "PatentHall$Reader" "token" "I") ∈ lw_all := lw_g (lw_at lw_m1 143 rfl) rfl
theorem q202 : (Jvm.Cond.soleField "PatentHall$Reader" "token") ∈ lw_all := lw_g (lw_at lw_m1 144 rfl) rfl
theorem q203 : (Jvm.Cond.lays "PatentHall$Reader" "PatentHall$Reader" "at" "I") ∈ lw_all := lw_g (lw_at lw_m1 145 rfl) rfl
theorem q204 : (Jvm.Cond.soleField "PatentHall$Reader" "at") ∈ lw_all := lw_g (lw_at lw_m1 146 rfl) rfl
theorem q205 : (Jvm.Cond.lays "PatentHall$Reader" "PatentHall$Reader" "word" "Ljava/lang/String;") ∈ lw_all := lw_g (lw_at lw_m1 147 rfl) rfl
theorem q206 : (Jvm.Cond.soleField "PatentHall$Reader" "word") ∈ lw_all := lw_g (lw_at lw_m1 148 rfl) rfl
theorem q207 : (Jvm.Cond.superclass "PatentHall$Reader" "java/lang/Object") ∈ lw_all := lw_g (lw_at lw_m1 149 rfl) rfl
theorem q375 : (Jvm.Cond.instanceMethod ({ cls := "PatentHall$Reader", name := "alone", desc := "(I)Ljava/lang/String;" } : Jvm.MethodName)) ∈ lw_all := lw_g (lw_at lw_m2 77 rfl) rfl
theorem q376 : (Jvm.Cond.selects "PatentHall$Reader" ({ cls := "PatentHall$Reader", name := "alone", desc := "(I)Ljava/lang/String;" } : Jvm.MethodName) ({ cls := "PatentHall$Reader", name := "alone", desc := "(I)Ljava/lang/String;" } : Jvm.MethodName)) ∈ lw_all := lw_g (lw_at lw_m2 78 rfl) rfl
theorem q377 : (Jvm.Cond.code ({ cls := "PatentHall$Reader", name := "alone", desc := "(I)Ljava/lang/String;" } : Jvm.MethodName) prog_17_method_7_code (3 : Nat) (Option.some (Jvm.ClassFile.FieldType.object "java/lang/String"))) ∈ lw_all := lw_g (lw_at lw_m2 79 rfl) rfl
theorem q378 : (Jvm.Cond.methodLink "PatentHall$Reader" (64 : Nat) ({ cls := "PatentHall$Reader", name := "begin", desc := "(I)V" } : Jvm.MethodName)) ∈ lw_all := lw_g (lw_at lw_m2 80 rfl) rfl
theorem q379 : (Jvm.Cond.privateMethod ({ cls := "PatentHall$Reader", name := "begin", desc := "(I)V" } : Jvm.MethodName)) ∈ lw_tbl := lw_at lw_m2 81 rfl
theorem q380 : (Jvm.Cond.instanceMethod ({ cls := "PatentHall$Reader", name := "begin", desc := "(I)V" } : Jvm.MethodName)) ∈ lw_all := lw_g (lw_at lw_m2 82 rfl) rfl
theorem q381 : (Jvm.Cond.code ({ cls := "PatentHall$Reader", name := "begin", desc := "(I)V" } : Jvm.MethodName) prog_17_method_5_code (2 : Nat) (Option.none : Option Jvm.ClassFile.FieldType)) ∈ lw_all := lw_g (lw_at lw_m2 83 rfl) rfl
theorem q382 : (Jvm.Cond.methodLink "PatentHall$Reader" (37 : Nat) ({ cls := "PatentHall$Reader", name := "next", desc := "()V" } : Jvm.MethodName)) ∈ lw_all := lw_g (lw_at lw_m2 84 rfl) rfl
theorem q383 : (Jvm.Cond.privateMethod ({ cls := "PatentHall$Reader", name := "next", desc := "()V" } : Jvm.MethodName)) ∈ lw_tbl := lw_at lw_m2 85 rfl
theorem q384 : (Jvm.Cond.instanceMethod ({ cls := "PatentHall$Reader", name := "next", desc := "()V" } : Jvm.MethodName)) ∈ lw_all := lw_g (lw_at lw_m2 86 rfl) rfl
theorem q385 : (Jvm.Cond.code ({ cls := "PatentHall$Reader", name := "next", desc := "()V" } : Jvm.MethodName) prog_17_method_6_code (3 : Nat) (Option.none : Option Jvm.ClassFile.FieldType)) ∈ lw_all := lw_g (lw_at lw_m2 87 rfl) rfl
theorem q386 : (Jvm.Cond.methodLink "PatentHall$Reader" (40 : Nat) ({ cls := "PatentHall$Reader", name := "see", desc := "(I)I" } : Jvm.MethodName)) ∈ lw_all := lw_g (lw_at lw_m2 88 rfl) rfl
theorem q387 : (Jvm.Cond.privateMethod ({ cls := "PatentHall$Reader", name := "see", desc := "(I)I" } : Jvm.MethodName)) ∈ lw_tbl := lw_at lw_m2 89 rfl
theorem q388 : (Jvm.Cond.instanceMethod ({ cls := "PatentHall$Reader", name := "see", desc := "(I)I" } : Jvm.MethodName)) ∈ lw_all := lw_g (lw_at lw_m2 90 rfl) rfl
theorem q389 : (Jvm.Cond.code ({ cls := "PatentHall$Reader", name := "see", desc := "(I)I" } : Jvm.MethodName) prog_17_method_3_code (2 : Nat) (Option.some Jvm.ClassFile.FieldType.int)) ∈ lw_all := lw_g (lw_at lw_m2 91 rfl) rfl
theorem q390 : (Jvm.Cond.methodLink "PatentHall$Reader" (49 : Nat) ({ cls := "PatentHall$Reader", name := "isSmall", desc := "(I)Z" } : Jvm.MethodName)) ∈ lw_all := lw_g (lw_at lw_m2 92 rfl) rfl
theorem q391 : (Jvm.Cond.static ({ cls := "PatentHall$Reader", name := "isSmall", desc := "(I)Z" } : Jvm.MethodName)) ∈ lw_all := lw_g (lw_at lw_m2 93 rfl) rfl
theorem q392 : (Jvm.Cond.code ({ cls := "PatentHall$Reader", name := "isSmall", desc := "(I)Z" } : Jvm.MethodName) prog_17_method_4_code (1 : Nat) (Option.some Jvm.ClassFile.FieldType.boolean)) ∈ lw_all := lw_g (lw_at lw_m2 94 rfl) rfl
theorem q393 : (Jvm.Cond.classLink "PatentHall$Reader" (53 : Nat) "java/lang/String") ∈ lw_all := lw_g (lw_at lw_m2 95 rfl) rfl
theorem q395 : (Jvm.Cond.methodLink "PatentHall$Reader" (55 : Nat) ({ cls := "java/lang/String", name := "<init>", desc := "([CII)V" } : Jvm.MethodName)) ∈ lw_all := lw_g (lw_at lw_m2 97 rfl) rfl
theorem q469 : (Jvm.Cond.stringRef "PatentHall$Reader" (58 : Nat) "") ∈ lw_tbl := lw_at lw_m2 171 rfl
theorem q554 : (Jvm.Cond.fieldLink "PatentHall$Reader" (86 : Nat) "PatentHall$Text" "parts" "I") ∈ lw_all := lw_g (lw_at lw_m3 16 rfl) rfl
theorem q558 : (Jvm.Cond.fieldLink "PatentHall$Reader" (110 : Nat) "PatentHall$Text" "linkMany" "I") ∈ lw_all := lw_g (lw_at lw_m3 20 rfl) rfl
theorem q576 : (Jvm.Cond.instanceMethod ({ cls := "PatentHall$Reader", name := "read", desc := "(ILPatentHall;LPatentHall$Text;II)LPatentHall$Text;" } : Jvm.MethodName)) ∈ lw_all := lw_g (lw_at lw_m3 38 rfl) rfl
theorem q577 : (Jvm.Cond.selects "PatentHall$Reader" ({ cls := "PatentHall$Reader", name := "read", desc := "(ILPatentHall;LPatentHall$Text;II)LPatentHall$Text;" } : Jvm.MethodName) ({ cls := "PatentHall$Reader", name := "read", desc := "(ILPatentHall;LPatentHall$Text;II)LPatentHall$Text;" } : Jvm.MethodName)) ∈ lw_all := lw_g (lw_at lw_m3 39 rfl) rfl
theorem q578 : (Jvm.Cond.code ({ cls := "PatentHall$Reader", name := "read", desc := "(ILPatentHall;LPatentHall$Text;II)LPatentHall$Text;" } : Jvm.MethodName) prog_17_method_11_code (10 : Nat) (Option.some (Jvm.ClassFile.FieldType.object "PatentHall$Text"))) ∈ lw_all := lw_g (lw_at lw_m3 40 rfl) rfl
theorem q579 : (Jvm.Cond.methodLink "PatentHall$Reader" (71 : Nat) ({ cls := "PatentHall$Reader", name := "letters", desc := "()Ljava/lang/String;" } : Jvm.MethodName)) ∈ lw_all := lw_g (lw_at lw_m3 41 rfl) rfl
theorem q580 : (Jvm.Cond.privateMethod ({ cls := "PatentHall$Reader", name := "letters", desc := "()Ljava/lang/String;" } : Jvm.MethodName)) ∈ lw_tbl := lw_at lw_m3 42 rfl
theorem q581 : (Jvm.Cond.instanceMethod ({ cls := "PatentHall$Reader", name := "letters", desc := "()Ljava/lang/String;" } : Jvm.MethodName)) ∈ lw_all := lw_g (lw_at lw_m3 43 rfl) rfl
theorem q582 : (Jvm.Cond.code ({ cls := "PatentHall$Reader", name := "letters", desc := "()Ljava/lang/String;" } : Jvm.MethodName) prog_17_method_8_code (1 : Nat) (Option.some (Jvm.ClassFile.FieldType.object "java/lang/String"))) ∈ lw_all := lw_g (lw_at lw_m3 44 rfl) rfl
theorem q583 : (Jvm.Cond.methodLink "PatentHall$Reader" (68 : Nat) ({ cls := "PatentHall$Reader", name := "fail", desc := "(II)LPatentHall$Refused;" } : Jvm.MethodName)) ∈ lw_all := lw_g (lw_at lw_m3 45 rfl) rfl
theorem q584 : (Jvm.Cond.privateMethod ({ cls := "PatentHall$Reader", name := "fail", desc := "(II)LPatentHall$Refused;" } : Jvm.MethodName)) ∈ lw_tbl := lw_at lw_m3 46 rfl
theorem q585 : (Jvm.Cond.instanceMethod ({ cls := "PatentHall$Reader", name := "fail", desc := "(II)LPatentHall$Refused;" } : Jvm.MethodName)) ∈ lw_all := lw_g (lw_at lw_m3 47 rfl) rfl
theorem q586 : (Jvm.Cond.code ({ cls := "PatentHall$Reader", name := "fail", desc := "(II)LPatentHall$Refused;" } : Jvm.MethodName) prog_17_method_2_code (3 : Nat) (Option.some (Jvm.ClassFile.FieldType.object "PatentHall$Refused"))) ∈ lw_all := lw_g (lw_at lw_m3 48 rfl) rfl
theorem q587 : (Jvm.Cond.methodLink "PatentHall$Reader" (26 : Nat) ({ cls := "PatentHall$Refused", name := "at", desc := "(II)LPatentHall$Refused;" } : Jvm.MethodName)) ∈ lw_all := lw_g (lw_at lw_m3 49 rfl) rfl
theorem q592 : (Jvm.Cond.methodLink "PatentHall$Reader" (78 : Nat) ({ cls := "PatentHall$Text", name := "partOf", desc := "(Ljava/lang/String;)I" } : Jvm.MethodName)) ∈ lw_all := lw_g (lw_at lw_m3 54 rfl) rfl
theorem q597 : (Jvm.Cond.methodLink "PatentHall$Reader" (83 : Nat) ({ cls := "PatentHall$Reader", name := "wordOf", desc := "(LPatentHall;)I" } : Jvm.MethodName)) ∈ lw_all := lw_g (lw_at lw_m3 59 rfl) rfl
theorem q598 : (Jvm.Cond.privateMethod ({ cls := "PatentHall$Reader", name := "wordOf", desc := "(LPatentHall;)I" } : Jvm.MethodName)) ∈ lw_tbl := lw_at lw_m3 60 rfl
theorem q599 : (Jvm.Cond.instanceMethod ({ cls := "PatentHall$Reader", name := "wordOf", desc := "(LPatentHall;)I" } : Jvm.MethodName)) ∈ lw_all := lw_g (lw_at lw_m3 61 rfl) rfl
theorem q600 : (Jvm.Cond.code ({ cls := "PatentHall$Reader", name := "wordOf", desc := "(LPatentHall;)I" } : Jvm.MethodName) prog_17_method_9_code (3 : Nat) (Option.some Jvm.ClassFile.FieldType.int)) ∈ lw_all := lw_g (lw_at lw_m3 62 rfl) rfl
theorem q601 : (Jvm.Cond.methodLinkNest "PatentHall$Reader" (74 : Nat) ({ cls := "PatentHall", name := "wordOf", desc := "(Ljava/lang/String;)I" } : Jvm.MethodName) "PatentHall") ∈ lw_tbl := lw_at lw_m3 63 rfl
theorem q602 : (Jvm.Cond.methodLink "PatentHall$Reader" (89 : Nat) ({ cls := "PatentHall$Text", name := "puts", desc := "(Ljava/lang/String;I)V" } : Jvm.MethodName)) ∈ lw_all := lw_g (lw_at lw_m3 64 rfl) rfl
theorem q606 : (Jvm.Cond.methodLink "PatentHall$Reader" (93 : Nat) ({ cls := "PatentHall$Reader", name := "link", desc := "(LPatentHall;LPatentHall$Text;Ljava/lang/String;II)V" } : Jvm.MethodName)) ∈ lw_all := lw_g (lw_at lw_m3 68 rfl) rfl
theorem q607 : (Jvm.Cond.privateMethod ({ cls := "PatentHall$Reader", name := "link", desc := "(LPatentHall;LPatentHall$Text;Ljava/lang/String;II)V" } : Jvm.MethodName)) ∈ lw_tbl := lw_at lw_m3 69 rfl
theorem q608 : (Jvm.Cond.instanceMethod ({ cls := "PatentHall$Reader", name := "link", desc := "(LPatentHall;LPatentHall$Text;Ljava/lang/String;II)V" } : Jvm.MethodName)) ∈ lw_all := lw_g (lw_at lw_m3 70 rfl) rfl
theorem q609 : (Jvm.Cond.code ({ cls := "PatentHall$Reader", name := "link", desc := "(LPatentHall;LPatentHall$Text;Ljava/lang/String;II)V" } : Jvm.MethodName) prog_17_method_12_code (9 : Nat) (Option.none : Option Jvm.ClassFile.FieldType)) ∈ lw_all := lw_g (lw_at lw_m3 71 rfl) rfl
theorem q610 : (Jvm.Cond.methodLink "PatentHall$Reader" (97 : Nat) ({ cls := "PatentHall$Reader", name := "part", desc := "(LPatentHall$Text;Ljava/lang/String;I)I" } : Jvm.MethodName)) ∈ lw_all := lw_g (lw_at lw_m3 72 rfl) rfl
theorem q611 : (Jvm.Cond.privateMethod ({ cls := "PatentHall$Reader", name := "part", desc := "(LPatentHall$Text;Ljava/lang/String;I)I" } : Jvm.MethodName)) ∈ lw_tbl := lw_at lw_m3 73 rfl
theorem q612 : (Jvm.Cond.instanceMethod ({ cls := "PatentHall$Reader", name := "part", desc := "(LPatentHall$Text;Ljava/lang/String;I)I" } : Jvm.MethodName)) ∈ lw_all := lw_g (lw_at lw_m3 74 rfl) rfl
theorem q613 : (Jvm.Cond.code ({ cls := "PatentHall$Reader", name := "part", desc := "(LPatentHall$Text;Ljava/lang/String;I)I" } : Jvm.MethodName) prog_17_method_10_code (5 : Nat) (Option.some Jvm.ClassFile.FieldType.int)) ∈ lw_all := lw_g (lw_at lw_m3 75 rfl) rfl
theorem q614 : (Jvm.Cond.classLink "PatentHall$Reader" (101 : Nat) "PatentHall$Link") ∈ lw_all := lw_g (lw_at lw_m3 76 rfl) rfl
theorem q616 : (Jvm.Cond.methodLink "PatentHall$Reader" (103 : Nat) ({ cls := "PatentHall$Link", name := "<init>", desc := "(III)V" } : Jvm.MethodName)) ∈ lw_all := lw_g (lw_at lw_m3 78 rfl) rfl
theorem q636 : (Jvm.Cond.methodLink "PatentHall$Reader" (106 : Nat) ({ cls := "PatentHall$Text", name := "has", desc := "(LPatentHall$Link;)Z" } : Jvm.MethodName)) ∈ lw_all := lw_g (lw_at lw_m3 98 rfl) rfl
theorem q644 : (Jvm.Cond.methodLink "PatentHall$Reader" (113 : Nat) ({ cls := "PatentHall$Text", name := "puts", desc := "(LPatentHall$Link;)V" } : Jvm.MethodName)) ∈ lw_all := lw_g (lw_at lw_m3 106 rfl) rfl
theorem in_X1 : ∀ w ∈ wsX10, w ∈ lw_all := lw_in wsX10 [191, 193, 195, 197, 199, 201, 203, 205] (by decide +kernel) (by decide +kernel)

/-! PatentHall$Refused -/
set_option maxRecDepth 100000
def RX2 : String := "PatentHall$Refused"
def TX2 : u_T := fun k => match k with
  | 0 => ("java/lang/Throwable", "cause", "Ljava/lang/Throwable;", false)
  | 1 => ("java/lang/Throwable", "stackTrace", "[Ljava/lang/StackTraceElement;", false)
  | 2 => ("java/lang/Throwable", "suppressedExceptions", "Ljava/util/List;", false)
  | 3 => ("java/lang/Throwable", "detailMessage", "Ljava/lang/String;", false)
  | 4 => ("java/lang/Throwable", "backtrace", "Ljava/lang/Object;", false)
  | 5 => ("java/lang/Throwable", "depth", "I", false)
  | 6 => ("PatentHall$Refused", "why", "I", false)
  | 7 => ("PatentHall$Refused", "fault", "I", false)
  | _ => ("PatentHall$Refused", "place", "I", false)
def tyX2 : Nat → FieldType := fun k => match k with
  | 0 => .object "java/lang/Throwable"
  | 1 => .array (.object "java/lang/StackTraceElement")
  | 2 => .object "java/util/List"
  | 3 => .object "java/lang/String"
  | 4 => .object "java/lang/Object"
  | 5 => .int
  | 6 => .int
  | 7 => .int
  | _ => .int
abbrev wsX20 : List Cond := u_ws RX2 TX2 9
theorem nmX2 : ∀ a, a < 9 → ∀ b, b < 9 → a ≠ b → (TX2 a).2.1 ≠ (TX2 b).2.1 := by decide +kernel
theorem tyX2_ok : ∀ k, k < 9 → parseFieldDescriptor (TX2 k).2.2.1 = some (tyX2 k) := by decide +kernel
abbrev cX2_init : ByteArray := prog_18_method_1_code
def yX2_init : MethodName := ⟨RX2, "<init>", "()V"⟩
def dkwX2_init_0 : List UInt8 := [42, 1, 1, 3, 3, 183, 0, 3, 42, 2, 181, 0, 9, 177]
abbrev dktX2_init_0 : List UInt8 := dkwX2_init_0 ++ []
theorem dksX2_init_0 : cX2_init.data.toList.drop 0 = dktX2_init_0 := by decide +kernel
theorem dX2_init_0 : decode cX2_init 0 = .ok (.aload_n 0, 1) := dk_42 (dk_at dksX2_init_0 0 rfl rfl)
theorem dX2_init_1 : decode cX2_init 1 = .ok (.aconst_null, 1) := dk_1 (dk_at dksX2_init_0 1 rfl rfl)
theorem dX2_init_2 : decode cX2_init 2 = .ok (.aconst_null, 1) := dk_1 (dk_at dksX2_init_0 2 rfl rfl)
theorem dX2_init_3 : decode cX2_init 3 = .ok (.iconst 0, 1) := dk_3 (dk_at dksX2_init_0 3 rfl rfl)
theorem dX2_init_4 : decode cX2_init 4 = .ok (.iconst 0, 1) := dk_3 (dk_at dksX2_init_0 4 rfl rfl)
theorem dX2_init_5 : decode cX2_init 5 = .ok (.invokespecial 3, 3) := dk_183 0 3 (dk_at dksX2_init_0 5 rfl rfl)
theorem dX2_init_8 : decode cX2_init 8 = .ok (.aload_n 0, 1) := dk_42 (dk_at dksX2_init_0 8 rfl rfl)
theorem dX2_init_9 : decode cX2_init 9 = .ok (.iconst (-1), 1) := dk_2 (dk_at dksX2_init_0 9 rfl rfl)
theorem dX2_init_10 : decode cX2_init 10 = .ok (.putfield 9, 3) := dk_181 0 9 (dk_at dksX2_init_0 10 rfl rfl)
theorem dX2_init_13 : decode cX2_init 13 = .ok (.return_, 1) := dk_177 (dk_at dksX2_init_0 13 rfl rfl)
abbrev cX2_by : ByteArray := prog_18_method_2_code
def yX2_by : MethodName := ⟨RX2, "by", "(I)LPatentHall$Refused;"⟩
def dkwX2_by_0 : List UInt8 := [42, 27, 181, 0, 15, 42, 3, 181, 0, 18, 42, 2, 181, 0, 9, 42, 176]
abbrev dktX2_by_0 : List UInt8 := dkwX2_by_0 ++ []
theorem dksX2_by_0 : cX2_by.data.toList.drop 0 = dktX2_by_0 := by decide +kernel
theorem dX2_by_0 : decode cX2_by 0 = .ok (.aload_n 0, 1) := dk_42 (dk_at dksX2_by_0 0 rfl rfl)
theorem dX2_by_1 : decode cX2_by 1 = .ok (.iload_n 1, 1) := dk_27 (dk_at dksX2_by_0 1 rfl rfl)
theorem dX2_by_2 : decode cX2_by 2 = .ok (.putfield 15, 3) := dk_181 0 15 (dk_at dksX2_by_0 2 rfl rfl)
theorem dX2_by_5 : decode cX2_by 5 = .ok (.aload_n 0, 1) := dk_42 (dk_at dksX2_by_0 5 rfl rfl)
theorem dX2_by_6 : decode cX2_by 6 = .ok (.iconst 0, 1) := dk_3 (dk_at dksX2_by_0 6 rfl rfl)
theorem dX2_by_7 : decode cX2_by 7 = .ok (.putfield 18, 3) := dk_181 0 18 (dk_at dksX2_by_0 7 rfl rfl)
theorem dX2_by_10 : decode cX2_by 10 = .ok (.aload_n 0, 1) := dk_42 (dk_at dksX2_by_0 10 rfl rfl)
theorem dX2_by_11 : decode cX2_by 11 = .ok (.iconst (-1), 1) := dk_2 (dk_at dksX2_by_0 11 rfl rfl)
theorem dX2_by_12 : decode cX2_by 12 = .ok (.putfield 9, 3) := dk_181 0 9 (dk_at dksX2_by_0 12 rfl rfl)
theorem dX2_by_15 : decode cX2_by 15 = .ok (.aload_n 0, 1) := dk_42 (dk_at dksX2_by_0 15 rfl rfl)
theorem dX2_by_16 : decode cX2_by 16 = .ok (.areturn, 1) := dk_176 (dk_at dksX2_by_0 16 rfl rfl)
abbrev cX2_at : ByteArray := prog_18_method_3_code
def yX2_at : MethodName := ⟨RX2, "at", "(II)LPatentHall$Refused;"⟩
def dkwX2_at_0 : List UInt8 := [42, 7, 182, 0, 21, 87, 42, 27, 181, 0, 18, 42, 28, 181, 0, 9, 42, 176]
abbrev dktX2_at_0 : List UInt8 := dkwX2_at_0 ++ []
theorem dksX2_at_0 : cX2_at.data.toList.drop 0 = dktX2_at_0 := by decide +kernel
theorem dX2_at_0 : decode cX2_at 0 = .ok (.aload_n 0, 1) := dk_42 (dk_at dksX2_at_0 0 rfl rfl)
theorem dX2_at_1 : decode cX2_at 1 = .ok (.iconst 4, 1) := dk_7 (dk_at dksX2_at_0 1 rfl rfl)
theorem dX2_at_2 : decode cX2_at 2 = .ok (.invokevirtual 21, 3) := dk_182 0 21 (dk_at dksX2_at_0 2 rfl rfl)
theorem dX2_at_5 : decode cX2_at 5 = .ok (.pop, 1) := dk_87 (dk_at dksX2_at_0 5 rfl rfl)
theorem dX2_at_6 : decode cX2_at 6 = .ok (.aload_n 0, 1) := dk_42 (dk_at dksX2_at_0 6 rfl rfl)
theorem dX2_at_7 : decode cX2_at 7 = .ok (.iload_n 1, 1) := dk_27 (dk_at dksX2_at_0 7 rfl rfl)
theorem dX2_at_8 : decode cX2_at 8 = .ok (.putfield 18, 3) := dk_181 0 18 (dk_at dksX2_at_0 8 rfl rfl)
theorem dX2_at_11 : decode cX2_at 11 = .ok (.aload_n 0, 1) := dk_42 (dk_at dksX2_at_0 11 rfl rfl)
theorem dX2_at_12 : decode cX2_at 12 = .ok (.iload_n 2, 1) := dk_28 (dk_at dksX2_at_0 12 rfl rfl)
theorem dX2_at_13 : decode cX2_at 13 = .ok (.putfield 9, 3) := dk_181 0 9 (dk_at dksX2_at_0 13 rfl rfl)
theorem dX2_at_16 : decode cX2_at 16 = .ok (.aload_n 0, 1) := dk_42 (dk_at dksX2_at_0 16 rfl rfl)
theorem dX2_at_17 : decode cX2_at 17 = .ok (.areturn, 1) := dk_176 (dk_at dksX2_at_0 17 rfl rfl)
theorem q64 : (Jvm.Cond.initialized "PatentHall$Refused") ∈ lw_all := lw_g (lw_at lw_m1 6 rfl) rfl
theorem q106 : (Jvm.Cond.instantiable "PatentHall$Refused" (9 : Nat)) ∈ lw_all := lw_g (lw_at lw_m1 48 rfl) rfl
theorem q107 : (Jvm.Cond.castable "PatentHall$Refused" "PatentHall$Refused") ∈ lw_tbl := lw_at lw_m1 49 rfl
theorem q114 : (Jvm.Cond.selects "PatentHall$Refused" ({ cls := "java/lang/Throwable", name := "fillInStackTrace", desc := "(I)Ljava/lang/Throwable;" } : Jvm.MethodName) ({ cls := "java/lang/Throwable", name := "fillInStackTrace", desc := "(I)Ljava/lang/Throwable;" } : Jvm.MethodName)) ∈ lw_all := lw_g (lw_at lw_m1 56 rfl) rfl
theorem q115 : (Jvm.Cond.selects "PatentHall$Refused" ({ cls := "java/lang/Throwable", name := "fillInStackTrace", desc := "()Ljava/lang/Throwable;" } : Jvm.MethodName) ({ cls := "java/lang/Throwable", name := "fillInStackTrace", desc := "()Ljava/lang/Throwable;" } : Jvm.MethodName)) ∈ lw_all := lw_g (lw_at lw_m1 57 rfl) rfl
theorem q116 : (Jvm.Cond.lays "PatentHall$Refused" "java/lang/Throwable" "cause" "Ljava/lang/Throwable;") ∈ lw_all := lw_g (lw_at lw_m1 58 rfl) rfl
theorem q118 : (Jvm.Cond.lays "PatentHall$Refused" "java/lang/Throwable" "stackTrace" "[Ljava/lang/StackTraceElement;") ∈ lw_all := lw_g (lw_at lw_m1 60 rfl) rfl
theorem q120 : (Jvm.Cond.lays "PatentHall$Refused" "java/lang/Throwable" "suppressedExceptions" "Ljava/util/List;") ∈ lw_all := lw_g (lw_at lw_m1 62 rfl) rfl
theorem q122 : (Jvm.Cond.lays "PatentHall$Refused" "java/lang/Throwable" "detailMessage" "Ljava/lang/String;") ∈ lw_all := lw_g (lw_at lw_m1 64 rfl) rfl
theorem q124 : (Jvm.Cond.lays "PatentHall$Refused" "java/lang/Throwable" "backtrace" "Ljava/lang/Object;") ∈ lw_all := lw_g (lw_at lw_m1 66 rfl) rfl
theorem q146 : (Jvm.Cond.instanceMethod ({ cls := "PatentHall$Refused", name := "<init>", desc := "()V" } : Jvm.MethodName)) ∈ lw_all := lw_g (lw_at lw_m1 88 rfl) rfl
theorem q147 : (Jvm.Cond.code ({ cls := "PatentHall$Refused", name := "<init>", desc := "()V" } : Jvm.MethodName) prog_18_method_1_code (1 : Nat) (Option.none : Option Jvm.ClassFile.FieldType)) ∈ lw_all := lw_g (lw_at lw_m1 89 rfl) rfl
theorem q148 : (Jvm.Cond.methodLink "PatentHall$Refused" (3 : Nat) ({ cls := "java/lang/RuntimeException", name := "<init>", desc := "(Ljava/lang/String;Ljava/lang/Throwable;ZZ)V" } : Jvm.MethodName)) ∈ lw_all := lw_g (lw_at lw_m1 90 rfl) rfl
theorem q157 : (Jvm.Cond.fieldLink "PatentHall$Refused" (15 : Nat) "PatentHall$Refused" "why" "I") ∈ lw_all := lw_g (lw_at lw_m1 99 rfl) rfl
theorem q159 : (Jvm.Cond.fieldLink "PatentHall$Refused" (18 : Nat) "PatentHall$Refused" "fault" "I") ∈ lw_all := lw_g (lw_at lw_m1 101 rfl) rfl
theorem q161 : (Jvm.Cond.fieldLink "PatentHall$Refused" (9 : Nat) "PatentHall$Refused" "place" "I") ∈ lw_all := lw_g (lw_at lw_m1 103 rfl) rfl
theorem q168 : (Jvm.Cond.lays "PatentHall$Refused" "PatentHall$Refused" "why" "I") ∈ lw_all := lw_g (lw_at lw_m1 110 rfl) rfl
theorem q169 : (Jvm.Cond.soleField "PatentHall$Refused" "why") ∈ lw_all := lw_g (lw_at lw_m1 111 rfl) rfl
theorem q170 : (Jvm.Cond.lays "PatentHall$Refused" "PatentHall$Refused" "fault" "I") ∈ lw_all := lw_g (lw_at lw_m1 112 rfl) rfl
theorem q171 : (Jvm.Cond.soleField "PatentHall$Refused" "fault") ∈ lw_all := lw_g (lw_at lw_m1 113 rfl) rfl
theorem q172 : (Jvm.Cond.lays "PatentHall$Refused" "PatentHall$Refused" "place" "I") ∈ lw_all := lw_g (lw_at lw_m1 114 rfl) rfl
theorem q173 : (Jvm.Cond.soleField "PatentHall$Refused" "place") ∈ lw_all := lw_g (lw_at lw_m1 115 rfl) rfl
theorem q178 : (Jvm.Cond.lays "PatentHall$Refused" "java/lang/Throwable" "depth" "I") ∈ lw_all := lw_g (lw_at lw_m1 120 rfl) rfl
theorem q181 : (Jvm.Cond.superclass "PatentHall$Refused" "java/lang/RuntimeException") ∈ lw_all := lw_g (lw_at lw_m1 123 rfl) rfl
theorem q371 : (Jvm.Cond.instanceMethod ({ cls := "PatentHall$Refused", name := "by", desc := "(I)LPatentHall$Refused;" } : Jvm.MethodName)) ∈ lw_all := lw_g (lw_at lw_m2 73 rfl) rfl
theorem q372 : (Jvm.Cond.selects "PatentHall$Refused" ({ cls := "PatentHall$Refused", name := "by", desc := "(I)LPatentHall$Refused;" } : Jvm.MethodName) ({ cls := "PatentHall$Refused", name := "by", desc := "(I)LPatentHall$Refused;" } : Jvm.MethodName)) ∈ lw_all := lw_g (lw_at lw_m2 74 rfl) rfl
theorem q373 : (Jvm.Cond.code ({ cls := "PatentHall$Refused", name := "by", desc := "(I)LPatentHall$Refused;" } : Jvm.MethodName) prog_18_method_2_code (2 : Nat) (Option.some (Jvm.ClassFile.FieldType.object "PatentHall$Refused"))) ∈ lw_all := lw_g (lw_at lw_m2 75 rfl) rfl
theorem q588 : (Jvm.Cond.instanceMethod ({ cls := "PatentHall$Refused", name := "at", desc := "(II)LPatentHall$Refused;" } : Jvm.MethodName)) ∈ lw_all := lw_g (lw_at lw_m3 50 rfl) rfl
theorem q589 : (Jvm.Cond.selects "PatentHall$Refused" ({ cls := "PatentHall$Refused", name := "at", desc := "(II)LPatentHall$Refused;" } : Jvm.MethodName) ({ cls := "PatentHall$Refused", name := "at", desc := "(II)LPatentHall$Refused;" } : Jvm.MethodName)) ∈ lw_all := lw_g (lw_at lw_m3 51 rfl) rfl
theorem q590 : (Jvm.Cond.code ({ cls := "PatentHall$Refused", name := "at", desc := "(II)LPatentHall$Refused;" } : Jvm.MethodName) prog_18_method_3_code (3 : Nat) (Option.some (Jvm.ClassFile.FieldType.object "PatentHall$Refused"))) ∈ lw_all := lw_g (lw_at lw_m3 52 rfl) rfl
theorem q591 : (Jvm.Cond.methodLink "PatentHall$Refused" (21 : Nat) ({ cls := "PatentHall$Refused", name := "by", desc := "(I)LPatentHall$Refused;" } : Jvm.MethodName)) ∈ lw_all := lw_g (lw_at lw_m3 53 rfl) rfl
theorem in_X2 : ∀ w ∈ wsX20, w ∈ lw_all := lw_in wsX20 [116, 118, 120, 122, 124, 178, 168, 170, 172] (by decide +kernel) (by decide +kernel)

/-! PatentHall$Finder -/
set_option maxRecDepth 100000
def RX3 : String := "PatentHall$Finder"
def TX3 : u_T := fun k => match k with
  | 0 => ("PatentHall$Finder", "what", "LPatentHall$Text;", false)
  | 1 => ("PatentHall$Finder", "in", "LPatentHall$Text;", false)
  | 2 => ("PatentHall$Finder", "wanted", "I", false)
  | 3 => ("PatentHall$Finder", "to", "[I", true)
  | 4 => ("PatentHall$Finder", "first", "[I", true)
  | 5 => ("PatentHall$Finder", "ways", "I", false)
  | 6 => ("PatentHall$Finder", "firstParts", "I", false)
  | 7 => ("PatentHall$Finder", "onlyOne", "Z", false)
  | _ => ("PatentHall$Finder", "this$0", "LPatentHall;", true)
def tyX3 : Nat → FieldType := fun k => match k with
  | 0 => .object "PatentHall$Text"
  | 1 => .object "PatentHall$Text"
  | 2 => .int
  | 3 => .array .int
  | 4 => .array .int
  | 5 => .int
  | 6 => .int
  | 7 => .boolean
  | _ => .object "PatentHall"
abbrev wsX30 : List Cond := u_ws RX3 TX3 9
theorem nmX3 : ∀ a, a < 9 → ∀ b, b < 9 → a ≠ b → (TX3 a).2.1 ≠ (TX3 b).2.1 := by decide +kernel
theorem tyX3_ok : ∀ k, k < 9 → parseFieldDescriptor (TX3 k).2.2.1 = some (tyX3 k) := by decide +kernel
abbrev cX3_init : ByteArray := prog_14_method_1_code
def yX3_init : MethodName := ⟨RX3, "<init>", "(LPatentHall;)V"⟩
def dkwX3_init_1 : List UInt8 := [181, 0, 19, 177]
abbrev dktX3_init_1 : List UInt8 := dkwX3_init_1 ++ []
def dkwX3_init_0 : List UInt8 := [42, 43, 181, 0, 3, 42, 183, 0, 9, 42, 16, 8, 188, 10, 181, 0, 15, 42, 16, 8, 188, 10]
abbrev dktX3_init_0 : List UInt8 := dkwX3_init_0 ++ dktX3_init_1
theorem dksX3_init_0 : cX3_init.data.toList.drop 0 = dktX3_init_0 := by decide +kernel
theorem dksX3_init_1 : cX3_init.data.toList.drop 22 = dktX3_init_1 := dk_seg dksX3_init_0 22 rfl rfl
theorem dX3_init_0 : decode cX3_init 0 = .ok (.aload_n 0, 1) := dk_42 (dk_at dksX3_init_0 0 rfl rfl)
theorem dX3_init_1 : decode cX3_init 1 = .ok (.aload_n 1, 1) := dk_43 (dk_at dksX3_init_0 1 rfl rfl)
theorem dX3_init_2 : decode cX3_init 2 = .ok (.putfield 3, 3) := dk_181 0 3 (dk_at dksX3_init_0 2 rfl rfl)
theorem dX3_init_5 : decode cX3_init 5 = .ok (.aload_n 0, 1) := dk_42 (dk_at dksX3_init_0 5 rfl rfl)
theorem dX3_init_6 : decode cX3_init 6 = .ok (.invokespecial 9, 3) := dk_183 0 9 (dk_at dksX3_init_0 6 rfl rfl)
theorem dX3_init_9 : decode cX3_init 9 = .ok (.aload_n 0, 1) := dk_42 (dk_at dksX3_init_0 9 rfl rfl)
theorem dX3_init_10 : decode cX3_init 10 = .ok (.bipush 8, 2) := dk_16 8 (dk_at dksX3_init_0 10 rfl rfl)
theorem dX3_init_12 : decode cX3_init 12 = .ok (.newarray .int, 2) := dk_188_10 (dk_at dksX3_init_0 12 rfl rfl)
theorem dX3_init_14 : decode cX3_init 14 = .ok (.putfield 15, 3) := dk_181 0 15 (dk_at dksX3_init_0 14 rfl rfl)
theorem dX3_init_17 : decode cX3_init 17 = .ok (.aload_n 0, 1) := dk_42 (dk_at dksX3_init_0 17 rfl rfl)
theorem dX3_init_18 : decode cX3_init 18 = .ok (.bipush 8, 2) := dk_16 8 (dk_at dksX3_init_0 18 rfl rfl)
theorem dX3_init_20 : decode cX3_init 20 = .ok (.newarray .int, 2) := dk_188_10 (dk_at dksX3_init_0 20 rfl rfl)
theorem dX3_init_22 : decode cX3_init 22 = .ok (.putfield 19, 3) := dk_181 0 19 (dk_at dksX3_init_1 0 rfl rfl)
theorem dX3_init_25 : decode cX3_init 25 = .ok (.return_, 1) := dk_177 (dk_at dksX3_init_1 3 rfl rfl)
abbrev cX3_find : ByteArray := prog_14_method_2_code
def yX3_find : MethodName := ⟨RX3, "find", "(LPatentHall$Text;ILPatentHall$Text;Z)I"⟩
def dkwX3_find_2 : List UInt8 := [167, 255, 238, 42, 3, 3, 182, 0, 40, 42, 180, 0, 37, 172]
abbrev dktX3_find_2 : List UInt8 := dkwX3_find_2 ++ []
def dkwX3_find_1 : List UInt8 := [181, 0, 37, 3, 54, 5, 21, 5, 16, 8, 162, 0, 17, 42, 180, 0, 15, 21, 5, 2, 79, 132, 5, 1]
abbrev dktX3_find_1 : List UInt8 := dkwX3_find_1 ++ dktX3_find_2
def dkwX3_find_0 : List UInt8 := [42, 43, 181, 0, 22, 42, 45, 181, 0, 26, 42, 28, 181, 0, 29, 42, 21, 4, 181, 0, 33, 42, 3]
abbrev dktX3_find_0 : List UInt8 := dkwX3_find_0 ++ dktX3_find_1
theorem dksX3_find_0 : cX3_find.data.toList.drop 0 = dktX3_find_0 := by decide +kernel
theorem dksX3_find_1 : cX3_find.data.toList.drop 23 = dktX3_find_1 := dk_seg dksX3_find_0 23 rfl rfl
theorem dksX3_find_2 : cX3_find.data.toList.drop 47 = dktX3_find_2 := dk_seg dksX3_find_1 24 rfl rfl
theorem dX3_find_0 : decode cX3_find 0 = .ok (.aload_n 0, 1) := dk_42 (dk_at dksX3_find_0 0 rfl rfl)
theorem dX3_find_1 : decode cX3_find 1 = .ok (.aload_n 1, 1) := dk_43 (dk_at dksX3_find_0 1 rfl rfl)
theorem dX3_find_2 : decode cX3_find 2 = .ok (.putfield 22, 3) := dk_181 0 22 (dk_at dksX3_find_0 2 rfl rfl)
theorem dX3_find_5 : decode cX3_find 5 = .ok (.aload_n 0, 1) := dk_42 (dk_at dksX3_find_0 5 rfl rfl)
theorem dX3_find_6 : decode cX3_find 6 = .ok (.aload_n 3, 1) := dk_45 (dk_at dksX3_find_0 6 rfl rfl)
theorem dX3_find_7 : decode cX3_find 7 = .ok (.putfield 26, 3) := dk_181 0 26 (dk_at dksX3_find_0 7 rfl rfl)
theorem dX3_find_10 : decode cX3_find 10 = .ok (.aload_n 0, 1) := dk_42 (dk_at dksX3_find_0 10 rfl rfl)
theorem dX3_find_11 : decode cX3_find 11 = .ok (.iload_n 2, 1) := dk_28 (dk_at dksX3_find_0 11 rfl rfl)
theorem dX3_find_12 : decode cX3_find 12 = .ok (.putfield 29, 3) := dk_181 0 29 (dk_at dksX3_find_0 12 rfl rfl)
theorem dX3_find_15 : decode cX3_find 15 = .ok (.aload_n 0, 1) := dk_42 (dk_at dksX3_find_0 15 rfl rfl)
theorem dX3_find_16 : decode cX3_find 16 = .ok (.iload 4, 2) := dk_21 4 (dk_at dksX3_find_0 16 rfl rfl)
theorem dX3_find_18 : decode cX3_find 18 = .ok (.putfield 33, 3) := dk_181 0 33 (dk_at dksX3_find_0 18 rfl rfl)
theorem dX3_find_21 : decode cX3_find 21 = .ok (.aload_n 0, 1) := dk_42 (dk_at dksX3_find_0 21 rfl rfl)
theorem dX3_find_22 : decode cX3_find 22 = .ok (.iconst 0, 1) := dk_3 (dk_at dksX3_find_0 22 rfl rfl)
theorem dX3_find_23 : decode cX3_find 23 = .ok (.putfield 37, 3) := dk_181 0 37 (dk_at dksX3_find_1 0 rfl rfl)
theorem dX3_find_26 : decode cX3_find 26 = .ok (.iconst 0, 1) := dk_3 (dk_at dksX3_find_1 3 rfl rfl)
theorem dX3_find_27 : decode cX3_find 27 = .ok (.istore 5, 2) := dk_54 5 (dk_at dksX3_find_1 4 rfl rfl)
theorem dX3_find_29 : decode cX3_find 29 = .ok (.iload 5, 2) := dk_21 5 (dk_at dksX3_find_1 6 rfl rfl)
theorem dX3_find_31 : decode cX3_find 31 = .ok (.bipush 8, 2) := dk_16 8 (dk_at dksX3_find_1 8 rfl rfl)
theorem dX3_find_33 : decode cX3_find 33 = .ok (.if_icmp .ge 17, 3) := dk_162 0 17 (dk_at dksX3_find_1 10 rfl rfl)
theorem dX3_find_36 : decode cX3_find 36 = .ok (.aload_n 0, 1) := dk_42 (dk_at dksX3_find_1 13 rfl rfl)
theorem dX3_find_37 : decode cX3_find 37 = .ok (.getfield 15, 3) := dk_180 0 15 (dk_at dksX3_find_1 14 rfl rfl)
theorem dX3_find_40 : decode cX3_find 40 = .ok (.iload 5, 2) := dk_21 5 (dk_at dksX3_find_1 17 rfl rfl)
theorem dX3_find_42 : decode cX3_find 42 = .ok (.iconst (-1), 1) := dk_2 (dk_at dksX3_find_1 19 rfl rfl)
theorem dX3_find_43 : decode cX3_find 43 = .ok (.iastore, 1) := dk_79 (dk_at dksX3_find_1 20 rfl rfl)
theorem dX3_find_44 : decode cX3_find 44 = .ok (.iinc 5 1, 3) := dk_132 5 1 (dk_at dksX3_find_1 21 rfl rfl)
theorem dX3_find_47 : decode cX3_find 47 = .ok (.goto (-18), 3) := dk_167 255 238 (dk_at dksX3_find_2 0 rfl rfl)
theorem dX3_find_50 : decode cX3_find 50 = .ok (.aload_n 0, 1) := dk_42 (dk_at dksX3_find_2 3 rfl rfl)
theorem dX3_find_51 : decode cX3_find 51 = .ok (.iconst 0, 1) := dk_3 (dk_at dksX3_find_2 4 rfl rfl)
theorem dX3_find_52 : decode cX3_find 52 = .ok (.iconst 0, 1) := dk_3 (dk_at dksX3_find_2 5 rfl rfl)
theorem dX3_find_53 : decode cX3_find 53 = .ok (.invokevirtual 40, 3) := dk_182 0 40 (dk_at dksX3_find_2 6 rfl rfl)
theorem dX3_find_56 : decode cX3_find 56 = .ok (.aload_n 0, 1) := dk_42 (dk_at dksX3_find_2 9 rfl rfl)
theorem dX3_find_57 : decode cX3_find 57 = .ok (.getfield 37, 3) := dk_180 0 37 (dk_at dksX3_find_2 10 rfl rfl)
theorem dX3_find_60 : decode cX3_find 60 = .ok (.ireturn, 1) := dk_172 (dk_at dksX3_find_2 13 rfl rfl)
abbrev cX3_goes : ByteArray := prog_14_method_3_code
def yX3_goes : MethodName := ⟨RX3, "goes", "(II)V"⟩
def dkwX3_goes_7 : List UInt8 := [29, 120, 128, 182, 0, 40, 42, 180, 0, 15, 27, 2, 79, 132, 3, 1, 167, 255, 154, 177]
abbrev dktX3_goes_7 : List UInt8 := dkwX3_goes_7 ++ []
def dkwX3_goes_6 : List UInt8 := [167, 0, 37, 42, 180, 0, 15, 27, 29, 79, 42, 27, 182, 0, 65, 153, 0, 15, 42, 27, 4, 96, 28, 4]
abbrev dktX3_goes_6 : List UInt8 := dkwX3_goes_6 ++ dktX3_goes_7
def dkwX3_goes_5 : List UInt8 := [180, 0, 26, 180, 0, 58, 29, 46, 42, 180, 0, 22, 180, 0, 58, 27, 46, 182, 0, 61, 154, 0, 6]
abbrev dktX3_goes_5 : List UInt8 := dkwX3_goes_5 ++ dktX3_goes_6
def dkwX3_goes_4 : List UInt8 := [153, 0, 10, 42, 180, 0, 37, 157, 0, 83, 28, 29, 122, 4, 126, 4, 159, 0, 68, 42, 180, 0, 3, 42]
abbrev dktX3_goes_4 : List UInt8 := dkwX3_goes_4 ++ dktX3_goes_5
def dkwX3_goes_3 : List UInt8 := [96, 28, 182, 0, 40, 177, 3, 62, 29, 42, 180, 0, 26, 180, 0, 44, 162, 0, 97, 42, 180, 0, 33]
abbrev dktX3_goes_3 : List UInt8 := dkwX3_goes_3 ++ dktX3_goes_4
def dkwX3_goes_2 : List UInt8 := [180, 0, 22, 180, 0, 44, 181, 0, 55, 177, 42, 180, 0, 29, 27, 122, 4, 126, 154, 0, 12, 42, 27, 4]
abbrev dktX3_goes_2 : List UInt8 := dkwX3_goes_2 ++ dktX3_goes_3
def dkwX3_goes_1 : List UInt8 := [180, 0, 37, 4, 160, 0, 29, 42, 180, 0, 15, 3, 42, 180, 0, 19, 3, 16, 8, 184, 0, 49, 42, 42]
abbrev dktX3_goes_1 : List UInt8 := dkwX3_goes_1 ++ dktX3_goes_2
def dkwX3_goes_0 : List UInt8 := [27, 42, 180, 0, 22, 180, 0, 44, 160, 0, 48, 42, 89, 180, 0, 37, 4, 96, 181, 0, 37, 42]
abbrev dktX3_goes_0 : List UInt8 := dkwX3_goes_0 ++ dktX3_goes_1
theorem dksX3_goes_0 : cX3_goes.data.toList.drop 0 = dktX3_goes_0 := by decide +kernel
theorem dksX3_goes_1 : cX3_goes.data.toList.drop 22 = dktX3_goes_1 := dk_seg dksX3_goes_0 22 rfl rfl
theorem dksX3_goes_2 : cX3_goes.data.toList.drop 46 = dktX3_goes_2 := dk_seg dksX3_goes_1 24 rfl rfl
theorem dksX3_goes_3 : cX3_goes.data.toList.drop 70 = dktX3_goes_3 := dk_seg dksX3_goes_2 24 rfl rfl
theorem dksX3_goes_4 : cX3_goes.data.toList.drop 93 = dktX3_goes_4 := dk_seg dksX3_goes_3 23 rfl rfl
theorem dksX3_goes_5 : cX3_goes.data.toList.drop 117 = dktX3_goes_5 := dk_seg dksX3_goes_4 24 rfl rfl
theorem dksX3_goes_6 : cX3_goes.data.toList.drop 140 = dktX3_goes_6 := dk_seg dksX3_goes_5 23 rfl rfl
theorem dksX3_goes_7 : cX3_goes.data.toList.drop 164 = dktX3_goes_7 := dk_seg dksX3_goes_6 24 rfl rfl
theorem dX3_goes_0 : decode cX3_goes 0 = .ok (.iload_n 1, 1) := dk_27 (dk_at dksX3_goes_0 0 rfl rfl)
theorem dX3_goes_1 : decode cX3_goes 1 = .ok (.aload_n 0, 1) := dk_42 (dk_at dksX3_goes_0 1 rfl rfl)
theorem dX3_goes_2 : decode cX3_goes 2 = .ok (.getfield 22, 3) := dk_180 0 22 (dk_at dksX3_goes_0 2 rfl rfl)
theorem dX3_goes_5 : decode cX3_goes 5 = .ok (.getfield 44, 3) := dk_180 0 44 (dk_at dksX3_goes_0 5 rfl rfl)
theorem dX3_goes_8 : decode cX3_goes 8 = .ok (.if_icmp .ne 48, 3) := dk_160 0 48 (dk_at dksX3_goes_0 8 rfl rfl)
theorem dX3_goes_11 : decode cX3_goes 11 = .ok (.aload_n 0, 1) := dk_42 (dk_at dksX3_goes_0 11 rfl rfl)
theorem dX3_goes_12 : decode cX3_goes 12 = .ok (.dup, 1) := dk_89 (dk_at dksX3_goes_0 12 rfl rfl)
theorem dX3_goes_13 : decode cX3_goes 13 = .ok (.getfield 37, 3) := dk_180 0 37 (dk_at dksX3_goes_0 13 rfl rfl)
theorem dX3_goes_16 : decode cX3_goes 16 = .ok (.iconst 1, 1) := dk_4 (dk_at dksX3_goes_0 16 rfl rfl)
theorem dX3_goes_17 : decode cX3_goes 17 = .ok (.iadd, 1) := dk_96 (dk_at dksX3_goes_0 17 rfl rfl)
theorem dX3_goes_18 : decode cX3_goes 18 = .ok (.putfield 37, 3) := dk_181 0 37 (dk_at dksX3_goes_0 18 rfl rfl)
theorem dX3_goes_21 : decode cX3_goes 21 = .ok (.aload_n 0, 1) := dk_42 (dk_at dksX3_goes_0 21 rfl rfl)
theorem dX3_goes_22 : decode cX3_goes 22 = .ok (.getfield 37, 3) := dk_180 0 37 (dk_at dksX3_goes_1 0 rfl rfl)
theorem dX3_goes_25 : decode cX3_goes 25 = .ok (.iconst 1, 1) := dk_4 (dk_at dksX3_goes_1 3 rfl rfl)
theorem dX3_goes_26 : decode cX3_goes 26 = .ok (.if_icmp .ne 29, 3) := dk_160 0 29 (dk_at dksX3_goes_1 4 rfl rfl)
theorem dX3_goes_29 : decode cX3_goes 29 = .ok (.aload_n 0, 1) := dk_42 (dk_at dksX3_goes_1 7 rfl rfl)
theorem dX3_goes_30 : decode cX3_goes 30 = .ok (.getfield 15, 3) := dk_180 0 15 (dk_at dksX3_goes_1 8 rfl rfl)
theorem dX3_goes_33 : decode cX3_goes 33 = .ok (.iconst 0, 1) := dk_3 (dk_at dksX3_goes_1 11 rfl rfl)
theorem dX3_goes_34 : decode cX3_goes 34 = .ok (.aload_n 0, 1) := dk_42 (dk_at dksX3_goes_1 12 rfl rfl)
theorem dX3_goes_35 : decode cX3_goes 35 = .ok (.getfield 19, 3) := dk_180 0 19 (dk_at dksX3_goes_1 13 rfl rfl)
theorem dX3_goes_38 : decode cX3_goes 38 = .ok (.iconst 0, 1) := dk_3 (dk_at dksX3_goes_1 16 rfl rfl)
theorem dX3_goes_39 : decode cX3_goes 39 = .ok (.bipush 8, 2) := dk_16 8 (dk_at dksX3_goes_1 17 rfl rfl)
theorem dX3_goes_41 : decode cX3_goes 41 = .ok (.invokestatic 49, 3) := dk_184 0 49 (dk_at dksX3_goes_1 19 rfl rfl)
theorem dX3_goes_44 : decode cX3_goes 44 = .ok (.aload_n 0, 1) := dk_42 (dk_at dksX3_goes_1 22 rfl rfl)
theorem dX3_goes_45 : decode cX3_goes 45 = .ok (.aload_n 0, 1) := dk_42 (dk_at dksX3_goes_1 23 rfl rfl)
theorem dX3_goes_46 : decode cX3_goes 46 = .ok (.getfield 22, 3) := dk_180 0 22 (dk_at dksX3_goes_2 0 rfl rfl)
theorem dX3_goes_49 : decode cX3_goes 49 = .ok (.getfield 44, 3) := dk_180 0 44 (dk_at dksX3_goes_2 3 rfl rfl)
theorem dX3_goes_52 : decode cX3_goes 52 = .ok (.putfield 55, 3) := dk_181 0 55 (dk_at dksX3_goes_2 6 rfl rfl)
theorem dX3_goes_55 : decode cX3_goes 55 = .ok (.return_, 1) := dk_177 (dk_at dksX3_goes_2 9 rfl rfl)
theorem dX3_goes_56 : decode cX3_goes 56 = .ok (.aload_n 0, 1) := dk_42 (dk_at dksX3_goes_2 10 rfl rfl)
theorem dX3_goes_57 : decode cX3_goes 57 = .ok (.getfield 29, 3) := dk_180 0 29 (dk_at dksX3_goes_2 11 rfl rfl)
theorem dX3_goes_60 : decode cX3_goes 60 = .ok (.iload_n 1, 1) := dk_27 (dk_at dksX3_goes_2 14 rfl rfl)
theorem dX3_goes_61 : decode cX3_goes 61 = .ok (.ishr, 1) := dk_122 (dk_at dksX3_goes_2 15 rfl rfl)
theorem dX3_goes_62 : decode cX3_goes 62 = .ok (.iconst 1, 1) := dk_4 (dk_at dksX3_goes_2 16 rfl rfl)
theorem dX3_goes_63 : decode cX3_goes 63 = .ok (.iand, 1) := dk_126 (dk_at dksX3_goes_2 17 rfl rfl)
theorem dX3_goes_64 : decode cX3_goes 64 = .ok (.ifCond .ne 12, 3) := dk_154 0 12 (dk_at dksX3_goes_2 18 rfl rfl)
theorem dX3_goes_67 : decode cX3_goes 67 = .ok (.aload_n 0, 1) := dk_42 (dk_at dksX3_goes_2 21 rfl rfl)
theorem dX3_goes_68 : decode cX3_goes 68 = .ok (.iload_n 1, 1) := dk_27 (dk_at dksX3_goes_2 22 rfl rfl)
theorem dX3_goes_69 : decode cX3_goes 69 = .ok (.iconst 1, 1) := dk_4 (dk_at dksX3_goes_2 23 rfl rfl)
theorem dX3_goes_70 : decode cX3_goes 70 = .ok (.iadd, 1) := dk_96 (dk_at dksX3_goes_3 0 rfl rfl)
theorem dX3_goes_71 : decode cX3_goes 71 = .ok (.iload_n 2, 1) := dk_28 (dk_at dksX3_goes_3 1 rfl rfl)
theorem dX3_goes_72 : decode cX3_goes 72 = .ok (.invokevirtual 40, 3) := dk_182 0 40 (dk_at dksX3_goes_3 2 rfl rfl)
theorem dX3_goes_75 : decode cX3_goes 75 = .ok (.return_, 1) := dk_177 (dk_at dksX3_goes_3 5 rfl rfl)
theorem dX3_goes_76 : decode cX3_goes 76 = .ok (.iconst 0, 1) := dk_3 (dk_at dksX3_goes_3 6 rfl rfl)
theorem dX3_goes_77 : decode cX3_goes 77 = .ok (.istore_n 3, 1) := dk_62 (dk_at dksX3_goes_3 7 rfl rfl)
theorem dX3_goes_78 : decode cX3_goes 78 = .ok (.iload_n 3, 1) := dk_29 (dk_at dksX3_goes_3 8 rfl rfl)
theorem dX3_goes_79 : decode cX3_goes 79 = .ok (.aload_n 0, 1) := dk_42 (dk_at dksX3_goes_3 9 rfl rfl)
theorem dX3_goes_80 : decode cX3_goes 80 = .ok (.getfield 26, 3) := dk_180 0 26 (dk_at dksX3_goes_3 10 rfl rfl)
theorem dX3_goes_83 : decode cX3_goes 83 = .ok (.getfield 44, 3) := dk_180 0 44 (dk_at dksX3_goes_3 13 rfl rfl)
theorem dX3_goes_86 : decode cX3_goes 86 = .ok (.if_icmp .ge 97, 3) := dk_162 0 97 (dk_at dksX3_goes_3 16 rfl rfl)
theorem dX3_goes_89 : decode cX3_goes 89 = .ok (.aload_n 0, 1) := dk_42 (dk_at dksX3_goes_3 19 rfl rfl)
theorem dX3_goes_90 : decode cX3_goes 90 = .ok (.getfield 33, 3) := dk_180 0 33 (dk_at dksX3_goes_3 20 rfl rfl)
theorem dX3_goes_93 : decode cX3_goes 93 = .ok (.ifCond .eq 10, 3) := dk_153 0 10 (dk_at dksX3_goes_4 0 rfl rfl)
theorem dX3_goes_96 : decode cX3_goes 96 = .ok (.aload_n 0, 1) := dk_42 (dk_at dksX3_goes_4 3 rfl rfl)
theorem dX3_goes_97 : decode cX3_goes 97 = .ok (.getfield 37, 3) := dk_180 0 37 (dk_at dksX3_goes_4 4 rfl rfl)
theorem dX3_goes_100 : decode cX3_goes 100 = .ok (.ifCond .gt 83, 3) := dk_157 0 83 (dk_at dksX3_goes_4 7 rfl rfl)
theorem dX3_goes_103 : decode cX3_goes 103 = .ok (.iload_n 2, 1) := dk_28 (dk_at dksX3_goes_4 10 rfl rfl)
theorem dX3_goes_104 : decode cX3_goes 104 = .ok (.iload_n 3, 1) := dk_29 (dk_at dksX3_goes_4 11 rfl rfl)
theorem dX3_goes_105 : decode cX3_goes 105 = .ok (.ishr, 1) := dk_122 (dk_at dksX3_goes_4 12 rfl rfl)
theorem dX3_goes_106 : decode cX3_goes 106 = .ok (.iconst 1, 1) := dk_4 (dk_at dksX3_goes_4 13 rfl rfl)
theorem dX3_goes_107 : decode cX3_goes 107 = .ok (.iand, 1) := dk_126 (dk_at dksX3_goes_4 14 rfl rfl)
theorem dX3_goes_108 : decode cX3_goes 108 = .ok (.iconst 1, 1) := dk_4 (dk_at dksX3_goes_4 15 rfl rfl)
theorem dX3_goes_109 : decode cX3_goes 109 = .ok (.if_icmp .eq 68, 3) := dk_159 0 68 (dk_at dksX3_goes_4 16 rfl rfl)
theorem dX3_goes_112 : decode cX3_goes 112 = .ok (.aload_n 0, 1) := dk_42 (dk_at dksX3_goes_4 19 rfl rfl)
theorem dX3_goes_113 : decode cX3_goes 113 = .ok (.getfield 3, 3) := dk_180 0 3 (dk_at dksX3_goes_4 20 rfl rfl)
theorem dX3_goes_116 : decode cX3_goes 116 = .ok (.aload_n 0, 1) := dk_42 (dk_at dksX3_goes_4 23 rfl rfl)
theorem dX3_goes_117 : decode cX3_goes 117 = .ok (.getfield 26, 3) := dk_180 0 26 (dk_at dksX3_goes_5 0 rfl rfl)
theorem dX3_goes_120 : decode cX3_goes 120 = .ok (.getfield 58, 3) := dk_180 0 58 (dk_at dksX3_goes_5 3 rfl rfl)
theorem dX3_goes_123 : decode cX3_goes 123 = .ok (.iload_n 3, 1) := dk_29 (dk_at dksX3_goes_5 6 rfl rfl)
theorem dX3_goes_124 : decode cX3_goes 124 = .ok (.iaload, 1) := dk_46 (dk_at dksX3_goes_5 7 rfl rfl)
theorem dX3_goes_125 : decode cX3_goes 125 = .ok (.aload_n 0, 1) := dk_42 (dk_at dksX3_goes_5 8 rfl rfl)
theorem dX3_goes_126 : decode cX3_goes 126 = .ok (.getfield 22, 3) := dk_180 0 22 (dk_at dksX3_goes_5 9 rfl rfl)
theorem dX3_goes_129 : decode cX3_goes 129 = .ok (.getfield 58, 3) := dk_180 0 58 (dk_at dksX3_goes_5 12 rfl rfl)
theorem dX3_goes_132 : decode cX3_goes 132 = .ok (.iload_n 1, 1) := dk_27 (dk_at dksX3_goes_5 15 rfl rfl)
theorem dX3_goes_133 : decode cX3_goes 133 = .ok (.iaload, 1) := dk_46 (dk_at dksX3_goes_5 16 rfl rfl)
theorem dX3_goes_134 : decode cX3_goes 134 = .ok (.invokevirtual 61, 3) := dk_182 0 61 (dk_at dksX3_goes_5 17 rfl rfl)
theorem dX3_goes_137 : decode cX3_goes 137 = .ok (.ifCond .ne 6, 3) := dk_154 0 6 (dk_at dksX3_goes_5 20 rfl rfl)
theorem dX3_goes_140 : decode cX3_goes 140 = .ok (.goto 37, 3) := dk_167 0 37 (dk_at dksX3_goes_6 0 rfl rfl)
theorem dX3_goes_143 : decode cX3_goes 143 = .ok (.aload_n 0, 1) := dk_42 (dk_at dksX3_goes_6 3 rfl rfl)
theorem dX3_goes_144 : decode cX3_goes 144 = .ok (.getfield 15, 3) := dk_180 0 15 (dk_at dksX3_goes_6 4 rfl rfl)
theorem dX3_goes_147 : decode cX3_goes 147 = .ok (.iload_n 1, 1) := dk_27 (dk_at dksX3_goes_6 7 rfl rfl)
theorem dX3_goes_148 : decode cX3_goes 148 = .ok (.iload_n 3, 1) := dk_29 (dk_at dksX3_goes_6 8 rfl rfl)
theorem dX3_goes_149 : decode cX3_goes 149 = .ok (.iastore, 1) := dk_79 (dk_at dksX3_goes_6 9 rfl rfl)
theorem dX3_goes_150 : decode cX3_goes 150 = .ok (.aload_n 0, 1) := dk_42 (dk_at dksX3_goes_6 10 rfl rfl)
theorem dX3_goes_151 : decode cX3_goes 151 = .ok (.iload_n 1, 1) := dk_27 (dk_at dksX3_goes_6 11 rfl rfl)
theorem dX3_goes_152 : decode cX3_goes 152 = .ok (.invokevirtual 65, 3) := dk_182 0 65 (dk_at dksX3_goes_6 12 rfl rfl)
theorem dX3_goes_155 : decode cX3_goes 155 = .ok (.ifCond .eq 15, 3) := dk_153 0 15 (dk_at dksX3_goes_6 15 rfl rfl)
theorem dX3_goes_158 : decode cX3_goes 158 = .ok (.aload_n 0, 1) := dk_42 (dk_at dksX3_goes_6 18 rfl rfl)
theorem dX3_goes_159 : decode cX3_goes 159 = .ok (.iload_n 1, 1) := dk_27 (dk_at dksX3_goes_6 19 rfl rfl)
theorem dX3_goes_160 : decode cX3_goes 160 = .ok (.iconst 1, 1) := dk_4 (dk_at dksX3_goes_6 20 rfl rfl)
theorem dX3_goes_161 : decode cX3_goes 161 = .ok (.iadd, 1) := dk_96 (dk_at dksX3_goes_6 21 rfl rfl)
theorem dX3_goes_162 : decode cX3_goes 162 = .ok (.iload_n 2, 1) := dk_28 (dk_at dksX3_goes_6 22 rfl rfl)
theorem dX3_goes_163 : decode cX3_goes 163 = .ok (.iconst 1, 1) := dk_4 (dk_at dksX3_goes_6 23 rfl rfl)
theorem dX3_goes_164 : decode cX3_goes 164 = .ok (.iload_n 3, 1) := dk_29 (dk_at dksX3_goes_7 0 rfl rfl)
theorem dX3_goes_165 : decode cX3_goes 165 = .ok (.ishl, 1) := dk_120 (dk_at dksX3_goes_7 1 rfl rfl)
theorem dX3_goes_166 : decode cX3_goes 166 = .ok (.ior, 1) := dk_128 (dk_at dksX3_goes_7 2 rfl rfl)
theorem dX3_goes_167 : decode cX3_goes 167 = .ok (.invokevirtual 40, 3) := dk_182 0 40 (dk_at dksX3_goes_7 3 rfl rfl)
theorem dX3_goes_170 : decode cX3_goes 170 = .ok (.aload_n 0, 1) := dk_42 (dk_at dksX3_goes_7 6 rfl rfl)
theorem dX3_goes_171 : decode cX3_goes 171 = .ok (.getfield 15, 3) := dk_180 0 15 (dk_at dksX3_goes_7 7 rfl rfl)
theorem dX3_goes_174 : decode cX3_goes 174 = .ok (.iload_n 1, 1) := dk_27 (dk_at dksX3_goes_7 10 rfl rfl)
theorem dX3_goes_175 : decode cX3_goes 175 = .ok (.iconst (-1), 1) := dk_2 (dk_at dksX3_goes_7 11 rfl rfl)
theorem dX3_goes_176 : decode cX3_goes 176 = .ok (.iastore, 1) := dk_79 (dk_at dksX3_goes_7 12 rfl rfl)
theorem dX3_goes_177 : decode cX3_goes 177 = .ok (.iinc 3 1, 3) := dk_132 3 1 (dk_at dksX3_goes_7 13 rfl rfl)
theorem dX3_goes_180 : decode cX3_goes 180 = .ok (.goto (-102), 3) := dk_167 255 154 (dk_at dksX3_goes_7 16 rfl rfl)
theorem dX3_goes_183 : decode cX3_goes 183 = .ok (.return_, 1) := dk_177 (dk_at dksX3_goes_7 19 rfl rfl)
abbrev cX3_isLinked : ByteArray := prog_14_method_4_code
def yX3_isLinked : MethodName := ⟨RX3, "isLinked", "(I)Z"⟩
def dkwX3_isLinked_5 : List UInt8 := [172]
abbrev dktX3_isLinked_5 : List UInt8 := dkwX3_isLinked_5 ++ []
def dkwX3_isLinked_4 : List UInt8 := [180, 0, 83, 42, 180, 0, 15, 25, 4, 180, 0, 81, 46, 182, 0, 86, 61, 132, 3, 1, 167, 255, 148, 28]
abbrev dktX3_isLinked_4 : List UInt8 := dkwX3_isLinked_4 ++ dktX3_isLinked_5
def dkwX3_isLinked_3 : List UInt8 := [180, 0, 81, 46, 2, 160, 0, 6, 167, 0, 33, 42, 42, 180, 0, 15, 25, 4, 180, 0, 76, 46, 25, 4]
abbrev dktX3_isLinked_3 : List UInt8 := dkwX3_isLinked_3 ++ dktX3_isLinked_4
def dkwX3_isLinked_2 : List UInt8 := [160, 0, 64, 42, 180, 0, 15, 25, 4, 180, 0, 76, 46, 2, 159, 0, 50, 42, 180, 0, 15, 25, 4]
abbrev dktX3_isLinked_2 : List UInt8 := dkwX3_isLinked_2 ++ dktX3_isLinked_3
def dkwX3_isLinked_1 : List UInt8 := [180, 0, 72, 29, 50, 58, 4, 25, 4, 180, 0, 76, 27, 159, 0, 12, 25, 4, 180, 0, 81, 27]
abbrev dktX3_isLinked_1 : List UInt8 := dkwX3_isLinked_1 ++ dktX3_isLinked_2
def dkwX3_isLinked_0 : List UInt8 := [4, 61, 3, 62, 29, 42, 180, 0, 22, 180, 0, 69, 162, 0, 103, 28, 153, 0, 99, 42, 180, 0, 22]
abbrev dktX3_isLinked_0 : List UInt8 := dkwX3_isLinked_0 ++ dktX3_isLinked_1
theorem dksX3_isLinked_0 : cX3_isLinked.data.toList.drop 0 = dktX3_isLinked_0 := by decide +kernel
theorem dksX3_isLinked_1 : cX3_isLinked.data.toList.drop 23 = dktX3_isLinked_1 := dk_seg dksX3_isLinked_0 23 rfl rfl
theorem dksX3_isLinked_2 : cX3_isLinked.data.toList.drop 45 = dktX3_isLinked_2 := dk_seg dksX3_isLinked_1 22 rfl rfl
theorem dksX3_isLinked_3 : cX3_isLinked.data.toList.drop 68 = dktX3_isLinked_3 := dk_seg dksX3_isLinked_2 23 rfl rfl
theorem dksX3_isLinked_4 : cX3_isLinked.data.toList.drop 92 = dktX3_isLinked_4 := dk_seg dksX3_isLinked_3 24 rfl rfl
theorem dksX3_isLinked_5 : cX3_isLinked.data.toList.drop 116 = dktX3_isLinked_5 := dk_seg dksX3_isLinked_4 24 rfl rfl
theorem dX3_isLinked_0 : decode cX3_isLinked 0 = .ok (.iconst 1, 1) := dk_4 (dk_at dksX3_isLinked_0 0 rfl rfl)
theorem dX3_isLinked_1 : decode cX3_isLinked 1 = .ok (.istore_n 2, 1) := dk_61 (dk_at dksX3_isLinked_0 1 rfl rfl)
theorem dX3_isLinked_2 : decode cX3_isLinked 2 = .ok (.iconst 0, 1) := dk_3 (dk_at dksX3_isLinked_0 2 rfl rfl)
theorem dX3_isLinked_3 : decode cX3_isLinked 3 = .ok (.istore_n 3, 1) := dk_62 (dk_at dksX3_isLinked_0 3 rfl rfl)
theorem dX3_isLinked_4 : decode cX3_isLinked 4 = .ok (.iload_n 3, 1) := dk_29 (dk_at dksX3_isLinked_0 4 rfl rfl)
theorem dX3_isLinked_5 : decode cX3_isLinked 5 = .ok (.aload_n 0, 1) := dk_42 (dk_at dksX3_isLinked_0 5 rfl rfl)
theorem dX3_isLinked_6 : decode cX3_isLinked 6 = .ok (.getfield 22, 3) := dk_180 0 22 (dk_at dksX3_isLinked_0 6 rfl rfl)
theorem dX3_isLinked_9 : decode cX3_isLinked 9 = .ok (.getfield 69, 3) := dk_180 0 69 (dk_at dksX3_isLinked_0 9 rfl rfl)
theorem dX3_isLinked_12 : decode cX3_isLinked 12 = .ok (.if_icmp .ge 103, 3) := dk_162 0 103 (dk_at dksX3_isLinked_0 12 rfl rfl)
theorem dX3_isLinked_15 : decode cX3_isLinked 15 = .ok (.iload_n 2, 1) := dk_28 (dk_at dksX3_isLinked_0 15 rfl rfl)
theorem dX3_isLinked_16 : decode cX3_isLinked 16 = .ok (.ifCond .eq 99, 3) := dk_153 0 99 (dk_at dksX3_isLinked_0 16 rfl rfl)
theorem dX3_isLinked_19 : decode cX3_isLinked 19 = .ok (.aload_n 0, 1) := dk_42 (dk_at dksX3_isLinked_0 19 rfl rfl)
theorem dX3_isLinked_20 : decode cX3_isLinked 20 = .ok (.getfield 22, 3) := dk_180 0 22 (dk_at dksX3_isLinked_0 20 rfl rfl)
theorem dX3_isLinked_23 : decode cX3_isLinked 23 = .ok (.getfield 72, 3) := dk_180 0 72 (dk_at dksX3_isLinked_1 0 rfl rfl)
theorem dX3_isLinked_26 : decode cX3_isLinked 26 = .ok (.iload_n 3, 1) := dk_29 (dk_at dksX3_isLinked_1 3 rfl rfl)
theorem dX3_isLinked_27 : decode cX3_isLinked 27 = .ok (.aaload, 1) := dk_50 (dk_at dksX3_isLinked_1 4 rfl rfl)
theorem dX3_isLinked_28 : decode cX3_isLinked 28 = .ok (.astore 4, 2) := dk_58 4 (dk_at dksX3_isLinked_1 5 rfl rfl)
theorem dX3_isLinked_30 : decode cX3_isLinked 30 = .ok (.aload 4, 2) := dk_25 4 (dk_at dksX3_isLinked_1 7 rfl rfl)
theorem dX3_isLinked_32 : decode cX3_isLinked 32 = .ok (.getfield 76, 3) := dk_180 0 76 (dk_at dksX3_isLinked_1 9 rfl rfl)
theorem dX3_isLinked_35 : decode cX3_isLinked 35 = .ok (.iload_n 1, 1) := dk_27 (dk_at dksX3_isLinked_1 12 rfl rfl)
theorem dX3_isLinked_36 : decode cX3_isLinked 36 = .ok (.if_icmp .eq 12, 3) := dk_159 0 12 (dk_at dksX3_isLinked_1 13 rfl rfl)
theorem dX3_isLinked_39 : decode cX3_isLinked 39 = .ok (.aload 4, 2) := dk_25 4 (dk_at dksX3_isLinked_1 16 rfl rfl)
theorem dX3_isLinked_41 : decode cX3_isLinked 41 = .ok (.getfield 81, 3) := dk_180 0 81 (dk_at dksX3_isLinked_1 18 rfl rfl)
theorem dX3_isLinked_44 : decode cX3_isLinked 44 = .ok (.iload_n 1, 1) := dk_27 (dk_at dksX3_isLinked_1 21 rfl rfl)
theorem dX3_isLinked_45 : decode cX3_isLinked 45 = .ok (.if_icmp .ne 64, 3) := dk_160 0 64 (dk_at dksX3_isLinked_2 0 rfl rfl)
theorem dX3_isLinked_48 : decode cX3_isLinked 48 = .ok (.aload_n 0, 1) := dk_42 (dk_at dksX3_isLinked_2 3 rfl rfl)
theorem dX3_isLinked_49 : decode cX3_isLinked 49 = .ok (.getfield 15, 3) := dk_180 0 15 (dk_at dksX3_isLinked_2 4 rfl rfl)
theorem dX3_isLinked_52 : decode cX3_isLinked 52 = .ok (.aload 4, 2) := dk_25 4 (dk_at dksX3_isLinked_2 7 rfl rfl)
theorem dX3_isLinked_54 : decode cX3_isLinked 54 = .ok (.getfield 76, 3) := dk_180 0 76 (dk_at dksX3_isLinked_2 9 rfl rfl)
theorem dX3_isLinked_57 : decode cX3_isLinked 57 = .ok (.iaload, 1) := dk_46 (dk_at dksX3_isLinked_2 12 rfl rfl)
theorem dX3_isLinked_58 : decode cX3_isLinked 58 = .ok (.iconst (-1), 1) := dk_2 (dk_at dksX3_isLinked_2 13 rfl rfl)
theorem dX3_isLinked_59 : decode cX3_isLinked 59 = .ok (.if_icmp .eq 50, 3) := dk_159 0 50 (dk_at dksX3_isLinked_2 14 rfl rfl)
theorem dX3_isLinked_62 : decode cX3_isLinked 62 = .ok (.aload_n 0, 1) := dk_42 (dk_at dksX3_isLinked_2 17 rfl rfl)
theorem dX3_isLinked_63 : decode cX3_isLinked 63 = .ok (.getfield 15, 3) := dk_180 0 15 (dk_at dksX3_isLinked_2 18 rfl rfl)
theorem dX3_isLinked_66 : decode cX3_isLinked 66 = .ok (.aload 4, 2) := dk_25 4 (dk_at dksX3_isLinked_2 21 rfl rfl)
theorem dX3_isLinked_68 : decode cX3_isLinked 68 = .ok (.getfield 81, 3) := dk_180 0 81 (dk_at dksX3_isLinked_3 0 rfl rfl)
theorem dX3_isLinked_71 : decode cX3_isLinked 71 = .ok (.iaload, 1) := dk_46 (dk_at dksX3_isLinked_3 3 rfl rfl)
theorem dX3_isLinked_72 : decode cX3_isLinked 72 = .ok (.iconst (-1), 1) := dk_2 (dk_at dksX3_isLinked_3 4 rfl rfl)
theorem dX3_isLinked_73 : decode cX3_isLinked 73 = .ok (.if_icmp .ne 6, 3) := dk_160 0 6 (dk_at dksX3_isLinked_3 5 rfl rfl)
theorem dX3_isLinked_76 : decode cX3_isLinked 76 = .ok (.goto 33, 3) := dk_167 0 33 (dk_at dksX3_isLinked_3 8 rfl rfl)
theorem dX3_isLinked_79 : decode cX3_isLinked 79 = .ok (.aload_n 0, 1) := dk_42 (dk_at dksX3_isLinked_3 11 rfl rfl)
theorem dX3_isLinked_80 : decode cX3_isLinked 80 = .ok (.aload_n 0, 1) := dk_42 (dk_at dksX3_isLinked_3 12 rfl rfl)
theorem dX3_isLinked_81 : decode cX3_isLinked 81 = .ok (.getfield 15, 3) := dk_180 0 15 (dk_at dksX3_isLinked_3 13 rfl rfl)
theorem dX3_isLinked_84 : decode cX3_isLinked 84 = .ok (.aload 4, 2) := dk_25 4 (dk_at dksX3_isLinked_3 16 rfl rfl)
theorem dX3_isLinked_86 : decode cX3_isLinked 86 = .ok (.getfield 76, 3) := dk_180 0 76 (dk_at dksX3_isLinked_3 18 rfl rfl)
theorem dX3_isLinked_89 : decode cX3_isLinked 89 = .ok (.iaload, 1) := dk_46 (dk_at dksX3_isLinked_3 21 rfl rfl)
theorem dX3_isLinked_90 : decode cX3_isLinked 90 = .ok (.aload 4, 2) := dk_25 4 (dk_at dksX3_isLinked_3 22 rfl rfl)
theorem dX3_isLinked_92 : decode cX3_isLinked 92 = .ok (.getfield 83, 3) := dk_180 0 83 (dk_at dksX3_isLinked_4 0 rfl rfl)
theorem dX3_isLinked_95 : decode cX3_isLinked 95 = .ok (.aload_n 0, 1) := dk_42 (dk_at dksX3_isLinked_4 3 rfl rfl)
theorem dX3_isLinked_96 : decode cX3_isLinked 96 = .ok (.getfield 15, 3) := dk_180 0 15 (dk_at dksX3_isLinked_4 4 rfl rfl)
theorem dX3_isLinked_99 : decode cX3_isLinked 99 = .ok (.aload 4, 2) := dk_25 4 (dk_at dksX3_isLinked_4 7 rfl rfl)
theorem dX3_isLinked_101 : decode cX3_isLinked 101 = .ok (.getfield 81, 3) := dk_180 0 81 (dk_at dksX3_isLinked_4 9 rfl rfl)
theorem dX3_isLinked_104 : decode cX3_isLinked 104 = .ok (.iaload, 1) := dk_46 (dk_at dksX3_isLinked_4 12 rfl rfl)
theorem dX3_isLinked_105 : decode cX3_isLinked 105 = .ok (.invokevirtual 86, 3) := dk_182 0 86 (dk_at dksX3_isLinked_4 13 rfl rfl)
theorem dX3_isLinked_108 : decode cX3_isLinked 108 = .ok (.istore_n 2, 1) := dk_61 (dk_at dksX3_isLinked_4 16 rfl rfl)
theorem dX3_isLinked_109 : decode cX3_isLinked 109 = .ok (.iinc 3 1, 3) := dk_132 3 1 (dk_at dksX3_isLinked_4 17 rfl rfl)
theorem dX3_isLinked_112 : decode cX3_isLinked 112 = .ok (.goto (-108), 3) := dk_167 255 148 (dk_at dksX3_isLinked_4 20 rfl rfl)
theorem dX3_isLinked_115 : decode cX3_isLinked 115 = .ok (.iload_n 2, 1) := dk_28 (dk_at dksX3_isLinked_4 23 rfl rfl)
theorem dX3_isLinked_116 : decode cX3_isLinked 116 = .ok (.ireturn, 1) := dk_172 (dk_at dksX3_isLinked_5 0 rfl rfl)
abbrev cX3_hasLink : ByteArray := prog_14_method_5_code
def yX3_hasLink : MethodName := ⟨RX3, "hasLink", "(III)Z"⟩
def dkwX3_hasLink_3 : List UInt8 := [167, 0, 4, 3, 54, 4, 132, 5, 1, 167, 255, 183, 21, 4, 172]
abbrev dktX3_hasLink_3 : List UInt8 := dkwX3_hasLink_3 ++ []
def dkwX3_hasLink_2 : List UInt8 := [180, 0, 81, 29, 160, 0, 23, 42, 180, 0, 3, 25, 6, 180, 0, 83, 28, 182, 0, 61, 153, 0, 7, 4]
abbrev dktX3_hasLink_2 : List UInt8 := dkwX3_hasLink_2 ++ dktX3_hasLink_3
def dkwX3_hasLink_1 : List UInt8 := [180, 0, 26, 180, 0, 72, 21, 5, 50, 58, 6, 25, 6, 180, 0, 76, 27, 160, 0, 32, 25, 6]
abbrev dktX3_hasLink_1 : List UInt8 := dkwX3_hasLink_1 ++ dktX3_hasLink_2
def dkwX3_hasLink_0 : List UInt8 := [3, 54, 4, 3, 54, 5, 21, 5, 42, 180, 0, 26, 180, 0, 69, 162, 0, 67, 21, 4, 154, 0, 62, 42]
abbrev dktX3_hasLink_0 : List UInt8 := dkwX3_hasLink_0 ++ dktX3_hasLink_1
theorem dksX3_hasLink_0 : cX3_hasLink.data.toList.drop 0 = dktX3_hasLink_0 := by decide +kernel
theorem dksX3_hasLink_1 : cX3_hasLink.data.toList.drop 24 = dktX3_hasLink_1 := dk_seg dksX3_hasLink_0 24 rfl rfl
theorem dksX3_hasLink_2 : cX3_hasLink.data.toList.drop 46 = dktX3_hasLink_2 := dk_seg dksX3_hasLink_1 22 rfl rfl
theorem dksX3_hasLink_3 : cX3_hasLink.data.toList.drop 70 = dktX3_hasLink_3 := dk_seg dksX3_hasLink_2 24 rfl rfl
theorem dX3_hasLink_0 : decode cX3_hasLink 0 = .ok (.iconst 0, 1) := dk_3 (dk_at dksX3_hasLink_0 0 rfl rfl)
theorem dX3_hasLink_1 : decode cX3_hasLink 1 = .ok (.istore 4, 2) := dk_54 4 (dk_at dksX3_hasLink_0 1 rfl rfl)
theorem dX3_hasLink_3 : decode cX3_hasLink 3 = .ok (.iconst 0, 1) := dk_3 (dk_at dksX3_hasLink_0 3 rfl rfl)
theorem dX3_hasLink_4 : decode cX3_hasLink 4 = .ok (.istore 5, 2) := dk_54 5 (dk_at dksX3_hasLink_0 4 rfl rfl)
theorem dX3_hasLink_6 : decode cX3_hasLink 6 = .ok (.iload 5, 2) := dk_21 5 (dk_at dksX3_hasLink_0 6 rfl rfl)
theorem dX3_hasLink_8 : decode cX3_hasLink 8 = .ok (.aload_n 0, 1) := dk_42 (dk_at dksX3_hasLink_0 8 rfl rfl)
theorem dX3_hasLink_9 : decode cX3_hasLink 9 = .ok (.getfield 26, 3) := dk_180 0 26 (dk_at dksX3_hasLink_0 9 rfl rfl)
theorem dX3_hasLink_12 : decode cX3_hasLink 12 = .ok (.getfield 69, 3) := dk_180 0 69 (dk_at dksX3_hasLink_0 12 rfl rfl)
theorem dX3_hasLink_15 : decode cX3_hasLink 15 = .ok (.if_icmp .ge 67, 3) := dk_162 0 67 (dk_at dksX3_hasLink_0 15 rfl rfl)
theorem dX3_hasLink_18 : decode cX3_hasLink 18 = .ok (.iload 4, 2) := dk_21 4 (dk_at dksX3_hasLink_0 18 rfl rfl)
theorem dX3_hasLink_20 : decode cX3_hasLink 20 = .ok (.ifCond .ne 62, 3) := dk_154 0 62 (dk_at dksX3_hasLink_0 20 rfl rfl)
theorem dX3_hasLink_23 : decode cX3_hasLink 23 = .ok (.aload_n 0, 1) := dk_42 (dk_at dksX3_hasLink_0 23 rfl rfl)
theorem dX3_hasLink_24 : decode cX3_hasLink 24 = .ok (.getfield 26, 3) := dk_180 0 26 (dk_at dksX3_hasLink_1 0 rfl rfl)
theorem dX3_hasLink_27 : decode cX3_hasLink 27 = .ok (.getfield 72, 3) := dk_180 0 72 (dk_at dksX3_hasLink_1 3 rfl rfl)
theorem dX3_hasLink_30 : decode cX3_hasLink 30 = .ok (.iload 5, 2) := dk_21 5 (dk_at dksX3_hasLink_1 6 rfl rfl)
theorem dX3_hasLink_32 : decode cX3_hasLink 32 = .ok (.aaload, 1) := dk_50 (dk_at dksX3_hasLink_1 8 rfl rfl)
theorem dX3_hasLink_33 : decode cX3_hasLink 33 = .ok (.astore 6, 2) := dk_58 6 (dk_at dksX3_hasLink_1 9 rfl rfl)
theorem dX3_hasLink_35 : decode cX3_hasLink 35 = .ok (.aload 6, 2) := dk_25 6 (dk_at dksX3_hasLink_1 11 rfl rfl)
theorem dX3_hasLink_37 : decode cX3_hasLink 37 = .ok (.getfield 76, 3) := dk_180 0 76 (dk_at dksX3_hasLink_1 13 rfl rfl)
theorem dX3_hasLink_40 : decode cX3_hasLink 40 = .ok (.iload_n 1, 1) := dk_27 (dk_at dksX3_hasLink_1 16 rfl rfl)
theorem dX3_hasLink_41 : decode cX3_hasLink 41 = .ok (.if_icmp .ne 32, 3) := dk_160 0 32 (dk_at dksX3_hasLink_1 17 rfl rfl)
theorem dX3_hasLink_44 : decode cX3_hasLink 44 = .ok (.aload 6, 2) := dk_25 6 (dk_at dksX3_hasLink_1 20 rfl rfl)
theorem dX3_hasLink_46 : decode cX3_hasLink 46 = .ok (.getfield 81, 3) := dk_180 0 81 (dk_at dksX3_hasLink_2 0 rfl rfl)
theorem dX3_hasLink_49 : decode cX3_hasLink 49 = .ok (.iload_n 3, 1) := dk_29 (dk_at dksX3_hasLink_2 3 rfl rfl)
theorem dX3_hasLink_50 : decode cX3_hasLink 50 = .ok (.if_icmp .ne 23, 3) := dk_160 0 23 (dk_at dksX3_hasLink_2 4 rfl rfl)
theorem dX3_hasLink_53 : decode cX3_hasLink 53 = .ok (.aload_n 0, 1) := dk_42 (dk_at dksX3_hasLink_2 7 rfl rfl)
theorem dX3_hasLink_54 : decode cX3_hasLink 54 = .ok (.getfield 3, 3) := dk_180 0 3 (dk_at dksX3_hasLink_2 8 rfl rfl)
theorem dX3_hasLink_57 : decode cX3_hasLink 57 = .ok (.aload 6, 2) := dk_25 6 (dk_at dksX3_hasLink_2 11 rfl rfl)
theorem dX3_hasLink_59 : decode cX3_hasLink 59 = .ok (.getfield 83, 3) := dk_180 0 83 (dk_at dksX3_hasLink_2 13 rfl rfl)
theorem dX3_hasLink_62 : decode cX3_hasLink 62 = .ok (.iload_n 2, 1) := dk_28 (dk_at dksX3_hasLink_2 16 rfl rfl)
theorem dX3_hasLink_63 : decode cX3_hasLink 63 = .ok (.invokevirtual 61, 3) := dk_182 0 61 (dk_at dksX3_hasLink_2 17 rfl rfl)
theorem dX3_hasLink_66 : decode cX3_hasLink 66 = .ok (.ifCond .eq 7, 3) := dk_153 0 7 (dk_at dksX3_hasLink_2 20 rfl rfl)
theorem dX3_hasLink_69 : decode cX3_hasLink 69 = .ok (.iconst 1, 1) := dk_4 (dk_at dksX3_hasLink_2 23 rfl rfl)
theorem dX3_hasLink_70 : decode cX3_hasLink 70 = .ok (.goto 4, 3) := dk_167 0 4 (dk_at dksX3_hasLink_3 0 rfl rfl)
theorem dX3_hasLink_73 : decode cX3_hasLink 73 = .ok (.iconst 0, 1) := dk_3 (dk_at dksX3_hasLink_3 3 rfl rfl)
theorem dX3_hasLink_74 : decode cX3_hasLink 74 = .ok (.istore 4, 2) := dk_54 4 (dk_at dksX3_hasLink_3 4 rfl rfl)
theorem dX3_hasLink_76 : decode cX3_hasLink 76 = .ok (.iinc 5 1, 3) := dk_132 5 1 (dk_at dksX3_hasLink_3 6 rfl rfl)
theorem dX3_hasLink_79 : decode cX3_hasLink 79 = .ok (.goto (-73), 3) := dk_167 255 183 (dk_at dksX3_hasLink_3 9 rfl rfl)
theorem dX3_hasLink_82 : decode cX3_hasLink 82 = .ok (.iload 4, 2) := dk_21 4 (dk_at dksX3_hasLink_3 12 rfl rfl)
theorem dX3_hasLink_84 : decode cX3_hasLink 84 = .ok (.ireturn, 1) := dk_172 (dk_at dksX3_hasLink_3 14 rfl rfl)
theorem q65 : (Jvm.Cond.initialized "PatentHall$Finder") ∈ lw_all := lw_g (lw_at lw_m1 7 rfl) rfl
theorem q210 : (Jvm.Cond.instantiable "PatentHall$Finder" (9 : Nat)) ∈ lw_all := lw_g (lw_at lw_m1 152 rfl) rfl
theorem q212 : (Jvm.Cond.instanceMethod ({ cls := "PatentHall$Finder", name := "<init>", desc := "(LPatentHall;)V" } : Jvm.MethodName)) ∈ lw_all := lw_g (lw_at lw_m1 154 rfl) rfl
theorem q213 : (Jvm.Cond.code ({ cls := "PatentHall$Finder", name := "<init>", desc := "(LPatentHall;)V" } : Jvm.MethodName) prog_14_method_1_code (2 : Nat) (Option.none : Option Jvm.ClassFile.FieldType)) ∈ lw_all := lw_g (lw_at lw_m1 155 rfl) rfl
theorem q214 : (Jvm.Cond.methodLink "PatentHall$Finder" (9 : Nat) ({ cls := "java/lang/Object", name := "<init>", desc := "()V" } : Jvm.MethodName)) ∈ lw_all := lw_g (lw_at lw_m1 156 rfl) rfl
theorem q215 : (Jvm.Cond.fieldLink "PatentHall$Finder" (22 : Nat) "PatentHall$Finder" "what" "LPatentHall$Text;") ∈ lw_all := lw_g (lw_at lw_m1 157 rfl) rfl
theorem q216 : (Jvm.Cond.fieldLink "PatentHall$Finder" (26 : Nat) "PatentHall$Finder" "in" "LPatentHall$Text;") ∈ lw_all := lw_g (lw_at lw_m1 158 rfl) rfl
theorem q217 : (Jvm.Cond.fieldLink "PatentHall$Finder" (29 : Nat) "PatentHall$Finder" "wanted" "I") ∈ lw_all := lw_g (lw_at lw_m1 159 rfl) rfl
theorem q218 : (Jvm.Cond.fieldLink "PatentHall$Finder" (15 : Nat) "PatentHall$Finder" "to" "[I") ∈ lw_all := lw_g (lw_at lw_m1 160 rfl) rfl
theorem q219 : (Jvm.Cond.fieldLink "PatentHall$Finder" (19 : Nat) "PatentHall$Finder" "first" "[I") ∈ lw_all := lw_g (lw_at lw_m1 161 rfl) rfl
theorem q221 : (Jvm.Cond.fieldLink "PatentHall$Finder" (37 : Nat) "PatentHall$Finder" "ways" "I") ∈ lw_all := lw_g (lw_at lw_m1 163 rfl) rfl
theorem q222 : (Jvm.Cond.fieldLink "PatentHall$Finder" (55 : Nat) "PatentHall$Finder" "firstParts" "I") ∈ lw_all := lw_g (lw_at lw_m1 164 rfl) rfl
theorem q223 : (Jvm.Cond.fieldLink "PatentHall$Finder" (33 : Nat) "PatentHall$Finder" "onlyOne" "Z") ∈ lw_all := lw_g (lw_at lw_m1 165 rfl) rfl
theorem q224 : (Jvm.Cond.fieldLink "PatentHall$Finder" (3 : Nat) "PatentHall$Finder" "this$0" "LPatentHall;") ∈ lw_all := lw_g (lw_at lw_m1 166 rfl) rfl
theorem q225 : (Jvm.Cond.lays "PatentHall$Finder" "PatentHall$Finder" "what" "LPatentHall$Text;") ∈ lw_all := lw_g (lw_at lw_m1 167 rfl) rfl
theorem q226 : (Jvm.Cond.soleField "PatentHall$Finder" "what") ∈ lw_all := lw_g (lw_at lw_m1 168 rfl) rfl
theorem q227 : (Jvm.Cond.lays "PatentHall$Finder" "PatentHall$Finder" "in" "LPatentHall$Text;") ∈ lw_all := lw_g (lw_at lw_m1 169 rfl) rfl
theorem q228 : (Jvm.Cond.soleField "PatentHall$Finder" "in") ∈ lw_all := lw_g (lw_at lw_m1 170 rfl) rfl
theorem q229 : (Jvm.Cond.lays "PatentHall$Finder" "PatentHall$Finder" "wanted" "I") ∈ lw_all := lw_g (lw_at lw_m1 171 rfl) rfl
theorem q230 : (Jvm.Cond.soleField "PatentHall$Finder" "wanted") ∈ lw_all := lw_g (lw_at lw_m1 172 rfl) rfl
theorem q231 : (Jvm.Cond.laysFinal "PatentHall$Finder" "PatentHall$Finder" "to" "[I") ∈ lw_all := lw_g (lw_at lw_m1 173 rfl) rfl
theorem q232 : (Jvm.Cond.soleField "PatentHall$Finder" "to") ∈ lw_all := lw_g (lw_at lw_m1 174 rfl) rfl
theorem q233 : (Jvm.Cond.laysFinal "PatentHall$Finder" "PatentHall$Finder" "first" "[I") ∈ lw_all := lw_g (lw_at lw_m1 175 rfl) rfl
theorem q234 : (Jvm.Cond.soleField "PatentHall$Finder" "first") ∈ lw_all := lw_g (lw_at lw_m1 176 rfl) rfl
theorem q235 : (Jvm.Cond.lays "PatentHall$Finder" "PatentHall$Finder" "ways" "I") ∈ lw_all := lw_g (lw_at lw_m1 177 rfl) rfl
theorem q236 : (Jvm.Cond.soleField "PatentHall$Finder" "ways") ∈ lw_all := lw_g (lw_at lw_m1 178 rfl) rfl
theorem q237 : (Jvm.Cond.lays "PatentHall$Finder" "PatentHall$Finder" "firstParts" "I") ∈ lw_all := lw_g (lw_at lw_m1 179 rfl) rfl
theorem q238 : (Jvm.Cond.soleField "PatentHall$Finder" "firstParts") ∈ lw_all := lw_g (lw_at lw_m1 180 rfl) rfl
theorem q239 : (Jvm.Cond.lays "PatentHall$Finder" "PatentHall$Finder" "onlyOne" "Z") ∈ lw_all := lw_g (lw_at lw_m1 181 rfl) rfl
theorem q240 : (Jvm.Cond.soleField "PatentHall$Finder" "onlyOne") ∈ lw_all := lw_g (lw_at lw_m1 182 rfl) rfl
theorem q241 : (Jvm.Cond.laysFinal "PatentHall$Finder" "PatentHall$Finder" "this$0" "LPatentHall;") ∈ lw_all := lw_g (lw_at lw_m1 183 rfl) rfl
theorem q242 : (Jvm.Cond.soleField "PatentHall$Finder" "this$0") ∈ lw_all := lw_g (lw_at lw_m1 184 rfl) rfl
theorem q243 : (Jvm.Cond.superclass "PatentHall$Finder" "java/lang/Object") ∈ lw_all := lw_g (lw_at lw_m1 185 rfl) rfl
theorem q547 : (Jvm.Cond.fieldLink "PatentHall$Finder" (58 : Nat) "PatentHall$Text" "words" "[I") ∈ lw_all := lw_g (lw_at lw_m3 9 rfl) rfl
theorem q550 : (Jvm.Cond.fieldLink "PatentHall$Finder" (72 : Nat) "PatentHall$Text" "links" "[LPatentHall$Link;") ∈ lw_all := lw_g (lw_at lw_m3 12 rfl) rfl
theorem q553 : (Jvm.Cond.fieldLink "PatentHall$Finder" (44 : Nat) "PatentHall$Text" "parts" "I") ∈ lw_all := lw_g (lw_at lw_m3 15 rfl) rfl
theorem q557 : (Jvm.Cond.fieldLink "PatentHall$Finder" (69 : Nat) "PatentHall$Text" "linkMany" "I") ∈ lw_all := lw_g (lw_at lw_m3 19 rfl) rfl
theorem q621 : (Jvm.Cond.fieldLink "PatentHall$Finder" (76 : Nat) "PatentHall$Link" "from" "I") ∈ lw_all := lw_g (lw_at lw_m3 83 rfl) rfl
theorem q624 : (Jvm.Cond.fieldLink "PatentHall$Finder" (83 : Nat) "PatentHall$Link" "word" "I") ∈ lw_all := lw_g (lw_at lw_m3 86 rfl) rfl
theorem q627 : (Jvm.Cond.fieldLink "PatentHall$Finder" (81 : Nat) "PatentHall$Link" "to" "I") ∈ lw_all := lw_g (lw_at lw_m3 89 rfl) rfl
theorem q751 : (Jvm.Cond.instanceMethod ({ cls := "PatentHall$Finder", name := "find", desc := "(LPatentHall$Text;ILPatentHall$Text;Z)I" } : Jvm.MethodName)) ∈ lw_all := lw_g (lw_at lw_m3 213 rfl) rfl
theorem q752 : (Jvm.Cond.selects "PatentHall$Finder" ({ cls := "PatentHall$Finder", name := "find", desc := "(LPatentHall$Text;ILPatentHall$Text;Z)I" } : Jvm.MethodName) ({ cls := "PatentHall$Finder", name := "find", desc := "(LPatentHall$Text;ILPatentHall$Text;Z)I" } : Jvm.MethodName)) ∈ lw_all := lw_g (lw_at lw_m3 214 rfl) rfl
theorem q753 : (Jvm.Cond.code ({ cls := "PatentHall$Finder", name := "find", desc := "(LPatentHall$Text;ILPatentHall$Text;Z)I" } : Jvm.MethodName) prog_14_method_2_code (6 : Nat) (Option.some Jvm.ClassFile.FieldType.int)) ∈ lw_all := lw_g (lw_at lw_m3 215 rfl) rfl
theorem q754 : (Jvm.Cond.methodLink "PatentHall$Finder" (40 : Nat) ({ cls := "PatentHall$Finder", name := "goes", desc := "(II)V" } : Jvm.MethodName)) ∈ lw_all := lw_g (lw_at lw_m3 216 rfl) rfl
theorem q755 : (Jvm.Cond.privateMethod ({ cls := "PatentHall$Finder", name := "goes", desc := "(II)V" } : Jvm.MethodName)) ∈ lw_tbl := lw_at lw_m3 217 rfl
theorem q756 : (Jvm.Cond.instanceMethod ({ cls := "PatentHall$Finder", name := "goes", desc := "(II)V" } : Jvm.MethodName)) ∈ lw_all := lw_g (lw_at lw_m3 218 rfl) rfl
theorem q757 : (Jvm.Cond.code ({ cls := "PatentHall$Finder", name := "goes", desc := "(II)V" } : Jvm.MethodName) prog_14_method_3_code (4 : Nat) (Option.none : Option Jvm.ClassFile.FieldType)) ∈ lw_all := lw_g (lw_at lw_m3 219 rfl) rfl
theorem q758 : (Jvm.Cond.methodLink "PatentHall$Finder" (49 : Nat) ({ cls := "java/lang/System", name := "arraycopy", desc := "(Ljava/lang/Object;ILjava/lang/Object;II)V" } : Jvm.MethodName)) ∈ lw_all := lw_g (lw_at lw_m3 220 rfl) rfl
theorem q759 : (Jvm.Cond.methodLinkNest "PatentHall$Finder" (61 : Nat) ({ cls := "PatentHall", name := "isUnder", desc := "(II)Z" } : Jvm.MethodName) "PatentHall") ∈ lw_tbl := lw_at lw_m3 221 rfl
theorem q760 : (Jvm.Cond.methodLink "PatentHall$Finder" (65 : Nat) ({ cls := "PatentHall$Finder", name := "isLinked", desc := "(I)Z" } : Jvm.MethodName)) ∈ lw_all := lw_g (lw_at lw_m3 222 rfl) rfl
theorem q761 : (Jvm.Cond.privateMethod ({ cls := "PatentHall$Finder", name := "isLinked", desc := "(I)Z" } : Jvm.MethodName)) ∈ lw_tbl := lw_at lw_m3 223 rfl
theorem q762 : (Jvm.Cond.instanceMethod ({ cls := "PatentHall$Finder", name := "isLinked", desc := "(I)Z" } : Jvm.MethodName)) ∈ lw_all := lw_g (lw_at lw_m3 224 rfl) rfl
theorem q763 : (Jvm.Cond.code ({ cls := "PatentHall$Finder", name := "isLinked", desc := "(I)Z" } : Jvm.MethodName) prog_14_method_4_code (5 : Nat) (Option.some Jvm.ClassFile.FieldType.boolean)) ∈ lw_all := lw_g (lw_at lw_m3 225 rfl) rfl
theorem q764 : (Jvm.Cond.methodLink "PatentHall$Finder" (86 : Nat) ({ cls := "PatentHall$Finder", name := "hasLink", desc := "(III)Z" } : Jvm.MethodName)) ∈ lw_all := lw_g (lw_at lw_m3 226 rfl) rfl
theorem q765 : (Jvm.Cond.privateMethod ({ cls := "PatentHall$Finder", name := "hasLink", desc := "(III)Z" } : Jvm.MethodName)) ∈ lw_tbl := lw_at lw_m3 227 rfl
theorem q766 : (Jvm.Cond.instanceMethod ({ cls := "PatentHall$Finder", name := "hasLink", desc := "(III)Z" } : Jvm.MethodName)) ∈ lw_all := lw_g (lw_at lw_m3 228 rfl) rfl
theorem q767 : (Jvm.Cond.code ({ cls := "PatentHall$Finder", name := "hasLink", desc := "(III)Z" } : Jvm.MethodName) prog_14_method_5_code (7 : Nat) (Option.some Jvm.ClassFile.FieldType.boolean)) ∈ lw_all := lw_g (lw_at lw_m3 229 rfl) rfl
theorem in_X3 : ∀ w ∈ wsX30, w ∈ lw_all := lw_in wsX30 [225, 227, 229, 231, 233, 235, 237, 239, 241] (by decide +kernel) (by decide +kernel)

/-! PatentHallModel$Stop -/
set_option maxRecDepth 100000
def RX5 : String := "PatentHallModel$Stop"
def TX5 : u_T := fun k => match k with
  | 0 => ("java/lang/Throwable", "cause", "Ljava/lang/Throwable;", false)
  | 1 => ("java/lang/Throwable", "stackTrace", "[Ljava/lang/StackTraceElement;", false)
  | 2 => ("java/lang/Throwable", "suppressedExceptions", "Ljava/util/List;", false)
  | 3 => ("java/lang/Throwable", "detailMessage", "Ljava/lang/String;", false)
  | 4 => ("java/lang/Throwable", "backtrace", "Ljava/lang/Object;", false)
  | 5 => ("java/lang/Throwable", "depth", "I", false)
  | 6 => ("PatentHallModel$Stop", "kind", "I", false)
  | _ => ("PatentHallModel$Stop", "place", "I", false)
def tyX5 : Nat → FieldType := fun k => match k with
  | 0 => .object "java/lang/Throwable"
  | 1 => .array (.object "java/lang/StackTraceElement")
  | 2 => .object "java/util/List"
  | 3 => .object "java/lang/String"
  | 4 => .object "java/lang/Object"
  | 5 => .int
  | 6 => .int
  | _ => .int
abbrev wsX50 : List Cond := u_ws RX5 TX5 8
theorem nmX5 : ∀ a, a < 8 → ∀ b, b < 8 → a ≠ b → (TX5 a).2.1 ≠ (TX5 b).2.1 := by decide +kernel
theorem tyX5_ok : ∀ k, k < 8 → parseFieldDescriptor (TX5 k).2.2.1 = some (tyX5 k) := by decide +kernel
abbrev cX5_init : ByteArray := prog_23_method_1_code
def yX5_init : MethodName := ⟨RX5, "<init>", "()V"⟩
def dkwX5_init_0 : List UInt8 := [42, 1, 1, 3, 3, 183, 0, 1, 177]
abbrev dktX5_init_0 : List UInt8 := dkwX5_init_0 ++ []
theorem dksX5_init_0 : cX5_init.data.toList.drop 0 = dktX5_init_0 := by decide +kernel
theorem dX5_init_0 : decode cX5_init 0 = .ok (.aload_n 0, 1) := dk_42 (dk_at dksX5_init_0 0 rfl rfl)
theorem dX5_init_1 : decode cX5_init 1 = .ok (.aconst_null, 1) := dk_1 (dk_at dksX5_init_0 1 rfl rfl)
theorem dX5_init_2 : decode cX5_init 2 = .ok (.aconst_null, 1) := dk_1 (dk_at dksX5_init_0 2 rfl rfl)
theorem dX5_init_3 : decode cX5_init 3 = .ok (.iconst 0, 1) := dk_3 (dk_at dksX5_init_0 3 rfl rfl)
theorem dX5_init_4 : decode cX5_init 4 = .ok (.iconst 0, 1) := dk_3 (dk_at dksX5_init_0 4 rfl rfl)
theorem dX5_init_5 : decode cX5_init 5 = .ok (.invokespecial 1, 3) := dk_183 0 1 (dk_at dksX5_init_0 5 rfl rfl)
theorem dX5_init_8 : decode cX5_init 8 = .ok (.return_, 1) := dk_177 (dk_at dksX5_init_0 8 rfl rfl)
theorem q67 : (Jvm.Cond.initialized "PatentHallModel$Stop") ∈ lw_all := lw_g (lw_at lw_m1 9 rfl) rfl
theorem q138 : (Jvm.Cond.selects "PatentHallModel$Stop" ({ cls := "java/lang/Throwable", name := "fillInStackTrace", desc := "()Ljava/lang/Throwable;" } : Jvm.MethodName) ({ cls := "java/lang/Throwable", name := "fillInStackTrace", desc := "()Ljava/lang/Throwable;" } : Jvm.MethodName)) ∈ lw_all := lw_g (lw_at lw_m1 80 rfl) rfl
theorem q1040 : (Jvm.Cond.instantiable "PatentHallModel$Stop" (8 : Nat)) ∈ lw_all := lw_g (lw_at lw_m5 22 rfl) rfl
theorem q1041 : (Jvm.Cond.castable "PatentHallModel$Stop" "PatentHallModel$Stop") ∈ lw_tbl := lw_at lw_m5 23 rfl
theorem q1042 : (Jvm.Cond.selects "PatentHallModel$Stop" ({ cls := "java/lang/Throwable", name := "fillInStackTrace", desc := "(I)Ljava/lang/Throwable;" } : Jvm.MethodName) ({ cls := "java/lang/Throwable", name := "fillInStackTrace", desc := "(I)Ljava/lang/Throwable;" } : Jvm.MethodName)) ∈ lw_all := lw_g (lw_at lw_m5 24 rfl) rfl
theorem q1043 : (Jvm.Cond.lays "PatentHallModel$Stop" "java/lang/Throwable" "cause" "Ljava/lang/Throwable;") ∈ lw_all := lw_g (lw_at lw_m5 25 rfl) rfl
theorem q1044 : (Jvm.Cond.lays "PatentHallModel$Stop" "java/lang/Throwable" "stackTrace" "[Ljava/lang/StackTraceElement;") ∈ lw_all := lw_g (lw_at lw_m5 26 rfl) rfl
theorem q1045 : (Jvm.Cond.lays "PatentHallModel$Stop" "java/lang/Throwable" "suppressedExceptions" "Ljava/util/List;") ∈ lw_all := lw_g (lw_at lw_m5 27 rfl) rfl
theorem q1046 : (Jvm.Cond.lays "PatentHallModel$Stop" "java/lang/Throwable" "detailMessage" "Ljava/lang/String;") ∈ lw_all := lw_g (lw_at lw_m5 28 rfl) rfl
theorem q1047 : (Jvm.Cond.lays "PatentHallModel$Stop" "java/lang/Throwable" "backtrace" "Ljava/lang/Object;") ∈ lw_all := lw_g (lw_at lw_m5 29 rfl) rfl
theorem q1049 : (Jvm.Cond.instanceMethod ({ cls := "PatentHallModel$Stop", name := "<init>", desc := "()V" } : Jvm.MethodName)) ∈ lw_all := lw_g (lw_at lw_m5 31 rfl) rfl
theorem q1050 : (Jvm.Cond.code ({ cls := "PatentHallModel$Stop", name := "<init>", desc := "()V" } : Jvm.MethodName) prog_23_method_1_code (1 : Nat) (Option.none : Option Jvm.ClassFile.FieldType)) ∈ lw_all := lw_g (lw_at lw_m5 32 rfl) rfl
theorem q1051 : (Jvm.Cond.methodLink "PatentHallModel$Stop" (1 : Nat) ({ cls := "java/lang/RuntimeException", name := "<init>", desc := "(Ljava/lang/String;Ljava/lang/Throwable;ZZ)V" } : Jvm.MethodName)) ∈ lw_all := lw_g (lw_at lw_m5 33 rfl) rfl
theorem q1054 : (Jvm.Cond.lays "PatentHallModel$Stop" "PatentHallModel$Stop" "kind" "I") ∈ lw_all := lw_g (lw_at lw_m5 36 rfl) rfl
theorem q1055 : (Jvm.Cond.soleField "PatentHallModel$Stop" "kind") ∈ lw_all := lw_g (lw_at lw_m5 37 rfl) rfl
theorem q1056 : (Jvm.Cond.lays "PatentHallModel$Stop" "PatentHallModel$Stop" "place" "I") ∈ lw_all := lw_g (lw_at lw_m5 38 rfl) rfl
theorem q1057 : (Jvm.Cond.soleField "PatentHallModel$Stop" "place") ∈ lw_all := lw_g (lw_at lw_m5 39 rfl) rfl
theorem q1058 : (Jvm.Cond.lays "PatentHallModel$Stop" "java/lang/Throwable" "depth" "I") ∈ lw_all := lw_g (lw_at lw_m5 40 rfl) rfl
theorem q1059 : (Jvm.Cond.superclass "PatentHallModel$Stop" "java/lang/RuntimeException") ∈ lw_all := lw_g (lw_at lw_m5 41 rfl) rfl
theorem in_X5 : ∀ w ∈ wsX50, w ∈ lw_all := lw_in wsX50 [1043, 1044, 1045, 1046, 1047, 1058, 1054, 1056] (by decide +kernel) (by decide +kernel)

/-! PatentHallModel$Text -/
set_option maxRecDepth 100000
def RX6 : String := "PatentHallModel$Text"
def TX6 : u_T := fun k => match k with
  | 0 => ("PatentHallModel$Text", "parts", "I", false)
  | 1 => ("PatentHallModel$Text", "links", "I", false)
  | 2 => ("PatentHallModel$Text", "name", "[J", true)
  | 3 => ("PatentHallModel$Text", "word", "[I", true)
  | 4 => ("PatentHallModel$Text", "from", "[I", true)
  | 5 => ("PatentHallModel$Text", "verb", "[I", true)
  | _ => ("PatentHallModel$Text", "to", "[I", true)
def tyX6 : Nat → FieldType := fun k => match k with
  | 0 => .int
  | 1 => .int
  | 2 => .array .long
  | 3 => .array .int
  | 4 => .array .int
  | 5 => .array .int
  | _ => .array .int
abbrev wsX60 : List Cond := u_ws RX6 TX6 7
theorem nmX6 : ∀ a, a < 7 → ∀ b, b < 7 → a ≠ b → (TX6 a).2.1 ≠ (TX6 b).2.1 := by decide +kernel
theorem tyX6_ok : ∀ k, k < 7 → parseFieldDescriptor (TX6 k).2.2.1 = some (tyX6 k) := by decide +kernel
abbrev cX6_init : ByteArray := prog_24_method_1_code
def yX6_init : MethodName := ⟨RX6, "<init>", "()V"⟩
def dkwX6_init_1 : List UInt8 := [188, 10, 181, 0, 19, 42, 16, 10, 188, 10, 181, 0, 22, 42, 16, 10, 188, 10, 181, 0, 25, 177]
abbrev dktX6_init_1 : List UInt8 := dkwX6_init_1 ++ []
def dkwX6_init_0 : List UInt8 := [42, 183, 0, 3, 42, 16, 8, 188, 11, 181, 0, 9, 42, 16, 8, 188, 10, 181, 0, 15, 42, 16, 10]
abbrev dktX6_init_0 : List UInt8 := dkwX6_init_0 ++ dktX6_init_1
theorem dksX6_init_0 : cX6_init.data.toList.drop 0 = dktX6_init_0 := by decide +kernel
theorem dksX6_init_1 : cX6_init.data.toList.drop 23 = dktX6_init_1 := dk_seg dksX6_init_0 23 rfl rfl
theorem dX6_init_0 : decode cX6_init 0 = .ok (.aload_n 0, 1) := dk_42 (dk_at dksX6_init_0 0 rfl rfl)
theorem dX6_init_1 : decode cX6_init 1 = .ok (.invokespecial 3, 3) := dk_183 0 3 (dk_at dksX6_init_0 1 rfl rfl)
theorem dX6_init_4 : decode cX6_init 4 = .ok (.aload_n 0, 1) := dk_42 (dk_at dksX6_init_0 4 rfl rfl)
theorem dX6_init_5 : decode cX6_init 5 = .ok (.bipush 8, 2) := dk_16 8 (dk_at dksX6_init_0 5 rfl rfl)
theorem dX6_init_7 : decode cX6_init 7 = .ok (.newarray .long, 2) := dk_188_11 (dk_at dksX6_init_0 7 rfl rfl)
theorem dX6_init_9 : decode cX6_init 9 = .ok (.putfield 9, 3) := dk_181 0 9 (dk_at dksX6_init_0 9 rfl rfl)
theorem dX6_init_12 : decode cX6_init 12 = .ok (.aload_n 0, 1) := dk_42 (dk_at dksX6_init_0 12 rfl rfl)
theorem dX6_init_13 : decode cX6_init 13 = .ok (.bipush 8, 2) := dk_16 8 (dk_at dksX6_init_0 13 rfl rfl)
theorem dX6_init_15 : decode cX6_init 15 = .ok (.newarray .int, 2) := dk_188_10 (dk_at dksX6_init_0 15 rfl rfl)
theorem dX6_init_17 : decode cX6_init 17 = .ok (.putfield 15, 3) := dk_181 0 15 (dk_at dksX6_init_0 17 rfl rfl)
theorem dX6_init_20 : decode cX6_init 20 = .ok (.aload_n 0, 1) := dk_42 (dk_at dksX6_init_0 20 rfl rfl)
theorem dX6_init_21 : decode cX6_init 21 = .ok (.bipush 10, 2) := dk_16 10 (dk_at dksX6_init_0 21 rfl rfl)
theorem dX6_init_23 : decode cX6_init 23 = .ok (.newarray .int, 2) := dk_188_10 (dk_at dksX6_init_1 0 rfl rfl)
theorem dX6_init_25 : decode cX6_init 25 = .ok (.putfield 19, 3) := dk_181 0 19 (dk_at dksX6_init_1 2 rfl rfl)
theorem dX6_init_28 : decode cX6_init 28 = .ok (.aload_n 0, 1) := dk_42 (dk_at dksX6_init_1 5 rfl rfl)
theorem dX6_init_29 : decode cX6_init 29 = .ok (.bipush 10, 2) := dk_16 10 (dk_at dksX6_init_1 6 rfl rfl)
theorem dX6_init_31 : decode cX6_init 31 = .ok (.newarray .int, 2) := dk_188_10 (dk_at dksX6_init_1 8 rfl rfl)
theorem dX6_init_33 : decode cX6_init 33 = .ok (.putfield 22, 3) := dk_181 0 22 (dk_at dksX6_init_1 10 rfl rfl)
theorem dX6_init_36 : decode cX6_init 36 = .ok (.aload_n 0, 1) := dk_42 (dk_at dksX6_init_1 13 rfl rfl)
theorem dX6_init_37 : decode cX6_init 37 = .ok (.bipush 10, 2) := dk_16 10 (dk_at dksX6_init_1 14 rfl rfl)
theorem dX6_init_39 : decode cX6_init 39 = .ok (.newarray .int, 2) := dk_188_10 (dk_at dksX6_init_1 16 rfl rfl)
theorem dX6_init_41 : decode cX6_init 41 = .ok (.putfield 25, 3) := dk_181 0 25 (dk_at dksX6_init_1 18 rfl rfl)
theorem dX6_init_44 : decode cX6_init 44 = .ok (.return_, 1) := dk_177 (dk_at dksX6_init_1 21 rfl rfl)
abbrev cX6_find : ByteArray := prog_24_method_3_code
def yX6_find : MethodName := ⟨RX6, "find", "(J)I"⟩
def dkwX6_find_1 : List UInt8 := [167, 255, 234, 29, 42, 180, 0, 28, 162, 0, 7, 29, 167, 0, 4, 2, 172]
abbrev dktX6_find_1 : List UInt8 := dkwX6_find_1 ++ []
def dkwX6_find_0 : List UInt8 := [3, 62, 29, 42, 180, 0, 28, 162, 0, 20, 42, 180, 0, 9, 29, 47, 31, 148, 153, 0, 9, 132, 3, 1]
abbrev dktX6_find_0 : List UInt8 := dkwX6_find_0 ++ dktX6_find_1
theorem dksX6_find_0 : cX6_find.data.toList.drop 0 = dktX6_find_0 := by decide +kernel
theorem dksX6_find_1 : cX6_find.data.toList.drop 24 = dktX6_find_1 := dk_seg dksX6_find_0 24 rfl rfl
theorem dX6_find_0 : decode cX6_find 0 = .ok (.iconst 0, 1) := dk_3 (dk_at dksX6_find_0 0 rfl rfl)
theorem dX6_find_1 : decode cX6_find 1 = .ok (.istore_n 3, 1) := dk_62 (dk_at dksX6_find_0 1 rfl rfl)
theorem dX6_find_2 : decode cX6_find 2 = .ok (.iload_n 3, 1) := dk_29 (dk_at dksX6_find_0 2 rfl rfl)
theorem dX6_find_3 : decode cX6_find 3 = .ok (.aload_n 0, 1) := dk_42 (dk_at dksX6_find_0 3 rfl rfl)
theorem dX6_find_4 : decode cX6_find 4 = .ok (.getfield 28, 3) := dk_180 0 28 (dk_at dksX6_find_0 4 rfl rfl)
theorem dX6_find_7 : decode cX6_find 7 = .ok (.if_icmp .ge 20, 3) := dk_162 0 20 (dk_at dksX6_find_0 7 rfl rfl)
theorem dX6_find_10 : decode cX6_find 10 = .ok (.aload_n 0, 1) := dk_42 (dk_at dksX6_find_0 10 rfl rfl)
theorem dX6_find_11 : decode cX6_find 11 = .ok (.getfield 9, 3) := dk_180 0 9 (dk_at dksX6_find_0 11 rfl rfl)
theorem dX6_find_14 : decode cX6_find 14 = .ok (.iload_n 3, 1) := dk_29 (dk_at dksX6_find_0 14 rfl rfl)
theorem dX6_find_15 : decode cX6_find 15 = .ok (.laload, 1) := dk_47 (dk_at dksX6_find_0 15 rfl rfl)
theorem dX6_find_16 : decode cX6_find 16 = .ok (.lload_n 1, 1) := dk_31 (dk_at dksX6_find_0 16 rfl rfl)
theorem dX6_find_17 : decode cX6_find 17 = .ok (.lcmp, 1) := dk_148 (dk_at dksX6_find_0 17 rfl rfl)
theorem dX6_find_18 : decode cX6_find 18 = .ok (.ifCond .eq 9, 3) := dk_153 0 9 (dk_at dksX6_find_0 18 rfl rfl)
theorem dX6_find_21 : decode cX6_find 21 = .ok (.iinc 3 1, 3) := dk_132 3 1 (dk_at dksX6_find_0 21 rfl rfl)
theorem dX6_find_24 : decode cX6_find 24 = .ok (.goto (-22), 3) := dk_167 255 234 (dk_at dksX6_find_1 0 rfl rfl)
theorem dX6_find_27 : decode cX6_find 27 = .ok (.iload_n 3, 1) := dk_29 (dk_at dksX6_find_1 3 rfl rfl)
theorem dX6_find_28 : decode cX6_find 28 = .ok (.aload_n 0, 1) := dk_42 (dk_at dksX6_find_1 4 rfl rfl)
theorem dX6_find_29 : decode cX6_find 29 = .ok (.getfield 28, 3) := dk_180 0 28 (dk_at dksX6_find_1 5 rfl rfl)
theorem dX6_find_32 : decode cX6_find 32 = .ok (.if_icmp .ge 7, 3) := dk_162 0 7 (dk_at dksX6_find_1 8 rfl rfl)
theorem dX6_find_35 : decode cX6_find 35 = .ok (.iload_n 3, 1) := dk_29 (dk_at dksX6_find_1 11 rfl rfl)
theorem dX6_find_36 : decode cX6_find 36 = .ok (.goto 4, 3) := dk_167 0 4 (dk_at dksX6_find_1 12 rfl rfl)
theorem dX6_find_39 : decode cX6_find 39 = .ok (.iconst (-1), 1) := dk_2 (dk_at dksX6_find_1 15 rfl rfl)
theorem dX6_find_40 : decode cX6_find 40 = .ok (.ireturn, 1) := dk_172 (dk_at dksX6_find_1 16 rfl rfl)
abbrev cX6_become : ByteArray := prog_24_method_2_code
def yX6_become : MethodName := ⟨RX6, "become", "(LPatentHallModel$Text;)V"⟩
def dkwX6_become_4 : List UInt8 := [46, 79, 132, 2, 1, 167, 255, 211, 177]
abbrev dktX6_become_4 : List UInt8 := dkwX6_become_4 ++ []
def dkwX6_become_3 : List UInt8 := [46, 79, 42, 180, 0, 22, 28, 43, 180, 0, 22, 28, 46, 79, 42, 180, 0, 25, 28, 43, 180, 0, 25, 28]
abbrev dktX6_become_3 : List UInt8 := dkwX6_become_3 ++ dktX6_become_4
def dkwX6_become_2 : List UInt8 := [132, 2, 1, 167, 255, 223, 3, 61, 28, 16, 10, 162, 0, 45, 42, 180, 0, 19, 28, 43, 180, 0, 19, 28]
abbrev dktX6_become_2 : List UInt8 := dkwX6_become_2 ++ dktX6_become_3
def dkwX6_become_1 : List UInt8 := [42, 180, 0, 9, 28, 43, 180, 0, 9, 28, 47, 80, 42, 180, 0, 15, 28, 43, 180, 0, 15, 28, 46, 79]
abbrev dktX6_become_1 : List UInt8 := dkwX6_become_1 ++ dktX6_become_2
def dkwX6_become_0 : List UInt8 := [42, 43, 180, 0, 28, 181, 0, 28, 42, 43, 180, 0, 32, 181, 0, 32, 3, 61, 28, 16, 8, 162, 0, 33]
abbrev dktX6_become_0 : List UInt8 := dkwX6_become_0 ++ dktX6_become_1
theorem dksX6_become_0 : cX6_become.data.toList.drop 0 = dktX6_become_0 := by decide +kernel
theorem dksX6_become_1 : cX6_become.data.toList.drop 24 = dktX6_become_1 := dk_seg dksX6_become_0 24 rfl rfl
theorem dksX6_become_2 : cX6_become.data.toList.drop 48 = dktX6_become_2 := dk_seg dksX6_become_1 24 rfl rfl
theorem dksX6_become_3 : cX6_become.data.toList.drop 72 = dktX6_become_3 := dk_seg dksX6_become_2 24 rfl rfl
theorem dksX6_become_4 : cX6_become.data.toList.drop 96 = dktX6_become_4 := dk_seg dksX6_become_3 24 rfl rfl
theorem dX6_become_0 : decode cX6_become 0 = .ok (.aload_n 0, 1) := dk_42 (dk_at dksX6_become_0 0 rfl rfl)
theorem dX6_become_1 : decode cX6_become 1 = .ok (.aload_n 1, 1) := dk_43 (dk_at dksX6_become_0 1 rfl rfl)
theorem dX6_become_2 : decode cX6_become 2 = .ok (.getfield 28, 3) := dk_180 0 28 (dk_at dksX6_become_0 2 rfl rfl)
theorem dX6_become_5 : decode cX6_become 5 = .ok (.putfield 28, 3) := dk_181 0 28 (dk_at dksX6_become_0 5 rfl rfl)
theorem dX6_become_8 : decode cX6_become 8 = .ok (.aload_n 0, 1) := dk_42 (dk_at dksX6_become_0 8 rfl rfl)
theorem dX6_become_9 : decode cX6_become 9 = .ok (.aload_n 1, 1) := dk_43 (dk_at dksX6_become_0 9 rfl rfl)
theorem dX6_become_10 : decode cX6_become 10 = .ok (.getfield 32, 3) := dk_180 0 32 (dk_at dksX6_become_0 10 rfl rfl)
theorem dX6_become_13 : decode cX6_become 13 = .ok (.putfield 32, 3) := dk_181 0 32 (dk_at dksX6_become_0 13 rfl rfl)
theorem dX6_become_16 : decode cX6_become 16 = .ok (.iconst 0, 1) := dk_3 (dk_at dksX6_become_0 16 rfl rfl)
theorem dX6_become_17 : decode cX6_become 17 = .ok (.istore_n 2, 1) := dk_61 (dk_at dksX6_become_0 17 rfl rfl)
theorem dX6_become_18 : decode cX6_become 18 = .ok (.iload_n 2, 1) := dk_28 (dk_at dksX6_become_0 18 rfl rfl)
theorem dX6_become_19 : decode cX6_become 19 = .ok (.bipush 8, 2) := dk_16 8 (dk_at dksX6_become_0 19 rfl rfl)
theorem dX6_become_21 : decode cX6_become 21 = .ok (.if_icmp .ge 33, 3) := dk_162 0 33 (dk_at dksX6_become_0 21 rfl rfl)
theorem dX6_become_24 : decode cX6_become 24 = .ok (.aload_n 0, 1) := dk_42 (dk_at dksX6_become_1 0 rfl rfl)
theorem dX6_become_25 : decode cX6_become 25 = .ok (.getfield 9, 3) := dk_180 0 9 (dk_at dksX6_become_1 1 rfl rfl)
theorem dX6_become_28 : decode cX6_become 28 = .ok (.iload_n 2, 1) := dk_28 (dk_at dksX6_become_1 4 rfl rfl)
theorem dX6_become_29 : decode cX6_become 29 = .ok (.aload_n 1, 1) := dk_43 (dk_at dksX6_become_1 5 rfl rfl)
theorem dX6_become_30 : decode cX6_become 30 = .ok (.getfield 9, 3) := dk_180 0 9 (dk_at dksX6_become_1 6 rfl rfl)
theorem dX6_become_33 : decode cX6_become 33 = .ok (.iload_n 2, 1) := dk_28 (dk_at dksX6_become_1 9 rfl rfl)
theorem dX6_become_34 : decode cX6_become 34 = .ok (.laload, 1) := dk_47 (dk_at dksX6_become_1 10 rfl rfl)
theorem dX6_become_35 : decode cX6_become 35 = .ok (.lastore, 1) := dk_80 (dk_at dksX6_become_1 11 rfl rfl)
theorem dX6_become_36 : decode cX6_become 36 = .ok (.aload_n 0, 1) := dk_42 (dk_at dksX6_become_1 12 rfl rfl)
theorem dX6_become_37 : decode cX6_become 37 = .ok (.getfield 15, 3) := dk_180 0 15 (dk_at dksX6_become_1 13 rfl rfl)
theorem dX6_become_40 : decode cX6_become 40 = .ok (.iload_n 2, 1) := dk_28 (dk_at dksX6_become_1 16 rfl rfl)
theorem dX6_become_41 : decode cX6_become 41 = .ok (.aload_n 1, 1) := dk_43 (dk_at dksX6_become_1 17 rfl rfl)
theorem dX6_become_42 : decode cX6_become 42 = .ok (.getfield 15, 3) := dk_180 0 15 (dk_at dksX6_become_1 18 rfl rfl)
theorem dX6_become_45 : decode cX6_become 45 = .ok (.iload_n 2, 1) := dk_28 (dk_at dksX6_become_1 21 rfl rfl)
theorem dX6_become_46 : decode cX6_become 46 = .ok (.iaload, 1) := dk_46 (dk_at dksX6_become_1 22 rfl rfl)
theorem dX6_become_47 : decode cX6_become 47 = .ok (.iastore, 1) := dk_79 (dk_at dksX6_become_1 23 rfl rfl)
theorem dX6_become_48 : decode cX6_become 48 = .ok (.iinc 2 1, 3) := dk_132 2 1 (dk_at dksX6_become_2 0 rfl rfl)
theorem dX6_become_51 : decode cX6_become 51 = .ok (.goto (-33), 3) := dk_167 255 223 (dk_at dksX6_become_2 3 rfl rfl)
theorem dX6_become_54 : decode cX6_become 54 = .ok (.iconst 0, 1) := dk_3 (dk_at dksX6_become_2 6 rfl rfl)
theorem dX6_become_55 : decode cX6_become 55 = .ok (.istore_n 2, 1) := dk_61 (dk_at dksX6_become_2 7 rfl rfl)
theorem dX6_become_56 : decode cX6_become 56 = .ok (.iload_n 2, 1) := dk_28 (dk_at dksX6_become_2 8 rfl rfl)
theorem dX6_become_57 : decode cX6_become 57 = .ok (.bipush 10, 2) := dk_16 10 (dk_at dksX6_become_2 9 rfl rfl)
theorem dX6_become_59 : decode cX6_become 59 = .ok (.if_icmp .ge 45, 3) := dk_162 0 45 (dk_at dksX6_become_2 11 rfl rfl)
theorem dX6_become_62 : decode cX6_become 62 = .ok (.aload_n 0, 1) := dk_42 (dk_at dksX6_become_2 14 rfl rfl)
theorem dX6_become_63 : decode cX6_become 63 = .ok (.getfield 19, 3) := dk_180 0 19 (dk_at dksX6_become_2 15 rfl rfl)
theorem dX6_become_66 : decode cX6_become 66 = .ok (.iload_n 2, 1) := dk_28 (dk_at dksX6_become_2 18 rfl rfl)
theorem dX6_become_67 : decode cX6_become 67 = .ok (.aload_n 1, 1) := dk_43 (dk_at dksX6_become_2 19 rfl rfl)
theorem dX6_become_68 : decode cX6_become 68 = .ok (.getfield 19, 3) := dk_180 0 19 (dk_at dksX6_become_2 20 rfl rfl)
theorem dX6_become_71 : decode cX6_become 71 = .ok (.iload_n 2, 1) := dk_28 (dk_at dksX6_become_2 23 rfl rfl)
theorem dX6_become_72 : decode cX6_become 72 = .ok (.iaload, 1) := dk_46 (dk_at dksX6_become_3 0 rfl rfl)
theorem dX6_become_73 : decode cX6_become 73 = .ok (.iastore, 1) := dk_79 (dk_at dksX6_become_3 1 rfl rfl)
theorem dX6_become_74 : decode cX6_become 74 = .ok (.aload_n 0, 1) := dk_42 (dk_at dksX6_become_3 2 rfl rfl)
theorem dX6_become_75 : decode cX6_become 75 = .ok (.getfield 22, 3) := dk_180 0 22 (dk_at dksX6_become_3 3 rfl rfl)
theorem dX6_become_78 : decode cX6_become 78 = .ok (.iload_n 2, 1) := dk_28 (dk_at dksX6_become_3 6 rfl rfl)
theorem dX6_become_79 : decode cX6_become 79 = .ok (.aload_n 1, 1) := dk_43 (dk_at dksX6_become_3 7 rfl rfl)
theorem dX6_become_80 : decode cX6_become 80 = .ok (.getfield 22, 3) := dk_180 0 22 (dk_at dksX6_become_3 8 rfl rfl)
theorem dX6_become_83 : decode cX6_become 83 = .ok (.iload_n 2, 1) := dk_28 (dk_at dksX6_become_3 11 rfl rfl)
theorem dX6_become_84 : decode cX6_become 84 = .ok (.iaload, 1) := dk_46 (dk_at dksX6_become_3 12 rfl rfl)
theorem dX6_become_85 : decode cX6_become 85 = .ok (.iastore, 1) := dk_79 (dk_at dksX6_become_3 13 rfl rfl)
theorem dX6_become_86 : decode cX6_become 86 = .ok (.aload_n 0, 1) := dk_42 (dk_at dksX6_become_3 14 rfl rfl)
theorem dX6_become_87 : decode cX6_become 87 = .ok (.getfield 25, 3) := dk_180 0 25 (dk_at dksX6_become_3 15 rfl rfl)
theorem dX6_become_90 : decode cX6_become 90 = .ok (.iload_n 2, 1) := dk_28 (dk_at dksX6_become_3 18 rfl rfl)
theorem dX6_become_91 : decode cX6_become 91 = .ok (.aload_n 1, 1) := dk_43 (dk_at dksX6_become_3 19 rfl rfl)
theorem dX6_become_92 : decode cX6_become 92 = .ok (.getfield 25, 3) := dk_180 0 25 (dk_at dksX6_become_3 20 rfl rfl)
theorem dX6_become_95 : decode cX6_become 95 = .ok (.iload_n 2, 1) := dk_28 (dk_at dksX6_become_3 23 rfl rfl)
theorem dX6_become_96 : decode cX6_become 96 = .ok (.iaload, 1) := dk_46 (dk_at dksX6_become_4 0 rfl rfl)
theorem dX6_become_97 : decode cX6_become 97 = .ok (.iastore, 1) := dk_79 (dk_at dksX6_become_4 1 rfl rfl)
theorem dX6_become_98 : decode cX6_become 98 = .ok (.iinc 2 1, 3) := dk_132 2 1 (dk_at dksX6_become_4 2 rfl rfl)
theorem dX6_become_101 : decode cX6_become 101 = .ok (.goto (-45), 3) := dk_167 255 211 (dk_at dksX6_become_4 5 rfl rfl)
theorem dX6_become_104 : decode cX6_become 104 = .ok (.return_, 1) := dk_177 (dk_at dksX6_become_4 8 rfl rfl)
theorem q68 : (Jvm.Cond.initialized "PatentHallModel$Text") ∈ lw_all := lw_g (lw_at lw_m1 10 rfl) rfl
theorem q1061 : (Jvm.Cond.instantiable "PatentHallModel$Text" (7 : Nat)) ∈ lw_all := lw_g (lw_at lw_m5 43 rfl) rfl
theorem q1063 : (Jvm.Cond.instanceMethod ({ cls := "PatentHallModel$Text", name := "<init>", desc := "()V" } : Jvm.MethodName)) ∈ lw_all := lw_g (lw_at lw_m5 45 rfl) rfl
theorem q1064 : (Jvm.Cond.code ({ cls := "PatentHallModel$Text", name := "<init>", desc := "()V" } : Jvm.MethodName) prog_24_method_1_code (1 : Nat) (Option.none : Option Jvm.ClassFile.FieldType)) ∈ lw_all := lw_g (lw_at lw_m5 46 rfl) rfl
theorem q1065 : (Jvm.Cond.methodLink "PatentHallModel$Text" (3 : Nat) ({ cls := "java/lang/Object", name := "<init>", desc := "()V" } : Jvm.MethodName)) ∈ lw_all := lw_g (lw_at lw_m5 47 rfl) rfl
theorem q1066 : (Jvm.Cond.fieldLink "PatentHallModel$Text" (28 : Nat) "PatentHallModel$Text" "parts" "I") ∈ lw_all := lw_g (lw_at lw_m5 48 rfl) rfl
theorem q1068 : (Jvm.Cond.fieldLink "PatentHallModel$Text" (32 : Nat) "PatentHallModel$Text" "links" "I") ∈ lw_all := lw_g (lw_at lw_m5 50 rfl) rfl
theorem q1070 : (Jvm.Cond.fieldLink "PatentHallModel$Text" (9 : Nat) "PatentHallModel$Text" "name" "[J") ∈ lw_all := lw_g (lw_at lw_m5 52 rfl) rfl
theorem q1072 : (Jvm.Cond.fieldLink "PatentHallModel$Text" (15 : Nat) "PatentHallModel$Text" "word" "[I") ∈ lw_all := lw_g (lw_at lw_m5 54 rfl) rfl
theorem q1074 : (Jvm.Cond.fieldLink "PatentHallModel$Text" (19 : Nat) "PatentHallModel$Text" "from" "[I") ∈ lw_all := lw_g (lw_at lw_m5 56 rfl) rfl
theorem q1076 : (Jvm.Cond.fieldLink "PatentHallModel$Text" (22 : Nat) "PatentHallModel$Text" "verb" "[I") ∈ lw_all := lw_g (lw_at lw_m5 58 rfl) rfl
theorem q1078 : (Jvm.Cond.fieldLink "PatentHallModel$Text" (25 : Nat) "PatentHallModel$Text" "to" "[I") ∈ lw_all := lw_g (lw_at lw_m5 60 rfl) rfl
theorem q1080 : (Jvm.Cond.lays "PatentHallModel$Text" "PatentHallModel$Text" "parts" "I") ∈ lw_all := lw_g (lw_at lw_m5 62 rfl) rfl
theorem q1081 : (Jvm.Cond.soleField "PatentHallModel$Text" "parts") ∈ lw_all := lw_g (lw_at lw_m5 63 rfl) rfl
theorem q1082 : (Jvm.Cond.lays "PatentHallModel$Text" "PatentHallModel$Text" "links" "I") ∈ lw_all := lw_g (lw_at lw_m5 64 rfl) rfl
theorem q1083 : (Jvm.Cond.soleField "PatentHallModel$Text" "links") ∈ lw_all := lw_g (lw_at lw_m5 65 rfl) rfl
theorem q1084 : (Jvm.Cond.laysFinal "PatentHallModel$Text" "PatentHallModel$Text" "name" "[J") ∈ lw_all := lw_g (lw_at lw_m5 66 rfl) rfl
theorem q1085 : (Jvm.Cond.soleField "PatentHallModel$Text" "name") ∈ lw_all := lw_g (lw_at lw_m5 67 rfl) rfl
theorem q1086 : (Jvm.Cond.laysFinal "PatentHallModel$Text" "PatentHallModel$Text" "word" "[I") ∈ lw_all := lw_g (lw_at lw_m5 68 rfl) rfl
theorem q1087 : (Jvm.Cond.soleField "PatentHallModel$Text" "word") ∈ lw_all := lw_g (lw_at lw_m5 69 rfl) rfl
theorem q1088 : (Jvm.Cond.laysFinal "PatentHallModel$Text" "PatentHallModel$Text" "from" "[I") ∈ lw_all := lw_g (lw_at lw_m5 70 rfl) rfl
theorem q1089 : (Jvm.Cond.soleField "PatentHallModel$Text" "from") ∈ lw_all := lw_g (lw_at lw_m5 71 rfl) rfl
theorem q1090 : (Jvm.Cond.laysFinal "PatentHallModel$Text" "PatentHallModel$Text" "verb" "[I") ∈ lw_all := lw_g (lw_at lw_m5 72 rfl) rfl
theorem q1091 : (Jvm.Cond.soleField "PatentHallModel$Text" "verb") ∈ lw_all := lw_g (lw_at lw_m5 73 rfl) rfl
theorem q1092 : (Jvm.Cond.laysFinal "PatentHallModel$Text" "PatentHallModel$Text" "to" "[I") ∈ lw_all := lw_g (lw_at lw_m5 74 rfl) rfl
theorem q1093 : (Jvm.Cond.soleField "PatentHallModel$Text" "to") ∈ lw_all := lw_g (lw_at lw_m5 75 rfl) rfl
theorem q1094 : (Jvm.Cond.superclass "PatentHallModel$Text" "java/lang/Object") ∈ lw_all := lw_g (lw_at lw_m5 76 rfl) rfl
theorem q1327 : (Jvm.Cond.instanceMethod ({ cls := "PatentHallModel$Text", name := "find", desc := "(J)I" } : Jvm.MethodName)) ∈ lw_all := lw_g (lw_at lw_m6 69 rfl) rfl
theorem q1328 : (Jvm.Cond.selects "PatentHallModel$Text" ({ cls := "PatentHallModel$Text", name := "find", desc := "(J)I" } : Jvm.MethodName) ({ cls := "PatentHallModel$Text", name := "find", desc := "(J)I" } : Jvm.MethodName)) ∈ lw_all := lw_g (lw_at lw_m6 70 rfl) rfl
theorem q1329 : (Jvm.Cond.code ({ cls := "PatentHallModel$Text", name := "find", desc := "(J)I" } : Jvm.MethodName) prog_24_method_3_code (4 : Nat) (Option.some Jvm.ClassFile.FieldType.int)) ∈ lw_all := lw_g (lw_at lw_m6 71 rfl) rfl
theorem q1359 : (Jvm.Cond.instanceMethod ({ cls := "PatentHallModel$Text", name := "become", desc := "(LPatentHallModel$Text;)V" } : Jvm.MethodName)) ∈ lw_all := lw_g (lw_at lw_m6 101 rfl) rfl
theorem q1360 : (Jvm.Cond.selects "PatentHallModel$Text" ({ cls := "PatentHallModel$Text", name := "become", desc := "(LPatentHallModel$Text;)V" } : Jvm.MethodName) ({ cls := "PatentHallModel$Text", name := "become", desc := "(LPatentHallModel$Text;)V" } : Jvm.MethodName)) ∈ lw_all := lw_g (lw_at lw_m6 102 rfl) rfl
theorem q1361 : (Jvm.Cond.code ({ cls := "PatentHallModel$Text", name := "become", desc := "(LPatentHallModel$Text;)V" } : Jvm.MethodName) prog_24_method_2_code (3 : Nat) (Option.none : Option Jvm.ClassFile.FieldType)) ∈ lw_all := lw_g (lw_at lw_m6 103 rfl) rfl
theorem in_X6 : ∀ w ∈ wsX60, w ∈ lw_all := lw_in wsX60 [1080, 1082, 1084, 1086, 1088, 1090, 1092] (by decide +kernel) (by decide +kernel)

/-! PatentHall$Act -/
set_option maxRecDepth 100000
def RX7 : String := "PatentHall$Act"
abbrev cX7_init : ByteArray := prog_11_method_1_code
def yX7_init : MethodName := ⟨RX7, "<init>", "()V"⟩
theorem dX7_init_0 : decode cX7_init 0 = .ok (.aload_n 0, 1) := by decide +kernel
theorem dX7_init_1 : decode cX7_init 1 = .ok (.invokespecial 1, 3) := by decide +kernel
theorem dX7_init_4 : decode cX7_init 4 = .ok (.return_, 1) := by decide +kernel
theorem q73 : (Jvm.Cond.initialized "PatentHall$Act") ∈ lw_all := lw_g (lw_at lw_m1 15 rfl) rfl
theorem q492 : (Jvm.Cond.instanceMethod ({ cls := "PatentHall$Act", name := "<init>", desc := "()V" } : Jvm.MethodName)) ∈ lw_all := lw_g (lw_at lw_m2 194 rfl) rfl
theorem q493 : (Jvm.Cond.code ({ cls := "PatentHall$Act", name := "<init>", desc := "()V" } : Jvm.MethodName) prog_11_method_1_code (1 : Nat) (Option.none : Option Jvm.ClassFile.FieldType)) ∈ lw_all := lw_g (lw_at lw_m2 195 rfl) rfl
theorem q494 : (Jvm.Cond.methodLink "PatentHall$Act" (1 : Nat) ({ cls := "java/lang/Object", name := "<init>", desc := "()V" } : Jvm.MethodName)) ∈ lw_all := lw_g (lw_at lw_m2 196 rfl) rfl
theorem q994 : (Jvm.Cond.declares ({ cls := "PatentHall$Act", name := "undo", desc := "()V" } : Jvm.MethodName)) ∈ lw_tbl := lw_at lw_m4 216 rfl
theorem q995 : (Jvm.Cond.sameMethod "PatentHall$Act" "PatentHall$Act" "undo" "()V") ∈ lw_all := lw_g (lw_at lw_m4 217 rfl) rfl

/-! PatentHall$1 -/
set_option maxRecDepth 100000
def RX8 : String := "PatentHall$1"
def TX8 : u_T := fun k => match k with
  | _ => ("PatentHall$1", "this$0", "LPatentHall;", true)
def tyX8 : Nat → FieldType := fun k => match k with
  | _ => .object "PatentHall"
abbrev wsX80 : List Cond := u_ws RX8 TX8 1
theorem nmX8 : ∀ a, a < 1 → ∀ b, b < 1 → a ≠ b → (TX8 a).2.1 ≠ (TX8 b).2.1 := by decide +kernel
theorem tyX8_ok : ∀ k, k < 1 → parseFieldDescriptor (TX8 k).2.2.1 = some (tyX8 k) := by decide +kernel
abbrev cX8_init : ByteArray := prog_2_method_1_code
def yX8_init : MethodName := ⟨RX8, "<init>", "(LPatentHall;)V"⟩
def dkwX8_init_0 : List UInt8 := [42, 43, 181, 0, 1, 42, 183, 0, 7, 177]
abbrev dktX8_init_0 : List UInt8 := dkwX8_init_0 ++ []
theorem dksX8_init_0 : cX8_init.data.toList.drop 0 = dktX8_init_0 := by decide +kernel
theorem dX8_init_0 : decode cX8_init 0 = .ok (.aload_n 0, 1) := dk_42 (dk_at dksX8_init_0 0 rfl rfl)
theorem dX8_init_1 : decode cX8_init 1 = .ok (.aload_n 1, 1) := dk_43 (dk_at dksX8_init_0 1 rfl rfl)
theorem dX8_init_2 : decode cX8_init 2 = .ok (.putfield 1, 3) := dk_181 0 1 (dk_at dksX8_init_0 2 rfl rfl)
theorem dX8_init_5 : decode cX8_init 5 = .ok (.aload_n 0, 1) := dk_42 (dk_at dksX8_init_0 5 rfl rfl)
theorem dX8_init_6 : decode cX8_init 6 = .ok (.invokespecial 7, 3) := dk_183 0 7 (dk_at dksX8_init_0 6 rfl rfl)
theorem dX8_init_9 : decode cX8_init 9 = .ok (.return_, 1) := dk_177 (dk_at dksX8_init_0 9 rfl rfl)
abbrev cX8_undo : ByteArray := prog_2_method_2_code
def yX8_undo : MethodName := ⟨RX8, "undo", "()V"⟩
def dkwX8_undo_0 : List UInt8 := [42, 180, 0, 1, 89, 180, 0, 13, 4, 100, 181, 0, 13, 177]
abbrev dktX8_undo_0 : List UInt8 := dkwX8_undo_0 ++ []
theorem dksX8_undo_0 : cX8_undo.data.toList.drop 0 = dktX8_undo_0 := by decide +kernel
theorem dX8_undo_0 : decode cX8_undo 0 = .ok (.aload_n 0, 1) := dk_42 (dk_at dksX8_undo_0 0 rfl rfl)
theorem dX8_undo_1 : decode cX8_undo 1 = .ok (.getfield 1, 3) := dk_180 0 1 (dk_at dksX8_undo_0 1 rfl rfl)
theorem dX8_undo_4 : decode cX8_undo 4 = .ok (.dup, 1) := dk_89 (dk_at dksX8_undo_0 4 rfl rfl)
theorem dX8_undo_5 : decode cX8_undo 5 = .ok (.getfield 13, 3) := dk_180 0 13 (dk_at dksX8_undo_0 5 rfl rfl)
theorem dX8_undo_8 : decode cX8_undo 8 = .ok (.iconst 1, 1) := dk_4 (dk_at dksX8_undo_0 8 rfl rfl)
theorem dX8_undo_9 : decode cX8_undo 9 = .ok (.isub, 1) := dk_100 (dk_at dksX8_undo_0 9 rfl rfl)
theorem dX8_undo_10 : decode cX8_undo 10 = .ok (.putfield 13, 3) := dk_181 0 13 (dk_at dksX8_undo_0 10 rfl rfl)
theorem dX8_undo_13 : decode cX8_undo 13 = .ok (.return_, 1) := dk_177 (dk_at dksX8_undo_0 13 rfl rfl)
theorem q74 : (Jvm.Cond.initialized "PatentHall$1") ∈ lw_all := lw_g (lw_at lw_m1 16 rfl) rfl
theorem q269 : (Jvm.Cond.fieldLinkNest "PatentHall$1" (13 : Nat) "PatentHall" "wordMany" "I" "PatentHall") ∈ lw_tbl := lw_at lw_m1 211 rfl
theorem q487 : (Jvm.Cond.instantiable "PatentHall$1" (1 : Nat)) ∈ lw_all := lw_g (lw_at lw_m2 189 rfl) rfl
theorem q489 : (Jvm.Cond.instanceMethod ({ cls := "PatentHall$1", name := "<init>", desc := "(LPatentHall;)V" } : Jvm.MethodName)) ∈ lw_all := lw_g (lw_at lw_m2 191 rfl) rfl
theorem q490 : (Jvm.Cond.code ({ cls := "PatentHall$1", name := "<init>", desc := "(LPatentHall;)V" } : Jvm.MethodName) prog_2_method_1_code (2 : Nat) (Option.none : Option Jvm.ClassFile.FieldType)) ∈ lw_all := lw_g (lw_at lw_m2 192 rfl) rfl
theorem q491 : (Jvm.Cond.methodLinkNest "PatentHall$1" (7 : Nat) ({ cls := "PatentHall$Act", name := "<init>", desc := "()V" } : Jvm.MethodName) "PatentHall") ∈ lw_tbl := lw_at lw_m2 193 rfl
theorem q495 : (Jvm.Cond.fieldLink "PatentHall$1" (1 : Nat) "PatentHall$1" "this$0" "LPatentHall;") ∈ lw_all := lw_g (lw_at lw_m2 197 rfl) rfl
theorem q496 : (Jvm.Cond.laysFinal "PatentHall$1" "PatentHall$1" "this$0" "LPatentHall;") ∈ lw_all := lw_g (lw_at lw_m2 198 rfl) rfl
theorem q497 : (Jvm.Cond.soleField "PatentHall$1" "this$0") ∈ lw_all := lw_g (lw_at lw_m2 199 rfl) rfl
theorem q498 : (Jvm.Cond.superclass "PatentHall$1" "PatentHall$Act") ∈ lw_all := lw_g (lw_at lw_m2 200 rfl) rfl
theorem q996 : (Jvm.Cond.selects "PatentHall$1" ({ cls := "PatentHall$Act", name := "undo", desc := "()V" } : Jvm.MethodName) ({ cls := "PatentHall$1", name := "undo", desc := "()V" } : Jvm.MethodName)) ∈ lw_all := lw_g (lw_at lw_m4 218 rfl) rfl
theorem q997 : (Jvm.Cond.instanceMethod ({ cls := "PatentHall$1", name := "undo", desc := "()V" } : Jvm.MethodName)) ∈ lw_all := lw_g (lw_at lw_m4 219 rfl) rfl
theorem q998 : (Jvm.Cond.code ({ cls := "PatentHall$1", name := "undo", desc := "()V" } : Jvm.MethodName) prog_2_method_2_code (1 : Nat) (Option.none : Option Jvm.ClassFile.FieldType)) ∈ lw_all := lw_g (lw_at lw_m4 220 rfl) rfl
theorem q1494 : (Jvm.Cond.castable "PatentHall$1" "PatentHall$Act") ∈ lw_tbl := lw_at lw_m6 236 rfl
theorem in_X8 : ∀ w ∈ wsX80, w ∈ lw_all := lw_in wsX80 [496] (by decide +kernel) (by decide +kernel)

/-! PatentHall$2 -/
set_option maxRecDepth 100000
def RX9 : String := "PatentHall$2"
def TX9 : u_T := fun k => match k with
  | 0 => ("PatentHall$2", "val$days", "I", true)
  | _ => ("PatentHall$2", "this$0", "LPatentHall;", true)
def tyX9 : Nat → FieldType := fun k => match k with
  | 0 => .int
  | _ => .object "PatentHall"
abbrev wsX90 : List Cond := u_ws RX9 TX9 2
theorem nmX9 : ∀ a, a < 2 → ∀ b, b < 2 → a ≠ b → (TX9 a).2.1 ≠ (TX9 b).2.1 := by decide +kernel
theorem tyX9_ok : ∀ k, k < 2 → parseFieldDescriptor (TX9 k).2.2.1 = some (tyX9 k) := by decide +kernel
abbrev cX9_init : ByteArray := prog_3_method_1_code
def yX9_init : MethodName := ⟨RX9, "<init>", "(LPatentHall;I)V"⟩
def dkwX9_init_0 : List UInt8 := [42, 43, 181, 0, 1, 42, 28, 181, 0, 7, 42, 183, 0, 11, 177]
abbrev dktX9_init_0 : List UInt8 := dkwX9_init_0 ++ []
theorem dksX9_init_0 : cX9_init.data.toList.drop 0 = dktX9_init_0 := by decide +kernel
theorem dX9_init_0 : decode cX9_init 0 = .ok (.aload_n 0, 1) := dk_42 (dk_at dksX9_init_0 0 rfl rfl)
theorem dX9_init_1 : decode cX9_init 1 = .ok (.aload_n 1, 1) := dk_43 (dk_at dksX9_init_0 1 rfl rfl)
theorem dX9_init_2 : decode cX9_init 2 = .ok (.putfield 1, 3) := dk_181 0 1 (dk_at dksX9_init_0 2 rfl rfl)
theorem dX9_init_5 : decode cX9_init 5 = .ok (.aload_n 0, 1) := dk_42 (dk_at dksX9_init_0 5 rfl rfl)
theorem dX9_init_6 : decode cX9_init 6 = .ok (.iload_n 2, 1) := dk_28 (dk_at dksX9_init_0 6 rfl rfl)
theorem dX9_init_7 : decode cX9_init 7 = .ok (.putfield 7, 3) := dk_181 0 7 (dk_at dksX9_init_0 7 rfl rfl)
theorem dX9_init_10 : decode cX9_init 10 = .ok (.aload_n 0, 1) := dk_42 (dk_at dksX9_init_0 10 rfl rfl)
theorem dX9_init_11 : decode cX9_init 11 = .ok (.invokespecial 11, 3) := dk_183 0 11 (dk_at dksX9_init_0 11 rfl rfl)
theorem dX9_init_14 : decode cX9_init 14 = .ok (.return_, 1) := dk_177 (dk_at dksX9_init_0 14 rfl rfl)
abbrev cX9_undo : ByteArray := prog_3_method_2_code
def yX9_undo : MethodName := ⟨RX9, "undo", "()V"⟩
def dkwX9_undo_0 : List UInt8 := [42, 180, 0, 1, 89, 180, 0, 17, 42, 180, 0, 7, 100, 181, 0, 17, 177]
abbrev dktX9_undo_0 : List UInt8 := dkwX9_undo_0 ++ []
theorem dksX9_undo_0 : cX9_undo.data.toList.drop 0 = dktX9_undo_0 := by decide +kernel
theorem dX9_undo_0 : decode cX9_undo 0 = .ok (.aload_n 0, 1) := dk_42 (dk_at dksX9_undo_0 0 rfl rfl)
theorem dX9_undo_1 : decode cX9_undo 1 = .ok (.getfield 1, 3) := dk_180 0 1 (dk_at dksX9_undo_0 1 rfl rfl)
theorem dX9_undo_4 : decode cX9_undo 4 = .ok (.dup, 1) := dk_89 (dk_at dksX9_undo_0 4 rfl rfl)
theorem dX9_undo_5 : decode cX9_undo 5 = .ok (.getfield 17, 3) := dk_180 0 17 (dk_at dksX9_undo_0 5 rfl rfl)
theorem dX9_undo_8 : decode cX9_undo 8 = .ok (.aload_n 0, 1) := dk_42 (dk_at dksX9_undo_0 8 rfl rfl)
theorem dX9_undo_9 : decode cX9_undo 9 = .ok (.getfield 7, 3) := dk_180 0 7 (dk_at dksX9_undo_0 9 rfl rfl)
theorem dX9_undo_12 : decode cX9_undo 12 = .ok (.isub, 1) := dk_100 (dk_at dksX9_undo_0 12 rfl rfl)
theorem dX9_undo_13 : decode cX9_undo 13 = .ok (.putfield 17, 3) := dk_181 0 17 (dk_at dksX9_undo_0 13 rfl rfl)
theorem dX9_undo_16 : decode cX9_undo 16 = .ok (.return_, 1) := dk_177 (dk_at dksX9_undo_0 16 rfl rfl)
theorem q76 : (Jvm.Cond.initialized "PatentHall$2") ∈ lw_all := lw_g (lw_at lw_m1 18 rfl) rfl
theorem q279 : (Jvm.Cond.fieldLinkNest "PatentHall$2" (17 : Nat) "PatentHall" "now" "I" "PatentHall") ∈ lw_tbl := lw_at lw_m1 221 rfl
theorem q519 : (Jvm.Cond.instantiable "PatentHall$2" (2 : Nat)) ∈ lw_all := lw_g (lw_at lw_m2 221 rfl) rfl
theorem q521 : (Jvm.Cond.instanceMethod ({ cls := "PatentHall$2", name := "<init>", desc := "(LPatentHall;I)V" } : Jvm.MethodName)) ∈ lw_all := lw_g (lw_at lw_m2 223 rfl) rfl
theorem q522 : (Jvm.Cond.code ({ cls := "PatentHall$2", name := "<init>", desc := "(LPatentHall;I)V" } : Jvm.MethodName) prog_3_method_1_code (3 : Nat) (Option.none : Option Jvm.ClassFile.FieldType)) ∈ lw_all := lw_g (lw_at lw_m2 224 rfl) rfl
theorem q523 : (Jvm.Cond.methodLinkNest "PatentHall$2" (11 : Nat) ({ cls := "PatentHall$Act", name := "<init>", desc := "()V" } : Jvm.MethodName) "PatentHall") ∈ lw_tbl := lw_at lw_m2 225 rfl
theorem q524 : (Jvm.Cond.fieldLink "PatentHall$2" (7 : Nat) "PatentHall$2" "val$days" "I") ∈ lw_all := lw_g (lw_at lw_m2 226 rfl) rfl
theorem q525 : (Jvm.Cond.fieldLink "PatentHall$2" (1 : Nat) "PatentHall$2" "this$0" "LPatentHall;") ∈ lw_all := lw_g (lw_at lw_m2 227 rfl) rfl
theorem q526 : (Jvm.Cond.laysFinal "PatentHall$2" "PatentHall$2" "val$days" "I") ∈ lw_all := lw_g (lw_at lw_m2 228 rfl) rfl
theorem q527 : (Jvm.Cond.soleField "PatentHall$2" "val$days") ∈ lw_all := lw_g (lw_at lw_m2 229 rfl) rfl
theorem q528 : (Jvm.Cond.laysFinal "PatentHall$2" "PatentHall$2" "this$0" "LPatentHall;") ∈ lw_all := lw_g (lw_at lw_m2 230 rfl) rfl
theorem q529 : (Jvm.Cond.soleField "PatentHall$2" "this$0") ∈ lw_all := lw_g (lw_at lw_m2 231 rfl) rfl
theorem q530 : (Jvm.Cond.superclass "PatentHall$2" "PatentHall$Act") ∈ lw_all := lw_g (lw_at lw_m2 232 rfl) rfl
theorem q999 : (Jvm.Cond.selects "PatentHall$2" ({ cls := "PatentHall$Act", name := "undo", desc := "()V" } : Jvm.MethodName) ({ cls := "PatentHall$2", name := "undo", desc := "()V" } : Jvm.MethodName)) ∈ lw_all := lw_g (lw_at lw_m4 221 rfl) rfl
theorem q1000 : (Jvm.Cond.instanceMethod ({ cls := "PatentHall$2", name := "undo", desc := "()V" } : Jvm.MethodName)) ∈ lw_all := lw_g (lw_at lw_m4 222 rfl) rfl
theorem q1001 : (Jvm.Cond.code ({ cls := "PatentHall$2", name := "undo", desc := "()V" } : Jvm.MethodName) prog_3_method_2_code (1 : Nat) (Option.none : Option Jvm.ClassFile.FieldType)) ∈ lw_all := lw_g (lw_at lw_m4 223 rfl) rfl
theorem q1495 : (Jvm.Cond.castable "PatentHall$2" "PatentHall$Act") ∈ lw_tbl := lw_at lw_m6 237 rfl
theorem in_X9 : ∀ w ∈ wsX90, w ∈ lw_all := lw_in wsX90 [526, 528] (by decide +kernel) (by decide +kernel)

/-! PatentHall$Text -/
set_option maxRecDepth 100000
def RX10 : String := "PatentHall$Text"
def TX10 : u_T := fun k => match k with
  | 0 => ("PatentHall$Text", "names", "[Ljava/lang/String;", true)
  | 1 => ("PatentHall$Text", "words", "[I", true)
  | 2 => ("PatentHall$Text", "links", "[LPatentHall$Link;", true)
  | 3 => ("PatentHall$Text", "parts", "I", false)
  | _ => ("PatentHall$Text", "linkMany", "I", false)
def tyX10 : Nat → FieldType := fun k => match k with
  | 0 => .array (.object "java/lang/String")
  | 1 => .array .int
  | 2 => .array (.object "PatentHall$Link")
  | 3 => .int
  | _ => .int
abbrev wsX100 : List Cond := u_ws RX10 TX10 5
theorem nmX10 : ∀ a, a < 5 → ∀ b, b < 5 → a ≠ b → (TX10 a).2.1 ≠ (TX10 b).2.1 := by decide +kernel
theorem tyX10_ok : ∀ k, k < 5 → parseFieldDescriptor (TX10 k).2.2.1 = some (tyX10 k) := by decide +kernel
abbrev cX10_init : ByteArray := prog_19_method_1_code
def yX10_init : MethodName := ⟨RX10, "<init>", "()V"⟩
def dkwX10_init_1 : List UInt8 := [189, 0, 21, 181, 0, 23, 177]
abbrev dktX10_init_1 : List UInt8 := dkwX10_init_1 ++ []
def dkwX10_init_0 : List UInt8 := [42, 183, 0, 3, 42, 16, 8, 189, 0, 9, 181, 0, 11, 42, 16, 8, 188, 10, 181, 0, 17, 42, 16, 10]
abbrev dktX10_init_0 : List UInt8 := dkwX10_init_0 ++ dktX10_init_1
theorem dksX10_init_0 : cX10_init.data.toList.drop 0 = dktX10_init_0 := by decide +kernel
theorem dksX10_init_1 : cX10_init.data.toList.drop 24 = dktX10_init_1 := dk_seg dksX10_init_0 24 rfl rfl
theorem dX10_init_0 : decode cX10_init 0 = .ok (.aload_n 0, 1) := dk_42 (dk_at dksX10_init_0 0 rfl rfl)
theorem dX10_init_1 : decode cX10_init 1 = .ok (.invokespecial 3, 3) := dk_183 0 3 (dk_at dksX10_init_0 1 rfl rfl)
theorem dX10_init_4 : decode cX10_init 4 = .ok (.aload_n 0, 1) := dk_42 (dk_at dksX10_init_0 4 rfl rfl)
theorem dX10_init_5 : decode cX10_init 5 = .ok (.bipush 8, 2) := dk_16 8 (dk_at dksX10_init_0 5 rfl rfl)
theorem dX10_init_7 : decode cX10_init 7 = .ok (.anewarray 9, 3) := dk_189 0 9 (dk_at dksX10_init_0 7 rfl rfl)
theorem dX10_init_10 : decode cX10_init 10 = .ok (.putfield 11, 3) := dk_181 0 11 (dk_at dksX10_init_0 10 rfl rfl)
theorem dX10_init_13 : decode cX10_init 13 = .ok (.aload_n 0, 1) := dk_42 (dk_at dksX10_init_0 13 rfl rfl)
theorem dX10_init_14 : decode cX10_init 14 = .ok (.bipush 8, 2) := dk_16 8 (dk_at dksX10_init_0 14 rfl rfl)
theorem dX10_init_16 : decode cX10_init 16 = .ok (.newarray .int, 2) := dk_188_10 (dk_at dksX10_init_0 16 rfl rfl)
theorem dX10_init_18 : decode cX10_init 18 = .ok (.putfield 17, 3) := dk_181 0 17 (dk_at dksX10_init_0 18 rfl rfl)
theorem dX10_init_21 : decode cX10_init 21 = .ok (.aload_n 0, 1) := dk_42 (dk_at dksX10_init_0 21 rfl rfl)
theorem dX10_init_22 : decode cX10_init 22 = .ok (.bipush 10, 2) := dk_16 10 (dk_at dksX10_init_0 22 rfl rfl)
theorem dX10_init_24 : decode cX10_init 24 = .ok (.anewarray 21, 3) := dk_189 0 21 (dk_at dksX10_init_1 0 rfl rfl)
theorem dX10_init_27 : decode cX10_init 27 = .ok (.putfield 23, 3) := dk_181 0 23 (dk_at dksX10_init_1 3 rfl rfl)
theorem dX10_init_30 : decode cX10_init 30 = .ok (.return_, 1) := dk_177 (dk_at dksX10_init_1 6 rfl rfl)
abbrev cX10_partOf : ByteArray := prog_19_method_3_code
def yX10_partOf : MethodName := ⟨RX10, "partOf", "(Ljava/lang/String;)I"⟩
def dkwX10_partOf_1 : List UInt8 := [132, 2, 255, 167, 255, 236, 28, 172]
abbrev dktX10_partOf_1 : List UInt8 := dkwX10_partOf_1 ++ []
def dkwX10_partOf_0 : List UInt8 := [42, 180, 0, 27, 4, 100, 61, 28, 155, 0, 22, 42, 180, 0, 11, 28, 50, 43, 182, 0, 40, 154, 0, 9]
abbrev dktX10_partOf_0 : List UInt8 := dkwX10_partOf_0 ++ dktX10_partOf_1
theorem dksX10_partOf_0 : cX10_partOf.data.toList.drop 0 = dktX10_partOf_0 := by decide +kernel
theorem dksX10_partOf_1 : cX10_partOf.data.toList.drop 24 = dktX10_partOf_1 := dk_seg dksX10_partOf_0 24 rfl rfl
theorem dX10_partOf_0 : decode cX10_partOf 0 = .ok (.aload_n 0, 1) := dk_42 (dk_at dksX10_partOf_0 0 rfl rfl)
theorem dX10_partOf_1 : decode cX10_partOf 1 = .ok (.getfield 27, 3) := dk_180 0 27 (dk_at dksX10_partOf_0 1 rfl rfl)
theorem dX10_partOf_4 : decode cX10_partOf 4 = .ok (.iconst 1, 1) := dk_4 (dk_at dksX10_partOf_0 4 rfl rfl)
theorem dX10_partOf_5 : decode cX10_partOf 5 = .ok (.isub, 1) := dk_100 (dk_at dksX10_partOf_0 5 rfl rfl)
theorem dX10_partOf_6 : decode cX10_partOf 6 = .ok (.istore_n 2, 1) := dk_61 (dk_at dksX10_partOf_0 6 rfl rfl)
theorem dX10_partOf_7 : decode cX10_partOf 7 = .ok (.iload_n 2, 1) := dk_28 (dk_at dksX10_partOf_0 7 rfl rfl)
theorem dX10_partOf_8 : decode cX10_partOf 8 = .ok (.ifCond .lt 22, 3) := dk_155 0 22 (dk_at dksX10_partOf_0 8 rfl rfl)
theorem dX10_partOf_11 : decode cX10_partOf 11 = .ok (.aload_n 0, 1) := dk_42 (dk_at dksX10_partOf_0 11 rfl rfl)
theorem dX10_partOf_12 : decode cX10_partOf 12 = .ok (.getfield 11, 3) := dk_180 0 11 (dk_at dksX10_partOf_0 12 rfl rfl)
theorem dX10_partOf_15 : decode cX10_partOf 15 = .ok (.iload_n 2, 1) := dk_28 (dk_at dksX10_partOf_0 15 rfl rfl)
theorem dX10_partOf_16 : decode cX10_partOf 16 = .ok (.aaload, 1) := dk_50 (dk_at dksX10_partOf_0 16 rfl rfl)
theorem dX10_partOf_17 : decode cX10_partOf 17 = .ok (.aload_n 1, 1) := dk_43 (dk_at dksX10_partOf_0 17 rfl rfl)
theorem dX10_partOf_18 : decode cX10_partOf 18 = .ok (.invokevirtual 40, 3) := dk_182 0 40 (dk_at dksX10_partOf_0 18 rfl rfl)
theorem dX10_partOf_21 : decode cX10_partOf 21 = .ok (.ifCond .ne 9, 3) := dk_154 0 9 (dk_at dksX10_partOf_0 21 rfl rfl)
theorem dX10_partOf_24 : decode cX10_partOf 24 = .ok (.iinc 2 (-1), 3) := dk_132 2 255 (dk_at dksX10_partOf_1 0 rfl rfl)
theorem dX10_partOf_27 : decode cX10_partOf 27 = .ok (.goto (-20), 3) := dk_167 255 236 (dk_at dksX10_partOf_1 3 rfl rfl)
theorem dX10_partOf_30 : decode cX10_partOf 30 = .ok (.iload_n 2, 1) := dk_28 (dk_at dksX10_partOf_1 6 rfl rfl)
theorem dX10_partOf_31 : decode cX10_partOf 31 = .ok (.ireturn, 1) := dk_172 (dk_at dksX10_partOf_1 7 rfl rfl)
abbrev cX10_puts : ByteArray := prog_19_method_5_code
def yX10_puts : MethodName := ⟨RX10, "puts", "(Ljava/lang/String;I)V"⟩
def dkwX10_puts_1 : List UInt8 := [180, 0, 27, 4, 96, 181, 0, 27, 177]
abbrev dktX10_puts_1 : List UInt8 := dkwX10_puts_1 ++ []
def dkwX10_puts_0 : List UInt8 := [42, 180, 0, 11, 42, 180, 0, 27, 43, 83, 42, 180, 0, 17, 42, 180, 0, 27, 28, 79, 42, 89]
abbrev dktX10_puts_0 : List UInt8 := dkwX10_puts_0 ++ dktX10_puts_1
theorem dksX10_puts_0 : cX10_puts.data.toList.drop 0 = dktX10_puts_0 := by decide +kernel
theorem dksX10_puts_1 : cX10_puts.data.toList.drop 22 = dktX10_puts_1 := dk_seg dksX10_puts_0 22 rfl rfl
theorem dX10_puts_0 : decode cX10_puts 0 = .ok (.aload_n 0, 1) := dk_42 (dk_at dksX10_puts_0 0 rfl rfl)
theorem dX10_puts_1 : decode cX10_puts 1 = .ok (.getfield 11, 3) := dk_180 0 11 (dk_at dksX10_puts_0 1 rfl rfl)
theorem dX10_puts_4 : decode cX10_puts 4 = .ok (.aload_n 0, 1) := dk_42 (dk_at dksX10_puts_0 4 rfl rfl)
theorem dX10_puts_5 : decode cX10_puts 5 = .ok (.getfield 27, 3) := dk_180 0 27 (dk_at dksX10_puts_0 5 rfl rfl)
theorem dX10_puts_8 : decode cX10_puts 8 = .ok (.aload_n 1, 1) := dk_43 (dk_at dksX10_puts_0 8 rfl rfl)
theorem dX10_puts_9 : decode cX10_puts 9 = .ok (.aastore, 1) := dk_83 (dk_at dksX10_puts_0 9 rfl rfl)
theorem dX10_puts_10 : decode cX10_puts 10 = .ok (.aload_n 0, 1) := dk_42 (dk_at dksX10_puts_0 10 rfl rfl)
theorem dX10_puts_11 : decode cX10_puts 11 = .ok (.getfield 17, 3) := dk_180 0 17 (dk_at dksX10_puts_0 11 rfl rfl)
theorem dX10_puts_14 : decode cX10_puts 14 = .ok (.aload_n 0, 1) := dk_42 (dk_at dksX10_puts_0 14 rfl rfl)
theorem dX10_puts_15 : decode cX10_puts 15 = .ok (.getfield 27, 3) := dk_180 0 27 (dk_at dksX10_puts_0 15 rfl rfl)
theorem dX10_puts_18 : decode cX10_puts 18 = .ok (.iload_n 2, 1) := dk_28 (dk_at dksX10_puts_0 18 rfl rfl)
theorem dX10_puts_19 : decode cX10_puts 19 = .ok (.iastore, 1) := dk_79 (dk_at dksX10_puts_0 19 rfl rfl)
theorem dX10_puts_20 : decode cX10_puts 20 = .ok (.aload_n 0, 1) := dk_42 (dk_at dksX10_puts_0 20 rfl rfl)
theorem dX10_puts_21 : decode cX10_puts 21 = .ok (.dup, 1) := dk_89 (dk_at dksX10_puts_0 21 rfl rfl)
theorem dX10_puts_22 : decode cX10_puts 22 = .ok (.getfield 27, 3) := dk_180 0 27 (dk_at dksX10_puts_1 0 rfl rfl)
theorem dX10_puts_25 : decode cX10_puts 25 = .ok (.iconst 1, 1) := dk_4 (dk_at dksX10_puts_1 3 rfl rfl)
theorem dX10_puts_26 : decode cX10_puts 26 = .ok (.iadd, 1) := dk_96 (dk_at dksX10_puts_1 4 rfl rfl)
theorem dX10_puts_27 : decode cX10_puts 27 = .ok (.putfield 27, 3) := dk_181 0 27 (dk_at dksX10_puts_1 5 rfl rfl)
theorem dX10_puts_30 : decode cX10_puts 30 = .ok (.return_, 1) := dk_177 (dk_at dksX10_puts_1 8 rfl rfl)
abbrev cX10_has : ByteArray := prog_19_method_4_code
def yX10_has : MethodName := ⟨RX10, "has", "(LPatentHall$Link;)Z"⟩
def dkwX10_has_1 : List UInt8 := [182, 0, 44, 61, 132, 3, 1, 167, 255, 230, 28, 172]
abbrev dktX10_has_1 : List UInt8 := dkwX10_has_1 ++ []
def dkwX10_has_0 : List UInt8 := [3, 61, 3, 62, 29, 42, 180, 0, 31, 162, 0, 24, 28, 154, 0, 20, 42, 180, 0, 23, 29, 50, 43]
abbrev dktX10_has_0 : List UInt8 := dkwX10_has_0 ++ dktX10_has_1
theorem dksX10_has_0 : cX10_has.data.toList.drop 0 = dktX10_has_0 := by decide +kernel
theorem dksX10_has_1 : cX10_has.data.toList.drop 23 = dktX10_has_1 := dk_seg dksX10_has_0 23 rfl rfl
theorem dX10_has_0 : decode cX10_has 0 = .ok (.iconst 0, 1) := dk_3 (dk_at dksX10_has_0 0 rfl rfl)
theorem dX10_has_1 : decode cX10_has 1 = .ok (.istore_n 2, 1) := dk_61 (dk_at dksX10_has_0 1 rfl rfl)
theorem dX10_has_2 : decode cX10_has 2 = .ok (.iconst 0, 1) := dk_3 (dk_at dksX10_has_0 2 rfl rfl)
theorem dX10_has_3 : decode cX10_has 3 = .ok (.istore_n 3, 1) := dk_62 (dk_at dksX10_has_0 3 rfl rfl)
theorem dX10_has_4 : decode cX10_has 4 = .ok (.iload_n 3, 1) := dk_29 (dk_at dksX10_has_0 4 rfl rfl)
theorem dX10_has_5 : decode cX10_has 5 = .ok (.aload_n 0, 1) := dk_42 (dk_at dksX10_has_0 5 rfl rfl)
theorem dX10_has_6 : decode cX10_has 6 = .ok (.getfield 31, 3) := dk_180 0 31 (dk_at dksX10_has_0 6 rfl rfl)
theorem dX10_has_9 : decode cX10_has 9 = .ok (.if_icmp .ge 24, 3) := dk_162 0 24 (dk_at dksX10_has_0 9 rfl rfl)
theorem dX10_has_12 : decode cX10_has 12 = .ok (.iload_n 2, 1) := dk_28 (dk_at dksX10_has_0 12 rfl rfl)
theorem dX10_has_13 : decode cX10_has 13 = .ok (.ifCond .ne 20, 3) := dk_154 0 20 (dk_at dksX10_has_0 13 rfl rfl)
theorem dX10_has_16 : decode cX10_has 16 = .ok (.aload_n 0, 1) := dk_42 (dk_at dksX10_has_0 16 rfl rfl)
theorem dX10_has_17 : decode cX10_has 17 = .ok (.getfield 23, 3) := dk_180 0 23 (dk_at dksX10_has_0 17 rfl rfl)
theorem dX10_has_20 : decode cX10_has 20 = .ok (.iload_n 3, 1) := dk_29 (dk_at dksX10_has_0 20 rfl rfl)
theorem dX10_has_21 : decode cX10_has 21 = .ok (.aaload, 1) := dk_50 (dk_at dksX10_has_0 21 rfl rfl)
theorem dX10_has_22 : decode cX10_has 22 = .ok (.aload_n 1, 1) := dk_43 (dk_at dksX10_has_0 22 rfl rfl)
theorem dX10_has_23 : decode cX10_has 23 = .ok (.invokevirtual 44, 3) := dk_182 0 44 (dk_at dksX10_has_1 0 rfl rfl)
theorem dX10_has_26 : decode cX10_has 26 = .ok (.istore_n 2, 1) := dk_61 (dk_at dksX10_has_1 3 rfl rfl)
theorem dX10_has_27 : decode cX10_has 27 = .ok (.iinc 3 1, 3) := dk_132 3 1 (dk_at dksX10_has_1 4 rfl rfl)
theorem dX10_has_30 : decode cX10_has 30 = .ok (.goto (-26), 3) := dk_167 255 230 (dk_at dksX10_has_1 7 rfl rfl)
theorem dX10_has_33 : decode cX10_has 33 = .ok (.iload_n 2, 1) := dk_28 (dk_at dksX10_has_1 10 rfl rfl)
theorem dX10_has_34 : decode cX10_has 34 = .ok (.ireturn, 1) := dk_172 (dk_at dksX10_has_1 11 rfl rfl)
abbrev cX10_puts_2 : ByteArray := prog_19_method_6_code
def yX10_puts_2 : MethodName := ⟨RX10, "puts", "(LPatentHall$Link;)V"⟩
def dkwX10_puts_2_0 : List UInt8 := [42, 180, 0, 23, 42, 180, 0, 31, 43, 83, 42, 89, 180, 0, 31, 4, 96, 181, 0, 31, 177]
abbrev dktX10_puts_2_0 : List UInt8 := dkwX10_puts_2_0 ++ []
theorem dksX10_puts_2_0 : cX10_puts_2.data.toList.drop 0 = dktX10_puts_2_0 := by decide +kernel
theorem dX10_puts_2_0 : decode cX10_puts_2 0 = .ok (.aload_n 0, 1) := dk_42 (dk_at dksX10_puts_2_0 0 rfl rfl)
theorem dX10_puts_2_1 : decode cX10_puts_2 1 = .ok (.getfield 23, 3) := dk_180 0 23 (dk_at dksX10_puts_2_0 1 rfl rfl)
theorem dX10_puts_2_4 : decode cX10_puts_2 4 = .ok (.aload_n 0, 1) := dk_42 (dk_at dksX10_puts_2_0 4 rfl rfl)
theorem dX10_puts_2_5 : decode cX10_puts_2 5 = .ok (.getfield 31, 3) := dk_180 0 31 (dk_at dksX10_puts_2_0 5 rfl rfl)
theorem dX10_puts_2_8 : decode cX10_puts_2 8 = .ok (.aload_n 1, 1) := dk_43 (dk_at dksX10_puts_2_0 8 rfl rfl)
theorem dX10_puts_2_9 : decode cX10_puts_2 9 = .ok (.aastore, 1) := dk_83 (dk_at dksX10_puts_2_0 9 rfl rfl)
theorem dX10_puts_2_10 : decode cX10_puts_2 10 = .ok (.aload_n 0, 1) := dk_42 (dk_at dksX10_puts_2_0 10 rfl rfl)
theorem dX10_puts_2_11 : decode cX10_puts_2 11 = .ok (.dup, 1) := dk_89 (dk_at dksX10_puts_2_0 11 rfl rfl)
theorem dX10_puts_2_12 : decode cX10_puts_2 12 = .ok (.getfield 31, 3) := dk_180 0 31 (dk_at dksX10_puts_2_0 12 rfl rfl)
theorem dX10_puts_2_15 : decode cX10_puts_2 15 = .ok (.iconst 1, 1) := dk_4 (dk_at dksX10_puts_2_0 15 rfl rfl)
theorem dX10_puts_2_16 : decode cX10_puts_2 16 = .ok (.iadd, 1) := dk_96 (dk_at dksX10_puts_2_0 16 rfl rfl)
theorem dX10_puts_2_17 : decode cX10_puts_2 17 = .ok (.putfield 31, 3) := dk_181 0 31 (dk_at dksX10_puts_2_0 17 rfl rfl)
theorem dX10_puts_2_20 : decode cX10_puts_2 20 = .ok (.return_, 1) := dk_177 (dk_at dksX10_puts_2_0 20 rfl rfl)
abbrev cX10_init_2 : ByteArray := prog_19_method_2_code
def yX10_init_2 : MethodName := ⟨RX10, "<init>", "(LPatentHall$Text;)V"⟩
def dkwX10_init_2_4 : List UInt8 := [180, 0, 31, 184, 0, 34, 177]
abbrev dktX10_init_2_4 : List UInt8 := dkwX10_init_2_4 ++ []
def dkwX10_init_2_3 : List UInt8 := [180, 0, 17, 3, 42, 180, 0, 27, 184, 0, 34, 43, 180, 0, 23, 3, 42, 180, 0, 23, 3, 42]
abbrev dktX10_init_2_3 : List UInt8 := dkwX10_init_2_3 ++ dktX10_init_2_4
def dkwX10_init_2_2 : List UInt8 := [180, 0, 11, 3, 42, 180, 0, 11, 3, 42, 180, 0, 27, 184, 0, 34, 43, 180, 0, 17, 3, 42]
abbrev dktX10_init_2_2 : List UInt8 := dkwX10_init_2_2 ++ dktX10_init_2_3
def dkwX10_init_2_1 : List UInt8 := [189, 0, 21, 181, 0, 23, 42, 43, 180, 0, 27, 181, 0, 27, 42, 43, 180, 0, 31, 181, 0, 31, 43]
abbrev dktX10_init_2_1 : List UInt8 := dkwX10_init_2_1 ++ dktX10_init_2_2
def dkwX10_init_2_0 : List UInt8 := [42, 183, 0, 3, 42, 16, 8, 189, 0, 9, 181, 0, 11, 42, 16, 8, 188, 10, 181, 0, 17, 42, 16, 10]
abbrev dktX10_init_2_0 : List UInt8 := dkwX10_init_2_0 ++ dktX10_init_2_1
theorem dksX10_init_2_0 : cX10_init_2.data.toList.drop 0 = dktX10_init_2_0 := by decide +kernel
theorem dksX10_init_2_1 : cX10_init_2.data.toList.drop 24 = dktX10_init_2_1 := dk_seg dksX10_init_2_0 24 rfl rfl
theorem dksX10_init_2_2 : cX10_init_2.data.toList.drop 47 = dktX10_init_2_2 := dk_seg dksX10_init_2_1 23 rfl rfl
theorem dksX10_init_2_3 : cX10_init_2.data.toList.drop 69 = dktX10_init_2_3 := dk_seg dksX10_init_2_2 22 rfl rfl
theorem dksX10_init_2_4 : cX10_init_2.data.toList.drop 91 = dktX10_init_2_4 := dk_seg dksX10_init_2_3 22 rfl rfl
theorem dX10_init_2_0 : decode cX10_init_2 0 = .ok (.aload_n 0, 1) := dk_42 (dk_at dksX10_init_2_0 0 rfl rfl)
theorem dX10_init_2_1 : decode cX10_init_2 1 = .ok (.invokespecial 3, 3) := dk_183 0 3 (dk_at dksX10_init_2_0 1 rfl rfl)
theorem dX10_init_2_4 : decode cX10_init_2 4 = .ok (.aload_n 0, 1) := dk_42 (dk_at dksX10_init_2_0 4 rfl rfl)
theorem dX10_init_2_5 : decode cX10_init_2 5 = .ok (.bipush 8, 2) := dk_16 8 (dk_at dksX10_init_2_0 5 rfl rfl)
theorem dX10_init_2_7 : decode cX10_init_2 7 = .ok (.anewarray 9, 3) := dk_189 0 9 (dk_at dksX10_init_2_0 7 rfl rfl)
theorem dX10_init_2_10 : decode cX10_init_2 10 = .ok (.putfield 11, 3) := dk_181 0 11 (dk_at dksX10_init_2_0 10 rfl rfl)
theorem dX10_init_2_13 : decode cX10_init_2 13 = .ok (.aload_n 0, 1) := dk_42 (dk_at dksX10_init_2_0 13 rfl rfl)
theorem dX10_init_2_14 : decode cX10_init_2 14 = .ok (.bipush 8, 2) := dk_16 8 (dk_at dksX10_init_2_0 14 rfl rfl)
theorem dX10_init_2_16 : decode cX10_init_2 16 = .ok (.newarray .int, 2) := dk_188_10 (dk_at dksX10_init_2_0 16 rfl rfl)
theorem dX10_init_2_18 : decode cX10_init_2 18 = .ok (.putfield 17, 3) := dk_181 0 17 (dk_at dksX10_init_2_0 18 rfl rfl)
theorem dX10_init_2_21 : decode cX10_init_2 21 = .ok (.aload_n 0, 1) := dk_42 (dk_at dksX10_init_2_0 21 rfl rfl)
theorem dX10_init_2_22 : decode cX10_init_2 22 = .ok (.bipush 10, 2) := dk_16 10 (dk_at dksX10_init_2_0 22 rfl rfl)
theorem dX10_init_2_24 : decode cX10_init_2 24 = .ok (.anewarray 21, 3) := dk_189 0 21 (dk_at dksX10_init_2_1 0 rfl rfl)
theorem dX10_init_2_27 : decode cX10_init_2 27 = .ok (.putfield 23, 3) := dk_181 0 23 (dk_at dksX10_init_2_1 3 rfl rfl)
theorem dX10_init_2_30 : decode cX10_init_2 30 = .ok (.aload_n 0, 1) := dk_42 (dk_at dksX10_init_2_1 6 rfl rfl)
theorem dX10_init_2_31 : decode cX10_init_2 31 = .ok (.aload_n 1, 1) := dk_43 (dk_at dksX10_init_2_1 7 rfl rfl)
theorem dX10_init_2_32 : decode cX10_init_2 32 = .ok (.getfield 27, 3) := dk_180 0 27 (dk_at dksX10_init_2_1 8 rfl rfl)
theorem dX10_init_2_35 : decode cX10_init_2 35 = .ok (.putfield 27, 3) := dk_181 0 27 (dk_at dksX10_init_2_1 11 rfl rfl)
theorem dX10_init_2_38 : decode cX10_init_2 38 = .ok (.aload_n 0, 1) := dk_42 (dk_at dksX10_init_2_1 14 rfl rfl)
theorem dX10_init_2_39 : decode cX10_init_2 39 = .ok (.aload_n 1, 1) := dk_43 (dk_at dksX10_init_2_1 15 rfl rfl)
theorem dX10_init_2_40 : decode cX10_init_2 40 = .ok (.getfield 31, 3) := dk_180 0 31 (dk_at dksX10_init_2_1 16 rfl rfl)
theorem dX10_init_2_43 : decode cX10_init_2 43 = .ok (.putfield 31, 3) := dk_181 0 31 (dk_at dksX10_init_2_1 19 rfl rfl)
theorem dX10_init_2_46 : decode cX10_init_2 46 = .ok (.aload_n 1, 1) := dk_43 (dk_at dksX10_init_2_1 22 rfl rfl)
theorem dX10_init_2_47 : decode cX10_init_2 47 = .ok (.getfield 11, 3) := dk_180 0 11 (dk_at dksX10_init_2_2 0 rfl rfl)
theorem dX10_init_2_50 : decode cX10_init_2 50 = .ok (.iconst 0, 1) := dk_3 (dk_at dksX10_init_2_2 3 rfl rfl)
theorem dX10_init_2_51 : decode cX10_init_2 51 = .ok (.aload_n 0, 1) := dk_42 (dk_at dksX10_init_2_2 4 rfl rfl)
theorem dX10_init_2_52 : decode cX10_init_2 52 = .ok (.getfield 11, 3) := dk_180 0 11 (dk_at dksX10_init_2_2 5 rfl rfl)
theorem dX10_init_2_55 : decode cX10_init_2 55 = .ok (.iconst 0, 1) := dk_3 (dk_at dksX10_init_2_2 8 rfl rfl)
theorem dX10_init_2_56 : decode cX10_init_2 56 = .ok (.aload_n 0, 1) := dk_42 (dk_at dksX10_init_2_2 9 rfl rfl)
theorem dX10_init_2_57 : decode cX10_init_2 57 = .ok (.getfield 27, 3) := dk_180 0 27 (dk_at dksX10_init_2_2 10 rfl rfl)
theorem dX10_init_2_60 : decode cX10_init_2 60 = .ok (.invokestatic 34, 3) := dk_184 0 34 (dk_at dksX10_init_2_2 13 rfl rfl)
theorem dX10_init_2_63 : decode cX10_init_2 63 = .ok (.aload_n 1, 1) := dk_43 (dk_at dksX10_init_2_2 16 rfl rfl)
theorem dX10_init_2_64 : decode cX10_init_2 64 = .ok (.getfield 17, 3) := dk_180 0 17 (dk_at dksX10_init_2_2 17 rfl rfl)
theorem dX10_init_2_67 : decode cX10_init_2 67 = .ok (.iconst 0, 1) := dk_3 (dk_at dksX10_init_2_2 20 rfl rfl)
theorem dX10_init_2_68 : decode cX10_init_2 68 = .ok (.aload_n 0, 1) := dk_42 (dk_at dksX10_init_2_2 21 rfl rfl)
theorem dX10_init_2_69 : decode cX10_init_2 69 = .ok (.getfield 17, 3) := dk_180 0 17 (dk_at dksX10_init_2_3 0 rfl rfl)
theorem dX10_init_2_72 : decode cX10_init_2 72 = .ok (.iconst 0, 1) := dk_3 (dk_at dksX10_init_2_3 3 rfl rfl)
theorem dX10_init_2_73 : decode cX10_init_2 73 = .ok (.aload_n 0, 1) := dk_42 (dk_at dksX10_init_2_3 4 rfl rfl)
theorem dX10_init_2_74 : decode cX10_init_2 74 = .ok (.getfield 27, 3) := dk_180 0 27 (dk_at dksX10_init_2_3 5 rfl rfl)
theorem dX10_init_2_77 : decode cX10_init_2 77 = .ok (.invokestatic 34, 3) := dk_184 0 34 (dk_at dksX10_init_2_3 8 rfl rfl)
theorem dX10_init_2_80 : decode cX10_init_2 80 = .ok (.aload_n 1, 1) := dk_43 (dk_at dksX10_init_2_3 11 rfl rfl)
theorem dX10_init_2_81 : decode cX10_init_2 81 = .ok (.getfield 23, 3) := dk_180 0 23 (dk_at dksX10_init_2_3 12 rfl rfl)
theorem dX10_init_2_84 : decode cX10_init_2 84 = .ok (.iconst 0, 1) := dk_3 (dk_at dksX10_init_2_3 15 rfl rfl)
theorem dX10_init_2_85 : decode cX10_init_2 85 = .ok (.aload_n 0, 1) := dk_42 (dk_at dksX10_init_2_3 16 rfl rfl)
theorem dX10_init_2_86 : decode cX10_init_2 86 = .ok (.getfield 23, 3) := dk_180 0 23 (dk_at dksX10_init_2_3 17 rfl rfl)
theorem dX10_init_2_89 : decode cX10_init_2 89 = .ok (.iconst 0, 1) := dk_3 (dk_at dksX10_init_2_3 20 rfl rfl)
theorem dX10_init_2_90 : decode cX10_init_2 90 = .ok (.aload_n 0, 1) := dk_42 (dk_at dksX10_init_2_3 21 rfl rfl)
theorem dX10_init_2_91 : decode cX10_init_2 91 = .ok (.getfield 31, 3) := dk_180 0 31 (dk_at dksX10_init_2_4 0 rfl rfl)
theorem dX10_init_2_94 : decode cX10_init_2 94 = .ok (.invokestatic 34, 3) := dk_184 0 34 (dk_at dksX10_init_2_4 3 rfl rfl)
theorem dX10_init_2_97 : decode cX10_init_2 97 = .ok (.return_, 1) := dk_177 (dk_at dksX10_init_2_4 6 rfl rfl)
theorem q77 : (Jvm.Cond.initialized "PatentHall$Text") ∈ lw_all := lw_g (lw_at lw_m1 19 rfl) rfl
theorem q536 : (Jvm.Cond.instantiable "PatentHall$Text" (5 : Nat)) ∈ lw_all := lw_g (lw_at lw_m2 238 rfl) rfl
theorem q538 : (Jvm.Cond.instanceMethod ({ cls := "PatentHall$Text", name := "<init>", desc := "()V" } : Jvm.MethodName)) ∈ lw_all := lw_g (lw_at lw_m3 0 rfl) rfl
theorem q539 : (Jvm.Cond.code ({ cls := "PatentHall$Text", name := "<init>", desc := "()V" } : Jvm.MethodName) prog_19_method_1_code (1 : Nat) (Option.none : Option Jvm.ClassFile.FieldType)) ∈ lw_all := lw_g (lw_at lw_m3 1 rfl) rfl
theorem q540 : (Jvm.Cond.methodLink "PatentHall$Text" (3 : Nat) ({ cls := "java/lang/Object", name := "<init>", desc := "()V" } : Jvm.MethodName)) ∈ lw_all := lw_g (lw_at lw_m3 2 rfl) rfl
theorem q541 : (Jvm.Cond.classLink "PatentHall$Text" (9 : Nat) "java/lang/String") ∈ lw_all := lw_g (lw_at lw_m3 3 rfl) rfl
theorem q542 : (Jvm.Cond.classLink "PatentHall$Text" (21 : Nat) "PatentHall$Link") ∈ lw_all := lw_g (lw_at lw_m3 4 rfl) rfl
theorem q544 : (Jvm.Cond.fieldLink "PatentHall$Text" (11 : Nat) "PatentHall$Text" "names" "[Ljava/lang/String;") ∈ lw_all := lw_g (lw_at lw_m3 6 rfl) rfl
theorem q546 : (Jvm.Cond.fieldLink "PatentHall$Text" (17 : Nat) "PatentHall$Text" "words" "[I") ∈ lw_all := lw_g (lw_at lw_m3 8 rfl) rfl
theorem q549 : (Jvm.Cond.fieldLink "PatentHall$Text" (23 : Nat) "PatentHall$Text" "links" "[LPatentHall$Link;") ∈ lw_all := lw_g (lw_at lw_m3 11 rfl) rfl
theorem q552 : (Jvm.Cond.fieldLink "PatentHall$Text" (27 : Nat) "PatentHall$Text" "parts" "I") ∈ lw_all := lw_g (lw_at lw_m3 14 rfl) rfl
theorem q556 : (Jvm.Cond.fieldLink "PatentHall$Text" (31 : Nat) "PatentHall$Text" "linkMany" "I") ∈ lw_all := lw_g (lw_at lw_m3 18 rfl) rfl
theorem q560 : (Jvm.Cond.laysFinal "PatentHall$Text" "PatentHall$Text" "names" "[Ljava/lang/String;") ∈ lw_all := lw_g (lw_at lw_m3 22 rfl) rfl
theorem q561 : (Jvm.Cond.soleField "PatentHall$Text" "names") ∈ lw_all := lw_g (lw_at lw_m3 23 rfl) rfl
theorem q562 : (Jvm.Cond.laysFinal "PatentHall$Text" "PatentHall$Text" "words" "[I") ∈ lw_all := lw_g (lw_at lw_m3 24 rfl) rfl
theorem q563 : (Jvm.Cond.soleField "PatentHall$Text" "words") ∈ lw_all := lw_g (lw_at lw_m3 25 rfl) rfl
theorem q564 : (Jvm.Cond.laysFinal "PatentHall$Text" "PatentHall$Text" "links" "[LPatentHall$Link;") ∈ lw_all := lw_g (lw_at lw_m3 26 rfl) rfl
theorem q565 : (Jvm.Cond.soleField "PatentHall$Text" "links") ∈ lw_all := lw_g (lw_at lw_m3 27 rfl) rfl
theorem q566 : (Jvm.Cond.lays "PatentHall$Text" "PatentHall$Text" "parts" "I") ∈ lw_all := lw_g (lw_at lw_m3 28 rfl) rfl
theorem q567 : (Jvm.Cond.soleField "PatentHall$Text" "parts") ∈ lw_all := lw_g (lw_at lw_m3 29 rfl) rfl
theorem q568 : (Jvm.Cond.lays "PatentHall$Text" "PatentHall$Text" "linkMany" "I") ∈ lw_all := lw_g (lw_at lw_m3 30 rfl) rfl
theorem q569 : (Jvm.Cond.soleField "PatentHall$Text" "linkMany") ∈ lw_all := lw_g (lw_at lw_m3 31 rfl) rfl
theorem q570 : (Jvm.Cond.superclass "PatentHall$Text" "java/lang/Object") ∈ lw_all := lw_g (lw_at lw_m3 32 rfl) rfl
theorem q593 : (Jvm.Cond.instanceMethod ({ cls := "PatentHall$Text", name := "partOf", desc := "(Ljava/lang/String;)I" } : Jvm.MethodName)) ∈ lw_all := lw_g (lw_at lw_m3 55 rfl) rfl
theorem q594 : (Jvm.Cond.selects "PatentHall$Text" ({ cls := "PatentHall$Text", name := "partOf", desc := "(Ljava/lang/String;)I" } : Jvm.MethodName) ({ cls := "PatentHall$Text", name := "partOf", desc := "(Ljava/lang/String;)I" } : Jvm.MethodName)) ∈ lw_all := lw_g (lw_at lw_m3 56 rfl) rfl
theorem q595 : (Jvm.Cond.code ({ cls := "PatentHall$Text", name := "partOf", desc := "(Ljava/lang/String;)I" } : Jvm.MethodName) prog_19_method_3_code (3 : Nat) (Option.some Jvm.ClassFile.FieldType.int)) ∈ lw_all := lw_g (lw_at lw_m3 57 rfl) rfl
theorem q596 : (Jvm.Cond.methodLink "PatentHall$Text" (40 : Nat) ({ cls := "java/lang/String", name := "equals", desc := "(Ljava/lang/Object;)Z" } : Jvm.MethodName)) ∈ lw_all := lw_g (lw_at lw_m3 58 rfl) rfl
theorem q603 : (Jvm.Cond.instanceMethod ({ cls := "PatentHall$Text", name := "puts", desc := "(Ljava/lang/String;I)V" } : Jvm.MethodName)) ∈ lw_all := lw_g (lw_at lw_m3 65 rfl) rfl
theorem q604 : (Jvm.Cond.selects "PatentHall$Text" ({ cls := "PatentHall$Text", name := "puts", desc := "(Ljava/lang/String;I)V" } : Jvm.MethodName) ({ cls := "PatentHall$Text", name := "puts", desc := "(Ljava/lang/String;I)V" } : Jvm.MethodName)) ∈ lw_all := lw_g (lw_at lw_m3 66 rfl) rfl
theorem q605 : (Jvm.Cond.code ({ cls := "PatentHall$Text", name := "puts", desc := "(Ljava/lang/String;I)V" } : Jvm.MethodName) prog_19_method_5_code (3 : Nat) (Option.none : Option Jvm.ClassFile.FieldType)) ∈ lw_all := lw_g (lw_at lw_m3 67 rfl) rfl
theorem q637 : (Jvm.Cond.instanceMethod ({ cls := "PatentHall$Text", name := "has", desc := "(LPatentHall$Link;)Z" } : Jvm.MethodName)) ∈ lw_all := lw_g (lw_at lw_m3 99 rfl) rfl
theorem q638 : (Jvm.Cond.selects "PatentHall$Text" ({ cls := "PatentHall$Text", name := "has", desc := "(LPatentHall$Link;)Z" } : Jvm.MethodName) ({ cls := "PatentHall$Text", name := "has", desc := "(LPatentHall$Link;)Z" } : Jvm.MethodName)) ∈ lw_all := lw_g (lw_at lw_m3 100 rfl) rfl
theorem q639 : (Jvm.Cond.code ({ cls := "PatentHall$Text", name := "has", desc := "(LPatentHall$Link;)Z" } : Jvm.MethodName) prog_19_method_4_code (4 : Nat) (Option.some Jvm.ClassFile.FieldType.boolean)) ∈ lw_all := lw_g (lw_at lw_m3 101 rfl) rfl
theorem q640 : (Jvm.Cond.methodLink "PatentHall$Text" (44 : Nat) ({ cls := "PatentHall$Link", name := "isSame", desc := "(LPatentHall$Link;)Z" } : Jvm.MethodName)) ∈ lw_all := lw_g (lw_at lw_m3 102 rfl) rfl
theorem q645 : (Jvm.Cond.instanceMethod ({ cls := "PatentHall$Text", name := "puts", desc := "(LPatentHall$Link;)V" } : Jvm.MethodName)) ∈ lw_all := lw_g (lw_at lw_m3 107 rfl) rfl
theorem q646 : (Jvm.Cond.selects "PatentHall$Text" ({ cls := "PatentHall$Text", name := "puts", desc := "(LPatentHall$Link;)V" } : Jvm.MethodName) ({ cls := "PatentHall$Text", name := "puts", desc := "(LPatentHall$Link;)V" } : Jvm.MethodName)) ∈ lw_all := lw_g (lw_at lw_m3 108 rfl) rfl
theorem q647 : (Jvm.Cond.code ({ cls := "PatentHall$Text", name := "puts", desc := "(LPatentHall$Link;)V" } : Jvm.MethodName) prog_19_method_6_code (2 : Nat) (Option.none : Option Jvm.ClassFile.FieldType)) ∈ lw_all := lw_g (lw_at lw_m3 109 rfl) rfl
theorem q736 : (Jvm.Cond.instanceMethod ({ cls := "PatentHall$Text", name := "<init>", desc := "(LPatentHall$Text;)V" } : Jvm.MethodName)) ∈ lw_all := lw_g (lw_at lw_m3 198 rfl) rfl
theorem q737 : (Jvm.Cond.code ({ cls := "PatentHall$Text", name := "<init>", desc := "(LPatentHall$Text;)V" } : Jvm.MethodName) prog_19_method_2_code (2 : Nat) (Option.none : Option Jvm.ClassFile.FieldType)) ∈ lw_all := lw_g (lw_at lw_m3 199 rfl) rfl
theorem q738 : (Jvm.Cond.methodLink "PatentHall$Text" (34 : Nat) ({ cls := "java/lang/System", name := "arraycopy", desc := "(Ljava/lang/Object;ILjava/lang/Object;II)V" } : Jvm.MethodName)) ∈ lw_all := lw_g (lw_at lw_m3 200 rfl) rfl
theorem in_X10 : ∀ w ∈ wsX100, w ∈ lw_all := lw_in wsX100 [560, 562, 564, 566, 568] (by decide +kernel) (by decide +kernel)

/-! PatentHall$Link -/
set_option maxRecDepth 100000
def RX11 : String := "PatentHall$Link"
def TX11 : u_T := fun k => match k with
  | 0 => ("PatentHall$Link", "from", "I", true)
  | 1 => ("PatentHall$Link", "word", "I", true)
  | _ => ("PatentHall$Link", "to", "I", true)
def tyX11 : Nat → FieldType := fun k => match k with
  | 0 => .int
  | 1 => .int
  | _ => .int
abbrev wsX110 : List Cond := u_ws RX11 TX11 3
theorem nmX11 : ∀ a, a < 3 → ∀ b, b < 3 → a ≠ b → (TX11 a).2.1 ≠ (TX11 b).2.1 := by decide +kernel
theorem tyX11_ok : ∀ k, k < 3 → parseFieldDescriptor (TX11 k).2.2.1 = some (tyX11 k) := by decide +kernel
abbrev cX11_init : ByteArray := prog_15_method_1_code
def yX11_init : MethodName := ⟨RX11, "<init>", "(III)V"⟩
def dkwX11_init_0 : List UInt8 := [42, 183, 0, 1, 42, 27, 181, 0, 7, 42, 28, 181, 0, 13, 42, 29, 181, 0, 16, 177]
abbrev dktX11_init_0 : List UInt8 := dkwX11_init_0 ++ []
theorem dksX11_init_0 : cX11_init.data.toList.drop 0 = dktX11_init_0 := by decide +kernel
theorem dX11_init_0 : decode cX11_init 0 = .ok (.aload_n 0, 1) := dk_42 (dk_at dksX11_init_0 0 rfl rfl)
theorem dX11_init_1 : decode cX11_init 1 = .ok (.invokespecial 1, 3) := dk_183 0 1 (dk_at dksX11_init_0 1 rfl rfl)
theorem dX11_init_4 : decode cX11_init 4 = .ok (.aload_n 0, 1) := dk_42 (dk_at dksX11_init_0 4 rfl rfl)
theorem dX11_init_5 : decode cX11_init 5 = .ok (.iload_n 1, 1) := dk_27 (dk_at dksX11_init_0 5 rfl rfl)
theorem dX11_init_6 : decode cX11_init 6 = .ok (.putfield 7, 3) := dk_181 0 7 (dk_at dksX11_init_0 6 rfl rfl)
theorem dX11_init_9 : decode cX11_init 9 = .ok (.aload_n 0, 1) := dk_42 (dk_at dksX11_init_0 9 rfl rfl)
theorem dX11_init_10 : decode cX11_init 10 = .ok (.iload_n 2, 1) := dk_28 (dk_at dksX11_init_0 10 rfl rfl)
theorem dX11_init_11 : decode cX11_init 11 = .ok (.putfield 13, 3) := dk_181 0 13 (dk_at dksX11_init_0 11 rfl rfl)
theorem dX11_init_14 : decode cX11_init 14 = .ok (.aload_n 0, 1) := dk_42 (dk_at dksX11_init_0 14 rfl rfl)
theorem dX11_init_15 : decode cX11_init 15 = .ok (.iload_n 3, 1) := dk_29 (dk_at dksX11_init_0 15 rfl rfl)
theorem dX11_init_16 : decode cX11_init 16 = .ok (.putfield 16, 3) := dk_181 0 16 (dk_at dksX11_init_0 16 rfl rfl)
theorem dX11_init_19 : decode cX11_init 19 = .ok (.return_, 1) := dk_177 (dk_at dksX11_init_0 19 rfl rfl)
abbrev cX11_isSame : ByteArray := prog_15_method_2_code
def yX11_isSame : MethodName := ⟨RX11, "isSame", "(LPatentHall$Link;)Z"⟩
def dkwX11_isSame_1 : List UInt8 := [180, 0, 16, 43, 180, 0, 16, 160, 0, 7, 4, 167, 0, 4, 3, 172]
abbrev dktX11_isSame_1 : List UInt8 := dkwX11_isSame_1 ++ []
def dkwX11_isSame_0 : List UInt8 := [42, 180, 0, 7, 43, 180, 0, 7, 160, 0, 29, 42, 180, 0, 13, 43, 180, 0, 13, 160, 0, 18, 42]
abbrev dktX11_isSame_0 : List UInt8 := dkwX11_isSame_0 ++ dktX11_isSame_1
theorem dksX11_isSame_0 : cX11_isSame.data.toList.drop 0 = dktX11_isSame_0 := by decide +kernel
theorem dksX11_isSame_1 : cX11_isSame.data.toList.drop 23 = dktX11_isSame_1 := dk_seg dksX11_isSame_0 23 rfl rfl
theorem dX11_isSame_0 : decode cX11_isSame 0 = .ok (.aload_n 0, 1) := dk_42 (dk_at dksX11_isSame_0 0 rfl rfl)
theorem dX11_isSame_1 : decode cX11_isSame 1 = .ok (.getfield 7, 3) := dk_180 0 7 (dk_at dksX11_isSame_0 1 rfl rfl)
theorem dX11_isSame_4 : decode cX11_isSame 4 = .ok (.aload_n 1, 1) := dk_43 (dk_at dksX11_isSame_0 4 rfl rfl)
theorem dX11_isSame_5 : decode cX11_isSame 5 = .ok (.getfield 7, 3) := dk_180 0 7 (dk_at dksX11_isSame_0 5 rfl rfl)
theorem dX11_isSame_8 : decode cX11_isSame 8 = .ok (.if_icmp .ne 29, 3) := dk_160 0 29 (dk_at dksX11_isSame_0 8 rfl rfl)
theorem dX11_isSame_11 : decode cX11_isSame 11 = .ok (.aload_n 0, 1) := dk_42 (dk_at dksX11_isSame_0 11 rfl rfl)
theorem dX11_isSame_12 : decode cX11_isSame 12 = .ok (.getfield 13, 3) := dk_180 0 13 (dk_at dksX11_isSame_0 12 rfl rfl)
theorem dX11_isSame_15 : decode cX11_isSame 15 = .ok (.aload_n 1, 1) := dk_43 (dk_at dksX11_isSame_0 15 rfl rfl)
theorem dX11_isSame_16 : decode cX11_isSame 16 = .ok (.getfield 13, 3) := dk_180 0 13 (dk_at dksX11_isSame_0 16 rfl rfl)
theorem dX11_isSame_19 : decode cX11_isSame 19 = .ok (.if_icmp .ne 18, 3) := dk_160 0 18 (dk_at dksX11_isSame_0 19 rfl rfl)
theorem dX11_isSame_22 : decode cX11_isSame 22 = .ok (.aload_n 0, 1) := dk_42 (dk_at dksX11_isSame_0 22 rfl rfl)
theorem dX11_isSame_23 : decode cX11_isSame 23 = .ok (.getfield 16, 3) := dk_180 0 16 (dk_at dksX11_isSame_1 0 rfl rfl)
theorem dX11_isSame_26 : decode cX11_isSame 26 = .ok (.aload_n 1, 1) := dk_43 (dk_at dksX11_isSame_1 3 rfl rfl)
theorem dX11_isSame_27 : decode cX11_isSame 27 = .ok (.getfield 16, 3) := dk_180 0 16 (dk_at dksX11_isSame_1 4 rfl rfl)
theorem dX11_isSame_30 : decode cX11_isSame 30 = .ok (.if_icmp .ne 7, 3) := dk_160 0 7 (dk_at dksX11_isSame_1 7 rfl rfl)
theorem dX11_isSame_33 : decode cX11_isSame 33 = .ok (.iconst 1, 1) := dk_4 (dk_at dksX11_isSame_1 10 rfl rfl)
theorem dX11_isSame_34 : decode cX11_isSame 34 = .ok (.goto 4, 3) := dk_167 0 4 (dk_at dksX11_isSame_1 11 rfl rfl)
theorem dX11_isSame_37 : decode cX11_isSame 37 = .ok (.iconst 0, 1) := dk_3 (dk_at dksX11_isSame_1 14 rfl rfl)
theorem dX11_isSame_38 : decode cX11_isSame 38 = .ok (.ireturn, 1) := dk_172 (dk_at dksX11_isSame_1 15 rfl rfl)
theorem q78 : (Jvm.Cond.initialized "PatentHall$Link") ∈ lw_all := lw_g (lw_at lw_m1 20 rfl) rfl
theorem q615 : (Jvm.Cond.instantiable "PatentHall$Link" (3 : Nat)) ∈ lw_all := lw_g (lw_at lw_m3 77 rfl) rfl
theorem q617 : (Jvm.Cond.instanceMethod ({ cls := "PatentHall$Link", name := "<init>", desc := "(III)V" } : Jvm.MethodName)) ∈ lw_all := lw_g (lw_at lw_m3 79 rfl) rfl
theorem q618 : (Jvm.Cond.code ({ cls := "PatentHall$Link", name := "<init>", desc := "(III)V" } : Jvm.MethodName) prog_15_method_1_code (4 : Nat) (Option.none : Option Jvm.ClassFile.FieldType)) ∈ lw_all := lw_g (lw_at lw_m3 80 rfl) rfl
theorem q619 : (Jvm.Cond.methodLink "PatentHall$Link" (1 : Nat) ({ cls := "java/lang/Object", name := "<init>", desc := "()V" } : Jvm.MethodName)) ∈ lw_all := lw_g (lw_at lw_m3 81 rfl) rfl
theorem q620 : (Jvm.Cond.fieldLink "PatentHall$Link" (7 : Nat) "PatentHall$Link" "from" "I") ∈ lw_all := lw_g (lw_at lw_m3 82 rfl) rfl
theorem q623 : (Jvm.Cond.fieldLink "PatentHall$Link" (13 : Nat) "PatentHall$Link" "word" "I") ∈ lw_all := lw_g (lw_at lw_m3 85 rfl) rfl
theorem q626 : (Jvm.Cond.fieldLink "PatentHall$Link" (16 : Nat) "PatentHall$Link" "to" "I") ∈ lw_all := lw_g (lw_at lw_m3 88 rfl) rfl
theorem q629 : (Jvm.Cond.laysFinal "PatentHall$Link" "PatentHall$Link" "from" "I") ∈ lw_all := lw_g (lw_at lw_m3 91 rfl) rfl
theorem q630 : (Jvm.Cond.soleField "PatentHall$Link" "from") ∈ lw_all := lw_g (lw_at lw_m3 92 rfl) rfl
theorem q631 : (Jvm.Cond.laysFinal "PatentHall$Link" "PatentHall$Link" "word" "I") ∈ lw_all := lw_g (lw_at lw_m3 93 rfl) rfl
theorem q632 : (Jvm.Cond.soleField "PatentHall$Link" "word") ∈ lw_all := lw_g (lw_at lw_m3 94 rfl) rfl
theorem q633 : (Jvm.Cond.laysFinal "PatentHall$Link" "PatentHall$Link" "to" "I") ∈ lw_all := lw_g (lw_at lw_m3 95 rfl) rfl
theorem q634 : (Jvm.Cond.soleField "PatentHall$Link" "to") ∈ lw_all := lw_g (lw_at lw_m3 96 rfl) rfl
theorem q635 : (Jvm.Cond.superclass "PatentHall$Link" "java/lang/Object") ∈ lw_all := lw_g (lw_at lw_m3 97 rfl) rfl
theorem q641 : (Jvm.Cond.instanceMethod ({ cls := "PatentHall$Link", name := "isSame", desc := "(LPatentHall$Link;)Z" } : Jvm.MethodName)) ∈ lw_all := lw_g (lw_at lw_m3 103 rfl) rfl
theorem q642 : (Jvm.Cond.selects "PatentHall$Link" ({ cls := "PatentHall$Link", name := "isSame", desc := "(LPatentHall$Link;)Z" } : Jvm.MethodName) ({ cls := "PatentHall$Link", name := "isSame", desc := "(LPatentHall$Link;)Z" } : Jvm.MethodName)) ∈ lw_all := lw_g (lw_at lw_m3 104 rfl) rfl
theorem q643 : (Jvm.Cond.code ({ cls := "PatentHall$Link", name := "isSame", desc := "(LPatentHall$Link;)Z" } : Jvm.MethodName) prog_15_method_2_code (2 : Nat) (Option.some Jvm.ClassFile.FieldType.boolean)) ∈ lw_all := lw_g (lw_at lw_m3 105 rfl) rfl
theorem in_X11 : ∀ w ∈ wsX110, w ∈ lw_all := lw_in wsX110 [629, 631, 633] (by decide +kernel) (by decide +kernel)

/-! PatentHall$Told -/
set_option maxRecDepth 100000
def RX12 : String := "PatentHall$Told"
def TX12 : u_T := fun k => match k with
  | 0 => ("PatentHall$Told", "text", "LPatentHall$Text;", true)
  | _ => ("PatentHall$Told", "known", "I", true)
def tyX12 : Nat → FieldType := fun k => match k with
  | 0 => .object "PatentHall$Text"
  | _ => .int
abbrev wsX120 : List Cond := u_ws RX12 TX12 2
theorem nmX12 : ∀ a, a < 2 → ∀ b, b < 2 → a ≠ b → (TX12 a).2.1 ≠ (TX12 b).2.1 := by decide +kernel
theorem tyX12_ok : ∀ k, k < 2 → parseFieldDescriptor (TX12 k).2.2.1 = some (tyX12 k) := by decide +kernel
abbrev cX12_init : ByteArray := prog_20_method_1_code
def yX12_init : MethodName := ⟨RX12, "<init>", "(LPatentHall$Text;I)V"⟩
def dkwX12_init_0 : List UInt8 := [42, 183, 0, 1, 42, 43, 181, 0, 7, 42, 28, 181, 0, 13, 177]
abbrev dktX12_init_0 : List UInt8 := dkwX12_init_0 ++ []
theorem dksX12_init_0 : cX12_init.data.toList.drop 0 = dktX12_init_0 := by decide +kernel
theorem dX12_init_0 : decode cX12_init 0 = .ok (.aload_n 0, 1) := dk_42 (dk_at dksX12_init_0 0 rfl rfl)
theorem dX12_init_1 : decode cX12_init 1 = .ok (.invokespecial 1, 3) := dk_183 0 1 (dk_at dksX12_init_0 1 rfl rfl)
theorem dX12_init_4 : decode cX12_init 4 = .ok (.aload_n 0, 1) := dk_42 (dk_at dksX12_init_0 4 rfl rfl)
theorem dX12_init_5 : decode cX12_init 5 = .ok (.aload_n 1, 1) := dk_43 (dk_at dksX12_init_0 5 rfl rfl)
theorem dX12_init_6 : decode cX12_init 6 = .ok (.putfield 7, 3) := dk_181 0 7 (dk_at dksX12_init_0 6 rfl rfl)
theorem dX12_init_9 : decode cX12_init 9 = .ok (.aload_n 0, 1) := dk_42 (dk_at dksX12_init_0 9 rfl rfl)
theorem dX12_init_10 : decode cX12_init 10 = .ok (.iload_n 2, 1) := dk_28 (dk_at dksX12_init_0 10 rfl rfl)
theorem dX12_init_11 : decode cX12_init 11 = .ok (.putfield 13, 3) := dk_181 0 13 (dk_at dksX12_init_0 11 rfl rfl)
theorem dX12_init_14 : decode cX12_init 14 = .ok (.return_, 1) := dk_177 (dk_at dksX12_init_0 14 rfl rfl)
abbrev cX12_isKnown : ByteArray := prog_20_method_2_code
def yX12_isKnown : MethodName := ⟨RX12, "isKnown", "(I)Z"⟩
def dkwX12_isKnown_0 : List UInt8 := [42, 180, 0, 13, 27, 163, 0, 7, 4, 167, 0, 4, 3, 172]
abbrev dktX12_isKnown_0 : List UInt8 := dkwX12_isKnown_0 ++ []
theorem dksX12_isKnown_0 : cX12_isKnown.data.toList.drop 0 = dktX12_isKnown_0 := by decide +kernel
theorem dX12_isKnown_0 : decode cX12_isKnown 0 = .ok (.aload_n 0, 1) := dk_42 (dk_at dksX12_isKnown_0 0 rfl rfl)
theorem dX12_isKnown_1 : decode cX12_isKnown 1 = .ok (.getfield 13, 3) := dk_180 0 13 (dk_at dksX12_isKnown_0 1 rfl rfl)
theorem dX12_isKnown_4 : decode cX12_isKnown 4 = .ok (.iload_n 1, 1) := dk_27 (dk_at dksX12_isKnown_0 4 rfl rfl)
theorem dX12_isKnown_5 : decode cX12_isKnown 5 = .ok (.if_icmp .gt 7, 3) := dk_163 0 7 (dk_at dksX12_isKnown_0 5 rfl rfl)
theorem dX12_isKnown_8 : decode cX12_isKnown 8 = .ok (.iconst 1, 1) := dk_4 (dk_at dksX12_isKnown_0 8 rfl rfl)
theorem dX12_isKnown_9 : decode cX12_isKnown 9 = .ok (.goto 4, 3) := dk_167 0 4 (dk_at dksX12_isKnown_0 9 rfl rfl)
theorem dX12_isKnown_12 : decode cX12_isKnown 12 = .ok (.iconst 0, 1) := dk_3 (dk_at dksX12_isKnown_0 12 rfl rfl)
theorem dX12_isKnown_13 : decode cX12_isKnown 13 = .ok (.ireturn, 1) := dk_172 (dk_at dksX12_isKnown_0 13 rfl rfl)
theorem q79 : (Jvm.Cond.initialized "PatentHall$Told") ∈ lw_all := lw_g (lw_at lw_m1 21 rfl) rfl
theorem q653 : (Jvm.Cond.instanceMethod ({ cls := "PatentHall$Told", name := "<init>", desc := "(LPatentHall$Text;I)V" } : Jvm.MethodName)) ∈ lw_all := lw_g (lw_at lw_m3 115 rfl) rfl
theorem q654 : (Jvm.Cond.code ({ cls := "PatentHall$Told", name := "<init>", desc := "(LPatentHall$Text;I)V" } : Jvm.MethodName) prog_20_method_1_code (3 : Nat) (Option.none : Option Jvm.ClassFile.FieldType)) ∈ lw_all := lw_g (lw_at lw_m3 116 rfl) rfl
theorem q655 : (Jvm.Cond.methodLink "PatentHall$Told" (1 : Nat) ({ cls := "java/lang/Object", name := "<init>", desc := "()V" } : Jvm.MethodName)) ∈ lw_all := lw_g (lw_at lw_m3 117 rfl) rfl
theorem q657 : (Jvm.Cond.fieldLink "PatentHall$Told" (7 : Nat) "PatentHall$Told" "text" "LPatentHall$Text;") ∈ lw_all := lw_g (lw_at lw_m3 119 rfl) rfl
theorem q663 : (Jvm.Cond.fieldLink "PatentHall$Told" (13 : Nat) "PatentHall$Told" "known" "I") ∈ lw_all := lw_g (lw_at lw_m3 125 rfl) rfl
theorem q669 : (Jvm.Cond.soleField "PatentHall$Told" "text") ∈ lw_all := lw_g (lw_at lw_m3 131 rfl) rfl
theorem q671 : (Jvm.Cond.soleField "PatentHall$Told" "known") ∈ lw_all := lw_g (lw_at lw_m3 133 rfl) rfl
theorem q687 : (Jvm.Cond.instantiable "PatentHall$Told" (2 : Nat)) ∈ lw_all := lw_g (lw_at lw_m3 149 rfl) rfl
theorem q689 : (Jvm.Cond.laysFinal "PatentHall$Told" "PatentHall$Told" "text" "LPatentHall$Text;") ∈ lw_all := lw_g (lw_at lw_m3 151 rfl) rfl
theorem q690 : (Jvm.Cond.laysFinal "PatentHall$Told" "PatentHall$Told" "known" "I") ∈ lw_all := lw_g (lw_at lw_m3 152 rfl) rfl
theorem q691 : (Jvm.Cond.superclass "PatentHall$Told" "java/lang/Object") ∈ lw_all := lw_g (lw_at lw_m3 153 rfl) rfl
theorem q933 : (Jvm.Cond.declares ({ cls := "PatentHall$Told", name := "isKnown", desc := "(I)Z" } : Jvm.MethodName)) ∈ lw_tbl := lw_at lw_m4 155 rfl
theorem q935 : (Jvm.Cond.instanceMethod ({ cls := "PatentHall$Told", name := "isKnown", desc := "(I)Z" } : Jvm.MethodName)) ∈ lw_all := lw_g (lw_at lw_m4 157 rfl) rfl
theorem q936 : (Jvm.Cond.code ({ cls := "PatentHall$Told", name := "isKnown", desc := "(I)Z" } : Jvm.MethodName) prog_20_method_2_code (2 : Nat) (Option.some Jvm.ClassFile.FieldType.boolean)) ∈ lw_all := lw_g (lw_at lw_m4 158 rfl) rfl
theorem q1488 : (Jvm.Cond.sameMethod "PatentHall$Told" "PatentHall$Told" "isKnown" "(I)Z") ∈ lw_all := lw_g (lw_at lw_m6 230 rfl) rfl
theorem q1491 : (Jvm.Cond.selects "PatentHall$Told" ({ cls := "PatentHall$Told", name := "isKnown", desc := "(I)Z" } : Jvm.MethodName) ({ cls := "PatentHall$Told", name := "isKnown", desc := "(I)Z" } : Jvm.MethodName)) ∈ lw_all := lw_g (lw_at lw_m6 233 rfl) rfl
theorem in_X12 : ∀ w ∈ wsX120, w ∈ lw_all := lw_in wsX120 [689, 690] (by decide +kernel) (by decide +kernel)

/-! PatentHall$Paper -/
set_option maxRecDepth 100000
def RX13 : String := "PatentHall$Paper"
def TX13 : u_T := fun k => match k with
  | 0 => ("PatentHall$Told", "text", "LPatentHall$Text;", true)
  | 1 => ("PatentHall$Told", "known", "I", true)
  | _ => ("PatentHall$Paper", "open", "I", true)
def tyX13 : Nat → FieldType := fun k => match k with
  | 0 => .object "PatentHall$Text"
  | 1 => .int
  | _ => .int
abbrev wsX130 : List Cond := u_ws RX13 TX13 3
theorem nmX13 : ∀ a, a < 3 → ∀ b, b < 3 → a ≠ b → (TX13 a).2.1 ≠ (TX13 b).2.1 := by decide +kernel
theorem tyX13_ok : ∀ k, k < 3 → parseFieldDescriptor (TX13 k).2.2.1 = some (tyX13 k) := by decide +kernel
abbrev cX13_init : ByteArray := prog_16_method_1_code
def yX13_init : MethodName := ⟨RX13, "<init>", "(LPatentHall$Text;II)V"⟩
def dkwX13_init_0 : List UInt8 := [42, 43, 28, 183, 0, 1, 42, 29, 181, 0, 7, 177]
abbrev dktX13_init_0 : List UInt8 := dkwX13_init_0 ++ []
theorem dksX13_init_0 : cX13_init.data.toList.drop 0 = dktX13_init_0 := by decide +kernel
theorem dX13_init_0 : decode cX13_init 0 = .ok (.aload_n 0, 1) := dk_42 (dk_at dksX13_init_0 0 rfl rfl)
theorem dX13_init_1 : decode cX13_init 1 = .ok (.aload_n 1, 1) := dk_43 (dk_at dksX13_init_0 1 rfl rfl)
theorem dX13_init_2 : decode cX13_init 2 = .ok (.iload_n 2, 1) := dk_28 (dk_at dksX13_init_0 2 rfl rfl)
theorem dX13_init_3 : decode cX13_init 3 = .ok (.invokespecial 1, 3) := dk_183 0 1 (dk_at dksX13_init_0 3 rfl rfl)
theorem dX13_init_6 : decode cX13_init 6 = .ok (.aload_n 0, 1) := dk_42 (dk_at dksX13_init_0 6 rfl rfl)
theorem dX13_init_7 : decode cX13_init 7 = .ok (.iload_n 3, 1) := dk_29 (dk_at dksX13_init_0 7 rfl rfl)
theorem dX13_init_8 : decode cX13_init 8 = .ok (.putfield 7, 3) := dk_181 0 7 (dk_at dksX13_init_0 8 rfl rfl)
theorem dX13_init_11 : decode cX13_init 11 = .ok (.return_, 1) := dk_177 (dk_at dksX13_init_0 11 rfl rfl)
abbrev cX13_counts : ByteArray := prog_16_method_2_code
def yX13_counts : MethodName := ⟨RX13, "counts", "(II)Z"⟩
def dkwX13_counts_0 : List UInt8 := [42, 28, 182, 0, 13, 153, 0, 15, 42, 180, 0, 7, 27, 162, 0, 7, 4, 167, 0, 4, 3, 172]
abbrev dktX13_counts_0 : List UInt8 := dkwX13_counts_0 ++ []
theorem dksX13_counts_0 : cX13_counts.data.toList.drop 0 = dktX13_counts_0 := by decide +kernel
theorem dX13_counts_0 : decode cX13_counts 0 = .ok (.aload_n 0, 1) := dk_42 (dk_at dksX13_counts_0 0 rfl rfl)
theorem dX13_counts_1 : decode cX13_counts 1 = .ok (.iload_n 2, 1) := dk_28 (dk_at dksX13_counts_0 1 rfl rfl)
theorem dX13_counts_2 : decode cX13_counts 2 = .ok (.invokevirtual 13, 3) := dk_182 0 13 (dk_at dksX13_counts_0 2 rfl rfl)
theorem dX13_counts_5 : decode cX13_counts 5 = .ok (.ifCond .eq 15, 3) := dk_153 0 15 (dk_at dksX13_counts_0 5 rfl rfl)
theorem dX13_counts_8 : decode cX13_counts 8 = .ok (.aload_n 0, 1) := dk_42 (dk_at dksX13_counts_0 8 rfl rfl)
theorem dX13_counts_9 : decode cX13_counts 9 = .ok (.getfield 7, 3) := dk_180 0 7 (dk_at dksX13_counts_0 9 rfl rfl)
theorem dX13_counts_12 : decode cX13_counts 12 = .ok (.iload_n 1, 1) := dk_27 (dk_at dksX13_counts_0 12 rfl rfl)
theorem dX13_counts_13 : decode cX13_counts 13 = .ok (.if_icmp .ge 7, 3) := dk_162 0 7 (dk_at dksX13_counts_0 13 rfl rfl)
theorem dX13_counts_16 : decode cX13_counts 16 = .ok (.iconst 1, 1) := dk_4 (dk_at dksX13_counts_0 16 rfl rfl)
theorem dX13_counts_17 : decode cX13_counts 17 = .ok (.goto 4, 3) := dk_167 0 4 (dk_at dksX13_counts_0 17 rfl rfl)
theorem dX13_counts_20 : decode cX13_counts 20 = .ok (.iconst 0, 1) := dk_3 (dk_at dksX13_counts_0 20 rfl rfl)
theorem dX13_counts_21 : decode cX13_counts 21 = .ok (.ireturn, 1) := dk_172 (dk_at dksX13_counts_0 21 rfl rfl)
theorem q80 : (Jvm.Cond.initialized "PatentHall$Paper") ∈ lw_all := lw_g (lw_at lw_m1 22 rfl) rfl
theorem q648 : (Jvm.Cond.instantiable "PatentHall$Paper" (3 : Nat)) ∈ lw_all := lw_g (lw_at lw_m3 110 rfl) rfl
theorem q650 : (Jvm.Cond.instanceMethod ({ cls := "PatentHall$Paper", name := "<init>", desc := "(LPatentHall$Text;II)V" } : Jvm.MethodName)) ∈ lw_all := lw_g (lw_at lw_m3 112 rfl) rfl
theorem q651 : (Jvm.Cond.code ({ cls := "PatentHall$Paper", name := "<init>", desc := "(LPatentHall$Text;II)V" } : Jvm.MethodName) prog_16_method_1_code (4 : Nat) (Option.none : Option Jvm.ClassFile.FieldType)) ∈ lw_all := lw_g (lw_at lw_m3 113 rfl) rfl
theorem q652 : (Jvm.Cond.methodLink "PatentHall$Paper" (1 : Nat) ({ cls := "PatentHall$Told", name := "<init>", desc := "(LPatentHall$Text;I)V" } : Jvm.MethodName)) ∈ lw_all := lw_g (lw_at lw_m3 114 rfl) rfl
theorem q656 : (Jvm.Cond.fieldLink "PatentHall$Paper" (7 : Nat) "PatentHall$Paper" "open" "I") ∈ lw_all := lw_g (lw_at lw_m3 118 rfl) rfl
theorem q661 : (Jvm.Cond.sameField "PatentHall$Paper" "PatentHall$Told" "text" "LPatentHall$Text;") ∈ lw_all := lw_g (lw_at lw_m3 123 rfl) rfl
theorem q666 : (Jvm.Cond.laysFinal "PatentHall$Paper" "PatentHall$Paper" "open" "I") ∈ lw_all := lw_g (lw_at lw_m3 128 rfl) rfl
theorem q667 : (Jvm.Cond.soleField "PatentHall$Paper" "open") ∈ lw_all := lw_g (lw_at lw_m3 129 rfl) rfl
theorem q668 : (Jvm.Cond.laysFinal "PatentHall$Paper" "PatentHall$Told" "text" "LPatentHall$Text;") ∈ lw_all := lw_g (lw_at lw_m3 130 rfl) rfl
theorem q670 : (Jvm.Cond.laysFinal "PatentHall$Paper" "PatentHall$Told" "known" "I") ∈ lw_all := lw_g (lw_at lw_m3 132 rfl) rfl
theorem q672 : (Jvm.Cond.superclass "PatentHall$Paper" "PatentHall$Told") ∈ lw_all := lw_g (lw_at lw_m3 134 rfl) rfl
theorem q928 : (Jvm.Cond.instanceMethod ({ cls := "PatentHall$Paper", name := "counts", desc := "(II)Z" } : Jvm.MethodName)) ∈ lw_all := lw_g (lw_at lw_m4 150 rfl) rfl
theorem q929 : (Jvm.Cond.selects "PatentHall$Paper" ({ cls := "PatentHall$Paper", name := "counts", desc := "(II)Z" } : Jvm.MethodName) ({ cls := "PatentHall$Paper", name := "counts", desc := "(II)Z" } : Jvm.MethodName)) ∈ lw_all := lw_g (lw_at lw_m4 151 rfl) rfl
theorem q930 : (Jvm.Cond.code ({ cls := "PatentHall$Paper", name := "counts", desc := "(II)Z" } : Jvm.MethodName) prog_16_method_2_code (3 : Nat) (Option.some Jvm.ClassFile.FieldType.boolean)) ∈ lw_all := lw_g (lw_at lw_m4 152 rfl) rfl
theorem q931 : (Jvm.Cond.methodLink "PatentHall$Paper" (13 : Nat) ({ cls := "PatentHall$Paper", name := "isKnown", desc := "(I)Z" } : Jvm.MethodName)) ∈ lw_all := lw_g (lw_at lw_m4 153 rfl) rfl
theorem q932 : (Jvm.Cond.sameMethod "PatentHall$Paper" "PatentHall$Told" "isKnown" "(I)Z") ∈ lw_all := lw_g (lw_at lw_m4 154 rfl) rfl
theorem q934 : (Jvm.Cond.selects "PatentHall$Paper" ({ cls := "PatentHall$Paper", name := "isKnown", desc := "(I)Z" } : Jvm.MethodName) ({ cls := "PatentHall$Told", name := "isKnown", desc := "(I)Z" } : Jvm.MethodName)) ∈ lw_all := lw_g (lw_at lw_m4 156 rfl) rfl
theorem q1490 : (Jvm.Cond.selects "PatentHall$Paper" ({ cls := "PatentHall$Told", name := "isKnown", desc := "(I)Z" } : Jvm.MethodName) ({ cls := "PatentHall$Told", name := "isKnown", desc := "(I)Z" } : Jvm.MethodName)) ∈ lw_all := lw_g (lw_at lw_m6 232 rfl) rfl
theorem q1492 : (Jvm.Cond.castable "PatentHall$Paper" "PatentHall$Told") ∈ lw_tbl := lw_at lw_m6 234 rfl
theorem in_X13 : ∀ w ∈ wsX130, w ∈ lw_all := lw_in wsX130 [668, 670, 666] (by decide +kernel) (by decide +kernel)

/-! PatentHall$3 -/
set_option maxRecDepth 100000
def RX14 : String := "PatentHall$3"
def TX14 : u_T := fun k => match k with
  | _ => ("PatentHall$3", "this$0", "LPatentHall;", true)
def tyX14 : Nat → FieldType := fun k => match k with
  | _ => .object "PatentHall"
abbrev wsX140 : List Cond := u_ws RX14 TX14 1
theorem nmX14 : ∀ a, a < 1 → ∀ b, b < 1 → a ≠ b → (TX14 a).2.1 ≠ (TX14 b).2.1 := by decide +kernel
theorem tyX14_ok : ∀ k, k < 1 → parseFieldDescriptor (TX14 k).2.2.1 = some (tyX14 k) := by decide +kernel
abbrev cX14_init : ByteArray := prog_4_method_1_code
def yX14_init : MethodName := ⟨RX14, "<init>", "(LPatentHall;)V"⟩
def dkwX14_init_0 : List UInt8 := [42, 43, 181, 0, 1, 42, 183, 0, 7, 177]
abbrev dktX14_init_0 : List UInt8 := dkwX14_init_0 ++ []
theorem dksX14_init_0 : cX14_init.data.toList.drop 0 = dktX14_init_0 := by decide +kernel
theorem dX14_init_0 : decode cX14_init 0 = .ok (.aload_n 0, 1) := dk_42 (dk_at dksX14_init_0 0 rfl rfl)
theorem dX14_init_1 : decode cX14_init 1 = .ok (.aload_n 1, 1) := dk_43 (dk_at dksX14_init_0 1 rfl rfl)
theorem dX14_init_2 : decode cX14_init 2 = .ok (.putfield 1, 3) := dk_181 0 1 (dk_at dksX14_init_0 2 rfl rfl)
theorem dX14_init_5 : decode cX14_init 5 = .ok (.aload_n 0, 1) := dk_42 (dk_at dksX14_init_0 5 rfl rfl)
theorem dX14_init_6 : decode cX14_init 6 = .ok (.invokespecial 7, 3) := dk_183 0 7 (dk_at dksX14_init_0 6 rfl rfl)
theorem dX14_init_9 : decode cX14_init 9 = .ok (.return_, 1) := dk_177 (dk_at dksX14_init_0 9 rfl rfl)
abbrev cX14_undo : ByteArray := prog_4_method_2_code
def yX14_undo : MethodName := ⟨RX14, "undo", "()V"⟩
def dkwX14_undo_0 : List UInt8 := [42, 180, 0, 1, 89, 180, 0, 13, 4, 100, 181, 0, 13, 177]
abbrev dktX14_undo_0 : List UInt8 := dkwX14_undo_0 ++ []
theorem dksX14_undo_0 : cX14_undo.data.toList.drop 0 = dktX14_undo_0 := by decide +kernel
theorem dX14_undo_0 : decode cX14_undo 0 = .ok (.aload_n 0, 1) := dk_42 (dk_at dksX14_undo_0 0 rfl rfl)
theorem dX14_undo_1 : decode cX14_undo 1 = .ok (.getfield 1, 3) := dk_180 0 1 (dk_at dksX14_undo_0 1 rfl rfl)
theorem dX14_undo_4 : decode cX14_undo 4 = .ok (.dup, 1) := dk_89 (dk_at dksX14_undo_0 4 rfl rfl)
theorem dX14_undo_5 : decode cX14_undo 5 = .ok (.getfield 13, 3) := dk_180 0 13 (dk_at dksX14_undo_0 5 rfl rfl)
theorem dX14_undo_8 : decode cX14_undo 8 = .ok (.iconst 1, 1) := dk_4 (dk_at dksX14_undo_0 8 rfl rfl)
theorem dX14_undo_9 : decode cX14_undo 9 = .ok (.isub, 1) := dk_100 (dk_at dksX14_undo_0 9 rfl rfl)
theorem dX14_undo_10 : decode cX14_undo 10 = .ok (.putfield 13, 3) := dk_181 0 13 (dk_at dksX14_undo_0 10 rfl rfl)
theorem dX14_undo_13 : decode cX14_undo 13 = .ok (.return_, 1) := dk_177 (dk_at dksX14_undo_0 13 rfl rfl)
theorem q81 : (Jvm.Cond.initialized "PatentHall$3") ∈ lw_all := lw_g (lw_at lw_m1 23 rfl) rfl
theorem q271 : (Jvm.Cond.fieldLinkNest "PatentHall$3" (13 : Nat) "PatentHall" "paperMany" "I" "PatentHall") ∈ lw_tbl := lw_at lw_m1 213 rfl
theorem q674 : (Jvm.Cond.instantiable "PatentHall$3" (1 : Nat)) ∈ lw_all := lw_g (lw_at lw_m3 136 rfl) rfl
theorem q676 : (Jvm.Cond.instanceMethod ({ cls := "PatentHall$3", name := "<init>", desc := "(LPatentHall;)V" } : Jvm.MethodName)) ∈ lw_all := lw_g (lw_at lw_m3 138 rfl) rfl
theorem q677 : (Jvm.Cond.code ({ cls := "PatentHall$3", name := "<init>", desc := "(LPatentHall;)V" } : Jvm.MethodName) prog_4_method_1_code (2 : Nat) (Option.none : Option Jvm.ClassFile.FieldType)) ∈ lw_all := lw_g (lw_at lw_m3 139 rfl) rfl
theorem q678 : (Jvm.Cond.methodLinkNest "PatentHall$3" (7 : Nat) ({ cls := "PatentHall$Act", name := "<init>", desc := "()V" } : Jvm.MethodName) "PatentHall") ∈ lw_tbl := lw_at lw_m3 140 rfl
theorem q679 : (Jvm.Cond.fieldLink "PatentHall$3" (1 : Nat) "PatentHall$3" "this$0" "LPatentHall;") ∈ lw_all := lw_g (lw_at lw_m3 141 rfl) rfl
theorem q680 : (Jvm.Cond.laysFinal "PatentHall$3" "PatentHall$3" "this$0" "LPatentHall;") ∈ lw_all := lw_g (lw_at lw_m3 142 rfl) rfl
theorem q681 : (Jvm.Cond.soleField "PatentHall$3" "this$0") ∈ lw_all := lw_g (lw_at lw_m3 143 rfl) rfl
theorem q682 : (Jvm.Cond.superclass "PatentHall$3" "PatentHall$Act") ∈ lw_all := lw_g (lw_at lw_m3 144 rfl) rfl
theorem q1002 : (Jvm.Cond.selects "PatentHall$3" ({ cls := "PatentHall$Act", name := "undo", desc := "()V" } : Jvm.MethodName) ({ cls := "PatentHall$3", name := "undo", desc := "()V" } : Jvm.MethodName)) ∈ lw_all := lw_g (lw_at lw_m4 224 rfl) rfl
theorem q1003 : (Jvm.Cond.instanceMethod ({ cls := "PatentHall$3", name := "undo", desc := "()V" } : Jvm.MethodName)) ∈ lw_all := lw_g (lw_at lw_m4 225 rfl) rfl
theorem q1004 : (Jvm.Cond.code ({ cls := "PatentHall$3", name := "undo", desc := "()V" } : Jvm.MethodName) prog_4_method_2_code (1 : Nat) (Option.none : Option Jvm.ClassFile.FieldType)) ∈ lw_all := lw_g (lw_at lw_m4 226 rfl) rfl
theorem q1496 : (Jvm.Cond.castable "PatentHall$3" "PatentHall$Act") ∈ lw_tbl := lw_at lw_m6 238 rfl
theorem in_X14 : ∀ w ∈ wsX140, w ∈ lw_all := lw_in wsX140 [680] (by decide +kernel) (by decide +kernel)

/-! PatentHall$4 -/
set_option maxRecDepth 100000
def RX15 : String := "PatentHall$4"
def TX15 : u_T := fun k => match k with
  | _ => ("PatentHall$4", "this$0", "LPatentHall;", true)
def tyX15 : Nat → FieldType := fun k => match k with
  | _ => .object "PatentHall"
abbrev wsX150 : List Cond := u_ws RX15 TX15 1
theorem nmX15 : ∀ a, a < 1 → ∀ b, b < 1 → a ≠ b → (TX15 a).2.1 ≠ (TX15 b).2.1 := by decide +kernel
theorem tyX15_ok : ∀ k, k < 1 → parseFieldDescriptor (TX15 k).2.2.1 = some (tyX15 k) := by decide +kernel
abbrev cX15_init : ByteArray := prog_5_method_1_code
def yX15_init : MethodName := ⟨RX15, "<init>", "(LPatentHall;)V"⟩
def dkwX15_init_0 : List UInt8 := [42, 43, 181, 0, 1, 42, 183, 0, 7, 177]
abbrev dktX15_init_0 : List UInt8 := dkwX15_init_0 ++ []
theorem dksX15_init_0 : cX15_init.data.toList.drop 0 = dktX15_init_0 := by decide +kernel
theorem dX15_init_0 : decode cX15_init 0 = .ok (.aload_n 0, 1) := dk_42 (dk_at dksX15_init_0 0 rfl rfl)
theorem dX15_init_1 : decode cX15_init 1 = .ok (.aload_n 1, 1) := dk_43 (dk_at dksX15_init_0 1 rfl rfl)
theorem dX15_init_2 : decode cX15_init 2 = .ok (.putfield 1, 3) := dk_181 0 1 (dk_at dksX15_init_0 2 rfl rfl)
theorem dX15_init_5 : decode cX15_init 5 = .ok (.aload_n 0, 1) := dk_42 (dk_at dksX15_init_0 5 rfl rfl)
theorem dX15_init_6 : decode cX15_init 6 = .ok (.invokespecial 7, 3) := dk_183 0 7 (dk_at dksX15_init_0 6 rfl rfl)
theorem dX15_init_9 : decode cX15_init 9 = .ok (.return_, 1) := dk_177 (dk_at dksX15_init_0 9 rfl rfl)
abbrev cX15_undo : ByteArray := prog_5_method_2_code
def yX15_undo : MethodName := ⟨RX15, "undo", "()V"⟩
def dkwX15_undo_0 : List UInt8 := [42, 180, 0, 1, 89, 180, 0, 13, 4, 100, 181, 0, 13, 177]
abbrev dktX15_undo_0 : List UInt8 := dkwX15_undo_0 ++ []
theorem dksX15_undo_0 : cX15_undo.data.toList.drop 0 = dktX15_undo_0 := by decide +kernel
theorem dX15_undo_0 : decode cX15_undo 0 = .ok (.aload_n 0, 1) := dk_42 (dk_at dksX15_undo_0 0 rfl rfl)
theorem dX15_undo_1 : decode cX15_undo 1 = .ok (.getfield 1, 3) := dk_180 0 1 (dk_at dksX15_undo_0 1 rfl rfl)
theorem dX15_undo_4 : decode cX15_undo 4 = .ok (.dup, 1) := dk_89 (dk_at dksX15_undo_0 4 rfl rfl)
theorem dX15_undo_5 : decode cX15_undo 5 = .ok (.getfield 13, 3) := dk_180 0 13 (dk_at dksX15_undo_0 5 rfl rfl)
theorem dX15_undo_8 : decode cX15_undo 8 = .ok (.iconst 1, 1) := dk_4 (dk_at dksX15_undo_0 8 rfl rfl)
theorem dX15_undo_9 : decode cX15_undo 9 = .ok (.isub, 1) := dk_100 (dk_at dksX15_undo_0 9 rfl rfl)
theorem dX15_undo_10 : decode cX15_undo 10 = .ok (.putfield 13, 3) := dk_181 0 13 (dk_at dksX15_undo_0 10 rfl rfl)
theorem dX15_undo_13 : decode cX15_undo 13 = .ok (.return_, 1) := dk_177 (dk_at dksX15_undo_0 13 rfl rfl)
theorem q82 : (Jvm.Cond.initialized "PatentHall$4") ∈ lw_all := lw_g (lw_at lw_m1 24 rfl) rfl
theorem q275 : (Jvm.Cond.fieldLinkNest "PatentHall$4" (13 : Nat) "PatentHall" "thingMany" "I" "PatentHall") ∈ lw_tbl := lw_at lw_m1 217 rfl
theorem q693 : (Jvm.Cond.instantiable "PatentHall$4" (1 : Nat)) ∈ lw_all := lw_g (lw_at lw_m3 155 rfl) rfl
theorem q695 : (Jvm.Cond.instanceMethod ({ cls := "PatentHall$4", name := "<init>", desc := "(LPatentHall;)V" } : Jvm.MethodName)) ∈ lw_all := lw_g (lw_at lw_m3 157 rfl) rfl
theorem q696 : (Jvm.Cond.code ({ cls := "PatentHall$4", name := "<init>", desc := "(LPatentHall;)V" } : Jvm.MethodName) prog_5_method_1_code (2 : Nat) (Option.none : Option Jvm.ClassFile.FieldType)) ∈ lw_all := lw_g (lw_at lw_m3 158 rfl) rfl
theorem q697 : (Jvm.Cond.methodLinkNest "PatentHall$4" (7 : Nat) ({ cls := "PatentHall$Act", name := "<init>", desc := "()V" } : Jvm.MethodName) "PatentHall") ∈ lw_tbl := lw_at lw_m3 159 rfl
theorem q698 : (Jvm.Cond.fieldLink "PatentHall$4" (1 : Nat) "PatentHall$4" "this$0" "LPatentHall;") ∈ lw_all := lw_g (lw_at lw_m3 160 rfl) rfl
theorem q699 : (Jvm.Cond.laysFinal "PatentHall$4" "PatentHall$4" "this$0" "LPatentHall;") ∈ lw_all := lw_g (lw_at lw_m3 161 rfl) rfl
theorem q700 : (Jvm.Cond.soleField "PatentHall$4" "this$0") ∈ lw_all := lw_g (lw_at lw_m3 162 rfl) rfl
theorem q701 : (Jvm.Cond.superclass "PatentHall$4" "PatentHall$Act") ∈ lw_all := lw_g (lw_at lw_m3 163 rfl) rfl
theorem q1005 : (Jvm.Cond.selects "PatentHall$4" ({ cls := "PatentHall$Act", name := "undo", desc := "()V" } : Jvm.MethodName) ({ cls := "PatentHall$4", name := "undo", desc := "()V" } : Jvm.MethodName)) ∈ lw_all := lw_g (lw_at lw_m4 227 rfl) rfl
theorem q1006 : (Jvm.Cond.instanceMethod ({ cls := "PatentHall$4", name := "undo", desc := "()V" } : Jvm.MethodName)) ∈ lw_all := lw_g (lw_at lw_m4 228 rfl) rfl
theorem q1007 : (Jvm.Cond.code ({ cls := "PatentHall$4", name := "undo", desc := "()V" } : Jvm.MethodName) prog_5_method_2_code (1 : Nat) (Option.none : Option Jvm.ClassFile.FieldType)) ∈ lw_all := lw_g (lw_at lw_m4 229 rfl) rfl
theorem q1497 : (Jvm.Cond.castable "PatentHall$4" "PatentHall$Act") ∈ lw_tbl := lw_at lw_m6 239 rfl
theorem in_X15 : ∀ w ∈ wsX150, w ∈ lw_all := lw_in wsX150 [699] (by decide +kernel) (by decide +kernel)

/-! PatentHall$Filing -/
set_option maxRecDepth 100000
def RX16 : String := "PatentHall$Filing"
def TX16 : u_T := fun k => match k with
  | 0 => ("PatentHall$Told", "text", "LPatentHall$Text;", true)
  | 1 => ("PatentHall$Told", "known", "I", true)
  | _ => ("PatentHall$Filing", "back", "LPatentHall$Filing;", true)
def tyX16 : Nat → FieldType := fun k => match k with
  | 0 => .object "PatentHall$Text"
  | 1 => .int
  | _ => .object "PatentHall$Filing"
abbrev wsX160 : List Cond := u_ws RX16 TX16 3
theorem nmX16 : ∀ a, a < 3 → ∀ b, b < 3 → a ≠ b → (TX16 a).2.1 ≠ (TX16 b).2.1 := by decide +kernel
theorem tyX16_ok : ∀ k, k < 3 → parseFieldDescriptor (TX16 k).2.2.1 = some (tyX16 k) := by decide +kernel
abbrev cX16_init : ByteArray := prog_13_method_1_code
def yX16_init : MethodName := ⟨RX16, "<init>", "(LPatentHall$Text;ILPatentHall$Filing;)V"⟩
def dkwX16_init_0 : List UInt8 := [42, 43, 28, 183, 0, 1, 42, 45, 181, 0, 7, 177]
abbrev dktX16_init_0 : List UInt8 := dkwX16_init_0 ++ []
theorem dksX16_init_0 : cX16_init.data.toList.drop 0 = dktX16_init_0 := by decide +kernel
theorem dX16_init_0 : decode cX16_init 0 = .ok (.aload_n 0, 1) := dk_42 (dk_at dksX16_init_0 0 rfl rfl)
theorem dX16_init_1 : decode cX16_init 1 = .ok (.aload_n 1, 1) := dk_43 (dk_at dksX16_init_0 1 rfl rfl)
theorem dX16_init_2 : decode cX16_init 2 = .ok (.iload_n 2, 1) := dk_28 (dk_at dksX16_init_0 2 rfl rfl)
theorem dX16_init_3 : decode cX16_init 3 = .ok (.invokespecial 1, 3) := dk_183 0 1 (dk_at dksX16_init_0 3 rfl rfl)
theorem dX16_init_6 : decode cX16_init 6 = .ok (.aload_n 0, 1) := dk_42 (dk_at dksX16_init_0 6 rfl rfl)
theorem dX16_init_7 : decode cX16_init 7 = .ok (.aload_n 3, 1) := dk_45 (dk_at dksX16_init_0 7 rfl rfl)
theorem dX16_init_8 : decode cX16_init 8 = .ok (.putfield 7, 3) := dk_181 0 7 (dk_at dksX16_init_0 8 rfl rfl)
theorem dX16_init_11 : decode cX16_init 11 = .ok (.return_, 1) := dk_177 (dk_at dksX16_init_0 11 rfl rfl)
theorem q83 : (Jvm.Cond.initialized "PatentHall$Filing") ∈ lw_all := lw_g (lw_at lw_m1 25 rfl) rfl
theorem q659 : (Jvm.Cond.sameField "PatentHall$Filing" "PatentHall$Told" "text" "LPatentHall$Text;") ∈ lw_all := lw_g (lw_at lw_m3 121 rfl) rfl
theorem q665 : (Jvm.Cond.sameField "PatentHall$Filing" "PatentHall$Told" "known" "I") ∈ lw_all := lw_g (lw_at lw_m3 127 rfl) rfl
theorem q706 : (Jvm.Cond.instantiable "PatentHall$Filing" (3 : Nat)) ∈ lw_all := lw_g (lw_at lw_m3 168 rfl) rfl
theorem q708 : (Jvm.Cond.instanceMethod ({ cls := "PatentHall$Filing", name := "<init>", desc := "(LPatentHall$Text;ILPatentHall$Filing;)V" } : Jvm.MethodName)) ∈ lw_all := lw_g (lw_at lw_m3 170 rfl) rfl
theorem q709 : (Jvm.Cond.code ({ cls := "PatentHall$Filing", name := "<init>", desc := "(LPatentHall$Text;ILPatentHall$Filing;)V" } : Jvm.MethodName) prog_13_method_1_code (4 : Nat) (Option.none : Option Jvm.ClassFile.FieldType)) ∈ lw_all := lw_g (lw_at lw_m3 171 rfl) rfl
theorem q710 : (Jvm.Cond.methodLink "PatentHall$Filing" (1 : Nat) ({ cls := "PatentHall$Told", name := "<init>", desc := "(LPatentHall$Text;I)V" } : Jvm.MethodName)) ∈ lw_all := lw_g (lw_at lw_m3 172 rfl) rfl
theorem q711 : (Jvm.Cond.fieldLink "PatentHall$Filing" (7 : Nat) "PatentHall$Filing" "back" "LPatentHall$Filing;") ∈ lw_all := lw_g (lw_at lw_m3 173 rfl) rfl
theorem q713 : (Jvm.Cond.laysFinal "PatentHall$Filing" "PatentHall$Filing" "back" "LPatentHall$Filing;") ∈ lw_all := lw_g (lw_at lw_m3 175 rfl) rfl
theorem q714 : (Jvm.Cond.soleField "PatentHall$Filing" "back") ∈ lw_all := lw_g (lw_at lw_m3 176 rfl) rfl
theorem q715 : (Jvm.Cond.laysFinal "PatentHall$Filing" "PatentHall$Told" "text" "LPatentHall$Text;") ∈ lw_all := lw_g (lw_at lw_m3 177 rfl) rfl
theorem q716 : (Jvm.Cond.laysFinal "PatentHall$Filing" "PatentHall$Told" "known" "I") ∈ lw_all := lw_g (lw_at lw_m3 178 rfl) rfl
theorem q717 : (Jvm.Cond.superclass "PatentHall$Filing" "PatentHall$Told") ∈ lw_all := lw_g (lw_at lw_m3 179 rfl) rfl
theorem q1489 : (Jvm.Cond.selects "PatentHall$Filing" ({ cls := "PatentHall$Told", name := "isKnown", desc := "(I)Z" } : Jvm.MethodName) ({ cls := "PatentHall$Told", name := "isKnown", desc := "(I)Z" } : Jvm.MethodName)) ∈ lw_all := lw_g (lw_at lw_m6 231 rfl) rfl
theorem q1493 : (Jvm.Cond.castable "PatentHall$Filing" "PatentHall$Told") ∈ lw_tbl := lw_at lw_m6 235 rfl
theorem in_X16 : ∀ w ∈ wsX160, w ∈ lw_all := lw_in wsX160 [715, 716, 713] (by decide +kernel) (by decide +kernel)

/-! PatentHall$5 -/
set_option maxRecDepth 100000
def RX17 : String := "PatentHall$5"
def TX17 : u_T := fun k => match k with
  | _ => ("PatentHall$5", "this$0", "LPatentHall;", true)
def tyX17 : Nat → FieldType := fun k => match k with
  | _ => .object "PatentHall"
abbrev wsX170 : List Cond := u_ws RX17 TX17 1
theorem nmX17 : ∀ a, a < 1 → ∀ b, b < 1 → a ≠ b → (TX17 a).2.1 ≠ (TX17 b).2.1 := by decide +kernel
theorem tyX17_ok : ∀ k, k < 1 → parseFieldDescriptor (TX17 k).2.2.1 = some (tyX17 k) := by decide +kernel
abbrev cX17_init : ByteArray := prog_6_method_1_code
def yX17_init : MethodName := ⟨RX17, "<init>", "(LPatentHall;)V"⟩
def dkwX17_init_0 : List UInt8 := [42, 43, 181, 0, 1, 42, 183, 0, 7, 177]
abbrev dktX17_init_0 : List UInt8 := dkwX17_init_0 ++ []
theorem dksX17_init_0 : cX17_init.data.toList.drop 0 = dktX17_init_0 := by decide +kernel
theorem dX17_init_0 : decode cX17_init 0 = .ok (.aload_n 0, 1) := dk_42 (dk_at dksX17_init_0 0 rfl rfl)
theorem dX17_init_1 : decode cX17_init 1 = .ok (.aload_n 1, 1) := dk_43 (dk_at dksX17_init_0 1 rfl rfl)
theorem dX17_init_2 : decode cX17_init 2 = .ok (.putfield 1, 3) := dk_181 0 1 (dk_at dksX17_init_0 2 rfl rfl)
theorem dX17_init_5 : decode cX17_init 5 = .ok (.aload_n 0, 1) := dk_42 (dk_at dksX17_init_0 5 rfl rfl)
theorem dX17_init_6 : decode cX17_init 6 = .ok (.invokespecial 7, 3) := dk_183 0 7 (dk_at dksX17_init_0 6 rfl rfl)
theorem dX17_init_9 : decode cX17_init 9 = .ok (.return_, 1) := dk_177 (dk_at dksX17_init_0 9 rfl rfl)
abbrev cX17_undo : ByteArray := prog_6_method_2_code
def yX17_undo : MethodName := ⟨RX17, "undo", "()V"⟩
def dkwX17_undo_0 : List UInt8 := [42, 180, 0, 1, 89, 180, 0, 13, 4, 100, 181, 0, 13, 177]
abbrev dktX17_undo_0 : List UInt8 := dkwX17_undo_0 ++ []
theorem dksX17_undo_0 : cX17_undo.data.toList.drop 0 = dktX17_undo_0 := by decide +kernel
theorem dX17_undo_0 : decode cX17_undo 0 = .ok (.aload_n 0, 1) := dk_42 (dk_at dksX17_undo_0 0 rfl rfl)
theorem dX17_undo_1 : decode cX17_undo 1 = .ok (.getfield 1, 3) := dk_180 0 1 (dk_at dksX17_undo_0 1 rfl rfl)
theorem dX17_undo_4 : decode cX17_undo 4 = .ok (.dup, 1) := dk_89 (dk_at dksX17_undo_0 4 rfl rfl)
theorem dX17_undo_5 : decode cX17_undo 5 = .ok (.getfield 13, 3) := dk_180 0 13 (dk_at dksX17_undo_0 5 rfl rfl)
theorem dX17_undo_8 : decode cX17_undo 8 = .ok (.iconst 1, 1) := dk_4 (dk_at dksX17_undo_0 8 rfl rfl)
theorem dX17_undo_9 : decode cX17_undo 9 = .ok (.isub, 1) := dk_100 (dk_at dksX17_undo_0 9 rfl rfl)
theorem dX17_undo_10 : decode cX17_undo 10 = .ok (.putfield 13, 3) := dk_181 0 13 (dk_at dksX17_undo_0 10 rfl rfl)
theorem dX17_undo_13 : decode cX17_undo 13 = .ok (.return_, 1) := dk_177 (dk_at dksX17_undo_0 13 rfl rfl)
theorem q84 : (Jvm.Cond.initialized "PatentHall$5") ∈ lw_all := lw_g (lw_at lw_m1 26 rfl) rfl
theorem q273 : (Jvm.Cond.fieldLinkNest "PatentHall$5" (13 : Nat) "PatentHall" "fileMany" "I" "PatentHall") ∈ lw_tbl := lw_at lw_m1 215 rfl
theorem q719 : (Jvm.Cond.instantiable "PatentHall$5" (1 : Nat)) ∈ lw_all := lw_g (lw_at lw_m3 181 rfl) rfl
theorem q721 : (Jvm.Cond.instanceMethod ({ cls := "PatentHall$5", name := "<init>", desc := "(LPatentHall;)V" } : Jvm.MethodName)) ∈ lw_all := lw_g (lw_at lw_m3 183 rfl) rfl
theorem q722 : (Jvm.Cond.code ({ cls := "PatentHall$5", name := "<init>", desc := "(LPatentHall;)V" } : Jvm.MethodName) prog_6_method_1_code (2 : Nat) (Option.none : Option Jvm.ClassFile.FieldType)) ∈ lw_all := lw_g (lw_at lw_m3 184 rfl) rfl
theorem q723 : (Jvm.Cond.methodLinkNest "PatentHall$5" (7 : Nat) ({ cls := "PatentHall$Act", name := "<init>", desc := "()V" } : Jvm.MethodName) "PatentHall") ∈ lw_tbl := lw_at lw_m3 185 rfl
theorem q724 : (Jvm.Cond.fieldLink "PatentHall$5" (1 : Nat) "PatentHall$5" "this$0" "LPatentHall;") ∈ lw_all := lw_g (lw_at lw_m3 186 rfl) rfl
theorem q725 : (Jvm.Cond.laysFinal "PatentHall$5" "PatentHall$5" "this$0" "LPatentHall;") ∈ lw_all := lw_g (lw_at lw_m3 187 rfl) rfl
theorem q726 : (Jvm.Cond.soleField "PatentHall$5" "this$0") ∈ lw_all := lw_g (lw_at lw_m3 188 rfl) rfl
theorem q727 : (Jvm.Cond.superclass "PatentHall$5" "PatentHall$Act") ∈ lw_all := lw_g (lw_at lw_m3 189 rfl) rfl
theorem q1008 : (Jvm.Cond.selects "PatentHall$5" ({ cls := "PatentHall$Act", name := "undo", desc := "()V" } : Jvm.MethodName) ({ cls := "PatentHall$5", name := "undo", desc := "()V" } : Jvm.MethodName)) ∈ lw_all := lw_g (lw_at lw_m4 230 rfl) rfl
theorem q1009 : (Jvm.Cond.instanceMethod ({ cls := "PatentHall$5", name := "undo", desc := "()V" } : Jvm.MethodName)) ∈ lw_all := lw_g (lw_at lw_m4 231 rfl) rfl
theorem q1010 : (Jvm.Cond.code ({ cls := "PatentHall$5", name := "undo", desc := "()V" } : Jvm.MethodName) prog_6_method_2_code (1 : Nat) (Option.none : Option Jvm.ClassFile.FieldType)) ∈ lw_all := lw_g (lw_at lw_m4 232 rfl) rfl
theorem q1498 : (Jvm.Cond.castable "PatentHall$5" "PatentHall$Act") ∈ lw_tbl := lw_at lw_m7 0 rfl
theorem in_X17 : ∀ w ∈ wsX170, w ∈ lw_all := lw_in wsX170 [725] (by decide +kernel) (by decide +kernel)

/-! PatentHall$Claim -/
set_option maxRecDepth 100000
def RX18 : String := "PatentHall$Claim"
def TX18 : u_T := fun k => match k with
  | 0 => ("PatentHall$Claim", "number", "I", true)
  | 1 => ("PatentHall$Claim", "known", "I", true)
  | 2 => ("PatentHall$Claim", "file", "I", true)
  | 3 => ("PatentHall$Claim", "on", "LPatentHall$Claim;", true)
  | 4 => ("PatentHall$Claim", "text", "LPatentHall$Text;", false)
  | 5 => ("PatentHall$Claim", "granted", "I", false)
  | _ => ("PatentHall$Claim", "dropped", "I", false)
def tyX18 : Nat → FieldType := fun k => match k with
  | 0 => .int
  | 1 => .int
  | 2 => .int
  | 3 => .object "PatentHall$Claim"
  | 4 => .object "PatentHall$Text"
  | 5 => .int
  | _ => .int
abbrev wsX180 : List Cond := u_ws RX18 TX18 7
theorem nmX18 : ∀ a, a < 7 → ∀ b, b < 7 → a ≠ b → (TX18 a).2.1 ≠ (TX18 b).2.1 := by decide +kernel
theorem tyX18_ok : ∀ k, k < 7 → parseFieldDescriptor (TX18 k).2.2.1 = some (tyX18 k) := by decide +kernel
abbrev cX18_init : ByteArray := prog_12_method_1_code
def yX18_init : MethodName := ⟨RX18, "<init>", "(IIILPatentHall$Claim;LPatentHall$Text;)V"⟩
def dkwX18_init_1 : List UInt8 := [42, 29, 181, 0, 24, 42, 25, 4, 181, 0, 27, 42, 25, 5, 181, 0, 31, 177]
abbrev dktX18_init_1 : List UInt8 := dkwX18_init_1 ++ []
def dkwX18_init_0 : List UInt8 := [42, 183, 0, 3, 42, 2, 181, 0, 9, 42, 2, 181, 0, 15, 42, 27, 181, 0, 18, 42, 28, 181, 0, 21]
abbrev dktX18_init_0 : List UInt8 := dkwX18_init_0 ++ dktX18_init_1
theorem dksX18_init_0 : cX18_init.data.toList.drop 0 = dktX18_init_0 := by decide +kernel
theorem dksX18_init_1 : cX18_init.data.toList.drop 24 = dktX18_init_1 := dk_seg dksX18_init_0 24 rfl rfl
theorem dX18_init_0 : decode cX18_init 0 = .ok (.aload_n 0, 1) := dk_42 (dk_at dksX18_init_0 0 rfl rfl)
theorem dX18_init_1 : decode cX18_init 1 = .ok (.invokespecial 3, 3) := dk_183 0 3 (dk_at dksX18_init_0 1 rfl rfl)
theorem dX18_init_4 : decode cX18_init 4 = .ok (.aload_n 0, 1) := dk_42 (dk_at dksX18_init_0 4 rfl rfl)
theorem dX18_init_5 : decode cX18_init 5 = .ok (.iconst (-1), 1) := dk_2 (dk_at dksX18_init_0 5 rfl rfl)
theorem dX18_init_6 : decode cX18_init 6 = .ok (.putfield 9, 3) := dk_181 0 9 (dk_at dksX18_init_0 6 rfl rfl)
theorem dX18_init_9 : decode cX18_init 9 = .ok (.aload_n 0, 1) := dk_42 (dk_at dksX18_init_0 9 rfl rfl)
theorem dX18_init_10 : decode cX18_init 10 = .ok (.iconst (-1), 1) := dk_2 (dk_at dksX18_init_0 10 rfl rfl)
theorem dX18_init_11 : decode cX18_init 11 = .ok (.putfield 15, 3) := dk_181 0 15 (dk_at dksX18_init_0 11 rfl rfl)
theorem dX18_init_14 : decode cX18_init 14 = .ok (.aload_n 0, 1) := dk_42 (dk_at dksX18_init_0 14 rfl rfl)
theorem dX18_init_15 : decode cX18_init 15 = .ok (.iload_n 1, 1) := dk_27 (dk_at dksX18_init_0 15 rfl rfl)
theorem dX18_init_16 : decode cX18_init 16 = .ok (.putfield 18, 3) := dk_181 0 18 (dk_at dksX18_init_0 16 rfl rfl)
theorem dX18_init_19 : decode cX18_init 19 = .ok (.aload_n 0, 1) := dk_42 (dk_at dksX18_init_0 19 rfl rfl)
theorem dX18_init_20 : decode cX18_init 20 = .ok (.iload_n 2, 1) := dk_28 (dk_at dksX18_init_0 20 rfl rfl)
theorem dX18_init_21 : decode cX18_init 21 = .ok (.putfield 21, 3) := dk_181 0 21 (dk_at dksX18_init_0 21 rfl rfl)
theorem dX18_init_24 : decode cX18_init 24 = .ok (.aload_n 0, 1) := dk_42 (dk_at dksX18_init_1 0 rfl rfl)
theorem dX18_init_25 : decode cX18_init 25 = .ok (.iload_n 3, 1) := dk_29 (dk_at dksX18_init_1 1 rfl rfl)
theorem dX18_init_26 : decode cX18_init 26 = .ok (.putfield 24, 3) := dk_181 0 24 (dk_at dksX18_init_1 2 rfl rfl)
theorem dX18_init_29 : decode cX18_init 29 = .ok (.aload_n 0, 1) := dk_42 (dk_at dksX18_init_1 5 rfl rfl)
theorem dX18_init_30 : decode cX18_init 30 = .ok (.aload 4, 2) := dk_25 4 (dk_at dksX18_init_1 6 rfl rfl)
theorem dX18_init_32 : decode cX18_init 32 = .ok (.putfield 27, 3) := dk_181 0 27 (dk_at dksX18_init_1 8 rfl rfl)
theorem dX18_init_35 : decode cX18_init 35 = .ok (.aload_n 0, 1) := dk_42 (dk_at dksX18_init_1 11 rfl rfl)
theorem dX18_init_36 : decode cX18_init 36 = .ok (.aload 5, 2) := dk_25 5 (dk_at dksX18_init_1 12 rfl rfl)
theorem dX18_init_38 : decode cX18_init 38 = .ok (.putfield 31, 3) := dk_181 0 31 (dk_at dksX18_init_1 14 rfl rfl)
theorem dX18_init_41 : decode cX18_init 41 = .ok (.return_, 1) := dk_177 (dk_at dksX18_init_1 17 rfl rfl)
abbrev cX18_ends : ByteArray := prog_12_method_2_code
def yX18_ends : MethodName := ⟨RX18, "ends", "(II)I"⟩
def dkwX18_ends_1 : List UInt8 := [96, 184, 0, 35, 167, 0, 8, 27, 17, 28, 132, 96, 172]
abbrev dktX18_ends_1 : List UInt8 := dkwX18_ends_1 ++ []
def dkwX18_ends_0 : List UInt8 := [42, 180, 0, 15, 2, 159, 0, 26, 42, 180, 0, 15, 28, 163, 0, 18, 42, 180, 0, 15, 27, 17, 28, 132]
abbrev dktX18_ends_0 : List UInt8 := dkwX18_ends_0 ++ dktX18_ends_1
theorem dksX18_ends_0 : cX18_ends.data.toList.drop 0 = dktX18_ends_0 := by decide +kernel
theorem dksX18_ends_1 : cX18_ends.data.toList.drop 24 = dktX18_ends_1 := dk_seg dksX18_ends_0 24 rfl rfl
theorem dX18_ends_0 : decode cX18_ends 0 = .ok (.aload_n 0, 1) := dk_42 (dk_at dksX18_ends_0 0 rfl rfl)
theorem dX18_ends_1 : decode cX18_ends 1 = .ok (.getfield 15, 3) := dk_180 0 15 (dk_at dksX18_ends_0 1 rfl rfl)
theorem dX18_ends_4 : decode cX18_ends 4 = .ok (.iconst (-1), 1) := dk_2 (dk_at dksX18_ends_0 4 rfl rfl)
theorem dX18_ends_5 : decode cX18_ends 5 = .ok (.if_icmp .eq 26, 3) := dk_159 0 26 (dk_at dksX18_ends_0 5 rfl rfl)
theorem dX18_ends_8 : decode cX18_ends 8 = .ok (.aload_n 0, 1) := dk_42 (dk_at dksX18_ends_0 8 rfl rfl)
theorem dX18_ends_9 : decode cX18_ends 9 = .ok (.getfield 15, 3) := dk_180 0 15 (dk_at dksX18_ends_0 9 rfl rfl)
theorem dX18_ends_12 : decode cX18_ends 12 = .ok (.iload_n 2, 1) := dk_28 (dk_at dksX18_ends_0 12 rfl rfl)
theorem dX18_ends_13 : decode cX18_ends 13 = .ok (.if_icmp .gt 18, 3) := dk_163 0 18 (dk_at dksX18_ends_0 13 rfl rfl)
theorem dX18_ends_16 : decode cX18_ends 16 = .ok (.aload_n 0, 1) := dk_42 (dk_at dksX18_ends_0 16 rfl rfl)
theorem dX18_ends_17 : decode cX18_ends 17 = .ok (.getfield 15, 3) := dk_180 0 15 (dk_at dksX18_ends_0 17 rfl rfl)
theorem dX18_ends_20 : decode cX18_ends 20 = .ok (.iload_n 1, 1) := dk_27 (dk_at dksX18_ends_0 20 rfl rfl)
theorem dX18_ends_21 : decode cX18_ends 21 = .ok (.sipush 7300, 3) := dk_17 28 132 (dk_at dksX18_ends_0 21 rfl rfl)
theorem dX18_ends_24 : decode cX18_ends 24 = .ok (.iadd, 1) := dk_96 (dk_at dksX18_ends_1 0 rfl rfl)
theorem dX18_ends_25 : decode cX18_ends 25 = .ok (.invokestatic 35, 3) := dk_184 0 35 (dk_at dksX18_ends_1 1 rfl rfl)
theorem dX18_ends_28 : decode cX18_ends 28 = .ok (.goto 8, 3) := dk_167 0 8 (dk_at dksX18_ends_1 4 rfl rfl)
theorem dX18_ends_31 : decode cX18_ends 31 = .ok (.iload_n 1, 1) := dk_27 (dk_at dksX18_ends_1 7 rfl rfl)
theorem dX18_ends_32 : decode cX18_ends 32 = .ok (.sipush 7300, 3) := dk_17 28 132 (dk_at dksX18_ends_1 8 rfl rfl)
theorem dX18_ends_35 : decode cX18_ends 35 = .ok (.iadd, 1) := dk_96 (dk_at dksX18_ends_1 11 rfl rfl)
theorem dX18_ends_36 : decode cX18_ends 36 = .ok (.ireturn, 1) := dk_172 (dk_at dksX18_ends_1 12 rfl rfl)
abbrev cX18_isInForce : ByteArray := prog_12_method_3_code
def yX18_isInForce : MethodName := ⟨RX18, "isInForce", "(III)Z"⟩
def dkwX18_isInForce_1 : List UInt8 := [28, 42, 27, 29, 182, 0, 41, 162, 0, 7, 4, 167, 0, 4, 3, 172]
abbrev dktX18_isInForce_1 : List UInt8 := dkwX18_isInForce_1 ++ []
def dkwX18_isInForce_0 : List UInt8 := [42, 180, 0, 9, 2, 159, 0, 33, 42, 180, 0, 9, 29, 163, 0, 25, 42, 180, 0, 9, 28, 163, 0, 17]
abbrev dktX18_isInForce_0 : List UInt8 := dkwX18_isInForce_0 ++ dktX18_isInForce_1
theorem dksX18_isInForce_0 : cX18_isInForce.data.toList.drop 0 = dktX18_isInForce_0 := by decide +kernel
theorem dksX18_isInForce_1 : cX18_isInForce.data.toList.drop 24 = dktX18_isInForce_1 := dk_seg dksX18_isInForce_0 24 rfl rfl
theorem dX18_isInForce_0 : decode cX18_isInForce 0 = .ok (.aload_n 0, 1) := dk_42 (dk_at dksX18_isInForce_0 0 rfl rfl)
theorem dX18_isInForce_1 : decode cX18_isInForce 1 = .ok (.getfield 9, 3) := dk_180 0 9 (dk_at dksX18_isInForce_0 1 rfl rfl)
theorem dX18_isInForce_4 : decode cX18_isInForce 4 = .ok (.iconst (-1), 1) := dk_2 (dk_at dksX18_isInForce_0 4 rfl rfl)
theorem dX18_isInForce_5 : decode cX18_isInForce 5 = .ok (.if_icmp .eq 33, 3) := dk_159 0 33 (dk_at dksX18_isInForce_0 5 rfl rfl)
theorem dX18_isInForce_8 : decode cX18_isInForce 8 = .ok (.aload_n 0, 1) := dk_42 (dk_at dksX18_isInForce_0 8 rfl rfl)
theorem dX18_isInForce_9 : decode cX18_isInForce 9 = .ok (.getfield 9, 3) := dk_180 0 9 (dk_at dksX18_isInForce_0 9 rfl rfl)
theorem dX18_isInForce_12 : decode cX18_isInForce 12 = .ok (.iload_n 3, 1) := dk_29 (dk_at dksX18_isInForce_0 12 rfl rfl)
theorem dX18_isInForce_13 : decode cX18_isInForce 13 = .ok (.if_icmp .gt 25, 3) := dk_163 0 25 (dk_at dksX18_isInForce_0 13 rfl rfl)
theorem dX18_isInForce_16 : decode cX18_isInForce 16 = .ok (.aload_n 0, 1) := dk_42 (dk_at dksX18_isInForce_0 16 rfl rfl)
theorem dX18_isInForce_17 : decode cX18_isInForce 17 = .ok (.getfield 9, 3) := dk_180 0 9 (dk_at dksX18_isInForce_0 17 rfl rfl)
theorem dX18_isInForce_20 : decode cX18_isInForce 20 = .ok (.iload_n 2, 1) := dk_28 (dk_at dksX18_isInForce_0 20 rfl rfl)
theorem dX18_isInForce_21 : decode cX18_isInForce 21 = .ok (.if_icmp .gt 17, 3) := dk_163 0 17 (dk_at dksX18_isInForce_0 21 rfl rfl)
theorem dX18_isInForce_24 : decode cX18_isInForce 24 = .ok (.iload_n 2, 1) := dk_28 (dk_at dksX18_isInForce_1 0 rfl rfl)
theorem dX18_isInForce_25 : decode cX18_isInForce 25 = .ok (.aload_n 0, 1) := dk_42 (dk_at dksX18_isInForce_1 1 rfl rfl)
theorem dX18_isInForce_26 : decode cX18_isInForce 26 = .ok (.iload_n 1, 1) := dk_27 (dk_at dksX18_isInForce_1 2 rfl rfl)
theorem dX18_isInForce_27 : decode cX18_isInForce 27 = .ok (.iload_n 3, 1) := dk_29 (dk_at dksX18_isInForce_1 3 rfl rfl)
theorem dX18_isInForce_28 : decode cX18_isInForce 28 = .ok (.invokevirtual 41, 3) := dk_182 0 41 (dk_at dksX18_isInForce_1 4 rfl rfl)
theorem dX18_isInForce_31 : decode cX18_isInForce 31 = .ok (.if_icmp .ge 7, 3) := dk_162 0 7 (dk_at dksX18_isInForce_1 7 rfl rfl)
theorem dX18_isInForce_34 : decode cX18_isInForce 34 = .ok (.iconst 1, 1) := dk_4 (dk_at dksX18_isInForce_1 10 rfl rfl)
theorem dX18_isInForce_35 : decode cX18_isInForce 35 = .ok (.goto 4, 3) := dk_167 0 4 (dk_at dksX18_isInForce_1 11 rfl rfl)
theorem dX18_isInForce_38 : decode cX18_isInForce 38 = .ok (.iconst 0, 1) := dk_3 (dk_at dksX18_isInForce_1 14 rfl rfl)
theorem dX18_isInForce_39 : decode cX18_isInForce 39 = .ok (.ireturn, 1) := dk_172 (dk_at dksX18_isInForce_1 15 rfl rfl)
theorem q85 : (Jvm.Cond.initialized "PatentHall$Claim") ∈ lw_all := lw_g (lw_at lw_m1 27 rfl) rfl
theorem q768 : (Jvm.Cond.instantiable "PatentHall$Claim" (7 : Nat)) ∈ lw_all := lw_g (lw_at lw_m3 230 rfl) rfl
theorem q770 : (Jvm.Cond.instanceMethod ({ cls := "PatentHall$Claim", name := "<init>", desc := "(IIILPatentHall$Claim;LPatentHall$Text;)V" } : Jvm.MethodName)) ∈ lw_all := lw_g (lw_at lw_m3 232 rfl) rfl
theorem q771 : (Jvm.Cond.code ({ cls := "PatentHall$Claim", name := "<init>", desc := "(IIILPatentHall$Claim;LPatentHall$Text;)V" } : Jvm.MethodName) prog_12_method_1_code (6 : Nat) (Option.none : Option Jvm.ClassFile.FieldType)) ∈ lw_all := lw_g (lw_at lw_m3 233 rfl) rfl
theorem q772 : (Jvm.Cond.methodLink "PatentHall$Claim" (3 : Nat) ({ cls := "java/lang/Object", name := "<init>", desc := "()V" } : Jvm.MethodName)) ∈ lw_all := lw_g (lw_at lw_m3 234 rfl) rfl
theorem q773 : (Jvm.Cond.fieldLink "PatentHall$Claim" (18 : Nat) "PatentHall$Claim" "number" "I") ∈ lw_all := lw_g (lw_at lw_m3 235 rfl) rfl
theorem q775 : (Jvm.Cond.fieldLink "PatentHall$Claim" (21 : Nat) "PatentHall$Claim" "known" "I") ∈ lw_all := lw_g (lw_at lw_m3 237 rfl) rfl
theorem q777 : (Jvm.Cond.fieldLink "PatentHall$Claim" (24 : Nat) "PatentHall$Claim" "file" "I") ∈ lw_all := lw_g (lw_at lw_m3 239 rfl) rfl
theorem q779 : (Jvm.Cond.fieldLink "PatentHall$Claim" (27 : Nat) "PatentHall$Claim" "on" "LPatentHall$Claim;") ∈ lw_all := lw_g (lw_at lw_m4 1 rfl) rfl
theorem q781 : (Jvm.Cond.fieldLink "PatentHall$Claim" (31 : Nat) "PatentHall$Claim" "text" "LPatentHall$Text;") ∈ lw_all := lw_g (lw_at lw_m4 3 rfl) rfl
theorem q784 : (Jvm.Cond.fieldLink "PatentHall$Claim" (9 : Nat) "PatentHall$Claim" "granted" "I") ∈ lw_all := lw_g (lw_at lw_m4 6 rfl) rfl
theorem q787 : (Jvm.Cond.fieldLink "PatentHall$Claim" (15 : Nat) "PatentHall$Claim" "dropped" "I") ∈ lw_all := lw_g (lw_at lw_m4 9 rfl) rfl
theorem q790 : (Jvm.Cond.laysFinal "PatentHall$Claim" "PatentHall$Claim" "number" "I") ∈ lw_all := lw_g (lw_at lw_m4 12 rfl) rfl
theorem q791 : (Jvm.Cond.soleField "PatentHall$Claim" "number") ∈ lw_all := lw_g (lw_at lw_m4 13 rfl) rfl
theorem q792 : (Jvm.Cond.laysFinal "PatentHall$Claim" "PatentHall$Claim" "known" "I") ∈ lw_all := lw_g (lw_at lw_m4 14 rfl) rfl
theorem q793 : (Jvm.Cond.soleField "PatentHall$Claim" "known") ∈ lw_all := lw_g (lw_at lw_m4 15 rfl) rfl
theorem q794 : (Jvm.Cond.laysFinal "PatentHall$Claim" "PatentHall$Claim" "file" "I") ∈ lw_all := lw_g (lw_at lw_m4 16 rfl) rfl
theorem q795 : (Jvm.Cond.soleField "PatentHall$Claim" "file") ∈ lw_all := lw_g (lw_at lw_m4 17 rfl) rfl
theorem q796 : (Jvm.Cond.laysFinal "PatentHall$Claim" "PatentHall$Claim" "on" "LPatentHall$Claim;") ∈ lw_all := lw_g (lw_at lw_m4 18 rfl) rfl
theorem q797 : (Jvm.Cond.soleField "PatentHall$Claim" "on") ∈ lw_all := lw_g (lw_at lw_m4 19 rfl) rfl
theorem q798 : (Jvm.Cond.lays "PatentHall$Claim" "PatentHall$Claim" "text" "LPatentHall$Text;") ∈ lw_all := lw_g (lw_at lw_m4 20 rfl) rfl
theorem q799 : (Jvm.Cond.soleField "PatentHall$Claim" "text") ∈ lw_all := lw_g (lw_at lw_m4 21 rfl) rfl
theorem q800 : (Jvm.Cond.lays "PatentHall$Claim" "PatentHall$Claim" "granted" "I") ∈ lw_all := lw_g (lw_at lw_m4 22 rfl) rfl
theorem q801 : (Jvm.Cond.soleField "PatentHall$Claim" "granted") ∈ lw_all := lw_g (lw_at lw_m4 23 rfl) rfl
theorem q802 : (Jvm.Cond.lays "PatentHall$Claim" "PatentHall$Claim" "dropped" "I") ∈ lw_all := lw_g (lw_at lw_m4 24 rfl) rfl
theorem q803 : (Jvm.Cond.soleField "PatentHall$Claim" "dropped") ∈ lw_all := lw_g (lw_at lw_m4 25 rfl) rfl
theorem q804 : (Jvm.Cond.superclass "PatentHall$Claim" "java/lang/Object") ∈ lw_all := lw_g (lw_at lw_m4 26 rfl) rfl
theorem q898 : (Jvm.Cond.instanceMethod ({ cls := "PatentHall$Claim", name := "ends", desc := "(II)I" } : Jvm.MethodName)) ∈ lw_all := lw_g (lw_at lw_m4 120 rfl) rfl
theorem q899 : (Jvm.Cond.selects "PatentHall$Claim" ({ cls := "PatentHall$Claim", name := "ends", desc := "(II)I" } : Jvm.MethodName) ({ cls := "PatentHall$Claim", name := "ends", desc := "(II)I" } : Jvm.MethodName)) ∈ lw_all := lw_g (lw_at lw_m4 121 rfl) rfl
theorem q900 : (Jvm.Cond.code ({ cls := "PatentHall$Claim", name := "ends", desc := "(II)I" } : Jvm.MethodName) prog_12_method_2_code (3 : Nat) (Option.some Jvm.ClassFile.FieldType.int)) ∈ lw_all := lw_g (lw_at lw_m4 122 rfl) rfl
theorem q901 : (Jvm.Cond.methodLink "PatentHall$Claim" (35 : Nat) ({ cls := "java/lang/Math", name := "min", desc := "(II)I" } : Jvm.MethodName)) ∈ lw_all := lw_g (lw_at lw_m4 123 rfl) rfl
theorem q977 : (Jvm.Cond.instanceMethod ({ cls := "PatentHall$Claim", name := "isInForce", desc := "(III)Z" } : Jvm.MethodName)) ∈ lw_all := lw_g (lw_at lw_m4 199 rfl) rfl
theorem q978 : (Jvm.Cond.selects "PatentHall$Claim" ({ cls := "PatentHall$Claim", name := "isInForce", desc := "(III)Z" } : Jvm.MethodName) ({ cls := "PatentHall$Claim", name := "isInForce", desc := "(III)Z" } : Jvm.MethodName)) ∈ lw_all := lw_g (lw_at lw_m4 200 rfl) rfl
theorem q979 : (Jvm.Cond.code ({ cls := "PatentHall$Claim", name := "isInForce", desc := "(III)Z" } : Jvm.MethodName) prog_12_method_3_code (4 : Nat) (Option.some Jvm.ClassFile.FieldType.boolean)) ∈ lw_all := lw_g (lw_at lw_m4 201 rfl) rfl
theorem q980 : (Jvm.Cond.methodLink "PatentHall$Claim" (41 : Nat) ({ cls := "PatentHall$Claim", name := "ends", desc := "(II)I" } : Jvm.MethodName)) ∈ lw_all := lw_g (lw_at lw_m4 202 rfl) rfl
theorem in_X18 : ∀ w ∈ wsX180, w ∈ lw_all := lw_in wsX180 [790, 792, 794, 796, 798, 800, 802] (by decide +kernel) (by decide +kernel)

/-! PatentHall$6 -/
set_option maxRecDepth 100000
def RX19 : String := "PatentHall$6"
def TX19 : u_T := fun k => match k with
  | _ => ("PatentHall$6", "this$0", "LPatentHall;", true)
def tyX19 : Nat → FieldType := fun k => match k with
  | _ => .object "PatentHall"
abbrev wsX190 : List Cond := u_ws RX19 TX19 1
theorem nmX19 : ∀ a, a < 1 → ∀ b, b < 1 → a ≠ b → (TX19 a).2.1 ≠ (TX19 b).2.1 := by decide +kernel
theorem tyX19_ok : ∀ k, k < 1 → parseFieldDescriptor (TX19 k).2.2.1 = some (tyX19 k) := by decide +kernel
abbrev cX19_init : ByteArray := prog_7_method_1_code
def yX19_init : MethodName := ⟨RX19, "<init>", "(LPatentHall;)V"⟩
def dkwX19_init_0 : List UInt8 := [42, 43, 181, 0, 1, 42, 183, 0, 7, 177]
abbrev dktX19_init_0 : List UInt8 := dkwX19_init_0 ++ []
theorem dksX19_init_0 : cX19_init.data.toList.drop 0 = dktX19_init_0 := by decide +kernel
theorem dX19_init_0 : decode cX19_init 0 = .ok (.aload_n 0, 1) := dk_42 (dk_at dksX19_init_0 0 rfl rfl)
theorem dX19_init_1 : decode cX19_init 1 = .ok (.aload_n 1, 1) := dk_43 (dk_at dksX19_init_0 1 rfl rfl)
theorem dX19_init_2 : decode cX19_init 2 = .ok (.putfield 1, 3) := dk_181 0 1 (dk_at dksX19_init_0 2 rfl rfl)
theorem dX19_init_5 : decode cX19_init 5 = .ok (.aload_n 0, 1) := dk_42 (dk_at dksX19_init_0 5 rfl rfl)
theorem dX19_init_6 : decode cX19_init 6 = .ok (.invokespecial 7, 3) := dk_183 0 7 (dk_at dksX19_init_0 6 rfl rfl)
theorem dX19_init_9 : decode cX19_init 9 = .ok (.return_, 1) := dk_177 (dk_at dksX19_init_0 9 rfl rfl)
abbrev cX19_undo : ByteArray := prog_7_method_2_code
def yX19_undo : MethodName := ⟨RX19, "undo", "()V"⟩
def dkwX19_undo_0 : List UInt8 := [42, 180, 0, 1, 89, 180, 0, 13, 4, 100, 181, 0, 13, 177]
abbrev dktX19_undo_0 : List UInt8 := dkwX19_undo_0 ++ []
theorem dksX19_undo_0 : cX19_undo.data.toList.drop 0 = dktX19_undo_0 := by decide +kernel
theorem dX19_undo_0 : decode cX19_undo 0 = .ok (.aload_n 0, 1) := dk_42 (dk_at dksX19_undo_0 0 rfl rfl)
theorem dX19_undo_1 : decode cX19_undo 1 = .ok (.getfield 1, 3) := dk_180 0 1 (dk_at dksX19_undo_0 1 rfl rfl)
theorem dX19_undo_4 : decode cX19_undo 4 = .ok (.dup, 1) := dk_89 (dk_at dksX19_undo_0 4 rfl rfl)
theorem dX19_undo_5 : decode cX19_undo 5 = .ok (.getfield 13, 3) := dk_180 0 13 (dk_at dksX19_undo_0 5 rfl rfl)
theorem dX19_undo_8 : decode cX19_undo 8 = .ok (.iconst 1, 1) := dk_4 (dk_at dksX19_undo_0 8 rfl rfl)
theorem dX19_undo_9 : decode cX19_undo 9 = .ok (.isub, 1) := dk_100 (dk_at dksX19_undo_0 9 rfl rfl)
theorem dX19_undo_10 : decode cX19_undo 10 = .ok (.putfield 13, 3) := dk_181 0 13 (dk_at dksX19_undo_0 10 rfl rfl)
theorem dX19_undo_13 : decode cX19_undo 13 = .ok (.return_, 1) := dk_177 (dk_at dksX19_undo_0 13 rfl rfl)
theorem q86 : (Jvm.Cond.initialized "PatentHall$6") ∈ lw_all := lw_g (lw_at lw_m1 28 rfl) rfl
theorem q277 : (Jvm.Cond.fieldLinkNest "PatentHall$6" (13 : Nat) "PatentHall" "claimMany" "I" "PatentHall") ∈ lw_tbl := lw_at lw_m1 219 rfl
theorem q806 : (Jvm.Cond.instantiable "PatentHall$6" (1 : Nat)) ∈ lw_all := lw_g (lw_at lw_m4 28 rfl) rfl
theorem q808 : (Jvm.Cond.instanceMethod ({ cls := "PatentHall$6", name := "<init>", desc := "(LPatentHall;)V" } : Jvm.MethodName)) ∈ lw_all := lw_g (lw_at lw_m4 30 rfl) rfl
theorem q809 : (Jvm.Cond.code ({ cls := "PatentHall$6", name := "<init>", desc := "(LPatentHall;)V" } : Jvm.MethodName) prog_7_method_1_code (2 : Nat) (Option.none : Option Jvm.ClassFile.FieldType)) ∈ lw_all := lw_g (lw_at lw_m4 31 rfl) rfl
theorem q810 : (Jvm.Cond.methodLinkNest "PatentHall$6" (7 : Nat) ({ cls := "PatentHall$Act", name := "<init>", desc := "()V" } : Jvm.MethodName) "PatentHall") ∈ lw_tbl := lw_at lw_m4 32 rfl
theorem q811 : (Jvm.Cond.fieldLink "PatentHall$6" (1 : Nat) "PatentHall$6" "this$0" "LPatentHall;") ∈ lw_all := lw_g (lw_at lw_m4 33 rfl) rfl
theorem q812 : (Jvm.Cond.laysFinal "PatentHall$6" "PatentHall$6" "this$0" "LPatentHall;") ∈ lw_all := lw_g (lw_at lw_m4 34 rfl) rfl
theorem q813 : (Jvm.Cond.soleField "PatentHall$6" "this$0") ∈ lw_all := lw_g (lw_at lw_m4 35 rfl) rfl
theorem q814 : (Jvm.Cond.superclass "PatentHall$6" "PatentHall$Act") ∈ lw_all := lw_g (lw_at lw_m4 36 rfl) rfl
theorem q1011 : (Jvm.Cond.selects "PatentHall$6" ({ cls := "PatentHall$Act", name := "undo", desc := "()V" } : Jvm.MethodName) ({ cls := "PatentHall$6", name := "undo", desc := "()V" } : Jvm.MethodName)) ∈ lw_all := lw_g (lw_at lw_m4 233 rfl) rfl
theorem q1012 : (Jvm.Cond.instanceMethod ({ cls := "PatentHall$6", name := "undo", desc := "()V" } : Jvm.MethodName)) ∈ lw_all := lw_g (lw_at lw_m4 234 rfl) rfl
theorem q1013 : (Jvm.Cond.code ({ cls := "PatentHall$6", name := "undo", desc := "()V" } : Jvm.MethodName) prog_7_method_2_code (1 : Nat) (Option.none : Option Jvm.ClassFile.FieldType)) ∈ lw_all := lw_g (lw_at lw_m4 235 rfl) rfl
theorem q1499 : (Jvm.Cond.castable "PatentHall$6" "PatentHall$Act") ∈ lw_tbl := lw_at lw_m7 1 rfl
theorem in_X19 : ∀ w ∈ wsX190, w ∈ lw_all := lw_in wsX190 [812] (by decide +kernel) (by decide +kernel)

/-! PatentHall$7 -/
set_option maxRecDepth 100000
def RX20 : String := "PatentHall$7"
def TX20 : u_T := fun k => match k with
  | 0 => ("PatentHall$7", "val$c", "LPatentHall$Claim;", true)
  | 1 => ("PatentHall$7", "val$was", "LPatentHall$Text;", true)
  | _ => ("PatentHall$7", "this$0", "LPatentHall;", true)
def tyX20 : Nat → FieldType := fun k => match k with
  | 0 => .object "PatentHall$Claim"
  | 1 => .object "PatentHall$Text"
  | _ => .object "PatentHall"
abbrev wsX200 : List Cond := u_ws RX20 TX20 3
theorem nmX20 : ∀ a, a < 3 → ∀ b, b < 3 → a ≠ b → (TX20 a).2.1 ≠ (TX20 b).2.1 := by decide +kernel
theorem tyX20_ok : ∀ k, k < 3 → parseFieldDescriptor (TX20 k).2.2.1 = some (tyX20 k) := by decide +kernel
abbrev cX20_init : ByteArray := prog_8_method_1_code
def yX20_init : MethodName := ⟨RX20, "<init>", "(LPatentHall;LPatentHall$Claim;LPatentHall$Text;)V"⟩
def dkwX20_init_0 : List UInt8 := [42, 43, 181, 0, 1, 42, 44, 181, 0, 7, 42, 45, 181, 0, 11, 42, 183, 0, 15, 177]
abbrev dktX20_init_0 : List UInt8 := dkwX20_init_0 ++ []
theorem dksX20_init_0 : cX20_init.data.toList.drop 0 = dktX20_init_0 := by decide +kernel
theorem dX20_init_0 : decode cX20_init 0 = .ok (.aload_n 0, 1) := dk_42 (dk_at dksX20_init_0 0 rfl rfl)
theorem dX20_init_1 : decode cX20_init 1 = .ok (.aload_n 1, 1) := dk_43 (dk_at dksX20_init_0 1 rfl rfl)
theorem dX20_init_2 : decode cX20_init 2 = .ok (.putfield 1, 3) := dk_181 0 1 (dk_at dksX20_init_0 2 rfl rfl)
theorem dX20_init_5 : decode cX20_init 5 = .ok (.aload_n 0, 1) := dk_42 (dk_at dksX20_init_0 5 rfl rfl)
theorem dX20_init_6 : decode cX20_init 6 = .ok (.aload_n 2, 1) := dk_44 (dk_at dksX20_init_0 6 rfl rfl)
theorem dX20_init_7 : decode cX20_init 7 = .ok (.putfield 7, 3) := dk_181 0 7 (dk_at dksX20_init_0 7 rfl rfl)
theorem dX20_init_10 : decode cX20_init 10 = .ok (.aload_n 0, 1) := dk_42 (dk_at dksX20_init_0 10 rfl rfl)
theorem dX20_init_11 : decode cX20_init 11 = .ok (.aload_n 3, 1) := dk_45 (dk_at dksX20_init_0 11 rfl rfl)
theorem dX20_init_12 : decode cX20_init 12 = .ok (.putfield 11, 3) := dk_181 0 11 (dk_at dksX20_init_0 12 rfl rfl)
theorem dX20_init_15 : decode cX20_init 15 = .ok (.aload_n 0, 1) := dk_42 (dk_at dksX20_init_0 15 rfl rfl)
theorem dX20_init_16 : decode cX20_init 16 = .ok (.invokespecial 15, 3) := dk_183 0 15 (dk_at dksX20_init_0 16 rfl rfl)
theorem dX20_init_19 : decode cX20_init 19 = .ok (.return_, 1) := dk_177 (dk_at dksX20_init_0 19 rfl rfl)
abbrev cX20_undo : ByteArray := prog_8_method_2_code
def yX20_undo : MethodName := ⟨RX20, "undo", "()V"⟩
def dkwX20_undo_0 : List UInt8 := [42, 180, 0, 7, 42, 180, 0, 11, 181, 0, 21, 177]
abbrev dktX20_undo_0 : List UInt8 := dkwX20_undo_0 ++ []
theorem dksX20_undo_0 : cX20_undo.data.toList.drop 0 = dktX20_undo_0 := by decide +kernel
theorem dX20_undo_0 : decode cX20_undo 0 = .ok (.aload_n 0, 1) := dk_42 (dk_at dksX20_undo_0 0 rfl rfl)
theorem dX20_undo_1 : decode cX20_undo 1 = .ok (.getfield 7, 3) := dk_180 0 7 (dk_at dksX20_undo_0 1 rfl rfl)
theorem dX20_undo_4 : decode cX20_undo 4 = .ok (.aload_n 0, 1) := dk_42 (dk_at dksX20_undo_0 4 rfl rfl)
theorem dX20_undo_5 : decode cX20_undo 5 = .ok (.getfield 11, 3) := dk_180 0 11 (dk_at dksX20_undo_0 5 rfl rfl)
theorem dX20_undo_8 : decode cX20_undo 8 = .ok (.putfield 21, 3) := dk_181 0 21 (dk_at dksX20_undo_0 8 rfl rfl)
theorem dX20_undo_11 : decode cX20_undo 11 = .ok (.return_, 1) := dk_177 (dk_at dksX20_undo_0 11 rfl rfl)
theorem q87 : (Jvm.Cond.initialized "PatentHall$7") ∈ lw_all := lw_g (lw_at lw_m1 29 rfl) rfl
theorem q782 : (Jvm.Cond.fieldLink "PatentHall$7" (21 : Nat) "PatentHall$Claim" "text" "LPatentHall$Text;") ∈ lw_all := lw_g (lw_at lw_m4 4 rfl) rfl
theorem q828 : (Jvm.Cond.instantiable "PatentHall$7" (3 : Nat)) ∈ lw_all := lw_g (lw_at lw_m4 50 rfl) rfl
theorem q830 : (Jvm.Cond.instanceMethod ({ cls := "PatentHall$7", name := "<init>", desc := "(LPatentHall;LPatentHall$Claim;LPatentHall$Text;)V" } : Jvm.MethodName)) ∈ lw_all := lw_g (lw_at lw_m4 52 rfl) rfl
theorem q831 : (Jvm.Cond.code ({ cls := "PatentHall$7", name := "<init>", desc := "(LPatentHall;LPatentHall$Claim;LPatentHall$Text;)V" } : Jvm.MethodName) prog_8_method_1_code (4 : Nat) (Option.none : Option Jvm.ClassFile.FieldType)) ∈ lw_all := lw_g (lw_at lw_m4 53 rfl) rfl
theorem q832 : (Jvm.Cond.methodLinkNest "PatentHall$7" (15 : Nat) ({ cls := "PatentHall$Act", name := "<init>", desc := "()V" } : Jvm.MethodName) "PatentHall") ∈ lw_tbl := lw_at lw_m4 54 rfl
theorem q833 : (Jvm.Cond.fieldLink "PatentHall$7" (7 : Nat) "PatentHall$7" "val$c" "LPatentHall$Claim;") ∈ lw_all := lw_g (lw_at lw_m4 55 rfl) rfl
theorem q834 : (Jvm.Cond.fieldLink "PatentHall$7" (11 : Nat) "PatentHall$7" "val$was" "LPatentHall$Text;") ∈ lw_all := lw_g (lw_at lw_m4 56 rfl) rfl
theorem q835 : (Jvm.Cond.fieldLink "PatentHall$7" (1 : Nat) "PatentHall$7" "this$0" "LPatentHall;") ∈ lw_all := lw_g (lw_at lw_m4 57 rfl) rfl
theorem q836 : (Jvm.Cond.laysFinal "PatentHall$7" "PatentHall$7" "val$c" "LPatentHall$Claim;") ∈ lw_all := lw_g (lw_at lw_m4 58 rfl) rfl
theorem q837 : (Jvm.Cond.soleField "PatentHall$7" "val$c") ∈ lw_all := lw_g (lw_at lw_m4 59 rfl) rfl
theorem q838 : (Jvm.Cond.laysFinal "PatentHall$7" "PatentHall$7" "val$was" "LPatentHall$Text;") ∈ lw_all := lw_g (lw_at lw_m4 60 rfl) rfl
theorem q839 : (Jvm.Cond.soleField "PatentHall$7" "val$was") ∈ lw_all := lw_g (lw_at lw_m4 61 rfl) rfl
theorem q840 : (Jvm.Cond.laysFinal "PatentHall$7" "PatentHall$7" "this$0" "LPatentHall;") ∈ lw_all := lw_g (lw_at lw_m4 62 rfl) rfl
theorem q841 : (Jvm.Cond.soleField "PatentHall$7" "this$0") ∈ lw_all := lw_g (lw_at lw_m4 63 rfl) rfl
theorem q842 : (Jvm.Cond.superclass "PatentHall$7" "PatentHall$Act") ∈ lw_all := lw_g (lw_at lw_m4 64 rfl) rfl
theorem q1014 : (Jvm.Cond.selects "PatentHall$7" ({ cls := "PatentHall$Act", name := "undo", desc := "()V" } : Jvm.MethodName) ({ cls := "PatentHall$7", name := "undo", desc := "()V" } : Jvm.MethodName)) ∈ lw_all := lw_g (lw_at lw_m4 236 rfl) rfl
theorem q1015 : (Jvm.Cond.instanceMethod ({ cls := "PatentHall$7", name := "undo", desc := "()V" } : Jvm.MethodName)) ∈ lw_all := lw_g (lw_at lw_m4 237 rfl) rfl
theorem q1016 : (Jvm.Cond.code ({ cls := "PatentHall$7", name := "undo", desc := "()V" } : Jvm.MethodName) prog_8_method_2_code (1 : Nat) (Option.none : Option Jvm.ClassFile.FieldType)) ∈ lw_all := lw_g (lw_at lw_m4 238 rfl) rfl
theorem q1500 : (Jvm.Cond.castable "PatentHall$7" "PatentHall$Act") ∈ lw_tbl := lw_at lw_m7 2 rfl
theorem in_X20 : ∀ w ∈ wsX200, w ∈ lw_all := lw_in wsX200 [836, 838, 840] (by decide +kernel) (by decide +kernel)

/-! PatentHall$8 -/
set_option maxRecDepth 100000
def RX21 : String := "PatentHall$8"
def TX21 : u_T := fun k => match k with
  | 0 => ("PatentHall$8", "val$c", "LPatentHall$Claim;", true)
  | _ => ("PatentHall$8", "this$0", "LPatentHall;", true)
def tyX21 : Nat → FieldType := fun k => match k with
  | 0 => .object "PatentHall$Claim"
  | _ => .object "PatentHall"
abbrev wsX210 : List Cond := u_ws RX21 TX21 2
theorem nmX21 : ∀ a, a < 2 → ∀ b, b < 2 → a ≠ b → (TX21 a).2.1 ≠ (TX21 b).2.1 := by decide +kernel
theorem tyX21_ok : ∀ k, k < 2 → parseFieldDescriptor (TX21 k).2.2.1 = some (tyX21 k) := by decide +kernel
abbrev cX21_init : ByteArray := prog_9_method_1_code
def yX21_init : MethodName := ⟨RX21, "<init>", "(LPatentHall;LPatentHall$Claim;)V"⟩
def dkwX21_init_0 : List UInt8 := [42, 43, 181, 0, 3, 42, 44, 181, 0, 9, 42, 183, 0, 13, 177]
abbrev dktX21_init_0 : List UInt8 := dkwX21_init_0 ++ []
theorem dksX21_init_0 : cX21_init.data.toList.drop 0 = dktX21_init_0 := by decide +kernel
theorem dX21_init_0 : decode cX21_init 0 = .ok (.aload_n 0, 1) := dk_42 (dk_at dksX21_init_0 0 rfl rfl)
theorem dX21_init_1 : decode cX21_init 1 = .ok (.aload_n 1, 1) := dk_43 (dk_at dksX21_init_0 1 rfl rfl)
theorem dX21_init_2 : decode cX21_init 2 = .ok (.putfield 3, 3) := dk_181 0 3 (dk_at dksX21_init_0 2 rfl rfl)
theorem dX21_init_5 : decode cX21_init 5 = .ok (.aload_n 0, 1) := dk_42 (dk_at dksX21_init_0 5 rfl rfl)
theorem dX21_init_6 : decode cX21_init 6 = .ok (.aload_n 2, 1) := dk_44 (dk_at dksX21_init_0 6 rfl rfl)
theorem dX21_init_7 : decode cX21_init 7 = .ok (.putfield 9, 3) := dk_181 0 9 (dk_at dksX21_init_0 7 rfl rfl)
theorem dX21_init_10 : decode cX21_init 10 = .ok (.aload_n 0, 1) := dk_42 (dk_at dksX21_init_0 10 rfl rfl)
theorem dX21_init_11 : decode cX21_init 11 = .ok (.invokespecial 13, 3) := dk_183 0 13 (dk_at dksX21_init_0 11 rfl rfl)
theorem dX21_init_14 : decode cX21_init 14 = .ok (.return_, 1) := dk_177 (dk_at dksX21_init_0 14 rfl rfl)
abbrev cX21_undo : ByteArray := prog_9_method_2_code
def yX21_undo : MethodName := ⟨RX21, "undo", "()V"⟩
def dkwX21_undo_0 : List UInt8 := [42, 180, 0, 9, 2, 181, 0, 19, 177]
abbrev dktX21_undo_0 : List UInt8 := dkwX21_undo_0 ++ []
theorem dksX21_undo_0 : cX21_undo.data.toList.drop 0 = dktX21_undo_0 := by decide +kernel
theorem dX21_undo_0 : decode cX21_undo 0 = .ok (.aload_n 0, 1) := dk_42 (dk_at dksX21_undo_0 0 rfl rfl)
theorem dX21_undo_1 : decode cX21_undo 1 = .ok (.getfield 9, 3) := dk_180 0 9 (dk_at dksX21_undo_0 1 rfl rfl)
theorem dX21_undo_4 : decode cX21_undo 4 = .ok (.iconst (-1), 1) := dk_2 (dk_at dksX21_undo_0 4 rfl rfl)
theorem dX21_undo_5 : decode cX21_undo 5 = .ok (.putfield 19, 3) := dk_181 0 19 (dk_at dksX21_undo_0 5 rfl rfl)
theorem dX21_undo_8 : decode cX21_undo 8 = .ok (.return_, 1) := dk_177 (dk_at dksX21_undo_0 8 rfl rfl)
theorem q88 : (Jvm.Cond.initialized "PatentHall$8") ∈ lw_all := lw_g (lw_at lw_m1 30 rfl) rfl
theorem q785 : (Jvm.Cond.fieldLink "PatentHall$8" (19 : Nat) "PatentHall$Claim" "granted" "I") ∈ lw_all := lw_g (lw_at lw_m4 7 rfl) rfl
theorem q860 : (Jvm.Cond.instantiable "PatentHall$8" (2 : Nat)) ∈ lw_all := lw_g (lw_at lw_m4 82 rfl) rfl
theorem q862 : (Jvm.Cond.instanceMethod ({ cls := "PatentHall$8", name := "<init>", desc := "(LPatentHall;LPatentHall$Claim;)V" } : Jvm.MethodName)) ∈ lw_all := lw_g (lw_at lw_m4 84 rfl) rfl
theorem q863 : (Jvm.Cond.code ({ cls := "PatentHall$8", name := "<init>", desc := "(LPatentHall;LPatentHall$Claim;)V" } : Jvm.MethodName) prog_9_method_1_code (3 : Nat) (Option.none : Option Jvm.ClassFile.FieldType)) ∈ lw_all := lw_g (lw_at lw_m4 85 rfl) rfl
theorem q864 : (Jvm.Cond.methodLinkNest "PatentHall$8" (13 : Nat) ({ cls := "PatentHall$Act", name := "<init>", desc := "()V" } : Jvm.MethodName) "PatentHall") ∈ lw_tbl := lw_at lw_m4 86 rfl
theorem q865 : (Jvm.Cond.fieldLink "PatentHall$8" (9 : Nat) "PatentHall$8" "val$c" "LPatentHall$Claim;") ∈ lw_all := lw_g (lw_at lw_m4 87 rfl) rfl
theorem q866 : (Jvm.Cond.fieldLink "PatentHall$8" (3 : Nat) "PatentHall$8" "this$0" "LPatentHall;") ∈ lw_all := lw_g (lw_at lw_m4 88 rfl) rfl
theorem q867 : (Jvm.Cond.laysFinal "PatentHall$8" "PatentHall$8" "val$c" "LPatentHall$Claim;") ∈ lw_all := lw_g (lw_at lw_m4 89 rfl) rfl
theorem q868 : (Jvm.Cond.soleField "PatentHall$8" "val$c") ∈ lw_all := lw_g (lw_at lw_m4 90 rfl) rfl
theorem q869 : (Jvm.Cond.laysFinal "PatentHall$8" "PatentHall$8" "this$0" "LPatentHall;") ∈ lw_all := lw_g (lw_at lw_m4 91 rfl) rfl
theorem q870 : (Jvm.Cond.soleField "PatentHall$8" "this$0") ∈ lw_all := lw_g (lw_at lw_m4 92 rfl) rfl
theorem q871 : (Jvm.Cond.superclass "PatentHall$8" "PatentHall$Act") ∈ lw_all := lw_g (lw_at lw_m4 93 rfl) rfl
theorem q1017 : (Jvm.Cond.selects "PatentHall$8" ({ cls := "PatentHall$Act", name := "undo", desc := "()V" } : Jvm.MethodName) ({ cls := "PatentHall$8", name := "undo", desc := "()V" } : Jvm.MethodName)) ∈ lw_all := lw_g (lw_at lw_m4 239 rfl) rfl
theorem q1018 : (Jvm.Cond.instanceMethod ({ cls := "PatentHall$8", name := "undo", desc := "()V" } : Jvm.MethodName)) ∈ lw_all := lw_g (lw_at lw_m5 0 rfl) rfl
theorem q1019 : (Jvm.Cond.code ({ cls := "PatentHall$8", name := "undo", desc := "()V" } : Jvm.MethodName) prog_9_method_2_code (1 : Nat) (Option.none : Option Jvm.ClassFile.FieldType)) ∈ lw_all := lw_g (lw_at lw_m5 1 rfl) rfl
theorem q1501 : (Jvm.Cond.castable "PatentHall$8" "PatentHall$Act") ∈ lw_tbl := lw_at lw_m7 3 rfl
theorem in_X21 : ∀ w ∈ wsX210, w ∈ lw_all := lw_in wsX210 [867, 869] (by decide +kernel) (by decide +kernel)

/-! PatentHall$9 -/
set_option maxRecDepth 100000
def RX22 : String := "PatentHall$9"
def TX22 : u_T := fun k => match k with
  | 0 => ("PatentHall$9", "val$c", "LPatentHall$Claim;", true)
  | _ => ("PatentHall$9", "this$0", "LPatentHall;", true)
def tyX22 : Nat → FieldType := fun k => match k with
  | 0 => .object "PatentHall$Claim"
  | _ => .object "PatentHall"
abbrev wsX220 : List Cond := u_ws RX22 TX22 2
theorem nmX22 : ∀ a, a < 2 → ∀ b, b < 2 → a ≠ b → (TX22 a).2.1 ≠ (TX22 b).2.1 := by decide +kernel
theorem tyX22_ok : ∀ k, k < 2 → parseFieldDescriptor (TX22 k).2.2.1 = some (tyX22 k) := by decide +kernel
abbrev cX22_init : ByteArray := prog_10_method_1_code
def yX22_init : MethodName := ⟨RX22, "<init>", "(LPatentHall;LPatentHall$Claim;)V"⟩
def dkwX22_init_0 : List UInt8 := [42, 43, 181, 0, 3, 42, 44, 181, 0, 9, 42, 183, 0, 13, 177]
abbrev dktX22_init_0 : List UInt8 := dkwX22_init_0 ++ []
theorem dksX22_init_0 : cX22_init.data.toList.drop 0 = dktX22_init_0 := by decide +kernel
theorem dX22_init_0 : decode cX22_init 0 = .ok (.aload_n 0, 1) := dk_42 (dk_at dksX22_init_0 0 rfl rfl)
theorem dX22_init_1 : decode cX22_init 1 = .ok (.aload_n 1, 1) := dk_43 (dk_at dksX22_init_0 1 rfl rfl)
theorem dX22_init_2 : decode cX22_init 2 = .ok (.putfield 3, 3) := dk_181 0 3 (dk_at dksX22_init_0 2 rfl rfl)
theorem dX22_init_5 : decode cX22_init 5 = .ok (.aload_n 0, 1) := dk_42 (dk_at dksX22_init_0 5 rfl rfl)
theorem dX22_init_6 : decode cX22_init 6 = .ok (.aload_n 2, 1) := dk_44 (dk_at dksX22_init_0 6 rfl rfl)
theorem dX22_init_7 : decode cX22_init 7 = .ok (.putfield 9, 3) := dk_181 0 9 (dk_at dksX22_init_0 7 rfl rfl)
theorem dX22_init_10 : decode cX22_init 10 = .ok (.aload_n 0, 1) := dk_42 (dk_at dksX22_init_0 10 rfl rfl)
theorem dX22_init_11 : decode cX22_init 11 = .ok (.invokespecial 13, 3) := dk_183 0 13 (dk_at dksX22_init_0 11 rfl rfl)
theorem dX22_init_14 : decode cX22_init 14 = .ok (.return_, 1) := dk_177 (dk_at dksX22_init_0 14 rfl rfl)
abbrev cX22_undo : ByteArray := prog_10_method_2_code
def yX22_undo : MethodName := ⟨RX22, "undo", "()V"⟩
def dkwX22_undo_0 : List UInt8 := [42, 180, 0, 9, 2, 181, 0, 19, 177]
abbrev dktX22_undo_0 : List UInt8 := dkwX22_undo_0 ++ []
theorem dksX22_undo_0 : cX22_undo.data.toList.drop 0 = dktX22_undo_0 := by decide +kernel
theorem dX22_undo_0 : decode cX22_undo 0 = .ok (.aload_n 0, 1) := dk_42 (dk_at dksX22_undo_0 0 rfl rfl)
theorem dX22_undo_1 : decode cX22_undo 1 = .ok (.getfield 9, 3) := dk_180 0 9 (dk_at dksX22_undo_0 1 rfl rfl)
theorem dX22_undo_4 : decode cX22_undo 4 = .ok (.iconst (-1), 1) := dk_2 (dk_at dksX22_undo_0 4 rfl rfl)
theorem dX22_undo_5 : decode cX22_undo 5 = .ok (.putfield 19, 3) := dk_181 0 19 (dk_at dksX22_undo_0 5 rfl rfl)
theorem dX22_undo_8 : decode cX22_undo 8 = .ok (.return_, 1) := dk_177 (dk_at dksX22_undo_0 8 rfl rfl)
theorem q89 : (Jvm.Cond.initialized "PatentHall$9") ∈ lw_all := lw_g (lw_at lw_m1 31 rfl) rfl
theorem q788 : (Jvm.Cond.fieldLink "PatentHall$9" (19 : Nat) "PatentHall$Claim" "dropped" "I") ∈ lw_all := lw_g (lw_at lw_m4 10 rfl) rfl
theorem q877 : (Jvm.Cond.instantiable "PatentHall$9" (2 : Nat)) ∈ lw_all := lw_g (lw_at lw_m4 99 rfl) rfl
theorem q879 : (Jvm.Cond.instanceMethod ({ cls := "PatentHall$9", name := "<init>", desc := "(LPatentHall;LPatentHall$Claim;)V" } : Jvm.MethodName)) ∈ lw_all := lw_g (lw_at lw_m4 101 rfl) rfl
theorem q880 : (Jvm.Cond.code ({ cls := "PatentHall$9", name := "<init>", desc := "(LPatentHall;LPatentHall$Claim;)V" } : Jvm.MethodName) prog_10_method_1_code (3 : Nat) (Option.none : Option Jvm.ClassFile.FieldType)) ∈ lw_all := lw_g (lw_at lw_m4 102 rfl) rfl
theorem q881 : (Jvm.Cond.methodLinkNest "PatentHall$9" (13 : Nat) ({ cls := "PatentHall$Act", name := "<init>", desc := "()V" } : Jvm.MethodName) "PatentHall") ∈ lw_tbl := lw_at lw_m4 103 rfl
theorem q882 : (Jvm.Cond.fieldLink "PatentHall$9" (9 : Nat) "PatentHall$9" "val$c" "LPatentHall$Claim;") ∈ lw_all := lw_g (lw_at lw_m4 104 rfl) rfl
theorem q883 : (Jvm.Cond.fieldLink "PatentHall$9" (3 : Nat) "PatentHall$9" "this$0" "LPatentHall;") ∈ lw_all := lw_g (lw_at lw_m4 105 rfl) rfl
theorem q884 : (Jvm.Cond.laysFinal "PatentHall$9" "PatentHall$9" "val$c" "LPatentHall$Claim;") ∈ lw_all := lw_g (lw_at lw_m4 106 rfl) rfl
theorem q885 : (Jvm.Cond.soleField "PatentHall$9" "val$c") ∈ lw_all := lw_g (lw_at lw_m4 107 rfl) rfl
theorem q886 : (Jvm.Cond.laysFinal "PatentHall$9" "PatentHall$9" "this$0" "LPatentHall;") ∈ lw_all := lw_g (lw_at lw_m4 108 rfl) rfl
theorem q887 : (Jvm.Cond.soleField "PatentHall$9" "this$0") ∈ lw_all := lw_g (lw_at lw_m4 109 rfl) rfl
theorem q888 : (Jvm.Cond.superclass "PatentHall$9" "PatentHall$Act") ∈ lw_all := lw_g (lw_at lw_m4 110 rfl) rfl
theorem q1020 : (Jvm.Cond.selects "PatentHall$9" ({ cls := "PatentHall$Act", name := "undo", desc := "()V" } : Jvm.MethodName) ({ cls := "PatentHall$9", name := "undo", desc := "()V" } : Jvm.MethodName)) ∈ lw_all := lw_g (lw_at lw_m5 2 rfl) rfl
theorem q1021 : (Jvm.Cond.instanceMethod ({ cls := "PatentHall$9", name := "undo", desc := "()V" } : Jvm.MethodName)) ∈ lw_all := lw_g (lw_at lw_m5 3 rfl) rfl
theorem q1022 : (Jvm.Cond.code ({ cls := "PatentHall$9", name := "undo", desc := "()V" } : Jvm.MethodName) prog_10_method_2_code (1 : Nat) (Option.none : Option Jvm.ClassFile.FieldType)) ∈ lw_all := lw_g (lw_at lw_m5 4 rfl) rfl
theorem q1502 : (Jvm.Cond.castable "PatentHall$9" "PatentHall$Act") ∈ lw_tbl := lw_at lw_m7 4 rfl
theorem in_X22 : ∀ w ∈ wsX220, w ∈ lw_all := lw_in wsX220 [884, 886] (by decide +kernel) (by decide +kernel)
