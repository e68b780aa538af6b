/-! PatentHall -/
set_option maxRecDepth 100000
def RX0 : String := "PatentHall"
def TX0 : u_T := fun k => match k with
  | 0 => ("PatentHall", "tape", "[B", true)
  | 1 => ("PatentHall", "taped", "I", false)
  | 2 => ("PatentHall", "reader", "LPatentHall$Reader;", true)
  | 3 => ("PatentHall", "finder", "LPatentHall$Finder;", true)
  | 4 => ("PatentHall", "words", "[Ljava/lang/String;", true)
  | 5 => ("PatentHall", "wider", "[I", true)
  | 6 => ("PatentHall", "papers", "[LPatentHall$Paper;", true)
  | 7 => ("PatentHall", "files", "[LPatentHall$Filing;", true)
  | 8 => ("PatentHall", "things", "[LPatentHall$Told;", true)
  | 9 => ("PatentHall", "claims", "[LPatentHall$Claim;", true)
  | 10 => ("PatentHall", "wordMany", "I", false)
  | 11 => ("PatentHall", "paperMany", "I", false)
  | 12 => ("PatentHall", "fileMany", "I", false)
  | 13 => ("PatentHall", "thingMany", "I", false)
  | 14 => ("PatentHall", "claimMany", "I", false)
  | 15 => ("PatentHall", "now", "I", false)
  | 16 => ("PatentHall", "acts", "[LPatentHall$Act;", true)
  | 17 => ("PatentHall", "actMany", "I", false)
  | 18 => ("PatentHall", "trouble", "I", false)
  | 19 => ("PatentHall", "fault", "I", false)
  | 20 => ("PatentHall", "where", "I", false)
  | 21 => ("PatentHall", "refused", "LPatentHall$Refused;", true)
  | 22 => ("PatentHall", "way", "[I", true)
  | 23 => ("PatentHall", "wayParts", "I", false)
  | 24 => ("PatentHall", "leftBits", "I", false)
  | 25 => ("PatentHall", "fallen", "[I", true)
  | _ => ("PatentHall", "fallenMany", "I", false)
def tyX0 : Nat → FieldType := fun k => match k with
  | 0 => .array .byte
  | 1 => .int
  | 2 => .object "PatentHall$Reader"
  | 3 => .object "PatentHall$Finder"
  | 4 => .array (.object "java/lang/String")
  | 5 => .array .int
  | 6 => .array (.object "PatentHall$Paper")
  | 7 => .array (.object "PatentHall$Filing")
  | 8 => .array (.object "PatentHall$Told")
  | 9 => .array (.object "PatentHall$Claim")
  | 10 => .int
  | 11 => .int
  | 12 => .int
  | 13 => .int
  | 14 => .int
  | 15 => .int
  | 16 => .array (.object "PatentHall$Act")
  | 17 => .int
  | 18 => .int
  | 19 => .int
  | 20 => .int
  | 21 => .object "PatentHall$Refused"
  | 22 => .array .int
  | 23 => .int
  | 24 => .int
  | 25 => .array .int
  | _ => .int
abbrev wsX00 : List Cond := u_ws RX0 TX0 27
set_option maxRecDepth 100000 in
theorem nmX0 : ∀ a, a < 27 → ∀ b, b < 27 → a ≠ b → (TX0 a).2.1 ≠ (TX0 b).2.1 := by decide +kernel
set_option maxRecDepth 100000 in
theorem tyX0_ok : ∀ k, k < 27 → parseFieldDescriptor (TX0 k).2.2.1 = some (tyX0 k) := by decide +kernel
abbrev cX0_init : ByteArray := prog_1_method_1_code
def yX0_init : MethodName := ⟨RX0, "<init>", "()V"⟩
def dkwX0_init_6 : List UInt8 := [177]
abbrev dktX0_init_6 : List UInt8 := dkwX0_init_6 ++ []
def dkwX0_init_5 : List UInt8 := [181, 0, 78, 42, 16, 8, 188, 10, 181, 0, 82, 42, 2, 181, 0, 85, 42, 16, 40, 188, 10, 181, 0, 88]
abbrev dktX0_init_5 : List UInt8 := dkwX0_init_5 ++ dktX0_init_6
def dkwX0_init_4 : List UInt8 := [42, 16, 100, 189, 0, 65, 181, 0, 67, 42, 2, 181, 0, 71, 42, 187, 0, 75, 89, 183, 0, 77]
abbrev dktX0_init_4 : List UInt8 := dkwX0_init_4 ++ dktX0_init_5
def dkwX0_init_3 : List UInt8 := [189, 0, 47, 181, 0, 49, 42, 16, 12, 189, 0, 53, 181, 0, 55, 42, 16, 40, 189, 0, 59, 181, 0, 61]
abbrev dktX0_init_3 : List UInt8 := dkwX0_init_3 ++ dktX0_init_4
def dkwX0_init_2 : List UInt8 := [181, 0, 33, 42, 16, 60, 188, 10, 181, 0, 37, 42, 16, 20, 189, 0, 41, 181, 0, 43, 42, 16, 8]
abbrev dktX0_init_2 : List UInt8 := dkwX0_init_2 ++ dktX0_init_3
def dkwX0_init_1 : List UInt8 := [183, 0, 15, 181, 0, 18, 42, 187, 0, 22, 89, 42, 183, 0, 24, 181, 0, 27, 42, 16, 60, 189, 0, 31]
abbrev dktX0_init_1 : List UInt8 := dkwX0_init_1 ++ dktX0_init_2
def dkwX0_init_0 : List UInt8 := [42, 183, 0, 1, 42, 17, 1, 44, 188, 8, 181, 0, 9, 42, 187, 0, 13, 89, 42, 180, 0, 9]
abbrev dktX0_init_0 : List UInt8 := dkwX0_init_0 ++ dktX0_init_1
theorem dksX0_init_0 : cX0_init.data.toList.drop 0 = dktX0_init_0 := by decide +kernel
theorem dksX0_init_1 : cX0_init.data.toList.drop 22 = dktX0_init_1 := dk_seg dksX0_init_0 22 rfl rfl
theorem dksX0_init_2 : cX0_init.data.toList.drop 46 = dktX0_init_2 := dk_seg dksX0_init_1 24 rfl rfl
theorem dksX0_init_3 : cX0_init.data.toList.drop 69 = dktX0_init_3 := dk_seg dksX0_init_2 23 rfl rfl
theorem dksX0_init_4 : cX0_init.data.toList.drop 93 = dktX0_init_4 := dk_seg dksX0_init_3 24 rfl rfl
theorem dksX0_init_5 : cX0_init.data.toList.drop 115 = dktX0_init_5 := dk_seg dksX0_init_4 22 rfl rfl
theorem dksX0_init_6 : cX0_init.data.toList.drop 139 = dktX0_init_6 := dk_seg dksX0_init_5 24 rfl rfl
theorem dX0_init_0 : decode cX0_init 0 = .ok (.aload_n 0, 1) := dk_42 (dk_at dksX0_init_0 0 rfl rfl)
theorem dX0_init_1 : decode cX0_init 1 = .ok (.invokespecial 1, 3) := dk_183 0 1 (dk_at dksX0_init_0 1 rfl rfl)
theorem dX0_init_4 : decode cX0_init 4 = .ok (.aload_n 0, 1) := dk_42 (dk_at dksX0_init_0 4 rfl rfl)
theorem dX0_init_5 : decode cX0_init 5 = .ok (.sipush 300, 3) := dk_17 1 44 (dk_at dksX0_init_0 5 rfl rfl)
theorem dX0_init_8 : decode cX0_init 8 = .ok (.newarray .byte, 2) := dk_188_8 (dk_at dksX0_init_0 8 rfl rfl)
theorem dX0_init_10 : decode cX0_init 10 = .ok (.putfield 9, 3) := dk_181 0 9 (dk_at dksX0_init_0 10 rfl rfl)
theorem dX0_init_13 : decode cX0_init 13 = .ok (.aload_n 0, 1) := dk_42 (dk_at dksX0_init_0 13 rfl rfl)
theorem dX0_init_14 : decode cX0_init 14 = .ok (.new 13, 3) := dk_187 0 13 (dk_at dksX0_init_0 14 rfl rfl)
theorem dX0_init_17 : decode cX0_init 17 = .ok (.dup, 1) := dk_89 (dk_at dksX0_init_0 17 rfl rfl)
theorem dX0_init_18 : decode cX0_init 18 = .ok (.aload_n 0, 1) := dk_42 (dk_at dksX0_init_0 18 rfl rfl)
theorem dX0_init_19 : decode cX0_init 19 = .ok (.getfield 9, 3) := dk_180 0 9 (dk_at dksX0_init_0 19 rfl rfl)
theorem dX0_init_22 : decode cX0_init 22 = .ok (.invokespecial 15, 3) := dk_183 0 15 (dk_at dksX0_init_1 0 rfl rfl)
theorem dX0_init_25 : decode cX0_init 25 = .ok (.putfield 18, 3) := dk_181 0 18 (dk_at dksX0_init_1 3 rfl rfl)
theorem dX0_init_28 : decode cX0_init 28 = .ok (.aload_n 0, 1) := dk_42 (dk_at dksX0_init_1 6 rfl rfl)
theorem dX0_init_29 : decode cX0_init 29 = .ok (.new 22, 3) := dk_187 0 22 (dk_at dksX0_init_1 7 rfl rfl)
theorem dX0_init_32 : decode cX0_init 32 = .ok (.dup, 1) := dk_89 (dk_at dksX0_init_1 10 rfl rfl)
theorem dX0_init_33 : decode cX0_init 33 = .ok (.aload_n 0, 1) := dk_42 (dk_at dksX0_init_1 11 rfl rfl)
theorem dX0_init_34 : decode cX0_init 34 = .ok (.invokespecial 24, 3) := dk_183 0 24 (dk_at dksX0_init_1 12 rfl rfl)
theorem dX0_init_37 : decode cX0_init 37 = .ok (.putfield 27, 3) := dk_181 0 27 (dk_at dksX0_init_1 15 rfl rfl)
theorem dX0_init_40 : decode cX0_init 40 = .ok (.aload_n 0, 1) := dk_42 (dk_at dksX0_init_1 18 rfl rfl)
theorem dX0_init_41 : decode cX0_init 41 = .ok (.bipush 60, 2) := dk_16 60 (dk_at dksX0_init_1 19 rfl rfl)
theorem dX0_init_43 : decode cX0_init 43 = .ok (.anewarray 31, 3) := dk_189 0 31 (dk_at dksX0_init_1 21 rfl rfl)
theorem dX0_init_46 : decode cX0_init 46 = .ok (.putfield 33, 3) := dk_181 0 33 (dk_at dksX0_init_2 0 rfl rfl)
theorem dX0_init_49 : decode cX0_init 49 = .ok (.aload_n 0, 1) := dk_42 (dk_at dksX0_init_2 3 rfl rfl)
theorem dX0_init_50 : decode cX0_init 50 = .ok (.bipush 60, 2) := dk_16 60 (dk_at dksX0_init_2 4 rfl rfl)
theorem dX0_init_52 : decode cX0_init 52 = .ok (.newarray .int, 2) := dk_188_10 (dk_at dksX0_init_2 6 rfl rfl)
theorem dX0_init_54 : decode cX0_init 54 = .ok (.putfield 37, 3) := dk_181 0 37 (dk_at dksX0_init_2 8 rfl rfl)
theorem dX0_init_57 : decode cX0_init 57 = .ok (.aload_n 0, 1) := dk_42 (dk_at dksX0_init_2 11 rfl rfl)
theorem dX0_init_58 : decode cX0_init 58 = .ok (.bipush 20, 2) := dk_16 20 (dk_at dksX0_init_2 12 rfl rfl)
theorem dX0_init_60 : decode cX0_init 60 = .ok (.anewarray 41, 3) := dk_189 0 41 (dk_at dksX0_init_2 14 rfl rfl)
theorem dX0_init_63 : decode cX0_init 63 = .ok (.putfield 43, 3) := dk_181 0 43 (dk_at dksX0_init_2 17 rfl rfl)
theorem dX0_init_66 : decode cX0_init 66 = .ok (.aload_n 0, 1) := dk_42 (dk_at dksX0_init_2 20 rfl rfl)
theorem dX0_init_67 : decode cX0_init 67 = .ok (.bipush 8, 2) := dk_16 8 (dk_at dksX0_init_2 21 rfl rfl)
theorem dX0_init_69 : decode cX0_init 69 = .ok (.anewarray 47, 3) := dk_189 0 47 (dk_at dksX0_init_3 0 rfl rfl)
theorem dX0_init_72 : decode cX0_init 72 = .ok (.putfield 49, 3) := dk_181 0 49 (dk_at dksX0_init_3 3 rfl rfl)
theorem dX0_init_75 : decode cX0_init 75 = .ok (.aload_n 0, 1) := dk_42 (dk_at dksX0_init_3 6 rfl rfl)
theorem dX0_init_76 : decode cX0_init 76 = .ok (.bipush 12, 2) := dk_16 12 (dk_at dksX0_init_3 7 rfl rfl)
theorem dX0_init_78 : decode cX0_init 78 = .ok (.anewarray 53, 3) := dk_189 0 53 (dk_at dksX0_init_3 9 rfl rfl)
theorem dX0_init_81 : decode cX0_init 81 = .ok (.putfield 55, 3) := dk_181 0 55 (dk_at dksX0_init_3 12 rfl rfl)
theorem dX0_init_84 : decode cX0_init 84 = .ok (.aload_n 0, 1) := dk_42 (dk_at dksX0_init_3 15 rfl rfl)
theorem dX0_init_85 : decode cX0_init 85 = .ok (.bipush 40, 2) := dk_16 40 (dk_at dksX0_init_3 16 rfl rfl)
theorem dX0_init_87 : decode cX0_init 87 = .ok (.anewarray 59, 3) := dk_189 0 59 (dk_at dksX0_init_3 18 rfl rfl)
theorem dX0_init_90 : decode cX0_init 90 = .ok (.putfield 61, 3) := dk_181 0 61 (dk_at dksX0_init_3 21 rfl rfl)
theorem dX0_init_93 : decode cX0_init 93 = .ok (.aload_n 0, 1) := dk_42 (dk_at dksX0_init_4 0 rfl rfl)
theorem dX0_init_94 : decode cX0_init 94 = .ok (.bipush 100, 2) := dk_16 100 (dk_at dksX0_init_4 1 rfl rfl)
theorem dX0_init_96 : decode cX0_init 96 = .ok (.anewarray 65, 3) := dk_189 0 65 (dk_at dksX0_init_4 3 rfl rfl)
theorem dX0_init_99 : decode cX0_init 99 = .ok (.putfield 67, 3) := dk_181 0 67 (dk_at dksX0_init_4 6 rfl rfl)
theorem dX0_init_102 : decode cX0_init 102 = .ok (.aload_n 0, 1) := dk_42 (dk_at dksX0_init_4 9 rfl rfl)
theorem dX0_init_103 : decode cX0_init 103 = .ok (.iconst (-1), 1) := dk_2 (dk_at dksX0_init_4 10 rfl rfl)
theorem dX0_init_104 : decode cX0_init 104 = .ok (.putfield 71, 3) := dk_181 0 71 (dk_at dksX0_init_4 11 rfl rfl)
theorem dX0_init_107 : decode cX0_init 107 = .ok (.aload_n 0, 1) := dk_42 (dk_at dksX0_init_4 14 rfl rfl)
theorem dX0_init_108 : decode cX0_init 108 = .ok (.new 75, 3) := dk_187 0 75 (dk_at dksX0_init_4 15 rfl rfl)
theorem dX0_init_111 : decode cX0_init 111 = .ok (.dup, 1) := dk_89 (dk_at dksX0_init_4 18 rfl rfl)
theorem dX0_init_112 : decode cX0_init 112 = .ok (.invokespecial 77, 3) := dk_183 0 77 (dk_at dksX0_init_4 19 rfl rfl)
theorem dX0_init_115 : decode cX0_init 115 = .ok (.putfield 78, 3) := dk_181 0 78 (dk_at dksX0_init_5 0 rfl rfl)
theorem dX0_init_118 : decode cX0_init 118 = .ok (.aload_n 0, 1) := dk_42 (dk_at dksX0_init_5 3 rfl rfl)
theorem dX0_init_119 : decode cX0_init 119 = .ok (.bipush 8, 2) := dk_16 8 (dk_at dksX0_init_5 4 rfl rfl)
theorem dX0_init_121 : decode cX0_init 121 = .ok (.newarray .int, 2) := dk_188_10 (dk_at dksX0_init_5 6 rfl rfl)
theorem dX0_init_123 : decode cX0_init 123 = .ok (.putfield 82, 3) := dk_181 0 82 (dk_at dksX0_init_5 8 rfl rfl)
theorem dX0_init_126 : decode cX0_init 126 = .ok (.aload_n 0, 1) := dk_42 (dk_at dksX0_init_5 11 rfl rfl)
theorem dX0_init_127 : decode cX0_init 127 = .ok (.iconst (-1), 1) := dk_2 (dk_at dksX0_init_5 12 rfl rfl)
theorem dX0_init_128 : decode cX0_init 128 = .ok (.putfield 85, 3) := dk_181 0 85 (dk_at dksX0_init_5 13 rfl rfl)
theorem dX0_init_131 : decode cX0_init 131 = .ok (.aload_n 0, 1) := dk_42 (dk_at dksX0_init_5 16 rfl rfl)
theorem dX0_init_132 : decode cX0_init 132 = .ok (.bipush 40, 2) := dk_16 40 (dk_at dksX0_init_5 17 rfl rfl)
theorem dX0_init_134 : decode cX0_init 134 = .ok (.newarray .int, 2) := dk_188_10 (dk_at dksX0_init_5 19 rfl rfl)
theorem dX0_init_136 : decode cX0_init 136 = .ok (.putfield 88, 3) := dk_181 0 88 (dk_at dksX0_init_5 21 rfl rfl)
theorem dX0_init_139 : decode cX0_init 139 = .ok (.return_, 1) := dk_177 (dk_at dksX0_init_6 0 rfl rfl)
abbrev cX0_feed : ByteArray := prog_1_method_9_code
def yX0_feed : MethodName := ⟨RX0, "feed", "(IIIII)I"⟩
def dkwX0_feed_2 : List UInt8 := [172]
abbrev dktX0_feed_2 : List UInt8 := dkwX0_feed_2 ++ []
def dkwX0_feed_1 : List UInt8 := [182, 0, 128, 42, 29, 182, 0, 128, 42, 21, 4, 182, 0, 128, 42, 21, 5, 182, 0, 128, 42, 180, 0, 125]
abbrev dktX0_feed_1 : List UInt8 := dkwX0_feed_1 ++ dktX0_feed_2
def dkwX0_feed_0 : List UInt8 := [42, 180, 0, 125, 16, 20, 96, 17, 1, 44, 164, 0, 5, 2, 172, 42, 27, 182, 0, 128, 42, 28]
abbrev dktX0_feed_0 : List UInt8 := dkwX0_feed_0 ++ dktX0_feed_1
theorem dksX0_feed_0 : cX0_feed.data.toList.drop 0 = dktX0_feed_0 := by decide +kernel
theorem dksX0_feed_1 : cX0_feed.data.toList.drop 22 = dktX0_feed_1 := dk_seg dksX0_feed_0 22 rfl rfl
theorem dksX0_feed_2 : cX0_feed.data.toList.drop 46 = dktX0_feed_2 := dk_seg dksX0_feed_1 24 rfl rfl
theorem dX0_feed_0 : decode cX0_feed 0 = .ok (.aload_n 0, 1) := dk_42 (dk_at dksX0_feed_0 0 rfl rfl)
theorem dX0_feed_1 : decode cX0_feed 1 = .ok (.getfield 125, 3) := dk_180 0 125 (dk_at dksX0_feed_0 1 rfl rfl)
theorem dX0_feed_4 : decode cX0_feed 4 = .ok (.bipush 20, 2) := dk_16 20 (dk_at dksX0_feed_0 4 rfl rfl)
theorem dX0_feed_6 : decode cX0_feed 6 = .ok (.iadd, 1) := dk_96 (dk_at dksX0_feed_0 6 rfl rfl)
theorem dX0_feed_7 : decode cX0_feed 7 = .ok (.sipush 300, 3) := dk_17 1 44 (dk_at dksX0_feed_0 7 rfl rfl)
theorem dX0_feed_10 : decode cX0_feed 10 = .ok (.if_icmp .le 5, 3) := dk_164 0 5 (dk_at dksX0_feed_0 10 rfl rfl)
theorem dX0_feed_13 : decode cX0_feed 13 = .ok (.iconst (-1), 1) := dk_2 (dk_at dksX0_feed_0 13 rfl rfl)
theorem dX0_feed_14 : decode cX0_feed 14 = .ok (.ireturn, 1) := dk_172 (dk_at dksX0_feed_0 14 rfl rfl)
theorem dX0_feed_15 : decode cX0_feed 15 = .ok (.aload_n 0, 1) := dk_42 (dk_at dksX0_feed_0 15 rfl rfl)
theorem dX0_feed_16 : decode cX0_feed 16 = .ok (.iload_n 1, 1) := dk_27 (dk_at dksX0_feed_0 16 rfl rfl)
theorem dX0_feed_17 : decode cX0_feed 17 = .ok (.invokevirtual 128, 3) := dk_182 0 128 (dk_at dksX0_feed_0 17 rfl rfl)
theorem dX0_feed_20 : decode cX0_feed 20 = .ok (.aload_n 0, 1) := dk_42 (dk_at dksX0_feed_0 20 rfl rfl)
theorem dX0_feed_21 : decode cX0_feed 21 = .ok (.iload_n 2, 1) := dk_28 (dk_at dksX0_feed_0 21 rfl rfl)
theorem dX0_feed_22 : decode cX0_feed 22 = .ok (.invokevirtual 128, 3) := dk_182 0 128 (dk_at dksX0_feed_1 0 rfl rfl)
theorem dX0_feed_25 : decode cX0_feed 25 = .ok (.aload_n 0, 1) := dk_42 (dk_at dksX0_feed_1 3 rfl rfl)
theorem dX0_feed_26 : decode cX0_feed 26 = .ok (.iload_n 3, 1) := dk_29 (dk_at dksX0_feed_1 4 rfl rfl)
theorem dX0_feed_27 : decode cX0_feed 27 = .ok (.invokevirtual 128, 3) := dk_182 0 128 (dk_at dksX0_feed_1 5 rfl rfl)
theorem dX0_feed_30 : decode cX0_feed 30 = .ok (.aload_n 0, 1) := dk_42 (dk_at dksX0_feed_1 8 rfl rfl)
theorem dX0_feed_31 : decode cX0_feed 31 = .ok (.iload 4, 2) := dk_21 4 (dk_at dksX0_feed_1 9 rfl rfl)
theorem dX0_feed_33 : decode cX0_feed 33 = .ok (.invokevirtual 128, 3) := dk_182 0 128 (dk_at dksX0_feed_1 11 rfl rfl)
theorem dX0_feed_36 : decode cX0_feed 36 = .ok (.aload_n 0, 1) := dk_42 (dk_at dksX0_feed_1 14 rfl rfl)
theorem dX0_feed_37 : decode cX0_feed 37 = .ok (.iload 5, 2) := dk_21 5 (dk_at dksX0_feed_1 15 rfl rfl)
theorem dX0_feed_39 : decode cX0_feed 39 = .ok (.invokevirtual 128, 3) := dk_182 0 128 (dk_at dksX0_feed_1 17 rfl rfl)
theorem dX0_feed_42 : decode cX0_feed 42 = .ok (.aload_n 0, 1) := dk_42 (dk_at dksX0_feed_1 20 rfl rfl)
theorem dX0_feed_43 : decode cX0_feed 43 = .ok (.getfield 125, 3) := dk_180 0 125 (dk_at dksX0_feed_1 21 rfl rfl)
theorem dX0_feed_46 : decode cX0_feed 46 = .ok (.ireturn, 1) := dk_172 (dk_at dksX0_feed_2 0 rfl rfl)
abbrev cX0_bytes : ByteArray := prog_1_method_10_code
def yX0_bytes : MethodName := ⟨RX0, "bytes", "(I)V"⟩
def dkwX0_bytes_1 : List UInt8 := [180, 0, 125, 4, 96, 181, 0, 125, 132, 2, 248, 167, 255, 226, 177]
abbrev dktX0_bytes_1 : List UInt8 := dkwX0_bytes_1 ++ []
def dkwX0_bytes_0 : List UInt8 := [16, 24, 61, 28, 155, 0, 32, 42, 180, 0, 9, 42, 180, 0, 125, 27, 28, 122, 145, 84, 42, 89]
abbrev dktX0_bytes_0 : List UInt8 := dkwX0_bytes_0 ++ dktX0_bytes_1
theorem dksX0_bytes_0 : cX0_bytes.data.toList.drop 0 = dktX0_bytes_0 := by decide +kernel
theorem dksX0_bytes_1 : cX0_bytes.data.toList.drop 22 = dktX0_bytes_1 := dk_seg dksX0_bytes_0 22 rfl rfl
theorem dX0_bytes_0 : decode cX0_bytes 0 = .ok (.bipush 24, 2) := dk_16 24 (dk_at dksX0_bytes_0 0 rfl rfl)
theorem dX0_bytes_2 : decode cX0_bytes 2 = .ok (.istore_n 2, 1) := dk_61 (dk_at dksX0_bytes_0 2 rfl rfl)
theorem dX0_bytes_3 : decode cX0_bytes 3 = .ok (.iload_n 2, 1) := dk_28 (dk_at dksX0_bytes_0 3 rfl rfl)
theorem dX0_bytes_4 : decode cX0_bytes 4 = .ok (.ifCond .lt 32, 3) := dk_155 0 32 (dk_at dksX0_bytes_0 4 rfl rfl)
theorem dX0_bytes_7 : decode cX0_bytes 7 = .ok (.aload_n 0, 1) := dk_42 (dk_at dksX0_bytes_0 7 rfl rfl)
theorem dX0_bytes_8 : decode cX0_bytes 8 = .ok (.getfield 9, 3) := dk_180 0 9 (dk_at dksX0_bytes_0 8 rfl rfl)
theorem dX0_bytes_11 : decode cX0_bytes 11 = .ok (.aload_n 0, 1) := dk_42 (dk_at dksX0_bytes_0 11 rfl rfl)
theorem dX0_bytes_12 : decode cX0_bytes 12 = .ok (.getfield 125, 3) := dk_180 0 125 (dk_at dksX0_bytes_0 12 rfl rfl)
theorem dX0_bytes_15 : decode cX0_bytes 15 = .ok (.iload_n 1, 1) := dk_27 (dk_at dksX0_bytes_0 15 rfl rfl)
theorem dX0_bytes_16 : decode cX0_bytes 16 = .ok (.iload_n 2, 1) := dk_28 (dk_at dksX0_bytes_0 16 rfl rfl)
theorem dX0_bytes_17 : decode cX0_bytes 17 = .ok (.ishr, 1) := dk_122 (dk_at dksX0_bytes_0 17 rfl rfl)
theorem dX0_bytes_18 : decode cX0_bytes 18 = .ok (.i2b, 1) := dk_145 (dk_at dksX0_bytes_0 18 rfl rfl)
theorem dX0_bytes_19 : decode cX0_bytes 19 = .ok (.bastore, 1) := dk_84 (dk_at dksX0_bytes_0 19 rfl rfl)
theorem dX0_bytes_20 : decode cX0_bytes 20 = .ok (.aload_n 0, 1) := dk_42 (dk_at dksX0_bytes_0 20 rfl rfl)
theorem dX0_bytes_21 : decode cX0_bytes 21 = .ok (.dup, 1) := dk_89 (dk_at dksX0_bytes_0 21 rfl rfl)
theorem dX0_bytes_22 : decode cX0_bytes 22 = .ok (.getfield 125, 3) := dk_180 0 125 (dk_at dksX0_bytes_1 0 rfl rfl)
theorem dX0_bytes_25 : decode cX0_bytes 25 = .ok (.iconst 1, 1) := dk_4 (dk_at dksX0_bytes_1 3 rfl rfl)
theorem dX0_bytes_26 : decode cX0_bytes 26 = .ok (.iadd, 1) := dk_96 (dk_at dksX0_bytes_1 4 rfl rfl)
theorem dX0_bytes_27 : decode cX0_bytes 27 = .ok (.putfield 125, 3) := dk_181 0 125 (dk_at dksX0_bytes_1 5 rfl rfl)
theorem dX0_bytes_30 : decode cX0_bytes 30 = .ok (.iinc 2 (-8), 3) := dk_132 2 248 (dk_at dksX0_bytes_1 8 rfl rfl)
theorem dX0_bytes_33 : decode cX0_bytes 33 = .ok (.goto (-30), 3) := dk_167 255 226 (dk_at dksX0_bytes_1 11 rfl rfl)
theorem dX0_bytes_36 : decode cX0_bytes 36 = .ok (.return_, 1) := dk_177 (dk_at dksX0_bytes_1 14 rfl rfl)
abbrev cX0_word : ByteArray := prog_1_method_13_code
def yX0_word : MethodName := ⟨RX0, "word", "(II)I"⟩
def dkwX0_word_6 : List UInt8 := [180, 0, 132, 4, 100, 172]
abbrev dktX0_word_6 : List UInt8 := dkwX0_word_6 ++ []
def dkwX0_word_5 : List UInt8 := [172, 42, 89, 180, 0, 132, 4, 96, 181, 0, 132, 42, 187, 0, 154, 89, 42, 183, 0, 156, 182, 0, 157, 42]
abbrev dktX0_word_5 : List UInt8 := dkwX0_word_5 ++ dktX0_word_6
def dkwX0_word_4 : List UInt8 := [180, 0, 132, 45, 83, 42, 180, 0, 37, 42, 180, 0, 132, 27, 79, 167, 0, 10, 78, 42, 45, 182, 0, 108]
abbrev dktX0_word_4 : List UInt8 := dkwX0_word_4 ++ dktX0_word_5
def dkwX0_word_3 : List UInt8 := [42, 180, 0, 132, 16, 60, 162, 0, 7, 4, 167, 0, 4, 3, 6, 182, 0, 142, 42, 180, 0, 33, 42]
abbrev dktX0_word_3 : List UInt8 := dkwX0_word_3 ++ dktX0_word_4
def dkwX0_word_2 : List UInt8 := [42, 45, 198, 0, 16, 42, 45, 182, 0, 150, 2, 160, 0, 7, 4, 167, 0, 4, 3, 5, 182, 0, 142, 42]
abbrev dktX0_word_2 : List UInt8 := dkwX0_word_2 ++ dktX0_word_3
def dkwX0_word_1 : List UInt8 := [180, 0, 125, 184, 0, 112, 5, 182, 0, 142, 42, 3, 181, 0, 125, 42, 180, 0, 18, 28, 182, 0, 146, 78]
abbrev dktX0_word_1 : List UInt8 := dkwX0_word_1 ++ dktX0_word_2
def dkwX0_word_0 : List UInt8 := [42, 182, 0, 139, 42, 27, 2, 42, 180, 0, 132, 4, 100, 184, 0, 112, 4, 182, 0, 142, 42, 28, 3, 42]
abbrev dktX0_word_0 : List UInt8 := dkwX0_word_0 ++ dktX0_word_1
theorem dksX0_word_0 : cX0_word.data.toList.drop 0 = dktX0_word_0 := by decide +kernel
theorem dksX0_word_1 : cX0_word.data.toList.drop 24 = dktX0_word_1 := dk_seg dksX0_word_0 24 rfl rfl
theorem dksX0_word_2 : cX0_word.data.toList.drop 48 = dktX0_word_2 := dk_seg dksX0_word_1 24 rfl rfl
theorem dksX0_word_3 : cX0_word.data.toList.drop 72 = dktX0_word_3 := dk_seg dksX0_word_2 24 rfl rfl
theorem dksX0_word_4 : cX0_word.data.toList.drop 95 = dktX0_word_4 := dk_seg dksX0_word_3 23 rfl rfl
theorem dksX0_word_5 : cX0_word.data.toList.drop 119 = dktX0_word_5 := dk_seg dksX0_word_4 24 rfl rfl
theorem dksX0_word_6 : cX0_word.data.toList.drop 143 = dktX0_word_6 := dk_seg dksX0_word_5 24 rfl rfl
theorem dX0_word_0 : decode cX0_word 0 = .ok (.aload_n 0, 1) := dk_42 (dk_at dksX0_word_0 0 rfl rfl)
theorem dX0_word_1 : decode cX0_word 1 = .ok (.invokevirtual 139, 3) := dk_182 0 139 (dk_at dksX0_word_0 1 rfl rfl)
theorem dX0_word_4 : decode cX0_word 4 = .ok (.aload_n 0, 1) := dk_42 (dk_at dksX0_word_0 4 rfl rfl)
theorem dX0_word_5 : decode cX0_word 5 = .ok (.iload_n 1, 1) := dk_27 (dk_at dksX0_word_0 5 rfl rfl)
theorem dX0_word_6 : decode cX0_word 6 = .ok (.iconst (-1), 1) := dk_2 (dk_at dksX0_word_0 6 rfl rfl)
theorem dX0_word_7 : decode cX0_word 7 = .ok (.aload_n 0, 1) := dk_42 (dk_at dksX0_word_0 7 rfl rfl)
theorem dX0_word_8 : decode cX0_word 8 = .ok (.getfield 132, 3) := dk_180 0 132 (dk_at dksX0_word_0 8 rfl rfl)
theorem dX0_word_11 : decode cX0_word 11 = .ok (.iconst 1, 1) := dk_4 (dk_at dksX0_word_0 11 rfl rfl)
theorem dX0_word_12 : decode cX0_word 12 = .ok (.isub, 1) := dk_100 (dk_at dksX0_word_0 12 rfl rfl)
theorem dX0_word_13 : decode cX0_word 13 = .ok (.invokestatic 112, 3) := dk_184 0 112 (dk_at dksX0_word_0 13 rfl rfl)
theorem dX0_word_16 : decode cX0_word 16 = .ok (.iconst 1, 1) := dk_4 (dk_at dksX0_word_0 16 rfl rfl)
theorem dX0_word_17 : decode cX0_word 17 = .ok (.invokevirtual 142, 3) := dk_182 0 142 (dk_at dksX0_word_0 17 rfl rfl)
theorem dX0_word_20 : decode cX0_word 20 = .ok (.aload_n 0, 1) := dk_42 (dk_at dksX0_word_0 20 rfl rfl)
theorem dX0_word_21 : decode cX0_word 21 = .ok (.iload_n 2, 1) := dk_28 (dk_at dksX0_word_0 21 rfl rfl)
theorem dX0_word_22 : decode cX0_word 22 = .ok (.iconst 0, 1) := dk_3 (dk_at dksX0_word_0 22 rfl rfl)
theorem dX0_word_23 : decode cX0_word 23 = .ok (.aload_n 0, 1) := dk_42 (dk_at dksX0_word_0 23 rfl rfl)
theorem dX0_word_24 : decode cX0_word 24 = .ok (.getfield 125, 3) := dk_180 0 125 (dk_at dksX0_word_1 0 rfl rfl)
theorem dX0_word_27 : decode cX0_word 27 = .ok (.invokestatic 112, 3) := dk_184 0 112 (dk_at dksX0_word_1 3 rfl rfl)
theorem dX0_word_30 : decode cX0_word 30 = .ok (.iconst 2, 1) := dk_5 (dk_at dksX0_word_1 6 rfl rfl)
theorem dX0_word_31 : decode cX0_word 31 = .ok (.invokevirtual 142, 3) := dk_182 0 142 (dk_at dksX0_word_1 7 rfl rfl)
theorem dX0_word_34 : decode cX0_word 34 = .ok (.aload_n 0, 1) := dk_42 (dk_at dksX0_word_1 10 rfl rfl)
theorem dX0_word_35 : decode cX0_word 35 = .ok (.iconst 0, 1) := dk_3 (dk_at dksX0_word_1 11 rfl rfl)
theorem dX0_word_36 : decode cX0_word 36 = .ok (.putfield 125, 3) := dk_181 0 125 (dk_at dksX0_word_1 12 rfl rfl)
theorem dX0_word_39 : decode cX0_word 39 = .ok (.aload_n 0, 1) := dk_42 (dk_at dksX0_word_1 15 rfl rfl)
theorem dX0_word_40 : decode cX0_word 40 = .ok (.getfield 18, 3) := dk_180 0 18 (dk_at dksX0_word_1 16 rfl rfl)
theorem dX0_word_43 : decode cX0_word 43 = .ok (.iload_n 2, 1) := dk_28 (dk_at dksX0_word_1 19 rfl rfl)
theorem dX0_word_44 : decode cX0_word 44 = .ok (.invokevirtual 146, 3) := dk_182 0 146 (dk_at dksX0_word_1 20 rfl rfl)
theorem dX0_word_47 : decode cX0_word 47 = .ok (.astore_n 3, 1) := dk_78 (dk_at dksX0_word_1 23 rfl rfl)
theorem dX0_word_48 : decode cX0_word 48 = .ok (.aload_n 0, 1) := dk_42 (dk_at dksX0_word_2 0 rfl rfl)
theorem dX0_word_49 : decode cX0_word 49 = .ok (.aload_n 3, 1) := dk_45 (dk_at dksX0_word_2 1 rfl rfl)
theorem dX0_word_50 : decode cX0_word 50 = .ok (.ifnull 16, 3) := dk_198 0 16 (dk_at dksX0_word_2 2 rfl rfl)
theorem dX0_word_53 : decode cX0_word 53 = .ok (.aload_n 0, 1) := dk_42 (dk_at dksX0_word_2 5 rfl rfl)
theorem dX0_word_54 : decode cX0_word 54 = .ok (.aload_n 3, 1) := dk_45 (dk_at dksX0_word_2 6 rfl rfl)
theorem dX0_word_55 : decode cX0_word 55 = .ok (.invokevirtual 150, 3) := dk_182 0 150 (dk_at dksX0_word_2 7 rfl rfl)
theorem dX0_word_58 : decode cX0_word 58 = .ok (.iconst (-1), 1) := dk_2 (dk_at dksX0_word_2 10 rfl rfl)
theorem dX0_word_59 : decode cX0_word 59 = .ok (.if_icmp .ne 7, 3) := dk_160 0 7 (dk_at dksX0_word_2 11 rfl rfl)
theorem dX0_word_62 : decode cX0_word 62 = .ok (.iconst 1, 1) := dk_4 (dk_at dksX0_word_2 14 rfl rfl)
theorem dX0_word_63 : decode cX0_word 63 = .ok (.goto 4, 3) := dk_167 0 4 (dk_at dksX0_word_2 15 rfl rfl)
theorem dX0_word_66 : decode cX0_word 66 = .ok (.iconst 0, 1) := dk_3 (dk_at dksX0_word_2 18 rfl rfl)
theorem dX0_word_67 : decode cX0_word 67 = .ok (.iconst 2, 1) := dk_5 (dk_at dksX0_word_2 19 rfl rfl)
theorem dX0_word_68 : decode cX0_word 68 = .ok (.invokevirtual 142, 3) := dk_182 0 142 (dk_at dksX0_word_2 20 rfl rfl)
theorem dX0_word_71 : decode cX0_word 71 = .ok (.aload_n 0, 1) := dk_42 (dk_at dksX0_word_2 23 rfl rfl)
theorem dX0_word_72 : decode cX0_word 72 = .ok (.aload_n 0, 1) := dk_42 (dk_at dksX0_word_3 0 rfl rfl)
theorem dX0_word_73 : decode cX0_word 73 = .ok (.getfield 132, 3) := dk_180 0 132 (dk_at dksX0_word_3 1 rfl rfl)
theorem dX0_word_76 : decode cX0_word 76 = .ok (.bipush 60, 2) := dk_16 60 (dk_at dksX0_word_3 4 rfl rfl)
theorem dX0_word_78 : decode cX0_word 78 = .ok (.if_icmp .ge 7, 3) := dk_162 0 7 (dk_at dksX0_word_3 6 rfl rfl)
theorem dX0_word_81 : decode cX0_word 81 = .ok (.iconst 1, 1) := dk_4 (dk_at dksX0_word_3 9 rfl rfl)
theorem dX0_word_82 : decode cX0_word 82 = .ok (.goto 4, 3) := dk_167 0 4 (dk_at dksX0_word_3 10 rfl rfl)
theorem dX0_word_85 : decode cX0_word 85 = .ok (.iconst 0, 1) := dk_3 (dk_at dksX0_word_3 13 rfl rfl)
theorem dX0_word_86 : decode cX0_word 86 = .ok (.iconst 3, 1) := dk_6 (dk_at dksX0_word_3 14 rfl rfl)
theorem dX0_word_87 : decode cX0_word 87 = .ok (.invokevirtual 142, 3) := dk_182 0 142 (dk_at dksX0_word_3 15 rfl rfl)
theorem dX0_word_90 : decode cX0_word 90 = .ok (.aload_n 0, 1) := dk_42 (dk_at dksX0_word_3 18 rfl rfl)
theorem dX0_word_91 : decode cX0_word 91 = .ok (.getfield 33, 3) := dk_180 0 33 (dk_at dksX0_word_3 19 rfl rfl)
theorem dX0_word_94 : decode cX0_word 94 = .ok (.aload_n 0, 1) := dk_42 (dk_at dksX0_word_3 22 rfl rfl)
theorem dX0_word_95 : decode cX0_word 95 = .ok (.getfield 132, 3) := dk_180 0 132 (dk_at dksX0_word_4 0 rfl rfl)
theorem dX0_word_98 : decode cX0_word 98 = .ok (.aload_n 3, 1) := dk_45 (dk_at dksX0_word_4 3 rfl rfl)
theorem dX0_word_99 : decode cX0_word 99 = .ok (.aastore, 1) := dk_83 (dk_at dksX0_word_4 4 rfl rfl)
theorem dX0_word_100 : decode cX0_word 100 = .ok (.aload_n 0, 1) := dk_42 (dk_at dksX0_word_4 5 rfl rfl)
theorem dX0_word_101 : decode cX0_word 101 = .ok (.getfield 37, 3) := dk_180 0 37 (dk_at dksX0_word_4 6 rfl rfl)
theorem dX0_word_104 : decode cX0_word 104 = .ok (.aload_n 0, 1) := dk_42 (dk_at dksX0_word_4 9 rfl rfl)
theorem dX0_word_105 : decode cX0_word 105 = .ok (.getfield 132, 3) := dk_180 0 132 (dk_at dksX0_word_4 10 rfl rfl)
theorem dX0_word_108 : decode cX0_word 108 = .ok (.iload_n 1, 1) := dk_27 (dk_at dksX0_word_4 13 rfl rfl)
theorem dX0_word_109 : decode cX0_word 109 = .ok (.iastore, 1) := dk_79 (dk_at dksX0_word_4 14 rfl rfl)
theorem dX0_word_110 : decode cX0_word 110 = .ok (.goto 10, 3) := dk_167 0 10 (dk_at dksX0_word_4 15 rfl rfl)
theorem dX0_word_113 : decode cX0_word 113 = .ok (.astore_n 3, 1) := dk_78 (dk_at dksX0_word_4 18 rfl rfl)
theorem dX0_word_114 : decode cX0_word 114 = .ok (.aload_n 0, 1) := dk_42 (dk_at dksX0_word_4 19 rfl rfl)
theorem dX0_word_115 : decode cX0_word 115 = .ok (.aload_n 3, 1) := dk_45 (dk_at dksX0_word_4 20 rfl rfl)
theorem dX0_word_116 : decode cX0_word 116 = .ok (.invokevirtual 108, 3) := dk_182 0 108 (dk_at dksX0_word_4 21 rfl rfl)
theorem dX0_word_119 : decode cX0_word 119 = .ok (.ireturn, 1) := dk_172 (dk_at dksX0_word_5 0 rfl rfl)
theorem dX0_word_120 : decode cX0_word 120 = .ok (.aload_n 0, 1) := dk_42 (dk_at dksX0_word_5 1 rfl rfl)
theorem dX0_word_121 : decode cX0_word 121 = .ok (.dup, 1) := dk_89 (dk_at dksX0_word_5 2 rfl rfl)
theorem dX0_word_122 : decode cX0_word 122 = .ok (.getfield 132, 3) := dk_180 0 132 (dk_at dksX0_word_5 3 rfl rfl)
theorem dX0_word_125 : decode cX0_word 125 = .ok (.iconst 1, 1) := dk_4 (dk_at dksX0_word_5 6 rfl rfl)
theorem dX0_word_126 : decode cX0_word 126 = .ok (.iadd, 1) := dk_96 (dk_at dksX0_word_5 7 rfl rfl)
theorem dX0_word_127 : decode cX0_word 127 = .ok (.putfield 132, 3) := dk_181 0 132 (dk_at dksX0_word_5 8 rfl rfl)
theorem dX0_word_130 : decode cX0_word 130 = .ok (.aload_n 0, 1) := dk_42 (dk_at dksX0_word_5 11 rfl rfl)
theorem dX0_word_131 : decode cX0_word 131 = .ok (.new 154, 3) := dk_187 0 154 (dk_at dksX0_word_5 12 rfl rfl)
theorem dX0_word_134 : decode cX0_word 134 = .ok (.dup, 1) := dk_89 (dk_at dksX0_word_5 15 rfl rfl)
theorem dX0_word_135 : decode cX0_word 135 = .ok (.aload_n 0, 1) := dk_42 (dk_at dksX0_word_5 16 rfl rfl)
theorem dX0_word_136 : decode cX0_word 136 = .ok (.invokespecial 156, 3) := dk_183 0 156 (dk_at dksX0_word_5 17 rfl rfl)
theorem dX0_word_139 : decode cX0_word 139 = .ok (.invokevirtual 157, 3) := dk_182 0 157 (dk_at dksX0_word_5 20 rfl rfl)
theorem dX0_word_142 : decode cX0_word 142 = .ok (.aload_n 0, 1) := dk_42 (dk_at dksX0_word_5 23 rfl rfl)
theorem dX0_word_143 : decode cX0_word 143 = .ok (.getfield 132, 3) := dk_180 0 132 (dk_at dksX0_word_6 0 rfl rfl)
theorem dX0_word_146 : decode cX0_word 146 = .ok (.iconst 1, 1) := dk_4 (dk_at dksX0_word_6 3 rfl rfl)
theorem dX0_word_147 : decode cX0_word 147 = .ok (.isub, 1) := dk_100 (dk_at dksX0_word_6 4 rfl rfl)
theorem dX0_word_148 : decode cX0_word 148 = .ok (.ireturn, 1) := dk_172 (dk_at dksX0_word_6 5 rfl rfl)
abbrev cX0_begins : ByteArray := prog_1_method_2_code
def yX0_begins : MethodName := ⟨RX0, "begins", "()V"⟩
def dkwX0_begins_0 : List UInt8 := [42, 3, 181, 0, 91, 42, 2, 181, 0, 71, 177]
abbrev dktX0_begins_0 : List UInt8 := dkwX0_begins_0 ++ []
theorem dksX0_begins_0 : cX0_begins.data.toList.drop 0 = dktX0_begins_0 := by decide +kernel
theorem dX0_begins_0 : decode cX0_begins 0 = .ok (.aload_n 0, 1) := dk_42 (dk_at dksX0_begins_0 0 rfl rfl)
theorem dX0_begins_1 : decode cX0_begins 1 = .ok (.iconst 0, 1) := dk_3 (dk_at dksX0_begins_0 1 rfl rfl)
theorem dX0_begins_2 : decode cX0_begins 2 = .ok (.putfield 91, 3) := dk_181 0 91 (dk_at dksX0_begins_0 2 rfl rfl)
theorem dX0_begins_5 : decode cX0_begins 5 = .ok (.aload_n 0, 1) := dk_42 (dk_at dksX0_begins_0 5 rfl rfl)
theorem dX0_begins_6 : decode cX0_begins 6 = .ok (.iconst (-1), 1) := dk_2 (dk_at dksX0_begins_0 6 rfl rfl)
theorem dX0_begins_7 : decode cX0_begins 7 = .ok (.putfield 71, 3) := dk_181 0 71 (dk_at dksX0_begins_0 7 rfl rfl)
theorem dX0_begins_10 : decode cX0_begins 10 = .ok (.return_, 1) := dk_177 (dk_at dksX0_begins_0 10 rfl rfl)
abbrev cX0_in : ByteArray := prog_1_method_6_code
def yX0_in : MethodName := ⟨RX0, "in", "(III)Z"⟩
def dkwX0_in_0 : List UInt8 := [26, 27, 161, 0, 12, 26, 28, 163, 0, 7, 4, 167, 0, 4, 3, 172]
abbrev dktX0_in_0 : List UInt8 := dkwX0_in_0 ++ []
theorem dksX0_in_0 : cX0_in.data.toList.drop 0 = dktX0_in_0 := by decide +kernel
theorem dX0_in_0 : decode cX0_in 0 = .ok (.iload_n 0, 1) := dk_26 (dk_at dksX0_in_0 0 rfl rfl)
theorem dX0_in_1 : decode cX0_in 1 = .ok (.iload_n 1, 1) := dk_27 (dk_at dksX0_in_0 1 rfl rfl)
theorem dX0_in_2 : decode cX0_in 2 = .ok (.if_icmp .lt 12, 3) := dk_161 0 12 (dk_at dksX0_in_0 2 rfl rfl)
theorem dX0_in_5 : decode cX0_in 5 = .ok (.iload_n 0, 1) := dk_26 (dk_at dksX0_in_0 5 rfl rfl)
theorem dX0_in_6 : decode cX0_in 6 = .ok (.iload_n 2, 1) := dk_28 (dk_at dksX0_in_0 6 rfl rfl)
theorem dX0_in_7 : decode cX0_in 7 = .ok (.if_icmp .gt 7, 3) := dk_163 0 7 (dk_at dksX0_in_0 7 rfl rfl)
theorem dX0_in_10 : decode cX0_in 10 = .ok (.iconst 1, 1) := dk_4 (dk_at dksX0_in_0 10 rfl rfl)
theorem dX0_in_11 : decode cX0_in 11 = .ok (.goto 4, 3) := dk_167 0 4 (dk_at dksX0_in_0 11 rfl rfl)
theorem dX0_in_14 : decode cX0_in 14 = .ok (.iconst 0, 1) := dk_3 (dk_at dksX0_in_0 14 rfl rfl)
theorem dX0_in_15 : decode cX0_in 15 = .ok (.ireturn, 1) := dk_172 (dk_at dksX0_in_0 15 rfl rfl)
abbrev cX0_must : ByteArray := prog_1_method_3_code
def yX0_must : MethodName := ⟨RX0, "must", "(ZI)V"⟩
def dkwX0_must_0 : List UInt8 := [27, 154, 0, 12, 42, 180, 0, 78, 28, 182, 0, 94, 191, 177]
abbrev dktX0_must_0 : List UInt8 := dkwX0_must_0 ++ []
theorem dksX0_must_0 : cX0_must.data.toList.drop 0 = dktX0_must_0 := by decide +kernel
theorem dX0_must_0 : decode cX0_must 0 = .ok (.iload_n 1, 1) := dk_27 (dk_at dksX0_must_0 0 rfl rfl)
theorem dX0_must_1 : decode cX0_must 1 = .ok (.ifCond .ne 12, 3) := dk_154 0 12 (dk_at dksX0_must_0 1 rfl rfl)
theorem dX0_must_4 : decode cX0_must 4 = .ok (.aload_n 0, 1) := dk_42 (dk_at dksX0_must_0 4 rfl rfl)
theorem dX0_must_5 : decode cX0_must 5 = .ok (.getfield 78, 3) := dk_180 0 78 (dk_at dksX0_must_0 5 rfl rfl)
theorem dX0_must_8 : decode cX0_must 8 = .ok (.iload_n 2, 1) := dk_28 (dk_at dksX0_must_0 8 rfl rfl)
theorem dX0_must_9 : decode cX0_must 9 = .ok (.invokevirtual 94, 3) := dk_182 0 94 (dk_at dksX0_must_0 9 rfl rfl)
theorem dX0_must_12 : decode cX0_must 12 = .ok (.athrow, 1) := dk_191 (dk_at dksX0_must_0 12 rfl rfl)
theorem dX0_must_13 : decode cX0_must 13 = .ok (.return_, 1) := dk_177 (dk_at dksX0_must_0 13 rfl rfl)
abbrev cX0_wordOf : ByteArray := prog_1_method_11_code
def yX0_wordOf : MethodName := ⟨RX0, "wordOf", "(Ljava/lang/String;)I"⟩
def dkwX0_wordOf_1 : List UInt8 := [132, 2, 255, 167, 255, 236, 28, 172]
abbrev dktX0_wordOf_1 : List UInt8 := dkwX0_wordOf_1 ++ []
def dkwX0_wordOf_0 : List UInt8 := [42, 180, 0, 132, 4, 100, 61, 28, 155, 0, 22, 42, 180, 0, 33, 28, 50, 43, 182, 0, 135, 154, 0, 9]
abbrev dktX0_wordOf_0 : List UInt8 := dkwX0_wordOf_0 ++ dktX0_wordOf_1
theorem dksX0_wordOf_0 : cX0_wordOf.data.toList.drop 0 = dktX0_wordOf_0 := by decide +kernel
theorem dksX0_wordOf_1 : cX0_wordOf.data.toList.drop 24 = dktX0_wordOf_1 := dk_seg dksX0_wordOf_0 24 rfl rfl
theorem dX0_wordOf_0 : decode cX0_wordOf 0 = .ok (.aload_n 0, 1) := dk_42 (dk_at dksX0_wordOf_0 0 rfl rfl)
theorem dX0_wordOf_1 : decode cX0_wordOf 1 = .ok (.getfield 132, 3) := dk_180 0 132 (dk_at dksX0_wordOf_0 1 rfl rfl)
theorem dX0_wordOf_4 : decode cX0_wordOf 4 = .ok (.iconst 1, 1) := dk_4 (dk_at dksX0_wordOf_0 4 rfl rfl)
theorem dX0_wordOf_5 : decode cX0_wordOf 5 = .ok (.isub, 1) := dk_100 (dk_at dksX0_wordOf_0 5 rfl rfl)
theorem dX0_wordOf_6 : decode cX0_wordOf 6 = .ok (.istore_n 2, 1) := dk_61 (dk_at dksX0_wordOf_0 6 rfl rfl)
theorem dX0_wordOf_7 : decode cX0_wordOf 7 = .ok (.iload_n 2, 1) := dk_28 (dk_at dksX0_wordOf_0 7 rfl rfl)
theorem dX0_wordOf_8 : decode cX0_wordOf 8 = .ok (.ifCond .lt 22, 3) := dk_155 0 22 (dk_at dksX0_wordOf_0 8 rfl rfl)
theorem dX0_wordOf_11 : decode cX0_wordOf 11 = .ok (.aload_n 0, 1) := dk_42 (dk_at dksX0_wordOf_0 11 rfl rfl)
theorem dX0_wordOf_12 : decode cX0_wordOf 12 = .ok (.getfield 33, 3) := dk_180 0 33 (dk_at dksX0_wordOf_0 12 rfl rfl)
theorem dX0_wordOf_15 : decode cX0_wordOf 15 = .ok (.iload_n 2, 1) := dk_28 (dk_at dksX0_wordOf_0 15 rfl rfl)
theorem dX0_wordOf_16 : decode cX0_wordOf 16 = .ok (.aaload, 1) := dk_50 (dk_at dksX0_wordOf_0 16 rfl rfl)
theorem dX0_wordOf_17 : decode cX0_wordOf 17 = .ok (.aload_n 1, 1) := dk_43 (dk_at dksX0_wordOf_0 17 rfl rfl)
theorem dX0_wordOf_18 : decode cX0_wordOf 18 = .ok (.invokevirtual 135, 3) := dk_182 0 135 (dk_at dksX0_wordOf_0 18 rfl rfl)
theorem dX0_wordOf_21 : decode cX0_wordOf 21 = .ok (.ifCond .ne 9, 3) := dk_154 0 9 (dk_at dksX0_wordOf_0 21 rfl rfl)
theorem dX0_wordOf_24 : decode cX0_wordOf 24 = .ok (.iinc 2 (-1), 3) := dk_132 2 255 (dk_at dksX0_wordOf_1 0 rfl rfl)
theorem dX0_wordOf_27 : decode cX0_wordOf 27 = .ok (.goto (-20), 3) := dk_167 255 236 (dk_at dksX0_wordOf_1 3 rfl rfl)
theorem dX0_wordOf_30 : decode cX0_wordOf 30 = .ok (.iload_n 2, 1) := dk_28 (dk_at dksX0_wordOf_1 6 rfl rfl)
theorem dX0_wordOf_31 : decode cX0_wordOf 31 = .ok (.ireturn, 1) := dk_172 (dk_at dksX0_wordOf_1 7 rfl rfl)
abbrev cX0_refuses : ByteArray := prog_1_method_4_code
def yX0_refuses : MethodName := ⟨RX0, "refuses", "(LPatentHall$Refused;)I"⟩
def dkwX0_refuses_1 : List UInt8 := [42, 43, 180, 0, 104, 181, 0, 107, 2, 172]
abbrev dktX0_refuses_1 : List UInt8 := dkwX0_refuses_1 ++ []
def dkwX0_refuses_0 : List UInt8 := [42, 43, 180, 0, 98, 181, 0, 91, 42, 43, 180, 0, 101, 181, 0, 71, 43, 180, 0, 98, 7, 160, 0, 11]
abbrev dktX0_refuses_0 : List UInt8 := dkwX0_refuses_0 ++ dktX0_refuses_1
theorem dksX0_refuses_0 : cX0_refuses.data.toList.drop 0 = dktX0_refuses_0 := by decide +kernel
theorem dksX0_refuses_1 : cX0_refuses.data.toList.drop 24 = dktX0_refuses_1 := dk_seg dksX0_refuses_0 24 rfl rfl
theorem dX0_refuses_0 : decode cX0_refuses 0 = .ok (.aload_n 0, 1) := dk_42 (dk_at dksX0_refuses_0 0 rfl rfl)
theorem dX0_refuses_1 : decode cX0_refuses 1 = .ok (.aload_n 1, 1) := dk_43 (dk_at dksX0_refuses_0 1 rfl rfl)
theorem dX0_refuses_2 : decode cX0_refuses 2 = .ok (.getfield 98, 3) := dk_180 0 98 (dk_at dksX0_refuses_0 2 rfl rfl)
theorem dX0_refuses_5 : decode cX0_refuses 5 = .ok (.putfield 91, 3) := dk_181 0 91 (dk_at dksX0_refuses_0 5 rfl rfl)
theorem dX0_refuses_8 : decode cX0_refuses 8 = .ok (.aload_n 0, 1) := dk_42 (dk_at dksX0_refuses_0 8 rfl rfl)
theorem dX0_refuses_9 : decode cX0_refuses 9 = .ok (.aload_n 1, 1) := dk_43 (dk_at dksX0_refuses_0 9 rfl rfl)
theorem dX0_refuses_10 : decode cX0_refuses 10 = .ok (.getfield 101, 3) := dk_180 0 101 (dk_at dksX0_refuses_0 10 rfl rfl)
theorem dX0_refuses_13 : decode cX0_refuses 13 = .ok (.putfield 71, 3) := dk_181 0 71 (dk_at dksX0_refuses_0 13 rfl rfl)
theorem dX0_refuses_16 : decode cX0_refuses 16 = .ok (.aload_n 1, 1) := dk_43 (dk_at dksX0_refuses_0 16 rfl rfl)
theorem dX0_refuses_17 : decode cX0_refuses 17 = .ok (.getfield 98, 3) := dk_180 0 98 (dk_at dksX0_refuses_0 17 rfl rfl)
theorem dX0_refuses_20 : decode cX0_refuses 20 = .ok (.iconst 4, 1) := dk_7 (dk_at dksX0_refuses_0 20 rfl rfl)
theorem dX0_refuses_21 : decode cX0_refuses 21 = .ok (.if_icmp .ne 11, 3) := dk_160 0 11 (dk_at dksX0_refuses_0 21 rfl rfl)
theorem dX0_refuses_24 : decode cX0_refuses 24 = .ok (.aload_n 0, 1) := dk_42 (dk_at dksX0_refuses_1 0 rfl rfl)
theorem dX0_refuses_25 : decode cX0_refuses 25 = .ok (.aload_n 1, 1) := dk_43 (dk_at dksX0_refuses_1 1 rfl rfl)
theorem dX0_refuses_26 : decode cX0_refuses 26 = .ok (.getfield 104, 3) := dk_180 0 104 (dk_at dksX0_refuses_1 2 rfl rfl)
theorem dX0_refuses_29 : decode cX0_refuses 29 = .ok (.putfield 107, 3) := dk_181 0 107 (dk_at dksX0_refuses_1 5 rfl rfl)
theorem dX0_refuses_32 : decode cX0_refuses 32 = .ok (.iconst (-1), 1) := dk_2 (dk_at dksX0_refuses_1 8 rfl rfl)
theorem dX0_refuses_33 : decode cX0_refuses 33 = .ok (.ireturn, 1) := dk_172 (dk_at dksX0_refuses_1 9 rfl rfl)
abbrev cX0_did : ByteArray := prog_1_method_8_code
def yX0_did : MethodName := ⟨RX0, "did", "(LPatentHall$Act;)V"⟩
def dkwX0_did_2 : List UInt8 := [180, 0, 116, 4, 96, 181, 0, 116, 177]
abbrev dktX0_did_2 : List UInt8 := dkwX0_did_2 ++ []
def dkwX0_did_1 : List UInt8 := [42, 89, 180, 0, 116, 4, 100, 181, 0, 116, 42, 180, 0, 67, 42, 180, 0, 116, 43, 83, 42, 89]
abbrev dktX0_did_1 : List UInt8 := dkwX0_did_1 ++ dktX0_did_2
def dkwX0_did_0 : List UInt8 := [42, 180, 0, 116, 16, 100, 160, 0, 28, 42, 180, 0, 67, 4, 42, 180, 0, 67, 3, 16, 99, 184, 0, 119]
abbrev dktX0_did_0 : List UInt8 := dkwX0_did_0 ++ dktX0_did_1
theorem dksX0_did_0 : cX0_did.data.toList.drop 0 = dktX0_did_0 := by decide +kernel
theorem dksX0_did_1 : cX0_did.data.toList.drop 24 = dktX0_did_1 := dk_seg dksX0_did_0 24 rfl rfl
theorem dksX0_did_2 : cX0_did.data.toList.drop 46 = dktX0_did_2 := dk_seg dksX0_did_1 22 rfl rfl
theorem dX0_did_0 : decode cX0_did 0 = .ok (.aload_n 0, 1) := dk_42 (dk_at dksX0_did_0 0 rfl rfl)
theorem dX0_did_1 : decode cX0_did 1 = .ok (.getfield 116, 3) := dk_180 0 116 (dk_at dksX0_did_0 1 rfl rfl)
theorem dX0_did_4 : decode cX0_did 4 = .ok (.bipush 100, 2) := dk_16 100 (dk_at dksX0_did_0 4 rfl rfl)
theorem dX0_did_6 : decode cX0_did 6 = .ok (.if_icmp .ne 28, 3) := dk_160 0 28 (dk_at dksX0_did_0 6 rfl rfl)
theorem dX0_did_9 : decode cX0_did 9 = .ok (.aload_n 0, 1) := dk_42 (dk_at dksX0_did_0 9 rfl rfl)
theorem dX0_did_10 : decode cX0_did 10 = .ok (.getfield 67, 3) := dk_180 0 67 (dk_at dksX0_did_0 10 rfl rfl)
theorem dX0_did_13 : decode cX0_did 13 = .ok (.iconst 1, 1) := dk_4 (dk_at dksX0_did_0 13 rfl rfl)
theorem dX0_did_14 : decode cX0_did 14 = .ok (.aload_n 0, 1) := dk_42 (dk_at dksX0_did_0 14 rfl rfl)
theorem dX0_did_15 : decode cX0_did 15 = .ok (.getfield 67, 3) := dk_180 0 67 (dk_at dksX0_did_0 15 rfl rfl)
theorem dX0_did_18 : decode cX0_did 18 = .ok (.iconst 0, 1) := dk_3 (dk_at dksX0_did_0 18 rfl rfl)
theorem dX0_did_19 : decode cX0_did 19 = .ok (.bipush 99, 2) := dk_16 99 (dk_at dksX0_did_0 19 rfl rfl)
theorem dX0_did_21 : decode cX0_did 21 = .ok (.invokestatic 119, 3) := dk_184 0 119 (dk_at dksX0_did_0 21 rfl rfl)
theorem dX0_did_24 : decode cX0_did 24 = .ok (.aload_n 0, 1) := dk_42 (dk_at dksX0_did_1 0 rfl rfl)
theorem dX0_did_25 : decode cX0_did 25 = .ok (.dup, 1) := dk_89 (dk_at dksX0_did_1 1 rfl rfl)
theorem dX0_did_26 : decode cX0_did 26 = .ok (.getfield 116, 3) := dk_180 0 116 (dk_at dksX0_did_1 2 rfl rfl)
theorem dX0_did_29 : decode cX0_did 29 = .ok (.iconst 1, 1) := dk_4 (dk_at dksX0_did_1 5 rfl rfl)
theorem dX0_did_30 : decode cX0_did 30 = .ok (.isub, 1) := dk_100 (dk_at dksX0_did_1 6 rfl rfl)
theorem dX0_did_31 : decode cX0_did 31 = .ok (.putfield 116, 3) := dk_181 0 116 (dk_at dksX0_did_1 7 rfl rfl)
theorem dX0_did_34 : decode cX0_did 34 = .ok (.aload_n 0, 1) := dk_42 (dk_at dksX0_did_1 10 rfl rfl)
theorem dX0_did_35 : decode cX0_did 35 = .ok (.getfield 67, 3) := dk_180 0 67 (dk_at dksX0_did_1 11 rfl rfl)
theorem dX0_did_38 : decode cX0_did 38 = .ok (.aload_n 0, 1) := dk_42 (dk_at dksX0_did_1 14 rfl rfl)
theorem dX0_did_39 : decode cX0_did 39 = .ok (.getfield 116, 3) := dk_180 0 116 (dk_at dksX0_did_1 15 rfl rfl)
theorem dX0_did_42 : decode cX0_did 42 = .ok (.aload_n 1, 1) := dk_43 (dk_at dksX0_did_1 18 rfl rfl)
theorem dX0_did_43 : decode cX0_did 43 = .ok (.aastore, 1) := dk_83 (dk_at dksX0_did_1 19 rfl rfl)
theorem dX0_did_44 : decode cX0_did 44 = .ok (.aload_n 0, 1) := dk_42 (dk_at dksX0_did_1 20 rfl rfl)
theorem dX0_did_45 : decode cX0_did 45 = .ok (.dup, 1) := dk_89 (dk_at dksX0_did_1 21 rfl rfl)
theorem dX0_did_46 : decode cX0_did 46 = .ok (.getfield 116, 3) := dk_180 0 116 (dk_at dksX0_did_2 0 rfl rfl)
theorem dX0_did_49 : decode cX0_did 49 = .ok (.iconst 1, 1) := dk_4 (dk_at dksX0_did_2 3 rfl rfl)
theorem dX0_did_50 : decode cX0_did 50 = .ok (.iadd, 1) := dk_96 (dk_at dksX0_did_2 4 rfl rfl)
theorem dX0_did_51 : decode cX0_did 51 = .ok (.putfield 116, 3) := dk_181 0 116 (dk_at dksX0_did_2 5 rfl rfl)
theorem dX0_did_54 : decode cX0_did 54 = .ok (.return_, 1) := dk_177 (dk_at dksX0_did_2 8 rfl rfl)
abbrev cX0_under : ByteArray := prog_1_method_14_code
def yX0_under : MethodName := ⟨RX0, "under", "(II)I"⟩
def dkwX0_under_1 : List UInt8 := [184, 0, 112, 154, 0, 5, 2, 172, 42, 27, 28, 182, 0, 161, 153, 0, 7, 4, 167, 0, 4, 3, 172]
abbrev dktX0_under_1 : List UInt8 := dkwX0_under_1 ++ []
def dkwX0_under_0 : List UInt8 := [27, 3, 42, 180, 0, 132, 4, 100, 184, 0, 112, 153, 0, 17, 28, 3, 42, 180, 0, 132, 4, 100]
abbrev dktX0_under_0 : List UInt8 := dkwX0_under_0 ++ dktX0_under_1
theorem dksX0_under_0 : cX0_under.data.toList.drop 0 = dktX0_under_0 := by decide +kernel
theorem dksX0_under_1 : cX0_under.data.toList.drop 22 = dktX0_under_1 := dk_seg dksX0_under_0 22 rfl rfl
theorem dX0_under_0 : decode cX0_under 0 = .ok (.iload_n 1, 1) := dk_27 (dk_at dksX0_under_0 0 rfl rfl)
theorem dX0_under_1 : decode cX0_under 1 = .ok (.iconst 0, 1) := dk_3 (dk_at dksX0_under_0 1 rfl rfl)
theorem dX0_under_2 : decode cX0_under 2 = .ok (.aload_n 0, 1) := dk_42 (dk_at dksX0_under_0 2 rfl rfl)
theorem dX0_under_3 : decode cX0_under 3 = .ok (.getfield 132, 3) := dk_180 0 132 (dk_at dksX0_under_0 3 rfl rfl)
theorem dX0_under_6 : decode cX0_under 6 = .ok (.iconst 1, 1) := dk_4 (dk_at dksX0_under_0 6 rfl rfl)
theorem dX0_under_7 : decode cX0_under 7 = .ok (.isub, 1) := dk_100 (dk_at dksX0_under_0 7 rfl rfl)
theorem dX0_under_8 : decode cX0_under 8 = .ok (.invokestatic 112, 3) := dk_184 0 112 (dk_at dksX0_under_0 8 rfl rfl)
theorem dX0_under_11 : decode cX0_under 11 = .ok (.ifCond .eq 17, 3) := dk_153 0 17 (dk_at dksX0_under_0 11 rfl rfl)
theorem dX0_under_14 : decode cX0_under 14 = .ok (.iload_n 2, 1) := dk_28 (dk_at dksX0_under_0 14 rfl rfl)
theorem dX0_under_15 : decode cX0_under 15 = .ok (.iconst 0, 1) := dk_3 (dk_at dksX0_under_0 15 rfl rfl)
theorem dX0_under_16 : decode cX0_under 16 = .ok (.aload_n 0, 1) := dk_42 (dk_at dksX0_under_0 16 rfl rfl)
theorem dX0_under_17 : decode cX0_under 17 = .ok (.getfield 132, 3) := dk_180 0 132 (dk_at dksX0_under_0 17 rfl rfl)
theorem dX0_under_20 : decode cX0_under 20 = .ok (.iconst 1, 1) := dk_4 (dk_at dksX0_under_0 20 rfl rfl)
theorem dX0_under_21 : decode cX0_under 21 = .ok (.isub, 1) := dk_100 (dk_at dksX0_under_0 21 rfl rfl)
theorem dX0_under_22 : decode cX0_under 22 = .ok (.invokestatic 112, 3) := dk_184 0 112 (dk_at dksX0_under_1 0 rfl rfl)
theorem dX0_under_25 : decode cX0_under 25 = .ok (.ifCond .ne 5, 3) := dk_154 0 5 (dk_at dksX0_under_1 3 rfl rfl)
theorem dX0_under_28 : decode cX0_under 28 = .ok (.iconst (-1), 1) := dk_2 (dk_at dksX0_under_1 6 rfl rfl)
theorem dX0_under_29 : decode cX0_under 29 = .ok (.ireturn, 1) := dk_172 (dk_at dksX0_under_1 7 rfl rfl)
theorem dX0_under_30 : decode cX0_under 30 = .ok (.aload_n 0, 1) := dk_42 (dk_at dksX0_under_1 8 rfl rfl)
theorem dX0_under_31 : decode cX0_under 31 = .ok (.iload_n 1, 1) := dk_27 (dk_at dksX0_under_1 9 rfl rfl)
theorem dX0_under_32 : decode cX0_under 32 = .ok (.iload_n 2, 1) := dk_28 (dk_at dksX0_under_1 10 rfl rfl)
theorem dX0_under_33 : decode cX0_under 33 = .ok (.invokevirtual 161, 3) := dk_182 0 161 (dk_at dksX0_under_1 11 rfl rfl)
theorem dX0_under_36 : decode cX0_under 36 = .ok (.ifCond .eq 7, 3) := dk_153 0 7 (dk_at dksX0_under_1 14 rfl rfl)
theorem dX0_under_39 : decode cX0_under 39 = .ok (.iconst 1, 1) := dk_4 (dk_at dksX0_under_1 17 rfl rfl)
theorem dX0_under_40 : decode cX0_under 40 = .ok (.goto 4, 3) := dk_167 0 4 (dk_at dksX0_under_1 18 rfl rfl)
theorem dX0_under_43 : decode cX0_under 43 = .ok (.iconst 0, 1) := dk_3 (dk_at dksX0_under_1 21 rfl rfl)
theorem dX0_under_44 : decode cX0_under 44 = .ok (.ireturn, 1) := dk_172 (dk_at dksX0_under_1 22 rfl rfl)
abbrev cX0_isUnder : ByteArray := prog_1_method_12_code
def yX0_isUnder : MethodName := ⟨RX0, "isUnder", "(II)Z"⟩
def dkwX0_isUnder_1 : List UInt8 := [160, 0, 7, 4, 167, 0, 4, 3, 172]
abbrev dktX0_isUnder_1 : List UInt8 := dkwX0_isUnder_1 ++ []
def dkwX0_isUnder_0 : List UInt8 := [27, 62, 29, 2, 159, 0, 18, 29, 28, 159, 0, 13, 42, 180, 0, 37, 29, 46, 62, 167, 255, 239, 29, 28]
abbrev dktX0_isUnder_0 : List UInt8 := dkwX0_isUnder_0 ++ dktX0_isUnder_1
theorem dksX0_isUnder_0 : cX0_isUnder.data.toList.drop 0 = dktX0_isUnder_0 := by decide +kernel
theorem dksX0_isUnder_1 : cX0_isUnder.data.toList.drop 24 = dktX0_isUnder_1 := dk_seg dksX0_isUnder_0 24 rfl rfl
theorem dX0_isUnder_0 : decode cX0_isUnder 0 = .ok (.iload_n 1, 1) := dk_27 (dk_at dksX0_isUnder_0 0 rfl rfl)
theorem dX0_isUnder_1 : decode cX0_isUnder 1 = .ok (.istore_n 3, 1) := dk_62 (dk_at dksX0_isUnder_0 1 rfl rfl)
theorem dX0_isUnder_2 : decode cX0_isUnder 2 = .ok (.iload_n 3, 1) := dk_29 (dk_at dksX0_isUnder_0 2 rfl rfl)
theorem dX0_isUnder_3 : decode cX0_isUnder 3 = .ok (.iconst (-1), 1) := dk_2 (dk_at dksX0_isUnder_0 3 rfl rfl)
theorem dX0_isUnder_4 : decode cX0_isUnder 4 = .ok (.if_icmp .eq 18, 3) := dk_159 0 18 (dk_at dksX0_isUnder_0 4 rfl rfl)
theorem dX0_isUnder_7 : decode cX0_isUnder 7 = .ok (.iload_n 3, 1) := dk_29 (dk_at dksX0_isUnder_0 7 rfl rfl)
theorem dX0_isUnder_8 : decode cX0_isUnder 8 = .ok (.iload_n 2, 1) := dk_28 (dk_at dksX0_isUnder_0 8 rfl rfl)
theorem dX0_isUnder_9 : decode cX0_isUnder 9 = .ok (.if_icmp .eq 13, 3) := dk_159 0 13 (dk_at dksX0_isUnder_0 9 rfl rfl)
theorem dX0_isUnder_12 : decode cX0_isUnder 12 = .ok (.aload_n 0, 1) := dk_42 (dk_at dksX0_isUnder_0 12 rfl rfl)
theorem dX0_isUnder_13 : decode cX0_isUnder 13 = .ok (.getfield 37, 3) := dk_180 0 37 (dk_at dksX0_isUnder_0 13 rfl rfl)
theorem dX0_isUnder_16 : decode cX0_isUnder 16 = .ok (.iload_n 3, 1) := dk_29 (dk_at dksX0_isUnder_0 16 rfl rfl)
theorem dX0_isUnder_17 : decode cX0_isUnder 17 = .ok (.iaload, 1) := dk_46 (dk_at dksX0_isUnder_0 17 rfl rfl)
theorem dX0_isUnder_18 : decode cX0_isUnder 18 = .ok (.istore_n 3, 1) := dk_62 (dk_at dksX0_isUnder_0 18 rfl rfl)
theorem dX0_isUnder_19 : decode cX0_isUnder 19 = .ok (.goto (-17), 3) := dk_167 255 239 (dk_at dksX0_isUnder_0 19 rfl rfl)
theorem dX0_isUnder_22 : decode cX0_isUnder 22 = .ok (.iload_n 3, 1) := dk_29 (dk_at dksX0_isUnder_0 22 rfl rfl)
theorem dX0_isUnder_23 : decode cX0_isUnder 23 = .ok (.iload_n 2, 1) := dk_28 (dk_at dksX0_isUnder_0 23 rfl rfl)
theorem dX0_isUnder_24 : decode cX0_isUnder 24 = .ok (.if_icmp .ne 7, 3) := dk_160 0 7 (dk_at dksX0_isUnder_1 0 rfl rfl)
theorem dX0_isUnder_27 : decode cX0_isUnder 27 = .ok (.iconst 1, 1) := dk_4 (dk_at dksX0_isUnder_1 3 rfl rfl)
theorem dX0_isUnder_28 : decode cX0_isUnder 28 = .ok (.goto 4, 3) := dk_167 0 4 (dk_at dksX0_isUnder_1 4 rfl rfl)
theorem dX0_isUnder_31 : decode cX0_isUnder 31 = .ok (.iconst 0, 1) := dk_3 (dk_at dksX0_isUnder_1 7 rfl rfl)
theorem dX0_isUnder_32 : decode cX0_isUnder 32 = .ok (.ireturn, 1) := dk_172 (dk_at dksX0_isUnder_1 8 rfl rfl)
abbrev cX0_pass : ByteArray := prog_1_method_15_code
def yX0_pass : MethodName := ⟨RX0, "pass", "(I)I"⟩
def dkwX0_pass_2 : List UInt8 := [89, 42, 27, 183, 0, 170, 182, 0, 157, 42, 180, 0, 165, 172]
abbrev dktX0_pass_2 : List UInt8 := dkwX0_pass_2 ++ []
def dkwX0_pass_1 : List UInt8 := [164, 0, 10, 42, 5, 181, 0, 91, 2, 172, 42, 89, 180, 0, 165, 27, 96, 181, 0, 165, 42, 187, 0, 168]
abbrev dktX0_pass_1 : List UInt8 := dkwX0_pass_1 ++ dktX0_pass_2
def dkwX0_pass_0 : List UInt8 := [42, 182, 0, 139, 27, 4, 17, 19, 136, 184, 0, 112, 153, 0, 15, 42, 180, 0, 165, 27, 96, 17, 78, 32]
abbrev dktX0_pass_0 : List UInt8 := dkwX0_pass_0 ++ dktX0_pass_1
theorem dksX0_pass_0 : cX0_pass.data.toList.drop 0 = dktX0_pass_0 := by decide +kernel
theorem dksX0_pass_1 : cX0_pass.data.toList.drop 24 = dktX0_pass_1 := dk_seg dksX0_pass_0 24 rfl rfl
theorem dksX0_pass_2 : cX0_pass.data.toList.drop 48 = dktX0_pass_2 := dk_seg dksX0_pass_1 24 rfl rfl
theorem dX0_pass_0 : decode cX0_pass 0 = .ok (.aload_n 0, 1) := dk_42 (dk_at dksX0_pass_0 0 rfl rfl)
theorem dX0_pass_1 : decode cX0_pass 1 = .ok (.invokevirtual 139, 3) := dk_182 0 139 (dk_at dksX0_pass_0 1 rfl rfl)
theorem dX0_pass_4 : decode cX0_pass 4 = .ok (.iload_n 1, 1) := dk_27 (dk_at dksX0_pass_0 4 rfl rfl)
theorem dX0_pass_5 : decode cX0_pass 5 = .ok (.iconst 1, 1) := dk_4 (dk_at dksX0_pass_0 5 rfl rfl)
theorem dX0_pass_6 : decode cX0_pass 6 = .ok (.sipush 5000, 3) := dk_17 19 136 (dk_at dksX0_pass_0 6 rfl rfl)
theorem dX0_pass_9 : decode cX0_pass 9 = .ok (.invokestatic 112, 3) := dk_184 0 112 (dk_at dksX0_pass_0 9 rfl rfl)
theorem dX0_pass_12 : decode cX0_pass 12 = .ok (.ifCond .eq 15, 3) := dk_153 0 15 (dk_at dksX0_pass_0 12 rfl rfl)
theorem dX0_pass_15 : decode cX0_pass 15 = .ok (.aload_n 0, 1) := dk_42 (dk_at dksX0_pass_0 15 rfl rfl)
theorem dX0_pass_16 : decode cX0_pass 16 = .ok (.getfield 165, 3) := dk_180 0 165 (dk_at dksX0_pass_0 16 rfl rfl)
theorem dX0_pass_19 : decode cX0_pass 19 = .ok (.iload_n 1, 1) := dk_27 (dk_at dksX0_pass_0 19 rfl rfl)
theorem dX0_pass_20 : decode cX0_pass 20 = .ok (.iadd, 1) := dk_96 (dk_at dksX0_pass_0 20 rfl rfl)
theorem dX0_pass_21 : decode cX0_pass 21 = .ok (.sipush 20000, 3) := dk_17 78 32 (dk_at dksX0_pass_0 21 rfl rfl)
theorem dX0_pass_24 : decode cX0_pass 24 = .ok (.if_icmp .le 10, 3) := dk_164 0 10 (dk_at dksX0_pass_1 0 rfl rfl)
theorem dX0_pass_27 : decode cX0_pass 27 = .ok (.aload_n 0, 1) := dk_42 (dk_at dksX0_pass_1 3 rfl rfl)
theorem dX0_pass_28 : decode cX0_pass 28 = .ok (.iconst 2, 1) := dk_5 (dk_at dksX0_pass_1 4 rfl rfl)
theorem dX0_pass_29 : decode cX0_pass 29 = .ok (.putfield 91, 3) := dk_181 0 91 (dk_at dksX0_pass_1 5 rfl rfl)
theorem dX0_pass_32 : decode cX0_pass 32 = .ok (.iconst (-1), 1) := dk_2 (dk_at dksX0_pass_1 8 rfl rfl)
theorem dX0_pass_33 : decode cX0_pass 33 = .ok (.ireturn, 1) := dk_172 (dk_at dksX0_pass_1 9 rfl rfl)
theorem dX0_pass_34 : decode cX0_pass 34 = .ok (.aload_n 0, 1) := dk_42 (dk_at dksX0_pass_1 10 rfl rfl)
theorem dX0_pass_35 : decode cX0_pass 35 = .ok (.dup, 1) := dk_89 (dk_at dksX0_pass_1 11 rfl rfl)
theorem dX0_pass_36 : decode cX0_pass 36 = .ok (.getfield 165, 3) := dk_180 0 165 (dk_at dksX0_pass_1 12 rfl rfl)
theorem dX0_pass_39 : decode cX0_pass 39 = .ok (.iload_n 1, 1) := dk_27 (dk_at dksX0_pass_1 15 rfl rfl)
theorem dX0_pass_40 : decode cX0_pass 40 = .ok (.iadd, 1) := dk_96 (dk_at dksX0_pass_1 16 rfl rfl)
theorem dX0_pass_41 : decode cX0_pass 41 = .ok (.putfield 165, 3) := dk_181 0 165 (dk_at dksX0_pass_1 17 rfl rfl)
theorem dX0_pass_44 : decode cX0_pass 44 = .ok (.aload_n 0, 1) := dk_42 (dk_at dksX0_pass_1 20 rfl rfl)
theorem dX0_pass_45 : decode cX0_pass 45 = .ok (.new 168, 3) := dk_187 0 168 (dk_at dksX0_pass_1 21 rfl rfl)
theorem dX0_pass_48 : decode cX0_pass 48 = .ok (.dup, 1) := dk_89 (dk_at dksX0_pass_2 0 rfl rfl)
theorem dX0_pass_49 : decode cX0_pass 49 = .ok (.aload_n 0, 1) := dk_42 (dk_at dksX0_pass_2 1 rfl rfl)
theorem dX0_pass_50 : decode cX0_pass 50 = .ok (.iload_n 1, 1) := dk_27 (dk_at dksX0_pass_2 2 rfl rfl)
theorem dX0_pass_51 : decode cX0_pass 51 = .ok (.invokespecial 170, 3) := dk_183 0 170 (dk_at dksX0_pass_2 3 rfl rfl)
theorem dX0_pass_54 : decode cX0_pass 54 = .ok (.invokevirtual 157, 3) := dk_182 0 157 (dk_at dksX0_pass_2 6 rfl rfl)
theorem dX0_pass_57 : decode cX0_pass 57 = .ok (.aload_n 0, 1) := dk_42 (dk_at dksX0_pass_2 9 rfl rfl)
theorem dX0_pass_58 : decode cX0_pass 58 = .ok (.getfield 165, 3) := dk_180 0 165 (dk_at dksX0_pass_2 10 rfl rfl)
theorem dX0_pass_61 : decode cX0_pass 61 = .ok (.ireturn, 1) := dk_172 (dk_at dksX0_pass_2 13 rfl rfl)
abbrev cX0_paper : ByteArray := prog_1_method_17_code
def yX0_paper : MethodName := ⟨RX0, "paper", "(II)I"⟩
def dkwX0_paper_5 : List UInt8 := [187, 0, 190, 89, 42, 183, 0, 192, 182, 0, 157, 42, 180, 0, 184, 4, 100, 172]
abbrev dktX0_paper_5 : List UInt8 := dkwX0_paper_5 ++ []
def dkwX0_paper_4 : List UInt8 := [83, 167, 0, 10, 78, 42, 45, 182, 0, 108, 172, 42, 89, 180, 0, 184, 4, 96, 181, 0, 184, 42]
abbrev dktX0_paper_4 : List UInt8 := dkwX0_paper_4 ++ dktX0_paper_5
def dkwX0_paper_3 : List UInt8 := [182, 0, 142, 42, 180, 0, 43, 42, 180, 0, 184, 187, 0, 41, 89, 45, 42, 180, 0, 165, 27, 183, 0, 187]
abbrev dktX0_paper_3 : List UInt8 := dkwX0_paper_3 ++ dktX0_paper_4
def dkwX0_paper_2 : List UInt8 := [16, 8, 16, 10, 182, 0, 180, 78, 42, 42, 180, 0, 184, 16, 20, 162, 0, 7, 4, 167, 0, 4, 3, 6]
abbrev dktX0_paper_2 : List UInt8 := dkwX0_paper_2 ++ dktX0_paper_3
def dkwX0_paper_1 : List UInt8 := [184, 0, 112, 153, 0, 7, 4, 167, 0, 4, 3, 5, 182, 0, 142, 42, 28, 187, 0, 177, 89, 183, 0, 179]
abbrev dktX0_paper_1 : List UInt8 := dkwX0_paper_1 ++ dktX0_paper_2
def dkwX0_paper_0 : List UInt8 := [42, 182, 0, 139, 42, 27, 3, 42, 180, 0, 165, 184, 0, 112, 153, 0, 19, 28, 3, 42, 180, 0, 125]
abbrev dktX0_paper_0 : List UInt8 := dkwX0_paper_0 ++ dktX0_paper_1
theorem dksX0_paper_0 : cX0_paper.data.toList.drop 0 = dktX0_paper_0 := by decide +kernel
theorem dksX0_paper_1 : cX0_paper.data.toList.drop 23 = dktX0_paper_1 := dk_seg dksX0_paper_0 23 rfl rfl
theorem dksX0_paper_2 : cX0_paper.data.toList.drop 47 = dktX0_paper_2 := dk_seg dksX0_paper_1 24 rfl rfl
theorem dksX0_paper_3 : cX0_paper.data.toList.drop 71 = dktX0_paper_3 := dk_seg dksX0_paper_2 24 rfl rfl
theorem dksX0_paper_4 : cX0_paper.data.toList.drop 95 = dktX0_paper_4 := dk_seg dksX0_paper_3 24 rfl rfl
theorem dksX0_paper_5 : cX0_paper.data.toList.drop 117 = dktX0_paper_5 := dk_seg dksX0_paper_4 22 rfl rfl
theorem dX0_paper_0 : decode cX0_paper 0 = .ok (.aload_n 0, 1) := dk_42 (dk_at dksX0_paper_0 0 rfl rfl)
theorem dX0_paper_1 : decode cX0_paper 1 = .ok (.invokevirtual 139, 3) := dk_182 0 139 (dk_at dksX0_paper_0 1 rfl rfl)
theorem dX0_paper_4 : decode cX0_paper 4 = .ok (.aload_n 0, 1) := dk_42 (dk_at dksX0_paper_0 4 rfl rfl)
theorem dX0_paper_5 : decode cX0_paper 5 = .ok (.iload_n 1, 1) := dk_27 (dk_at dksX0_paper_0 5 rfl rfl)
theorem dX0_paper_6 : decode cX0_paper 6 = .ok (.iconst 0, 1) := dk_3 (dk_at dksX0_paper_0 6 rfl rfl)
theorem dX0_paper_7 : decode cX0_paper 7 = .ok (.aload_n 0, 1) := dk_42 (dk_at dksX0_paper_0 7 rfl rfl)
theorem dX0_paper_8 : decode cX0_paper 8 = .ok (.getfield 165, 3) := dk_180 0 165 (dk_at dksX0_paper_0 8 rfl rfl)
theorem dX0_paper_11 : decode cX0_paper 11 = .ok (.invokestatic 112, 3) := dk_184 0 112 (dk_at dksX0_paper_0 11 rfl rfl)
theorem dX0_paper_14 : decode cX0_paper 14 = .ok (.ifCond .eq 19, 3) := dk_153 0 19 (dk_at dksX0_paper_0 14 rfl rfl)
theorem dX0_paper_17 : decode cX0_paper 17 = .ok (.iload_n 2, 1) := dk_28 (dk_at dksX0_paper_0 17 rfl rfl)
theorem dX0_paper_18 : decode cX0_paper 18 = .ok (.iconst 0, 1) := dk_3 (dk_at dksX0_paper_0 18 rfl rfl)
theorem dX0_paper_19 : decode cX0_paper 19 = .ok (.aload_n 0, 1) := dk_42 (dk_at dksX0_paper_0 19 rfl rfl)
theorem dX0_paper_20 : decode cX0_paper 20 = .ok (.getfield 125, 3) := dk_180 0 125 (dk_at dksX0_paper_0 20 rfl rfl)
theorem dX0_paper_23 : decode cX0_paper 23 = .ok (.invokestatic 112, 3) := dk_184 0 112 (dk_at dksX0_paper_1 0 rfl rfl)
theorem dX0_paper_26 : decode cX0_paper 26 = .ok (.ifCond .eq 7, 3) := dk_153 0 7 (dk_at dksX0_paper_1 3 rfl rfl)
theorem dX0_paper_29 : decode cX0_paper 29 = .ok (.iconst 1, 1) := dk_4 (dk_at dksX0_paper_1 6 rfl rfl)
theorem dX0_paper_30 : decode cX0_paper 30 = .ok (.goto 4, 3) := dk_167 0 4 (dk_at dksX0_paper_1 7 rfl rfl)
theorem dX0_paper_33 : decode cX0_paper 33 = .ok (.iconst 0, 1) := dk_3 (dk_at dksX0_paper_1 10 rfl rfl)
theorem dX0_paper_34 : decode cX0_paper 34 = .ok (.iconst 2, 1) := dk_5 (dk_at dksX0_paper_1 11 rfl rfl)
theorem dX0_paper_35 : decode cX0_paper 35 = .ok (.invokevirtual 142, 3) := dk_182 0 142 (dk_at dksX0_paper_1 12 rfl rfl)
theorem dX0_paper_38 : decode cX0_paper 38 = .ok (.aload_n 0, 1) := dk_42 (dk_at dksX0_paper_1 15 rfl rfl)
theorem dX0_paper_39 : decode cX0_paper 39 = .ok (.iload_n 2, 1) := dk_28 (dk_at dksX0_paper_1 16 rfl rfl)
theorem dX0_paper_40 : decode cX0_paper 40 = .ok (.new 177, 3) := dk_187 0 177 (dk_at dksX0_paper_1 17 rfl rfl)
theorem dX0_paper_43 : decode cX0_paper 43 = .ok (.dup, 1) := dk_89 (dk_at dksX0_paper_1 20 rfl rfl)
theorem dX0_paper_44 : decode cX0_paper 44 = .ok (.invokespecial 179, 3) := dk_183 0 179 (dk_at dksX0_paper_1 21 rfl rfl)
theorem dX0_paper_47 : decode cX0_paper 47 = .ok (.bipush 8, 2) := dk_16 8 (dk_at dksX0_paper_2 0 rfl rfl)
theorem dX0_paper_49 : decode cX0_paper 49 = .ok (.bipush 10, 2) := dk_16 10 (dk_at dksX0_paper_2 2 rfl rfl)
theorem dX0_paper_51 : decode cX0_paper 51 = .ok (.invokevirtual 180, 3) := dk_182 0 180 (dk_at dksX0_paper_2 4 rfl rfl)
theorem dX0_paper_54 : decode cX0_paper 54 = .ok (.astore_n 3, 1) := dk_78 (dk_at dksX0_paper_2 7 rfl rfl)
theorem dX0_paper_55 : decode cX0_paper 55 = .ok (.aload_n 0, 1) := dk_42 (dk_at dksX0_paper_2 8 rfl rfl)
theorem dX0_paper_56 : decode cX0_paper 56 = .ok (.aload_n 0, 1) := dk_42 (dk_at dksX0_paper_2 9 rfl rfl)
theorem dX0_paper_57 : decode cX0_paper 57 = .ok (.getfield 184, 3) := dk_180 0 184 (dk_at dksX0_paper_2 10 rfl rfl)
theorem dX0_paper_60 : decode cX0_paper 60 = .ok (.bipush 20, 2) := dk_16 20 (dk_at dksX0_paper_2 13 rfl rfl)
theorem dX0_paper_62 : decode cX0_paper 62 = .ok (.if_icmp .ge 7, 3) := dk_162 0 7 (dk_at dksX0_paper_2 15 rfl rfl)
theorem dX0_paper_65 : decode cX0_paper 65 = .ok (.iconst 1, 1) := dk_4 (dk_at dksX0_paper_2 18 rfl rfl)
theorem dX0_paper_66 : decode cX0_paper 66 = .ok (.goto 4, 3) := dk_167 0 4 (dk_at dksX0_paper_2 19 rfl rfl)
theorem dX0_paper_69 : decode cX0_paper 69 = .ok (.iconst 0, 1) := dk_3 (dk_at dksX0_paper_2 22 rfl rfl)
theorem dX0_paper_70 : decode cX0_paper 70 = .ok (.iconst 3, 1) := dk_6 (dk_at dksX0_paper_2 23 rfl rfl)
theorem dX0_paper_71 : decode cX0_paper 71 = .ok (.invokevirtual 142, 3) := dk_182 0 142 (dk_at dksX0_paper_3 0 rfl rfl)
theorem dX0_paper_74 : decode cX0_paper 74 = .ok (.aload_n 0, 1) := dk_42 (dk_at dksX0_paper_3 3 rfl rfl)
theorem dX0_paper_75 : decode cX0_paper 75 = .ok (.getfield 43, 3) := dk_180 0 43 (dk_at dksX0_paper_3 4 rfl rfl)
theorem dX0_paper_78 : decode cX0_paper 78 = .ok (.aload_n 0, 1) := dk_42 (dk_at dksX0_paper_3 7 rfl rfl)
theorem dX0_paper_79 : decode cX0_paper 79 = .ok (.getfield 184, 3) := dk_180 0 184 (dk_at dksX0_paper_3 8 rfl rfl)
theorem dX0_paper_82 : decode cX0_paper 82 = .ok (.new 41, 3) := dk_187 0 41 (dk_at dksX0_paper_3 11 rfl rfl)
theorem dX0_paper_85 : decode cX0_paper 85 = .ok (.dup, 1) := dk_89 (dk_at dksX0_paper_3 14 rfl rfl)
theorem dX0_paper_86 : decode cX0_paper 86 = .ok (.aload_n 3, 1) := dk_45 (dk_at dksX0_paper_3 15 rfl rfl)
theorem dX0_paper_87 : decode cX0_paper 87 = .ok (.aload_n 0, 1) := dk_42 (dk_at dksX0_paper_3 16 rfl rfl)
theorem dX0_paper_88 : decode cX0_paper 88 = .ok (.getfield 165, 3) := dk_180 0 165 (dk_at dksX0_paper_3 17 rfl rfl)
theorem dX0_paper_91 : decode cX0_paper 91 = .ok (.iload_n 1, 1) := dk_27 (dk_at dksX0_paper_3 20 rfl rfl)
theorem dX0_paper_92 : decode cX0_paper 92 = .ok (.invokespecial 187, 3) := dk_183 0 187 (dk_at dksX0_paper_3 21 rfl rfl)
theorem dX0_paper_95 : decode cX0_paper 95 = .ok (.aastore, 1) := dk_83 (dk_at dksX0_paper_4 0 rfl rfl)
theorem dX0_paper_96 : decode cX0_paper 96 = .ok (.goto 10, 3) := dk_167 0 10 (dk_at dksX0_paper_4 1 rfl rfl)
theorem dX0_paper_99 : decode cX0_paper 99 = .ok (.astore_n 3, 1) := dk_78 (dk_at dksX0_paper_4 4 rfl rfl)
theorem dX0_paper_100 : decode cX0_paper 100 = .ok (.aload_n 0, 1) := dk_42 (dk_at dksX0_paper_4 5 rfl rfl)
theorem dX0_paper_101 : decode cX0_paper 101 = .ok (.aload_n 3, 1) := dk_45 (dk_at dksX0_paper_4 6 rfl rfl)
theorem dX0_paper_102 : decode cX0_paper 102 = .ok (.invokevirtual 108, 3) := dk_182 0 108 (dk_at dksX0_paper_4 7 rfl rfl)
theorem dX0_paper_105 : decode cX0_paper 105 = .ok (.ireturn, 1) := dk_172 (dk_at dksX0_paper_4 10 rfl rfl)
theorem dX0_paper_106 : decode cX0_paper 106 = .ok (.aload_n 0, 1) := dk_42 (dk_at dksX0_paper_4 11 rfl rfl)
theorem dX0_paper_107 : decode cX0_paper 107 = .ok (.dup, 1) := dk_89 (dk_at dksX0_paper_4 12 rfl rfl)
theorem dX0_paper_108 : decode cX0_paper 108 = .ok (.getfield 184, 3) := dk_180 0 184 (dk_at dksX0_paper_4 13 rfl rfl)
theorem dX0_paper_111 : decode cX0_paper 111 = .ok (.iconst 1, 1) := dk_4 (dk_at dksX0_paper_4 16 rfl rfl)
theorem dX0_paper_112 : decode cX0_paper 112 = .ok (.iadd, 1) := dk_96 (dk_at dksX0_paper_4 17 rfl rfl)
theorem dX0_paper_113 : decode cX0_paper 113 = .ok (.putfield 184, 3) := dk_181 0 184 (dk_at dksX0_paper_4 18 rfl rfl)
theorem dX0_paper_116 : decode cX0_paper 116 = .ok (.aload_n 0, 1) := dk_42 (dk_at dksX0_paper_4 21 rfl rfl)
theorem dX0_paper_117 : decode cX0_paper 117 = .ok (.new 190, 3) := dk_187 0 190 (dk_at dksX0_paper_5 0 rfl rfl)
theorem dX0_paper_120 : decode cX0_paper 120 = .ok (.dup, 1) := dk_89 (dk_at dksX0_paper_5 3 rfl rfl)
theorem dX0_paper_121 : decode cX0_paper 121 = .ok (.aload_n 0, 1) := dk_42 (dk_at dksX0_paper_5 4 rfl rfl)
theorem dX0_paper_122 : decode cX0_paper 122 = .ok (.invokespecial 192, 3) := dk_183 0 192 (dk_at dksX0_paper_5 5 rfl rfl)
theorem dX0_paper_125 : decode cX0_paper 125 = .ok (.invokevirtual 157, 3) := dk_182 0 157 (dk_at dksX0_paper_5 8 rfl rfl)
theorem dX0_paper_128 : decode cX0_paper 128 = .ok (.aload_n 0, 1) := dk_42 (dk_at dksX0_paper_5 11 rfl rfl)
theorem dX0_paper_129 : decode cX0_paper 129 = .ok (.getfield 184, 3) := dk_180 0 184 (dk_at dksX0_paper_5 12 rfl rfl)
theorem dX0_paper_132 : decode cX0_paper 132 = .ok (.iconst 1, 1) := dk_4 (dk_at dksX0_paper_5 15 rfl rfl)
theorem dX0_paper_133 : decode cX0_paper 133 = .ok (.isub, 1) := dk_100 (dk_at dksX0_paper_5 16 rfl rfl)
theorem dX0_paper_134 : decode cX0_paper 134 = .ok (.ireturn, 1) := dk_172 (dk_at dksX0_paper_5 17 rfl rfl)
abbrev cX0_text : ByteArray := prog_1_method_16_code
def yX0_text : MethodName := ⟨RX0, "text", "(ILPatentHall$Text;II)LPatentHall$Text;"⟩
def dkwX0_text_0 : List UInt8 := [42, 3, 181, 0, 125, 42, 3, 181, 0, 107, 42, 180, 0, 18, 27, 42, 44, 29, 21, 4, 182, 0, 173, 176]
abbrev dktX0_text_0 : List UInt8 := dkwX0_text_0 ++ []
theorem dksX0_text_0 : cX0_text.data.toList.drop 0 = dktX0_text_0 := by decide +kernel
theorem dX0_text_0 : decode cX0_text 0 = .ok (.aload_n 0, 1) := dk_42 (dk_at dksX0_text_0 0 rfl rfl)
theorem dX0_text_1 : decode cX0_text 1 = .ok (.iconst 0, 1) := dk_3 (dk_at dksX0_text_0 1 rfl rfl)
theorem dX0_text_2 : decode cX0_text 2 = .ok (.putfield 125, 3) := dk_181 0 125 (dk_at dksX0_text_0 2 rfl rfl)
theorem dX0_text_5 : decode cX0_text 5 = .ok (.aload_n 0, 1) := dk_42 (dk_at dksX0_text_0 5 rfl rfl)
theorem dX0_text_6 : decode cX0_text 6 = .ok (.iconst 0, 1) := dk_3 (dk_at dksX0_text_0 6 rfl rfl)
theorem dX0_text_7 : decode cX0_text 7 = .ok (.putfield 107, 3) := dk_181 0 107 (dk_at dksX0_text_0 7 rfl rfl)
theorem dX0_text_10 : decode cX0_text 10 = .ok (.aload_n 0, 1) := dk_42 (dk_at dksX0_text_0 10 rfl rfl)
theorem dX0_text_11 : decode cX0_text 11 = .ok (.getfield 18, 3) := dk_180 0 18 (dk_at dksX0_text_0 11 rfl rfl)
theorem dX0_text_14 : decode cX0_text 14 = .ok (.iload_n 1, 1) := dk_27 (dk_at dksX0_text_0 14 rfl rfl)
theorem dX0_text_15 : decode cX0_text 15 = .ok (.aload_n 0, 1) := dk_42 (dk_at dksX0_text_0 15 rfl rfl)
theorem dX0_text_16 : decode cX0_text 16 = .ok (.aload_n 2, 1) := dk_44 (dk_at dksX0_text_0 16 rfl rfl)
theorem dX0_text_17 : decode cX0_text 17 = .ok (.iload_n 3, 1) := dk_29 (dk_at dksX0_text_0 17 rfl rfl)
theorem dX0_text_18 : decode cX0_text 18 = .ok (.iload 4, 2) := dk_21 4 (dk_at dksX0_text_0 18 rfl rfl)
theorem dX0_text_20 : decode cX0_text 20 = .ok (.invokevirtual 173, 3) := dk_182 0 173 (dk_at dksX0_text_0 20 rfl rfl)
theorem dX0_text_23 : decode cX0_text 23 = .ok (.areturn, 1) := dk_176 (dk_at dksX0_text_0 23 rfl rfl)
abbrev cX0_thing : ByteArray := prog_1_method_18_code
def yX0_thing : MethodName := ⟨RX0, "thing", "(I)I"⟩
def dkwX0_thing_4 : List UInt8 := [181, 0, 193, 42, 187, 0, 199, 89, 42, 183, 0, 201, 182, 0, 157, 42, 180, 0, 193, 4, 100, 172]
abbrev dktX0_thing_4 : List UInt8 := dkwX0_thing_4 ++ []
def dkwX0_thing_3 : List UInt8 := [180, 0, 165, 183, 0, 196, 83, 167, 0, 10, 77, 42, 44, 182, 0, 108, 172, 42, 89, 180, 0, 193, 4, 96]
abbrev dktX0_thing_3 : List UInt8 := dkwX0_thing_3 ++ dktX0_thing_4
def dkwX0_thing_2 : List UInt8 := [167, 0, 4, 3, 6, 182, 0, 142, 42, 180, 0, 55, 42, 180, 0, 193, 187, 0, 53, 89, 44, 42]
abbrev dktX0_thing_2 : List UInt8 := dkwX0_thing_2 ++ dktX0_thing_3
def dkwX0_thing_1 : List UInt8 := [183, 0, 179, 16, 8, 16, 10, 182, 0, 180, 77, 42, 42, 180, 0, 193, 16, 12, 162, 0, 7, 4]
abbrev dktX0_thing_1 : List UInt8 := dkwX0_thing_1 ++ dktX0_thing_2
def dkwX0_thing_0 : List UInt8 := [42, 182, 0, 139, 42, 27, 3, 42, 180, 0, 125, 184, 0, 112, 5, 182, 0, 142, 42, 27, 187, 0, 177, 89]
abbrev dktX0_thing_0 : List UInt8 := dkwX0_thing_0 ++ dktX0_thing_1
theorem dksX0_thing_0 : cX0_thing.data.toList.drop 0 = dktX0_thing_0 := by decide +kernel
theorem dksX0_thing_1 : cX0_thing.data.toList.drop 24 = dktX0_thing_1 := dk_seg dksX0_thing_0 24 rfl rfl
theorem dksX0_thing_2 : cX0_thing.data.toList.drop 46 = dktX0_thing_2 := dk_seg dksX0_thing_1 22 rfl rfl
theorem dksX0_thing_3 : cX0_thing.data.toList.drop 68 = dktX0_thing_3 := dk_seg dksX0_thing_2 22 rfl rfl
theorem dksX0_thing_4 : cX0_thing.data.toList.drop 92 = dktX0_thing_4 := dk_seg dksX0_thing_3 24 rfl rfl
theorem dX0_thing_0 : decode cX0_thing 0 = .ok (.aload_n 0, 1) := dk_42 (dk_at dksX0_thing_0 0 rfl rfl)
theorem dX0_thing_1 : decode cX0_thing 1 = .ok (.invokevirtual 139, 3) := dk_182 0 139 (dk_at dksX0_thing_0 1 rfl rfl)
theorem dX0_thing_4 : decode cX0_thing 4 = .ok (.aload_n 0, 1) := dk_42 (dk_at dksX0_thing_0 4 rfl rfl)
theorem dX0_thing_5 : decode cX0_thing 5 = .ok (.iload_n 1, 1) := dk_27 (dk_at dksX0_thing_0 5 rfl rfl)
theorem dX0_thing_6 : decode cX0_thing 6 = .ok (.iconst 0, 1) := dk_3 (dk_at dksX0_thing_0 6 rfl rfl)
theorem dX0_thing_7 : decode cX0_thing 7 = .ok (.aload_n 0, 1) := dk_42 (dk_at dksX0_thing_0 7 rfl rfl)
theorem dX0_thing_8 : decode cX0_thing 8 = .ok (.getfield 125, 3) := dk_180 0 125 (dk_at dksX0_thing_0 8 rfl rfl)
theorem dX0_thing_11 : decode cX0_thing 11 = .ok (.invokestatic 112, 3) := dk_184 0 112 (dk_at dksX0_thing_0 11 rfl rfl)
theorem dX0_thing_14 : decode cX0_thing 14 = .ok (.iconst 2, 1) := dk_5 (dk_at dksX0_thing_0 14 rfl rfl)
theorem dX0_thing_15 : decode cX0_thing 15 = .ok (.invokevirtual 142, 3) := dk_182 0 142 (dk_at dksX0_thing_0 15 rfl rfl)
theorem dX0_thing_18 : decode cX0_thing 18 = .ok (.aload_n 0, 1) := dk_42 (dk_at dksX0_thing_0 18 rfl rfl)
theorem dX0_thing_19 : decode cX0_thing 19 = .ok (.iload_n 1, 1) := dk_27 (dk_at dksX0_thing_0 19 rfl rfl)
theorem dX0_thing_20 : decode cX0_thing 20 = .ok (.new 177, 3) := dk_187 0 177 (dk_at dksX0_thing_0 20 rfl rfl)
theorem dX0_thing_23 : decode cX0_thing 23 = .ok (.dup, 1) := dk_89 (dk_at dksX0_thing_0 23 rfl rfl)
theorem dX0_thing_24 : decode cX0_thing 24 = .ok (.invokespecial 179, 3) := dk_183 0 179 (dk_at dksX0_thing_1 0 rfl rfl)
theorem dX0_thing_27 : decode cX0_thing 27 = .ok (.bipush 8, 2) := dk_16 8 (dk_at dksX0_thing_1 3 rfl rfl)
theorem dX0_thing_29 : decode cX0_thing 29 = .ok (.bipush 10, 2) := dk_16 10 (dk_at dksX0_thing_1 5 rfl rfl)
theorem dX0_thing_31 : decode cX0_thing 31 = .ok (.invokevirtual 180, 3) := dk_182 0 180 (dk_at dksX0_thing_1 7 rfl rfl)
theorem dX0_thing_34 : decode cX0_thing 34 = .ok (.astore_n 2, 1) := dk_77 (dk_at dksX0_thing_1 10 rfl rfl)
theorem dX0_thing_35 : decode cX0_thing 35 = .ok (.aload_n 0, 1) := dk_42 (dk_at dksX0_thing_1 11 rfl rfl)
theorem dX0_thing_36 : decode cX0_thing 36 = .ok (.aload_n 0, 1) := dk_42 (dk_at dksX0_thing_1 12 rfl rfl)
theorem dX0_thing_37 : decode cX0_thing 37 = .ok (.getfield 193, 3) := dk_180 0 193 (dk_at dksX0_thing_1 13 rfl rfl)
theorem dX0_thing_40 : decode cX0_thing 40 = .ok (.bipush 12, 2) := dk_16 12 (dk_at dksX0_thing_1 16 rfl rfl)
theorem dX0_thing_42 : decode cX0_thing 42 = .ok (.if_icmp .ge 7, 3) := dk_162 0 7 (dk_at dksX0_thing_1 18 rfl rfl)
theorem dX0_thing_45 : decode cX0_thing 45 = .ok (.iconst 1, 1) := dk_4 (dk_at dksX0_thing_1 21 rfl rfl)
theorem dX0_thing_46 : decode cX0_thing 46 = .ok (.goto 4, 3) := dk_167 0 4 (dk_at dksX0_thing_2 0 rfl rfl)
theorem dX0_thing_49 : decode cX0_thing 49 = .ok (.iconst 0, 1) := dk_3 (dk_at dksX0_thing_2 3 rfl rfl)
theorem dX0_thing_50 : decode cX0_thing 50 = .ok (.iconst 3, 1) := dk_6 (dk_at dksX0_thing_2 4 rfl rfl)
theorem dX0_thing_51 : decode cX0_thing 51 = .ok (.invokevirtual 142, 3) := dk_182 0 142 (dk_at dksX0_thing_2 5 rfl rfl)
theorem dX0_thing_54 : decode cX0_thing 54 = .ok (.aload_n 0, 1) := dk_42 (dk_at dksX0_thing_2 8 rfl rfl)
theorem dX0_thing_55 : decode cX0_thing 55 = .ok (.getfield 55, 3) := dk_180 0 55 (dk_at dksX0_thing_2 9 rfl rfl)
theorem dX0_thing_58 : decode cX0_thing 58 = .ok (.aload_n 0, 1) := dk_42 (dk_at dksX0_thing_2 12 rfl rfl)
theorem dX0_thing_59 : decode cX0_thing 59 = .ok (.getfield 193, 3) := dk_180 0 193 (dk_at dksX0_thing_2 13 rfl rfl)
theorem dX0_thing_62 : decode cX0_thing 62 = .ok (.new 53, 3) := dk_187 0 53 (dk_at dksX0_thing_2 16 rfl rfl)
theorem dX0_thing_65 : decode cX0_thing 65 = .ok (.dup, 1) := dk_89 (dk_at dksX0_thing_2 19 rfl rfl)
theorem dX0_thing_66 : decode cX0_thing 66 = .ok (.aload_n 2, 1) := dk_44 (dk_at dksX0_thing_2 20 rfl rfl)
theorem dX0_thing_67 : decode cX0_thing 67 = .ok (.aload_n 0, 1) := dk_42 (dk_at dksX0_thing_2 21 rfl rfl)
theorem dX0_thing_68 : decode cX0_thing 68 = .ok (.getfield 165, 3) := dk_180 0 165 (dk_at dksX0_thing_3 0 rfl rfl)
theorem dX0_thing_71 : decode cX0_thing 71 = .ok (.invokespecial 196, 3) := dk_183 0 196 (dk_at dksX0_thing_3 3 rfl rfl)
theorem dX0_thing_74 : decode cX0_thing 74 = .ok (.aastore, 1) := dk_83 (dk_at dksX0_thing_3 6 rfl rfl)
theorem dX0_thing_75 : decode cX0_thing 75 = .ok (.goto 10, 3) := dk_167 0 10 (dk_at dksX0_thing_3 7 rfl rfl)
theorem dX0_thing_78 : decode cX0_thing 78 = .ok (.astore_n 2, 1) := dk_77 (dk_at dksX0_thing_3 10 rfl rfl)
theorem dX0_thing_79 : decode cX0_thing 79 = .ok (.aload_n 0, 1) := dk_42 (dk_at dksX0_thing_3 11 rfl rfl)
theorem dX0_thing_80 : decode cX0_thing 80 = .ok (.aload_n 2, 1) := dk_44 (dk_at dksX0_thing_3 12 rfl rfl)
theorem dX0_thing_81 : decode cX0_thing 81 = .ok (.invokevirtual 108, 3) := dk_182 0 108 (dk_at dksX0_thing_3 13 rfl rfl)
theorem dX0_thing_84 : decode cX0_thing 84 = .ok (.ireturn, 1) := dk_172 (dk_at dksX0_thing_3 16 rfl rfl)
theorem dX0_thing_85 : decode cX0_thing 85 = .ok (.aload_n 0, 1) := dk_42 (dk_at dksX0_thing_3 17 rfl rfl)
theorem dX0_thing_86 : decode cX0_thing 86 = .ok (.dup, 1) := dk_89 (dk_at dksX0_thing_3 18 rfl rfl)
theorem dX0_thing_87 : decode cX0_thing 87 = .ok (.getfield 193, 3) := dk_180 0 193 (dk_at dksX0_thing_3 19 rfl rfl)
theorem dX0_thing_90 : decode cX0_thing 90 = .ok (.iconst 1, 1) := dk_4 (dk_at dksX0_thing_3 22 rfl rfl)
theorem dX0_thing_91 : decode cX0_thing 91 = .ok (.iadd, 1) := dk_96 (dk_at dksX0_thing_3 23 rfl rfl)
theorem dX0_thing_92 : decode cX0_thing 92 = .ok (.putfield 193, 3) := dk_181 0 193 (dk_at dksX0_thing_4 0 rfl rfl)
theorem dX0_thing_95 : decode cX0_thing 95 = .ok (.aload_n 0, 1) := dk_42 (dk_at dksX0_thing_4 3 rfl rfl)
theorem dX0_thing_96 : decode cX0_thing 96 = .ok (.new 199, 3) := dk_187 0 199 (dk_at dksX0_thing_4 4 rfl rfl)
theorem dX0_thing_99 : decode cX0_thing 99 = .ok (.dup, 1) := dk_89 (dk_at dksX0_thing_4 7 rfl rfl)
theorem dX0_thing_100 : decode cX0_thing 100 = .ok (.aload_n 0, 1) := dk_42 (dk_at dksX0_thing_4 8 rfl rfl)
theorem dX0_thing_101 : decode cX0_thing 101 = .ok (.invokespecial 201, 3) := dk_183 0 201 (dk_at dksX0_thing_4 9 rfl rfl)
theorem dX0_thing_104 : decode cX0_thing 104 = .ok (.invokevirtual 157, 3) := dk_182 0 157 (dk_at dksX0_thing_4 12 rfl rfl)
theorem dX0_thing_107 : decode cX0_thing 107 = .ok (.aload_n 0, 1) := dk_42 (dk_at dksX0_thing_4 15 rfl rfl)
theorem dX0_thing_108 : decode cX0_thing 108 = .ok (.getfield 193, 3) := dk_180 0 193 (dk_at dksX0_thing_4 16 rfl rfl)
theorem dX0_thing_111 : decode cX0_thing 111 = .ok (.iconst 1, 1) := dk_4 (dk_at dksX0_thing_4 19 rfl rfl)
theorem dX0_thing_112 : decode cX0_thing 112 = .ok (.isub, 1) := dk_100 (dk_at dksX0_thing_4 20 rfl rfl)
theorem dX0_thing_113 : decode cX0_thing 113 = .ok (.ireturn, 1) := dk_172 (dk_at dksX0_thing_4 21 rfl rfl)
abbrev cX0_file : ByteArray := prog_1_method_19_code
def yX0_file : MethodName := ⟨RX0, "file", "(II)I"⟩
def dkwX0_file_6 : List UInt8 := [180, 0, 202, 4, 100, 172]
abbrev dktX0_file_6 : List UInt8 := dkwX0_file_6 ++ []
def dkwX0_file_5 : List UInt8 := [89, 180, 0, 202, 4, 96, 181, 0, 202, 42, 187, 0, 208, 89, 42, 183, 0, 210, 182, 0, 157, 42]
abbrev dktX0_file_5 : List UInt8 := dkwX0_file_5 ++ dktX0_file_6
def dkwX0_file_4 : List UInt8 := [167, 0, 9, 42, 180, 0, 49, 27, 50, 183, 0, 205, 83, 167, 0, 10, 78, 42, 45, 182, 0, 108, 172, 42]
abbrev dktX0_file_4 : List UInt8 := dkwX0_file_4 ++ dktX0_file_5
def dkwX0_file_3 : List UInt8 := [180, 0, 49, 42, 180, 0, 202, 187, 0, 47, 89, 45, 42, 180, 0, 165, 27, 2, 160, 0, 7, 1]
abbrev dktX0_file_3 : List UInt8 := dkwX0_file_3 ++ dktX0_file_4
def dkwX0_file_2 : List UInt8 := [182, 0, 180, 78, 42, 42, 180, 0, 202, 16, 8, 162, 0, 7, 4, 167, 0, 4, 3, 6, 182, 0, 142, 42]
abbrev dktX0_file_2 : List UInt8 := dkwX0_file_2 ++ dktX0_file_3
def dkwX0_file_1 : List UInt8 := [180, 0, 125, 184, 0, 112, 5, 182, 0, 142, 42, 28, 187, 0, 177, 89, 183, 0, 179, 16, 8, 16, 10]
abbrev dktX0_file_1 : List UInt8 := dkwX0_file_1 ++ dktX0_file_2
def dkwX0_file_0 : List UInt8 := [42, 182, 0, 139, 42, 27, 2, 42, 180, 0, 202, 4, 100, 184, 0, 112, 4, 182, 0, 142, 42, 28, 3, 42]
abbrev dktX0_file_0 : List UInt8 := dkwX0_file_0 ++ dktX0_file_1
theorem dksX0_file_0 : cX0_file.data.toList.drop 0 = dktX0_file_0 := by decide +kernel
theorem dksX0_file_1 : cX0_file.data.toList.drop 24 = dktX0_file_1 := dk_seg dksX0_file_0 24 rfl rfl
theorem dksX0_file_2 : cX0_file.data.toList.drop 47 = dktX0_file_2 := dk_seg dksX0_file_1 23 rfl rfl
theorem dksX0_file_3 : cX0_file.data.toList.drop 71 = dktX0_file_3 := dk_seg dksX0_file_2 24 rfl rfl
theorem dksX0_file_4 : cX0_file.data.toList.drop 93 = dktX0_file_4 := dk_seg dksX0_file_3 22 rfl rfl
theorem dksX0_file_5 : cX0_file.data.toList.drop 117 = dktX0_file_5 := dk_seg dksX0_file_4 24 rfl rfl
theorem dksX0_file_6 : cX0_file.data.toList.drop 139 = dktX0_file_6 := dk_seg dksX0_file_5 22 rfl rfl
theorem dX0_file_0 : decode cX0_file 0 = .ok (.aload_n 0, 1) := dk_42 (dk_at dksX0_file_0 0 rfl rfl)
theorem dX0_file_1 : decode cX0_file 1 = .ok (.invokevirtual 139, 3) := dk_182 0 139 (dk_at dksX0_file_0 1 rfl rfl)
theorem dX0_file_4 : decode cX0_file 4 = .ok (.aload_n 0, 1) := dk_42 (dk_at dksX0_file_0 4 rfl rfl)
theorem dX0_file_5 : decode cX0_file 5 = .ok (.iload_n 1, 1) := dk_27 (dk_at dksX0_file_0 5 rfl rfl)
theorem dX0_file_6 : decode cX0_file 6 = .ok (.iconst (-1), 1) := dk_2 (dk_at dksX0_file_0 6 rfl rfl)
theorem dX0_file_7 : decode cX0_file 7 = .ok (.aload_n 0, 1) := dk_42 (dk_at dksX0_file_0 7 rfl rfl)
theorem dX0_file_8 : decode cX0_file 8 = .ok (.getfield 202, 3) := dk_180 0 202 (dk_at dksX0_file_0 8 rfl rfl)
theorem dX0_file_11 : decode cX0_file 11 = .ok (.iconst 1, 1) := dk_4 (dk_at dksX0_file_0 11 rfl rfl)
theorem dX0_file_12 : decode cX0_file 12 = .ok (.isub, 1) := dk_100 (dk_at dksX0_file_0 12 rfl rfl)
theorem dX0_file_13 : decode cX0_file 13 = .ok (.invokestatic 112, 3) := dk_184 0 112 (dk_at dksX0_file_0 13 rfl rfl)
theorem dX0_file_16 : decode cX0_file 16 = .ok (.iconst 1, 1) := dk_4 (dk_at dksX0_file_0 16 rfl rfl)
theorem dX0_file_17 : decode cX0_file 17 = .ok (.invokevirtual 142, 3) := dk_182 0 142 (dk_at dksX0_file_0 17 rfl rfl)
theorem dX0_file_20 : decode cX0_file 20 = .ok (.aload_n 0, 1) := dk_42 (dk_at dksX0_file_0 20 rfl rfl)
theorem dX0_file_21 : decode cX0_file 21 = .ok (.iload_n 2, 1) := dk_28 (dk_at dksX0_file_0 21 rfl rfl)
theorem dX0_file_22 : decode cX0_file 22 = .ok (.iconst 0, 1) := dk_3 (dk_at dksX0_file_0 22 rfl rfl)
theorem dX0_file_23 : decode cX0_file 23 = .ok (.aload_n 0, 1) := dk_42 (dk_at dksX0_file_0 23 rfl rfl)
theorem dX0_file_24 : decode cX0_file 24 = .ok (.getfield 125, 3) := dk_180 0 125 (dk_at dksX0_file_1 0 rfl rfl)
theorem dX0_file_27 : decode cX0_file 27 = .ok (.invokestatic 112, 3) := dk_184 0 112 (dk_at dksX0_file_1 3 rfl rfl)
theorem dX0_file_30 : decode cX0_file 30 = .ok (.iconst 2, 1) := dk_5 (dk_at dksX0_file_1 6 rfl rfl)
theorem dX0_file_31 : decode cX0_file 31 = .ok (.invokevirtual 142, 3) := dk_182 0 142 (dk_at dksX0_file_1 7 rfl rfl)
theorem dX0_file_34 : decode cX0_file 34 = .ok (.aload_n 0, 1) := dk_42 (dk_at dksX0_file_1 10 rfl rfl)
theorem dX0_file_35 : decode cX0_file 35 = .ok (.iload_n 2, 1) := dk_28 (dk_at dksX0_file_1 11 rfl rfl)
theorem dX0_file_36 : decode cX0_file 36 = .ok (.new 177, 3) := dk_187 0 177 (dk_at dksX0_file_1 12 rfl rfl)
theorem dX0_file_39 : decode cX0_file 39 = .ok (.dup, 1) := dk_89 (dk_at dksX0_file_1 15 rfl rfl)
theorem dX0_file_40 : decode cX0_file 40 = .ok (.invokespecial 179, 3) := dk_183 0 179 (dk_at dksX0_file_1 16 rfl rfl)
theorem dX0_file_43 : decode cX0_file 43 = .ok (.bipush 8, 2) := dk_16 8 (dk_at dksX0_file_1 19 rfl rfl)
theorem dX0_file_45 : decode cX0_file 45 = .ok (.bipush 10, 2) := dk_16 10 (dk_at dksX0_file_1 21 rfl rfl)
theorem dX0_file_47 : decode cX0_file 47 = .ok (.invokevirtual 180, 3) := dk_182 0 180 (dk_at dksX0_file_2 0 rfl rfl)
theorem dX0_file_50 : decode cX0_file 50 = .ok (.astore_n 3, 1) := dk_78 (dk_at dksX0_file_2 3 rfl rfl)
theorem dX0_file_51 : decode cX0_file 51 = .ok (.aload_n 0, 1) := dk_42 (dk_at dksX0_file_2 4 rfl rfl)
theorem dX0_file_52 : decode cX0_file 52 = .ok (.aload_n 0, 1) := dk_42 (dk_at dksX0_file_2 5 rfl rfl)
theorem dX0_file_53 : decode cX0_file 53 = .ok (.getfield 202, 3) := dk_180 0 202 (dk_at dksX0_file_2 6 rfl rfl)
theorem dX0_file_56 : decode cX0_file 56 = .ok (.bipush 8, 2) := dk_16 8 (dk_at dksX0_file_2 9 rfl rfl)
theorem dX0_file_58 : decode cX0_file 58 = .ok (.if_icmp .ge 7, 3) := dk_162 0 7 (dk_at dksX0_file_2 11 rfl rfl)
theorem dX0_file_61 : decode cX0_file 61 = .ok (.iconst 1, 1) := dk_4 (dk_at dksX0_file_2 14 rfl rfl)
theorem dX0_file_62 : decode cX0_file 62 = .ok (.goto 4, 3) := dk_167 0 4 (dk_at dksX0_file_2 15 rfl rfl)
theorem dX0_file_65 : decode cX0_file 65 = .ok (.iconst 0, 1) := dk_3 (dk_at dksX0_file_2 18 rfl rfl)
theorem dX0_file_66 : decode cX0_file 66 = .ok (.iconst 3, 1) := dk_6 (dk_at dksX0_file_2 19 rfl rfl)
theorem dX0_file_67 : decode cX0_file 67 = .ok (.invokevirtual 142, 3) := dk_182 0 142 (dk_at dksX0_file_2 20 rfl rfl)
theorem dX0_file_70 : decode cX0_file 70 = .ok (.aload_n 0, 1) := dk_42 (dk_at dksX0_file_2 23 rfl rfl)
theorem dX0_file_71 : decode cX0_file 71 = .ok (.getfield 49, 3) := dk_180 0 49 (dk_at dksX0_file_3 0 rfl rfl)
theorem dX0_file_74 : decode cX0_file 74 = .ok (.aload_n 0, 1) := dk_42 (dk_at dksX0_file_3 3 rfl rfl)
theorem dX0_file_75 : decode cX0_file 75 = .ok (.getfield 202, 3) := dk_180 0 202 (dk_at dksX0_file_3 4 rfl rfl)
theorem dX0_file_78 : decode cX0_file 78 = .ok (.new 47, 3) := dk_187 0 47 (dk_at dksX0_file_3 7 rfl rfl)
theorem dX0_file_81 : decode cX0_file 81 = .ok (.dup, 1) := dk_89 (dk_at dksX0_file_3 10 rfl rfl)
theorem dX0_file_82 : decode cX0_file 82 = .ok (.aload_n 3, 1) := dk_45 (dk_at dksX0_file_3 11 rfl rfl)
theorem dX0_file_83 : decode cX0_file 83 = .ok (.aload_n 0, 1) := dk_42 (dk_at dksX0_file_3 12 rfl rfl)
theorem dX0_file_84 : decode cX0_file 84 = .ok (.getfield 165, 3) := dk_180 0 165 (dk_at dksX0_file_3 13 rfl rfl)
theorem dX0_file_87 : decode cX0_file 87 = .ok (.iload_n 1, 1) := dk_27 (dk_at dksX0_file_3 16 rfl rfl)
theorem dX0_file_88 : decode cX0_file 88 = .ok (.iconst (-1), 1) := dk_2 (dk_at dksX0_file_3 17 rfl rfl)
theorem dX0_file_89 : decode cX0_file 89 = .ok (.if_icmp .ne 7, 3) := dk_160 0 7 (dk_at dksX0_file_3 18 rfl rfl)
theorem dX0_file_92 : decode cX0_file 92 = .ok (.aconst_null, 1) := dk_1 (dk_at dksX0_file_3 21 rfl rfl)
theorem dX0_file_93 : decode cX0_file 93 = .ok (.goto 9, 3) := dk_167 0 9 (dk_at dksX0_file_4 0 rfl rfl)
theorem dX0_file_96 : decode cX0_file 96 = .ok (.aload_n 0, 1) := dk_42 (dk_at dksX0_file_4 3 rfl rfl)
theorem dX0_file_97 : decode cX0_file 97 = .ok (.getfield 49, 3) := dk_180 0 49 (dk_at dksX0_file_4 4 rfl rfl)
theorem dX0_file_100 : decode cX0_file 100 = .ok (.iload_n 1, 1) := dk_27 (dk_at dksX0_file_4 7 rfl rfl)
theorem dX0_file_101 : decode cX0_file 101 = .ok (.aaload, 1) := dk_50 (dk_at dksX0_file_4 8 rfl rfl)
theorem dX0_file_102 : decode cX0_file 102 = .ok (.invokespecial 205, 3) := dk_183 0 205 (dk_at dksX0_file_4 9 rfl rfl)
theorem dX0_file_105 : decode cX0_file 105 = .ok (.aastore, 1) := dk_83 (dk_at dksX0_file_4 12 rfl rfl)
theorem dX0_file_106 : decode cX0_file 106 = .ok (.goto 10, 3) := dk_167 0 10 (dk_at dksX0_file_4 13 rfl rfl)
theorem dX0_file_109 : decode cX0_file 109 = .ok (.astore_n 3, 1) := dk_78 (dk_at dksX0_file_4 16 rfl rfl)
theorem dX0_file_110 : decode cX0_file 110 = .ok (.aload_n 0, 1) := dk_42 (dk_at dksX0_file_4 17 rfl rfl)
theorem dX0_file_111 : decode cX0_file 111 = .ok (.aload_n 3, 1) := dk_45 (dk_at dksX0_file_4 18 rfl rfl)
theorem dX0_file_112 : decode cX0_file 112 = .ok (.invokevirtual 108, 3) := dk_182 0 108 (dk_at dksX0_file_4 19 rfl rfl)
theorem dX0_file_115 : decode cX0_file 115 = .ok (.ireturn, 1) := dk_172 (dk_at dksX0_file_4 22 rfl rfl)
theorem dX0_file_116 : decode cX0_file 116 = .ok (.aload_n 0, 1) := dk_42 (dk_at dksX0_file_4 23 rfl rfl)
theorem dX0_file_117 : decode cX0_file 117 = .ok (.dup, 1) := dk_89 (dk_at dksX0_file_5 0 rfl rfl)
theorem dX0_file_118 : decode cX0_file 118 = .ok (.getfield 202, 3) := dk_180 0 202 (dk_at dksX0_file_5 1 rfl rfl)
theorem dX0_file_121 : decode cX0_file 121 = .ok (.iconst 1, 1) := dk_4 (dk_at dksX0_file_5 4 rfl rfl)
theorem dX0_file_122 : decode cX0_file 122 = .ok (.iadd, 1) := dk_96 (dk_at dksX0_file_5 5 rfl rfl)
theorem dX0_file_123 : decode cX0_file 123 = .ok (.putfield 202, 3) := dk_181 0 202 (dk_at dksX0_file_5 6 rfl rfl)
theorem dX0_file_126 : decode cX0_file 126 = .ok (.aload_n 0, 1) := dk_42 (dk_at dksX0_file_5 9 rfl rfl)
theorem dX0_file_127 : decode cX0_file 127 = .ok (.new 208, 3) := dk_187 0 208 (dk_at dksX0_file_5 10 rfl rfl)
theorem dX0_file_130 : decode cX0_file 130 = .ok (.dup, 1) := dk_89 (dk_at dksX0_file_5 13 rfl rfl)
theorem dX0_file_131 : decode cX0_file 131 = .ok (.aload_n 0, 1) := dk_42 (dk_at dksX0_file_5 14 rfl rfl)
theorem dX0_file_132 : decode cX0_file 132 = .ok (.invokespecial 210, 3) := dk_183 0 210 (dk_at dksX0_file_5 15 rfl rfl)
theorem dX0_file_135 : decode cX0_file 135 = .ok (.invokevirtual 157, 3) := dk_182 0 157 (dk_at dksX0_file_5 18 rfl rfl)
theorem dX0_file_138 : decode cX0_file 138 = .ok (.aload_n 0, 1) := dk_42 (dk_at dksX0_file_5 21 rfl rfl)
theorem dX0_file_139 : decode cX0_file 139 = .ok (.getfield 202, 3) := dk_180 0 202 (dk_at dksX0_file_6 0 rfl rfl)
theorem dX0_file_142 : decode cX0_file 142 = .ok (.iconst 1, 1) := dk_4 (dk_at dksX0_file_6 3 rfl rfl)
theorem dX0_file_143 : decode cX0_file 143 = .ok (.isub, 1) := dk_100 (dk_at dksX0_file_6 4 rfl rfl)
theorem dX0_file_144 : decode cX0_file 144 = .ok (.ireturn, 1) := dk_172 (dk_at dksX0_file_6 5 rfl rfl)
abbrev cX0_claim : ByteArray := prog_1_method_25_code
def yX0_claim : MethodName := ⟨RX0, "claim", "(III)I"⟩
def dkwX0_claim_9 : List UInt8 := [42, 183, 0, 251, 182, 0, 157, 42, 180, 0, 226, 4, 100, 172]
abbrev dktX0_claim_9 : List UInt8 := dkwX0_claim_9 ++ []
def dkwX0_claim_8 : List UInt8 := [58, 4, 42, 25, 4, 182, 0, 108, 172, 42, 89, 180, 0, 226, 4, 96, 181, 0, 226, 42, 187, 0, 249, 89]
abbrev dktX0_claim_8 : List UInt8 := dkwX0_claim_8 ++ dktX0_claim_9
def dkwX0_claim_7 : List UInt8 := [187, 0, 59, 89, 42, 180, 0, 226, 42, 180, 0, 165, 27, 25, 4, 25, 5, 183, 0, 246, 83, 167, 0, 12]
abbrev dktX0_claim_7 : List UInt8 := dkwX0_claim_7 ++ dktX0_claim_8
def dkwX0_claim_6 : List UInt8 := [16, 40, 162, 0, 7, 4, 167, 0, 4, 3, 6, 182, 0, 142, 42, 180, 0, 61, 42, 180, 0, 226]
abbrev dktX0_claim_6 : List UInt8 := dkwX0_claim_6 ++ dktX0_claim_7
def dkwX0_claim_5 : List UInt8 := [42, 42, 180, 0, 49, 27, 50, 180, 0, 242, 25, 5, 182, 0, 243, 8, 182, 0, 142, 42, 42, 180, 0, 226]
abbrev dktX0_claim_5 : List UInt8 := dkwX0_claim_5 ++ dktX0_claim_6
def dkwX0_claim_4 : List UInt8 := [184, 0, 112, 5, 182, 0, 142, 42, 29, 25, 4, 184, 0, 238, 16, 6, 16, 8, 182, 0, 180, 58, 5, 42]
abbrev dktX0_claim_4 : List UInt8 := dkwX0_claim_4 ++ dktX0_claim_5
def dkwX0_claim_3 : List UInt8 := [180, 0, 235, 27, 160, 0, 7, 4, 167, 0, 4, 3, 4, 182, 0, 142, 42, 29, 3, 42, 180, 0, 125]
abbrev dktX0_claim_3 : List UInt8 := dkwX0_claim_3 ++ dktX0_claim_4
def dkwX0_claim_2 : List UInt8 := [160, 0, 7, 1, 167, 0, 9, 42, 180, 0, 61, 28, 50, 58, 4, 42, 25, 4, 198, 0, 12, 25, 4]
abbrev dktX0_claim_2 : List UInt8 := dkwX0_claim_2 ++ dktX0_claim_3
def dkwX0_claim_1 : List UInt8 := [180, 0, 226, 4, 100, 184, 0, 112, 153, 0, 7, 4, 167, 0, 4, 3, 4, 182, 0, 142, 28, 2]
abbrev dktX0_claim_1 : List UInt8 := dkwX0_claim_1 ++ dktX0_claim_2
def dkwX0_claim_0 : List UInt8 := [42, 182, 0, 139, 42, 27, 3, 42, 180, 0, 202, 4, 100, 184, 0, 112, 153, 0, 21, 28, 2, 42]
abbrev dktX0_claim_0 : List UInt8 := dkwX0_claim_0 ++ dktX0_claim_1
theorem dksX0_claim_0 : cX0_claim.data.toList.drop 0 = dktX0_claim_0 := by decide +kernel
theorem dksX0_claim_1 : cX0_claim.data.toList.drop 22 = dktX0_claim_1 := dk_seg dksX0_claim_0 22 rfl rfl
theorem dksX0_claim_2 : cX0_claim.data.toList.drop 44 = dktX0_claim_2 := dk_seg dksX0_claim_1 22 rfl rfl
theorem dksX0_claim_3 : cX0_claim.data.toList.drop 67 = dktX0_claim_3 := dk_seg dksX0_claim_2 23 rfl rfl
theorem dksX0_claim_4 : cX0_claim.data.toList.drop 90 = dktX0_claim_4 := dk_seg dksX0_claim_3 23 rfl rfl
theorem dksX0_claim_5 : cX0_claim.data.toList.drop 114 = dktX0_claim_5 := dk_seg dksX0_claim_4 24 rfl rfl
theorem dksX0_claim_6 : cX0_claim.data.toList.drop 138 = dktX0_claim_6 := dk_seg dksX0_claim_5 24 rfl rfl
theorem dksX0_claim_7 : cX0_claim.data.toList.drop 160 = dktX0_claim_7 := dk_seg dksX0_claim_6 22 rfl rfl
theorem dksX0_claim_8 : cX0_claim.data.toList.drop 184 = dktX0_claim_8 := dk_seg dksX0_claim_7 24 rfl rfl
theorem dksX0_claim_9 : cX0_claim.data.toList.drop 208 = dktX0_claim_9 := dk_seg dksX0_claim_8 24 rfl rfl
theorem dX0_claim_0 : decode cX0_claim 0 = .ok (.aload_n 0, 1) := dk_42 (dk_at dksX0_claim_0 0 rfl rfl)
theorem dX0_claim_1 : decode cX0_claim 1 = .ok (.invokevirtual 139, 3) := dk_182 0 139 (dk_at dksX0_claim_0 1 rfl rfl)
theorem dX0_claim_4 : decode cX0_claim 4 = .ok (.aload_n 0, 1) := dk_42 (dk_at dksX0_claim_0 4 rfl rfl)
theorem dX0_claim_5 : decode cX0_claim 5 = .ok (.iload_n 1, 1) := dk_27 (dk_at dksX0_claim_0 5 rfl rfl)
theorem dX0_claim_6 : decode cX0_claim 6 = .ok (.iconst 0, 1) := dk_3 (dk_at dksX0_claim_0 6 rfl rfl)
theorem dX0_claim_7 : decode cX0_claim 7 = .ok (.aload_n 0, 1) := dk_42 (dk_at dksX0_claim_0 7 rfl rfl)
theorem dX0_claim_8 : decode cX0_claim 8 = .ok (.getfield 202, 3) := dk_180 0 202 (dk_at dksX0_claim_0 8 rfl rfl)
theorem dX0_claim_11 : decode cX0_claim 11 = .ok (.iconst 1, 1) := dk_4 (dk_at dksX0_claim_0 11 rfl rfl)
theorem dX0_claim_12 : decode cX0_claim 12 = .ok (.isub, 1) := dk_100 (dk_at dksX0_claim_0 12 rfl rfl)
theorem dX0_claim_13 : decode cX0_claim 13 = .ok (.invokestatic 112, 3) := dk_184 0 112 (dk_at dksX0_claim_0 13 rfl rfl)
theorem dX0_claim_16 : decode cX0_claim 16 = .ok (.ifCond .eq 21, 3) := dk_153 0 21 (dk_at dksX0_claim_0 16 rfl rfl)
theorem dX0_claim_19 : decode cX0_claim 19 = .ok (.iload_n 2, 1) := dk_28 (dk_at dksX0_claim_0 19 rfl rfl)
theorem dX0_claim_20 : decode cX0_claim 20 = .ok (.iconst (-1), 1) := dk_2 (dk_at dksX0_claim_0 20 rfl rfl)
theorem dX0_claim_21 : decode cX0_claim 21 = .ok (.aload_n 0, 1) := dk_42 (dk_at dksX0_claim_0 21 rfl rfl)
theorem dX0_claim_22 : decode cX0_claim 22 = .ok (.getfield 226, 3) := dk_180 0 226 (dk_at dksX0_claim_1 0 rfl rfl)
theorem dX0_claim_25 : decode cX0_claim 25 = .ok (.iconst 1, 1) := dk_4 (dk_at dksX0_claim_1 3 rfl rfl)
theorem dX0_claim_26 : decode cX0_claim 26 = .ok (.isub, 1) := dk_100 (dk_at dksX0_claim_1 4 rfl rfl)
theorem dX0_claim_27 : decode cX0_claim 27 = .ok (.invokestatic 112, 3) := dk_184 0 112 (dk_at dksX0_claim_1 5 rfl rfl)
theorem dX0_claim_30 : decode cX0_claim 30 = .ok (.ifCond .eq 7, 3) := dk_153 0 7 (dk_at dksX0_claim_1 8 rfl rfl)
theorem dX0_claim_33 : decode cX0_claim 33 = .ok (.iconst 1, 1) := dk_4 (dk_at dksX0_claim_1 11 rfl rfl)
theorem dX0_claim_34 : decode cX0_claim 34 = .ok (.goto 4, 3) := dk_167 0 4 (dk_at dksX0_claim_1 12 rfl rfl)
theorem dX0_claim_37 : decode cX0_claim 37 = .ok (.iconst 0, 1) := dk_3 (dk_at dksX0_claim_1 15 rfl rfl)
theorem dX0_claim_38 : decode cX0_claim 38 = .ok (.iconst 1, 1) := dk_4 (dk_at dksX0_claim_1 16 rfl rfl)
theorem dX0_claim_39 : decode cX0_claim 39 = .ok (.invokevirtual 142, 3) := dk_182 0 142 (dk_at dksX0_claim_1 17 rfl rfl)
theorem dX0_claim_42 : decode cX0_claim 42 = .ok (.iload_n 2, 1) := dk_28 (dk_at dksX0_claim_1 20 rfl rfl)
theorem dX0_claim_43 : decode cX0_claim 43 = .ok (.iconst (-1), 1) := dk_2 (dk_at dksX0_claim_1 21 rfl rfl)
theorem dX0_claim_44 : decode cX0_claim 44 = .ok (.if_icmp .ne 7, 3) := dk_160 0 7 (dk_at dksX0_claim_2 0 rfl rfl)
theorem dX0_claim_47 : decode cX0_claim 47 = .ok (.aconst_null, 1) := dk_1 (dk_at dksX0_claim_2 3 rfl rfl)
theorem dX0_claim_48 : decode cX0_claim 48 = .ok (.goto 9, 3) := dk_167 0 9 (dk_at dksX0_claim_2 4 rfl rfl)
theorem dX0_claim_51 : decode cX0_claim 51 = .ok (.aload_n 0, 1) := dk_42 (dk_at dksX0_claim_2 7 rfl rfl)
theorem dX0_claim_52 : decode cX0_claim 52 = .ok (.getfield 61, 3) := dk_180 0 61 (dk_at dksX0_claim_2 8 rfl rfl)
theorem dX0_claim_55 : decode cX0_claim 55 = .ok (.iload_n 2, 1) := dk_28 (dk_at dksX0_claim_2 11 rfl rfl)
theorem dX0_claim_56 : decode cX0_claim 56 = .ok (.aaload, 1) := dk_50 (dk_at dksX0_claim_2 12 rfl rfl)
theorem dX0_claim_57 : decode cX0_claim 57 = .ok (.astore 4, 2) := dk_58 4 (dk_at dksX0_claim_2 13 rfl rfl)
theorem dX0_claim_59 : decode cX0_claim 59 = .ok (.aload_n 0, 1) := dk_42 (dk_at dksX0_claim_2 15 rfl rfl)
theorem dX0_claim_60 : decode cX0_claim 60 = .ok (.aload 4, 2) := dk_25 4 (dk_at dksX0_claim_2 16 rfl rfl)
theorem dX0_claim_62 : decode cX0_claim 62 = .ok (.ifnull 12, 3) := dk_198 0 12 (dk_at dksX0_claim_2 18 rfl rfl)
theorem dX0_claim_65 : decode cX0_claim 65 = .ok (.aload 4, 2) := dk_25 4 (dk_at dksX0_claim_2 21 rfl rfl)
theorem dX0_claim_67 : decode cX0_claim 67 = .ok (.getfield 235, 3) := dk_180 0 235 (dk_at dksX0_claim_3 0 rfl rfl)
theorem dX0_claim_70 : decode cX0_claim 70 = .ok (.iload_n 1, 1) := dk_27 (dk_at dksX0_claim_3 3 rfl rfl)
theorem dX0_claim_71 : decode cX0_claim 71 = .ok (.if_icmp .ne 7, 3) := dk_160 0 7 (dk_at dksX0_claim_3 4 rfl rfl)
theorem dX0_claim_74 : decode cX0_claim 74 = .ok (.iconst 1, 1) := dk_4 (dk_at dksX0_claim_3 7 rfl rfl)
theorem dX0_claim_75 : decode cX0_claim 75 = .ok (.goto 4, 3) := dk_167 0 4 (dk_at dksX0_claim_3 8 rfl rfl)
theorem dX0_claim_78 : decode cX0_claim 78 = .ok (.iconst 0, 1) := dk_3 (dk_at dksX0_claim_3 11 rfl rfl)
theorem dX0_claim_79 : decode cX0_claim 79 = .ok (.iconst 1, 1) := dk_4 (dk_at dksX0_claim_3 12 rfl rfl)
theorem dX0_claim_80 : decode cX0_claim 80 = .ok (.invokevirtual 142, 3) := dk_182 0 142 (dk_at dksX0_claim_3 13 rfl rfl)
theorem dX0_claim_83 : decode cX0_claim 83 = .ok (.aload_n 0, 1) := dk_42 (dk_at dksX0_claim_3 16 rfl rfl)
theorem dX0_claim_84 : decode cX0_claim 84 = .ok (.iload_n 3, 1) := dk_29 (dk_at dksX0_claim_3 17 rfl rfl)
theorem dX0_claim_85 : decode cX0_claim 85 = .ok (.iconst 0, 1) := dk_3 (dk_at dksX0_claim_3 18 rfl rfl)
theorem dX0_claim_86 : decode cX0_claim 86 = .ok (.aload_n 0, 1) := dk_42 (dk_at dksX0_claim_3 19 rfl rfl)
theorem dX0_claim_87 : decode cX0_claim 87 = .ok (.getfield 125, 3) := dk_180 0 125 (dk_at dksX0_claim_3 20 rfl rfl)
theorem dX0_claim_90 : decode cX0_claim 90 = .ok (.invokestatic 112, 3) := dk_184 0 112 (dk_at dksX0_claim_4 0 rfl rfl)
theorem dX0_claim_93 : decode cX0_claim 93 = .ok (.iconst 2, 1) := dk_5 (dk_at dksX0_claim_4 3 rfl rfl)
theorem dX0_claim_94 : decode cX0_claim 94 = .ok (.invokevirtual 142, 3) := dk_182 0 142 (dk_at dksX0_claim_4 4 rfl rfl)
theorem dX0_claim_97 : decode cX0_claim 97 = .ok (.aload_n 0, 1) := dk_42 (dk_at dksX0_claim_4 7 rfl rfl)
theorem dX0_claim_98 : decode cX0_claim 98 = .ok (.iload_n 3, 1) := dk_29 (dk_at dksX0_claim_4 8 rfl rfl)
theorem dX0_claim_99 : decode cX0_claim 99 = .ok (.aload 4, 2) := dk_25 4 (dk_at dksX0_claim_4 9 rfl rfl)
theorem dX0_claim_101 : decode cX0_claim 101 = .ok (.invokestatic 238, 3) := dk_184 0 238 (dk_at dksX0_claim_4 11 rfl rfl)
theorem dX0_claim_104 : decode cX0_claim 104 = .ok (.bipush 6, 2) := dk_16 6 (dk_at dksX0_claim_4 14 rfl rfl)
theorem dX0_claim_106 : decode cX0_claim 106 = .ok (.bipush 8, 2) := dk_16 8 (dk_at dksX0_claim_4 16 rfl rfl)
theorem dX0_claim_108 : decode cX0_claim 108 = .ok (.invokevirtual 180, 3) := dk_182 0 180 (dk_at dksX0_claim_4 18 rfl rfl)
theorem dX0_claim_111 : decode cX0_claim 111 = .ok (.astore 5, 2) := dk_58 5 (dk_at dksX0_claim_4 21 rfl rfl)
theorem dX0_claim_113 : decode cX0_claim 113 = .ok (.aload_n 0, 1) := dk_42 (dk_at dksX0_claim_4 23 rfl rfl)
theorem dX0_claim_114 : decode cX0_claim 114 = .ok (.aload_n 0, 1) := dk_42 (dk_at dksX0_claim_5 0 rfl rfl)
theorem dX0_claim_115 : decode cX0_claim 115 = .ok (.aload_n 0, 1) := dk_42 (dk_at dksX0_claim_5 1 rfl rfl)
theorem dX0_claim_116 : decode cX0_claim 116 = .ok (.getfield 49, 3) := dk_180 0 49 (dk_at dksX0_claim_5 2 rfl rfl)
theorem dX0_claim_119 : decode cX0_claim 119 = .ok (.iload_n 1, 1) := dk_27 (dk_at dksX0_claim_5 5 rfl rfl)
theorem dX0_claim_120 : decode cX0_claim 120 = .ok (.aaload, 1) := dk_50 (dk_at dksX0_claim_5 6 rfl rfl)
theorem dX0_claim_121 : decode cX0_claim 121 = .ok (.getfield 242, 3) := dk_180 0 242 (dk_at dksX0_claim_5 7 rfl rfl)
theorem dX0_claim_124 : decode cX0_claim 124 = .ok (.aload 5, 2) := dk_25 5 (dk_at dksX0_claim_5 10 rfl rfl)
theorem dX0_claim_126 : decode cX0_claim 126 = .ok (.invokevirtual 243, 3) := dk_182 0 243 (dk_at dksX0_claim_5 12 rfl rfl)
theorem dX0_claim_129 : decode cX0_claim 129 = .ok (.iconst 5, 1) := dk_8 (dk_at dksX0_claim_5 15 rfl rfl)
theorem dX0_claim_130 : decode cX0_claim 130 = .ok (.invokevirtual 142, 3) := dk_182 0 142 (dk_at dksX0_claim_5 16 rfl rfl)
theorem dX0_claim_133 : decode cX0_claim 133 = .ok (.aload_n 0, 1) := dk_42 (dk_at dksX0_claim_5 19 rfl rfl)
theorem dX0_claim_134 : decode cX0_claim 134 = .ok (.aload_n 0, 1) := dk_42 (dk_at dksX0_claim_5 20 rfl rfl)
theorem dX0_claim_135 : decode cX0_claim 135 = .ok (.getfield 226, 3) := dk_180 0 226 (dk_at dksX0_claim_5 21 rfl rfl)
theorem dX0_claim_138 : decode cX0_claim 138 = .ok (.bipush 40, 2) := dk_16 40 (dk_at dksX0_claim_6 0 rfl rfl)
theorem dX0_claim_140 : decode cX0_claim 140 = .ok (.if_icmp .ge 7, 3) := dk_162 0 7 (dk_at dksX0_claim_6 2 rfl rfl)
theorem dX0_claim_143 : decode cX0_claim 143 = .ok (.iconst 1, 1) := dk_4 (dk_at dksX0_claim_6 5 rfl rfl)
theorem dX0_claim_144 : decode cX0_claim 144 = .ok (.goto 4, 3) := dk_167 0 4 (dk_at dksX0_claim_6 6 rfl rfl)
theorem dX0_claim_147 : decode cX0_claim 147 = .ok (.iconst 0, 1) := dk_3 (dk_at dksX0_claim_6 9 rfl rfl)
theorem dX0_claim_148 : decode cX0_claim 148 = .ok (.iconst 3, 1) := dk_6 (dk_at dksX0_claim_6 10 rfl rfl)
theorem dX0_claim_149 : decode cX0_claim 149 = .ok (.invokevirtual 142, 3) := dk_182 0 142 (dk_at dksX0_claim_6 11 rfl rfl)
theorem dX0_claim_152 : decode cX0_claim 152 = .ok (.aload_n 0, 1) := dk_42 (dk_at dksX0_claim_6 14 rfl rfl)
theorem dX0_claim_153 : decode cX0_claim 153 = .ok (.getfield 61, 3) := dk_180 0 61 (dk_at dksX0_claim_6 15 rfl rfl)
theorem dX0_claim_156 : decode cX0_claim 156 = .ok (.aload_n 0, 1) := dk_42 (dk_at dksX0_claim_6 18 rfl rfl)
theorem dX0_claim_157 : decode cX0_claim 157 = .ok (.getfield 226, 3) := dk_180 0 226 (dk_at dksX0_claim_6 19 rfl rfl)
theorem dX0_claim_160 : decode cX0_claim 160 = .ok (.new 59, 3) := dk_187 0 59 (dk_at dksX0_claim_7 0 rfl rfl)
theorem dX0_claim_163 : decode cX0_claim 163 = .ok (.dup, 1) := dk_89 (dk_at dksX0_claim_7 3 rfl rfl)
theorem dX0_claim_164 : decode cX0_claim 164 = .ok (.aload_n 0, 1) := dk_42 (dk_at dksX0_claim_7 4 rfl rfl)
theorem dX0_claim_165 : decode cX0_claim 165 = .ok (.getfield 226, 3) := dk_180 0 226 (dk_at dksX0_claim_7 5 rfl rfl)
theorem dX0_claim_168 : decode cX0_claim 168 = .ok (.aload_n 0, 1) := dk_42 (dk_at dksX0_claim_7 8 rfl rfl)
theorem dX0_claim_169 : decode cX0_claim 169 = .ok (.getfield 165, 3) := dk_180 0 165 (dk_at dksX0_claim_7 9 rfl rfl)
theorem dX0_claim_172 : decode cX0_claim 172 = .ok (.iload_n 1, 1) := dk_27 (dk_at dksX0_claim_7 12 rfl rfl)
theorem dX0_claim_173 : decode cX0_claim 173 = .ok (.aload 4, 2) := dk_25 4 (dk_at dksX0_claim_7 13 rfl rfl)
theorem dX0_claim_175 : decode cX0_claim 175 = .ok (.aload 5, 2) := dk_25 5 (dk_at dksX0_claim_7 15 rfl rfl)
theorem dX0_claim_177 : decode cX0_claim 177 = .ok (.invokespecial 246, 3) := dk_183 0 246 (dk_at dksX0_claim_7 17 rfl rfl)
theorem dX0_claim_180 : decode cX0_claim 180 = .ok (.aastore, 1) := dk_83 (dk_at dksX0_claim_7 20 rfl rfl)
theorem dX0_claim_181 : decode cX0_claim 181 = .ok (.goto 12, 3) := dk_167 0 12 (dk_at dksX0_claim_7 21 rfl rfl)
theorem dX0_claim_184 : decode cX0_claim 184 = .ok (.astore 4, 2) := dk_58 4 (dk_at dksX0_claim_8 0 rfl rfl)
theorem dX0_claim_186 : decode cX0_claim 186 = .ok (.aload_n 0, 1) := dk_42 (dk_at dksX0_claim_8 2 rfl rfl)
theorem dX0_claim_187 : decode cX0_claim 187 = .ok (.aload 4, 2) := dk_25 4 (dk_at dksX0_claim_8 3 rfl rfl)
theorem dX0_claim_189 : decode cX0_claim 189 = .ok (.invokevirtual 108, 3) := dk_182 0 108 (dk_at dksX0_claim_8 5 rfl rfl)
theorem dX0_claim_192 : decode cX0_claim 192 = .ok (.ireturn, 1) := dk_172 (dk_at dksX0_claim_8 8 rfl rfl)
theorem dX0_claim_193 : decode cX0_claim 193 = .ok (.aload_n 0, 1) := dk_42 (dk_at dksX0_claim_8 9 rfl rfl)
theorem dX0_claim_194 : decode cX0_claim 194 = .ok (.dup, 1) := dk_89 (dk_at dksX0_claim_8 10 rfl rfl)
theorem dX0_claim_195 : decode cX0_claim 195 = .ok (.getfield 226, 3) := dk_180 0 226 (dk_at dksX0_claim_8 11 rfl rfl)
theorem dX0_claim_198 : decode cX0_claim 198 = .ok (.iconst 1, 1) := dk_4 (dk_at dksX0_claim_8 14 rfl rfl)
theorem dX0_claim_199 : decode cX0_claim 199 = .ok (.iadd, 1) := dk_96 (dk_at dksX0_claim_8 15 rfl rfl)
theorem dX0_claim_200 : decode cX0_claim 200 = .ok (.putfield 226, 3) := dk_181 0 226 (dk_at dksX0_claim_8 16 rfl rfl)
theorem dX0_claim_203 : decode cX0_claim 203 = .ok (.aload_n 0, 1) := dk_42 (dk_at dksX0_claim_8 19 rfl rfl)
theorem dX0_claim_204 : decode cX0_claim 204 = .ok (.new 249, 3) := dk_187 0 249 (dk_at dksX0_claim_8 20 rfl rfl)
theorem dX0_claim_207 : decode cX0_claim 207 = .ok (.dup, 1) := dk_89 (dk_at dksX0_claim_8 23 rfl rfl)
theorem dX0_claim_208 : decode cX0_claim 208 = .ok (.aload_n 0, 1) := dk_42 (dk_at dksX0_claim_9 0 rfl rfl)
theorem dX0_claim_209 : decode cX0_claim 209 = .ok (.invokespecial 251, 3) := dk_183 0 251 (dk_at dksX0_claim_9 1 rfl rfl)
theorem dX0_claim_212 : decode cX0_claim 212 = .ok (.invokevirtual 157, 3) := dk_182 0 157 (dk_at dksX0_claim_9 4 rfl rfl)
theorem dX0_claim_215 : decode cX0_claim 215 = .ok (.aload_n 0, 1) := dk_42 (dk_at dksX0_claim_9 7 rfl rfl)
theorem dX0_claim_216 : decode cX0_claim 216 = .ok (.getfield 226, 3) := dk_180 0 226 (dk_at dksX0_claim_9 8 rfl rfl)
theorem dX0_claim_219 : decode cX0_claim 219 = .ok (.iconst 1, 1) := dk_4 (dk_at dksX0_claim_9 11 rfl rfl)
theorem dX0_claim_220 : decode cX0_claim 220 = .ok (.isub, 1) := dk_100 (dk_at dksX0_claim_9 12 rfl rfl)
theorem dX0_claim_221 : decode cX0_claim 221 = .ok (.ireturn, 1) := dk_172 (dk_at dksX0_claim_9 13 rfl rfl)
abbrev cX0_base : ByteArray := prog_1_method_24_code
def yX0_base : MethodName := ⟨RX0, "base", "(LPatentHall$Claim;)LPatentHall$Text;"⟩
def dkwX0_base_1 : List UInt8 := [183, 0, 232, 176]
abbrev dktX0_base_1 : List UInt8 := dkwX0_base_1 ++ []
def dkwX0_base_0 : List UInt8 := [42, 199, 0, 13, 187, 0, 177, 89, 183, 0, 179, 167, 0, 14, 187, 0, 177, 89, 42, 180, 0, 229]
abbrev dktX0_base_0 : List UInt8 := dkwX0_base_0 ++ dktX0_base_1
theorem dksX0_base_0 : cX0_base.data.toList.drop 0 = dktX0_base_0 := by decide +kernel
theorem dksX0_base_1 : cX0_base.data.toList.drop 22 = dktX0_base_1 := dk_seg dksX0_base_0 22 rfl rfl
theorem dX0_base_0 : decode cX0_base 0 = .ok (.aload_n 0, 1) := dk_42 (dk_at dksX0_base_0 0 rfl rfl)
theorem dX0_base_1 : decode cX0_base 1 = .ok (.ifnonnull 13, 3) := dk_199 0 13 (dk_at dksX0_base_0 1 rfl rfl)
theorem dX0_base_4 : decode cX0_base 4 = .ok (.new 177, 3) := dk_187 0 177 (dk_at dksX0_base_0 4 rfl rfl)
theorem dX0_base_7 : decode cX0_base 7 = .ok (.dup, 1) := dk_89 (dk_at dksX0_base_0 7 rfl rfl)
theorem dX0_base_8 : decode cX0_base 8 = .ok (.invokespecial 179, 3) := dk_183 0 179 (dk_at dksX0_base_0 8 rfl rfl)
theorem dX0_base_11 : decode cX0_base 11 = .ok (.goto 14, 3) := dk_167 0 14 (dk_at dksX0_base_0 11 rfl rfl)
theorem dX0_base_14 : decode cX0_base 14 = .ok (.new 177, 3) := dk_187 0 177 (dk_at dksX0_base_0 14 rfl rfl)
theorem dX0_base_17 : decode cX0_base 17 = .ok (.dup, 1) := dk_89 (dk_at dksX0_base_0 17 rfl rfl)
theorem dX0_base_18 : decode cX0_base 18 = .ok (.aload_n 0, 1) := dk_42 (dk_at dksX0_base_0 18 rfl rfl)
theorem dX0_base_19 : decode cX0_base 19 = .ok (.getfield 229, 3) := dk_180 0 229 (dk_at dksX0_base_0 19 rfl rfl)
theorem dX0_base_22 : decode cX0_base 22 = .ok (.invokespecial 232, 3) := dk_183 0 232 (dk_at dksX0_base_1 0 rfl rfl)
theorem dX0_base_25 : decode cX0_base 25 = .ok (.areturn, 1) := dk_176 (dk_at dksX0_base_1 3 rfl rfl)
abbrev cX0_discloses : ByteArray := prog_1_method_22_code
def yX0_discloses : MethodName := ⟨RX0, "discloses", "(LPatentHall$Text;LPatentHall$Text;)Z"⟩
def dkwX0_discloses_0 : List UInt8 := [42, 43, 44, 44, 184, 0, 218, 182, 0, 222, 172]
abbrev dktX0_discloses_0 : List UInt8 := dkwX0_discloses_0 ++ []
theorem dksX0_discloses_0 : cX0_discloses.data.toList.drop 0 = dktX0_discloses_0 := by decide +kernel
theorem dX0_discloses_0 : decode cX0_discloses 0 = .ok (.aload_n 0, 1) := dk_42 (dk_at dksX0_discloses_0 0 rfl rfl)
theorem dX0_discloses_1 : decode cX0_discloses 1 = .ok (.aload_n 1, 1) := dk_43 (dk_at dksX0_discloses_0 1 rfl rfl)
theorem dX0_discloses_2 : decode cX0_discloses 2 = .ok (.aload_n 2, 1) := dk_44 (dk_at dksX0_discloses_0 2 rfl rfl)
theorem dX0_discloses_3 : decode cX0_discloses 3 = .ok (.aload_n 2, 1) := dk_44 (dk_at dksX0_discloses_0 3 rfl rfl)
theorem dX0_discloses_4 : decode cX0_discloses 4 = .ok (.invokestatic 218, 3) := dk_184 0 218 (dk_at dksX0_discloses_0 4 rfl rfl)
theorem dX0_discloses_7 : decode cX0_discloses 7 = .ok (.invokevirtual 222, 3) := dk_182 0 222 (dk_at dksX0_discloses_0 7 rfl rfl)
theorem dX0_discloses_10 : decode cX0_discloses 10 = .ok (.ireturn, 1) := dk_172 (dk_at dksX0_discloses_0 10 rfl rfl)
abbrev cX0_all : ByteArray := prog_1_method_20_code
def yX0_all : MethodName := ⟨RX0, "all", "(LPatentHall$Text;)I"⟩
def dkwX0_all_0 : List UInt8 := [4, 42, 180, 0, 211, 120, 4, 100, 172]
abbrev dktX0_all_0 : List UInt8 := dkwX0_all_0 ++ []
theorem dksX0_all_0 : cX0_all.data.toList.drop 0 = dktX0_all_0 := by decide +kernel
theorem dX0_all_0 : decode cX0_all 0 = .ok (.iconst 1, 1) := dk_4 (dk_at dksX0_all_0 0 rfl rfl)
theorem dX0_all_1 : decode cX0_all 1 = .ok (.aload_n 0, 1) := dk_42 (dk_at dksX0_all_0 1 rfl rfl)
theorem dX0_all_2 : decode cX0_all 2 = .ok (.getfield 211, 3) := dk_180 0 211 (dk_at dksX0_all_0 2 rfl rfl)
theorem dX0_all_5 : decode cX0_all 5 = .ok (.ishl, 1) := dk_120 (dk_at dksX0_all_0 5 rfl rfl)
theorem dX0_all_6 : decode cX0_all 6 = .ok (.iconst 1, 1) := dk_4 (dk_at dksX0_all_0 6 rfl rfl)
theorem dX0_all_7 : decode cX0_all 7 = .ok (.isub, 1) := dk_100 (dk_at dksX0_all_0 7 rfl rfl)
theorem dX0_all_8 : decode cX0_all 8 = .ok (.ireturn, 1) := dk_172 (dk_at dksX0_all_0 8 rfl rfl)
abbrev cX0_discloses_2 : ByteArray := prog_1_method_21_code
def yX0_discloses_2 : MethodName := ⟨RX0, "discloses", "(LPatentHall$Text;LPatentHall$Text;I)Z"⟩
def dkwX0_discloses_2_0 : List UInt8 := [42, 180, 0, 27, 44, 29, 43, 4, 182, 0, 214, 158, 0, 7, 4, 167, 0, 4, 3, 172]
abbrev dktX0_discloses_2_0 : List UInt8 := dkwX0_discloses_2_0 ++ []
theorem dksX0_discloses_2_0 : cX0_discloses_2.data.toList.drop 0 = dktX0_discloses_2_0 := by decide +kernel
theorem dX0_discloses_2_0 : decode cX0_discloses_2 0 = .ok (.aload_n 0, 1) := dk_42 (dk_at dksX0_discloses_2_0 0 rfl rfl)
theorem dX0_discloses_2_1 : decode cX0_discloses_2 1 = .ok (.getfield 27, 3) := dk_180 0 27 (dk_at dksX0_discloses_2_0 1 rfl rfl)
theorem dX0_discloses_2_4 : decode cX0_discloses_2 4 = .ok (.aload_n 2, 1) := dk_44 (dk_at dksX0_discloses_2_0 4 rfl rfl)
theorem dX0_discloses_2_5 : decode cX0_discloses_2 5 = .ok (.iload_n 3, 1) := dk_29 (dk_at dksX0_discloses_2_0 5 rfl rfl)
theorem dX0_discloses_2_6 : decode cX0_discloses_2 6 = .ok (.aload_n 1, 1) := dk_43 (dk_at dksX0_discloses_2_0 6 rfl rfl)
theorem dX0_discloses_2_7 : decode cX0_discloses_2 7 = .ok (.iconst 1, 1) := dk_4 (dk_at dksX0_discloses_2_0 7 rfl rfl)
theorem dX0_discloses_2_8 : decode cX0_discloses_2 8 = .ok (.invokevirtual 214, 3) := dk_182 0 214 (dk_at dksX0_discloses_2_0 8 rfl rfl)
theorem dX0_discloses_2_11 : decode cX0_discloses_2 11 = .ok (.ifCond .le 7, 3) := dk_158 0 7 (dk_at dksX0_discloses_2_0 11 rfl rfl)
theorem dX0_discloses_2_14 : decode cX0_discloses_2 14 = .ok (.iconst 1, 1) := dk_4 (dk_at dksX0_discloses_2_0 14 rfl rfl)
theorem dX0_discloses_2_15 : decode cX0_discloses_2 15 = .ok (.goto 4, 3) := dk_167 0 4 (dk_at dksX0_discloses_2_0 15 rfl rfl)
theorem dX0_discloses_2_18 : decode cX0_discloses_2 18 = .ok (.iconst 0, 1) := dk_3 (dk_at dksX0_discloses_2_0 18 rfl rfl)
theorem dX0_discloses_2_19 : decode cX0_discloses_2 19 = .ok (.ireturn, 1) := dk_172 (dk_at dksX0_discloses_2_0 19 rfl rfl)
abbrev cX0_amend : ByteArray := prog_1_method_27_code
def yX0_amend : MethodName := ⟨RX0, "amend", "(II)Z"⟩
def dkwX0_amend_7 : List UInt8 := [167, 0, 10, 78, 42, 45, 182, 1, 19, 172, 4, 172]
abbrev dktX0_amend_7 : List UInt8 := dkwX0_amend_7 ++ []
def dkwX0_amend_6 : List UInt8 := [58, 7, 45, 25, 6, 181, 0, 229, 42, 187, 1, 14, 89, 42, 45, 25, 7, 183, 1, 16, 182, 0, 157]
abbrev dktX0_amend_6 : List UInt8 := dkwX0_amend_6 ++ dktX0_amend_7
def dkwX0_amend_5 : List UInt8 := [8, 182, 0, 142, 42, 42, 25, 6, 45, 180, 0, 229, 182, 0, 243, 16, 6, 182, 0, 142, 45, 180, 0, 229]
abbrev dktX0_amend_5 : List UInt8 := dkwX0_amend_5 ++ dktX0_amend_6
def dkwX0_amend_4 : List UInt8 := [182, 0, 180, 58, 6, 42, 42, 42, 180, 0, 49, 45, 180, 0, 235, 50, 180, 0, 242, 25, 6, 182, 0, 243]
abbrev dktX0_amend_4 : List UInt8 := dkwX0_amend_4 ++ dktX0_amend_5
def dkwX0_amend_3 : List UInt8 := [167, 0, 4, 3, 16, 8, 182, 0, 142, 42, 28, 45, 180, 0, 255, 184, 0, 238, 16, 6, 16, 8]
abbrev dktX0_amend_3 : List UInt8 := dkwX0_amend_3 ++ dktX0_amend_4
def dkwX0_amend_2 : List UInt8 := [21, 4, 154, 0, 7, 4, 167, 0, 4, 3, 16, 7, 182, 0, 142, 42, 21, 5, 154, 0, 7, 4]
abbrev dktX0_amend_2 : List UInt8 := dkwX0_amend_2 ++ dktX0_amend_3
def dkwX0_amend_1 : List UInt8 := [45, 180, 1, 7, 2, 159, 0, 7, 4, 167, 0, 4, 3, 54, 4, 42, 45, 182, 1, 10, 54, 5, 42]
abbrev dktX0_amend_1 : List UInt8 := dkwX0_amend_1 ++ dktX0_amend_2
def dkwX0_amend_0 : List UInt8 := [42, 182, 0, 139, 42, 27, 182, 1, 3, 78, 42, 28, 3, 42, 180, 0, 125, 184, 0, 112, 5, 182, 0, 142]
abbrev dktX0_amend_0 : List UInt8 := dkwX0_amend_0 ++ dktX0_amend_1
theorem dksX0_amend_0 : cX0_amend.data.toList.drop 0 = dktX0_amend_0 := by decide +kernel
theorem dksX0_amend_1 : cX0_amend.data.toList.drop 24 = dktX0_amend_1 := dk_seg dksX0_amend_0 24 rfl rfl
theorem dksX0_amend_2 : cX0_amend.data.toList.drop 47 = dktX0_amend_2 := dk_seg dksX0_amend_1 23 rfl rfl
theorem dksX0_amend_3 : cX0_amend.data.toList.drop 69 = dktX0_amend_3 := dk_seg dksX0_amend_2 22 rfl rfl
theorem dksX0_amend_4 : cX0_amend.data.toList.drop 91 = dktX0_amend_4 := dk_seg dksX0_amend_3 22 rfl rfl
theorem dksX0_amend_5 : cX0_amend.data.toList.drop 115 = dktX0_amend_5 := dk_seg dksX0_amend_4 24 rfl rfl
theorem dksX0_amend_6 : cX0_amend.data.toList.drop 139 = dktX0_amend_6 := dk_seg dksX0_amend_5 24 rfl rfl
theorem dksX0_amend_7 : cX0_amend.data.toList.drop 162 = dktX0_amend_7 := dk_seg dksX0_amend_6 23 rfl rfl
theorem dX0_amend_0 : decode cX0_amend 0 = .ok (.aload_n 0, 1) := dk_42 (dk_at dksX0_amend_0 0 rfl rfl)
theorem dX0_amend_1 : decode cX0_amend 1 = .ok (.invokevirtual 139, 3) := dk_182 0 139 (dk_at dksX0_amend_0 1 rfl rfl)
theorem dX0_amend_4 : decode cX0_amend 4 = .ok (.aload_n 0, 1) := dk_42 (dk_at dksX0_amend_0 4 rfl rfl)
theorem dX0_amend_5 : decode cX0_amend 5 = .ok (.iload_n 1, 1) := dk_27 (dk_at dksX0_amend_0 5 rfl rfl)
theorem dX0_amend_6 : decode cX0_amend 6 = .ok (.invokevirtual 259, 3) := dk_182 1 3 (dk_at dksX0_amend_0 6 rfl rfl)
theorem dX0_amend_9 : decode cX0_amend 9 = .ok (.astore_n 3, 1) := dk_78 (dk_at dksX0_amend_0 9 rfl rfl)
theorem dX0_amend_10 : decode cX0_amend 10 = .ok (.aload_n 0, 1) := dk_42 (dk_at dksX0_amend_0 10 rfl rfl)
theorem dX0_amend_11 : decode cX0_amend 11 = .ok (.iload_n 2, 1) := dk_28 (dk_at dksX0_amend_0 11 rfl rfl)
theorem dX0_amend_12 : decode cX0_amend 12 = .ok (.iconst 0, 1) := dk_3 (dk_at dksX0_amend_0 12 rfl rfl)
theorem dX0_amend_13 : decode cX0_amend 13 = .ok (.aload_n 0, 1) := dk_42 (dk_at dksX0_amend_0 13 rfl rfl)
theorem dX0_amend_14 : decode cX0_amend 14 = .ok (.getfield 125, 3) := dk_180 0 125 (dk_at dksX0_amend_0 14 rfl rfl)
theorem dX0_amend_17 : decode cX0_amend 17 = .ok (.invokestatic 112, 3) := dk_184 0 112 (dk_at dksX0_amend_0 17 rfl rfl)
theorem dX0_amend_20 : decode cX0_amend 20 = .ok (.iconst 2, 1) := dk_5 (dk_at dksX0_amend_0 20 rfl rfl)
theorem dX0_amend_21 : decode cX0_amend 21 = .ok (.invokevirtual 142, 3) := dk_182 0 142 (dk_at dksX0_amend_0 21 rfl rfl)
theorem dX0_amend_24 : decode cX0_amend 24 = .ok (.aload_n 3, 1) := dk_45 (dk_at dksX0_amend_1 0 rfl rfl)
theorem dX0_amend_25 : decode cX0_amend 25 = .ok (.getfield 263, 3) := dk_180 1 7 (dk_at dksX0_amend_1 1 rfl rfl)
theorem dX0_amend_28 : decode cX0_amend 28 = .ok (.iconst (-1), 1) := dk_2 (dk_at dksX0_amend_1 4 rfl rfl)
theorem dX0_amend_29 : decode cX0_amend 29 = .ok (.if_icmp .eq 7, 3) := dk_159 0 7 (dk_at dksX0_amend_1 5 rfl rfl)
theorem dX0_amend_32 : decode cX0_amend 32 = .ok (.iconst 1, 1) := dk_4 (dk_at dksX0_amend_1 8 rfl rfl)
theorem dX0_amend_33 : decode cX0_amend 33 = .ok (.goto 4, 3) := dk_167 0 4 (dk_at dksX0_amend_1 9 rfl rfl)
theorem dX0_amend_36 : decode cX0_amend 36 = .ok (.iconst 0, 1) := dk_3 (dk_at dksX0_amend_1 12 rfl rfl)
theorem dX0_amend_37 : decode cX0_amend 37 = .ok (.istore 4, 2) := dk_54 4 (dk_at dksX0_amend_1 13 rfl rfl)
theorem dX0_amend_39 : decode cX0_amend 39 = .ok (.aload_n 0, 1) := dk_42 (dk_at dksX0_amend_1 15 rfl rfl)
theorem dX0_amend_40 : decode cX0_amend 40 = .ok (.aload_n 3, 1) := dk_45 (dk_at dksX0_amend_1 16 rfl rfl)
theorem dX0_amend_41 : decode cX0_amend 41 = .ok (.invokevirtual 266, 3) := dk_182 1 10 (dk_at dksX0_amend_1 17 rfl rfl)
theorem dX0_amend_44 : decode cX0_amend 44 = .ok (.istore 5, 2) := dk_54 5 (dk_at dksX0_amend_1 20 rfl rfl)
theorem dX0_amend_46 : decode cX0_amend 46 = .ok (.aload_n 0, 1) := dk_42 (dk_at dksX0_amend_1 22 rfl rfl)
theorem dX0_amend_47 : decode cX0_amend 47 = .ok (.iload 4, 2) := dk_21 4 (dk_at dksX0_amend_2 0 rfl rfl)
theorem dX0_amend_49 : decode cX0_amend 49 = .ok (.ifCond .ne 7, 3) := dk_154 0 7 (dk_at dksX0_amend_2 2 rfl rfl)
theorem dX0_amend_52 : decode cX0_amend 52 = .ok (.iconst 1, 1) := dk_4 (dk_at dksX0_amend_2 5 rfl rfl)
theorem dX0_amend_53 : decode cX0_amend 53 = .ok (.goto 4, 3) := dk_167 0 4 (dk_at dksX0_amend_2 6 rfl rfl)
theorem dX0_amend_56 : decode cX0_amend 56 = .ok (.iconst 0, 1) := dk_3 (dk_at dksX0_amend_2 9 rfl rfl)
theorem dX0_amend_57 : decode cX0_amend 57 = .ok (.bipush 7, 2) := dk_16 7 (dk_at dksX0_amend_2 10 rfl rfl)
theorem dX0_amend_59 : decode cX0_amend 59 = .ok (.invokevirtual 142, 3) := dk_182 0 142 (dk_at dksX0_amend_2 12 rfl rfl)
theorem dX0_amend_62 : decode cX0_amend 62 = .ok (.aload_n 0, 1) := dk_42 (dk_at dksX0_amend_2 15 rfl rfl)
theorem dX0_amend_63 : decode cX0_amend 63 = .ok (.iload 5, 2) := dk_21 5 (dk_at dksX0_amend_2 16 rfl rfl)
theorem dX0_amend_65 : decode cX0_amend 65 = .ok (.ifCond .ne 7, 3) := dk_154 0 7 (dk_at dksX0_amend_2 18 rfl rfl)
theorem dX0_amend_68 : decode cX0_amend 68 = .ok (.iconst 1, 1) := dk_4 (dk_at dksX0_amend_2 21 rfl rfl)
theorem dX0_amend_69 : decode cX0_amend 69 = .ok (.goto 4, 3) := dk_167 0 4 (dk_at dksX0_amend_3 0 rfl rfl)
theorem dX0_amend_72 : decode cX0_amend 72 = .ok (.iconst 0, 1) := dk_3 (dk_at dksX0_amend_3 3 rfl rfl)
theorem dX0_amend_73 : decode cX0_amend 73 = .ok (.bipush 8, 2) := dk_16 8 (dk_at dksX0_amend_3 4 rfl rfl)
theorem dX0_amend_75 : decode cX0_amend 75 = .ok (.invokevirtual 142, 3) := dk_182 0 142 (dk_at dksX0_amend_3 6 rfl rfl)
theorem dX0_amend_78 : decode cX0_amend 78 = .ok (.aload_n 0, 1) := dk_42 (dk_at dksX0_amend_3 9 rfl rfl)
theorem dX0_amend_79 : decode cX0_amend 79 = .ok (.iload_n 2, 1) := dk_28 (dk_at dksX0_amend_3 10 rfl rfl)
theorem dX0_amend_80 : decode cX0_amend 80 = .ok (.aload_n 3, 1) := dk_45 (dk_at dksX0_amend_3 11 rfl rfl)
theorem dX0_amend_81 : decode cX0_amend 81 = .ok (.getfield 255, 3) := dk_180 0 255 (dk_at dksX0_amend_3 12 rfl rfl)
theorem dX0_amend_84 : decode cX0_amend 84 = .ok (.invokestatic 238, 3) := dk_184 0 238 (dk_at dksX0_amend_3 15 rfl rfl)
theorem dX0_amend_87 : decode cX0_amend 87 = .ok (.bipush 6, 2) := dk_16 6 (dk_at dksX0_amend_3 18 rfl rfl)
theorem dX0_amend_89 : decode cX0_amend 89 = .ok (.bipush 8, 2) := dk_16 8 (dk_at dksX0_amend_3 20 rfl rfl)
theorem dX0_amend_91 : decode cX0_amend 91 = .ok (.invokevirtual 180, 3) := dk_182 0 180 (dk_at dksX0_amend_4 0 rfl rfl)
theorem dX0_amend_94 : decode cX0_amend 94 = .ok (.astore 6, 2) := dk_58 6 (dk_at dksX0_amend_4 3 rfl rfl)
theorem dX0_amend_96 : decode cX0_amend 96 = .ok (.aload_n 0, 1) := dk_42 (dk_at dksX0_amend_4 5 rfl rfl)
theorem dX0_amend_97 : decode cX0_amend 97 = .ok (.aload_n 0, 1) := dk_42 (dk_at dksX0_amend_4 6 rfl rfl)
theorem dX0_amend_98 : decode cX0_amend 98 = .ok (.aload_n 0, 1) := dk_42 (dk_at dksX0_amend_4 7 rfl rfl)
theorem dX0_amend_99 : decode cX0_amend 99 = .ok (.getfield 49, 3) := dk_180 0 49 (dk_at dksX0_amend_4 8 rfl rfl)
theorem dX0_amend_102 : decode cX0_amend 102 = .ok (.aload_n 3, 1) := dk_45 (dk_at dksX0_amend_4 11 rfl rfl)
theorem dX0_amend_103 : decode cX0_amend 103 = .ok (.getfield 235, 3) := dk_180 0 235 (dk_at dksX0_amend_4 12 rfl rfl)
theorem dX0_amend_106 : decode cX0_amend 106 = .ok (.aaload, 1) := dk_50 (dk_at dksX0_amend_4 15 rfl rfl)
theorem dX0_amend_107 : decode cX0_amend 107 = .ok (.getfield 242, 3) := dk_180 0 242 (dk_at dksX0_amend_4 16 rfl rfl)
theorem dX0_amend_110 : decode cX0_amend 110 = .ok (.aload 6, 2) := dk_25 6 (dk_at dksX0_amend_4 19 rfl rfl)
theorem dX0_amend_112 : decode cX0_amend 112 = .ok (.invokevirtual 243, 3) := dk_182 0 243 (dk_at dksX0_amend_4 21 rfl rfl)
theorem dX0_amend_115 : decode cX0_amend 115 = .ok (.iconst 5, 1) := dk_8 (dk_at dksX0_amend_5 0 rfl rfl)
theorem dX0_amend_116 : decode cX0_amend 116 = .ok (.invokevirtual 142, 3) := dk_182 0 142 (dk_at dksX0_amend_5 1 rfl rfl)
theorem dX0_amend_119 : decode cX0_amend 119 = .ok (.aload_n 0, 1) := dk_42 (dk_at dksX0_amend_5 4 rfl rfl)
theorem dX0_amend_120 : decode cX0_amend 120 = .ok (.aload_n 0, 1) := dk_42 (dk_at dksX0_amend_5 5 rfl rfl)
theorem dX0_amend_121 : decode cX0_amend 121 = .ok (.aload 6, 2) := dk_25 6 (dk_at dksX0_amend_5 6 rfl rfl)
theorem dX0_amend_123 : decode cX0_amend 123 = .ok (.aload_n 3, 1) := dk_45 (dk_at dksX0_amend_5 8 rfl rfl)
theorem dX0_amend_124 : decode cX0_amend 124 = .ok (.getfield 229, 3) := dk_180 0 229 (dk_at dksX0_amend_5 9 rfl rfl)
theorem dX0_amend_127 : decode cX0_amend 127 = .ok (.invokevirtual 243, 3) := dk_182 0 243 (dk_at dksX0_amend_5 12 rfl rfl)
theorem dX0_amend_130 : decode cX0_amend 130 = .ok (.bipush 6, 2) := dk_16 6 (dk_at dksX0_amend_5 15 rfl rfl)
theorem dX0_amend_132 : decode cX0_amend 132 = .ok (.invokevirtual 142, 3) := dk_182 0 142 (dk_at dksX0_amend_5 17 rfl rfl)
theorem dX0_amend_135 : decode cX0_amend 135 = .ok (.aload_n 3, 1) := dk_45 (dk_at dksX0_amend_5 20 rfl rfl)
theorem dX0_amend_136 : decode cX0_amend 136 = .ok (.getfield 229, 3) := dk_180 0 229 (dk_at dksX0_amend_5 21 rfl rfl)
theorem dX0_amend_139 : decode cX0_amend 139 = .ok (.astore 7, 2) := dk_58 7 (dk_at dksX0_amend_6 0 rfl rfl)
theorem dX0_amend_141 : decode cX0_amend 141 = .ok (.aload_n 3, 1) := dk_45 (dk_at dksX0_amend_6 2 rfl rfl)
theorem dX0_amend_142 : decode cX0_amend 142 = .ok (.aload 6, 2) := dk_25 6 (dk_at dksX0_amend_6 3 rfl rfl)
theorem dX0_amend_144 : decode cX0_amend 144 = .ok (.putfield 229, 3) := dk_181 0 229 (dk_at dksX0_amend_6 5 rfl rfl)
theorem dX0_amend_147 : decode cX0_amend 147 = .ok (.aload_n 0, 1) := dk_42 (dk_at dksX0_amend_6 8 rfl rfl)
theorem dX0_amend_148 : decode cX0_amend 148 = .ok (.new 270, 3) := dk_187 1 14 (dk_at dksX0_amend_6 9 rfl rfl)
theorem dX0_amend_151 : decode cX0_amend 151 = .ok (.dup, 1) := dk_89 (dk_at dksX0_amend_6 12 rfl rfl)
theorem dX0_amend_152 : decode cX0_amend 152 = .ok (.aload_n 0, 1) := dk_42 (dk_at dksX0_amend_6 13 rfl rfl)
theorem dX0_amend_153 : decode cX0_amend 153 = .ok (.aload_n 3, 1) := dk_45 (dk_at dksX0_amend_6 14 rfl rfl)
theorem dX0_amend_154 : decode cX0_amend 154 = .ok (.aload 7, 2) := dk_25 7 (dk_at dksX0_amend_6 15 rfl rfl)
theorem dX0_amend_156 : decode cX0_amend 156 = .ok (.invokespecial 272, 3) := dk_183 1 16 (dk_at dksX0_amend_6 17 rfl rfl)
theorem dX0_amend_159 : decode cX0_amend 159 = .ok (.invokevirtual 157, 3) := dk_182 0 157 (dk_at dksX0_amend_6 20 rfl rfl)
theorem dX0_amend_162 : decode cX0_amend 162 = .ok (.goto 10, 3) := dk_167 0 10 (dk_at dksX0_amend_7 0 rfl rfl)
theorem dX0_amend_165 : decode cX0_amend 165 = .ok (.astore_n 3, 1) := dk_78 (dk_at dksX0_amend_7 3 rfl rfl)
theorem dX0_amend_166 : decode cX0_amend 166 = .ok (.aload_n 0, 1) := dk_42 (dk_at dksX0_amend_7 4 rfl rfl)
theorem dX0_amend_167 : decode cX0_amend 167 = .ok (.aload_n 3, 1) := dk_45 (dk_at dksX0_amend_7 5 rfl rfl)
theorem dX0_amend_168 : decode cX0_amend 168 = .ok (.invokevirtual 275, 3) := dk_182 1 19 (dk_at dksX0_amend_7 6 rfl rfl)
theorem dX0_amend_171 : decode cX0_amend 171 = .ok (.ireturn, 1) := dk_172 (dk_at dksX0_amend_7 9 rfl rfl)
theorem dX0_amend_172 : decode cX0_amend 172 = .ok (.iconst 1, 1) := dk_4 (dk_at dksX0_amend_7 10 rfl rfl)
theorem dX0_amend_173 : decode cX0_amend 173 = .ok (.ireturn, 1) := dk_172 (dk_at dksX0_amend_7 11 rfl rfl)
abbrev cX0_claimOf : ByteArray := prog_1_method_23_code
def yX0_claimOf : MethodName := ⟨RX0, "claimOf", "(I)LPatentHall$Claim;"⟩
def dkwX0_claimOf_0 : List UInt8 := [42, 27, 3, 42, 180, 0, 226, 4, 100, 184, 0, 112, 4, 182, 0, 142, 42, 180, 0, 61, 27, 50, 176]
abbrev dktX0_claimOf_0 : List UInt8 := dkwX0_claimOf_0 ++ []
theorem dksX0_claimOf_0 : cX0_claimOf.data.toList.drop 0 = dktX0_claimOf_0 := by decide +kernel
theorem dX0_claimOf_0 : decode cX0_claimOf 0 = .ok (.aload_n 0, 1) := dk_42 (dk_at dksX0_claimOf_0 0 rfl rfl)
theorem dX0_claimOf_1 : decode cX0_claimOf 1 = .ok (.iload_n 1, 1) := dk_27 (dk_at dksX0_claimOf_0 1 rfl rfl)
theorem dX0_claimOf_2 : decode cX0_claimOf 2 = .ok (.iconst 0, 1) := dk_3 (dk_at dksX0_claimOf_0 2 rfl rfl)
theorem dX0_claimOf_3 : decode cX0_claimOf 3 = .ok (.aload_n 0, 1) := dk_42 (dk_at dksX0_claimOf_0 3 rfl rfl)
theorem dX0_claimOf_4 : decode cX0_claimOf 4 = .ok (.getfield 226, 3) := dk_180 0 226 (dk_at dksX0_claimOf_0 4 rfl rfl)
theorem dX0_claimOf_7 : decode cX0_claimOf 7 = .ok (.iconst 1, 1) := dk_4 (dk_at dksX0_claimOf_0 7 rfl rfl)
theorem dX0_claimOf_8 : decode cX0_claimOf 8 = .ok (.isub, 1) := dk_100 (dk_at dksX0_claimOf_0 8 rfl rfl)
theorem dX0_claimOf_9 : decode cX0_claimOf 9 = .ok (.invokestatic 112, 3) := dk_184 0 112 (dk_at dksX0_claimOf_0 9 rfl rfl)
theorem dX0_claimOf_12 : decode cX0_claimOf 12 = .ok (.iconst 1, 1) := dk_4 (dk_at dksX0_claimOf_0 12 rfl rfl)
theorem dX0_claimOf_13 : decode cX0_claimOf 13 = .ok (.invokevirtual 142, 3) := dk_182 0 142 (dk_at dksX0_claimOf_0 13 rfl rfl)
theorem dX0_claimOf_16 : decode cX0_claimOf 16 = .ok (.aload_n 0, 1) := dk_42 (dk_at dksX0_claimOf_0 16 rfl rfl)
theorem dX0_claimOf_17 : decode cX0_claimOf 17 = .ok (.getfield 61, 3) := dk_180 0 61 (dk_at dksX0_claimOf_0 17 rfl rfl)
theorem dX0_claimOf_20 : decode cX0_claimOf 20 = .ok (.iload_n 1, 1) := dk_27 (dk_at dksX0_claimOf_0 20 rfl rfl)
theorem dX0_claimOf_21 : decode cX0_claimOf 21 = .ok (.aaload, 1) := dk_50 (dk_at dksX0_claimOf_0 21 rfl rfl)
theorem dX0_claimOf_22 : decode cX0_claimOf 22 = .ok (.areturn, 1) := dk_176 (dk_at dksX0_claimOf_0 22 rfl rfl)
abbrev cX0_isStoodOn : ByteArray := prog_1_method_26_code
def yX0_isStoodOn : MethodName := ⟨RX0, "isStoodOn", "(LPatentHall$Claim;)Z"⟩
def dkwX0_isStoodOn_2 : List UInt8 := [28, 172]
abbrev dktX0_isStoodOn_2 : List UInt8 := dkwX0_isStoodOn_2 ++ []
def dkwX0_isStoodOn_1 : List UInt8 := [180, 0, 61, 29, 50, 180, 0, 255, 43, 166, 0, 7, 4, 167, 0, 4, 3, 61, 132, 3, 1, 167, 255, 222]
abbrev dktX0_isStoodOn_1 : List UInt8 := dkwX0_isStoodOn_1 ++ dktX0_isStoodOn_2
def dkwX0_isStoodOn_0 : List UInt8 := [3, 61, 43, 180, 0, 252, 4, 96, 62, 29, 42, 180, 0, 226, 162, 0, 32, 28, 154, 0, 28, 42]
abbrev dktX0_isStoodOn_0 : List UInt8 := dkwX0_isStoodOn_0 ++ dktX0_isStoodOn_1
theorem dksX0_isStoodOn_0 : cX0_isStoodOn.data.toList.drop 0 = dktX0_isStoodOn_0 := by decide +kernel
theorem dksX0_isStoodOn_1 : cX0_isStoodOn.data.toList.drop 22 = dktX0_isStoodOn_1 := dk_seg dksX0_isStoodOn_0 22 rfl rfl
theorem dksX0_isStoodOn_2 : cX0_isStoodOn.data.toList.drop 46 = dktX0_isStoodOn_2 := dk_seg dksX0_isStoodOn_1 24 rfl rfl
theorem dX0_isStoodOn_0 : decode cX0_isStoodOn 0 = .ok (.iconst 0, 1) := dk_3 (dk_at dksX0_isStoodOn_0 0 rfl rfl)
theorem dX0_isStoodOn_1 : decode cX0_isStoodOn 1 = .ok (.istore_n 2, 1) := dk_61 (dk_at dksX0_isStoodOn_0 1 rfl rfl)
theorem dX0_isStoodOn_2 : decode cX0_isStoodOn 2 = .ok (.aload_n 1, 1) := dk_43 (dk_at dksX0_isStoodOn_0 2 rfl rfl)
theorem dX0_isStoodOn_3 : decode cX0_isStoodOn 3 = .ok (.getfield 252, 3) := dk_180 0 252 (dk_at dksX0_isStoodOn_0 3 rfl rfl)
theorem dX0_isStoodOn_6 : decode cX0_isStoodOn 6 = .ok (.iconst 1, 1) := dk_4 (dk_at dksX0_isStoodOn_0 6 rfl rfl)
theorem dX0_isStoodOn_7 : decode cX0_isStoodOn 7 = .ok (.iadd, 1) := dk_96 (dk_at dksX0_isStoodOn_0 7 rfl rfl)
theorem dX0_isStoodOn_8 : decode cX0_isStoodOn 8 = .ok (.istore_n 3, 1) := dk_62 (dk_at dksX0_isStoodOn_0 8 rfl rfl)
theorem dX0_isStoodOn_9 : decode cX0_isStoodOn 9 = .ok (.iload_n 3, 1) := dk_29 (dk_at dksX0_isStoodOn_0 9 rfl rfl)
theorem dX0_isStoodOn_10 : decode cX0_isStoodOn 10 = .ok (.aload_n 0, 1) := dk_42 (dk_at dksX0_isStoodOn_0 10 rfl rfl)
theorem dX0_isStoodOn_11 : decode cX0_isStoodOn 11 = .ok (.getfield 226, 3) := dk_180 0 226 (dk_at dksX0_isStoodOn_0 11 rfl rfl)
theorem dX0_isStoodOn_14 : decode cX0_isStoodOn 14 = .ok (.if_icmp .ge 32, 3) := dk_162 0 32 (dk_at dksX0_isStoodOn_0 14 rfl rfl)
theorem dX0_isStoodOn_17 : decode cX0_isStoodOn 17 = .ok (.iload_n 2, 1) := dk_28 (dk_at dksX0_isStoodOn_0 17 rfl rfl)
theorem dX0_isStoodOn_18 : decode cX0_isStoodOn 18 = .ok (.ifCond .ne 28, 3) := dk_154 0 28 (dk_at dksX0_isStoodOn_0 18 rfl rfl)
theorem dX0_isStoodOn_21 : decode cX0_isStoodOn 21 = .ok (.aload_n 0, 1) := dk_42 (dk_at dksX0_isStoodOn_0 21 rfl rfl)
theorem dX0_isStoodOn_22 : decode cX0_isStoodOn 22 = .ok (.getfield 61, 3) := dk_180 0 61 (dk_at dksX0_isStoodOn_1 0 rfl rfl)
theorem dX0_isStoodOn_25 : decode cX0_isStoodOn 25 = .ok (.iload_n 3, 1) := dk_29 (dk_at dksX0_isStoodOn_1 3 rfl rfl)
theorem dX0_isStoodOn_26 : decode cX0_isStoodOn 26 = .ok (.aaload, 1) := dk_50 (dk_at dksX0_isStoodOn_1 4 rfl rfl)
theorem dX0_isStoodOn_27 : decode cX0_isStoodOn 27 = .ok (.getfield 255, 3) := dk_180 0 255 (dk_at dksX0_isStoodOn_1 5 rfl rfl)
theorem dX0_isStoodOn_30 : decode cX0_isStoodOn 30 = .ok (.aload_n 1, 1) := dk_43 (dk_at dksX0_isStoodOn_1 8 rfl rfl)
theorem dX0_isStoodOn_31 : decode cX0_isStoodOn 31 = .ok (.if_acmp .ne 7, 3) := dk_166 0 7 (dk_at dksX0_isStoodOn_1 9 rfl rfl)
theorem dX0_isStoodOn_34 : decode cX0_isStoodOn 34 = .ok (.iconst 1, 1) := dk_4 (dk_at dksX0_isStoodOn_1 12 rfl rfl)
theorem dX0_isStoodOn_35 : decode cX0_isStoodOn 35 = .ok (.goto 4, 3) := dk_167 0 4 (dk_at dksX0_isStoodOn_1 13 rfl rfl)
theorem dX0_isStoodOn_38 : decode cX0_isStoodOn 38 = .ok (.iconst 0, 1) := dk_3 (dk_at dksX0_isStoodOn_1 16 rfl rfl)
theorem dX0_isStoodOn_39 : decode cX0_isStoodOn 39 = .ok (.istore_n 2, 1) := dk_61 (dk_at dksX0_isStoodOn_1 17 rfl rfl)
theorem dX0_isStoodOn_40 : decode cX0_isStoodOn 40 = .ok (.iinc 3 1, 3) := dk_132 3 1 (dk_at dksX0_isStoodOn_1 18 rfl rfl)
theorem dX0_isStoodOn_43 : decode cX0_isStoodOn 43 = .ok (.goto (-34), 3) := dk_167 255 222 (dk_at dksX0_isStoodOn_1 21 rfl rfl)
theorem dX0_isStoodOn_46 : decode cX0_isStoodOn 46 = .ok (.iload_n 2, 1) := dk_28 (dk_at dksX0_isStoodOn_2 0 rfl rfl)
theorem dX0_isStoodOn_47 : decode cX0_isStoodOn 47 = .ok (.ireturn, 1) := dk_172 (dk_at dksX0_isStoodOn_2 1 rfl rfl)
abbrev cX0_not : ByteArray := prog_1_method_5_code
def yX0_not : MethodName := ⟨RX0, "not", "(LPatentHall$Refused;)Z"⟩
def dkwX0_not_0 : List UInt8 := [42, 43, 182, 0, 108, 87, 3, 172]
abbrev dktX0_not_0 : List UInt8 := dkwX0_not_0 ++ []
theorem dksX0_not_0 : cX0_not.data.toList.drop 0 = dktX0_not_0 := by decide +kernel
theorem dX0_not_0 : decode cX0_not 0 = .ok (.aload_n 0, 1) := dk_42 (dk_at dksX0_not_0 0 rfl rfl)
theorem dX0_not_1 : decode cX0_not 1 = .ok (.aload_n 1, 1) := dk_43 (dk_at dksX0_not_0 1 rfl rfl)
theorem dX0_not_2 : decode cX0_not 2 = .ok (.invokevirtual 108, 3) := dk_182 0 108 (dk_at dksX0_not_0 2 rfl rfl)
theorem dX0_not_5 : decode cX0_not 5 = .ok (.pop, 1) := dk_87 (dk_at dksX0_not_0 5 rfl rfl)
theorem dX0_not_6 : decode cX0_not 6 = .ok (.iconst 0, 1) := dk_3 (dk_at dksX0_not_0 6 rfl rfl)
theorem dX0_not_7 : decode cX0_not 7 = .ok (.ireturn, 1) := dk_172 (dk_at dksX0_not_0 7 rfl rfl)
abbrev cX0_fault : ByteArray := prog_1_method_28_code
def yX0_fault : MethodName := ⟨RX0, "fault", "()I"⟩
theorem dX0_fault_0 : decode cX0_fault 0 = .ok (.aload_n 0, 1) := by decide +kernel
theorem dX0_fault_1 : decode cX0_fault 1 = .ok (.getfield 107, 3) := by decide +kernel
theorem dX0_fault_4 : decode cX0_fault 4 = .ok (.ireturn, 1) := by decide +kernel
abbrev cX0_where : ByteArray := prog_1_method_29_code
def yX0_where : MethodName := ⟨RX0, "where", "()I"⟩
def dkwX0_where_0 : List UInt8 := [42, 180, 0, 91, 7, 160, 0, 10, 42, 180, 0, 71, 167, 0, 4, 2, 172]
abbrev dktX0_where_0 : List UInt8 := dkwX0_where_0 ++ []
theorem dksX0_where_0 : cX0_where.data.toList.drop 0 = dktX0_where_0 := by decide +kernel
theorem dX0_where_0 : decode cX0_where 0 = .ok (.aload_n 0, 1) := dk_42 (dk_at dksX0_where_0 0 rfl rfl)
theorem dX0_where_1 : decode cX0_where 1 = .ok (.getfield 91, 3) := dk_180 0 91 (dk_at dksX0_where_0 1 rfl rfl)
theorem dX0_where_4 : decode cX0_where 4 = .ok (.iconst 4, 1) := dk_7 (dk_at dksX0_where_0 4 rfl rfl)
theorem dX0_where_5 : decode cX0_where 5 = .ok (.if_icmp .ne 10, 3) := dk_160 0 10 (dk_at dksX0_where_0 5 rfl rfl)
theorem dX0_where_8 : decode cX0_where 8 = .ok (.aload_n 0, 1) := dk_42 (dk_at dksX0_where_0 8 rfl rfl)
theorem dX0_where_9 : decode cX0_where 9 = .ok (.getfield 71, 3) := dk_180 0 71 (dk_at dksX0_where_0 9 rfl rfl)
theorem dX0_where_12 : decode cX0_where 12 = .ok (.goto 4, 3) := dk_167 0 4 (dk_at dksX0_where_0 12 rfl rfl)
theorem dX0_where_15 : decode cX0_where 15 = .ok (.iconst (-1), 1) := dk_2 (dk_at dksX0_where_0 15 rfl rfl)
theorem dX0_where_16 : decode cX0_where 16 = .ok (.ireturn, 1) := dk_172 (dk_at dksX0_where_0 16 rfl rfl)
abbrev cX0_grant : ByteArray := prog_1_method_30_code
def yX0_grant : MethodName := ⟨RX0, "grant", "(I)Z"⟩
def dkwX0_grant_2 : List UInt8 := [182, 0, 157, 167, 0, 10, 77, 42, 44, 182, 1, 19, 172, 4, 172]
abbrev dktX0_grant_2 : List UInt8 := dkwX0_grant_2 ++ []
def dkwX0_grant_1 : List UInt8 := [16, 7, 182, 0, 142, 44, 42, 180, 0, 165, 181, 1, 7, 42, 187, 1, 23, 89, 42, 44, 183, 1, 25]
abbrev dktX0_grant_1 : List UInt8 := dkwX0_grant_1 ++ dktX0_grant_2
def dkwX0_grant_0 : List UInt8 := [42, 182, 0, 139, 42, 27, 182, 1, 3, 77, 42, 44, 180, 1, 7, 2, 160, 0, 7, 4, 167, 0, 4, 3]
abbrev dktX0_grant_0 : List UInt8 := dkwX0_grant_0 ++ dktX0_grant_1
theorem dksX0_grant_0 : cX0_grant.data.toList.drop 0 = dktX0_grant_0 := by decide +kernel
theorem dksX0_grant_1 : cX0_grant.data.toList.drop 24 = dktX0_grant_1 := dk_seg dksX0_grant_0 24 rfl rfl
theorem dksX0_grant_2 : cX0_grant.data.toList.drop 47 = dktX0_grant_2 := dk_seg dksX0_grant_1 23 rfl rfl
theorem dX0_grant_0 : decode cX0_grant 0 = .ok (.aload_n 0, 1) := dk_42 (dk_at dksX0_grant_0 0 rfl rfl)
theorem dX0_grant_1 : decode cX0_grant 1 = .ok (.invokevirtual 139, 3) := dk_182 0 139 (dk_at dksX0_grant_0 1 rfl rfl)
theorem dX0_grant_4 : decode cX0_grant 4 = .ok (.aload_n 0, 1) := dk_42 (dk_at dksX0_grant_0 4 rfl rfl)
theorem dX0_grant_5 : decode cX0_grant 5 = .ok (.iload_n 1, 1) := dk_27 (dk_at dksX0_grant_0 5 rfl rfl)
theorem dX0_grant_6 : decode cX0_grant 6 = .ok (.invokevirtual 259, 3) := dk_182 1 3 (dk_at dksX0_grant_0 6 rfl rfl)
theorem dX0_grant_9 : decode cX0_grant 9 = .ok (.astore_n 2, 1) := dk_77 (dk_at dksX0_grant_0 9 rfl rfl)
theorem dX0_grant_10 : decode cX0_grant 10 = .ok (.aload_n 0, 1) := dk_42 (dk_at dksX0_grant_0 10 rfl rfl)
theorem dX0_grant_11 : decode cX0_grant 11 = .ok (.aload_n 2, 1) := dk_44 (dk_at dksX0_grant_0 11 rfl rfl)
theorem dX0_grant_12 : decode cX0_grant 12 = .ok (.getfield 263, 3) := dk_180 1 7 (dk_at dksX0_grant_0 12 rfl rfl)
theorem dX0_grant_15 : decode cX0_grant 15 = .ok (.iconst (-1), 1) := dk_2 (dk_at dksX0_grant_0 15 rfl rfl)
theorem dX0_grant_16 : decode cX0_grant 16 = .ok (.if_icmp .ne 7, 3) := dk_160 0 7 (dk_at dksX0_grant_0 16 rfl rfl)
theorem dX0_grant_19 : decode cX0_grant 19 = .ok (.iconst 1, 1) := dk_4 (dk_at dksX0_grant_0 19 rfl rfl)
theorem dX0_grant_20 : decode cX0_grant 20 = .ok (.goto 4, 3) := dk_167 0 4 (dk_at dksX0_grant_0 20 rfl rfl)
theorem dX0_grant_23 : decode cX0_grant 23 = .ok (.iconst 0, 1) := dk_3 (dk_at dksX0_grant_0 23 rfl rfl)
theorem dX0_grant_24 : decode cX0_grant 24 = .ok (.bipush 7, 2) := dk_16 7 (dk_at dksX0_grant_1 0 rfl rfl)
theorem dX0_grant_26 : decode cX0_grant 26 = .ok (.invokevirtual 142, 3) := dk_182 0 142 (dk_at dksX0_grant_1 2 rfl rfl)
theorem dX0_grant_29 : decode cX0_grant 29 = .ok (.aload_n 2, 1) := dk_44 (dk_at dksX0_grant_1 5 rfl rfl)
theorem dX0_grant_30 : decode cX0_grant 30 = .ok (.aload_n 0, 1) := dk_42 (dk_at dksX0_grant_1 6 rfl rfl)
theorem dX0_grant_31 : decode cX0_grant 31 = .ok (.getfield 165, 3) := dk_180 0 165 (dk_at dksX0_grant_1 7 rfl rfl)
theorem dX0_grant_34 : decode cX0_grant 34 = .ok (.putfield 263, 3) := dk_181 1 7 (dk_at dksX0_grant_1 10 rfl rfl)
theorem dX0_grant_37 : decode cX0_grant 37 = .ok (.aload_n 0, 1) := dk_42 (dk_at dksX0_grant_1 13 rfl rfl)
theorem dX0_grant_38 : decode cX0_grant 38 = .ok (.new 279, 3) := dk_187 1 23 (dk_at dksX0_grant_1 14 rfl rfl)
theorem dX0_grant_41 : decode cX0_grant 41 = .ok (.dup, 1) := dk_89 (dk_at dksX0_grant_1 17 rfl rfl)
theorem dX0_grant_42 : decode cX0_grant 42 = .ok (.aload_n 0, 1) := dk_42 (dk_at dksX0_grant_1 18 rfl rfl)
theorem dX0_grant_43 : decode cX0_grant 43 = .ok (.aload_n 2, 1) := dk_44 (dk_at dksX0_grant_1 19 rfl rfl)
theorem dX0_grant_44 : decode cX0_grant 44 = .ok (.invokespecial 281, 3) := dk_183 1 25 (dk_at dksX0_grant_1 20 rfl rfl)
theorem dX0_grant_47 : decode cX0_grant 47 = .ok (.invokevirtual 157, 3) := dk_182 0 157 (dk_at dksX0_grant_2 0 rfl rfl)
theorem dX0_grant_50 : decode cX0_grant 50 = .ok (.goto 10, 3) := dk_167 0 10 (dk_at dksX0_grant_2 3 rfl rfl)
theorem dX0_grant_53 : decode cX0_grant 53 = .ok (.astore_n 2, 1) := dk_77 (dk_at dksX0_grant_2 6 rfl rfl)
theorem dX0_grant_54 : decode cX0_grant 54 = .ok (.aload_n 0, 1) := dk_42 (dk_at dksX0_grant_2 7 rfl rfl)
theorem dX0_grant_55 : decode cX0_grant 55 = .ok (.aload_n 2, 1) := dk_44 (dk_at dksX0_grant_2 8 rfl rfl)
theorem dX0_grant_56 : decode cX0_grant 56 = .ok (.invokevirtual 275, 3) := dk_182 1 19 (dk_at dksX0_grant_2 9 rfl rfl)
theorem dX0_grant_59 : decode cX0_grant 59 = .ok (.ireturn, 1) := dk_172 (dk_at dksX0_grant_2 12 rfl rfl)
theorem dX0_grant_60 : decode cX0_grant 60 = .ok (.iconst 1, 1) := dk_4 (dk_at dksX0_grant_2 13 rfl rfl)
theorem dX0_grant_61 : decode cX0_grant 61 = .ok (.ireturn, 1) := dk_172 (dk_at dksX0_grant_2 14 rfl rfl)
abbrev cX0_drop : ByteArray := prog_1_method_31_code
def yX0_drop : MethodName := ⟨RX0, "drop", "(I)Z"⟩
def dkwX0_drop_2 : List UInt8 := [187, 1, 31, 89, 42, 44, 183, 1, 33, 182, 0, 157, 167, 0, 10, 77, 42, 44, 182, 1, 19, 172, 4, 172]
abbrev dktX0_drop_2 : List UInt8 := dkwX0_drop_2 ++ []
def dkwX0_drop_1 : List UInt8 := [160, 0, 7, 4, 167, 0, 4, 3, 16, 7, 182, 0, 142, 44, 42, 180, 0, 165, 181, 1, 28, 42]
abbrev dktX0_drop_1 : List UInt8 := dkwX0_drop_1 ++ dktX0_drop_2
def dkwX0_drop_0 : List UInt8 := [42, 182, 0, 139, 42, 27, 182, 1, 3, 77, 42, 44, 180, 1, 7, 2, 159, 0, 15, 44, 180, 1, 28, 2]
abbrev dktX0_drop_0 : List UInt8 := dkwX0_drop_0 ++ dktX0_drop_1
theorem dksX0_drop_0 : cX0_drop.data.toList.drop 0 = dktX0_drop_0 := by decide +kernel
theorem dksX0_drop_1 : cX0_drop.data.toList.drop 24 = dktX0_drop_1 := dk_seg dksX0_drop_0 24 rfl rfl
theorem dksX0_drop_2 : cX0_drop.data.toList.drop 46 = dktX0_drop_2 := dk_seg dksX0_drop_1 22 rfl rfl
theorem dX0_drop_0 : decode cX0_drop 0 = .ok (.aload_n 0, 1) := dk_42 (dk_at dksX0_drop_0 0 rfl rfl)
theorem dX0_drop_1 : decode cX0_drop 1 = .ok (.invokevirtual 139, 3) := dk_182 0 139 (dk_at dksX0_drop_0 1 rfl rfl)
theorem dX0_drop_4 : decode cX0_drop 4 = .ok (.aload_n 0, 1) := dk_42 (dk_at dksX0_drop_0 4 rfl rfl)
theorem dX0_drop_5 : decode cX0_drop 5 = .ok (.iload_n 1, 1) := dk_27 (dk_at dksX0_drop_0 5 rfl rfl)
theorem dX0_drop_6 : decode cX0_drop 6 = .ok (.invokevirtual 259, 3) := dk_182 1 3 (dk_at dksX0_drop_0 6 rfl rfl)
theorem dX0_drop_9 : decode cX0_drop 9 = .ok (.astore_n 2, 1) := dk_77 (dk_at dksX0_drop_0 9 rfl rfl)
theorem dX0_drop_10 : decode cX0_drop 10 = .ok (.aload_n 0, 1) := dk_42 (dk_at dksX0_drop_0 10 rfl rfl)
theorem dX0_drop_11 : decode cX0_drop 11 = .ok (.aload_n 2, 1) := dk_44 (dk_at dksX0_drop_0 11 rfl rfl)
theorem dX0_drop_12 : decode cX0_drop 12 = .ok (.getfield 263, 3) := dk_180 1 7 (dk_at dksX0_drop_0 12 rfl rfl)
theorem dX0_drop_15 : decode cX0_drop 15 = .ok (.iconst (-1), 1) := dk_2 (dk_at dksX0_drop_0 15 rfl rfl)
theorem dX0_drop_16 : decode cX0_drop 16 = .ok (.if_icmp .eq 15, 3) := dk_159 0 15 (dk_at dksX0_drop_0 16 rfl rfl)
theorem dX0_drop_19 : decode cX0_drop 19 = .ok (.aload_n 2, 1) := dk_44 (dk_at dksX0_drop_0 19 rfl rfl)
theorem dX0_drop_20 : decode cX0_drop 20 = .ok (.getfield 284, 3) := dk_180 1 28 (dk_at dksX0_drop_0 20 rfl rfl)
theorem dX0_drop_23 : decode cX0_drop 23 = .ok (.iconst (-1), 1) := dk_2 (dk_at dksX0_drop_0 23 rfl rfl)
theorem dX0_drop_24 : decode cX0_drop 24 = .ok (.if_icmp .ne 7, 3) := dk_160 0 7 (dk_at dksX0_drop_1 0 rfl rfl)
theorem dX0_drop_27 : decode cX0_drop 27 = .ok (.iconst 1, 1) := dk_4 (dk_at dksX0_drop_1 3 rfl rfl)
theorem dX0_drop_28 : decode cX0_drop 28 = .ok (.goto 4, 3) := dk_167 0 4 (dk_at dksX0_drop_1 4 rfl rfl)
theorem dX0_drop_31 : decode cX0_drop 31 = .ok (.iconst 0, 1) := dk_3 (dk_at dksX0_drop_1 7 rfl rfl)
theorem dX0_drop_32 : decode cX0_drop 32 = .ok (.bipush 7, 2) := dk_16 7 (dk_at dksX0_drop_1 8 rfl rfl)
theorem dX0_drop_34 : decode cX0_drop 34 = .ok (.invokevirtual 142, 3) := dk_182 0 142 (dk_at dksX0_drop_1 10 rfl rfl)
theorem dX0_drop_37 : decode cX0_drop 37 = .ok (.aload_n 2, 1) := dk_44 (dk_at dksX0_drop_1 13 rfl rfl)
theorem dX0_drop_38 : decode cX0_drop 38 = .ok (.aload_n 0, 1) := dk_42 (dk_at dksX0_drop_1 14 rfl rfl)
theorem dX0_drop_39 : decode cX0_drop 39 = .ok (.getfield 165, 3) := dk_180 0 165 (dk_at dksX0_drop_1 15 rfl rfl)
theorem dX0_drop_42 : decode cX0_drop 42 = .ok (.putfield 284, 3) := dk_181 1 28 (dk_at dksX0_drop_1 18 rfl rfl)
theorem dX0_drop_45 : decode cX0_drop 45 = .ok (.aload_n 0, 1) := dk_42 (dk_at dksX0_drop_1 21 rfl rfl)
theorem dX0_drop_46 : decode cX0_drop 46 = .ok (.new 287, 3) := dk_187 1 31 (dk_at dksX0_drop_2 0 rfl rfl)
theorem dX0_drop_49 : decode cX0_drop 49 = .ok (.dup, 1) := dk_89 (dk_at dksX0_drop_2 3 rfl rfl)
theorem dX0_drop_50 : decode cX0_drop 50 = .ok (.aload_n 0, 1) := dk_42 (dk_at dksX0_drop_2 4 rfl rfl)
theorem dX0_drop_51 : decode cX0_drop 51 = .ok (.aload_n 2, 1) := dk_44 (dk_at dksX0_drop_2 5 rfl rfl)
theorem dX0_drop_52 : decode cX0_drop 52 = .ok (.invokespecial 289, 3) := dk_183 1 33 (dk_at dksX0_drop_2 6 rfl rfl)
theorem dX0_drop_55 : decode cX0_drop 55 = .ok (.invokevirtual 157, 3) := dk_182 0 157 (dk_at dksX0_drop_2 9 rfl rfl)
theorem dX0_drop_58 : decode cX0_drop 58 = .ok (.goto 10, 3) := dk_167 0 10 (dk_at dksX0_drop_2 12 rfl rfl)
theorem dX0_drop_61 : decode cX0_drop 61 = .ok (.astore_n 2, 1) := dk_77 (dk_at dksX0_drop_2 15 rfl rfl)
theorem dX0_drop_62 : decode cX0_drop 62 = .ok (.aload_n 0, 1) := dk_42 (dk_at dksX0_drop_2 16 rfl rfl)
theorem dX0_drop_63 : decode cX0_drop 63 = .ok (.aload_n 2, 1) := dk_44 (dk_at dksX0_drop_2 17 rfl rfl)
theorem dX0_drop_64 : decode cX0_drop 64 = .ok (.invokevirtual 275, 3) := dk_182 1 19 (dk_at dksX0_drop_2 18 rfl rfl)
theorem dX0_drop_67 : decode cX0_drop 67 = .ok (.ireturn, 1) := dk_172 (dk_at dksX0_drop_2 21 rfl rfl)
theorem dX0_drop_68 : decode cX0_drop 68 = .ok (.iconst 1, 1) := dk_4 (dk_at dksX0_drop_2 22 rfl rfl)
theorem dX0_drop_69 : decode cX0_drop 69 = .ok (.ireturn, 1) := dk_172 (dk_at dksX0_drop_2 23 rfl rfl)
abbrev cX0_about : ByteArray := prog_1_method_33_code
def yX0_about : MethodName := ⟨RX0, "about", "(II)I"⟩
def dkwX0_about_5 : List UInt8 := [180, 0, 235, 50, 180, 1, 38, 42, 180, 0, 165, 182, 1, 48, 172, 45, 180, 1, 52, 172, 2, 172]
abbrev dktX0_about_5 : List UInt8 := dkwX0_about_5 ++ []
def dkwX0_about_4 : List UInt8 := [180, 1, 7, 172, 45, 180, 1, 7, 2, 160, 0, 7, 2, 167, 0, 23, 45, 42, 180, 0, 49, 45]
abbrev dktX0_about_4 : List UInt8 := dkwX0_about_4 ++ dktX0_about_5
def dkwX0_about_3 : List UInt8 := [45, 180, 0, 229, 180, 0, 211, 172, 45, 180, 0, 229, 180, 1, 41, 172, 42, 45, 182, 1, 44, 172, 45]
abbrev dktX0_about_3 : List UInt8 := dkwX0_about_3 ++ dktX0_about_4
def dkwX0_about_2 : List UInt8 := [45, 180, 0, 235, 172, 45, 180, 0, 255, 199, 0, 7, 2, 167, 0, 10, 45, 180, 0, 255, 180, 0, 252, 172]
abbrev dktX0_about_2 : List UInt8 := dkwX0_about_2 ++ dktX0_about_3
def dkwX0_about_1 : List UInt8 := [170, 0, 0, 0, 0, 0, 0, 137, 0, 0, 0, 0, 0, 0, 0, 7, 0, 0, 0, 48, 0, 0, 0, 53, 0, 0, 0, 72, 0, 0, 0, 80, 0, 0, 0, 88, 0, 0, 0, 94, 0, 0, 0, 99, 0, 0, 0, 132]
abbrev dktX0_about_1 : List UInt8 := dkwX0_about_1 ++ dktX0_about_2
def dkwX0_about_0 : List UInt8 := [27, 3, 42, 180, 0, 226, 4, 100, 184, 0, 112, 154, 0, 5, 2, 172, 42, 180, 0, 61, 27, 50, 78, 28]
abbrev dktX0_about_0 : List UInt8 := dkwX0_about_0 ++ dktX0_about_1
theorem dksX0_about_0 : cX0_about.data.toList.drop 0 = dktX0_about_0 := by decide +kernel
theorem dksX0_about_1 : cX0_about.data.toList.drop 24 = dktX0_about_1 := dk_seg dksX0_about_0 24 rfl rfl
theorem dksX0_about_2 : cX0_about.data.toList.drop 72 = dktX0_about_2 := dk_seg dksX0_about_1 48 rfl rfl
theorem dksX0_about_3 : cX0_about.data.toList.drop 96 = dktX0_about_3 := dk_seg dksX0_about_2 24 rfl rfl
theorem dksX0_about_4 : cX0_about.data.toList.drop 119 = dktX0_about_4 := dk_seg dksX0_about_3 23 rfl rfl
theorem dksX0_about_5 : cX0_about.data.toList.drop 141 = dktX0_about_5 := dk_seg dksX0_about_4 22 rfl rfl
theorem dX0_about_0 : decode cX0_about 0 = .ok (.iload_n 1, 1) := dk_27 (dk_at dksX0_about_0 0 rfl rfl)
theorem dX0_about_1 : decode cX0_about 1 = .ok (.iconst 0, 1) := dk_3 (dk_at dksX0_about_0 1 rfl rfl)
theorem dX0_about_2 : decode cX0_about 2 = .ok (.aload_n 0, 1) := dk_42 (dk_at dksX0_about_0 2 rfl rfl)
theorem dX0_about_3 : decode cX0_about 3 = .ok (.getfield 226, 3) := dk_180 0 226 (dk_at dksX0_about_0 3 rfl rfl)
theorem dX0_about_6 : decode cX0_about 6 = .ok (.iconst 1, 1) := dk_4 (dk_at dksX0_about_0 6 rfl rfl)
theorem dX0_about_7 : decode cX0_about 7 = .ok (.isub, 1) := dk_100 (dk_at dksX0_about_0 7 rfl rfl)
theorem dX0_about_8 : decode cX0_about 8 = .ok (.invokestatic 112, 3) := dk_184 0 112 (dk_at dksX0_about_0 8 rfl rfl)
theorem dX0_about_11 : decode cX0_about 11 = .ok (.ifCond .ne 5, 3) := dk_154 0 5 (dk_at dksX0_about_0 11 rfl rfl)
theorem dX0_about_14 : decode cX0_about 14 = .ok (.iconst (-1), 1) := dk_2 (dk_at dksX0_about_0 14 rfl rfl)
theorem dX0_about_15 : decode cX0_about 15 = .ok (.ireturn, 1) := dk_172 (dk_at dksX0_about_0 15 rfl rfl)
theorem dX0_about_16 : decode cX0_about 16 = .ok (.aload_n 0, 1) := dk_42 (dk_at dksX0_about_0 16 rfl rfl)
theorem dX0_about_17 : decode cX0_about 17 = .ok (.getfield 61, 3) := dk_180 0 61 (dk_at dksX0_about_0 17 rfl rfl)
theorem dX0_about_20 : decode cX0_about 20 = .ok (.iload_n 1, 1) := dk_27 (dk_at dksX0_about_0 20 rfl rfl)
theorem dX0_about_21 : decode cX0_about 21 = .ok (.aaload, 1) := dk_50 (dk_at dksX0_about_0 21 rfl rfl)
theorem dX0_about_22 : decode cX0_about 22 = .ok (.astore_n 3, 1) := dk_78 (dk_at dksX0_about_0 22 rfl rfl)
theorem dX0_about_23 : decode cX0_about 23 = .ok (.iload_n 2, 1) := dk_28 (dk_at dksX0_about_0 23 rfl rfl)
theorem dX0_about_24 : decode cX0_about 24 = .ok (.tableswitch 137 0 7 #[48, 53, 72, 80, 88, 94, 99, 132], 48) := by decide +kernel
theorem dX0_about_72 : decode cX0_about 72 = .ok (.aload_n 3, 1) := dk_45 (dk_at dksX0_about_2 0 rfl rfl)
theorem dX0_about_73 : decode cX0_about 73 = .ok (.getfield 235, 3) := dk_180 0 235 (dk_at dksX0_about_2 1 rfl rfl)
theorem dX0_about_76 : decode cX0_about 76 = .ok (.ireturn, 1) := dk_172 (dk_at dksX0_about_2 4 rfl rfl)
theorem dX0_about_77 : decode cX0_about 77 = .ok (.aload_n 3, 1) := dk_45 (dk_at dksX0_about_2 5 rfl rfl)
theorem dX0_about_78 : decode cX0_about 78 = .ok (.getfield 255, 3) := dk_180 0 255 (dk_at dksX0_about_2 6 rfl rfl)
theorem dX0_about_81 : decode cX0_about 81 = .ok (.ifnonnull 7, 3) := dk_199 0 7 (dk_at dksX0_about_2 9 rfl rfl)
theorem dX0_about_84 : decode cX0_about 84 = .ok (.iconst (-1), 1) := dk_2 (dk_at dksX0_about_2 12 rfl rfl)
theorem dX0_about_85 : decode cX0_about 85 = .ok (.goto 10, 3) := dk_167 0 10 (dk_at dksX0_about_2 13 rfl rfl)
theorem dX0_about_88 : decode cX0_about 88 = .ok (.aload_n 3, 1) := dk_45 (dk_at dksX0_about_2 16 rfl rfl)
theorem dX0_about_89 : decode cX0_about 89 = .ok (.getfield 255, 3) := dk_180 0 255 (dk_at dksX0_about_2 17 rfl rfl)
theorem dX0_about_92 : decode cX0_about 92 = .ok (.getfield 252, 3) := dk_180 0 252 (dk_at dksX0_about_2 20 rfl rfl)
theorem dX0_about_95 : decode cX0_about 95 = .ok (.ireturn, 1) := dk_172 (dk_at dksX0_about_2 23 rfl rfl)
theorem dX0_about_96 : decode cX0_about 96 = .ok (.aload_n 3, 1) := dk_45 (dk_at dksX0_about_3 0 rfl rfl)
theorem dX0_about_97 : decode cX0_about 97 = .ok (.getfield 229, 3) := dk_180 0 229 (dk_at dksX0_about_3 1 rfl rfl)
theorem dX0_about_100 : decode cX0_about 100 = .ok (.getfield 211, 3) := dk_180 0 211 (dk_at dksX0_about_3 4 rfl rfl)
theorem dX0_about_103 : decode cX0_about 103 = .ok (.ireturn, 1) := dk_172 (dk_at dksX0_about_3 7 rfl rfl)
theorem dX0_about_104 : decode cX0_about 104 = .ok (.aload_n 3, 1) := dk_45 (dk_at dksX0_about_3 8 rfl rfl)
theorem dX0_about_105 : decode cX0_about 105 = .ok (.getfield 229, 3) := dk_180 0 229 (dk_at dksX0_about_3 9 rfl rfl)
theorem dX0_about_108 : decode cX0_about 108 = .ok (.getfield 297, 3) := dk_180 1 41 (dk_at dksX0_about_3 12 rfl rfl)
theorem dX0_about_111 : decode cX0_about 111 = .ok (.ireturn, 1) := dk_172 (dk_at dksX0_about_3 15 rfl rfl)
theorem dX0_about_112 : decode cX0_about 112 = .ok (.aload_n 0, 1) := dk_42 (dk_at dksX0_about_3 16 rfl rfl)
theorem dX0_about_113 : decode cX0_about 113 = .ok (.aload_n 3, 1) := dk_45 (dk_at dksX0_about_3 17 rfl rfl)
theorem dX0_about_114 : decode cX0_about 114 = .ok (.invokevirtual 300, 3) := dk_182 1 44 (dk_at dksX0_about_3 18 rfl rfl)
theorem dX0_about_117 : decode cX0_about 117 = .ok (.ireturn, 1) := dk_172 (dk_at dksX0_about_3 21 rfl rfl)
theorem dX0_about_118 : decode cX0_about 118 = .ok (.aload_n 3, 1) := dk_45 (dk_at dksX0_about_3 22 rfl rfl)
theorem dX0_about_119 : decode cX0_about 119 = .ok (.getfield 263, 3) := dk_180 1 7 (dk_at dksX0_about_4 0 rfl rfl)
theorem dX0_about_122 : decode cX0_about 122 = .ok (.ireturn, 1) := dk_172 (dk_at dksX0_about_4 3 rfl rfl)
theorem dX0_about_123 : decode cX0_about 123 = .ok (.aload_n 3, 1) := dk_45 (dk_at dksX0_about_4 4 rfl rfl)
theorem dX0_about_124 : decode cX0_about 124 = .ok (.getfield 263, 3) := dk_180 1 7 (dk_at dksX0_about_4 5 rfl rfl)
theorem dX0_about_127 : decode cX0_about 127 = .ok (.iconst (-1), 1) := dk_2 (dk_at dksX0_about_4 8 rfl rfl)
theorem dX0_about_128 : decode cX0_about 128 = .ok (.if_icmp .ne 7, 3) := dk_160 0 7 (dk_at dksX0_about_4 9 rfl rfl)
theorem dX0_about_131 : decode cX0_about 131 = .ok (.iconst (-1), 1) := dk_2 (dk_at dksX0_about_4 12 rfl rfl)
theorem dX0_about_132 : decode cX0_about 132 = .ok (.goto 23, 3) := dk_167 0 23 (dk_at dksX0_about_4 13 rfl rfl)
theorem dX0_about_135 : decode cX0_about 135 = .ok (.aload_n 3, 1) := dk_45 (dk_at dksX0_about_4 16 rfl rfl)
theorem dX0_about_136 : decode cX0_about 136 = .ok (.aload_n 0, 1) := dk_42 (dk_at dksX0_about_4 17 rfl rfl)
theorem dX0_about_137 : decode cX0_about 137 = .ok (.getfield 49, 3) := dk_180 0 49 (dk_at dksX0_about_4 18 rfl rfl)
theorem dX0_about_140 : decode cX0_about 140 = .ok (.aload_n 3, 1) := dk_45 (dk_at dksX0_about_4 21 rfl rfl)
theorem dX0_about_141 : decode cX0_about 141 = .ok (.getfield 235, 3) := dk_180 0 235 (dk_at dksX0_about_5 0 rfl rfl)
theorem dX0_about_144 : decode cX0_about 144 = .ok (.aaload, 1) := dk_50 (dk_at dksX0_about_5 3 rfl rfl)
theorem dX0_about_145 : decode cX0_about 145 = .ok (.getfield 294, 3) := dk_180 1 38 (dk_at dksX0_about_5 4 rfl rfl)
theorem dX0_about_148 : decode cX0_about 148 = .ok (.aload_n 0, 1) := dk_42 (dk_at dksX0_about_5 7 rfl rfl)
theorem dX0_about_149 : decode cX0_about 149 = .ok (.getfield 165, 3) := dk_180 0 165 (dk_at dksX0_about_5 8 rfl rfl)
theorem dX0_about_152 : decode cX0_about 152 = .ok (.invokevirtual 304, 3) := dk_182 1 48 (dk_at dksX0_about_5 11 rfl rfl)
theorem dX0_about_155 : decode cX0_about 155 = .ok (.ireturn, 1) := dk_172 (dk_at dksX0_about_5 14 rfl rfl)
theorem dX0_about_156 : decode cX0_about 156 = .ok (.aload_n 3, 1) := dk_45 (dk_at dksX0_about_5 15 rfl rfl)
theorem dX0_about_157 : decode cX0_about 157 = .ok (.getfield 308, 3) := dk_180 1 52 (dk_at dksX0_about_5 16 rfl rfl)
theorem dX0_about_160 : decode cX0_about 160 = .ok (.ireturn, 1) := dk_172 (dk_at dksX0_about_5 19 rfl rfl)
theorem dX0_about_161 : decode cX0_about 161 = .ok (.iconst (-1), 1) := dk_2 (dk_at dksX0_about_5 20 rfl rfl)
theorem dX0_about_162 : decode cX0_about 162 = .ok (.ireturn, 1) := dk_172 (dk_at dksX0_about_5 21 rfl rfl)
abbrev cX0_dayOf : ByteArray := prog_1_method_32_code
def yX0_dayOf : MethodName := ⟨RX0, "dayOf", "(LPatentHall$Claim;)I"⟩
def dkwX0_dayOf_2 : List UInt8 := [180, 1, 38, 172]
abbrev dktX0_dayOf_2 : List UInt8 := dkwX0_dayOf_2 ++ []
def dkwX0_dayOf_1 : List UInt8 := [180, 0, 242, 43, 180, 0, 229, 182, 0, 243, 153, 0, 11, 44, 180, 1, 34, 77, 167, 255, 226, 44]
abbrev dktX0_dayOf_1 : List UInt8 := dkwX0_dayOf_1 ++ dktX0_dayOf_2
def dkwX0_dayOf_0 : List UInt8 := [42, 180, 0, 49, 43, 180, 0, 235, 50, 77, 44, 180, 1, 34, 198, 0, 29, 42, 44, 180, 1, 34]
abbrev dktX0_dayOf_0 : List UInt8 := dkwX0_dayOf_0 ++ dktX0_dayOf_1
theorem dksX0_dayOf_0 : cX0_dayOf.data.toList.drop 0 = dktX0_dayOf_0 := by decide +kernel
theorem dksX0_dayOf_1 : cX0_dayOf.data.toList.drop 22 = dktX0_dayOf_1 := dk_seg dksX0_dayOf_0 22 rfl rfl
theorem dksX0_dayOf_2 : cX0_dayOf.data.toList.drop 44 = dktX0_dayOf_2 := dk_seg dksX0_dayOf_1 22 rfl rfl
theorem dX0_dayOf_0 : decode cX0_dayOf 0 = .ok (.aload_n 0, 1) := dk_42 (dk_at dksX0_dayOf_0 0 rfl rfl)
theorem dX0_dayOf_1 : decode cX0_dayOf 1 = .ok (.getfield 49, 3) := dk_180 0 49 (dk_at dksX0_dayOf_0 1 rfl rfl)
theorem dX0_dayOf_4 : decode cX0_dayOf 4 = .ok (.aload_n 1, 1) := dk_43 (dk_at dksX0_dayOf_0 4 rfl rfl)
theorem dX0_dayOf_5 : decode cX0_dayOf 5 = .ok (.getfield 235, 3) := dk_180 0 235 (dk_at dksX0_dayOf_0 5 rfl rfl)
theorem dX0_dayOf_8 : decode cX0_dayOf 8 = .ok (.aaload, 1) := dk_50 (dk_at dksX0_dayOf_0 8 rfl rfl)
theorem dX0_dayOf_9 : decode cX0_dayOf 9 = .ok (.astore_n 2, 1) := dk_77 (dk_at dksX0_dayOf_0 9 rfl rfl)
theorem dX0_dayOf_10 : decode cX0_dayOf 10 = .ok (.aload_n 2, 1) := dk_44 (dk_at dksX0_dayOf_0 10 rfl rfl)
theorem dX0_dayOf_11 : decode cX0_dayOf 11 = .ok (.getfield 290, 3) := dk_180 1 34 (dk_at dksX0_dayOf_0 11 rfl rfl)
theorem dX0_dayOf_14 : decode cX0_dayOf 14 = .ok (.ifnull 29, 3) := dk_198 0 29 (dk_at dksX0_dayOf_0 14 rfl rfl)
theorem dX0_dayOf_17 : decode cX0_dayOf 17 = .ok (.aload_n 0, 1) := dk_42 (dk_at dksX0_dayOf_0 17 rfl rfl)
theorem dX0_dayOf_18 : decode cX0_dayOf 18 = .ok (.aload_n 2, 1) := dk_44 (dk_at dksX0_dayOf_0 18 rfl rfl)
theorem dX0_dayOf_19 : decode cX0_dayOf 19 = .ok (.getfield 290, 3) := dk_180 1 34 (dk_at dksX0_dayOf_0 19 rfl rfl)
theorem dX0_dayOf_22 : decode cX0_dayOf 22 = .ok (.getfield 242, 3) := dk_180 0 242 (dk_at dksX0_dayOf_1 0 rfl rfl)
theorem dX0_dayOf_25 : decode cX0_dayOf 25 = .ok (.aload_n 1, 1) := dk_43 (dk_at dksX0_dayOf_1 3 rfl rfl)
theorem dX0_dayOf_26 : decode cX0_dayOf 26 = .ok (.getfield 229, 3) := dk_180 0 229 (dk_at dksX0_dayOf_1 4 rfl rfl)
theorem dX0_dayOf_29 : decode cX0_dayOf 29 = .ok (.invokevirtual 243, 3) := dk_182 0 243 (dk_at dksX0_dayOf_1 7 rfl rfl)
theorem dX0_dayOf_32 : decode cX0_dayOf 32 = .ok (.ifCond .eq 11, 3) := dk_153 0 11 (dk_at dksX0_dayOf_1 10 rfl rfl)
theorem dX0_dayOf_35 : decode cX0_dayOf 35 = .ok (.aload_n 2, 1) := dk_44 (dk_at dksX0_dayOf_1 13 rfl rfl)
theorem dX0_dayOf_36 : decode cX0_dayOf 36 = .ok (.getfield 290, 3) := dk_180 1 34 (dk_at dksX0_dayOf_1 14 rfl rfl)
theorem dX0_dayOf_39 : decode cX0_dayOf 39 = .ok (.astore_n 2, 1) := dk_77 (dk_at dksX0_dayOf_1 17 rfl rfl)
theorem dX0_dayOf_40 : decode cX0_dayOf 40 = .ok (.goto (-30), 3) := dk_167 255 226 (dk_at dksX0_dayOf_1 18 rfl rfl)
theorem dX0_dayOf_43 : decode cX0_dayOf 43 = .ok (.aload_n 2, 1) := dk_44 (dk_at dksX0_dayOf_1 21 rfl rfl)
theorem dX0_dayOf_44 : decode cX0_dayOf 44 = .ok (.getfield 294, 3) := dk_180 1 38 (dk_at dksX0_dayOf_2 0 rfl rfl)
theorem dX0_dayOf_47 : decode cX0_dayOf 47 = .ok (.ireturn, 1) := dk_172 (dk_at dksX0_dayOf_2 3 rfl rfl)
abbrev cX0_finds : ByteArray := prog_1_method_35_code
def yX0_finds : MethodName := ⟨RX0, "finds", "(III)I"⟩
def dkwX0_finds_4 : List UInt8 := [42, 180, 1, 59, 184, 0, 119, 21, 6, 172, 58, 4, 42, 25, 4, 182, 0, 108, 172]
abbrev dktX0_finds_4 : List UInt8 := dkwX0_finds_4 ++ []
def dkwX0_finds_3 : List UInt8 := [25, 4, 180, 0, 229, 180, 0, 211, 181, 1, 59, 42, 180, 0, 27, 180, 1, 62, 3, 42, 180, 0, 82, 3]
abbrev dktX0_finds_3 : List UInt8 := dkwX0_finds_3 ++ dktX0_finds_4
def dkwX0_finds_2 : List UInt8 := [180, 0, 229, 184, 0, 218, 25, 5, 3, 182, 0, 214, 54, 6, 42, 21, 6, 154, 0, 7, 3, 167, 0, 11]
abbrev dktX0_finds_2 : List UInt8 := dkwX0_finds_2 ++ dktX0_finds_3
def dkwX0_finds_1 : List UInt8 := [198, 0, 7, 4, 167, 0, 4, 3, 4, 182, 0, 142, 42, 180, 0, 27, 25, 4, 180, 0, 229, 25, 4]
abbrev dktX0_finds_1 : List UInt8 := dkwX0_finds_1 ++ dktX0_finds_2
def dkwX0_finds_0 : List UInt8 := [42, 182, 0, 139, 42, 27, 182, 1, 3, 58, 4, 42, 28, 29, 182, 1, 55, 58, 5, 42, 25, 5]
abbrev dktX0_finds_0 : List UInt8 := dkwX0_finds_0 ++ dktX0_finds_1
theorem dksX0_finds_0 : cX0_finds.data.toList.drop 0 = dktX0_finds_0 := by decide +kernel
theorem dksX0_finds_1 : cX0_finds.data.toList.drop 22 = dktX0_finds_1 := dk_seg dksX0_finds_0 22 rfl rfl
theorem dksX0_finds_2 : cX0_finds.data.toList.drop 45 = dktX0_finds_2 := dk_seg dksX0_finds_1 23 rfl rfl
theorem dksX0_finds_3 : cX0_finds.data.toList.drop 69 = dktX0_finds_3 := dk_seg dksX0_finds_2 24 rfl rfl
theorem dksX0_finds_4 : cX0_finds.data.toList.drop 93 = dktX0_finds_4 := dk_seg dksX0_finds_3 24 rfl rfl
theorem dX0_finds_0 : decode cX0_finds 0 = .ok (.aload_n 0, 1) := dk_42 (dk_at dksX0_finds_0 0 rfl rfl)
theorem dX0_finds_1 : decode cX0_finds 1 = .ok (.invokevirtual 139, 3) := dk_182 0 139 (dk_at dksX0_finds_0 1 rfl rfl)
theorem dX0_finds_4 : decode cX0_finds 4 = .ok (.aload_n 0, 1) := dk_42 (dk_at dksX0_finds_0 4 rfl rfl)
theorem dX0_finds_5 : decode cX0_finds 5 = .ok (.iload_n 1, 1) := dk_27 (dk_at dksX0_finds_0 5 rfl rfl)
theorem dX0_finds_6 : decode cX0_finds 6 = .ok (.invokevirtual 259, 3) := dk_182 1 3 (dk_at dksX0_finds_0 6 rfl rfl)
theorem dX0_finds_9 : decode cX0_finds 9 = .ok (.astore 4, 2) := dk_58 4 (dk_at dksX0_finds_0 9 rfl rfl)
theorem dX0_finds_11 : decode cX0_finds 11 = .ok (.aload_n 0, 1) := dk_42 (dk_at dksX0_finds_0 11 rfl rfl)
theorem dX0_finds_12 : decode cX0_finds 12 = .ok (.iload_n 2, 1) := dk_28 (dk_at dksX0_finds_0 12 rfl rfl)
theorem dX0_finds_13 : decode cX0_finds 13 = .ok (.iload_n 3, 1) := dk_29 (dk_at dksX0_finds_0 13 rfl rfl)
theorem dX0_finds_14 : decode cX0_finds 14 = .ok (.invokevirtual 311, 3) := dk_182 1 55 (dk_at dksX0_finds_0 14 rfl rfl)
theorem dX0_finds_17 : decode cX0_finds 17 = .ok (.astore 5, 2) := dk_58 5 (dk_at dksX0_finds_0 17 rfl rfl)
theorem dX0_finds_19 : decode cX0_finds 19 = .ok (.aload_n 0, 1) := dk_42 (dk_at dksX0_finds_0 19 rfl rfl)
theorem dX0_finds_20 : decode cX0_finds 20 = .ok (.aload 5, 2) := dk_25 5 (dk_at dksX0_finds_0 20 rfl rfl)
theorem dX0_finds_22 : decode cX0_finds 22 = .ok (.ifnull 7, 3) := dk_198 0 7 (dk_at dksX0_finds_1 0 rfl rfl)
theorem dX0_finds_25 : decode cX0_finds 25 = .ok (.iconst 1, 1) := dk_4 (dk_at dksX0_finds_1 3 rfl rfl)
theorem dX0_finds_26 : decode cX0_finds 26 = .ok (.goto 4, 3) := dk_167 0 4 (dk_at dksX0_finds_1 4 rfl rfl)
theorem dX0_finds_29 : decode cX0_finds 29 = .ok (.iconst 0, 1) := dk_3 (dk_at dksX0_finds_1 7 rfl rfl)
theorem dX0_finds_30 : decode cX0_finds 30 = .ok (.iconst 1, 1) := dk_4 (dk_at dksX0_finds_1 8 rfl rfl)
theorem dX0_finds_31 : decode cX0_finds 31 = .ok (.invokevirtual 142, 3) := dk_182 0 142 (dk_at dksX0_finds_1 9 rfl rfl)
theorem dX0_finds_34 : decode cX0_finds 34 = .ok (.aload_n 0, 1) := dk_42 (dk_at dksX0_finds_1 12 rfl rfl)
theorem dX0_finds_35 : decode cX0_finds 35 = .ok (.getfield 27, 3) := dk_180 0 27 (dk_at dksX0_finds_1 13 rfl rfl)
theorem dX0_finds_38 : decode cX0_finds 38 = .ok (.aload 4, 2) := dk_25 4 (dk_at dksX0_finds_1 16 rfl rfl)
theorem dX0_finds_40 : decode cX0_finds 40 = .ok (.getfield 229, 3) := dk_180 0 229 (dk_at dksX0_finds_1 18 rfl rfl)
theorem dX0_finds_43 : decode cX0_finds 43 = .ok (.aload 4, 2) := dk_25 4 (dk_at dksX0_finds_1 21 rfl rfl)
theorem dX0_finds_45 : decode cX0_finds 45 = .ok (.getfield 229, 3) := dk_180 0 229 (dk_at dksX0_finds_2 0 rfl rfl)
theorem dX0_finds_48 : decode cX0_finds 48 = .ok (.invokestatic 218, 3) := dk_184 0 218 (dk_at dksX0_finds_2 3 rfl rfl)
theorem dX0_finds_51 : decode cX0_finds 51 = .ok (.aload 5, 2) := dk_25 5 (dk_at dksX0_finds_2 6 rfl rfl)
theorem dX0_finds_53 : decode cX0_finds 53 = .ok (.iconst 0, 1) := dk_3 (dk_at dksX0_finds_2 8 rfl rfl)
theorem dX0_finds_54 : decode cX0_finds 54 = .ok (.invokevirtual 214, 3) := dk_182 0 214 (dk_at dksX0_finds_2 9 rfl rfl)
theorem dX0_finds_57 : decode cX0_finds 57 = .ok (.istore 6, 2) := dk_54 6 (dk_at dksX0_finds_2 12 rfl rfl)
theorem dX0_finds_59 : decode cX0_finds 59 = .ok (.aload_n 0, 1) := dk_42 (dk_at dksX0_finds_2 14 rfl rfl)
theorem dX0_finds_60 : decode cX0_finds 60 = .ok (.iload 6, 2) := dk_21 6 (dk_at dksX0_finds_2 15 rfl rfl)
theorem dX0_finds_62 : decode cX0_finds 62 = .ok (.ifCond .ne 7, 3) := dk_154 0 7 (dk_at dksX0_finds_2 17 rfl rfl)
theorem dX0_finds_65 : decode cX0_finds 65 = .ok (.iconst 0, 1) := dk_3 (dk_at dksX0_finds_2 20 rfl rfl)
theorem dX0_finds_66 : decode cX0_finds 66 = .ok (.goto 11, 3) := dk_167 0 11 (dk_at dksX0_finds_2 21 rfl rfl)
theorem dX0_finds_69 : decode cX0_finds 69 = .ok (.aload 4, 2) := dk_25 4 (dk_at dksX0_finds_3 0 rfl rfl)
theorem dX0_finds_71 : decode cX0_finds 71 = .ok (.getfield 229, 3) := dk_180 0 229 (dk_at dksX0_finds_3 2 rfl rfl)
theorem dX0_finds_74 : decode cX0_finds 74 = .ok (.getfield 211, 3) := dk_180 0 211 (dk_at dksX0_finds_3 5 rfl rfl)
theorem dX0_finds_77 : decode cX0_finds 77 = .ok (.putfield 315, 3) := dk_181 1 59 (dk_at dksX0_finds_3 8 rfl rfl)
theorem dX0_finds_80 : decode cX0_finds 80 = .ok (.aload_n 0, 1) := dk_42 (dk_at dksX0_finds_3 11 rfl rfl)
theorem dX0_finds_81 : decode cX0_finds 81 = .ok (.getfield 27, 3) := dk_180 0 27 (dk_at dksX0_finds_3 12 rfl rfl)
theorem dX0_finds_84 : decode cX0_finds 84 = .ok (.getfield 318, 3) := dk_180 1 62 (dk_at dksX0_finds_3 15 rfl rfl)
theorem dX0_finds_87 : decode cX0_finds 87 = .ok (.iconst 0, 1) := dk_3 (dk_at dksX0_finds_3 18 rfl rfl)
theorem dX0_finds_88 : decode cX0_finds 88 = .ok (.aload_n 0, 1) := dk_42 (dk_at dksX0_finds_3 19 rfl rfl)
theorem dX0_finds_89 : decode cX0_finds 89 = .ok (.getfield 82, 3) := dk_180 0 82 (dk_at dksX0_finds_3 20 rfl rfl)
theorem dX0_finds_92 : decode cX0_finds 92 = .ok (.iconst 0, 1) := dk_3 (dk_at dksX0_finds_3 23 rfl rfl)
theorem dX0_finds_93 : decode cX0_finds 93 = .ok (.aload_n 0, 1) := dk_42 (dk_at dksX0_finds_4 0 rfl rfl)
theorem dX0_finds_94 : decode cX0_finds 94 = .ok (.getfield 315, 3) := dk_180 1 59 (dk_at dksX0_finds_4 1 rfl rfl)
theorem dX0_finds_97 : decode cX0_finds 97 = .ok (.invokestatic 119, 3) := dk_184 0 119 (dk_at dksX0_finds_4 4 rfl rfl)
theorem dX0_finds_100 : decode cX0_finds 100 = .ok (.iload 6, 2) := dk_21 6 (dk_at dksX0_finds_4 7 rfl rfl)
theorem dX0_finds_102 : decode cX0_finds 102 = .ok (.ireturn, 1) := dk_172 (dk_at dksX0_finds_4 9 rfl rfl)
theorem dX0_finds_103 : decode cX0_finds 103 = .ok (.astore 4, 2) := dk_58 4 (dk_at dksX0_finds_4 10 rfl rfl)
theorem dX0_finds_105 : decode cX0_finds 105 = .ok (.aload_n 0, 1) := dk_42 (dk_at dksX0_finds_4 12 rfl rfl)
theorem dX0_finds_106 : decode cX0_finds 106 = .ok (.aload 4, 2) := dk_25 4 (dk_at dksX0_finds_4 13 rfl rfl)
theorem dX0_finds_108 : decode cX0_finds 108 = .ok (.invokevirtual 108, 3) := dk_182 0 108 (dk_at dksX0_finds_4 15 rfl rfl)
theorem dX0_finds_111 : decode cX0_finds 111 = .ok (.ireturn, 1) := dk_172 (dk_at dksX0_finds_4 18 rfl rfl)
abbrev cX0_textOf : ByteArray := prog_1_method_34_code
def yX0_textOf : MethodName := ⟨RX0, "textOf", "(II)LPatentHall$Text;"⟩
def dkwX0_textOf_5 : List UInt8 := [180, 0, 55, 28, 50, 180, 1, 54, 167, 0, 4, 1, 176, 1, 176]
abbrev dktX0_textOf_5 : List UInt8 := dkwX0_textOf_5 ++ []
def dkwX0_textOf_4 : List UInt8 := [50, 180, 0, 242, 167, 0, 4, 1, 176, 28, 3, 42, 180, 0, 193, 4, 100, 184, 0, 112, 153, 0, 15, 42]
abbrev dktX0_textOf_4 : List UInt8 := dkwX0_textOf_4 ++ dktX0_textOf_5
def dkwX0_textOf_3 : List UInt8 := [167, 0, 4, 1, 176, 28, 3, 42, 180, 0, 202, 4, 100, 184, 0, 112, 153, 0, 15, 42, 180, 0, 49, 28]
abbrev dktX0_textOf_3 : List UInt8 := dkwX0_textOf_3 ++ dktX0_textOf_4
def dkwX0_textOf_2 : List UInt8 := [28, 3, 42, 180, 0, 184, 4, 100, 184, 0, 112, 153, 0, 15, 42, 180, 0, 43, 28, 50, 180, 1, 53]
abbrev dktX0_textOf_2 : List UInt8 := dkwX0_textOf_2 ++ dktX0_textOf_3
def dkwX0_textOf_1 : List UInt8 := [170, 0, 0, 0, 0, 0, 111, 0, 0, 0, 0, 0, 0, 0, 2, 0, 0, 0, 27, 0, 0, 0, 55, 0, 0, 0, 83]
abbrev dktX0_textOf_1 : List UInt8 := dkwX0_textOf_1 ++ dktX0_textOf_2
def dkwX0_textOf_0 : List UInt8 := [27]
abbrev dktX0_textOf_0 : List UInt8 := dkwX0_textOf_0 ++ dktX0_textOf_1
theorem dksX0_textOf_0 : cX0_textOf.data.toList.drop 0 = dktX0_textOf_0 := by decide +kernel
theorem dksX0_textOf_1 : cX0_textOf.data.toList.drop 1 = dktX0_textOf_1 := dk_seg dksX0_textOf_0 1 rfl rfl
theorem dksX0_textOf_2 : cX0_textOf.data.toList.drop 28 = dktX0_textOf_2 := dk_seg dksX0_textOf_1 27 rfl rfl
theorem dksX0_textOf_3 : cX0_textOf.data.toList.drop 51 = dktX0_textOf_3 := dk_seg dksX0_textOf_2 23 rfl rfl
theorem dksX0_textOf_4 : cX0_textOf.data.toList.drop 75 = dktX0_textOf_4 := dk_seg dksX0_textOf_3 24 rfl rfl
theorem dksX0_textOf_5 : cX0_textOf.data.toList.drop 99 = dktX0_textOf_5 := dk_seg dksX0_textOf_4 24 rfl rfl
theorem dX0_textOf_0 : decode cX0_textOf 0 = .ok (.iload_n 1, 1) := dk_27 (dk_at dksX0_textOf_0 0 rfl rfl)
theorem dX0_textOf_1 : decode cX0_textOf 1 = .ok (.tableswitch 111 0 2 #[27, 55, 83], 27) := by decide +kernel
theorem dX0_textOf_28 : decode cX0_textOf 28 = .ok (.iload_n 2, 1) := dk_28 (dk_at dksX0_textOf_2 0 rfl rfl)
theorem dX0_textOf_29 : decode cX0_textOf 29 = .ok (.iconst 0, 1) := dk_3 (dk_at dksX0_textOf_2 1 rfl rfl)
theorem dX0_textOf_30 : decode cX0_textOf 30 = .ok (.aload_n 0, 1) := dk_42 (dk_at dksX0_textOf_2 2 rfl rfl)
theorem dX0_textOf_31 : decode cX0_textOf 31 = .ok (.getfield 184, 3) := dk_180 0 184 (dk_at dksX0_textOf_2 3 rfl rfl)
theorem dX0_textOf_34 : decode cX0_textOf 34 = .ok (.iconst 1, 1) := dk_4 (dk_at dksX0_textOf_2 6 rfl rfl)
theorem dX0_textOf_35 : decode cX0_textOf 35 = .ok (.isub, 1) := dk_100 (dk_at dksX0_textOf_2 7 rfl rfl)
theorem dX0_textOf_36 : decode cX0_textOf 36 = .ok (.invokestatic 112, 3) := dk_184 0 112 (dk_at dksX0_textOf_2 8 rfl rfl)
theorem dX0_textOf_39 : decode cX0_textOf 39 = .ok (.ifCond .eq 15, 3) := dk_153 0 15 (dk_at dksX0_textOf_2 11 rfl rfl)
theorem dX0_textOf_42 : decode cX0_textOf 42 = .ok (.aload_n 0, 1) := dk_42 (dk_at dksX0_textOf_2 14 rfl rfl)
theorem dX0_textOf_43 : decode cX0_textOf 43 = .ok (.getfield 43, 3) := dk_180 0 43 (dk_at dksX0_textOf_2 15 rfl rfl)
theorem dX0_textOf_46 : decode cX0_textOf 46 = .ok (.iload_n 2, 1) := dk_28 (dk_at dksX0_textOf_2 18 rfl rfl)
theorem dX0_textOf_47 : decode cX0_textOf 47 = .ok (.aaload, 1) := dk_50 (dk_at dksX0_textOf_2 19 rfl rfl)
theorem dX0_textOf_48 : decode cX0_textOf 48 = .ok (.getfield 309, 3) := dk_180 1 53 (dk_at dksX0_textOf_2 20 rfl rfl)
theorem dX0_textOf_51 : decode cX0_textOf 51 = .ok (.goto 4, 3) := dk_167 0 4 (dk_at dksX0_textOf_3 0 rfl rfl)
theorem dX0_textOf_54 : decode cX0_textOf 54 = .ok (.aconst_null, 1) := dk_1 (dk_at dksX0_textOf_3 3 rfl rfl)
theorem dX0_textOf_55 : decode cX0_textOf 55 = .ok (.areturn, 1) := dk_176 (dk_at dksX0_textOf_3 4 rfl rfl)
theorem dX0_textOf_56 : decode cX0_textOf 56 = .ok (.iload_n 2, 1) := dk_28 (dk_at dksX0_textOf_3 5 rfl rfl)
theorem dX0_textOf_57 : decode cX0_textOf 57 = .ok (.iconst 0, 1) := dk_3 (dk_at dksX0_textOf_3 6 rfl rfl)
theorem dX0_textOf_58 : decode cX0_textOf 58 = .ok (.aload_n 0, 1) := dk_42 (dk_at dksX0_textOf_3 7 rfl rfl)
theorem dX0_textOf_59 : decode cX0_textOf 59 = .ok (.getfield 202, 3) := dk_180 0 202 (dk_at dksX0_textOf_3 8 rfl rfl)
theorem dX0_textOf_62 : decode cX0_textOf 62 = .ok (.iconst 1, 1) := dk_4 (dk_at dksX0_textOf_3 11 rfl rfl)
theorem dX0_textOf_63 : decode cX0_textOf 63 = .ok (.isub, 1) := dk_100 (dk_at dksX0_textOf_3 12 rfl rfl)
theorem dX0_textOf_64 : decode cX0_textOf 64 = .ok (.invokestatic 112, 3) := dk_184 0 112 (dk_at dksX0_textOf_3 13 rfl rfl)
theorem dX0_textOf_67 : decode cX0_textOf 67 = .ok (.ifCond .eq 15, 3) := dk_153 0 15 (dk_at dksX0_textOf_3 16 rfl rfl)
theorem dX0_textOf_70 : decode cX0_textOf 70 = .ok (.aload_n 0, 1) := dk_42 (dk_at dksX0_textOf_3 19 rfl rfl)
theorem dX0_textOf_71 : decode cX0_textOf 71 = .ok (.getfield 49, 3) := dk_180 0 49 (dk_at dksX0_textOf_3 20 rfl rfl)
theorem dX0_textOf_74 : decode cX0_textOf 74 = .ok (.iload_n 2, 1) := dk_28 (dk_at dksX0_textOf_3 23 rfl rfl)
theorem dX0_textOf_75 : decode cX0_textOf 75 = .ok (.aaload, 1) := dk_50 (dk_at dksX0_textOf_4 0 rfl rfl)
theorem dX0_textOf_76 : decode cX0_textOf 76 = .ok (.getfield 242, 3) := dk_180 0 242 (dk_at dksX0_textOf_4 1 rfl rfl)
theorem dX0_textOf_79 : decode cX0_textOf 79 = .ok (.goto 4, 3) := dk_167 0 4 (dk_at dksX0_textOf_4 4 rfl rfl)
theorem dX0_textOf_82 : decode cX0_textOf 82 = .ok (.aconst_null, 1) := dk_1 (dk_at dksX0_textOf_4 7 rfl rfl)
theorem dX0_textOf_83 : decode cX0_textOf 83 = .ok (.areturn, 1) := dk_176 (dk_at dksX0_textOf_4 8 rfl rfl)
theorem dX0_textOf_84 : decode cX0_textOf 84 = .ok (.iload_n 2, 1) := dk_28 (dk_at dksX0_textOf_4 9 rfl rfl)
theorem dX0_textOf_85 : decode cX0_textOf 85 = .ok (.iconst 0, 1) := dk_3 (dk_at dksX0_textOf_4 10 rfl rfl)
theorem dX0_textOf_86 : decode cX0_textOf 86 = .ok (.aload_n 0, 1) := dk_42 (dk_at dksX0_textOf_4 11 rfl rfl)
theorem dX0_textOf_87 : decode cX0_textOf 87 = .ok (.getfield 193, 3) := dk_180 0 193 (dk_at dksX0_textOf_4 12 rfl rfl)
theorem dX0_textOf_90 : decode cX0_textOf 90 = .ok (.iconst 1, 1) := dk_4 (dk_at dksX0_textOf_4 15 rfl rfl)
theorem dX0_textOf_91 : decode cX0_textOf 91 = .ok (.isub, 1) := dk_100 (dk_at dksX0_textOf_4 16 rfl rfl)
theorem dX0_textOf_92 : decode cX0_textOf 92 = .ok (.invokestatic 112, 3) := dk_184 0 112 (dk_at dksX0_textOf_4 17 rfl rfl)
theorem dX0_textOf_95 : decode cX0_textOf 95 = .ok (.ifCond .eq 15, 3) := dk_153 0 15 (dk_at dksX0_textOf_4 20 rfl rfl)
theorem dX0_textOf_98 : decode cX0_textOf 98 = .ok (.aload_n 0, 1) := dk_42 (dk_at dksX0_textOf_4 23 rfl rfl)
theorem dX0_textOf_99 : decode cX0_textOf 99 = .ok (.getfield 55, 3) := dk_180 0 55 (dk_at dksX0_textOf_5 0 rfl rfl)
theorem dX0_textOf_102 : decode cX0_textOf 102 = .ok (.iload_n 2, 1) := dk_28 (dk_at dksX0_textOf_5 3 rfl rfl)
theorem dX0_textOf_103 : decode cX0_textOf 103 = .ok (.aaload, 1) := dk_50 (dk_at dksX0_textOf_5 4 rfl rfl)
theorem dX0_textOf_104 : decode cX0_textOf 104 = .ok (.getfield 310, 3) := dk_180 1 54 (dk_at dksX0_textOf_5 5 rfl rfl)
theorem dX0_textOf_107 : decode cX0_textOf 107 = .ok (.goto 4, 3) := dk_167 0 4 (dk_at dksX0_textOf_5 8 rfl rfl)
theorem dX0_textOf_110 : decode cX0_textOf 110 = .ok (.aconst_null, 1) := dk_1 (dk_at dksX0_textOf_5 11 rfl rfl)
theorem dX0_textOf_111 : decode cX0_textOf 111 = .ok (.areturn, 1) := dk_176 (dk_at dksX0_textOf_5 12 rfl rfl)
theorem dX0_textOf_112 : decode cX0_textOf 112 = .ok (.aconst_null, 1) := dk_1 (dk_at dksX0_textOf_5 13 rfl rfl)
theorem dX0_textOf_113 : decode cX0_textOf 113 = .ok (.areturn, 1) := dk_176 (dk_at dksX0_textOf_5 14 rfl rfl)
abbrev cX0_part : ByteArray := prog_1_method_36_code
def yX0_part : MethodName := ⟨RX0, "part", "(I)I"⟩
def dkwX0_part_1 : List UInt8 := [172]
abbrev dktX0_part_1 : List UInt8 := dkwX0_part_1 ++ []
def dkwX0_part_0 : List UInt8 := [27, 3, 42, 180, 1, 59, 4, 100, 184, 0, 112, 153, 0, 12, 42, 180, 0, 82, 27, 46, 167, 0, 4, 2]
abbrev dktX0_part_0 : List UInt8 := dkwX0_part_0 ++ dktX0_part_1
theorem dksX0_part_0 : cX0_part.data.toList.drop 0 = dktX0_part_0 := by decide +kernel
theorem dksX0_part_1 : cX0_part.data.toList.drop 24 = dktX0_part_1 := dk_seg dksX0_part_0 24 rfl rfl
theorem dX0_part_0 : decode cX0_part 0 = .ok (.iload_n 1, 1) := dk_27 (dk_at dksX0_part_0 0 rfl rfl)
theorem dX0_part_1 : decode cX0_part 1 = .ok (.iconst 0, 1) := dk_3 (dk_at dksX0_part_0 1 rfl rfl)
theorem dX0_part_2 : decode cX0_part 2 = .ok (.aload_n 0, 1) := dk_42 (dk_at dksX0_part_0 2 rfl rfl)
theorem dX0_part_3 : decode cX0_part 3 = .ok (.getfield 315, 3) := dk_180 1 59 (dk_at dksX0_part_0 3 rfl rfl)
theorem dX0_part_6 : decode cX0_part 6 = .ok (.iconst 1, 1) := dk_4 (dk_at dksX0_part_0 6 rfl rfl)
theorem dX0_part_7 : decode cX0_part 7 = .ok (.isub, 1) := dk_100 (dk_at dksX0_part_0 7 rfl rfl)
theorem dX0_part_8 : decode cX0_part 8 = .ok (.invokestatic 112, 3) := dk_184 0 112 (dk_at dksX0_part_0 8 rfl rfl)
theorem dX0_part_11 : decode cX0_part 11 = .ok (.ifCond .eq 12, 3) := dk_153 0 12 (dk_at dksX0_part_0 11 rfl rfl)
theorem dX0_part_14 : decode cX0_part 14 = .ok (.aload_n 0, 1) := dk_42 (dk_at dksX0_part_0 14 rfl rfl)
theorem dX0_part_15 : decode cX0_part 15 = .ok (.getfield 82, 3) := dk_180 0 82 (dk_at dksX0_part_0 15 rfl rfl)
theorem dX0_part_18 : decode cX0_part 18 = .ok (.iload_n 1, 1) := dk_27 (dk_at dksX0_part_0 18 rfl rfl)
theorem dX0_part_19 : decode cX0_part 19 = .ok (.iaload, 1) := dk_46 (dk_at dksX0_part_0 19 rfl rfl)
theorem dX0_part_20 : decode cX0_part 20 = .ok (.goto 4, 3) := dk_167 0 4 (dk_at dksX0_part_0 20 rfl rfl)
theorem dX0_part_23 : decode cX0_part 23 = .ok (.iconst (-1), 1) := dk_2 (dk_at dksX0_part_0 23 rfl rfl)
theorem dX0_part_24 : decode cX0_part 24 = .ok (.ireturn, 1) := dk_172 (dk_at dksX0_part_1 0 rfl rfl)
abbrev cX0_old : ByteArray := prog_1_method_38_code
def yX0_old : MethodName := ⟨RX0, "old", "(II)I"⟩
def dkwX0_old_3 : List UInt8 := [132, 5, 1, 167, 255, 204, 16, 254, 172, 78, 42, 45, 182, 0, 108, 172]
abbrev dktX0_old_3 : List UInt8 := dkwX0_old_3 ++ []
def dkwX0_old_2 : List UInt8 := [180, 0, 43, 21, 5, 50, 180, 1, 53, 45, 180, 0, 229, 182, 0, 243, 153, 0, 6, 21, 5, 172]
abbrev dktX0_old_2 : List UInt8 := dkwX0_old_2 ++ dktX0_old_3
def dkwX0_old_1 : List UInt8 := [180, 0, 184, 162, 0, 49, 42, 180, 0, 43, 21, 5, 50, 21, 4, 28, 182, 1, 72, 153, 0, 27, 42, 42]
abbrev dktX0_old_1 : List UInt8 := dkwX0_old_1 ++ dktX0_old_2
def dkwX0_old_0 : List UInt8 := [42, 182, 0, 139, 42, 27, 28, 182, 1, 69, 78, 42, 45, 182, 1, 44, 54, 4, 3, 54, 5, 21, 5, 42]
abbrev dktX0_old_0 : List UInt8 := dkwX0_old_0 ++ dktX0_old_1
theorem dksX0_old_0 : cX0_old.data.toList.drop 0 = dktX0_old_0 := by decide +kernel
theorem dksX0_old_1 : cX0_old.data.toList.drop 24 = dktX0_old_1 := dk_seg dksX0_old_0 24 rfl rfl
theorem dksX0_old_2 : cX0_old.data.toList.drop 48 = dktX0_old_2 := dk_seg dksX0_old_1 24 rfl rfl
theorem dksX0_old_3 : cX0_old.data.toList.drop 70 = dktX0_old_3 := dk_seg dksX0_old_2 22 rfl rfl
theorem dX0_old_0 : decode cX0_old 0 = .ok (.aload_n 0, 1) := dk_42 (dk_at dksX0_old_0 0 rfl rfl)
theorem dX0_old_1 : decode cX0_old 1 = .ok (.invokevirtual 139, 3) := dk_182 0 139 (dk_at dksX0_old_0 1 rfl rfl)
theorem dX0_old_4 : decode cX0_old 4 = .ok (.aload_n 0, 1) := dk_42 (dk_at dksX0_old_0 4 rfl rfl)
theorem dX0_old_5 : decode cX0_old 5 = .ok (.iload_n 1, 1) := dk_27 (dk_at dksX0_old_0 5 rfl rfl)
theorem dX0_old_6 : decode cX0_old 6 = .ok (.iload_n 2, 1) := dk_28 (dk_at dksX0_old_0 6 rfl rfl)
theorem dX0_old_7 : decode cX0_old 7 = .ok (.invokevirtual 325, 3) := dk_182 1 69 (dk_at dksX0_old_0 7 rfl rfl)
theorem dX0_old_10 : decode cX0_old 10 = .ok (.astore_n 3, 1) := dk_78 (dk_at dksX0_old_0 10 rfl rfl)
theorem dX0_old_11 : decode cX0_old 11 = .ok (.aload_n 0, 1) := dk_42 (dk_at dksX0_old_0 11 rfl rfl)
theorem dX0_old_12 : decode cX0_old 12 = .ok (.aload_n 3, 1) := dk_45 (dk_at dksX0_old_0 12 rfl rfl)
theorem dX0_old_13 : decode cX0_old 13 = .ok (.invokevirtual 300, 3) := dk_182 1 44 (dk_at dksX0_old_0 13 rfl rfl)
theorem dX0_old_16 : decode cX0_old 16 = .ok (.istore 4, 2) := dk_54 4 (dk_at dksX0_old_0 16 rfl rfl)
theorem dX0_old_18 : decode cX0_old 18 = .ok (.iconst 0, 1) := dk_3 (dk_at dksX0_old_0 18 rfl rfl)
theorem dX0_old_19 : decode cX0_old 19 = .ok (.istore 5, 2) := dk_54 5 (dk_at dksX0_old_0 19 rfl rfl)
theorem dX0_old_21 : decode cX0_old 21 = .ok (.iload 5, 2) := dk_21 5 (dk_at dksX0_old_0 21 rfl rfl)
theorem dX0_old_23 : decode cX0_old 23 = .ok (.aload_n 0, 1) := dk_42 (dk_at dksX0_old_0 23 rfl rfl)
theorem dX0_old_24 : decode cX0_old 24 = .ok (.getfield 184, 3) := dk_180 0 184 (dk_at dksX0_old_1 0 rfl rfl)
theorem dX0_old_27 : decode cX0_old 27 = .ok (.if_icmp .ge 49, 3) := dk_162 0 49 (dk_at dksX0_old_1 3 rfl rfl)
theorem dX0_old_30 : decode cX0_old 30 = .ok (.aload_n 0, 1) := dk_42 (dk_at dksX0_old_1 6 rfl rfl)
theorem dX0_old_31 : decode cX0_old 31 = .ok (.getfield 43, 3) := dk_180 0 43 (dk_at dksX0_old_1 7 rfl rfl)
theorem dX0_old_34 : decode cX0_old 34 = .ok (.iload 5, 2) := dk_21 5 (dk_at dksX0_old_1 10 rfl rfl)
theorem dX0_old_36 : decode cX0_old 36 = .ok (.aaload, 1) := dk_50 (dk_at dksX0_old_1 12 rfl rfl)
theorem dX0_old_37 : decode cX0_old 37 = .ok (.iload 4, 2) := dk_21 4 (dk_at dksX0_old_1 13 rfl rfl)
theorem dX0_old_39 : decode cX0_old 39 = .ok (.iload_n 2, 1) := dk_28 (dk_at dksX0_old_1 15 rfl rfl)
theorem dX0_old_40 : decode cX0_old 40 = .ok (.invokevirtual 328, 3) := dk_182 1 72 (dk_at dksX0_old_1 16 rfl rfl)
theorem dX0_old_43 : decode cX0_old 43 = .ok (.ifCond .eq 27, 3) := dk_153 0 27 (dk_at dksX0_old_1 19 rfl rfl)
theorem dX0_old_46 : decode cX0_old 46 = .ok (.aload_n 0, 1) := dk_42 (dk_at dksX0_old_1 22 rfl rfl)
theorem dX0_old_47 : decode cX0_old 47 = .ok (.aload_n 0, 1) := dk_42 (dk_at dksX0_old_1 23 rfl rfl)
theorem dX0_old_48 : decode cX0_old 48 = .ok (.getfield 43, 3) := dk_180 0 43 (dk_at dksX0_old_2 0 rfl rfl)
theorem dX0_old_51 : decode cX0_old 51 = .ok (.iload 5, 2) := dk_21 5 (dk_at dksX0_old_2 3 rfl rfl)
theorem dX0_old_53 : decode cX0_old 53 = .ok (.aaload, 1) := dk_50 (dk_at dksX0_old_2 5 rfl rfl)
theorem dX0_old_54 : decode cX0_old 54 = .ok (.getfield 309, 3) := dk_180 1 53 (dk_at dksX0_old_2 6 rfl rfl)
theorem dX0_old_57 : decode cX0_old 57 = .ok (.aload_n 3, 1) := dk_45 (dk_at dksX0_old_2 9 rfl rfl)
theorem dX0_old_58 : decode cX0_old 58 = .ok (.getfield 229, 3) := dk_180 0 229 (dk_at dksX0_old_2 10 rfl rfl)
theorem dX0_old_61 : decode cX0_old 61 = .ok (.invokevirtual 243, 3) := dk_182 0 243 (dk_at dksX0_old_2 13 rfl rfl)
theorem dX0_old_64 : decode cX0_old 64 = .ok (.ifCond .eq 6, 3) := dk_153 0 6 (dk_at dksX0_old_2 16 rfl rfl)
theorem dX0_old_67 : decode cX0_old 67 = .ok (.iload 5, 2) := dk_21 5 (dk_at dksX0_old_2 19 rfl rfl)
theorem dX0_old_69 : decode cX0_old 69 = .ok (.ireturn, 1) := dk_172 (dk_at dksX0_old_2 21 rfl rfl)
theorem dX0_old_70 : decode cX0_old 70 = .ok (.iinc 5 1, 3) := dk_132 5 1 (dk_at dksX0_old_3 0 rfl rfl)
theorem dX0_old_73 : decode cX0_old 73 = .ok (.goto (-52), 3) := dk_167 255 204 (dk_at dksX0_old_3 3 rfl rfl)
theorem dX0_old_76 : decode cX0_old 76 = .ok (.bipush (-2), 2) := dk_16 254 (dk_at dksX0_old_3 6 rfl rfl)
theorem dX0_old_78 : decode cX0_old 78 = .ok (.ireturn, 1) := dk_172 (dk_at dksX0_old_3 8 rfl rfl)
theorem dX0_old_79 : decode cX0_old 79 = .ok (.astore_n 3, 1) := dk_78 (dk_at dksX0_old_3 9 rfl rfl)
theorem dX0_old_80 : decode cX0_old 80 = .ok (.aload_n 0, 1) := dk_42 (dk_at dksX0_old_3 10 rfl rfl)
theorem dX0_old_81 : decode cX0_old 81 = .ok (.aload_n 3, 1) := dk_45 (dk_at dksX0_old_3 11 rfl rfl)
theorem dX0_old_82 : decode cX0_old 82 = .ok (.invokevirtual 108, 3) := dk_182 0 108 (dk_at dksX0_old_3 12 rfl rfl)
theorem dX0_old_85 : decode cX0_old 85 = .ok (.ireturn, 1) := dk_172 (dk_at dksX0_old_3 15 rfl rfl)
abbrev cX0_known : ByteArray := prog_1_method_37_code
def yX0_known : MethodName := ⟨RX0, "known", "(II)LPatentHall$Claim;"⟩
def dkwX0_known_1 : List UInt8 := [4, 167, 0, 4, 3, 4, 182, 0, 142, 45, 176]
abbrev dktX0_known_1 : List UInt8 := dkwX0_known_1 ++ []
def dkwX0_known_0 : List UInt8 := [42, 27, 182, 1, 3, 78, 42, 28, 184, 1, 65, 5, 182, 0, 142, 42, 45, 180, 1, 52, 28, 163, 0, 7]
abbrev dktX0_known_0 : List UInt8 := dkwX0_known_0 ++ dktX0_known_1
theorem dksX0_known_0 : cX0_known.data.toList.drop 0 = dktX0_known_0 := by decide +kernel
theorem dksX0_known_1 : cX0_known.data.toList.drop 24 = dktX0_known_1 := dk_seg dksX0_known_0 24 rfl rfl
theorem dX0_known_0 : decode cX0_known 0 = .ok (.aload_n 0, 1) := dk_42 (dk_at dksX0_known_0 0 rfl rfl)
theorem dX0_known_1 : decode cX0_known 1 = .ok (.iload_n 1, 1) := dk_27 (dk_at dksX0_known_0 1 rfl rfl)
theorem dX0_known_2 : decode cX0_known 2 = .ok (.invokevirtual 259, 3) := dk_182 1 3 (dk_at dksX0_known_0 2 rfl rfl)
theorem dX0_known_5 : decode cX0_known 5 = .ok (.astore_n 3, 1) := dk_78 (dk_at dksX0_known_0 5 rfl rfl)
theorem dX0_known_6 : decode cX0_known 6 = .ok (.aload_n 0, 1) := dk_42 (dk_at dksX0_known_0 6 rfl rfl)
theorem dX0_known_7 : decode cX0_known 7 = .ok (.iload_n 2, 1) := dk_28 (dk_at dksX0_known_0 7 rfl rfl)
theorem dX0_known_8 : decode cX0_known 8 = .ok (.invokestatic 321, 3) := dk_184 1 65 (dk_at dksX0_known_0 8 rfl rfl)
theorem dX0_known_11 : decode cX0_known 11 = .ok (.iconst 2, 1) := dk_5 (dk_at dksX0_known_0 11 rfl rfl)
theorem dX0_known_12 : decode cX0_known 12 = .ok (.invokevirtual 142, 3) := dk_182 0 142 (dk_at dksX0_known_0 12 rfl rfl)
theorem dX0_known_15 : decode cX0_known 15 = .ok (.aload_n 0, 1) := dk_42 (dk_at dksX0_known_0 15 rfl rfl)
theorem dX0_known_16 : decode cX0_known 16 = .ok (.aload_n 3, 1) := dk_45 (dk_at dksX0_known_0 16 rfl rfl)
theorem dX0_known_17 : decode cX0_known 17 = .ok (.getfield 308, 3) := dk_180 1 52 (dk_at dksX0_known_0 17 rfl rfl)
theorem dX0_known_20 : decode cX0_known 20 = .ok (.iload_n 2, 1) := dk_28 (dk_at dksX0_known_0 20 rfl rfl)
theorem dX0_known_21 : decode cX0_known 21 = .ok (.if_icmp .gt 7, 3) := dk_163 0 7 (dk_at dksX0_known_0 21 rfl rfl)
theorem dX0_known_24 : decode cX0_known 24 = .ok (.iconst 1, 1) := dk_4 (dk_at dksX0_known_1 0 rfl rfl)
theorem dX0_known_25 : decode cX0_known 25 = .ok (.goto 4, 3) := dk_167 0 4 (dk_at dksX0_known_1 1 rfl rfl)
theorem dX0_known_28 : decode cX0_known 28 = .ok (.iconst 0, 1) := dk_3 (dk_at dksX0_known_1 4 rfl rfl)
theorem dX0_known_29 : decode cX0_known 29 = .ok (.iconst 1, 1) := dk_4 (dk_at dksX0_known_1 5 rfl rfl)
theorem dX0_known_30 : decode cX0_known 30 = .ok (.invokevirtual 142, 3) := dk_182 0 142 (dk_at dksX0_known_1 6 rfl rfl)
theorem dX0_known_33 : decode cX0_known 33 = .ok (.aload_n 3, 1) := dk_45 (dk_at dksX0_known_1 9 rfl rfl)
theorem dX0_known_34 : decode cX0_known 34 = .ok (.areturn, 1) := dk_176 (dk_at dksX0_known_1 10 rfl rfl)
abbrev cX0_isDay : ByteArray := prog_1_method_7_code
def yX0_isDay : MethodName := ⟨RX0, "isDay", "(I)Z"⟩
def dkwX0_isDay_0 : List UInt8 := [26, 3, 17, 78, 32, 184, 0, 112, 172]
abbrev dktX0_isDay_0 : List UInt8 := dkwX0_isDay_0 ++ []
theorem dksX0_isDay_0 : cX0_isDay.data.toList.drop 0 = dktX0_isDay_0 := by decide +kernel
theorem dX0_isDay_0 : decode cX0_isDay 0 = .ok (.iload_n 0, 1) := dk_26 (dk_at dksX0_isDay_0 0 rfl rfl)
theorem dX0_isDay_1 : decode cX0_isDay 1 = .ok (.iconst 0, 1) := dk_3 (dk_at dksX0_isDay_0 1 rfl rfl)
theorem dX0_isDay_2 : decode cX0_isDay 2 = .ok (.sipush 20000, 3) := dk_17 78 32 (dk_at dksX0_isDay_0 2 rfl rfl)
theorem dX0_isDay_5 : decode cX0_isDay 5 = .ok (.invokestatic 112, 3) := dk_184 0 112 (dk_at dksX0_isDay_0 5 rfl rfl)
theorem dX0_isDay_8 : decode cX0_isDay 8 = .ok (.ireturn, 1) := dk_172 (dk_at dksX0_isDay_0 8 rfl rfl)
abbrev cX0_plain : ByteArray := prog_1_method_40_code
def yX0_plain : MethodName := ⟨RX0, "plain", "(II)I"⟩
def dkwX0_plain_12 : List UInt8 := [21, 8, 172, 78, 42, 45, 182, 0, 108, 172]
abbrev dktX0_plain_12 : List UInt8 := dkwX0_plain_12 ++ []
def dkwX0_plain_11 : List UInt8 := [160, 0, 8, 21, 10, 167, 0, 10, 21, 8, 21, 10, 184, 1, 113, 54, 8, 132, 9, 1, 167, 255, 184]
abbrev dktX0_plain_11 : List UInt8 := dkwX0_plain_11 ++ dktX0_plain_12
def dkwX0_plain_10 : List UInt8 := [21, 9, 46, 184, 1, 109, 104, 25, 7, 21, 9, 46, 184, 1, 109, 96, 54, 10, 21, 8, 16, 254]
abbrev dktX0_plain_10 : List UInt8 := dkwX0_plain_10 ++ dktX0_plain_11
def dkwX0_plain_9 : List UInt8 := [25, 6, 21, 9, 46, 153, 0, 57, 25, 7, 21, 9, 46, 154, 0, 6, 167, 0, 46, 16, 100, 25, 6]
abbrev dktX0_plain_9 : List UInt8 := dkwX0_plain_9 ++ dktX0_plain_10
def dkwX0_plain_8 : List UInt8 := [167, 255, 139, 132, 8, 1, 167, 255, 106, 16, 254, 54, 8, 3, 54, 9, 21, 9, 21, 5, 162, 0, 71]
abbrev dktX0_plain_8 : List UInt8 := dkwX0_plain_8 ++ dktX0_plain_9
def dkwX0_plain_7 : List UInt8 := [180, 1, 53, 25, 9, 182, 0, 243, 153, 0, 10, 4, 21, 10, 120, 167, 0, 4, 3, 128, 79, 132, 10, 1]
abbrev dktX0_plain_7 : List UInt8 := dkwX0_plain_7 ++ dktX0_plain_8
def dkwX0_plain_6 : List UInt8 := [21, 10, 120, 167, 0, 4, 3, 128, 79, 25, 7, 21, 8, 92, 46, 42, 42, 180, 0, 43, 21, 10, 50]
abbrev dktX0_plain_6 : List UInt8 := dkwX0_plain_6 ++ dktX0_plain_7
def dkwX0_plain_5 : List UInt8 := [180, 0, 229, 45, 180, 0, 229, 184, 0, 218, 4, 21, 8, 120, 2, 130, 126, 182, 0, 222, 153, 0, 10, 4]
abbrev dktX0_plain_5 : List UInt8 := dkwX0_plain_5 ++ dktX0_plain_6
def dkwX0_plain_4 : List UInt8 := [154, 0, 6, 167, 0, 89, 25, 6, 21, 8, 92, 46, 42, 42, 180, 0, 43, 21, 10, 50, 180, 1, 53, 45]
abbrev dktX0_plain_4 : List UInt8 := dkwX0_plain_4 ++ dktX0_plain_5
def dkwX0_plain_3 : List UInt8 := [21, 10, 42, 180, 0, 184, 162, 0, 114, 42, 180, 0, 43, 21, 10, 50, 21, 4, 28, 182, 1, 72]
abbrev dktX0_plain_3 : List UInt8 := dkwX0_plain_3 ++ dktX0_plain_4
def dkwX0_plain_2 : List UInt8 := [162, 0, 149, 21, 5, 4, 164, 0, 143, 45, 180, 0, 229, 21, 8, 184, 1, 105, 58, 9, 3, 54, 10]
abbrev dktX0_plain_2 : List UInt8 := dkwX0_plain_2 ++ dktX0_plain_3
def dkwX0_plain_1 : List UInt8 := [180, 0, 211, 54, 5, 21, 5, 188, 10, 58, 6, 21, 5, 188, 10, 58, 7, 3, 54, 8, 21, 8, 21, 5]
abbrev dktX0_plain_1 : List UInt8 := dkwX0_plain_1 ++ dktX0_plain_2
def dkwX0_plain_0 : List UInt8 := [42, 182, 0, 139, 42, 27, 28, 182, 1, 69, 78, 42, 45, 182, 1, 44, 54, 4, 45, 180, 0, 229]
abbrev dktX0_plain_0 : List UInt8 := dkwX0_plain_0 ++ dktX0_plain_1
theorem dksX0_plain_0 : cX0_plain.data.toList.drop 0 = dktX0_plain_0 := by decide +kernel
theorem dksX0_plain_1 : cX0_plain.data.toList.drop 22 = dktX0_plain_1 := dk_seg dksX0_plain_0 22 rfl rfl
theorem dksX0_plain_2 : cX0_plain.data.toList.drop 46 = dktX0_plain_2 := dk_seg dksX0_plain_1 24 rfl rfl
theorem dksX0_plain_3 : cX0_plain.data.toList.drop 69 = dktX0_plain_3 := dk_seg dksX0_plain_2 23 rfl rfl
theorem dksX0_plain_4 : cX0_plain.data.toList.drop 91 = dktX0_plain_4 := dk_seg dksX0_plain_3 22 rfl rfl
theorem dksX0_plain_5 : cX0_plain.data.toList.drop 115 = dktX0_plain_5 := dk_seg dksX0_plain_4 24 rfl rfl
theorem dksX0_plain_6 : cX0_plain.data.toList.drop 139 = dktX0_plain_6 := dk_seg dksX0_plain_5 24 rfl rfl
theorem dksX0_plain_7 : cX0_plain.data.toList.drop 162 = dktX0_plain_7 := dk_seg dksX0_plain_6 23 rfl rfl
theorem dksX0_plain_8 : cX0_plain.data.toList.drop 186 = dktX0_plain_8 := dk_seg dksX0_plain_7 24 rfl rfl
theorem dksX0_plain_9 : cX0_plain.data.toList.drop 209 = dktX0_plain_9 := dk_seg dksX0_plain_8 23 rfl rfl
theorem dksX0_plain_10 : cX0_plain.data.toList.drop 232 = dktX0_plain_10 := dk_seg dksX0_plain_9 23 rfl rfl
theorem dksX0_plain_11 : cX0_plain.data.toList.drop 254 = dktX0_plain_11 := dk_seg dksX0_plain_10 22 rfl rfl
theorem dksX0_plain_12 : cX0_plain.data.toList.drop 277 = dktX0_plain_12 := dk_seg dksX0_plain_11 23 rfl rfl
theorem dX0_plain_0 : decode cX0_plain 0 = .ok (.aload_n 0, 1) := dk_42 (dk_at dksX0_plain_0 0 rfl rfl)
theorem dX0_plain_1 : decode cX0_plain 1 = .ok (.invokevirtual 139, 3) := dk_182 0 139 (dk_at dksX0_plain_0 1 rfl rfl)
theorem dX0_plain_4 : decode cX0_plain 4 = .ok (.aload_n 0, 1) := dk_42 (dk_at dksX0_plain_0 4 rfl rfl)
theorem dX0_plain_5 : decode cX0_plain 5 = .ok (.iload_n 1, 1) := dk_27 (dk_at dksX0_plain_0 5 rfl rfl)
theorem dX0_plain_6 : decode cX0_plain 6 = .ok (.iload_n 2, 1) := dk_28 (dk_at dksX0_plain_0 6 rfl rfl)
theorem dX0_plain_7 : decode cX0_plain 7 = .ok (.invokevirtual 325, 3) := dk_182 1 69 (dk_at dksX0_plain_0 7 rfl rfl)
theorem dX0_plain_10 : decode cX0_plain 10 = .ok (.astore_n 3, 1) := dk_78 (dk_at dksX0_plain_0 10 rfl rfl)
theorem dX0_plain_11 : decode cX0_plain 11 = .ok (.aload_n 0, 1) := dk_42 (dk_at dksX0_plain_0 11 rfl rfl)
theorem dX0_plain_12 : decode cX0_plain 12 = .ok (.aload_n 3, 1) := dk_45 (dk_at dksX0_plain_0 12 rfl rfl)
theorem dX0_plain_13 : decode cX0_plain 13 = .ok (.invokevirtual 300, 3) := dk_182 1 44 (dk_at dksX0_plain_0 13 rfl rfl)
theorem dX0_plain_16 : decode cX0_plain 16 = .ok (.istore 4, 2) := dk_54 4 (dk_at dksX0_plain_0 16 rfl rfl)
theorem dX0_plain_18 : decode cX0_plain 18 = .ok (.aload_n 3, 1) := dk_45 (dk_at dksX0_plain_0 18 rfl rfl)
theorem dX0_plain_19 : decode cX0_plain 19 = .ok (.getfield 229, 3) := dk_180 0 229 (dk_at dksX0_plain_0 19 rfl rfl)
theorem dX0_plain_22 : decode cX0_plain 22 = .ok (.getfield 211, 3) := dk_180 0 211 (dk_at dksX0_plain_1 0 rfl rfl)
theorem dX0_plain_25 : decode cX0_plain 25 = .ok (.istore 5, 2) := dk_54 5 (dk_at dksX0_plain_1 3 rfl rfl)
theorem dX0_plain_27 : decode cX0_plain 27 = .ok (.iload 5, 2) := dk_21 5 (dk_at dksX0_plain_1 5 rfl rfl)
theorem dX0_plain_29 : decode cX0_plain 29 = .ok (.newarray .int, 2) := dk_188_10 (dk_at dksX0_plain_1 7 rfl rfl)
theorem dX0_plain_31 : decode cX0_plain 31 = .ok (.astore 6, 2) := dk_58 6 (dk_at dksX0_plain_1 9 rfl rfl)
theorem dX0_plain_33 : decode cX0_plain 33 = .ok (.iload 5, 2) := dk_21 5 (dk_at dksX0_plain_1 11 rfl rfl)
theorem dX0_plain_35 : decode cX0_plain 35 = .ok (.newarray .int, 2) := dk_188_10 (dk_at dksX0_plain_1 13 rfl rfl)
theorem dX0_plain_37 : decode cX0_plain 37 = .ok (.astore 7, 2) := dk_58 7 (dk_at dksX0_plain_1 15 rfl rfl)
theorem dX0_plain_39 : decode cX0_plain 39 = .ok (.iconst 0, 1) := dk_3 (dk_at dksX0_plain_1 17 rfl rfl)
theorem dX0_plain_40 : decode cX0_plain 40 = .ok (.istore 8, 2) := dk_54 8 (dk_at dksX0_plain_1 18 rfl rfl)
theorem dX0_plain_42 : decode cX0_plain 42 = .ok (.iload 8, 2) := dk_21 8 (dk_at dksX0_plain_1 20 rfl rfl)
theorem dX0_plain_44 : decode cX0_plain 44 = .ok (.iload 5, 2) := dk_21 5 (dk_at dksX0_plain_1 22 rfl rfl)
theorem dX0_plain_46 : decode cX0_plain 46 = .ok (.if_icmp .ge 149, 3) := dk_162 0 149 (dk_at dksX0_plain_2 0 rfl rfl)
theorem dX0_plain_49 : decode cX0_plain 49 = .ok (.iload 5, 2) := dk_21 5 (dk_at dksX0_plain_2 3 rfl rfl)
theorem dX0_plain_51 : decode cX0_plain 51 = .ok (.iconst 1, 1) := dk_4 (dk_at dksX0_plain_2 5 rfl rfl)
theorem dX0_plain_52 : decode cX0_plain 52 = .ok (.if_icmp .le 143, 3) := dk_164 0 143 (dk_at dksX0_plain_2 6 rfl rfl)
theorem dX0_plain_55 : decode cX0_plain 55 = .ok (.aload_n 3, 1) := dk_45 (dk_at dksX0_plain_2 9 rfl rfl)
theorem dX0_plain_56 : decode cX0_plain 56 = .ok (.getfield 229, 3) := dk_180 0 229 (dk_at dksX0_plain_2 10 rfl rfl)
theorem dX0_plain_59 : decode cX0_plain 59 = .ok (.iload 8, 2) := dk_21 8 (dk_at dksX0_plain_2 13 rfl rfl)
theorem dX0_plain_61 : decode cX0_plain 61 = .ok (.invokestatic 361, 3) := dk_184 1 105 (dk_at dksX0_plain_2 15 rfl rfl)
theorem dX0_plain_64 : decode cX0_plain 64 = .ok (.astore 9, 2) := dk_58 9 (dk_at dksX0_plain_2 18 rfl rfl)
theorem dX0_plain_66 : decode cX0_plain 66 = .ok (.iconst 0, 1) := dk_3 (dk_at dksX0_plain_2 20 rfl rfl)
theorem dX0_plain_67 : decode cX0_plain 67 = .ok (.istore 10, 2) := dk_54 10 (dk_at dksX0_plain_2 21 rfl rfl)
theorem dX0_plain_69 : decode cX0_plain 69 = .ok (.iload 10, 2) := dk_21 10 (dk_at dksX0_plain_3 0 rfl rfl)
theorem dX0_plain_71 : decode cX0_plain 71 = .ok (.aload_n 0, 1) := dk_42 (dk_at dksX0_plain_3 2 rfl rfl)
theorem dX0_plain_72 : decode cX0_plain 72 = .ok (.getfield 184, 3) := dk_180 0 184 (dk_at dksX0_plain_3 3 rfl rfl)
theorem dX0_plain_75 : decode cX0_plain 75 = .ok (.if_icmp .ge 114, 3) := dk_162 0 114 (dk_at dksX0_plain_3 6 rfl rfl)
theorem dX0_plain_78 : decode cX0_plain 78 = .ok (.aload_n 0, 1) := dk_42 (dk_at dksX0_plain_3 9 rfl rfl)
theorem dX0_plain_79 : decode cX0_plain 79 = .ok (.getfield 43, 3) := dk_180 0 43 (dk_at dksX0_plain_3 10 rfl rfl)
theorem dX0_plain_82 : decode cX0_plain 82 = .ok (.iload 10, 2) := dk_21 10 (dk_at dksX0_plain_3 13 rfl rfl)
theorem dX0_plain_84 : decode cX0_plain 84 = .ok (.aaload, 1) := dk_50 (dk_at dksX0_plain_3 15 rfl rfl)
theorem dX0_plain_85 : decode cX0_plain 85 = .ok (.iload 4, 2) := dk_21 4 (dk_at dksX0_plain_3 16 rfl rfl)
theorem dX0_plain_87 : decode cX0_plain 87 = .ok (.iload_n 2, 1) := dk_28 (dk_at dksX0_plain_3 18 rfl rfl)
theorem dX0_plain_88 : decode cX0_plain 88 = .ok (.invokevirtual 328, 3) := dk_182 1 72 (dk_at dksX0_plain_3 19 rfl rfl)
theorem dX0_plain_91 : decode cX0_plain 91 = .ok (.ifCond .ne 6, 3) := dk_154 0 6 (dk_at dksX0_plain_4 0 rfl rfl)
theorem dX0_plain_94 : decode cX0_plain 94 = .ok (.goto 89, 3) := dk_167 0 89 (dk_at dksX0_plain_4 3 rfl rfl)
theorem dX0_plain_97 : decode cX0_plain 97 = .ok (.aload 6, 2) := dk_25 6 (dk_at dksX0_plain_4 6 rfl rfl)
theorem dX0_plain_99 : decode cX0_plain 99 = .ok (.iload 8, 2) := dk_21 8 (dk_at dksX0_plain_4 8 rfl rfl)
theorem dX0_plain_101 : decode cX0_plain 101 = .ok (.dup2, 1) := dk_92 (dk_at dksX0_plain_4 10 rfl rfl)
theorem dX0_plain_102 : decode cX0_plain 102 = .ok (.iaload, 1) := dk_46 (dk_at dksX0_plain_4 11 rfl rfl)
theorem dX0_plain_103 : decode cX0_plain 103 = .ok (.aload_n 0, 1) := dk_42 (dk_at dksX0_plain_4 12 rfl rfl)
theorem dX0_plain_104 : decode cX0_plain 104 = .ok (.aload_n 0, 1) := dk_42 (dk_at dksX0_plain_4 13 rfl rfl)
theorem dX0_plain_105 : decode cX0_plain 105 = .ok (.getfield 43, 3) := dk_180 0 43 (dk_at dksX0_plain_4 14 rfl rfl)
theorem dX0_plain_108 : decode cX0_plain 108 = .ok (.iload 10, 2) := dk_21 10 (dk_at dksX0_plain_4 17 rfl rfl)
theorem dX0_plain_110 : decode cX0_plain 110 = .ok (.aaload, 1) := dk_50 (dk_at dksX0_plain_4 19 rfl rfl)
theorem dX0_plain_111 : decode cX0_plain 111 = .ok (.getfield 309, 3) := dk_180 1 53 (dk_at dksX0_plain_4 20 rfl rfl)
theorem dX0_plain_114 : decode cX0_plain 114 = .ok (.aload_n 3, 1) := dk_45 (dk_at dksX0_plain_4 23 rfl rfl)
theorem dX0_plain_115 : decode cX0_plain 115 = .ok (.getfield 229, 3) := dk_180 0 229 (dk_at dksX0_plain_5 0 rfl rfl)
theorem dX0_plain_118 : decode cX0_plain 118 = .ok (.aload_n 3, 1) := dk_45 (dk_at dksX0_plain_5 3 rfl rfl)
theorem dX0_plain_119 : decode cX0_plain 119 = .ok (.getfield 229, 3) := dk_180 0 229 (dk_at dksX0_plain_5 4 rfl rfl)
theorem dX0_plain_122 : decode cX0_plain 122 = .ok (.invokestatic 218, 3) := dk_184 0 218 (dk_at dksX0_plain_5 7 rfl rfl)
theorem dX0_plain_125 : decode cX0_plain 125 = .ok (.iconst 1, 1) := dk_4 (dk_at dksX0_plain_5 10 rfl rfl)
theorem dX0_plain_126 : decode cX0_plain 126 = .ok (.iload 8, 2) := dk_21 8 (dk_at dksX0_plain_5 11 rfl rfl)
theorem dX0_plain_128 : decode cX0_plain 128 = .ok (.ishl, 1) := dk_120 (dk_at dksX0_plain_5 13 rfl rfl)
theorem dX0_plain_129 : decode cX0_plain 129 = .ok (.iconst (-1), 1) := dk_2 (dk_at dksX0_plain_5 14 rfl rfl)
theorem dX0_plain_130 : decode cX0_plain 130 = .ok (.ixor, 1) := dk_130 (dk_at dksX0_plain_5 15 rfl rfl)
theorem dX0_plain_131 : decode cX0_plain 131 = .ok (.iand, 1) := dk_126 (dk_at dksX0_plain_5 16 rfl rfl)
theorem dX0_plain_132 : decode cX0_plain 132 = .ok (.invokevirtual 222, 3) := dk_182 0 222 (dk_at dksX0_plain_5 17 rfl rfl)
theorem dX0_plain_135 : decode cX0_plain 135 = .ok (.ifCond .eq 10, 3) := dk_153 0 10 (dk_at dksX0_plain_5 20 rfl rfl)
theorem dX0_plain_138 : decode cX0_plain 138 = .ok (.iconst 1, 1) := dk_4 (dk_at dksX0_plain_5 23 rfl rfl)
theorem dX0_plain_139 : decode cX0_plain 139 = .ok (.iload 10, 2) := dk_21 10 (dk_at dksX0_plain_6 0 rfl rfl)
theorem dX0_plain_141 : decode cX0_plain 141 = .ok (.ishl, 1) := dk_120 (dk_at dksX0_plain_6 2 rfl rfl)
theorem dX0_plain_142 : decode cX0_plain 142 = .ok (.goto 4, 3) := dk_167 0 4 (dk_at dksX0_plain_6 3 rfl rfl)
theorem dX0_plain_145 : decode cX0_plain 145 = .ok (.iconst 0, 1) := dk_3 (dk_at dksX0_plain_6 6 rfl rfl)
theorem dX0_plain_146 : decode cX0_plain 146 = .ok (.ior, 1) := dk_128 (dk_at dksX0_plain_6 7 rfl rfl)
theorem dX0_plain_147 : decode cX0_plain 147 = .ok (.iastore, 1) := dk_79 (dk_at dksX0_plain_6 8 rfl rfl)
theorem dX0_plain_148 : decode cX0_plain 148 = .ok (.aload 7, 2) := dk_25 7 (dk_at dksX0_plain_6 9 rfl rfl)
theorem dX0_plain_150 : decode cX0_plain 150 = .ok (.iload 8, 2) := dk_21 8 (dk_at dksX0_plain_6 11 rfl rfl)
theorem dX0_plain_152 : decode cX0_plain 152 = .ok (.dup2, 1) := dk_92 (dk_at dksX0_plain_6 13 rfl rfl)
theorem dX0_plain_153 : decode cX0_plain 153 = .ok (.iaload, 1) := dk_46 (dk_at dksX0_plain_6 14 rfl rfl)
theorem dX0_plain_154 : decode cX0_plain 154 = .ok (.aload_n 0, 1) := dk_42 (dk_at dksX0_plain_6 15 rfl rfl)
theorem dX0_plain_155 : decode cX0_plain 155 = .ok (.aload_n 0, 1) := dk_42 (dk_at dksX0_plain_6 16 rfl rfl)
theorem dX0_plain_156 : decode cX0_plain 156 = .ok (.getfield 43, 3) := dk_180 0 43 (dk_at dksX0_plain_6 17 rfl rfl)
theorem dX0_plain_159 : decode cX0_plain 159 = .ok (.iload 10, 2) := dk_21 10 (dk_at dksX0_plain_6 20 rfl rfl)
theorem dX0_plain_161 : decode cX0_plain 161 = .ok (.aaload, 1) := dk_50 (dk_at dksX0_plain_6 22 rfl rfl)
theorem dX0_plain_162 : decode cX0_plain 162 = .ok (.getfield 309, 3) := dk_180 1 53 (dk_at dksX0_plain_7 0 rfl rfl)
theorem dX0_plain_165 : decode cX0_plain 165 = .ok (.aload 9, 2) := dk_25 9 (dk_at dksX0_plain_7 3 rfl rfl)
theorem dX0_plain_167 : decode cX0_plain 167 = .ok (.invokevirtual 243, 3) := dk_182 0 243 (dk_at dksX0_plain_7 5 rfl rfl)
theorem dX0_plain_170 : decode cX0_plain 170 = .ok (.ifCond .eq 10, 3) := dk_153 0 10 (dk_at dksX0_plain_7 8 rfl rfl)
theorem dX0_plain_173 : decode cX0_plain 173 = .ok (.iconst 1, 1) := dk_4 (dk_at dksX0_plain_7 11 rfl rfl)
theorem dX0_plain_174 : decode cX0_plain 174 = .ok (.iload 10, 2) := dk_21 10 (dk_at dksX0_plain_7 12 rfl rfl)
theorem dX0_plain_176 : decode cX0_plain 176 = .ok (.ishl, 1) := dk_120 (dk_at dksX0_plain_7 14 rfl rfl)
theorem dX0_plain_177 : decode cX0_plain 177 = .ok (.goto 4, 3) := dk_167 0 4 (dk_at dksX0_plain_7 15 rfl rfl)
theorem dX0_plain_180 : decode cX0_plain 180 = .ok (.iconst 0, 1) := dk_3 (dk_at dksX0_plain_7 18 rfl rfl)
theorem dX0_plain_181 : decode cX0_plain 181 = .ok (.ior, 1) := dk_128 (dk_at dksX0_plain_7 19 rfl rfl)
theorem dX0_plain_182 : decode cX0_plain 182 = .ok (.iastore, 1) := dk_79 (dk_at dksX0_plain_7 20 rfl rfl)
theorem dX0_plain_183 : decode cX0_plain 183 = .ok (.iinc 10 1, 3) := dk_132 10 1 (dk_at dksX0_plain_7 21 rfl rfl)
theorem dX0_plain_186 : decode cX0_plain 186 = .ok (.goto (-117), 3) := dk_167 255 139 (dk_at dksX0_plain_8 0 rfl rfl)
theorem dX0_plain_189 : decode cX0_plain 189 = .ok (.iinc 8 1, 3) := dk_132 8 1 (dk_at dksX0_plain_8 3 rfl rfl)
theorem dX0_plain_192 : decode cX0_plain 192 = .ok (.goto (-150), 3) := dk_167 255 106 (dk_at dksX0_plain_8 6 rfl rfl)
theorem dX0_plain_195 : decode cX0_plain 195 = .ok (.bipush (-2), 2) := dk_16 254 (dk_at dksX0_plain_8 9 rfl rfl)
theorem dX0_plain_197 : decode cX0_plain 197 = .ok (.istore 8, 2) := dk_54 8 (dk_at dksX0_plain_8 11 rfl rfl)
theorem dX0_plain_199 : decode cX0_plain 199 = .ok (.iconst 0, 1) := dk_3 (dk_at dksX0_plain_8 13 rfl rfl)
theorem dX0_plain_200 : decode cX0_plain 200 = .ok (.istore 9, 2) := dk_54 9 (dk_at dksX0_plain_8 14 rfl rfl)
theorem dX0_plain_202 : decode cX0_plain 202 = .ok (.iload 9, 2) := dk_21 9 (dk_at dksX0_plain_8 16 rfl rfl)
theorem dX0_plain_204 : decode cX0_plain 204 = .ok (.iload 5, 2) := dk_21 5 (dk_at dksX0_plain_8 18 rfl rfl)
theorem dX0_plain_206 : decode cX0_plain 206 = .ok (.if_icmp .ge 71, 3) := dk_162 0 71 (dk_at dksX0_plain_8 20 rfl rfl)
theorem dX0_plain_209 : decode cX0_plain 209 = .ok (.aload 6, 2) := dk_25 6 (dk_at dksX0_plain_9 0 rfl rfl)
theorem dX0_plain_211 : decode cX0_plain 211 = .ok (.iload 9, 2) := dk_21 9 (dk_at dksX0_plain_9 2 rfl rfl)
theorem dX0_plain_213 : decode cX0_plain 213 = .ok (.iaload, 1) := dk_46 (dk_at dksX0_plain_9 4 rfl rfl)
theorem dX0_plain_214 : decode cX0_plain 214 = .ok (.ifCond .eq 57, 3) := dk_153 0 57 (dk_at dksX0_plain_9 5 rfl rfl)
theorem dX0_plain_217 : decode cX0_plain 217 = .ok (.aload 7, 2) := dk_25 7 (dk_at dksX0_plain_9 8 rfl rfl)
theorem dX0_plain_219 : decode cX0_plain 219 = .ok (.iload 9, 2) := dk_21 9 (dk_at dksX0_plain_9 10 rfl rfl)
theorem dX0_plain_221 : decode cX0_plain 221 = .ok (.iaload, 1) := dk_46 (dk_at dksX0_plain_9 12 rfl rfl)
theorem dX0_plain_222 : decode cX0_plain 222 = .ok (.ifCond .ne 6, 3) := dk_154 0 6 (dk_at dksX0_plain_9 13 rfl rfl)
theorem dX0_plain_225 : decode cX0_plain 225 = .ok (.goto 46, 3) := dk_167 0 46 (dk_at dksX0_plain_9 16 rfl rfl)
theorem dX0_plain_228 : decode cX0_plain 228 = .ok (.bipush 100, 2) := dk_16 100 (dk_at dksX0_plain_9 19 rfl rfl)
theorem dX0_plain_230 : decode cX0_plain 230 = .ok (.aload 6, 2) := dk_25 6 (dk_at dksX0_plain_9 21 rfl rfl)
theorem dX0_plain_232 : decode cX0_plain 232 = .ok (.iload 9, 2) := dk_21 9 (dk_at dksX0_plain_10 0 rfl rfl)
theorem dX0_plain_234 : decode cX0_plain 234 = .ok (.iaload, 1) := dk_46 (dk_at dksX0_plain_10 2 rfl rfl)
theorem dX0_plain_235 : decode cX0_plain 235 = .ok (.invokestatic 365, 3) := dk_184 1 109 (dk_at dksX0_plain_10 3 rfl rfl)
theorem dX0_plain_238 : decode cX0_plain 238 = .ok (.imul, 1) := dk_104 (dk_at dksX0_plain_10 6 rfl rfl)
theorem dX0_plain_239 : decode cX0_plain 239 = .ok (.aload 7, 2) := dk_25 7 (dk_at dksX0_plain_10 7 rfl rfl)
theorem dX0_plain_241 : decode cX0_plain 241 = .ok (.iload 9, 2) := dk_21 9 (dk_at dksX0_plain_10 9 rfl rfl)
theorem dX0_plain_243 : decode cX0_plain 243 = .ok (.iaload, 1) := dk_46 (dk_at dksX0_plain_10 11 rfl rfl)
theorem dX0_plain_244 : decode cX0_plain 244 = .ok (.invokestatic 365, 3) := dk_184 1 109 (dk_at dksX0_plain_10 12 rfl rfl)
theorem dX0_plain_247 : decode cX0_plain 247 = .ok (.iadd, 1) := dk_96 (dk_at dksX0_plain_10 15 rfl rfl)
theorem dX0_plain_248 : decode cX0_plain 248 = .ok (.istore 10, 2) := dk_54 10 (dk_at dksX0_plain_10 16 rfl rfl)
theorem dX0_plain_250 : decode cX0_plain 250 = .ok (.iload 8, 2) := dk_21 8 (dk_at dksX0_plain_10 18 rfl rfl)
theorem dX0_plain_252 : decode cX0_plain 252 = .ok (.bipush (-2), 2) := dk_16 254 (dk_at dksX0_plain_10 20 rfl rfl)
theorem dX0_plain_254 : decode cX0_plain 254 = .ok (.if_icmp .ne 8, 3) := dk_160 0 8 (dk_at dksX0_plain_11 0 rfl rfl)
theorem dX0_plain_257 : decode cX0_plain 257 = .ok (.iload 10, 2) := dk_21 10 (dk_at dksX0_plain_11 3 rfl rfl)
theorem dX0_plain_259 : decode cX0_plain 259 = .ok (.goto 10, 3) := dk_167 0 10 (dk_at dksX0_plain_11 5 rfl rfl)
theorem dX0_plain_262 : decode cX0_plain 262 = .ok (.iload 8, 2) := dk_21 8 (dk_at dksX0_plain_11 8 rfl rfl)
theorem dX0_plain_264 : decode cX0_plain 264 = .ok (.iload 10, 2) := dk_21 10 (dk_at dksX0_plain_11 10 rfl rfl)
theorem dX0_plain_266 : decode cX0_plain 266 = .ok (.invokestatic 369, 3) := dk_184 1 113 (dk_at dksX0_plain_11 12 rfl rfl)
theorem dX0_plain_269 : decode cX0_plain 269 = .ok (.istore 8, 2) := dk_54 8 (dk_at dksX0_plain_11 15 rfl rfl)
theorem dX0_plain_271 : decode cX0_plain 271 = .ok (.iinc 9 1, 3) := dk_132 9 1 (dk_at dksX0_plain_11 17 rfl rfl)
theorem dX0_plain_274 : decode cX0_plain 274 = .ok (.goto (-72), 3) := dk_167 255 184 (dk_at dksX0_plain_11 20 rfl rfl)
theorem dX0_plain_277 : decode cX0_plain 277 = .ok (.iload 8, 2) := dk_21 8 (dk_at dksX0_plain_12 0 rfl rfl)
theorem dX0_plain_279 : decode cX0_plain 279 = .ok (.ireturn, 1) := dk_172 (dk_at dksX0_plain_12 2 rfl rfl)
theorem dX0_plain_280 : decode cX0_plain 280 = .ok (.astore_n 3, 1) := dk_78 (dk_at dksX0_plain_12 3 rfl rfl)
theorem dX0_plain_281 : decode cX0_plain 281 = .ok (.aload_n 0, 1) := dk_42 (dk_at dksX0_plain_12 4 rfl rfl)
theorem dX0_plain_282 : decode cX0_plain 282 = .ok (.aload_n 3, 1) := dk_45 (dk_at dksX0_plain_12 5 rfl rfl)
theorem dX0_plain_283 : decode cX0_plain 283 = .ok (.invokevirtual 108, 3) := dk_182 0 108 (dk_at dksX0_plain_12 6 rfl rfl)
theorem dX0_plain_286 : decode cX0_plain 286 = .ok (.ireturn, 1) := dk_172 (dk_at dksX0_plain_12 9 rfl rfl)
abbrev cX0_around : ByteArray := prog_1_method_39_code
def yX0_around : MethodName := ⟨RX0, "around", "(LPatentHall$Text;I)LPatentHall$Text;"⟩
def dkwX0_around_10 : List UInt8 := [132, 4, 1, 167, 255, 187, 44, 176]
abbrev dktX0_around_10 : List UInt8 := dkwX0_around_10 ++ []
def dkwX0_around_9 : List UInt8 := [25, 5, 180, 1, 79, 46, 25, 5, 180, 1, 96, 45, 25, 5, 180, 1, 84, 46, 183, 1, 99, 182, 1, 102]
abbrev dktX0_around_9 : List UInt8 := dkwX0_around_9 ++ dktX0_around_10
def dkwX0_around_8 : List UInt8 := [25, 5, 180, 1, 79, 27, 159, 0, 12, 25, 5, 180, 1, 84, 27, 160, 0, 33, 44, 187, 1, 80, 89, 45]
abbrev dktX0_around_8 : List UInt8 := dkwX0_around_8 ++ dktX0_around_9
def dkwX0_around_7 : List UInt8 := [167, 255, 112, 3, 54, 4, 21, 4, 42, 180, 1, 41, 162, 0, 66, 42, 180, 1, 75, 21, 4, 50, 58, 5]
abbrev dktX0_around_7 : List UInt8 := dkwX0_around_7 ++ dktX0_around_8
def dkwX0_around_6 : List UInt8 := [153, 0, 21, 44, 42, 180, 1, 87, 21, 4, 50, 42, 180, 1, 90, 21, 4, 46, 182, 1, 92, 132, 4, 1]
abbrev dktX0_around_6 : List UInt8 := dkwX0_around_6 ++ dktX0_around_7
def dkwX0_around_5 : List UInt8 := [167, 0, 4, 3, 54, 5, 132, 6, 1, 167, 255, 174, 45, 21, 4, 44, 180, 0, 211, 79, 21, 5]
abbrev dktX0_around_5 : List UInt8 := dkwX0_around_5 ++ dktX0_around_6
def dkwX0_around_4 : List UInt8 := [50, 180, 1, 84, 27, 160, 0, 22, 42, 180, 1, 75, 21, 6, 50, 180, 1, 79, 21, 4, 160, 0, 7, 4]
abbrev dktX0_around_4 : List UInt8 := dkwX0_around_4 ++ dktX0_around_5
def dkwX0_around_3 : List UInt8 := [160, 0, 18, 42, 180, 1, 75, 21, 6, 50, 180, 1, 84, 21, 4, 159, 0, 32, 42, 180, 1, 75, 21, 6]
abbrev dktX0_around_3 : List UInt8 := dkwX0_around_3 ++ dktX0_around_4
def dkwX0_around_2 : List UInt8 := [180, 1, 41, 162, 0, 79, 21, 5, 154, 0, 74, 42, 180, 1, 75, 21, 6, 50, 180, 1, 79, 27]
abbrev dktX0_around_2 : List UInt8 := dkwX0_around_2 ++ dktX0_around_3
def dkwX0_around_1 : List UInt8 := [162, 0, 141, 21, 4, 27, 160, 0, 7, 4, 167, 0, 4, 3, 54, 5, 3, 54, 6, 21, 6, 42]
abbrev dktX0_around_1 : List UInt8 := dkwX0_around_1 ++ dktX0_around_2
def dkwX0_around_0 : List UInt8 := [187, 0, 177, 89, 183, 0, 179, 77, 16, 8, 188, 10, 78, 3, 54, 4, 21, 4, 42, 180, 0, 211]
abbrev dktX0_around_0 : List UInt8 := dkwX0_around_0 ++ dktX0_around_1
theorem dksX0_around_0 : cX0_around.data.toList.drop 0 = dktX0_around_0 := by decide +kernel
theorem dksX0_around_1 : cX0_around.data.toList.drop 22 = dktX0_around_1 := dk_seg dksX0_around_0 22 rfl rfl
theorem dksX0_around_2 : cX0_around.data.toList.drop 44 = dktX0_around_2 := dk_seg dksX0_around_1 22 rfl rfl
theorem dksX0_around_3 : cX0_around.data.toList.drop 66 = dktX0_around_3 := dk_seg dksX0_around_2 22 rfl rfl
theorem dksX0_around_4 : cX0_around.data.toList.drop 90 = dktX0_around_4 := dk_seg dksX0_around_3 24 rfl rfl
theorem dksX0_around_5 : cX0_around.data.toList.drop 114 = dktX0_around_5 := dk_seg dksX0_around_4 24 rfl rfl
theorem dksX0_around_6 : cX0_around.data.toList.drop 136 = dktX0_around_6 := dk_seg dksX0_around_5 22 rfl rfl
theorem dksX0_around_7 : cX0_around.data.toList.drop 160 = dktX0_around_7 := dk_seg dksX0_around_6 24 rfl rfl
theorem dksX0_around_8 : cX0_around.data.toList.drop 184 = dktX0_around_8 := dk_seg dksX0_around_7 24 rfl rfl
theorem dksX0_around_9 : cX0_around.data.toList.drop 208 = dktX0_around_9 := dk_seg dksX0_around_8 24 rfl rfl
theorem dksX0_around_10 : cX0_around.data.toList.drop 232 = dktX0_around_10 := dk_seg dksX0_around_9 24 rfl rfl
theorem dX0_around_0 : decode cX0_around 0 = .ok (.new 177, 3) := dk_187 0 177 (dk_at dksX0_around_0 0 rfl rfl)
theorem dX0_around_3 : decode cX0_around 3 = .ok (.dup, 1) := dk_89 (dk_at dksX0_around_0 3 rfl rfl)
theorem dX0_around_4 : decode cX0_around 4 = .ok (.invokespecial 179, 3) := dk_183 0 179 (dk_at dksX0_around_0 4 rfl rfl)
theorem dX0_around_7 : decode cX0_around 7 = .ok (.astore_n 2, 1) := dk_77 (dk_at dksX0_around_0 7 rfl rfl)
theorem dX0_around_8 : decode cX0_around 8 = .ok (.bipush 8, 2) := dk_16 8 (dk_at dksX0_around_0 8 rfl rfl)
theorem dX0_around_10 : decode cX0_around 10 = .ok (.newarray .int, 2) := dk_188_10 (dk_at dksX0_around_0 10 rfl rfl)
theorem dX0_around_12 : decode cX0_around 12 = .ok (.astore_n 3, 1) := dk_78 (dk_at dksX0_around_0 12 rfl rfl)
theorem dX0_around_13 : decode cX0_around 13 = .ok (.iconst 0, 1) := dk_3 (dk_at dksX0_around_0 13 rfl rfl)
theorem dX0_around_14 : decode cX0_around 14 = .ok (.istore 4, 2) := dk_54 4 (dk_at dksX0_around_0 14 rfl rfl)
theorem dX0_around_16 : decode cX0_around 16 = .ok (.iload 4, 2) := dk_21 4 (dk_at dksX0_around_0 16 rfl rfl)
theorem dX0_around_18 : decode cX0_around 18 = .ok (.aload_n 0, 1) := dk_42 (dk_at dksX0_around_0 18 rfl rfl)
theorem dX0_around_19 : decode cX0_around 19 = .ok (.getfield 211, 3) := dk_180 0 211 (dk_at dksX0_around_0 19 rfl rfl)
theorem dX0_around_22 : decode cX0_around 22 = .ok (.if_icmp .ge 141, 3) := dk_162 0 141 (dk_at dksX0_around_1 0 rfl rfl)
theorem dX0_around_25 : decode cX0_around 25 = .ok (.iload 4, 2) := dk_21 4 (dk_at dksX0_around_1 3 rfl rfl)
theorem dX0_around_27 : decode cX0_around 27 = .ok (.iload_n 1, 1) := dk_27 (dk_at dksX0_around_1 5 rfl rfl)
theorem dX0_around_28 : decode cX0_around 28 = .ok (.if_icmp .ne 7, 3) := dk_160 0 7 (dk_at dksX0_around_1 6 rfl rfl)
theorem dX0_around_31 : decode cX0_around 31 = .ok (.iconst 1, 1) := dk_4 (dk_at dksX0_around_1 9 rfl rfl)
theorem dX0_around_32 : decode cX0_around 32 = .ok (.goto 4, 3) := dk_167 0 4 (dk_at dksX0_around_1 10 rfl rfl)
theorem dX0_around_35 : decode cX0_around 35 = .ok (.iconst 0, 1) := dk_3 (dk_at dksX0_around_1 13 rfl rfl)
theorem dX0_around_36 : decode cX0_around 36 = .ok (.istore 5, 2) := dk_54 5 (dk_at dksX0_around_1 14 rfl rfl)
theorem dX0_around_38 : decode cX0_around 38 = .ok (.iconst 0, 1) := dk_3 (dk_at dksX0_around_1 16 rfl rfl)
theorem dX0_around_39 : decode cX0_around 39 = .ok (.istore 6, 2) := dk_54 6 (dk_at dksX0_around_1 17 rfl rfl)
theorem dX0_around_41 : decode cX0_around 41 = .ok (.iload 6, 2) := dk_21 6 (dk_at dksX0_around_1 19 rfl rfl)
theorem dX0_around_43 : decode cX0_around 43 = .ok (.aload_n 0, 1) := dk_42 (dk_at dksX0_around_1 21 rfl rfl)
theorem dX0_around_44 : decode cX0_around 44 = .ok (.getfield 297, 3) := dk_180 1 41 (dk_at dksX0_around_2 0 rfl rfl)
theorem dX0_around_47 : decode cX0_around 47 = .ok (.if_icmp .ge 79, 3) := dk_162 0 79 (dk_at dksX0_around_2 3 rfl rfl)
theorem dX0_around_50 : decode cX0_around 50 = .ok (.iload 5, 2) := dk_21 5 (dk_at dksX0_around_2 6 rfl rfl)
theorem dX0_around_52 : decode cX0_around 52 = .ok (.ifCond .ne 74, 3) := dk_154 0 74 (dk_at dksX0_around_2 8 rfl rfl)
theorem dX0_around_55 : decode cX0_around 55 = .ok (.aload_n 0, 1) := dk_42 (dk_at dksX0_around_2 11 rfl rfl)
theorem dX0_around_56 : decode cX0_around 56 = .ok (.getfield 331, 3) := dk_180 1 75 (dk_at dksX0_around_2 12 rfl rfl)
theorem dX0_around_59 : decode cX0_around 59 = .ok (.iload 6, 2) := dk_21 6 (dk_at dksX0_around_2 15 rfl rfl)
theorem dX0_around_61 : decode cX0_around 61 = .ok (.aaload, 1) := dk_50 (dk_at dksX0_around_2 17 rfl rfl)
theorem dX0_around_62 : decode cX0_around 62 = .ok (.getfield 335, 3) := dk_180 1 79 (dk_at dksX0_around_2 18 rfl rfl)
theorem dX0_around_65 : decode cX0_around 65 = .ok (.iload_n 1, 1) := dk_27 (dk_at dksX0_around_2 21 rfl rfl)
theorem dX0_around_66 : decode cX0_around 66 = .ok (.if_icmp .ne 18, 3) := dk_160 0 18 (dk_at dksX0_around_3 0 rfl rfl)
theorem dX0_around_69 : decode cX0_around 69 = .ok (.aload_n 0, 1) := dk_42 (dk_at dksX0_around_3 3 rfl rfl)
theorem dX0_around_70 : decode cX0_around 70 = .ok (.getfield 331, 3) := dk_180 1 75 (dk_at dksX0_around_3 4 rfl rfl)
theorem dX0_around_73 : decode cX0_around 73 = .ok (.iload 6, 2) := dk_21 6 (dk_at dksX0_around_3 7 rfl rfl)
theorem dX0_around_75 : decode cX0_around 75 = .ok (.aaload, 1) := dk_50 (dk_at dksX0_around_3 9 rfl rfl)
theorem dX0_around_76 : decode cX0_around 76 = .ok (.getfield 340, 3) := dk_180 1 84 (dk_at dksX0_around_3 10 rfl rfl)
theorem dX0_around_79 : decode cX0_around 79 = .ok (.iload 4, 2) := dk_21 4 (dk_at dksX0_around_3 13 rfl rfl)
theorem dX0_around_81 : decode cX0_around 81 = .ok (.if_icmp .eq 32, 3) := dk_159 0 32 (dk_at dksX0_around_3 15 rfl rfl)
theorem dX0_around_84 : decode cX0_around 84 = .ok (.aload_n 0, 1) := dk_42 (dk_at dksX0_around_3 18 rfl rfl)
theorem dX0_around_85 : decode cX0_around 85 = .ok (.getfield 331, 3) := dk_180 1 75 (dk_at dksX0_around_3 19 rfl rfl)
theorem dX0_around_88 : decode cX0_around 88 = .ok (.iload 6, 2) := dk_21 6 (dk_at dksX0_around_3 22 rfl rfl)
theorem dX0_around_90 : decode cX0_around 90 = .ok (.aaload, 1) := dk_50 (dk_at dksX0_around_4 0 rfl rfl)
theorem dX0_around_91 : decode cX0_around 91 = .ok (.getfield 340, 3) := dk_180 1 84 (dk_at dksX0_around_4 1 rfl rfl)
theorem dX0_around_94 : decode cX0_around 94 = .ok (.iload_n 1, 1) := dk_27 (dk_at dksX0_around_4 4 rfl rfl)
theorem dX0_around_95 : decode cX0_around 95 = .ok (.if_icmp .ne 22, 3) := dk_160 0 22 (dk_at dksX0_around_4 5 rfl rfl)
theorem dX0_around_98 : decode cX0_around 98 = .ok (.aload_n 0, 1) := dk_42 (dk_at dksX0_around_4 8 rfl rfl)
theorem dX0_around_99 : decode cX0_around 99 = .ok (.getfield 331, 3) := dk_180 1 75 (dk_at dksX0_around_4 9 rfl rfl)
theorem dX0_around_102 : decode cX0_around 102 = .ok (.iload 6, 2) := dk_21 6 (dk_at dksX0_around_4 12 rfl rfl)
theorem dX0_around_104 : decode cX0_around 104 = .ok (.aaload, 1) := dk_50 (dk_at dksX0_around_4 14 rfl rfl)
theorem dX0_around_105 : decode cX0_around 105 = .ok (.getfield 335, 3) := dk_180 1 79 (dk_at dksX0_around_4 15 rfl rfl)
theorem dX0_around_108 : decode cX0_around 108 = .ok (.iload 4, 2) := dk_21 4 (dk_at dksX0_around_4 18 rfl rfl)
theorem dX0_around_110 : decode cX0_around 110 = .ok (.if_icmp .ne 7, 3) := dk_160 0 7 (dk_at dksX0_around_4 20 rfl rfl)
theorem dX0_around_113 : decode cX0_around 113 = .ok (.iconst 1, 1) := dk_4 (dk_at dksX0_around_4 23 rfl rfl)
theorem dX0_around_114 : decode cX0_around 114 = .ok (.goto 4, 3) := dk_167 0 4 (dk_at dksX0_around_5 0 rfl rfl)
theorem dX0_around_117 : decode cX0_around 117 = .ok (.iconst 0, 1) := dk_3 (dk_at dksX0_around_5 3 rfl rfl)
theorem dX0_around_118 : decode cX0_around 118 = .ok (.istore 5, 2) := dk_54 5 (dk_at dksX0_around_5 4 rfl rfl)
theorem dX0_around_120 : decode cX0_around 120 = .ok (.iinc 6 1, 3) := dk_132 6 1 (dk_at dksX0_around_5 6 rfl rfl)
theorem dX0_around_123 : decode cX0_around 123 = .ok (.goto (-82), 3) := dk_167 255 174 (dk_at dksX0_around_5 9 rfl rfl)
theorem dX0_around_126 : decode cX0_around 126 = .ok (.aload_n 3, 1) := dk_45 (dk_at dksX0_around_5 12 rfl rfl)
theorem dX0_around_127 : decode cX0_around 127 = .ok (.iload 4, 2) := dk_21 4 (dk_at dksX0_around_5 13 rfl rfl)
theorem dX0_around_129 : decode cX0_around 129 = .ok (.aload_n 2, 1) := dk_44 (dk_at dksX0_around_5 15 rfl rfl)
theorem dX0_around_130 : decode cX0_around 130 = .ok (.getfield 211, 3) := dk_180 0 211 (dk_at dksX0_around_5 16 rfl rfl)
theorem dX0_around_133 : decode cX0_around 133 = .ok (.iastore, 1) := dk_79 (dk_at dksX0_around_5 19 rfl rfl)
theorem dX0_around_134 : decode cX0_around 134 = .ok (.iload 5, 2) := dk_21 5 (dk_at dksX0_around_5 20 rfl rfl)
theorem dX0_around_136 : decode cX0_around 136 = .ok (.ifCond .eq 21, 3) := dk_153 0 21 (dk_at dksX0_around_6 0 rfl rfl)
theorem dX0_around_139 : decode cX0_around 139 = .ok (.aload_n 2, 1) := dk_44 (dk_at dksX0_around_6 3 rfl rfl)
theorem dX0_around_140 : decode cX0_around 140 = .ok (.aload_n 0, 1) := dk_42 (dk_at dksX0_around_6 4 rfl rfl)
theorem dX0_around_141 : decode cX0_around 141 = .ok (.getfield 343, 3) := dk_180 1 87 (dk_at dksX0_around_6 5 rfl rfl)
theorem dX0_around_144 : decode cX0_around 144 = .ok (.iload 4, 2) := dk_21 4 (dk_at dksX0_around_6 8 rfl rfl)
theorem dX0_around_146 : decode cX0_around 146 = .ok (.aaload, 1) := dk_50 (dk_at dksX0_around_6 10 rfl rfl)
theorem dX0_around_147 : decode cX0_around 147 = .ok (.aload_n 0, 1) := dk_42 (dk_at dksX0_around_6 11 rfl rfl)
theorem dX0_around_148 : decode cX0_around 148 = .ok (.getfield 346, 3) := dk_180 1 90 (dk_at dksX0_around_6 12 rfl rfl)
theorem dX0_around_151 : decode cX0_around 151 = .ok (.iload 4, 2) := dk_21 4 (dk_at dksX0_around_6 15 rfl rfl)
theorem dX0_around_153 : decode cX0_around 153 = .ok (.iaload, 1) := dk_46 (dk_at dksX0_around_6 17 rfl rfl)
theorem dX0_around_154 : decode cX0_around 154 = .ok (.invokevirtual 348, 3) := dk_182 1 92 (dk_at dksX0_around_6 18 rfl rfl)
theorem dX0_around_157 : decode cX0_around 157 = .ok (.iinc 4 1, 3) := dk_132 4 1 (dk_at dksX0_around_6 21 rfl rfl)
theorem dX0_around_160 : decode cX0_around 160 = .ok (.goto (-144), 3) := dk_167 255 112 (dk_at dksX0_around_7 0 rfl rfl)
theorem dX0_around_163 : decode cX0_around 163 = .ok (.iconst 0, 1) := dk_3 (dk_at dksX0_around_7 3 rfl rfl)
theorem dX0_around_164 : decode cX0_around 164 = .ok (.istore 4, 2) := dk_54 4 (dk_at dksX0_around_7 4 rfl rfl)
theorem dX0_around_166 : decode cX0_around 166 = .ok (.iload 4, 2) := dk_21 4 (dk_at dksX0_around_7 6 rfl rfl)
theorem dX0_around_168 : decode cX0_around 168 = .ok (.aload_n 0, 1) := dk_42 (dk_at dksX0_around_7 8 rfl rfl)
theorem dX0_around_169 : decode cX0_around 169 = .ok (.getfield 297, 3) := dk_180 1 41 (dk_at dksX0_around_7 9 rfl rfl)
theorem dX0_around_172 : decode cX0_around 172 = .ok (.if_icmp .ge 66, 3) := dk_162 0 66 (dk_at dksX0_around_7 12 rfl rfl)
theorem dX0_around_175 : decode cX0_around 175 = .ok (.aload_n 0, 1) := dk_42 (dk_at dksX0_around_7 15 rfl rfl)
theorem dX0_around_176 : decode cX0_around 176 = .ok (.getfield 331, 3) := dk_180 1 75 (dk_at dksX0_around_7 16 rfl rfl)
theorem dX0_around_179 : decode cX0_around 179 = .ok (.iload 4, 2) := dk_21 4 (dk_at dksX0_around_7 19 rfl rfl)
theorem dX0_around_181 : decode cX0_around 181 = .ok (.aaload, 1) := dk_50 (dk_at dksX0_around_7 21 rfl rfl)
theorem dX0_around_182 : decode cX0_around 182 = .ok (.astore 5, 2) := dk_58 5 (dk_at dksX0_around_7 22 rfl rfl)
theorem dX0_around_184 : decode cX0_around 184 = .ok (.aload 5, 2) := dk_25 5 (dk_at dksX0_around_8 0 rfl rfl)
theorem dX0_around_186 : decode cX0_around 186 = .ok (.getfield 335, 3) := dk_180 1 79 (dk_at dksX0_around_8 2 rfl rfl)
theorem dX0_around_189 : decode cX0_around 189 = .ok (.iload_n 1, 1) := dk_27 (dk_at dksX0_around_8 5 rfl rfl)
theorem dX0_around_190 : decode cX0_around 190 = .ok (.if_icmp .eq 12, 3) := dk_159 0 12 (dk_at dksX0_around_8 6 rfl rfl)
theorem dX0_around_193 : decode cX0_around 193 = .ok (.aload 5, 2) := dk_25 5 (dk_at dksX0_around_8 9 rfl rfl)
theorem dX0_around_195 : decode cX0_around 195 = .ok (.getfield 340, 3) := dk_180 1 84 (dk_at dksX0_around_8 11 rfl rfl)
theorem dX0_around_198 : decode cX0_around 198 = .ok (.iload_n 1, 1) := dk_27 (dk_at dksX0_around_8 14 rfl rfl)
theorem dX0_around_199 : decode cX0_around 199 = .ok (.if_icmp .ne 33, 3) := dk_160 0 33 (dk_at dksX0_around_8 15 rfl rfl)
theorem dX0_around_202 : decode cX0_around 202 = .ok (.aload_n 2, 1) := dk_44 (dk_at dksX0_around_8 18 rfl rfl)
theorem dX0_around_203 : decode cX0_around 203 = .ok (.new 336, 3) := dk_187 1 80 (dk_at dksX0_around_8 19 rfl rfl)
theorem dX0_around_206 : decode cX0_around 206 = .ok (.dup, 1) := dk_89 (dk_at dksX0_around_8 22 rfl rfl)
theorem dX0_around_207 : decode cX0_around 207 = .ok (.aload_n 3, 1) := dk_45 (dk_at dksX0_around_8 23 rfl rfl)
theorem dX0_around_208 : decode cX0_around 208 = .ok (.aload 5, 2) := dk_25 5 (dk_at dksX0_around_9 0 rfl rfl)
theorem dX0_around_210 : decode cX0_around 210 = .ok (.getfield 335, 3) := dk_180 1 79 (dk_at dksX0_around_9 2 rfl rfl)
theorem dX0_around_213 : decode cX0_around 213 = .ok (.iaload, 1) := dk_46 (dk_at dksX0_around_9 5 rfl rfl)
theorem dX0_around_214 : decode cX0_around 214 = .ok (.aload 5, 2) := dk_25 5 (dk_at dksX0_around_9 6 rfl rfl)
theorem dX0_around_216 : decode cX0_around 216 = .ok (.getfield 352, 3) := dk_180 1 96 (dk_at dksX0_around_9 8 rfl rfl)
theorem dX0_around_219 : decode cX0_around 219 = .ok (.aload_n 3, 1) := dk_45 (dk_at dksX0_around_9 11 rfl rfl)
theorem dX0_around_220 : decode cX0_around 220 = .ok (.aload 5, 2) := dk_25 5 (dk_at dksX0_around_9 12 rfl rfl)
theorem dX0_around_222 : decode cX0_around 222 = .ok (.getfield 340, 3) := dk_180 1 84 (dk_at dksX0_around_9 14 rfl rfl)
theorem dX0_around_225 : decode cX0_around 225 = .ok (.iaload, 1) := dk_46 (dk_at dksX0_around_9 17 rfl rfl)
theorem dX0_around_226 : decode cX0_around 226 = .ok (.invokespecial 355, 3) := dk_183 1 99 (dk_at dksX0_around_9 18 rfl rfl)
theorem dX0_around_229 : decode cX0_around 229 = .ok (.invokevirtual 358, 3) := dk_182 1 102 (dk_at dksX0_around_9 21 rfl rfl)
theorem dX0_around_232 : decode cX0_around 232 = .ok (.iinc 4 1, 3) := dk_132 4 1 (dk_at dksX0_around_10 0 rfl rfl)
theorem dX0_around_235 : decode cX0_around 235 = .ok (.goto (-69), 3) := dk_167 255 187 (dk_at dksX0_around_10 3 rfl rfl)
theorem dX0_around_238 : decode cX0_around 238 = .ok (.aload_n 2, 1) := dk_44 (dk_at dksX0_around_10 6 rfl rfl)
theorem dX0_around_239 : decode cX0_around 239 = .ok (.areturn, 1) := dk_176 (dk_at dksX0_around_10 7 rfl rfl)
abbrev cX0_lowest : ByteArray := prog_1_method_41_code
def yX0_lowest : MethodName := ⟨RX0, "lowest", "(I)I"⟩
def dkwX0_lowest_0 : List UInt8 := [3, 60, 26, 27, 122, 4, 126, 154, 0, 9, 132, 1, 1, 167, 255, 245, 27, 172]
abbrev dktX0_lowest_0 : List UInt8 := dkwX0_lowest_0 ++ []
theorem dksX0_lowest_0 : cX0_lowest.data.toList.drop 0 = dktX0_lowest_0 := by decide +kernel
theorem dX0_lowest_0 : decode cX0_lowest 0 = .ok (.iconst 0, 1) := dk_3 (dk_at dksX0_lowest_0 0 rfl rfl)
theorem dX0_lowest_1 : decode cX0_lowest 1 = .ok (.istore_n 1, 1) := dk_60 (dk_at dksX0_lowest_0 1 rfl rfl)
theorem dX0_lowest_2 : decode cX0_lowest 2 = .ok (.iload_n 0, 1) := dk_26 (dk_at dksX0_lowest_0 2 rfl rfl)
theorem dX0_lowest_3 : decode cX0_lowest 3 = .ok (.iload_n 1, 1) := dk_27 (dk_at dksX0_lowest_0 3 rfl rfl)
theorem dX0_lowest_4 : decode cX0_lowest 4 = .ok (.ishr, 1) := dk_122 (dk_at dksX0_lowest_0 4 rfl rfl)
theorem dX0_lowest_5 : decode cX0_lowest 5 = .ok (.iconst 1, 1) := dk_4 (dk_at dksX0_lowest_0 5 rfl rfl)
theorem dX0_lowest_6 : decode cX0_lowest 6 = .ok (.iand, 1) := dk_126 (dk_at dksX0_lowest_0 6 rfl rfl)
theorem dX0_lowest_7 : decode cX0_lowest 7 = .ok (.ifCond .ne 9, 3) := dk_154 0 9 (dk_at dksX0_lowest_0 7 rfl rfl)
theorem dX0_lowest_10 : decode cX0_lowest 10 = .ok (.iinc 1 1, 3) := dk_132 1 1 (dk_at dksX0_lowest_0 10 rfl rfl)
theorem dX0_lowest_13 : decode cX0_lowest 13 = .ok (.goto (-11), 3) := dk_167 255 245 (dk_at dksX0_lowest_0 13 rfl rfl)
theorem dX0_lowest_16 : decode cX0_lowest 16 = .ok (.iload_n 1, 1) := dk_27 (dk_at dksX0_lowest_0 16 rfl rfl)
theorem dX0_lowest_17 : decode cX0_lowest 17 = .ok (.ireturn, 1) := dk_172 (dk_at dksX0_lowest_0 17 rfl rfl)
abbrev cX0_widest : ByteArray := prog_1_method_42_code
def yX0_widest : MethodName := ⟨RX0, "widest", "(I)I"⟩
def dkwX0_widest_7 : List UInt8 := [42, 44, 182, 0, 108, 172]
abbrev dktX0_widest_7 : List UInt8 := dkwX0_widest_7 ++ []
def dkwX0_widest_6 : List UInt8 := [167, 255, 137, 21, 4, 154, 0, 6, 16, 254, 172, 42, 21, 4, 181, 0, 85, 21, 4, 184, 1, 118, 172, 77]
abbrev dktX0_widest_6 : List UInt8 := dkwX0_widest_6 ++ dktX0_widest_7
def dkwX0_widest_5 : List UInt8 := [167, 0, 4, 3, 54, 6, 132, 7, 1, 167, 255, 191, 21, 6, 154, 0, 7, 21, 5, 54, 4, 132, 5, 1]
abbrev dktX0_widest_5 : List UInt8 := dkwX0_widest_5 ++ dktX0_widest_6
def dkwX0_widest_4 : List UInt8 := [42, 180, 0, 43, 21, 7, 50, 180, 1, 53, 44, 180, 0, 229, 21, 5, 182, 0, 222, 153, 0, 7, 4]
abbrev dktX0_widest_4 : List UInt8 := dkwX0_widest_4 ++ dktX0_widest_5
def dkwX0_widest_3 : List UInt8 := [21, 6, 154, 0, 57, 42, 180, 0, 43, 21, 7, 50, 29, 42, 180, 0, 165, 182, 1, 72, 153, 0, 30, 42]
abbrev dktX0_widest_3 : List UInt8 := dkwX0_widest_3 ++ dktX0_widest_4
def dkwX0_widest_2 : List UInt8 := [184, 1, 118, 161, 0, 6, 167, 0, 86, 3, 54, 6, 3, 54, 7, 21, 7, 42, 180, 0, 184, 162, 0, 62]
abbrev dktX0_widest_2 : List UInt8 := dkwX0_widest_2 ++ dktX0_widest_3
def dkwX0_widest_1 : List UInt8 := [44, 180, 0, 229, 184, 0, 218, 163, 0, 113, 21, 4, 153, 0, 19, 21, 5, 184, 1, 118, 21, 4]
abbrev dktX0_widest_1 : List UInt8 := dkwX0_widest_1 ++ dktX0_widest_2
def dkwX0_widest_0 : List UInt8 := [42, 182, 0, 139, 42, 27, 182, 1, 3, 77, 42, 44, 182, 1, 44, 62, 3, 54, 4, 4, 54, 5, 21, 5]
abbrev dktX0_widest_0 : List UInt8 := dkwX0_widest_0 ++ dktX0_widest_1
theorem dksX0_widest_0 : cX0_widest.data.toList.drop 0 = dktX0_widest_0 := by decide +kernel
theorem dksX0_widest_1 : cX0_widest.data.toList.drop 24 = dktX0_widest_1 := dk_seg dksX0_widest_0 24 rfl rfl
theorem dksX0_widest_2 : cX0_widest.data.toList.drop 46 = dktX0_widest_2 := dk_seg dksX0_widest_1 22 rfl rfl
theorem dksX0_widest_3 : cX0_widest.data.toList.drop 70 = dktX0_widest_3 := dk_seg dksX0_widest_2 24 rfl rfl
theorem dksX0_widest_4 : cX0_widest.data.toList.drop 94 = dktX0_widest_4 := dk_seg dksX0_widest_3 24 rfl rfl
theorem dksX0_widest_5 : cX0_widest.data.toList.drop 117 = dktX0_widest_5 := dk_seg dksX0_widest_4 23 rfl rfl
theorem dksX0_widest_6 : cX0_widest.data.toList.drop 141 = dktX0_widest_6 := dk_seg dksX0_widest_5 24 rfl rfl
theorem dksX0_widest_7 : cX0_widest.data.toList.drop 165 = dktX0_widest_7 := dk_seg dksX0_widest_6 24 rfl rfl
theorem dX0_widest_0 : decode cX0_widest 0 = .ok (.aload_n 0, 1) := dk_42 (dk_at dksX0_widest_0 0 rfl rfl)
theorem dX0_widest_1 : decode cX0_widest 1 = .ok (.invokevirtual 139, 3) := dk_182 0 139 (dk_at dksX0_widest_0 1 rfl rfl)
theorem dX0_widest_4 : decode cX0_widest 4 = .ok (.aload_n 0, 1) := dk_42 (dk_at dksX0_widest_0 4 rfl rfl)
theorem dX0_widest_5 : decode cX0_widest 5 = .ok (.iload_n 1, 1) := dk_27 (dk_at dksX0_widest_0 5 rfl rfl)
theorem dX0_widest_6 : decode cX0_widest 6 = .ok (.invokevirtual 259, 3) := dk_182 1 3 (dk_at dksX0_widest_0 6 rfl rfl)
theorem dX0_widest_9 : decode cX0_widest 9 = .ok (.astore_n 2, 1) := dk_77 (dk_at dksX0_widest_0 9 rfl rfl)
theorem dX0_widest_10 : decode cX0_widest 10 = .ok (.aload_n 0, 1) := dk_42 (dk_at dksX0_widest_0 10 rfl rfl)
theorem dX0_widest_11 : decode cX0_widest 11 = .ok (.aload_n 2, 1) := dk_44 (dk_at dksX0_widest_0 11 rfl rfl)
theorem dX0_widest_12 : decode cX0_widest 12 = .ok (.invokevirtual 300, 3) := dk_182 1 44 (dk_at dksX0_widest_0 12 rfl rfl)
theorem dX0_widest_15 : decode cX0_widest 15 = .ok (.istore_n 3, 1) := dk_62 (dk_at dksX0_widest_0 15 rfl rfl)
theorem dX0_widest_16 : decode cX0_widest 16 = .ok (.iconst 0, 1) := dk_3 (dk_at dksX0_widest_0 16 rfl rfl)
theorem dX0_widest_17 : decode cX0_widest 17 = .ok (.istore 4, 2) := dk_54 4 (dk_at dksX0_widest_0 17 rfl rfl)
theorem dX0_widest_19 : decode cX0_widest 19 = .ok (.iconst 1, 1) := dk_4 (dk_at dksX0_widest_0 19 rfl rfl)
theorem dX0_widest_20 : decode cX0_widest 20 = .ok (.istore 5, 2) := dk_54 5 (dk_at dksX0_widest_0 20 rfl rfl)
theorem dX0_widest_22 : decode cX0_widest 22 = .ok (.iload 5, 2) := dk_21 5 (dk_at dksX0_widest_0 22 rfl rfl)
theorem dX0_widest_24 : decode cX0_widest 24 = .ok (.aload_n 2, 1) := dk_44 (dk_at dksX0_widest_1 0 rfl rfl)
theorem dX0_widest_25 : decode cX0_widest 25 = .ok (.getfield 229, 3) := dk_180 0 229 (dk_at dksX0_widest_1 1 rfl rfl)
theorem dX0_widest_28 : decode cX0_widest 28 = .ok (.invokestatic 218, 3) := dk_184 0 218 (dk_at dksX0_widest_1 4 rfl rfl)
theorem dX0_widest_31 : decode cX0_widest 31 = .ok (.if_icmp .gt 113, 3) := dk_163 0 113 (dk_at dksX0_widest_1 7 rfl rfl)
theorem dX0_widest_34 : decode cX0_widest 34 = .ok (.iload 4, 2) := dk_21 4 (dk_at dksX0_widest_1 10 rfl rfl)
theorem dX0_widest_36 : decode cX0_widest 36 = .ok (.ifCond .eq 19, 3) := dk_153 0 19 (dk_at dksX0_widest_1 12 rfl rfl)
theorem dX0_widest_39 : decode cX0_widest 39 = .ok (.iload 5, 2) := dk_21 5 (dk_at dksX0_widest_1 15 rfl rfl)
theorem dX0_widest_41 : decode cX0_widest 41 = .ok (.invokestatic 374, 3) := dk_184 1 118 (dk_at dksX0_widest_1 17 rfl rfl)
theorem dX0_widest_44 : decode cX0_widest 44 = .ok (.iload 4, 2) := dk_21 4 (dk_at dksX0_widest_1 20 rfl rfl)
theorem dX0_widest_46 : decode cX0_widest 46 = .ok (.invokestatic 374, 3) := dk_184 1 118 (dk_at dksX0_widest_2 0 rfl rfl)
theorem dX0_widest_49 : decode cX0_widest 49 = .ok (.if_icmp .lt 6, 3) := dk_161 0 6 (dk_at dksX0_widest_2 3 rfl rfl)
theorem dX0_widest_52 : decode cX0_widest 52 = .ok (.goto 86, 3) := dk_167 0 86 (dk_at dksX0_widest_2 6 rfl rfl)
theorem dX0_widest_55 : decode cX0_widest 55 = .ok (.iconst 0, 1) := dk_3 (dk_at dksX0_widest_2 9 rfl rfl)
theorem dX0_widest_56 : decode cX0_widest 56 = .ok (.istore 6, 2) := dk_54 6 (dk_at dksX0_widest_2 10 rfl rfl)
theorem dX0_widest_58 : decode cX0_widest 58 = .ok (.iconst 0, 1) := dk_3 (dk_at dksX0_widest_2 12 rfl rfl)
theorem dX0_widest_59 : decode cX0_widest 59 = .ok (.istore 7, 2) := dk_54 7 (dk_at dksX0_widest_2 13 rfl rfl)
theorem dX0_widest_61 : decode cX0_widest 61 = .ok (.iload 7, 2) := dk_21 7 (dk_at dksX0_widest_2 15 rfl rfl)
theorem dX0_widest_63 : decode cX0_widest 63 = .ok (.aload_n 0, 1) := dk_42 (dk_at dksX0_widest_2 17 rfl rfl)
theorem dX0_widest_64 : decode cX0_widest 64 = .ok (.getfield 184, 3) := dk_180 0 184 (dk_at dksX0_widest_2 18 rfl rfl)
theorem dX0_widest_67 : decode cX0_widest 67 = .ok (.if_icmp .ge 62, 3) := dk_162 0 62 (dk_at dksX0_widest_2 21 rfl rfl)
theorem dX0_widest_70 : decode cX0_widest 70 = .ok (.iload 6, 2) := dk_21 6 (dk_at dksX0_widest_3 0 rfl rfl)
theorem dX0_widest_72 : decode cX0_widest 72 = .ok (.ifCond .ne 57, 3) := dk_154 0 57 (dk_at dksX0_widest_3 2 rfl rfl)
theorem dX0_widest_75 : decode cX0_widest 75 = .ok (.aload_n 0, 1) := dk_42 (dk_at dksX0_widest_3 5 rfl rfl)
theorem dX0_widest_76 : decode cX0_widest 76 = .ok (.getfield 43, 3) := dk_180 0 43 (dk_at dksX0_widest_3 6 rfl rfl)
theorem dX0_widest_79 : decode cX0_widest 79 = .ok (.iload 7, 2) := dk_21 7 (dk_at dksX0_widest_3 9 rfl rfl)
theorem dX0_widest_81 : decode cX0_widest 81 = .ok (.aaload, 1) := dk_50 (dk_at dksX0_widest_3 11 rfl rfl)
theorem dX0_widest_82 : decode cX0_widest 82 = .ok (.iload_n 3, 1) := dk_29 (dk_at dksX0_widest_3 12 rfl rfl)
theorem dX0_widest_83 : decode cX0_widest 83 = .ok (.aload_n 0, 1) := dk_42 (dk_at dksX0_widest_3 13 rfl rfl)
theorem dX0_widest_84 : decode cX0_widest 84 = .ok (.getfield 165, 3) := dk_180 0 165 (dk_at dksX0_widest_3 14 rfl rfl)
theorem dX0_widest_87 : decode cX0_widest 87 = .ok (.invokevirtual 328, 3) := dk_182 1 72 (dk_at dksX0_widest_3 17 rfl rfl)
theorem dX0_widest_90 : decode cX0_widest 90 = .ok (.ifCond .eq 30, 3) := dk_153 0 30 (dk_at dksX0_widest_3 20 rfl rfl)
theorem dX0_widest_93 : decode cX0_widest 93 = .ok (.aload_n 0, 1) := dk_42 (dk_at dksX0_widest_3 23 rfl rfl)
theorem dX0_widest_94 : decode cX0_widest 94 = .ok (.aload_n 0, 1) := dk_42 (dk_at dksX0_widest_4 0 rfl rfl)
theorem dX0_widest_95 : decode cX0_widest 95 = .ok (.getfield 43, 3) := dk_180 0 43 (dk_at dksX0_widest_4 1 rfl rfl)
theorem dX0_widest_98 : decode cX0_widest 98 = .ok (.iload 7, 2) := dk_21 7 (dk_at dksX0_widest_4 4 rfl rfl)
theorem dX0_widest_100 : decode cX0_widest 100 = .ok (.aaload, 1) := dk_50 (dk_at dksX0_widest_4 6 rfl rfl)
theorem dX0_widest_101 : decode cX0_widest 101 = .ok (.getfield 309, 3) := dk_180 1 53 (dk_at dksX0_widest_4 7 rfl rfl)
theorem dX0_widest_104 : decode cX0_widest 104 = .ok (.aload_n 2, 1) := dk_44 (dk_at dksX0_widest_4 10 rfl rfl)
theorem dX0_widest_105 : decode cX0_widest 105 = .ok (.getfield 229, 3) := dk_180 0 229 (dk_at dksX0_widest_4 11 rfl rfl)
theorem dX0_widest_108 : decode cX0_widest 108 = .ok (.iload 5, 2) := dk_21 5 (dk_at dksX0_widest_4 14 rfl rfl)
theorem dX0_widest_110 : decode cX0_widest 110 = .ok (.invokevirtual 222, 3) := dk_182 0 222 (dk_at dksX0_widest_4 16 rfl rfl)
theorem dX0_widest_113 : decode cX0_widest 113 = .ok (.ifCond .eq 7, 3) := dk_153 0 7 (dk_at dksX0_widest_4 19 rfl rfl)
theorem dX0_widest_116 : decode cX0_widest 116 = .ok (.iconst 1, 1) := dk_4 (dk_at dksX0_widest_4 22 rfl rfl)
theorem dX0_widest_117 : decode cX0_widest 117 = .ok (.goto 4, 3) := dk_167 0 4 (dk_at dksX0_widest_5 0 rfl rfl)
theorem dX0_widest_120 : decode cX0_widest 120 = .ok (.iconst 0, 1) := dk_3 (dk_at dksX0_widest_5 3 rfl rfl)
theorem dX0_widest_121 : decode cX0_widest 121 = .ok (.istore 6, 2) := dk_54 6 (dk_at dksX0_widest_5 4 rfl rfl)
theorem dX0_widest_123 : decode cX0_widest 123 = .ok (.iinc 7 1, 3) := dk_132 7 1 (dk_at dksX0_widest_5 6 rfl rfl)
theorem dX0_widest_126 : decode cX0_widest 126 = .ok (.goto (-65), 3) := dk_167 255 191 (dk_at dksX0_widest_5 9 rfl rfl)
theorem dX0_widest_129 : decode cX0_widest 129 = .ok (.iload 6, 2) := dk_21 6 (dk_at dksX0_widest_5 12 rfl rfl)
theorem dX0_widest_131 : decode cX0_widest 131 = .ok (.ifCond .ne 7, 3) := dk_154 0 7 (dk_at dksX0_widest_5 14 rfl rfl)
theorem dX0_widest_134 : decode cX0_widest 134 = .ok (.iload 5, 2) := dk_21 5 (dk_at dksX0_widest_5 17 rfl rfl)
theorem dX0_widest_136 : decode cX0_widest 136 = .ok (.istore 4, 2) := dk_54 4 (dk_at dksX0_widest_5 19 rfl rfl)
theorem dX0_widest_138 : decode cX0_widest 138 = .ok (.iinc 5 1, 3) := dk_132 5 1 (dk_at dksX0_widest_5 21 rfl rfl)
theorem dX0_widest_141 : decode cX0_widest 141 = .ok (.goto (-119), 3) := dk_167 255 137 (dk_at dksX0_widest_6 0 rfl rfl)
theorem dX0_widest_144 : decode cX0_widest 144 = .ok (.iload 4, 2) := dk_21 4 (dk_at dksX0_widest_6 3 rfl rfl)
theorem dX0_widest_146 : decode cX0_widest 146 = .ok (.ifCond .ne 6, 3) := dk_154 0 6 (dk_at dksX0_widest_6 5 rfl rfl)
theorem dX0_widest_149 : decode cX0_widest 149 = .ok (.bipush (-2), 2) := dk_16 254 (dk_at dksX0_widest_6 8 rfl rfl)
theorem dX0_widest_151 : decode cX0_widest 151 = .ok (.ireturn, 1) := dk_172 (dk_at dksX0_widest_6 10 rfl rfl)
theorem dX0_widest_152 : decode cX0_widest 152 = .ok (.aload_n 0, 1) := dk_42 (dk_at dksX0_widest_6 11 rfl rfl)
theorem dX0_widest_153 : decode cX0_widest 153 = .ok (.iload 4, 2) := dk_21 4 (dk_at dksX0_widest_6 12 rfl rfl)
theorem dX0_widest_155 : decode cX0_widest 155 = .ok (.putfield 85, 3) := dk_181 0 85 (dk_at dksX0_widest_6 14 rfl rfl)
theorem dX0_widest_158 : decode cX0_widest 158 = .ok (.iload 4, 2) := dk_21 4 (dk_at dksX0_widest_6 17 rfl rfl)
theorem dX0_widest_160 : decode cX0_widest 160 = .ok (.invokestatic 374, 3) := dk_184 1 118 (dk_at dksX0_widest_6 19 rfl rfl)
theorem dX0_widest_163 : decode cX0_widest 163 = .ok (.ireturn, 1) := dk_172 (dk_at dksX0_widest_6 22 rfl rfl)
theorem dX0_widest_164 : decode cX0_widest 164 = .ok (.astore_n 2, 1) := dk_77 (dk_at dksX0_widest_6 23 rfl rfl)
theorem dX0_widest_165 : decode cX0_widest 165 = .ok (.aload_n 0, 1) := dk_42 (dk_at dksX0_widest_7 0 rfl rfl)
theorem dX0_widest_166 : decode cX0_widest 166 = .ok (.aload_n 2, 1) := dk_44 (dk_at dksX0_widest_7 1 rfl rfl)
theorem dX0_widest_167 : decode cX0_widest 167 = .ok (.invokevirtual 108, 3) := dk_182 0 108 (dk_at dksX0_widest_7 2 rfl rfl)
theorem dX0_widest_170 : decode cX0_widest 170 = .ok (.ireturn, 1) := dk_172 (dk_at dksX0_widest_7 5 rfl rfl)
abbrev cX0_ones : ByteArray := prog_1_method_43_code
def yX0_ones : MethodName := ⟨RX0, "ones", "(I)I"⟩
def dkwX0_ones_0 : List UInt8 := [3, 60, 26, 61, 28, 153, 0, 15, 132, 1, 1, 28, 28, 4, 100, 126, 61, 167, 255, 243, 27, 172]
abbrev dktX0_ones_0 : List UInt8 := dkwX0_ones_0 ++ []
theorem dksX0_ones_0 : cX0_ones.data.toList.drop 0 = dktX0_ones_0 := by decide +kernel
theorem dX0_ones_0 : decode cX0_ones 0 = .ok (.iconst 0, 1) := dk_3 (dk_at dksX0_ones_0 0 rfl rfl)
theorem dX0_ones_1 : decode cX0_ones 1 = .ok (.istore_n 1, 1) := dk_60 (dk_at dksX0_ones_0 1 rfl rfl)
theorem dX0_ones_2 : decode cX0_ones 2 = .ok (.iload_n 0, 1) := dk_26 (dk_at dksX0_ones_0 2 rfl rfl)
theorem dX0_ones_3 : decode cX0_ones 3 = .ok (.istore_n 2, 1) := dk_61 (dk_at dksX0_ones_0 3 rfl rfl)
theorem dX0_ones_4 : decode cX0_ones 4 = .ok (.iload_n 2, 1) := dk_28 (dk_at dksX0_ones_0 4 rfl rfl)
theorem dX0_ones_5 : decode cX0_ones 5 = .ok (.ifCond .eq 15, 3) := dk_153 0 15 (dk_at dksX0_ones_0 5 rfl rfl)
theorem dX0_ones_8 : decode cX0_ones 8 = .ok (.iinc 1 1, 3) := dk_132 1 1 (dk_at dksX0_ones_0 8 rfl rfl)
theorem dX0_ones_11 : decode cX0_ones 11 = .ok (.iload_n 2, 1) := dk_28 (dk_at dksX0_ones_0 11 rfl rfl)
theorem dX0_ones_12 : decode cX0_ones 12 = .ok (.iload_n 2, 1) := dk_28 (dk_at dksX0_ones_0 12 rfl rfl)
theorem dX0_ones_13 : decode cX0_ones 13 = .ok (.iconst 1, 1) := dk_4 (dk_at dksX0_ones_0 13 rfl rfl)
theorem dX0_ones_14 : decode cX0_ones 14 = .ok (.isub, 1) := dk_100 (dk_at dksX0_ones_0 14 rfl rfl)
theorem dX0_ones_15 : decode cX0_ones 15 = .ok (.iand, 1) := dk_126 (dk_at dksX0_ones_0 15 rfl rfl)
theorem dX0_ones_16 : decode cX0_ones 16 = .ok (.istore_n 2, 1) := dk_61 (dk_at dksX0_ones_0 16 rfl rfl)
theorem dX0_ones_17 : decode cX0_ones 17 = .ok (.goto (-13), 3) := dk_167 255 243 (dk_at dksX0_ones_0 17 rfl rfl)
theorem dX0_ones_20 : decode cX0_ones 20 = .ok (.iload_n 1, 1) := dk_27 (dk_at dksX0_ones_0 20 rfl rfl)
theorem dX0_ones_21 : decode cX0_ones 21 = .ok (.ireturn, 1) := dk_172 (dk_at dksX0_ones_0 21 rfl rfl)
abbrev cX0_left : ByteArray := prog_1_method_44_code
def yX0_left : MethodName := ⟨RX0, "left", "()I"⟩
theorem dX0_left_0 : decode cX0_left 0 = .ok (.aload_n 0, 1) := by decide +kernel
theorem dX0_left_1 : decode cX0_left 1 = .ok (.getfield 85, 3) := by decide +kernel
theorem dX0_left_4 : decode cX0_left 4 = .ok (.ireturn, 1) := by decide +kernel
abbrev cX0_narrower : ByteArray := prog_1_method_45_code
def yX0_narrower : MethodName := ⟨RX0, "narrower", "(II)I"⟩
def dkwX0_narrower_1 : List UInt8 := [180, 0, 229, 182, 0, 243, 153, 0, 7, 4, 167, 0, 4, 3, 172, 78, 42, 45, 182, 0, 108, 172]
abbrev dktX0_narrower_1 : List UInt8 := dkwX0_narrower_1 ++ []
def dkwX0_narrower_0 : List UInt8 := [42, 182, 0, 139, 42, 27, 182, 1, 3, 78, 42, 28, 182, 1, 3, 58, 4, 42, 45, 180, 0, 229, 25, 4]
abbrev dktX0_narrower_0 : List UInt8 := dkwX0_narrower_0 ++ dktX0_narrower_1
theorem dksX0_narrower_0 : cX0_narrower.data.toList.drop 0 = dktX0_narrower_0 := by decide +kernel
theorem dksX0_narrower_1 : cX0_narrower.data.toList.drop 24 = dktX0_narrower_1 := dk_seg dksX0_narrower_0 24 rfl rfl
theorem dX0_narrower_0 : decode cX0_narrower 0 = .ok (.aload_n 0, 1) := dk_42 (dk_at dksX0_narrower_0 0 rfl rfl)
theorem dX0_narrower_1 : decode cX0_narrower 1 = .ok (.invokevirtual 139, 3) := dk_182 0 139 (dk_at dksX0_narrower_0 1 rfl rfl)
theorem dX0_narrower_4 : decode cX0_narrower 4 = .ok (.aload_n 0, 1) := dk_42 (dk_at dksX0_narrower_0 4 rfl rfl)
theorem dX0_narrower_5 : decode cX0_narrower 5 = .ok (.iload_n 1, 1) := dk_27 (dk_at dksX0_narrower_0 5 rfl rfl)
theorem dX0_narrower_6 : decode cX0_narrower 6 = .ok (.invokevirtual 259, 3) := dk_182 1 3 (dk_at dksX0_narrower_0 6 rfl rfl)
theorem dX0_narrower_9 : decode cX0_narrower 9 = .ok (.astore_n 3, 1) := dk_78 (dk_at dksX0_narrower_0 9 rfl rfl)
theorem dX0_narrower_10 : decode cX0_narrower 10 = .ok (.aload_n 0, 1) := dk_42 (dk_at dksX0_narrower_0 10 rfl rfl)
theorem dX0_narrower_11 : decode cX0_narrower 11 = .ok (.iload_n 2, 1) := dk_28 (dk_at dksX0_narrower_0 11 rfl rfl)
theorem dX0_narrower_12 : decode cX0_narrower 12 = .ok (.invokevirtual 259, 3) := dk_182 1 3 (dk_at dksX0_narrower_0 12 rfl rfl)
theorem dX0_narrower_15 : decode cX0_narrower 15 = .ok (.astore 4, 2) := dk_58 4 (dk_at dksX0_narrower_0 15 rfl rfl)
theorem dX0_narrower_17 : decode cX0_narrower 17 = .ok (.aload_n 0, 1) := dk_42 (dk_at dksX0_narrower_0 17 rfl rfl)
theorem dX0_narrower_18 : decode cX0_narrower 18 = .ok (.aload_n 3, 1) := dk_45 (dk_at dksX0_narrower_0 18 rfl rfl)
theorem dX0_narrower_19 : decode cX0_narrower 19 = .ok (.getfield 229, 3) := dk_180 0 229 (dk_at dksX0_narrower_0 19 rfl rfl)
theorem dX0_narrower_22 : decode cX0_narrower 22 = .ok (.aload 4, 2) := dk_25 4 (dk_at dksX0_narrower_0 22 rfl rfl)
theorem dX0_narrower_24 : decode cX0_narrower 24 = .ok (.getfield 229, 3) := dk_180 0 229 (dk_at dksX0_narrower_1 0 rfl rfl)
theorem dX0_narrower_27 : decode cX0_narrower 27 = .ok (.invokevirtual 243, 3) := dk_182 0 243 (dk_at dksX0_narrower_1 3 rfl rfl)
theorem dX0_narrower_30 : decode cX0_narrower 30 = .ok (.ifCond .eq 7, 3) := dk_153 0 7 (dk_at dksX0_narrower_1 6 rfl rfl)
theorem dX0_narrower_33 : decode cX0_narrower 33 = .ok (.iconst 1, 1) := dk_4 (dk_at dksX0_narrower_1 9 rfl rfl)
theorem dX0_narrower_34 : decode cX0_narrower 34 = .ok (.goto 4, 3) := dk_167 0 4 (dk_at dksX0_narrower_1 10 rfl rfl)
theorem dX0_narrower_37 : decode cX0_narrower 37 = .ok (.iconst 0, 1) := dk_3 (dk_at dksX0_narrower_1 13 rfl rfl)
theorem dX0_narrower_38 : decode cX0_narrower 38 = .ok (.ireturn, 1) := dk_172 (dk_at dksX0_narrower_1 14 rfl rfl)
theorem dX0_narrower_39 : decode cX0_narrower 39 = .ok (.astore_n 3, 1) := dk_78 (dk_at dksX0_narrower_1 15 rfl rfl)
theorem dX0_narrower_40 : decode cX0_narrower 40 = .ok (.aload_n 0, 1) := dk_42 (dk_at dksX0_narrower_1 16 rfl rfl)
theorem dX0_narrower_41 : decode cX0_narrower 41 = .ok (.aload_n 3, 1) := dk_45 (dk_at dksX0_narrower_1 17 rfl rfl)
theorem dX0_narrower_42 : decode cX0_narrower 42 = .ok (.invokevirtual 108, 3) := dk_182 0 108 (dk_at dksX0_narrower_1 18 rfl rfl)
theorem dX0_narrower_45 : decode cX0_narrower 45 = .ok (.ireturn, 1) := dk_172 (dk_at dksX0_narrower_1 21 rfl rfl)
abbrev cX0_falls : ByteArray := prog_1_method_47_code
def yX0_falls : MethodName := ⟨RX0, "falls", "(III)I"⟩
def dkwX0_falls_6 : List UInt8 := [132, 4, 1, 167, 255, 178, 42, 180, 1, 127, 172, 58, 4, 42, 25, 4, 182, 0, 108, 172]
abbrev dktX0_falls_6 : List UInt8 := dkwX0_falls_6 ++ []
def dkwX0_falls_5 : List UInt8 := [167, 0, 24, 42, 180, 0, 88, 42, 180, 1, 127, 21, 4, 79, 42, 89, 180, 1, 127, 4, 96, 181, 1, 127]
abbrev dktX0_falls_5 : List UInt8 := dkwX0_falls_5 ++ dktX0_falls_6
def dkwX0_falls_4 : List UInt8 := [180, 0, 55, 27, 50, 180, 1, 54, 42, 180, 0, 61, 21, 4, 50, 180, 0, 229, 182, 0, 243, 154, 0, 6]
abbrev dktX0_falls_4 : List UInt8 := dkwX0_falls_4 ++ dktX0_falls_5
def dkwX0_falls_3 : List UInt8 := [180, 0, 226, 162, 0, 75, 42, 42, 180, 0, 61, 21, 4, 50, 28, 29, 182, 1, 130, 153, 0, 53, 42, 42]
abbrev dktX0_falls_3 : List UInt8 := dkwX0_falls_3 ++ dktX0_falls_4
def dkwX0_falls_2 : List UInt8 := [180, 0, 55, 27, 50, 29, 182, 1, 124, 4, 182, 0, 142, 42, 3, 181, 1, 127, 3, 54, 4, 21, 4, 42]
abbrev dktX0_falls_2 : List UInt8 := dkwX0_falls_2 ++ dktX0_falls_3
def dkwX0_falls_1 : List UInt8 := [184, 1, 65, 153, 0, 14, 29, 184, 1, 65, 153, 0, 7, 4, 167, 0, 4, 3, 5, 182, 0, 142, 42, 42]
abbrev dktX0_falls_1 : List UInt8 := dkwX0_falls_1 ++ dktX0_falls_2
def dkwX0_falls_0 : List UInt8 := [42, 182, 0, 139, 42, 27, 3, 42, 180, 0, 193, 4, 100, 184, 0, 112, 4, 182, 0, 142, 42, 28]
abbrev dktX0_falls_0 : List UInt8 := dkwX0_falls_0 ++ dktX0_falls_1
theorem dksX0_falls_0 : cX0_falls.data.toList.drop 0 = dktX0_falls_0 := by decide +kernel
theorem dksX0_falls_1 : cX0_falls.data.toList.drop 22 = dktX0_falls_1 := dk_seg dksX0_falls_0 22 rfl rfl
theorem dksX0_falls_2 : cX0_falls.data.toList.drop 46 = dktX0_falls_2 := dk_seg dksX0_falls_1 24 rfl rfl
theorem dksX0_falls_3 : cX0_falls.data.toList.drop 70 = dktX0_falls_3 := dk_seg dksX0_falls_2 24 rfl rfl
theorem dksX0_falls_4 : cX0_falls.data.toList.drop 94 = dktX0_falls_4 := dk_seg dksX0_falls_3 24 rfl rfl
theorem dksX0_falls_5 : cX0_falls.data.toList.drop 118 = dktX0_falls_5 := dk_seg dksX0_falls_4 24 rfl rfl
theorem dksX0_falls_6 : cX0_falls.data.toList.drop 142 = dktX0_falls_6 := dk_seg dksX0_falls_5 24 rfl rfl
theorem dX0_falls_0 : decode cX0_falls 0 = .ok (.aload_n 0, 1) := dk_42 (dk_at dksX0_falls_0 0 rfl rfl)
theorem dX0_falls_1 : decode cX0_falls 1 = .ok (.invokevirtual 139, 3) := dk_182 0 139 (dk_at dksX0_falls_0 1 rfl rfl)
theorem dX0_falls_4 : decode cX0_falls 4 = .ok (.aload_n 0, 1) := dk_42 (dk_at dksX0_falls_0 4 rfl rfl)
theorem dX0_falls_5 : decode cX0_falls 5 = .ok (.iload_n 1, 1) := dk_27 (dk_at dksX0_falls_0 5 rfl rfl)
theorem dX0_falls_6 : decode cX0_falls 6 = .ok (.iconst 0, 1) := dk_3 (dk_at dksX0_falls_0 6 rfl rfl)
theorem dX0_falls_7 : decode cX0_falls 7 = .ok (.aload_n 0, 1) := dk_42 (dk_at dksX0_falls_0 7 rfl rfl)
theorem dX0_falls_8 : decode cX0_falls 8 = .ok (.getfield 193, 3) := dk_180 0 193 (dk_at dksX0_falls_0 8 rfl rfl)
theorem dX0_falls_11 : decode cX0_falls 11 = .ok (.iconst 1, 1) := dk_4 (dk_at dksX0_falls_0 11 rfl rfl)
theorem dX0_falls_12 : decode cX0_falls 12 = .ok (.isub, 1) := dk_100 (dk_at dksX0_falls_0 12 rfl rfl)
theorem dX0_falls_13 : decode cX0_falls 13 = .ok (.invokestatic 112, 3) := dk_184 0 112 (dk_at dksX0_falls_0 13 rfl rfl)
theorem dX0_falls_16 : decode cX0_falls 16 = .ok (.iconst 1, 1) := dk_4 (dk_at dksX0_falls_0 16 rfl rfl)
theorem dX0_falls_17 : decode cX0_falls 17 = .ok (.invokevirtual 142, 3) := dk_182 0 142 (dk_at dksX0_falls_0 17 rfl rfl)
theorem dX0_falls_20 : decode cX0_falls 20 = .ok (.aload_n 0, 1) := dk_42 (dk_at dksX0_falls_0 20 rfl rfl)
theorem dX0_falls_21 : decode cX0_falls 21 = .ok (.iload_n 2, 1) := dk_28 (dk_at dksX0_falls_0 21 rfl rfl)
theorem dX0_falls_22 : decode cX0_falls 22 = .ok (.invokestatic 321, 3) := dk_184 1 65 (dk_at dksX0_falls_1 0 rfl rfl)
theorem dX0_falls_25 : decode cX0_falls 25 = .ok (.ifCond .eq 14, 3) := dk_153 0 14 (dk_at dksX0_falls_1 3 rfl rfl)
theorem dX0_falls_28 : decode cX0_falls 28 = .ok (.iload_n 3, 1) := dk_29 (dk_at dksX0_falls_1 6 rfl rfl)
theorem dX0_falls_29 : decode cX0_falls 29 = .ok (.invokestatic 321, 3) := dk_184 1 65 (dk_at dksX0_falls_1 7 rfl rfl)
theorem dX0_falls_32 : decode cX0_falls 32 = .ok (.ifCond .eq 7, 3) := dk_153 0 7 (dk_at dksX0_falls_1 10 rfl rfl)
theorem dX0_falls_35 : decode cX0_falls 35 = .ok (.iconst 1, 1) := dk_4 (dk_at dksX0_falls_1 13 rfl rfl)
theorem dX0_falls_36 : decode cX0_falls 36 = .ok (.goto 4, 3) := dk_167 0 4 (dk_at dksX0_falls_1 14 rfl rfl)
theorem dX0_falls_39 : decode cX0_falls 39 = .ok (.iconst 0, 1) := dk_3 (dk_at dksX0_falls_1 17 rfl rfl)
theorem dX0_falls_40 : decode cX0_falls 40 = .ok (.iconst 2, 1) := dk_5 (dk_at dksX0_falls_1 18 rfl rfl)
theorem dX0_falls_41 : decode cX0_falls 41 = .ok (.invokevirtual 142, 3) := dk_182 0 142 (dk_at dksX0_falls_1 19 rfl rfl)
theorem dX0_falls_44 : decode cX0_falls 44 = .ok (.aload_n 0, 1) := dk_42 (dk_at dksX0_falls_1 22 rfl rfl)
theorem dX0_falls_45 : decode cX0_falls 45 = .ok (.aload_n 0, 1) := dk_42 (dk_at dksX0_falls_1 23 rfl rfl)
theorem dX0_falls_46 : decode cX0_falls 46 = .ok (.getfield 55, 3) := dk_180 0 55 (dk_at dksX0_falls_2 0 rfl rfl)
theorem dX0_falls_49 : decode cX0_falls 49 = .ok (.iload_n 1, 1) := dk_27 (dk_at dksX0_falls_2 3 rfl rfl)
theorem dX0_falls_50 : decode cX0_falls 50 = .ok (.aaload, 1) := dk_50 (dk_at dksX0_falls_2 4 rfl rfl)
theorem dX0_falls_51 : decode cX0_falls 51 = .ok (.iload_n 3, 1) := dk_29 (dk_at dksX0_falls_2 5 rfl rfl)
theorem dX0_falls_52 : decode cX0_falls 52 = .ok (.invokevirtual 380, 3) := dk_182 1 124 (dk_at dksX0_falls_2 6 rfl rfl)
theorem dX0_falls_55 : decode cX0_falls 55 = .ok (.iconst 1, 1) := dk_4 (dk_at dksX0_falls_2 9 rfl rfl)
theorem dX0_falls_56 : decode cX0_falls 56 = .ok (.invokevirtual 142, 3) := dk_182 0 142 (dk_at dksX0_falls_2 10 rfl rfl)
theorem dX0_falls_59 : decode cX0_falls 59 = .ok (.aload_n 0, 1) := dk_42 (dk_at dksX0_falls_2 13 rfl rfl)
theorem dX0_falls_60 : decode cX0_falls 60 = .ok (.iconst 0, 1) := dk_3 (dk_at dksX0_falls_2 14 rfl rfl)
theorem dX0_falls_61 : decode cX0_falls 61 = .ok (.putfield 383, 3) := dk_181 1 127 (dk_at dksX0_falls_2 15 rfl rfl)
theorem dX0_falls_64 : decode cX0_falls 64 = .ok (.iconst 0, 1) := dk_3 (dk_at dksX0_falls_2 18 rfl rfl)
theorem dX0_falls_65 : decode cX0_falls 65 = .ok (.istore 4, 2) := dk_54 4 (dk_at dksX0_falls_2 19 rfl rfl)
theorem dX0_falls_67 : decode cX0_falls 67 = .ok (.iload 4, 2) := dk_21 4 (dk_at dksX0_falls_2 21 rfl rfl)
theorem dX0_falls_69 : decode cX0_falls 69 = .ok (.aload_n 0, 1) := dk_42 (dk_at dksX0_falls_2 23 rfl rfl)
theorem dX0_falls_70 : decode cX0_falls 70 = .ok (.getfield 226, 3) := dk_180 0 226 (dk_at dksX0_falls_3 0 rfl rfl)
theorem dX0_falls_73 : decode cX0_falls 73 = .ok (.if_icmp .ge 75, 3) := dk_162 0 75 (dk_at dksX0_falls_3 3 rfl rfl)
theorem dX0_falls_76 : decode cX0_falls 76 = .ok (.aload_n 0, 1) := dk_42 (dk_at dksX0_falls_3 6 rfl rfl)
theorem dX0_falls_77 : decode cX0_falls 77 = .ok (.aload_n 0, 1) := dk_42 (dk_at dksX0_falls_3 7 rfl rfl)
theorem dX0_falls_78 : decode cX0_falls 78 = .ok (.getfield 61, 3) := dk_180 0 61 (dk_at dksX0_falls_3 8 rfl rfl)
theorem dX0_falls_81 : decode cX0_falls 81 = .ok (.iload 4, 2) := dk_21 4 (dk_at dksX0_falls_3 11 rfl rfl)
theorem dX0_falls_83 : decode cX0_falls 83 = .ok (.aaload, 1) := dk_50 (dk_at dksX0_falls_3 13 rfl rfl)
theorem dX0_falls_84 : decode cX0_falls 84 = .ok (.iload_n 2, 1) := dk_28 (dk_at dksX0_falls_3 14 rfl rfl)
theorem dX0_falls_85 : decode cX0_falls 85 = .ok (.iload_n 3, 1) := dk_29 (dk_at dksX0_falls_3 15 rfl rfl)
theorem dX0_falls_86 : decode cX0_falls 86 = .ok (.invokevirtual 386, 3) := dk_182 1 130 (dk_at dksX0_falls_3 16 rfl rfl)
theorem dX0_falls_89 : decode cX0_falls 89 = .ok (.ifCond .eq 53, 3) := dk_153 0 53 (dk_at dksX0_falls_3 19 rfl rfl)
theorem dX0_falls_92 : decode cX0_falls 92 = .ok (.aload_n 0, 1) := dk_42 (dk_at dksX0_falls_3 22 rfl rfl)
theorem dX0_falls_93 : decode cX0_falls 93 = .ok (.aload_n 0, 1) := dk_42 (dk_at dksX0_falls_3 23 rfl rfl)
theorem dX0_falls_94 : decode cX0_falls 94 = .ok (.getfield 55, 3) := dk_180 0 55 (dk_at dksX0_falls_4 0 rfl rfl)
theorem dX0_falls_97 : decode cX0_falls 97 = .ok (.iload_n 1, 1) := dk_27 (dk_at dksX0_falls_4 3 rfl rfl)
theorem dX0_falls_98 : decode cX0_falls 98 = .ok (.aaload, 1) := dk_50 (dk_at dksX0_falls_4 4 rfl rfl)
theorem dX0_falls_99 : decode cX0_falls 99 = .ok (.getfield 310, 3) := dk_180 1 54 (dk_at dksX0_falls_4 5 rfl rfl)
theorem dX0_falls_102 : decode cX0_falls 102 = .ok (.aload_n 0, 1) := dk_42 (dk_at dksX0_falls_4 8 rfl rfl)
theorem dX0_falls_103 : decode cX0_falls 103 = .ok (.getfield 61, 3) := dk_180 0 61 (dk_at dksX0_falls_4 9 rfl rfl)
theorem dX0_falls_106 : decode cX0_falls 106 = .ok (.iload 4, 2) := dk_21 4 (dk_at dksX0_falls_4 12 rfl rfl)
theorem dX0_falls_108 : decode cX0_falls 108 = .ok (.aaload, 1) := dk_50 (dk_at dksX0_falls_4 14 rfl rfl)
theorem dX0_falls_109 : decode cX0_falls 109 = .ok (.getfield 229, 3) := dk_180 0 229 (dk_at dksX0_falls_4 15 rfl rfl)
theorem dX0_falls_112 : decode cX0_falls 112 = .ok (.invokevirtual 243, 3) := dk_182 0 243 (dk_at dksX0_falls_4 18 rfl rfl)
theorem dX0_falls_115 : decode cX0_falls 115 = .ok (.ifCond .ne 6, 3) := dk_154 0 6 (dk_at dksX0_falls_4 21 rfl rfl)
theorem dX0_falls_118 : decode cX0_falls 118 = .ok (.goto 24, 3) := dk_167 0 24 (dk_at dksX0_falls_5 0 rfl rfl)
theorem dX0_falls_121 : decode cX0_falls 121 = .ok (.aload_n 0, 1) := dk_42 (dk_at dksX0_falls_5 3 rfl rfl)
theorem dX0_falls_122 : decode cX0_falls 122 = .ok (.getfield 88, 3) := dk_180 0 88 (dk_at dksX0_falls_5 4 rfl rfl)
theorem dX0_falls_125 : decode cX0_falls 125 = .ok (.aload_n 0, 1) := dk_42 (dk_at dksX0_falls_5 7 rfl rfl)
theorem dX0_falls_126 : decode cX0_falls 126 = .ok (.getfield 383, 3) := dk_180 1 127 (dk_at dksX0_falls_5 8 rfl rfl)
theorem dX0_falls_129 : decode cX0_falls 129 = .ok (.iload 4, 2) := dk_21 4 (dk_at dksX0_falls_5 11 rfl rfl)
theorem dX0_falls_131 : decode cX0_falls 131 = .ok (.iastore, 1) := dk_79 (dk_at dksX0_falls_5 13 rfl rfl)
theorem dX0_falls_132 : decode cX0_falls 132 = .ok (.aload_n 0, 1) := dk_42 (dk_at dksX0_falls_5 14 rfl rfl)
theorem dX0_falls_133 : decode cX0_falls 133 = .ok (.dup, 1) := dk_89 (dk_at dksX0_falls_5 15 rfl rfl)
theorem dX0_falls_134 : decode cX0_falls 134 = .ok (.getfield 383, 3) := dk_180 1 127 (dk_at dksX0_falls_5 16 rfl rfl)
theorem dX0_falls_137 : decode cX0_falls 137 = .ok (.iconst 1, 1) := dk_4 (dk_at dksX0_falls_5 19 rfl rfl)
theorem dX0_falls_138 : decode cX0_falls 138 = .ok (.iadd, 1) := dk_96 (dk_at dksX0_falls_5 20 rfl rfl)
theorem dX0_falls_139 : decode cX0_falls 139 = .ok (.putfield 383, 3) := dk_181 1 127 (dk_at dksX0_falls_5 21 rfl rfl)
theorem dX0_falls_142 : decode cX0_falls 142 = .ok (.iinc 4 1, 3) := dk_132 4 1 (dk_at dksX0_falls_6 0 rfl rfl)
theorem dX0_falls_145 : decode cX0_falls 145 = .ok (.goto (-78), 3) := dk_167 255 178 (dk_at dksX0_falls_6 3 rfl rfl)
theorem dX0_falls_148 : decode cX0_falls 148 = .ok (.aload_n 0, 1) := dk_42 (dk_at dksX0_falls_6 6 rfl rfl)
theorem dX0_falls_149 : decode cX0_falls 149 = .ok (.getfield 383, 3) := dk_180 1 127 (dk_at dksX0_falls_6 7 rfl rfl)
theorem dX0_falls_152 : decode cX0_falls 152 = .ok (.ireturn, 1) := dk_172 (dk_at dksX0_falls_6 10 rfl rfl)
theorem dX0_falls_153 : decode cX0_falls 153 = .ok (.astore 4, 2) := dk_58 4 (dk_at dksX0_falls_6 11 rfl rfl)
theorem dX0_falls_155 : decode cX0_falls 155 = .ok (.aload_n 0, 1) := dk_42 (dk_at dksX0_falls_6 13 rfl rfl)
theorem dX0_falls_156 : decode cX0_falls 156 = .ok (.aload 4, 2) := dk_25 4 (dk_at dksX0_falls_6 14 rfl rfl)
theorem dX0_falls_158 : decode cX0_falls 158 = .ok (.invokevirtual 108, 3) := dk_182 0 108 (dk_at dksX0_falls_6 16 rfl rfl)
theorem dX0_falls_161 : decode cX0_falls 161 = .ok (.ireturn, 1) := dk_172 (dk_at dksX0_falls_6 19 rfl rfl)
abbrev cX0_isInForce : ByteArray := prog_1_method_46_code
def yX0_isInForce : MethodName := ⟨RX0, "isInForce", "(LPatentHall$Claim;II)Z"⟩
def dkwX0_isInForce_0 : List UInt8 := [43, 42, 180, 0, 49, 43, 180, 0, 235, 50, 180, 1, 38, 28, 29, 182, 1, 121, 172]
abbrev dktX0_isInForce_0 : List UInt8 := dkwX0_isInForce_0 ++ []
theorem dksX0_isInForce_0 : cX0_isInForce.data.toList.drop 0 = dktX0_isInForce_0 := by decide +kernel
theorem dX0_isInForce_0 : decode cX0_isInForce 0 = .ok (.aload_n 1, 1) := dk_43 (dk_at dksX0_isInForce_0 0 rfl rfl)
theorem dX0_isInForce_1 : decode cX0_isInForce 1 = .ok (.aload_n 0, 1) := dk_42 (dk_at dksX0_isInForce_0 1 rfl rfl)
theorem dX0_isInForce_2 : decode cX0_isInForce 2 = .ok (.getfield 49, 3) := dk_180 0 49 (dk_at dksX0_isInForce_0 2 rfl rfl)
theorem dX0_isInForce_5 : decode cX0_isInForce 5 = .ok (.aload_n 1, 1) := dk_43 (dk_at dksX0_isInForce_0 5 rfl rfl)
theorem dX0_isInForce_6 : decode cX0_isInForce 6 = .ok (.getfield 235, 3) := dk_180 0 235 (dk_at dksX0_isInForce_0 6 rfl rfl)
theorem dX0_isInForce_9 : decode cX0_isInForce 9 = .ok (.aaload, 1) := dk_50 (dk_at dksX0_isInForce_0 9 rfl rfl)
theorem dX0_isInForce_10 : decode cX0_isInForce 10 = .ok (.getfield 294, 3) := dk_180 1 38 (dk_at dksX0_isInForce_0 10 rfl rfl)
theorem dX0_isInForce_13 : decode cX0_isInForce 13 = .ok (.iload_n 2, 1) := dk_28 (dk_at dksX0_isInForce_0 13 rfl rfl)
theorem dX0_isInForce_14 : decode cX0_isInForce 14 = .ok (.iload_n 3, 1) := dk_29 (dk_at dksX0_isInForce_0 14 rfl rfl)
theorem dX0_isInForce_15 : decode cX0_isInForce 15 = .ok (.invokevirtual 377, 3) := dk_182 1 121 (dk_at dksX0_isInForce_0 15 rfl rfl)
theorem dX0_isInForce_18 : decode cX0_isInForce 18 = .ok (.ireturn, 1) := dk_172 (dk_at dksX0_isInForce_0 18 rfl rfl)
abbrev cX0_fallen : ByteArray := prog_1_method_48_code
def yX0_fallen : MethodName := ⟨RX0, "fallen", "(I)I"⟩
def dkwX0_fallen_1 : List UInt8 := [172]
abbrev dktX0_fallen_1 : List UInt8 := dkwX0_fallen_1 ++ []
def dkwX0_fallen_0 : List UInt8 := [27, 3, 42, 180, 1, 127, 4, 100, 184, 0, 112, 153, 0, 12, 42, 180, 0, 88, 27, 46, 167, 0, 4, 2]
abbrev dktX0_fallen_0 : List UInt8 := dkwX0_fallen_0 ++ dktX0_fallen_1
theorem dksX0_fallen_0 : cX0_fallen.data.toList.drop 0 = dktX0_fallen_0 := by decide +kernel
theorem dksX0_fallen_1 : cX0_fallen.data.toList.drop 24 = dktX0_fallen_1 := dk_seg dksX0_fallen_0 24 rfl rfl
theorem dX0_fallen_0 : decode cX0_fallen 0 = .ok (.iload_n 1, 1) := dk_27 (dk_at dksX0_fallen_0 0 rfl rfl)
theorem dX0_fallen_1 : decode cX0_fallen 1 = .ok (.iconst 0, 1) := dk_3 (dk_at dksX0_fallen_0 1 rfl rfl)
theorem dX0_fallen_2 : decode cX0_fallen 2 = .ok (.aload_n 0, 1) := dk_42 (dk_at dksX0_fallen_0 2 rfl rfl)
theorem dX0_fallen_3 : decode cX0_fallen 3 = .ok (.getfield 383, 3) := dk_180 1 127 (dk_at dksX0_fallen_0 3 rfl rfl)
theorem dX0_fallen_6 : decode cX0_fallen 6 = .ok (.iconst 1, 1) := dk_4 (dk_at dksX0_fallen_0 6 rfl rfl)
theorem dX0_fallen_7 : decode cX0_fallen 7 = .ok (.isub, 1) := dk_100 (dk_at dksX0_fallen_0 7 rfl rfl)
theorem dX0_fallen_8 : decode cX0_fallen 8 = .ok (.invokestatic 112, 3) := dk_184 0 112 (dk_at dksX0_fallen_0 8 rfl rfl)
theorem dX0_fallen_11 : decode cX0_fallen 11 = .ok (.ifCond .eq 12, 3) := dk_153 0 12 (dk_at dksX0_fallen_0 11 rfl rfl)
theorem dX0_fallen_14 : decode cX0_fallen 14 = .ok (.aload_n 0, 1) := dk_42 (dk_at dksX0_fallen_0 14 rfl rfl)
theorem dX0_fallen_15 : decode cX0_fallen 15 = .ok (.getfield 88, 3) := dk_180 0 88 (dk_at dksX0_fallen_0 15 rfl rfl)
theorem dX0_fallen_18 : decode cX0_fallen 18 = .ok (.iload_n 1, 1) := dk_27 (dk_at dksX0_fallen_0 18 rfl rfl)
theorem dX0_fallen_19 : decode cX0_fallen 19 = .ok (.iaload, 1) := dk_46 (dk_at dksX0_fallen_0 19 rfl rfl)
theorem dX0_fallen_20 : decode cX0_fallen 20 = .ok (.goto 4, 3) := dk_167 0 4 (dk_at dksX0_fallen_0 20 rfl rfl)
theorem dX0_fallen_23 : decode cX0_fallen 23 = .ok (.iconst (-1), 1) := dk_2 (dk_at dksX0_fallen_0 23 rfl rfl)
theorem dX0_fallen_24 : decode cX0_fallen 24 = .ok (.ireturn, 1) := dk_172 (dk_at dksX0_fallen_1 0 rfl rfl)
abbrev cX0_force : ByteArray := prog_1_method_49_code
def yX0_force : MethodName := ⟨RX0, "force", "(III)I"⟩
def dkwX0_force_2 : List UInt8 := [167, 0, 4, 3, 172, 58, 4, 42, 25, 4, 182, 0, 108, 172]
abbrev dktX0_force_2 : List UInt8 := dkwX0_force_2 ++ []
def dkwX0_force_1 : List UInt8 := [153, 0, 7, 4, 167, 0, 4, 3, 5, 182, 0, 142, 42, 25, 4, 28, 29, 182, 1, 130, 153, 0, 7, 4]
abbrev dktX0_force_1 : List UInt8 := dkwX0_force_1 ++ dktX0_force_2
def dkwX0_force_0 : List UInt8 := [42, 182, 0, 139, 42, 27, 182, 1, 3, 58, 4, 42, 28, 184, 1, 65, 153, 0, 14, 29, 184, 1, 65]
abbrev dktX0_force_0 : List UInt8 := dkwX0_force_0 ++ dktX0_force_1
theorem dksX0_force_0 : cX0_force.data.toList.drop 0 = dktX0_force_0 := by decide +kernel
theorem dksX0_force_1 : cX0_force.data.toList.drop 23 = dktX0_force_1 := dk_seg dksX0_force_0 23 rfl rfl
theorem dksX0_force_2 : cX0_force.data.toList.drop 47 = dktX0_force_2 := dk_seg dksX0_force_1 24 rfl rfl
theorem dX0_force_0 : decode cX0_force 0 = .ok (.aload_n 0, 1) := dk_42 (dk_at dksX0_force_0 0 rfl rfl)
theorem dX0_force_1 : decode cX0_force 1 = .ok (.invokevirtual 139, 3) := dk_182 0 139 (dk_at dksX0_force_0 1 rfl rfl)
theorem dX0_force_4 : decode cX0_force 4 = .ok (.aload_n 0, 1) := dk_42 (dk_at dksX0_force_0 4 rfl rfl)
theorem dX0_force_5 : decode cX0_force 5 = .ok (.iload_n 1, 1) := dk_27 (dk_at dksX0_force_0 5 rfl rfl)
theorem dX0_force_6 : decode cX0_force 6 = .ok (.invokevirtual 259, 3) := dk_182 1 3 (dk_at dksX0_force_0 6 rfl rfl)
theorem dX0_force_9 : decode cX0_force 9 = .ok (.astore 4, 2) := dk_58 4 (dk_at dksX0_force_0 9 rfl rfl)
theorem dX0_force_11 : decode cX0_force 11 = .ok (.aload_n 0, 1) := dk_42 (dk_at dksX0_force_0 11 rfl rfl)
theorem dX0_force_12 : decode cX0_force 12 = .ok (.iload_n 2, 1) := dk_28 (dk_at dksX0_force_0 12 rfl rfl)
theorem dX0_force_13 : decode cX0_force 13 = .ok (.invokestatic 321, 3) := dk_184 1 65 (dk_at dksX0_force_0 13 rfl rfl)
theorem dX0_force_16 : decode cX0_force 16 = .ok (.ifCond .eq 14, 3) := dk_153 0 14 (dk_at dksX0_force_0 16 rfl rfl)
theorem dX0_force_19 : decode cX0_force 19 = .ok (.iload_n 3, 1) := dk_29 (dk_at dksX0_force_0 19 rfl rfl)
theorem dX0_force_20 : decode cX0_force 20 = .ok (.invokestatic 321, 3) := dk_184 1 65 (dk_at dksX0_force_0 20 rfl rfl)
theorem dX0_force_23 : decode cX0_force 23 = .ok (.ifCond .eq 7, 3) := dk_153 0 7 (dk_at dksX0_force_1 0 rfl rfl)
theorem dX0_force_26 : decode cX0_force 26 = .ok (.iconst 1, 1) := dk_4 (dk_at dksX0_force_1 3 rfl rfl)
theorem dX0_force_27 : decode cX0_force 27 = .ok (.goto 4, 3) := dk_167 0 4 (dk_at dksX0_force_1 4 rfl rfl)
theorem dX0_force_30 : decode cX0_force 30 = .ok (.iconst 0, 1) := dk_3 (dk_at dksX0_force_1 7 rfl rfl)
theorem dX0_force_31 : decode cX0_force 31 = .ok (.iconst 2, 1) := dk_5 (dk_at dksX0_force_1 8 rfl rfl)
theorem dX0_force_32 : decode cX0_force 32 = .ok (.invokevirtual 142, 3) := dk_182 0 142 (dk_at dksX0_force_1 9 rfl rfl)
theorem dX0_force_35 : decode cX0_force 35 = .ok (.aload_n 0, 1) := dk_42 (dk_at dksX0_force_1 12 rfl rfl)
theorem dX0_force_36 : decode cX0_force 36 = .ok (.aload 4, 2) := dk_25 4 (dk_at dksX0_force_1 13 rfl rfl)
theorem dX0_force_38 : decode cX0_force 38 = .ok (.iload_n 2, 1) := dk_28 (dk_at dksX0_force_1 15 rfl rfl)
theorem dX0_force_39 : decode cX0_force 39 = .ok (.iload_n 3, 1) := dk_29 (dk_at dksX0_force_1 16 rfl rfl)
theorem dX0_force_40 : decode cX0_force 40 = .ok (.invokevirtual 386, 3) := dk_182 1 130 (dk_at dksX0_force_1 17 rfl rfl)
theorem dX0_force_43 : decode cX0_force 43 = .ok (.ifCond .eq 7, 3) := dk_153 0 7 (dk_at dksX0_force_1 20 rfl rfl)
theorem dX0_force_46 : decode cX0_force 46 = .ok (.iconst 1, 1) := dk_4 (dk_at dksX0_force_1 23 rfl rfl)
theorem dX0_force_47 : decode cX0_force 47 = .ok (.goto 4, 3) := dk_167 0 4 (dk_at dksX0_force_2 0 rfl rfl)
theorem dX0_force_50 : decode cX0_force 50 = .ok (.iconst 0, 1) := dk_3 (dk_at dksX0_force_2 3 rfl rfl)
theorem dX0_force_51 : decode cX0_force 51 = .ok (.ireturn, 1) := dk_172 (dk_at dksX0_force_2 4 rfl rfl)
theorem dX0_force_52 : decode cX0_force 52 = .ok (.astore 4, 2) := dk_58 4 (dk_at dksX0_force_2 5 rfl rfl)
theorem dX0_force_54 : decode cX0_force 54 = .ok (.aload_n 0, 1) := dk_42 (dk_at dksX0_force_2 7 rfl rfl)
theorem dX0_force_55 : decode cX0_force 55 = .ok (.aload 4, 2) := dk_25 4 (dk_at dksX0_force_2 8 rfl rfl)
theorem dX0_force_57 : decode cX0_force 57 = .ok (.invokevirtual 108, 3) := dk_182 0 108 (dk_at dksX0_force_2 10 rfl rfl)
theorem dX0_force_60 : decode cX0_force 60 = .ok (.ireturn, 1) := dk_172 (dk_at dksX0_force_2 13 rfl rfl)
abbrev cX0_undo : ByteArray := prog_1_method_50_code
def yX0_undo : MethodName := ⟨RX0, "undo", "()I"⟩
def dkwX0_undo_1 : List UInt8 := [180, 0, 116, 50, 182, 1, 133, 4, 172]
abbrev dktX0_undo_1 : List UInt8 := dkwX0_undo_1 ++ []
def dkwX0_undo_0 : List UInt8 := [42, 180, 0, 116, 154, 0, 5, 3, 172, 42, 89, 180, 0, 116, 4, 100, 181, 0, 116, 42, 180, 0, 67, 42]
abbrev dktX0_undo_0 : List UInt8 := dkwX0_undo_0 ++ dktX0_undo_1
theorem dksX0_undo_0 : cX0_undo.data.toList.drop 0 = dktX0_undo_0 := by decide +kernel
theorem dksX0_undo_1 : cX0_undo.data.toList.drop 24 = dktX0_undo_1 := dk_seg dksX0_undo_0 24 rfl rfl
theorem dX0_undo_0 : decode cX0_undo 0 = .ok (.aload_n 0, 1) := dk_42 (dk_at dksX0_undo_0 0 rfl rfl)
theorem dX0_undo_1 : decode cX0_undo 1 = .ok (.getfield 116, 3) := dk_180 0 116 (dk_at dksX0_undo_0 1 rfl rfl)
theorem dX0_undo_4 : decode cX0_undo 4 = .ok (.ifCond .ne 5, 3) := dk_154 0 5 (dk_at dksX0_undo_0 4 rfl rfl)
theorem dX0_undo_7 : decode cX0_undo 7 = .ok (.iconst 0, 1) := dk_3 (dk_at dksX0_undo_0 7 rfl rfl)
theorem dX0_undo_8 : decode cX0_undo 8 = .ok (.ireturn, 1) := dk_172 (dk_at dksX0_undo_0 8 rfl rfl)
theorem dX0_undo_9 : decode cX0_undo 9 = .ok (.aload_n 0, 1) := dk_42 (dk_at dksX0_undo_0 9 rfl rfl)
theorem dX0_undo_10 : decode cX0_undo 10 = .ok (.dup, 1) := dk_89 (dk_at dksX0_undo_0 10 rfl rfl)
theorem dX0_undo_11 : decode cX0_undo 11 = .ok (.getfield 116, 3) := dk_180 0 116 (dk_at dksX0_undo_0 11 rfl rfl)
theorem dX0_undo_14 : decode cX0_undo 14 = .ok (.iconst 1, 1) := dk_4 (dk_at dksX0_undo_0 14 rfl rfl)
theorem dX0_undo_15 : decode cX0_undo 15 = .ok (.isub, 1) := dk_100 (dk_at dksX0_undo_0 15 rfl rfl)
theorem dX0_undo_16 : decode cX0_undo 16 = .ok (.putfield 116, 3) := dk_181 0 116 (dk_at dksX0_undo_0 16 rfl rfl)
theorem dX0_undo_19 : decode cX0_undo 19 = .ok (.aload_n 0, 1) := dk_42 (dk_at dksX0_undo_0 19 rfl rfl)
theorem dX0_undo_20 : decode cX0_undo 20 = .ok (.getfield 67, 3) := dk_180 0 67 (dk_at dksX0_undo_0 20 rfl rfl)
theorem dX0_undo_23 : decode cX0_undo 23 = .ok (.aload_n 0, 1) := dk_42 (dk_at dksX0_undo_0 23 rfl rfl)
theorem dX0_undo_24 : decode cX0_undo 24 = .ok (.getfield 116, 3) := dk_180 0 116 (dk_at dksX0_undo_1 0 rfl rfl)
theorem dX0_undo_27 : decode cX0_undo 27 = .ok (.aaload, 1) := dk_50 (dk_at dksX0_undo_1 3 rfl rfl)
theorem dX0_undo_28 : decode cX0_undo 28 = .ok (.invokevirtual 389, 3) := dk_182 1 133 (dk_at dksX0_undo_1 4 rfl rfl)
theorem dX0_undo_31 : decode cX0_undo 31 = .ok (.iconst 1, 1) := dk_4 (dk_at dksX0_undo_1 7 rfl rfl)
theorem dX0_undo_32 : decode cX0_undo 32 = .ok (.ireturn, 1) := dk_172 (dk_at dksX0_undo_1 8 rfl rfl)
abbrev cX0_count : ByteArray := prog_1_method_51_code
def yX0_count : MethodName := ⟨RX0, "count", "(I)I"⟩
def dkwX0_count_3 : List UInt8 := [172, 42, 180, 0, 165, 172, 42, 180, 0, 116, 172, 42, 180, 0, 125, 172, 2, 172]
abbrev dktX0_count_3 : List UInt8 := dkwX0_count_3 ++ []
def dkwX0_count_2 : List UInt8 := [42, 180, 0, 132, 172, 42, 180, 0, 184, 172, 42, 180, 0, 202, 172, 42, 180, 0, 193, 172, 42, 180, 0, 226]
abbrev dktX0_count_2 : List UInt8 := dkwX0_count_2 ++ dktX0_count_3
def dkwX0_count_1 : List UInt8 := [170, 0, 0, 0, 0, 0, 87, 0, 0, 0, 0, 0, 0, 0, 7, 0, 0, 0, 47, 0, 0, 0, 52, 0, 0, 0, 57, 0, 0, 0, 62, 0, 0, 0, 67, 0, 0, 0, 72, 0, 0, 0, 77, 0, 0, 0, 82]
abbrev dktX0_count_1 : List UInt8 := dkwX0_count_1 ++ dktX0_count_2
def dkwX0_count_0 : List UInt8 := [27]
abbrev dktX0_count_0 : List UInt8 := dkwX0_count_0 ++ dktX0_count_1
theorem dksX0_count_0 : cX0_count.data.toList.drop 0 = dktX0_count_0 := by decide +kernel
theorem dksX0_count_1 : cX0_count.data.toList.drop 1 = dktX0_count_1 := dk_seg dksX0_count_0 1 rfl rfl
theorem dksX0_count_2 : cX0_count.data.toList.drop 48 = dktX0_count_2 := dk_seg dksX0_count_1 47 rfl rfl
theorem dksX0_count_3 : cX0_count.data.toList.drop 72 = dktX0_count_3 := dk_seg dksX0_count_2 24 rfl rfl
theorem dX0_count_0 : decode cX0_count 0 = .ok (.iload_n 1, 1) := dk_27 (dk_at dksX0_count_0 0 rfl rfl)
theorem dX0_count_1 : decode cX0_count 1 = .ok (.tableswitch 87 0 7 #[47, 52, 57, 62, 67, 72, 77, 82], 47) := by decide +kernel
theorem dX0_count_48 : decode cX0_count 48 = .ok (.aload_n 0, 1) := dk_42 (dk_at dksX0_count_2 0 rfl rfl)
theorem dX0_count_49 : decode cX0_count 49 = .ok (.getfield 132, 3) := dk_180 0 132 (dk_at dksX0_count_2 1 rfl rfl)
theorem dX0_count_52 : decode cX0_count 52 = .ok (.ireturn, 1) := dk_172 (dk_at dksX0_count_2 4 rfl rfl)
theorem dX0_count_53 : decode cX0_count 53 = .ok (.aload_n 0, 1) := dk_42 (dk_at dksX0_count_2 5 rfl rfl)
theorem dX0_count_54 : decode cX0_count 54 = .ok (.getfield 184, 3) := dk_180 0 184 (dk_at dksX0_count_2 6 rfl rfl)
theorem dX0_count_57 : decode cX0_count 57 = .ok (.ireturn, 1) := dk_172 (dk_at dksX0_count_2 9 rfl rfl)
theorem dX0_count_58 : decode cX0_count 58 = .ok (.aload_n 0, 1) := dk_42 (dk_at dksX0_count_2 10 rfl rfl)
theorem dX0_count_59 : decode cX0_count 59 = .ok (.getfield 202, 3) := dk_180 0 202 (dk_at dksX0_count_2 11 rfl rfl)
theorem dX0_count_62 : decode cX0_count 62 = .ok (.ireturn, 1) := dk_172 (dk_at dksX0_count_2 14 rfl rfl)
theorem dX0_count_63 : decode cX0_count 63 = .ok (.aload_n 0, 1) := dk_42 (dk_at dksX0_count_2 15 rfl rfl)
theorem dX0_count_64 : decode cX0_count 64 = .ok (.getfield 193, 3) := dk_180 0 193 (dk_at dksX0_count_2 16 rfl rfl)
theorem dX0_count_67 : decode cX0_count 67 = .ok (.ireturn, 1) := dk_172 (dk_at dksX0_count_2 19 rfl rfl)
theorem dX0_count_68 : decode cX0_count 68 = .ok (.aload_n 0, 1) := dk_42 (dk_at dksX0_count_2 20 rfl rfl)
theorem dX0_count_69 : decode cX0_count 69 = .ok (.getfield 226, 3) := dk_180 0 226 (dk_at dksX0_count_2 21 rfl rfl)
theorem dX0_count_72 : decode cX0_count 72 = .ok (.ireturn, 1) := dk_172 (dk_at dksX0_count_3 0 rfl rfl)
theorem dX0_count_73 : decode cX0_count 73 = .ok (.aload_n 0, 1) := dk_42 (dk_at dksX0_count_3 1 rfl rfl)
theorem dX0_count_74 : decode cX0_count 74 = .ok (.getfield 165, 3) := dk_180 0 165 (dk_at dksX0_count_3 2 rfl rfl)
theorem dX0_count_77 : decode cX0_count 77 = .ok (.ireturn, 1) := dk_172 (dk_at dksX0_count_3 5 rfl rfl)
theorem dX0_count_78 : decode cX0_count 78 = .ok (.aload_n 0, 1) := dk_42 (dk_at dksX0_count_3 6 rfl rfl)
theorem dX0_count_79 : decode cX0_count 79 = .ok (.getfield 116, 3) := dk_180 0 116 (dk_at dksX0_count_3 7 rfl rfl)
theorem dX0_count_82 : decode cX0_count 82 = .ok (.ireturn, 1) := dk_172 (dk_at dksX0_count_3 10 rfl rfl)
theorem dX0_count_83 : decode cX0_count 83 = .ok (.aload_n 0, 1) := dk_42 (dk_at dksX0_count_3 11 rfl rfl)
theorem dX0_count_84 : decode cX0_count 84 = .ok (.getfield 125, 3) := dk_180 0 125 (dk_at dksX0_count_3 12 rfl rfl)
theorem dX0_count_87 : decode cX0_count 87 = .ok (.ireturn, 1) := dk_172 (dk_at dksX0_count_3 15 rfl rfl)
theorem dX0_count_88 : decode cX0_count 88 = .ok (.iconst (-1), 1) := dk_2 (dk_at dksX0_count_3 16 rfl rfl)
theorem dX0_count_89 : decode cX0_count 89 = .ok (.ireturn, 1) := dk_172 (dk_at dksX0_count_3 17 rfl rfl)
abbrev cX0_trouble : ByteArray := prog_1_method_52_code
def yX0_trouble : MethodName := ⟨RX0, "trouble", "()I"⟩
theorem dX0_trouble_0 : decode cX0_trouble 0 = .ok (.aload_n 0, 1) := by decide +kernel
theorem dX0_trouble_1 : decode cX0_trouble 1 = .ok (.getfield 91, 3) := by decide +kernel
theorem dX0_trouble_4 : decode cX0_trouble 4 = .ok (.ireturn, 1) := by decide +kernel
theorem q59 : (Jvm.Cond.initialized "PatentHall") ∈ lw_all := lw_g (lw_at lw_m1 1 rfl) rfl
theorem q92 : (Jvm.Cond.instantiable "PatentHall" (27 : Nat)) ∈ lw_all := lw_g (lw_at lw_m1 34 rfl) rfl
theorem q94 : (Jvm.Cond.instanceMethod ({ cls := "PatentHall", name := "<init>", desc := "()V" } : Jvm.MethodName)) ∈ lw_all := lw_g (lw_at lw_m1 36 rfl) rfl
theorem q95 : (Jvm.Cond.code ({ cls := "PatentHall", name := "<init>", desc := "()V" } : Jvm.MethodName) prog_1_method_1_code (1 : Nat) (Option.none : Option Jvm.ClassFile.FieldType)) ∈ lw_all := lw_g (lw_at lw_m1 37 rfl) rfl
theorem q96 : (Jvm.Cond.methodLink "PatentHall" (1 : Nat) ({ cls := "java/lang/Object", name := "<init>", desc := "()V" } : Jvm.MethodName)) ∈ lw_all := lw_g (lw_at lw_m1 38 rfl) rfl
theorem q99 : (Jvm.Cond.classLink "PatentHall" (13 : Nat) "PatentHall$Reader") ∈ lw_all := lw_g (lw_at lw_m1 41 rfl) rfl
theorem q101 : (Jvm.Cond.methodLink "PatentHall" (15 : Nat) ({ cls := "PatentHall$Reader", name := "<init>", desc := "([B)V" } : Jvm.MethodName)) ∈ lw_all := lw_g (lw_at lw_m1 43 rfl) rfl
theorem q158 : (Jvm.Cond.fieldLink "PatentHall" (98 : Nat) "PatentHall$Refused" "why" "I") ∈ lw_all := lw_g (lw_at lw_m1 100 rfl) rfl
theorem q160 : (Jvm.Cond.fieldLink "PatentHall" (104 : Nat) "PatentHall$Refused" "fault" "I") ∈ lw_all := lw_g (lw_at lw_m1 102 rfl) rfl
theorem q162 : (Jvm.Cond.fieldLink "PatentHall" (101 : Nat) "PatentHall$Refused" "place" "I") ∈ lw_all := lw_g (lw_at lw_m1 104 rfl) rfl
theorem q209 : (Jvm.Cond.classLink "PatentHall" (22 : Nat) "PatentHall$Finder") ∈ lw_all := lw_g (lw_at lw_m1 151 rfl) rfl
theorem q211 : (Jvm.Cond.methodLinkNest "PatentHall" (24 : Nat) ({ cls := "PatentHall$Finder", name := "<init>", desc := "(LPatentHall;)V" } : Jvm.MethodName) "PatentHall") ∈ lw_tbl := lw_at lw_m1 153 rfl
theorem q220 : (Jvm.Cond.fieldLinkNest "PatentHall" (318 : Nat) "PatentHall$Finder" "first" "[I" "PatentHall") ∈ lw_tbl := lw_at lw_m1 162 rfl
theorem q245 : (Jvm.Cond.classLink "PatentHall" (31 : Nat) "java/lang/String") ∈ lw_all := lw_g (lw_at lw_m1 187 rfl) rfl
theorem q247 : (Jvm.Cond.classLink "PatentHall" (41 : Nat) "PatentHall$Paper") ∈ lw_all := lw_g (lw_at lw_m1 189 rfl) rfl
theorem q249 : (Jvm.Cond.classLink "PatentHall" (47 : Nat) "PatentHall$Filing") ∈ lw_all := lw_g (lw_at lw_m1 191 rfl) rfl
theorem q251 : (Jvm.Cond.classLink "PatentHall" (53 : Nat) "PatentHall$Told") ∈ lw_all := lw_g (lw_at lw_m1 193 rfl) rfl
theorem q253 : (Jvm.Cond.classLink "PatentHall" (59 : Nat) "PatentHall$Claim") ∈ lw_all := lw_g (lw_at lw_m1 195 rfl) rfl
theorem q255 : (Jvm.Cond.classLink "PatentHall" (65 : Nat) "PatentHall$Act") ∈ lw_all := lw_g (lw_at lw_m1 197 rfl) rfl
theorem q257 : (Jvm.Cond.classLink "PatentHall" (75 : Nat) "PatentHall$Refused") ∈ lw_all := lw_g (lw_at lw_m1 199 rfl) rfl
theorem q258 : (Jvm.Cond.methodLink "PatentHall" (77 : Nat) ({ cls := "PatentHall$Refused", name := "<init>", desc := "()V" } : Jvm.MethodName)) ∈ lw_all := lw_g (lw_at lw_m1 200 rfl) rfl
theorem q259 : (Jvm.Cond.fieldLink "PatentHall" (9 : Nat) "PatentHall" "tape" "[B") ∈ lw_all := lw_g (lw_at lw_m1 201 rfl) rfl
theorem q260 : (Jvm.Cond.fieldLink "PatentHall" (125 : Nat) "PatentHall" "taped" "I") ∈ lw_all := lw_g (lw_at lw_m1 202 rfl) rfl
theorem q261 : (Jvm.Cond.fieldLink "PatentHall" (18 : Nat) "PatentHall" "reader" "LPatentHall$Reader;") ∈ lw_all := lw_g (lw_at lw_m1 203 rfl) rfl
theorem q262 : (Jvm.Cond.fieldLink "PatentHall" (27 : Nat) "PatentHall" "finder" "LPatentHall$Finder;") ∈ lw_all := lw_g (lw_at lw_m1 204 rfl) rfl
theorem q263 : (Jvm.Cond.fieldLink "PatentHall" (33 : Nat) "PatentHall" "words" "[Ljava/lang/String;") ∈ lw_all := lw_g (lw_at lw_m1 205 rfl) rfl
theorem q264 : (Jvm.Cond.fieldLink "PatentHall" (37 : Nat) "PatentHall" "wider" "[I") ∈ lw_all := lw_g (lw_at lw_m1 206 rfl) rfl
theorem q265 : (Jvm.Cond.fieldLink "PatentHall" (43 : Nat) "PatentHall" "papers" "[LPatentHall$Paper;") ∈ lw_all := lw_g (lw_at lw_m1 207 rfl) rfl
theorem q266 : (Jvm.Cond.fieldLink "PatentHall" (49 : Nat) "PatentHall" "files" "[LPatentHall$Filing;") ∈ lw_all := lw_g (lw_at lw_m1 208 rfl) rfl
theorem q267 : (Jvm.Cond.fieldLink "PatentHall" (55 : Nat) "PatentHall" "things" "[LPatentHall$Told;") ∈ lw_all := lw_g (lw_at lw_m1 209 rfl) rfl
theorem q268 : (Jvm.Cond.fieldLink "PatentHall" (61 : Nat) "PatentHall" "claims" "[LPatentHall$Claim;") ∈ lw_all := lw_g (lw_at lw_m1 210 rfl) rfl
theorem q270 : (Jvm.Cond.fieldLink "PatentHall" (132 : Nat) "PatentHall" "wordMany" "I") ∈ lw_all := lw_g (lw_at lw_m1 212 rfl) rfl
theorem q272 : (Jvm.Cond.fieldLink "PatentHall" (184 : Nat) "PatentHall" "paperMany" "I") ∈ lw_all := lw_g (lw_at lw_m1 214 rfl) rfl
theorem q274 : (Jvm.Cond.fieldLink "PatentHall" (202 : Nat) "PatentHall" "fileMany" "I") ∈ lw_all := lw_g (lw_at lw_m1 216 rfl) rfl
theorem q276 : (Jvm.Cond.fieldLink "PatentHall" (193 : Nat) "PatentHall" "thingMany" "I") ∈ lw_all := lw_g (lw_at lw_m1 218 rfl) rfl
theorem q278 : (Jvm.Cond.fieldLink "PatentHall" (226 : Nat) "PatentHall" "claimMany" "I") ∈ lw_all := lw_g (lw_at lw_m1 220 rfl) rfl
theorem q280 : (Jvm.Cond.fieldLink "PatentHall" (165 : Nat) "PatentHall" "now" "I") ∈ lw_all := lw_g (lw_at lw_m1 222 rfl) rfl
theorem q281 : (Jvm.Cond.fieldLink "PatentHall" (67 : Nat) "PatentHall" "acts" "[LPatentHall$Act;") ∈ lw_all := lw_g (lw_at lw_m1 223 rfl) rfl
theorem q282 : (Jvm.Cond.fieldLink "PatentHall" (116 : Nat) "PatentHall" "actMany" "I") ∈ lw_all := lw_g (lw_at lw_m1 224 rfl) rfl
theorem q283 : (Jvm.Cond.fieldLink "PatentHall" (91 : Nat) "PatentHall" "trouble" "I") ∈ lw_all := lw_g (lw_at lw_m1 225 rfl) rfl
theorem q284 : (Jvm.Cond.fieldLink "PatentHall" (107 : Nat) "PatentHall" "fault" "I") ∈ lw_all := lw_g (lw_at lw_m1 226 rfl) rfl
theorem q285 : (Jvm.Cond.fieldLink "PatentHall" (71 : Nat) "PatentHall" "where" "I") ∈ lw_all := lw_g (lw_at lw_m1 227 rfl) rfl
theorem q286 : (Jvm.Cond.fieldLink "PatentHall" (78 : Nat) "PatentHall" "refused" "LPatentHall$Refused;") ∈ lw_all := lw_g (lw_at lw_m1 228 rfl) rfl
theorem q287 : (Jvm.Cond.fieldLink "PatentHall" (82 : Nat) "PatentHall" "way" "[I") ∈ lw_all := lw_g (lw_at lw_m1 229 rfl) rfl
theorem q288 : (Jvm.Cond.fieldLink "PatentHall" (315 : Nat) "PatentHall" "wayParts" "I") ∈ lw_all := lw_g (lw_at lw_m1 230 rfl) rfl
theorem q289 : (Jvm.Cond.fieldLink "PatentHall" (85 : Nat) "PatentHall" "leftBits" "I") ∈ lw_all := lw_g (lw_at lw_m1 231 rfl) rfl
theorem q290 : (Jvm.Cond.fieldLink "PatentHall" (88 : Nat) "PatentHall" "fallen" "[I") ∈ lw_all := lw_g (lw_at lw_m1 232 rfl) rfl
theorem q291 : (Jvm.Cond.fieldLink "PatentHall" (383 : Nat) "PatentHall" "fallenMany" "I") ∈ lw_all := lw_g (lw_at lw_m1 233 rfl) rfl
theorem q292 : (Jvm.Cond.laysFinal "PatentHall" "PatentHall" "tape" "[B") ∈ lw_all := lw_g (lw_at lw_m1 234 rfl) rfl
theorem q293 : (Jvm.Cond.soleField "PatentHall" "tape") ∈ lw_all := lw_g (lw_at lw_m1 235 rfl) rfl
theorem q294 : (Jvm.Cond.lays "PatentHall" "PatentHall" "taped" "I") ∈ lw_all := lw_g (lw_at lw_m1 236 rfl) rfl
theorem q295 : (Jvm.Cond.soleField "PatentHall" "taped") ∈ lw_all := lw_g (lw_at lw_m1 237 rfl) rfl
theorem q296 : (Jvm.Cond.laysFinal "PatentHall" "PatentHall" "reader" "LPatentHall$Reader;") ∈ lw_all := lw_g (lw_at lw_m1 238 rfl) rfl
theorem q297 : (Jvm.Cond.soleField "PatentHall" "reader") ∈ lw_all := lw_g (lw_at lw_m1 239 rfl) rfl
theorem q298 : (Jvm.Cond.laysFinal "PatentHall" "PatentHall" "finder" "LPatentHall$Finder;") ∈ lw_all := lw_g (lw_at lw_m2 0 rfl) rfl
theorem q299 : (Jvm.Cond.soleField "PatentHall" "finder") ∈ lw_all := lw_g (lw_at lw_m2 1 rfl) rfl
theorem q300 : (Jvm.Cond.laysFinal "PatentHall" "PatentHall" "words" "[Ljava/lang/String;") ∈ lw_all := lw_g (lw_at lw_m2 2 rfl) rfl
theorem q301 : (Jvm.Cond.soleField "PatentHall" "words") ∈ lw_all := lw_g (lw_at lw_m2 3 rfl) rfl
theorem q302 : (Jvm.Cond.laysFinal "PatentHall" "PatentHall" "wider" "[I") ∈ lw_all := lw_g (lw_at lw_m2 4 rfl) rfl
theorem q303 : (Jvm.Cond.soleField "PatentHall" "wider") ∈ lw_all := lw_g (lw_at lw_m2 5 rfl) rfl
theorem q304 : (Jvm.Cond.laysFinal "PatentHall" "PatentHall" "papers" "[LPatentHall$Paper;") ∈ lw_all := lw_g (lw_at lw_m2 6 rfl) rfl
theorem q305 : (Jvm.Cond.soleField "PatentHall" "papers") ∈ lw_all := lw_g (lw_at lw_m2 7 rfl) rfl
theorem q306 : (Jvm.Cond.laysFinal "PatentHall" "PatentHall" "files" "[LPatentHall$Filing;") ∈ lw_all := lw_g (lw_at lw_m2 8 rfl) rfl
theorem q307 : (Jvm.Cond.soleField "PatentHall" "files") ∈ lw_all := lw_g (lw_at lw_m2 9 rfl) rfl
theorem q308 : (Jvm.Cond.laysFinal "PatentHall" "PatentHall" "things" "[LPatentHall$Told;") ∈ lw_all := lw_g (lw_at lw_m2 10 rfl) rfl
theorem q309 : (Jvm.Cond.soleField "PatentHall" "things") ∈ lw_all := lw_g (lw_at lw_m2 11 rfl) rfl
theorem q310 : (Jvm.Cond.laysFinal "PatentHall" "PatentHall" "claims" "[LPatentHall$Claim;") ∈ lw_all := lw_g (lw_at lw_m2 12 rfl) rfl
theorem q311 : (Jvm.Cond.soleField "PatentHall" "claims") ∈ lw_all := lw_g (lw_at lw_m2 13 rfl) rfl
theorem q312 : (Jvm.Cond.lays "PatentHall" "PatentHall" "wordMany" "I") ∈ lw_all := lw_g (lw_at lw_m2 14 rfl) rfl
theorem q313 : (Jvm.Cond.soleField "PatentHall" "wordMany") ∈ lw_all := lw_g (lw_at lw_m2 15 rfl) rfl
theorem q314 : (Jvm.Cond.lays "PatentHall" "PatentHall" "paperMany" "I") ∈ lw_all := lw_g (lw_at lw_m2 16 rfl) rfl
theorem q315 : (Jvm.Cond.soleField "PatentHall" "paperMany") ∈ lw_all := lw_g (lw_at lw_m2 17 rfl) rfl
theorem q316 : (Jvm.Cond.lays "PatentHall" "PatentHall" "fileMany" "I") ∈ lw_all := lw_g (lw_at lw_m2 18 rfl) rfl
theorem q317 : (Jvm.Cond.soleField "PatentHall" "fileMany") ∈ lw_all := lw_g (lw_at lw_m2 19 rfl) rfl
theorem q318 : (Jvm.Cond.lays "PatentHall" "PatentHall" "thingMany" "I") ∈ lw_all := lw_g (lw_at lw_m2 20 rfl) rfl
theorem q319 : (Jvm.Cond.soleField "PatentHall" "thingMany") ∈ lw_all := lw_g (lw_at lw_m2 21 rfl) rfl
theorem q320 : (Jvm.Cond.lays "PatentHall" "PatentHall" "claimMany" "I") ∈ lw_all := lw_g (lw_at lw_m2 22 rfl) rfl
theorem q321 : (Jvm.Cond.soleField "PatentHall" "claimMany") ∈ lw_all := lw_g (lw_at lw_m2 23 rfl) rfl
theorem q322 : (Jvm.Cond.lays "PatentHall" "PatentHall" "now" "I") ∈ lw_all := lw_g (lw_at lw_m2 24 rfl) rfl
theorem q323 : (Jvm.Cond.soleField "PatentHall" "now") ∈ lw_all := lw_g (lw_at lw_m2 25 rfl) rfl
theorem q324 : (Jvm.Cond.laysFinal "PatentHall" "PatentHall" "acts" "[LPatentHall$Act;") ∈ lw_all := lw_g (lw_at lw_m2 26 rfl) rfl
theorem q325 : (Jvm.Cond.soleField "PatentHall" "acts") ∈ lw_all := lw_g (lw_at lw_m2 27 rfl) rfl
theorem q326 : (Jvm.Cond.lays "PatentHall" "PatentHall" "actMany" "I") ∈ lw_all := lw_g (lw_at lw_m2 28 rfl) rfl
theorem q327 : (Jvm.Cond.soleField "PatentHall" "actMany") ∈ lw_all := lw_g (lw_at lw_m2 29 rfl) rfl
theorem q328 : (Jvm.Cond.lays "PatentHall" "PatentHall" "trouble" "I") ∈ lw_all := lw_g (lw_at lw_m2 30 rfl) rfl
theorem q329 : (Jvm.Cond.soleField "PatentHall" "trouble") ∈ lw_all := lw_g (lw_at lw_m2 31 rfl) rfl
theorem q330 : (Jvm.Cond.lays "PatentHall" "PatentHall" "fault" "I") ∈ lw_all := lw_g (lw_at lw_m2 32 rfl) rfl
theorem q331 : (Jvm.Cond.soleField "PatentHall" "fault") ∈ lw_all := lw_g (lw_at lw_m2 33 rfl) rfl
theorem q332 : (Jvm.Cond.lays "PatentHall" "PatentHall" "where" "I") ∈ lw_all := lw_g (lw_at lw_m2 34 rfl) rfl
theorem q333 : (Jvm.Cond.soleField "PatentHall" "where") ∈ lw_all := lw_g (lw_at lw_m2 35 rfl) rfl
theorem q334 : (Jvm.Cond.laysFinal "PatentHall" "PatentHall" "refused" "LPatentHall$Refused;") ∈ lw_all := lw_g (lw_at lw_m2 36 rfl) rfl
theorem q335 : (Jvm.Cond.soleField "PatentHall" "refused") ∈ lw_all := lw_g (lw_at lw_m2 37 rfl) rfl
theorem q336 : (Jvm.Cond.laysFinal "PatentHall" "PatentHall" "way" "[I") ∈ lw_all := lw_g (lw_at lw_m2 38 rfl) rfl
theorem q337 : (Jvm.Cond.soleField "PatentHall" "way") ∈ lw_all := lw_g (lw_at lw_m2 39 rfl) rfl
theorem q338 : (Jvm.Cond.lays "PatentHall" "PatentHall" "wayParts" "I") ∈ lw_all := lw_g (lw_at lw_m2 40 rfl) rfl
theorem q339 : (Jvm.Cond.soleField "PatentHall" "wayParts") ∈ lw_all := lw_g (lw_at lw_m2 41 rfl) rfl
theorem q340 : (Jvm.Cond.lays "PatentHall" "PatentHall" "leftBits" "I") ∈ lw_all := lw_g (lw_at lw_m2 42 rfl) rfl
theorem q341 : (Jvm.Cond.soleField "PatentHall" "leftBits") ∈ lw_all := lw_g (lw_at lw_m2 43 rfl) rfl
theorem q342 : (Jvm.Cond.laysFinal "PatentHall" "PatentHall" "fallen" "[I") ∈ lw_all := lw_g (lw_at lw_m2 44 rfl) rfl
theorem q343 : (Jvm.Cond.soleField "PatentHall" "fallen") ∈ lw_all := lw_g (lw_at lw_m2 45 rfl) rfl
theorem q344 : (Jvm.Cond.lays "PatentHall" "PatentHall" "fallenMany" "I") ∈ lw_all := lw_g (lw_at lw_m2 46 rfl) rfl
theorem q345 : (Jvm.Cond.soleField "PatentHall" "fallenMany") ∈ lw_all := lw_g (lw_at lw_m2 47 rfl) rfl
theorem q346 : (Jvm.Cond.superclass "PatentHall" "java/lang/Object") ∈ lw_all := lw_g (lw_at lw_m2 48 rfl) rfl
theorem q348 : (Jvm.Cond.instanceMethod ({ cls := "PatentHall", name := "feed", desc := "(IIIII)I" } : Jvm.MethodName)) ∈ lw_all := lw_g (lw_at lw_m2 50 rfl) rfl
theorem q349 : (Jvm.Cond.selects "PatentHall" ({ cls := "PatentHall", name := "feed", desc := "(IIIII)I" } : Jvm.MethodName) ({ cls := "PatentHall", name := "feed", desc := "(IIIII)I" } : Jvm.MethodName)) ∈ lw_all := lw_g (lw_at lw_m2 51 rfl) rfl
theorem q350 : (Jvm.Cond.code ({ cls := "PatentHall", name := "feed", desc := "(IIIII)I" } : Jvm.MethodName) prog_1_method_9_code (6 : Nat) (Option.some Jvm.ClassFile.FieldType.int)) ∈ lw_all := lw_g (lw_at lw_m2 52 rfl) rfl
theorem q351 : (Jvm.Cond.methodLink "PatentHall" (128 : Nat) ({ cls := "PatentHall", name := "bytes", desc := "(I)V" } : Jvm.MethodName)) ∈ lw_all := lw_g (lw_at lw_m2 53 rfl) rfl
theorem q352 : (Jvm.Cond.privateMethod ({ cls := "PatentHall", name := "bytes", desc := "(I)V" } : Jvm.MethodName)) ∈ lw_tbl := lw_at lw_m2 54 rfl
theorem q353 : (Jvm.Cond.instanceMethod ({ cls := "PatentHall", name := "bytes", desc := "(I)V" } : Jvm.MethodName)) ∈ lw_all := lw_g (lw_at lw_m2 55 rfl) rfl
theorem q354 : (Jvm.Cond.code ({ cls := "PatentHall", name := "bytes", desc := "(I)V" } : Jvm.MethodName) prog_1_method_10_code (3 : Nat) (Option.none : Option Jvm.ClassFile.FieldType)) ∈ lw_all := lw_g (lw_at lw_m2 56 rfl) rfl
theorem q356 : (Jvm.Cond.instanceMethod ({ cls := "PatentHall", name := "word", desc := "(II)I" } : Jvm.MethodName)) ∈ lw_all := lw_g (lw_at lw_m2 58 rfl) rfl
theorem q357 : (Jvm.Cond.selects "PatentHall" ({ cls := "PatentHall", name := "word", desc := "(II)I" } : Jvm.MethodName) ({ cls := "PatentHall", name := "word", desc := "(II)I" } : Jvm.MethodName)) ∈ lw_all := lw_g (lw_at lw_m2 59 rfl) rfl
theorem q358 : (Jvm.Cond.codeWith ({ cls := "PatentHall", name := "word", desc := "(II)I" } : Jvm.MethodName) prog_1_method_13_code (4 : Nat) (Option.some Jvm.ClassFile.FieldType.int) [((4 : Nat), (110 : Nat), (113 : Nat), (75 : Nat))]) ∈ lw_all := lw_g (lw_at lw_m2 60 rfl) rfl
theorem q359 : (Jvm.Cond.methodLink "PatentHall" (139 : Nat) ({ cls := "PatentHall", name := "begins", desc := "()V" } : Jvm.MethodName)) ∈ lw_all := lw_g (lw_at lw_m2 61 rfl) rfl
theorem q360 : (Jvm.Cond.privateMethod ({ cls := "PatentHall", name := "begins", desc := "()V" } : Jvm.MethodName)) ∈ lw_tbl := lw_at lw_m2 62 rfl
theorem q361 : (Jvm.Cond.instanceMethod ({ cls := "PatentHall", name := "begins", desc := "()V" } : Jvm.MethodName)) ∈ lw_all := lw_g (lw_at lw_m2 63 rfl) rfl
theorem q362 : (Jvm.Cond.code ({ cls := "PatentHall", name := "begins", desc := "()V" } : Jvm.MethodName) prog_1_method_2_code (1 : Nat) (Option.none : Option Jvm.ClassFile.FieldType)) ∈ lw_all := lw_g (lw_at lw_m2 64 rfl) rfl
theorem q363 : (Jvm.Cond.methodLink "PatentHall" (112 : Nat) ({ cls := "PatentHall", name := "in", desc := "(III)Z" } : Jvm.MethodName)) ∈ lw_all := lw_g (lw_at lw_m2 65 rfl) rfl
theorem q364 : (Jvm.Cond.static ({ cls := "PatentHall", name := "in", desc := "(III)Z" } : Jvm.MethodName)) ∈ lw_all := lw_g (lw_at lw_m2 66 rfl) rfl
theorem q365 : (Jvm.Cond.code ({ cls := "PatentHall", name := "in", desc := "(III)Z" } : Jvm.MethodName) prog_1_method_6_code (3 : Nat) (Option.some Jvm.ClassFile.FieldType.boolean)) ∈ lw_all := lw_g (lw_at lw_m2 67 rfl) rfl
theorem q366 : (Jvm.Cond.methodLink "PatentHall" (142 : Nat) ({ cls := "PatentHall", name := "must", desc := "(ZI)V" } : Jvm.MethodName)) ∈ lw_all := lw_g (lw_at lw_m2 68 rfl) rfl
theorem q367 : (Jvm.Cond.privateMethod ({ cls := "PatentHall", name := "must", desc := "(ZI)V" } : Jvm.MethodName)) ∈ lw_tbl := lw_at lw_m2 69 rfl
theorem q368 : (Jvm.Cond.instanceMethod ({ cls := "PatentHall", name := "must", desc := "(ZI)V" } : Jvm.MethodName)) ∈ lw_all := lw_g (lw_at lw_m2 70 rfl) rfl
theorem q369 : (Jvm.Cond.code ({ cls := "PatentHall", name := "must", desc := "(ZI)V" } : Jvm.MethodName) prog_1_method_3_code (3 : Nat) (Option.none : Option Jvm.ClassFile.FieldType)) ∈ lw_all := lw_g (lw_at lw_m2 71 rfl) rfl
theorem q370 : (Jvm.Cond.methodLink "PatentHall" (94 : Nat) ({ cls := "PatentHall$Refused", name := "by", desc := "(I)LPatentHall$Refused;" } : Jvm.MethodName)) ∈ lw_all := lw_g (lw_at lw_m2 72 rfl) rfl
theorem q374 : (Jvm.Cond.methodLink "PatentHall" (146 : Nat) ({ cls := "PatentHall$Reader", name := "alone", desc := "(I)Ljava/lang/String;" } : Jvm.MethodName)) ∈ lw_all := lw_g (lw_at lw_m2 76 rfl) rfl
theorem q470 : (Jvm.Cond.methodLink "PatentHall" (150 : Nat) ({ cls := "PatentHall", name := "wordOf", desc := "(Ljava/lang/String;)I" } : Jvm.MethodName)) ∈ lw_all := lw_g (lw_at lw_m2 172 rfl) rfl
theorem q471 : (Jvm.Cond.privateMethod ({ cls := "PatentHall", name := "wordOf", desc := "(Ljava/lang/String;)I" } : Jvm.MethodName)) ∈ lw_tbl := lw_at lw_m2 173 rfl
theorem q472 : (Jvm.Cond.instanceMethod ({ cls := "PatentHall", name := "wordOf", desc := "(Ljava/lang/String;)I" } : Jvm.MethodName)) ∈ lw_all := lw_g (lw_at lw_m2 174 rfl) rfl
theorem q473 : (Jvm.Cond.code ({ cls := "PatentHall", name := "wordOf", desc := "(Ljava/lang/String;)I" } : Jvm.MethodName) prog_1_method_11_code (3 : Nat) (Option.some Jvm.ClassFile.FieldType.int)) ∈ lw_all := lw_g (lw_at lw_m2 175 rfl) rfl
theorem q474 : (Jvm.Cond.methodLink "PatentHall" (135 : Nat) ({ cls := "java/lang/String", name := "equals", desc := "(Ljava/lang/Object;)Z" } : Jvm.MethodName)) ∈ lw_all := lw_g (lw_at lw_m2 176 rfl) rfl
theorem q482 : (Jvm.Cond.methodLink "PatentHall" (108 : Nat) ({ cls := "PatentHall", name := "refuses", desc := "(LPatentHall$Refused;)I" } : Jvm.MethodName)) ∈ lw_all := lw_g (lw_at lw_m2 184 rfl) rfl
theorem q483 : (Jvm.Cond.privateMethod ({ cls := "PatentHall", name := "refuses", desc := "(LPatentHall$Refused;)I" } : Jvm.MethodName)) ∈ lw_tbl := lw_at lw_m2 185 rfl
theorem q484 : (Jvm.Cond.instanceMethod ({ cls := "PatentHall", name := "refuses", desc := "(LPatentHall$Refused;)I" } : Jvm.MethodName)) ∈ lw_all := lw_g (lw_at lw_m2 186 rfl) rfl
theorem q485 : (Jvm.Cond.code ({ cls := "PatentHall", name := "refuses", desc := "(LPatentHall$Refused;)I" } : Jvm.MethodName) prog_1_method_4_code (2 : Nat) (Option.some Jvm.ClassFile.FieldType.int)) ∈ lw_all := lw_g (lw_at lw_m2 187 rfl) rfl
theorem q486 : (Jvm.Cond.classLink "PatentHall" (154 : Nat) "PatentHall$1") ∈ lw_all := lw_g (lw_at lw_m2 188 rfl) rfl
theorem q488 : (Jvm.Cond.methodLink "PatentHall" (156 : Nat) ({ cls := "PatentHall$1", name := "<init>", desc := "(LPatentHall;)V" } : Jvm.MethodName)) ∈ lw_all := lw_g (lw_at lw_m2 190 rfl) rfl
theorem q499 : (Jvm.Cond.methodLink "PatentHall" (157 : Nat) ({ cls := "PatentHall", name := "did", desc := "(LPatentHall$Act;)V" } : Jvm.MethodName)) ∈ lw_all := lw_g (lw_at lw_m2 201 rfl) rfl
theorem q500 : (Jvm.Cond.privateMethod ({ cls := "PatentHall", name := "did", desc := "(LPatentHall$Act;)V" } : Jvm.MethodName)) ∈ lw_tbl := lw_at lw_m2 202 rfl
theorem q501 : (Jvm.Cond.instanceMethod ({ cls := "PatentHall", name := "did", desc := "(LPatentHall$Act;)V" } : Jvm.MethodName)) ∈ lw_all := lw_g (lw_at lw_m2 203 rfl) rfl
theorem q502 : (Jvm.Cond.code ({ cls := "PatentHall", name := "did", desc := "(LPatentHall$Act;)V" } : Jvm.MethodName) prog_1_method_8_code (2 : Nat) (Option.none : Option Jvm.ClassFile.FieldType)) ∈ lw_all := lw_g (lw_at lw_m2 204 rfl) rfl
theorem q503 : (Jvm.Cond.methodLink "PatentHall" (119 : Nat) ({ cls := "java/lang/System", name := "arraycopy", desc := "(Ljava/lang/Object;ILjava/lang/Object;II)V" } : Jvm.MethodName)) ∈ lw_all := lw_g (lw_at lw_m2 205 rfl) rfl
theorem q507 : (Jvm.Cond.instanceMethod ({ cls := "PatentHall", name := "under", desc := "(II)I" } : Jvm.MethodName)) ∈ lw_all := lw_g (lw_at lw_m2 209 rfl) rfl
theorem q508 : (Jvm.Cond.selects "PatentHall" ({ cls := "PatentHall", name := "under", desc := "(II)I" } : Jvm.MethodName) ({ cls := "PatentHall", name := "under", desc := "(II)I" } : Jvm.MethodName)) ∈ lw_all := lw_g (lw_at lw_m2 210 rfl) rfl
theorem q509 : (Jvm.Cond.code ({ cls := "PatentHall", name := "under", desc := "(II)I" } : Jvm.MethodName) prog_1_method_14_code (3 : Nat) (Option.some Jvm.ClassFile.FieldType.int)) ∈ lw_all := lw_g (lw_at lw_m2 211 rfl) rfl
theorem q510 : (Jvm.Cond.methodLink "PatentHall" (161 : Nat) ({ cls := "PatentHall", name := "isUnder", desc := "(II)Z" } : Jvm.MethodName)) ∈ lw_all := lw_g (lw_at lw_m2 212 rfl) rfl
theorem q511 : (Jvm.Cond.privateMethod ({ cls := "PatentHall", name := "isUnder", desc := "(II)Z" } : Jvm.MethodName)) ∈ lw_tbl := lw_at lw_m2 213 rfl
theorem q512 : (Jvm.Cond.instanceMethod ({ cls := "PatentHall", name := "isUnder", desc := "(II)Z" } : Jvm.MethodName)) ∈ lw_all := lw_g (lw_at lw_m2 214 rfl) rfl
theorem q513 : (Jvm.Cond.code ({ cls := "PatentHall", name := "isUnder", desc := "(II)Z" } : Jvm.MethodName) prog_1_method_12_code (4 : Nat) (Option.some Jvm.ClassFile.FieldType.boolean)) ∈ lw_all := lw_g (lw_at lw_m2 215 rfl) rfl
theorem q515 : (Jvm.Cond.instanceMethod ({ cls := "PatentHall", name := "pass", desc := "(I)I" } : Jvm.MethodName)) ∈ lw_all := lw_g (lw_at lw_m2 217 rfl) rfl
theorem q516 : (Jvm.Cond.selects "PatentHall" ({ cls := "PatentHall", name := "pass", desc := "(I)I" } : Jvm.MethodName) ({ cls := "PatentHall", name := "pass", desc := "(I)I" } : Jvm.MethodName)) ∈ lw_all := lw_g (lw_at lw_m2 218 rfl) rfl
theorem q517 : (Jvm.Cond.code ({ cls := "PatentHall", name := "pass", desc := "(I)I" } : Jvm.MethodName) prog_1_method_15_code (2 : Nat) (Option.some Jvm.ClassFile.FieldType.int)) ∈ lw_all := lw_g (lw_at lw_m2 219 rfl) rfl
theorem q518 : (Jvm.Cond.classLink "PatentHall" (168 : Nat) "PatentHall$2") ∈ lw_all := lw_g (lw_at lw_m2 220 rfl) rfl
theorem q520 : (Jvm.Cond.methodLink "PatentHall" (170 : Nat) ({ cls := "PatentHall$2", name := "<init>", desc := "(LPatentHall;I)V" } : Jvm.MethodName)) ∈ lw_all := lw_g (lw_at lw_m2 222 rfl) rfl
theorem q532 : (Jvm.Cond.instanceMethod ({ cls := "PatentHall", name := "paper", desc := "(II)I" } : Jvm.MethodName)) ∈ lw_all := lw_g (lw_at lw_m2 234 rfl) rfl
theorem q533 : (Jvm.Cond.selects "PatentHall" ({ cls := "PatentHall", name := "paper", desc := "(II)I" } : Jvm.MethodName) ({ cls := "PatentHall", name := "paper", desc := "(II)I" } : Jvm.MethodName)) ∈ lw_all := lw_g (lw_at lw_m2 235 rfl) rfl
theorem q534 : (Jvm.Cond.codeWith ({ cls := "PatentHall", name := "paper", desc := "(II)I" } : Jvm.MethodName) prog_1_method_17_code (4 : Nat) (Option.some Jvm.ClassFile.FieldType.int) [((4 : Nat), (96 : Nat), (99 : Nat), (75 : Nat))]) ∈ lw_all := lw_g (lw_at lw_m2 236 rfl) rfl
theorem q535 : (Jvm.Cond.classLink "PatentHall" (177 : Nat) "PatentHall$Text") ∈ lw_all := lw_g (lw_at lw_m2 237 rfl) rfl
theorem q537 : (Jvm.Cond.methodLink "PatentHall" (179 : Nat) ({ cls := "PatentHall$Text", name := "<init>", desc := "()V" } : Jvm.MethodName)) ∈ lw_all := lw_g (lw_at lw_m2 239 rfl) rfl
theorem q545 : (Jvm.Cond.fieldLink "PatentHall" (343 : Nat) "PatentHall$Text" "names" "[Ljava/lang/String;") ∈ lw_all := lw_g (lw_at lw_m3 7 rfl) rfl
theorem q548 : (Jvm.Cond.fieldLink "PatentHall" (346 : Nat) "PatentHall$Text" "words" "[I") ∈ lw_all := lw_g (lw_at lw_m3 10 rfl) rfl
theorem q551 : (Jvm.Cond.fieldLink "PatentHall" (331 : Nat) "PatentHall$Text" "links" "[LPatentHall$Link;") ∈ lw_all := lw_g (lw_at lw_m3 13 rfl) rfl
theorem q555 : (Jvm.Cond.fieldLink "PatentHall" (211 : Nat) "PatentHall$Text" "parts" "I") ∈ lw_all := lw_g (lw_at lw_m3 17 rfl) rfl
theorem q559 : (Jvm.Cond.fieldLink "PatentHall" (297 : Nat) "PatentHall$Text" "linkMany" "I") ∈ lw_all := lw_g (lw_at lw_m3 21 rfl) rfl
theorem q571 : (Jvm.Cond.methodLink "PatentHall" (180 : Nat) ({ cls := "PatentHall", name := "text", desc := "(ILPatentHall$Text;II)LPatentHall$Text;" } : Jvm.MethodName)) ∈ lw_all := lw_g (lw_at lw_m3 33 rfl) rfl
theorem q572 : (Jvm.Cond.privateMethod ({ cls := "PatentHall", name := "text", desc := "(ILPatentHall$Text;II)LPatentHall$Text;" } : Jvm.MethodName)) ∈ lw_tbl := lw_at lw_m3 34 rfl
theorem q573 : (Jvm.Cond.instanceMethod ({ cls := "PatentHall", name := "text", desc := "(ILPatentHall$Text;II)LPatentHall$Text;" } : Jvm.MethodName)) ∈ lw_all := lw_g (lw_at lw_m3 35 rfl) rfl
theorem q574 : (Jvm.Cond.code ({ cls := "PatentHall", name := "text", desc := "(ILPatentHall$Text;II)LPatentHall$Text;" } : Jvm.MethodName) prog_1_method_16_code (5 : Nat) (Option.some (Jvm.ClassFile.FieldType.object "PatentHall$Text"))) ∈ lw_all := lw_g (lw_at lw_m3 36 rfl) rfl
theorem q575 : (Jvm.Cond.methodLink "PatentHall" (173 : Nat) ({ cls := "PatentHall$Reader", name := "read", desc := "(ILPatentHall;LPatentHall$Text;II)LPatentHall$Text;" } : Jvm.MethodName)) ∈ lw_all := lw_g (lw_at lw_m3 37 rfl) rfl
theorem q622 : (Jvm.Cond.fieldLink "PatentHall" (335 : Nat) "PatentHall$Link" "from" "I") ∈ lw_all := lw_g (lw_at lw_m3 84 rfl) rfl
theorem q625 : (Jvm.Cond.fieldLink "PatentHall" (352 : Nat) "PatentHall$Link" "word" "I") ∈ lw_all := lw_g (lw_at lw_m3 87 rfl) rfl
theorem q628 : (Jvm.Cond.fieldLink "PatentHall" (340 : Nat) "PatentHall$Link" "to" "I") ∈ lw_all := lw_g (lw_at lw_m3 90 rfl) rfl
theorem q649 : (Jvm.Cond.methodLink "PatentHall" (187 : Nat) ({ cls := "PatentHall$Paper", name := "<init>", desc := "(LPatentHall$Text;II)V" } : Jvm.MethodName)) ∈ lw_all := lw_g (lw_at lw_m3 111 rfl) rfl
theorem q658 : (Jvm.Cond.fieldLink "PatentHall" (242 : Nat) "PatentHall$Filing" "text" "LPatentHall$Text;") ∈ lw_all := lw_g (lw_at lw_m3 120 rfl) rfl
theorem q660 : (Jvm.Cond.fieldLink "PatentHall" (309 : Nat) "PatentHall$Paper" "text" "LPatentHall$Text;") ∈ lw_all := lw_g (lw_at lw_m3 122 rfl) rfl
theorem q662 : (Jvm.Cond.fieldLink "PatentHall" (310 : Nat) "PatentHall$Told" "text" "LPatentHall$Text;") ∈ lw_all := lw_g (lw_at lw_m3 124 rfl) rfl
theorem q664 : (Jvm.Cond.fieldLink "PatentHall" (294 : Nat) "PatentHall$Filing" "known" "I") ∈ lw_all := lw_g (lw_at lw_m3 126 rfl) rfl
theorem q673 : (Jvm.Cond.classLink "PatentHall" (190 : Nat) "PatentHall$3") ∈ lw_all := lw_g (lw_at lw_m3 135 rfl) rfl
theorem q675 : (Jvm.Cond.methodLink "PatentHall" (192 : Nat) ({ cls := "PatentHall$3", name := "<init>", desc := "(LPatentHall;)V" } : Jvm.MethodName)) ∈ lw_all := lw_g (lw_at lw_m3 137 rfl) rfl
theorem q684 : (Jvm.Cond.instanceMethod ({ cls := "PatentHall", name := "thing", desc := "(I)I" } : Jvm.MethodName)) ∈ lw_all := lw_g (lw_at lw_m3 146 rfl) rfl
theorem q685 : (Jvm.Cond.selects "PatentHall" ({ cls := "PatentHall", name := "thing", desc := "(I)I" } : Jvm.MethodName) ({ cls := "PatentHall", name := "thing", desc := "(I)I" } : Jvm.MethodName)) ∈ lw_all := lw_g (lw_at lw_m3 147 rfl) rfl
theorem q686 : (Jvm.Cond.codeWith ({ cls := "PatentHall", name := "thing", desc := "(I)I" } : Jvm.MethodName) prog_1_method_18_code (3 : Nat) (Option.some Jvm.ClassFile.FieldType.int) [((4 : Nat), (75 : Nat), (78 : Nat), (75 : Nat))]) ∈ lw_all := lw_g (lw_at lw_m3 148 rfl) rfl
theorem q688 : (Jvm.Cond.methodLink "PatentHall" (196 : Nat) ({ cls := "PatentHall$Told", name := "<init>", desc := "(LPatentHall$Text;I)V" } : Jvm.MethodName)) ∈ lw_all := lw_g (lw_at lw_m3 150 rfl) rfl
theorem q692 : (Jvm.Cond.classLink "PatentHall" (199 : Nat) "PatentHall$4") ∈ lw_all := lw_g (lw_at lw_m3 154 rfl) rfl
theorem q694 : (Jvm.Cond.methodLink "PatentHall" (201 : Nat) ({ cls := "PatentHall$4", name := "<init>", desc := "(LPatentHall;)V" } : Jvm.MethodName)) ∈ lw_all := lw_g (lw_at lw_m3 156 rfl) rfl
theorem q703 : (Jvm.Cond.instanceMethod ({ cls := "PatentHall", name := "file", desc := "(II)I" } : Jvm.MethodName)) ∈ lw_all := lw_g (lw_at lw_m3 165 rfl) rfl
theorem q704 : (Jvm.Cond.selects "PatentHall" ({ cls := "PatentHall", name := "file", desc := "(II)I" } : Jvm.MethodName) ({ cls := "PatentHall", name := "file", desc := "(II)I" } : Jvm.MethodName)) ∈ lw_all := lw_g (lw_at lw_m3 166 rfl) rfl
theorem q705 : (Jvm.Cond.codeWith ({ cls := "PatentHall", name := "file", desc := "(II)I" } : Jvm.MethodName) prog_1_method_19_code (4 : Nat) (Option.some Jvm.ClassFile.FieldType.int) [((4 : Nat), (106 : Nat), (109 : Nat), (75 : Nat))]) ∈ lw_all := lw_g (lw_at lw_m3 167 rfl) rfl
theorem q707 : (Jvm.Cond.methodLink "PatentHall" (205 : Nat) ({ cls := "PatentHall$Filing", name := "<init>", desc := "(LPatentHall$Text;ILPatentHall$Filing;)V" } : Jvm.MethodName)) ∈ lw_all := lw_g (lw_at lw_m3 169 rfl) rfl
theorem q712 : (Jvm.Cond.fieldLink "PatentHall" (290 : Nat) "PatentHall$Filing" "back" "LPatentHall$Filing;") ∈ lw_all := lw_g (lw_at lw_m3 174 rfl) rfl
theorem q718 : (Jvm.Cond.classLink "PatentHall" (208 : Nat) "PatentHall$5") ∈ lw_all := lw_g (lw_at lw_m3 180 rfl) rfl
theorem q720 : (Jvm.Cond.methodLink "PatentHall" (210 : Nat) ({ cls := "PatentHall$5", name := "<init>", desc := "(LPatentHall;)V" } : Jvm.MethodName)) ∈ lw_all := lw_g (lw_at lw_m3 182 rfl) rfl
theorem q729 : (Jvm.Cond.instanceMethod ({ cls := "PatentHall", name := "claim", desc := "(III)I" } : Jvm.MethodName)) ∈ lw_all := lw_g (lw_at lw_m3 191 rfl) rfl
theorem q730 : (Jvm.Cond.selects "PatentHall" ({ cls := "PatentHall", name := "claim", desc := "(III)I" } : Jvm.MethodName) ({ cls := "PatentHall", name := "claim", desc := "(III)I" } : Jvm.MethodName)) ∈ lw_all := lw_g (lw_at lw_m3 192 rfl) rfl
theorem q731 : (Jvm.Cond.codeWith ({ cls := "PatentHall", name := "claim", desc := "(III)I" } : Jvm.MethodName) prog_1_method_25_code (6 : Nat) (Option.some Jvm.ClassFile.FieldType.int) [((4 : Nat), (181 : Nat), (184 : Nat), (75 : Nat))]) ∈ lw_all := lw_g (lw_at lw_m3 193 rfl) rfl
theorem q732 : (Jvm.Cond.methodLink "PatentHall" (238 : Nat) ({ cls := "PatentHall", name := "base", desc := "(LPatentHall$Claim;)LPatentHall$Text;" } : Jvm.MethodName)) ∈ lw_all := lw_g (lw_at lw_m3 194 rfl) rfl
theorem q733 : (Jvm.Cond.static ({ cls := "PatentHall", name := "base", desc := "(LPatentHall$Claim;)LPatentHall$Text;" } : Jvm.MethodName)) ∈ lw_all := lw_g (lw_at lw_m3 195 rfl) rfl
theorem q734 : (Jvm.Cond.code ({ cls := "PatentHall", name := "base", desc := "(LPatentHall$Claim;)LPatentHall$Text;" } : Jvm.MethodName) prog_1_method_24_code (1 : Nat) (Option.some (Jvm.ClassFile.FieldType.object "PatentHall$Text"))) ∈ lw_all := lw_g (lw_at lw_m3 196 rfl) rfl
theorem q735 : (Jvm.Cond.methodLink "PatentHall" (232 : Nat) ({ cls := "PatentHall$Text", name := "<init>", desc := "(LPatentHall$Text;)V" } : Jvm.MethodName)) ∈ lw_all := lw_g (lw_at lw_m3 197 rfl) rfl
theorem q739 : (Jvm.Cond.methodLink "PatentHall" (243 : Nat) ({ cls := "PatentHall", name := "discloses", desc := "(LPatentHall$Text;LPatentHall$Text;)Z" } : Jvm.MethodName)) ∈ lw_all := lw_g (lw_at lw_m3 201 rfl) rfl
theorem q740 : (Jvm.Cond.privateMethod ({ cls := "PatentHall", name := "discloses", desc := "(LPatentHall$Text;LPatentHall$Text;)Z" } : Jvm.MethodName)) ∈ lw_tbl := lw_at lw_m3 202 rfl
theorem q741 : (Jvm.Cond.instanceMethod ({ cls := "PatentHall", name := "discloses", desc := "(LPatentHall$Text;LPatentHall$Text;)Z" } : Jvm.MethodName)) ∈ lw_all := lw_g (lw_at lw_m3 203 rfl) rfl
theorem q742 : (Jvm.Cond.code ({ cls := "PatentHall", name := "discloses", desc := "(LPatentHall$Text;LPatentHall$Text;)Z" } : Jvm.MethodName) prog_1_method_22_code (3 : Nat) (Option.some Jvm.ClassFile.FieldType.boolean)) ∈ lw_all := lw_g (lw_at lw_m3 204 rfl) rfl
theorem q743 : (Jvm.Cond.methodLink "PatentHall" (218 : Nat) ({ cls := "PatentHall", name := "all", desc := "(LPatentHall$Text;)I" } : Jvm.MethodName)) ∈ lw_all := lw_g (lw_at lw_m3 205 rfl) rfl
theorem q744 : (Jvm.Cond.static ({ cls := "PatentHall", name := "all", desc := "(LPatentHall$Text;)I" } : Jvm.MethodName)) ∈ lw_all := lw_g (lw_at lw_m3 206 rfl) rfl
theorem q745 : (Jvm.Cond.code ({ cls := "PatentHall", name := "all", desc := "(LPatentHall$Text;)I" } : Jvm.MethodName) prog_1_method_20_code (1 : Nat) (Option.some Jvm.ClassFile.FieldType.int)) ∈ lw_all := lw_g (lw_at lw_m3 207 rfl) rfl
theorem q746 : (Jvm.Cond.methodLink "PatentHall" (222 : Nat) ({ cls := "PatentHall", name := "discloses", desc := "(LPatentHall$Text;LPatentHall$Text;I)Z" } : Jvm.MethodName)) ∈ lw_all := lw_g (lw_at lw_m3 208 rfl) rfl
theorem q747 : (Jvm.Cond.privateMethod ({ cls := "PatentHall", name := "discloses", desc := "(LPatentHall$Text;LPatentHall$Text;I)Z" } : Jvm.MethodName)) ∈ lw_tbl := lw_at lw_m3 209 rfl
theorem q748 : (Jvm.Cond.instanceMethod ({ cls := "PatentHall", name := "discloses", desc := "(LPatentHall$Text;LPatentHall$Text;I)Z" } : Jvm.MethodName)) ∈ lw_all := lw_g (lw_at lw_m3 210 rfl) rfl
theorem q749 : (Jvm.Cond.code ({ cls := "PatentHall", name := "discloses", desc := "(LPatentHall$Text;LPatentHall$Text;I)Z" } : Jvm.MethodName) prog_1_method_21_code (4 : Nat) (Option.some Jvm.ClassFile.FieldType.boolean)) ∈ lw_all := lw_g (lw_at lw_m3 211 rfl) rfl
theorem q750 : (Jvm.Cond.methodLink "PatentHall" (214 : Nat) ({ cls := "PatentHall$Finder", name := "find", desc := "(LPatentHall$Text;ILPatentHall$Text;Z)I" } : Jvm.MethodName)) ∈ lw_all := lw_g (lw_at lw_m3 212 rfl) rfl
theorem q769 : (Jvm.Cond.methodLink "PatentHall" (246 : Nat) ({ cls := "PatentHall$Claim", name := "<init>", desc := "(IIILPatentHall$Claim;LPatentHall$Text;)V" } : Jvm.MethodName)) ∈ lw_all := lw_g (lw_at lw_m3 231 rfl) rfl
theorem q774 : (Jvm.Cond.fieldLink "PatentHall" (252 : Nat) "PatentHall$Claim" "number" "I") ∈ lw_all := lw_g (lw_at lw_m3 236 rfl) rfl
theorem q776 : (Jvm.Cond.fieldLink "PatentHall" (308 : Nat) "PatentHall$Claim" "known" "I") ∈ lw_all := lw_g (lw_at lw_m3 238 rfl) rfl
theorem q778 : (Jvm.Cond.fieldLink "PatentHall" (235 : Nat) "PatentHall$Claim" "file" "I") ∈ lw_all := lw_g (lw_at lw_m4 0 rfl) rfl
theorem q780 : (Jvm.Cond.fieldLink "PatentHall" (255 : Nat) "PatentHall$Claim" "on" "LPatentHall$Claim;") ∈ lw_all := lw_g (lw_at lw_m4 2 rfl) rfl
theorem q783 : (Jvm.Cond.fieldLink "PatentHall" (229 : Nat) "PatentHall$Claim" "text" "LPatentHall$Text;") ∈ lw_all := lw_g (lw_at lw_m4 5 rfl) rfl
theorem q786 : (Jvm.Cond.fieldLink "PatentHall" (263 : Nat) "PatentHall$Claim" "granted" "I") ∈ lw_all := lw_g (lw_at lw_m4 8 rfl) rfl
theorem q789 : (Jvm.Cond.fieldLink "PatentHall" (284 : Nat) "PatentHall$Claim" "dropped" "I") ∈ lw_all := lw_g (lw_at lw_m4 11 rfl) rfl
theorem q805 : (Jvm.Cond.classLink "PatentHall" (249 : Nat) "PatentHall$6") ∈ lw_all := lw_g (lw_at lw_m4 27 rfl) rfl
theorem q807 : (Jvm.Cond.methodLink "PatentHall" (251 : Nat) ({ cls := "PatentHall$6", name := "<init>", desc := "(LPatentHall;)V" } : Jvm.MethodName)) ∈ lw_all := lw_g (lw_at lw_m4 29 rfl) rfl
theorem q816 : (Jvm.Cond.instanceMethod ({ cls := "PatentHall", name := "amend", desc := "(II)Z" } : Jvm.MethodName)) ∈ lw_all := lw_g (lw_at lw_m4 38 rfl) rfl
theorem q817 : (Jvm.Cond.selects "PatentHall" ({ cls := "PatentHall", name := "amend", desc := "(II)Z" } : Jvm.MethodName) ({ cls := "PatentHall", name := "amend", desc := "(II)Z" } : Jvm.MethodName)) ∈ lw_all := lw_g (lw_at lw_m4 39 rfl) rfl
theorem q818 : (Jvm.Cond.codeWith ({ cls := "PatentHall", name := "amend", desc := "(II)Z" } : Jvm.MethodName) prog_1_method_27_code (8 : Nat) (Option.some Jvm.ClassFile.FieldType.boolean) [((4 : Nat), (162 : Nat), (165 : Nat), (75 : Nat))]) ∈ lw_all := lw_g (lw_at lw_m4 40 rfl) rfl
theorem q819 : (Jvm.Cond.methodLink "PatentHall" (259 : Nat) ({ cls := "PatentHall", name := "claimOf", desc := "(I)LPatentHall$Claim;" } : Jvm.MethodName)) ∈ lw_all := lw_g (lw_at lw_m4 41 rfl) rfl
theorem q820 : (Jvm.Cond.privateMethod ({ cls := "PatentHall", name := "claimOf", desc := "(I)LPatentHall$Claim;" } : Jvm.MethodName)) ∈ lw_tbl := lw_at lw_m4 42 rfl
theorem q821 : (Jvm.Cond.instanceMethod ({ cls := "PatentHall", name := "claimOf", desc := "(I)LPatentHall$Claim;" } : Jvm.MethodName)) ∈ lw_all := lw_g (lw_at lw_m4 43 rfl) rfl
theorem q822 : (Jvm.Cond.code ({ cls := "PatentHall", name := "claimOf", desc := "(I)LPatentHall$Claim;" } : Jvm.MethodName) prog_1_method_23_code (2 : Nat) (Option.some (Jvm.ClassFile.FieldType.object "PatentHall$Claim"))) ∈ lw_all := lw_g (lw_at lw_m4 44 rfl) rfl
theorem q823 : (Jvm.Cond.methodLink "PatentHall" (266 : Nat) ({ cls := "PatentHall", name := "isStoodOn", desc := "(LPatentHall$Claim;)Z" } : Jvm.MethodName)) ∈ lw_all := lw_g (lw_at lw_m4 45 rfl) rfl
theorem q824 : (Jvm.Cond.privateMethod ({ cls := "PatentHall", name := "isStoodOn", desc := "(LPatentHall$Claim;)Z" } : Jvm.MethodName)) ∈ lw_tbl := lw_at lw_m4 46 rfl
theorem q825 : (Jvm.Cond.instanceMethod ({ cls := "PatentHall", name := "isStoodOn", desc := "(LPatentHall$Claim;)Z" } : Jvm.MethodName)) ∈ lw_all := lw_g (lw_at lw_m4 47 rfl) rfl
theorem q826 : (Jvm.Cond.code ({ cls := "PatentHall", name := "isStoodOn", desc := "(LPatentHall$Claim;)Z" } : Jvm.MethodName) prog_1_method_26_code (4 : Nat) (Option.some Jvm.ClassFile.FieldType.boolean)) ∈ lw_all := lw_g (lw_at lw_m4 48 rfl) rfl
theorem q827 : (Jvm.Cond.classLink "PatentHall" (270 : Nat) "PatentHall$7") ∈ lw_all := lw_g (lw_at lw_m4 49 rfl) rfl
theorem q829 : (Jvm.Cond.methodLink "PatentHall" (272 : Nat) ({ cls := "PatentHall$7", name := "<init>", desc := "(LPatentHall;LPatentHall$Claim;LPatentHall$Text;)V" } : Jvm.MethodName)) ∈ lw_all := lw_g (lw_at lw_m4 51 rfl) rfl
theorem q843 : (Jvm.Cond.methodLink "PatentHall" (275 : Nat) ({ cls := "PatentHall", name := "not", desc := "(LPatentHall$Refused;)Z" } : Jvm.MethodName)) ∈ lw_all := lw_g (lw_at lw_m4 65 rfl) rfl
theorem q844 : (Jvm.Cond.privateMethod ({ cls := "PatentHall", name := "not", desc := "(LPatentHall$Refused;)Z" } : Jvm.MethodName)) ∈ lw_tbl := lw_at lw_m4 66 rfl
theorem q845 : (Jvm.Cond.instanceMethod ({ cls := "PatentHall", name := "not", desc := "(LPatentHall$Refused;)Z" } : Jvm.MethodName)) ∈ lw_all := lw_g (lw_at lw_m4 67 rfl) rfl
theorem q846 : (Jvm.Cond.code ({ cls := "PatentHall", name := "not", desc := "(LPatentHall$Refused;)Z" } : Jvm.MethodName) prog_1_method_5_code (2 : Nat) (Option.some Jvm.ClassFile.FieldType.boolean)) ∈ lw_all := lw_g (lw_at lw_m4 68 rfl) rfl
theorem q848 : (Jvm.Cond.instanceMethod ({ cls := "PatentHall", name := "fault", desc := "()I" } : Jvm.MethodName)) ∈ lw_all := lw_g (lw_at lw_m4 70 rfl) rfl
theorem q849 : (Jvm.Cond.selects "PatentHall" ({ cls := "PatentHall", name := "fault", desc := "()I" } : Jvm.MethodName) ({ cls := "PatentHall", name := "fault", desc := "()I" } : Jvm.MethodName)) ∈ lw_all := lw_g (lw_at lw_m4 71 rfl) rfl
theorem q850 : (Jvm.Cond.code ({ cls := "PatentHall", name := "fault", desc := "()I" } : Jvm.MethodName) prog_1_method_28_code (1 : Nat) (Option.some Jvm.ClassFile.FieldType.int)) ∈ lw_all := lw_g (lw_at lw_m4 72 rfl) rfl
theorem q852 : (Jvm.Cond.instanceMethod ({ cls := "PatentHall", name := "where", desc := "()I" } : Jvm.MethodName)) ∈ lw_all := lw_g (lw_at lw_m4 74 rfl) rfl
theorem q853 : (Jvm.Cond.selects "PatentHall" ({ cls := "PatentHall", name := "where", desc := "()I" } : Jvm.MethodName) ({ cls := "PatentHall", name := "where", desc := "()I" } : Jvm.MethodName)) ∈ lw_all := lw_g (lw_at lw_m4 75 rfl) rfl
theorem q854 : (Jvm.Cond.code ({ cls := "PatentHall", name := "where", desc := "()I" } : Jvm.MethodName) prog_1_method_29_code (1 : Nat) (Option.some Jvm.ClassFile.FieldType.int)) ∈ lw_all := lw_g (lw_at lw_m4 76 rfl) rfl
theorem q856 : (Jvm.Cond.instanceMethod ({ cls := "PatentHall", name := "grant", desc := "(I)Z" } : Jvm.MethodName)) ∈ lw_all := lw_g (lw_at lw_m4 78 rfl) rfl
theorem q857 : (Jvm.Cond.selects "PatentHall" ({ cls := "PatentHall", name := "grant", desc := "(I)Z" } : Jvm.MethodName) ({ cls := "PatentHall", name := "grant", desc := "(I)Z" } : Jvm.MethodName)) ∈ lw_all := lw_g (lw_at lw_m4 79 rfl) rfl
theorem q858 : (Jvm.Cond.codeWith ({ cls := "PatentHall", name := "grant", desc := "(I)Z" } : Jvm.MethodName) prog_1_method_30_code (3 : Nat) (Option.some Jvm.ClassFile.FieldType.boolean) [((4 : Nat), (50 : Nat), (53 : Nat), (75 : Nat))]) ∈ lw_all := lw_g (lw_at lw_m4 80 rfl) rfl
theorem q859 : (Jvm.Cond.classLink "PatentHall" (279 : Nat) "PatentHall$8") ∈ lw_all := lw_g (lw_at lw_m4 81 rfl) rfl
theorem q861 : (Jvm.Cond.methodLink "PatentHall" (281 : Nat) ({ cls := "PatentHall$8", name := "<init>", desc := "(LPatentHall;LPatentHall$Claim;)V" } : Jvm.MethodName)) ∈ lw_all := lw_g (lw_at lw_m4 83 rfl) rfl
theorem q873 : (Jvm.Cond.instanceMethod ({ cls := "PatentHall", name := "drop", desc := "(I)Z" } : Jvm.MethodName)) ∈ lw_all := lw_g (lw_at lw_m4 95 rfl) rfl
theorem q874 : (Jvm.Cond.selects "PatentHall" ({ cls := "PatentHall", name := "drop", desc := "(I)Z" } : Jvm.MethodName) ({ cls := "PatentHall", name := "drop", desc := "(I)Z" } : Jvm.MethodName)) ∈ lw_all := lw_g (lw_at lw_m4 96 rfl) rfl
theorem q875 : (Jvm.Cond.codeWith ({ cls := "PatentHall", name := "drop", desc := "(I)Z" } : Jvm.MethodName) prog_1_method_31_code (3 : Nat) (Option.some Jvm.ClassFile.FieldType.boolean) [((4 : Nat), (58 : Nat), (61 : Nat), (75 : Nat))]) ∈ lw_all := lw_g (lw_at lw_m4 97 rfl) rfl
theorem q876 : (Jvm.Cond.classLink "PatentHall" (287 : Nat) "PatentHall$9") ∈ lw_all := lw_g (lw_at lw_m4 98 rfl) rfl
theorem q878 : (Jvm.Cond.methodLink "PatentHall" (289 : Nat) ({ cls := "PatentHall$9", name := "<init>", desc := "(LPatentHall;LPatentHall$Claim;)V" } : Jvm.MethodName)) ∈ lw_all := lw_g (lw_at lw_m4 100 rfl) rfl
theorem q890 : (Jvm.Cond.instanceMethod ({ cls := "PatentHall", name := "about", desc := "(II)I" } : Jvm.MethodName)) ∈ lw_all := lw_g (lw_at lw_m4 112 rfl) rfl
theorem q891 : (Jvm.Cond.selects "PatentHall" ({ cls := "PatentHall", name := "about", desc := "(II)I" } : Jvm.MethodName) ({ cls := "PatentHall", name := "about", desc := "(II)I" } : Jvm.MethodName)) ∈ lw_all := lw_g (lw_at lw_m4 113 rfl) rfl
theorem q892 : (Jvm.Cond.code ({ cls := "PatentHall", name := "about", desc := "(II)I" } : Jvm.MethodName) prog_1_method_33_code (4 : Nat) (Option.some Jvm.ClassFile.FieldType.int)) ∈ lw_all := lw_g (lw_at lw_m4 114 rfl) rfl
theorem q893 : (Jvm.Cond.methodLink "PatentHall" (300 : Nat) ({ cls := "PatentHall", name := "dayOf", desc := "(LPatentHall$Claim;)I" } : Jvm.MethodName)) ∈ lw_all := lw_g (lw_at lw_m4 115 rfl) rfl
theorem q894 : (Jvm.Cond.privateMethod ({ cls := "PatentHall", name := "dayOf", desc := "(LPatentHall$Claim;)I" } : Jvm.MethodName)) ∈ lw_tbl := lw_at lw_m4 116 rfl
theorem q895 : (Jvm.Cond.instanceMethod ({ cls := "PatentHall", name := "dayOf", desc := "(LPatentHall$Claim;)I" } : Jvm.MethodName)) ∈ lw_all := lw_g (lw_at lw_m4 117 rfl) rfl
theorem q896 : (Jvm.Cond.code ({ cls := "PatentHall", name := "dayOf", desc := "(LPatentHall$Claim;)I" } : Jvm.MethodName) prog_1_method_32_code (3 : Nat) (Option.some Jvm.ClassFile.FieldType.int)) ∈ lw_all := lw_g (lw_at lw_m4 118 rfl) rfl
theorem q897 : (Jvm.Cond.methodLink "PatentHall" (304 : Nat) ({ cls := "PatentHall$Claim", name := "ends", desc := "(II)I" } : Jvm.MethodName)) ∈ lw_all := lw_g (lw_at lw_m4 119 rfl) rfl
theorem q905 : (Jvm.Cond.instanceMethod ({ cls := "PatentHall", name := "finds", desc := "(III)I" } : Jvm.MethodName)) ∈ lw_all := lw_g (lw_at lw_m4 127 rfl) rfl
theorem q906 : (Jvm.Cond.selects "PatentHall" ({ cls := "PatentHall", name := "finds", desc := "(III)I" } : Jvm.MethodName) ({ cls := "PatentHall", name := "finds", desc := "(III)I" } : Jvm.MethodName)) ∈ lw_all := lw_g (lw_at lw_m4 128 rfl) rfl
theorem q907 : (Jvm.Cond.codeWith ({ cls := "PatentHall", name := "finds", desc := "(III)I" } : Jvm.MethodName) prog_1_method_35_code (7 : Nat) (Option.some Jvm.ClassFile.FieldType.int) [((4 : Nat), (102 : Nat), (103 : Nat), (75 : Nat))]) ∈ lw_all := lw_g (lw_at lw_m4 129 rfl) rfl
theorem q908 : (Jvm.Cond.methodLink "PatentHall" (311 : Nat) ({ cls := "PatentHall", name := "textOf", desc := "(II)LPatentHall$Text;" } : Jvm.MethodName)) ∈ lw_all := lw_g (lw_at lw_m4 130 rfl) rfl
theorem q909 : (Jvm.Cond.privateMethod ({ cls := "PatentHall", name := "textOf", desc := "(II)LPatentHall$Text;" } : Jvm.MethodName)) ∈ lw_tbl := lw_at lw_m4 131 rfl
theorem q910 : (Jvm.Cond.instanceMethod ({ cls := "PatentHall", name := "textOf", desc := "(II)LPatentHall$Text;" } : Jvm.MethodName)) ∈ lw_all := lw_g (lw_at lw_m4 132 rfl) rfl
theorem q911 : (Jvm.Cond.code ({ cls := "PatentHall", name := "textOf", desc := "(II)LPatentHall$Text;" } : Jvm.MethodName) prog_1_method_34_code (3 : Nat) (Option.some (Jvm.ClassFile.FieldType.object "PatentHall$Text"))) ∈ lw_all := lw_g (lw_at lw_m4 133 rfl) rfl
theorem q913 : (Jvm.Cond.instanceMethod ({ cls := "PatentHall", name := "part", desc := "(I)I" } : Jvm.MethodName)) ∈ lw_all := lw_g (lw_at lw_m4 135 rfl) rfl
theorem q914 : (Jvm.Cond.selects "PatentHall" ({ cls := "PatentHall", name := "part", desc := "(I)I" } : Jvm.MethodName) ({ cls := "PatentHall", name := "part", desc := "(I)I" } : Jvm.MethodName)) ∈ lw_all := lw_g (lw_at lw_m4 136 rfl) rfl
theorem q915 : (Jvm.Cond.code ({ cls := "PatentHall", name := "part", desc := "(I)I" } : Jvm.MethodName) prog_1_method_36_code (2 : Nat) (Option.some Jvm.ClassFile.FieldType.int)) ∈ lw_all := lw_g (lw_at lw_m4 137 rfl) rfl
theorem q917 : (Jvm.Cond.instanceMethod ({ cls := "PatentHall", name := "old", desc := "(II)I" } : Jvm.MethodName)) ∈ lw_all := lw_g (lw_at lw_m4 139 rfl) rfl
theorem q918 : (Jvm.Cond.selects "PatentHall" ({ cls := "PatentHall", name := "old", desc := "(II)I" } : Jvm.MethodName) ({ cls := "PatentHall", name := "old", desc := "(II)I" } : Jvm.MethodName)) ∈ lw_all := lw_g (lw_at lw_m4 140 rfl) rfl
theorem q919 : (Jvm.Cond.codeWith ({ cls := "PatentHall", name := "old", desc := "(II)I" } : Jvm.MethodName) prog_1_method_38_code (6 : Nat) (Option.some Jvm.ClassFile.FieldType.int) [((4 : Nat), (69 : Nat), (79 : Nat), (75 : Nat)), ((70 : Nat), (78 : Nat), (79 : Nat), (75 : Nat))]) ∈ lw_all := lw_g (lw_at lw_m4 141 rfl) rfl
theorem q920 : (Jvm.Cond.methodLink "PatentHall" (325 : Nat) ({ cls := "PatentHall", name := "known", desc := "(II)LPatentHall$Claim;" } : Jvm.MethodName)) ∈ lw_all := lw_g (lw_at lw_m4 142 rfl) rfl
theorem q921 : (Jvm.Cond.privateMethod ({ cls := "PatentHall", name := "known", desc := "(II)LPatentHall$Claim;" } : Jvm.MethodName)) ∈ lw_tbl := lw_at lw_m4 143 rfl
theorem q922 : (Jvm.Cond.instanceMethod ({ cls := "PatentHall", name := "known", desc := "(II)LPatentHall$Claim;" } : Jvm.MethodName)) ∈ lw_all := lw_g (lw_at lw_m4 144 rfl) rfl
theorem q923 : (Jvm.Cond.code ({ cls := "PatentHall", name := "known", desc := "(II)LPatentHall$Claim;" } : Jvm.MethodName) prog_1_method_37_code (4 : Nat) (Option.some (Jvm.ClassFile.FieldType.object "PatentHall$Claim"))) ∈ lw_all := lw_g (lw_at lw_m4 145 rfl) rfl
theorem q924 : (Jvm.Cond.methodLink "PatentHall" (321 : Nat) ({ cls := "PatentHall", name := "isDay", desc := "(I)Z" } : Jvm.MethodName)) ∈ lw_all := lw_g (lw_at lw_m4 146 rfl) rfl
theorem q925 : (Jvm.Cond.static ({ cls := "PatentHall", name := "isDay", desc := "(I)Z" } : Jvm.MethodName)) ∈ lw_all := lw_g (lw_at lw_m4 147 rfl) rfl
theorem q926 : (Jvm.Cond.code ({ cls := "PatentHall", name := "isDay", desc := "(I)Z" } : Jvm.MethodName) prog_1_method_7_code (1 : Nat) (Option.some Jvm.ClassFile.FieldType.boolean)) ∈ lw_all := lw_g (lw_at lw_m4 148 rfl) rfl
theorem q927 : (Jvm.Cond.methodLink "PatentHall" (328 : Nat) ({ cls := "PatentHall$Paper", name := "counts", desc := "(II)Z" } : Jvm.MethodName)) ∈ lw_all := lw_g (lw_at lw_m4 149 rfl) rfl
theorem q938 : (Jvm.Cond.instanceMethod ({ cls := "PatentHall", name := "plain", desc := "(II)I" } : Jvm.MethodName)) ∈ lw_all := lw_g (lw_at lw_m4 160 rfl) rfl
theorem q939 : (Jvm.Cond.selects "PatentHall" ({ cls := "PatentHall", name := "plain", desc := "(II)I" } : Jvm.MethodName) ({ cls := "PatentHall", name := "plain", desc := "(II)I" } : Jvm.MethodName)) ∈ lw_all := lw_g (lw_at lw_m4 161 rfl) rfl
theorem q940 : (Jvm.Cond.codeWith ({ cls := "PatentHall", name := "plain", desc := "(II)I" } : Jvm.MethodName) prog_1_method_40_code (11 : Nat) (Option.some Jvm.ClassFile.FieldType.int) [((4 : Nat), (279 : Nat), (280 : Nat), (75 : Nat))]) ∈ lw_all := lw_g (lw_at lw_m4 162 rfl) rfl
theorem q941 : (Jvm.Cond.methodLink "PatentHall" (361 : Nat) ({ cls := "PatentHall", name := "around", desc := "(LPatentHall$Text;I)LPatentHall$Text;" } : Jvm.MethodName)) ∈ lw_all := lw_g (lw_at lw_m4 163 rfl) rfl
theorem q942 : (Jvm.Cond.static ({ cls := "PatentHall", name := "around", desc := "(LPatentHall$Text;I)LPatentHall$Text;" } : Jvm.MethodName)) ∈ lw_all := lw_g (lw_at lw_m4 164 rfl) rfl
theorem q943 : (Jvm.Cond.code ({ cls := "PatentHall", name := "around", desc := "(LPatentHall$Text;I)LPatentHall$Text;" } : Jvm.MethodName) prog_1_method_39_code (7 : Nat) (Option.some (Jvm.ClassFile.FieldType.object "PatentHall$Text"))) ∈ lw_all := lw_g (lw_at lw_m4 165 rfl) rfl
theorem q944 : (Jvm.Cond.methodLink "PatentHall" (348 : Nat) ({ cls := "PatentHall$Text", name := "puts", desc := "(Ljava/lang/String;I)V" } : Jvm.MethodName)) ∈ lw_all := lw_g (lw_at lw_m4 166 rfl) rfl
theorem q945 : (Jvm.Cond.classLink "PatentHall" (336 : Nat) "PatentHall$Link") ∈ lw_all := lw_g (lw_at lw_m4 167 rfl) rfl
theorem q946 : (Jvm.Cond.methodLink "PatentHall" (355 : Nat) ({ cls := "PatentHall$Link", name := "<init>", desc := "(III)V" } : Jvm.MethodName)) ∈ lw_all := lw_g (lw_at lw_m4 168 rfl) rfl
theorem q947 : (Jvm.Cond.methodLink "PatentHall" (358 : Nat) ({ cls := "PatentHall$Text", name := "puts", desc := "(LPatentHall$Link;)V" } : Jvm.MethodName)) ∈ lw_all := lw_g (lw_at lw_m4 169 rfl) rfl
theorem q948 : (Jvm.Cond.methodLink "PatentHall" (365 : Nat) ({ cls := "PatentHall", name := "lowest", desc := "(I)I" } : Jvm.MethodName)) ∈ lw_all := lw_g (lw_at lw_m4 170 rfl) rfl
theorem q949 : (Jvm.Cond.static ({ cls := "PatentHall", name := "lowest", desc := "(I)I" } : Jvm.MethodName)) ∈ lw_all := lw_g (lw_at lw_m4 171 rfl) rfl
theorem q950 : (Jvm.Cond.code ({ cls := "PatentHall", name := "lowest", desc := "(I)I" } : Jvm.MethodName) prog_1_method_41_code (2 : Nat) (Option.some Jvm.ClassFile.FieldType.int)) ∈ lw_all := lw_g (lw_at lw_m4 172 rfl) rfl
theorem q951 : (Jvm.Cond.methodLink "PatentHall" (369 : Nat) ({ cls := "java/lang/Math", name := "min", desc := "(II)I" } : Jvm.MethodName)) ∈ lw_all := lw_g (lw_at lw_m4 173 rfl) rfl
theorem q953 : (Jvm.Cond.instanceMethod ({ cls := "PatentHall", name := "widest", desc := "(I)I" } : Jvm.MethodName)) ∈ lw_all := lw_g (lw_at lw_m4 175 rfl) rfl
theorem q954 : (Jvm.Cond.selects "PatentHall" ({ cls := "PatentHall", name := "widest", desc := "(I)I" } : Jvm.MethodName) ({ cls := "PatentHall", name := "widest", desc := "(I)I" } : Jvm.MethodName)) ∈ lw_all := lw_g (lw_at lw_m4 176 rfl) rfl
theorem q955 : (Jvm.Cond.codeWith ({ cls := "PatentHall", name := "widest", desc := "(I)I" } : Jvm.MethodName) prog_1_method_42_code (8 : Nat) (Option.some Jvm.ClassFile.FieldType.int) [((4 : Nat), (151 : Nat), (164 : Nat), (75 : Nat)), ((152 : Nat), (163 : Nat), (164 : Nat), (75 : Nat))]) ∈ lw_all := lw_g (lw_at lw_m4 177 rfl) rfl
theorem q956 : (Jvm.Cond.methodLink "PatentHall" (374 : Nat) ({ cls := "PatentHall", name := "ones", desc := "(I)I" } : Jvm.MethodName)) ∈ lw_all := lw_g (lw_at lw_m4 178 rfl) rfl
theorem q957 : (Jvm.Cond.static ({ cls := "PatentHall", name := "ones", desc := "(I)I" } : Jvm.MethodName)) ∈ lw_all := lw_g (lw_at lw_m4 179 rfl) rfl
theorem q958 : (Jvm.Cond.code ({ cls := "PatentHall", name := "ones", desc := "(I)I" } : Jvm.MethodName) prog_1_method_43_code (3 : Nat) (Option.some Jvm.ClassFile.FieldType.int)) ∈ lw_all := lw_g (lw_at lw_m4 180 rfl) rfl
theorem q960 : (Jvm.Cond.instanceMethod ({ cls := "PatentHall", name := "left", desc := "()I" } : Jvm.MethodName)) ∈ lw_all := lw_g (lw_at lw_m4 182 rfl) rfl
theorem q961 : (Jvm.Cond.selects "PatentHall" ({ cls := "PatentHall", name := "left", desc := "()I" } : Jvm.MethodName) ({ cls := "PatentHall", name := "left", desc := "()I" } : Jvm.MethodName)) ∈ lw_all := lw_g (lw_at lw_m4 183 rfl) rfl
theorem q962 : (Jvm.Cond.code ({ cls := "PatentHall", name := "left", desc := "()I" } : Jvm.MethodName) prog_1_method_44_code (1 : Nat) (Option.some Jvm.ClassFile.FieldType.int)) ∈ lw_all := lw_g (lw_at lw_m4 184 rfl) rfl
theorem q964 : (Jvm.Cond.instanceMethod ({ cls := "PatentHall", name := "narrower", desc := "(II)I" } : Jvm.MethodName)) ∈ lw_all := lw_g (lw_at lw_m4 186 rfl) rfl
theorem q965 : (Jvm.Cond.selects "PatentHall" ({ cls := "PatentHall", name := "narrower", desc := "(II)I" } : Jvm.MethodName) ({ cls := "PatentHall", name := "narrower", desc := "(II)I" } : Jvm.MethodName)) ∈ lw_all := lw_g (lw_at lw_m4 187 rfl) rfl
theorem q966 : (Jvm.Cond.codeWith ({ cls := "PatentHall", name := "narrower", desc := "(II)I" } : Jvm.MethodName) prog_1_method_45_code (5 : Nat) (Option.some Jvm.ClassFile.FieldType.int) [((4 : Nat), (38 : Nat), (39 : Nat), (75 : Nat))]) ∈ lw_all := lw_g (lw_at lw_m4 188 rfl) rfl
theorem q968 : (Jvm.Cond.instanceMethod ({ cls := "PatentHall", name := "falls", desc := "(III)I" } : Jvm.MethodName)) ∈ lw_all := lw_g (lw_at lw_m4 190 rfl) rfl
theorem q969 : (Jvm.Cond.selects "PatentHall" ({ cls := "PatentHall", name := "falls", desc := "(III)I" } : Jvm.MethodName) ({ cls := "PatentHall", name := "falls", desc := "(III)I" } : Jvm.MethodName)) ∈ lw_all := lw_g (lw_at lw_m4 191 rfl) rfl
theorem q970 : (Jvm.Cond.codeWith ({ cls := "PatentHall", name := "falls", desc := "(III)I" } : Jvm.MethodName) prog_1_method_47_code (5 : Nat) (Option.some Jvm.ClassFile.FieldType.int) [((4 : Nat), (152 : Nat), (153 : Nat), (75 : Nat))]) ∈ lw_all := lw_g (lw_at lw_m4 192 rfl) rfl
theorem q971 : (Jvm.Cond.methodLink "PatentHall" (380 : Nat) ({ cls := "PatentHall$Told", name := "isKnown", desc := "(I)Z" } : Jvm.MethodName)) ∈ lw_all := lw_g (lw_at lw_m4 193 rfl) rfl
theorem q972 : (Jvm.Cond.methodLink "PatentHall" (386 : Nat) ({ cls := "PatentHall", name := "isInForce", desc := "(LPatentHall$Claim;II)Z" } : Jvm.MethodName)) ∈ lw_all := lw_g (lw_at lw_m4 194 rfl) rfl
theorem q973 : (Jvm.Cond.privateMethod ({ cls := "PatentHall", name := "isInForce", desc := "(LPatentHall$Claim;II)Z" } : Jvm.MethodName)) ∈ lw_tbl := lw_at lw_m4 195 rfl
theorem q974 : (Jvm.Cond.instanceMethod ({ cls := "PatentHall", name := "isInForce", desc := "(LPatentHall$Claim;II)Z" } : Jvm.MethodName)) ∈ lw_all := lw_g (lw_at lw_m4 196 rfl) rfl
theorem q975 : (Jvm.Cond.code ({ cls := "PatentHall", name := "isInForce", desc := "(LPatentHall$Claim;II)Z" } : Jvm.MethodName) prog_1_method_46_code (4 : Nat) (Option.some Jvm.ClassFile.FieldType.boolean)) ∈ lw_all := lw_g (lw_at lw_m4 197 rfl) rfl
theorem q976 : (Jvm.Cond.methodLink "PatentHall" (377 : Nat) ({ cls := "PatentHall$Claim", name := "isInForce", desc := "(III)Z" } : Jvm.MethodName)) ∈ lw_all := lw_g (lw_at lw_m4 198 rfl) rfl
theorem q982 : (Jvm.Cond.instanceMethod ({ cls := "PatentHall", name := "fallen", desc := "(I)I" } : Jvm.MethodName)) ∈ lw_all := lw_g (lw_at lw_m4 204 rfl) rfl
theorem q983 : (Jvm.Cond.selects "PatentHall" ({ cls := "PatentHall", name := "fallen", desc := "(I)I" } : Jvm.MethodName) ({ cls := "PatentHall", name := "fallen", desc := "(I)I" } : Jvm.MethodName)) ∈ lw_all := lw_g (lw_at lw_m4 205 rfl) rfl
theorem q984 : (Jvm.Cond.code ({ cls := "PatentHall", name := "fallen", desc := "(I)I" } : Jvm.MethodName) prog_1_method_48_code (2 : Nat) (Option.some Jvm.ClassFile.FieldType.int)) ∈ lw_all := lw_g (lw_at lw_m4 206 rfl) rfl
theorem q986 : (Jvm.Cond.instanceMethod ({ cls := "PatentHall", name := "force", desc := "(III)I" } : Jvm.MethodName)) ∈ lw_all := lw_g (lw_at lw_m4 208 rfl) rfl
theorem q987 : (Jvm.Cond.selects "PatentHall" ({ cls := "PatentHall", name := "force", desc := "(III)I" } : Jvm.MethodName) ({ cls := "PatentHall", name := "force", desc := "(III)I" } : Jvm.MethodName)) ∈ lw_all := lw_g (lw_at lw_m4 209 rfl) rfl
theorem q988 : (Jvm.Cond.codeWith ({ cls := "PatentHall", name := "force", desc := "(III)I" } : Jvm.MethodName) prog_1_method_49_code (5 : Nat) (Option.some Jvm.ClassFile.FieldType.int) [((4 : Nat), (51 : Nat), (52 : Nat), (75 : Nat))]) ∈ lw_all := lw_g (lw_at lw_m4 210 rfl) rfl
theorem q990 : (Jvm.Cond.instanceMethod ({ cls := "PatentHall", name := "undo", desc := "()I" } : Jvm.MethodName)) ∈ lw_all := lw_g (lw_at lw_m4 212 rfl) rfl
theorem q991 : (Jvm.Cond.selects "PatentHall" ({ cls := "PatentHall", name := "undo", desc := "()I" } : Jvm.MethodName) ({ cls := "PatentHall", name := "undo", desc := "()I" } : Jvm.MethodName)) ∈ lw_all := lw_g (lw_at lw_m4 213 rfl) rfl
theorem q992 : (Jvm.Cond.code ({ cls := "PatentHall", name := "undo", desc := "()I" } : Jvm.MethodName) prog_1_method_50_code (1 : Nat) (Option.some Jvm.ClassFile.FieldType.int)) ∈ lw_all := lw_g (lw_at lw_m4 214 rfl) rfl
theorem q993 : (Jvm.Cond.methodLink "PatentHall" (389 : Nat) ({ cls := "PatentHall$Act", name := "undo", desc := "()V" } : Jvm.MethodName)) ∈ lw_all := lw_g (lw_at lw_m4 215 rfl) rfl
theorem q1024 : (Jvm.Cond.instanceMethod ({ cls := "PatentHall", name := "count", desc := "(I)I" } : Jvm.MethodName)) ∈ lw_all := lw_g (lw_at lw_m5 6 rfl) rfl
theorem q1025 : (Jvm.Cond.selects "PatentHall" ({ cls := "PatentHall", name := "count", desc := "(I)I" } : Jvm.MethodName) ({ cls := "PatentHall", name := "count", desc := "(I)I" } : Jvm.MethodName)) ∈ lw_all := lw_g (lw_at lw_m5 7 rfl) rfl
theorem q1026 : (Jvm.Cond.code ({ cls := "PatentHall", name := "count", desc := "(I)I" } : Jvm.MethodName) prog_1_method_51_code (2 : Nat) (Option.some Jvm.ClassFile.FieldType.int)) ∈ lw_all := lw_g (lw_at lw_m5 8 rfl) rfl
theorem q1028 : (Jvm.Cond.instanceMethod ({ cls := "PatentHall", name := "trouble", desc := "()I" } : Jvm.MethodName)) ∈ lw_all := lw_g (lw_at lw_m5 10 rfl) rfl
theorem q1029 : (Jvm.Cond.selects "PatentHall" ({ cls := "PatentHall", name := "trouble", desc := "()I" } : Jvm.MethodName) ({ cls := "PatentHall", name := "trouble", desc := "()I" } : Jvm.MethodName)) ∈ lw_all := lw_g (lw_at lw_m5 11 rfl) rfl
theorem q1030 : (Jvm.Cond.code ({ cls := "PatentHall", name := "trouble", desc := "()I" } : Jvm.MethodName) prog_1_method_52_code (1 : Nat) (Option.some Jvm.ClassFile.FieldType.int)) ∈ lw_all := lw_g (lw_at lw_m5 12 rfl) rfl
theorem in_X0 : ∀ w ∈ wsX00, w ∈ lw_all := lw_in wsX00 [292, 294, 296, 298, 300, 302, 304, 306, 308, 310, 312, 314, 316, 318, 320, 322, 324, 326, 328, 330, 332, 334, 336, 338, 340, 342, 344] (by decide +kernel) (by decide +kernel)
