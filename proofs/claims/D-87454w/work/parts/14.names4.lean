/-! PatentHallModel -/
set_option maxRecDepth 100000
def RX4 : String := "PatentHallModel"
def TX4 : u_T := fun k => match k with
  | 0 => ("PatentHallModel", "thrown", "I", false)
  | 1 => ("PatentHallModel", "trouble", "I", false)
  | 2 => ("PatentHallModel", "where", "I", false)
  | 3 => ("PatentHallModel", "fault", "I", false)
  | 4 => ("PatentHallModel", "words", "I", false)
  | 5 => ("PatentHallModel", "papers", "I", false)
  | 6 => ("PatentHallModel", "files", "I", false)
  | 7 => ("PatentHallModel", "claims", "I", false)
  | 8 => ("PatentHallModel", "things", "I", false)
  | 9 => ("PatentHallModel", "now", "I", false)
  | 10 => ("PatentHallModel", "wordName", "[J", true)
  | 11 => ("PatentHallModel", "wider", "[I", true)
  | 12 => ("PatentHallModel", "paper", "[LPatentHallModel$Text;", true)
  | 13 => ("PatentHallModel", "file", "[LPatentHallModel$Text;", true)
  | 14 => ("PatentHallModel", "thing", "[LPatentHallModel$Text;", true)
  | 15 => ("PatentHallModel", "claim", "[LPatentHallModel$Text;", true)
  | 16 => ("PatentHallModel", "paperDay", "[I", true)
  | 17 => ("PatentHallModel", "paperKnown", "[I", true)
  | 18 => ("PatentHallModel", "thingKnown", "[I", true)
  | 19 => ("PatentHallModel", "fileDay", "[I", true)
  | 20 => ("PatentHallModel", "fileBack", "[I", true)
  | 21 => ("PatentHallModel", "claimFile", "[I", true)
  | 22 => ("PatentHallModel", "claimOn", "[I", true)
  | 23 => ("PatentHallModel", "claimKnown", "[I", true)
  | 24 => ("PatentHallModel", "grantDay", "[I", true)
  | 25 => ("PatentHallModel", "dropDay", "[I", true)
  | 26 => ("PatentHallModel", "actWhat", "[I", true)
  | 27 => ("PatentHallModel", "actOne", "[I", true)
  | 28 => ("PatentHallModel", "actText", "[LPatentHallModel$Text;", true)
  | 29 => ("PatentHallModel", "acts", "I", false)
  | 30 => ("PatentHallModel", "stop", "LPatentHallModel$Stop;", true)
  | 31 => ("PatentHallModel", "tape", "[B", true)
  | 32 => ("PatentHallModel", "taped", "I", false)
  | 33 => ("PatentHallModel", "size", "I", false)
  | 34 => ("PatentHallModel", "at", "I", false)
  | 35 => ("PatentHallModel", "sort", "I", false)
  | 36 => ("PatentHallModel", "place", "I", false)
  | 37 => ("PatentHallModel", "sign", "I", false)
  | 38 => ("PatentHallModel", "letters", "J", false)
  | 39 => ("PatentHallModel", "goes", "[I", true)
  | 40 => ("PatentHallModel", "firstWay", "[I", true)
  | 41 => ("PatentHallModel", "ways", "I", false)
  | 42 => ("PatentHallModel", "wayParts", "I", false)
  | 43 => ("PatentHallModel", "told", "[I", true)
  | 44 => ("PatentHallModel", "rest", "LPatentHallModel$Text;", true)
  | 45 => ("PatentHallModel", "one", "LPatentHallModel$Text;", true)
  | 46 => ("PatentHallModel", "leftBits", "I", false)
  | 47 => ("PatentHallModel", "fallen", "[I", true)
  | _ => ("PatentHallModel", "falls", "I", false)
def tyX4 : Nat → FieldType := fun k => match k with
  | 0 => .int
  | 1 => .int
  | 2 => .int
  | 3 => .int
  | 4 => .int
  | 5 => .int
  | 6 => .int
  | 7 => .int
  | 8 => .int
  | 9 => .int
  | 10 => .array .long
  | 11 => .array .int
  | 12 => .array (.object "PatentHallModel$Text")
  | 13 => .array (.object "PatentHallModel$Text")
  | 14 => .array (.object "PatentHallModel$Text")
  | 15 => .array (.object "PatentHallModel$Text")
  | 16 => .array .int
  | 17 => .array .int
  | 18 => .array .int
  | 19 => .array .int
  | 20 => .array .int
  | 21 => .array .int
  | 22 => .array .int
  | 23 => .array .int
  | 24 => .array .int
  | 25 => .array .int
  | 26 => .array .int
  | 27 => .array .int
  | 28 => .array (.object "PatentHallModel$Text")
  | 29 => .int
  | 30 => .object "PatentHallModel$Stop"
  | 31 => .array .byte
  | 32 => .int
  | 33 => .int
  | 34 => .int
  | 35 => .int
  | 36 => .int
  | 37 => .int
  | 38 => .long
  | 39 => .array .int
  | 40 => .array .int
  | 41 => .int
  | 42 => .int
  | 43 => .array .int
  | 44 => .object "PatentHallModel$Text"
  | 45 => .object "PatentHallModel$Text"
  | 46 => .int
  | 47 => .array .int
  | _ => .int
abbrev wsX40 : List Cond := u_ws RX4 TX4 49
set_option maxRecDepth 100000 in
theorem nmX4 : ∀ a, a < 49 → ∀ b, b < 49 → a ≠ b → (TX4 a).2.1 ≠ (TX4 b).2.1 := by decide +kernel
set_option maxRecDepth 100000 in
theorem tyX4_ok : ∀ k, k < 49 → parseFieldDescriptor (TX4 k).2.2.1 = some (tyX4 k) := by decide +kernel
abbrev cX4_init : ByteArray := prog_22_method_1_code
def yX4_init : MethodName := ⟨RX4, "<init>", "()V"⟩
def dkwX4_init_10 : List UInt8 := [181, 0, 103, 42, 16, 40, 188, 10, 181, 0, 106, 177]
abbrev dktX4_init_10 : List UInt8 := dkwX4_init_10 ++ []
def dkwX4_init_9 : List UInt8 := [187, 0, 21, 89, 183, 0, 95, 181, 0, 96, 42, 187, 0, 21, 89, 183, 0, 95, 181, 0, 100, 42, 2]
abbrev dktX4_init_9 : List UInt8 := dkwX4_init_9 ++ dktX4_init_10
def dkwX4_init_8 : List UInt8 := [188, 10, 181, 0, 86, 42, 16, 8, 188, 10, 181, 0, 89, 42, 16, 8, 188, 10, 181, 0, 92, 42]
abbrev dktX4_init_8 : List UInt8 := dkwX4_init_8 ++ dktX4_init_9
def dkwX4_init_7 : List UInt8 := [42, 187, 0, 75, 89, 183, 0, 77, 181, 0, 78, 42, 17, 1, 44, 188, 8, 181, 0, 82, 42, 16, 8]
abbrev dktX4_init_7 : List UInt8 := dkwX4_init_7 ++ dktX4_init_8
def dkwX4_init_6 : List UInt8 := [16, 100, 188, 10, 181, 0, 66, 42, 16, 100, 188, 10, 181, 0, 69, 42, 16, 100, 189, 0, 21, 181, 0, 72]
abbrev dktX4_init_6 : List UInt8 := dkwX4_init_6 ++ dktX4_init_7
def dkwX4_init_5 : List UInt8 := [16, 40, 188, 10, 181, 0, 57, 42, 16, 40, 188, 10, 181, 0, 60, 42, 16, 40, 188, 10, 181, 0, 63, 42]
abbrev dktX4_init_5 : List UInt8 := dkwX4_init_5 ++ dktX4_init_6
def dkwX4_init_4 : List UInt8 := [16, 8, 188, 10, 181, 0, 48, 42, 16, 40, 188, 10, 181, 0, 51, 42, 16, 40, 188, 10, 181, 0, 54, 42]
abbrev dktX4_init_4 : List UInt8 := dkwX4_init_4 ++ dktX4_init_5
def dkwX4_init_3 : List UInt8 := [16, 20, 188, 10, 181, 0, 39, 42, 16, 12, 188, 10, 181, 0, 42, 42, 16, 8, 188, 10, 181, 0, 45, 42]
abbrev dktX4_init_3 : List UInt8 := dkwX4_init_3 ++ dktX4_init_4
def dkwX4_init_2 : List UInt8 := [189, 0, 21, 181, 0, 30, 42, 16, 40, 189, 0, 21, 181, 0, 33, 42, 16, 20, 188, 10, 181, 0, 36, 42]
abbrev dktX4_init_2 : List UInt8 := dkwX4_init_2 ++ dktX4_init_3
def dkwX4_init_1 : List UInt8 := [181, 0, 17, 42, 16, 20, 189, 0, 21, 181, 0, 23, 42, 16, 8, 189, 0, 21, 181, 0, 27, 42, 16, 12]
abbrev dktX4_init_1 : List UInt8 := dkwX4_init_1 ++ dktX4_init_2
def dkwX4_init_0 : List UInt8 := [42, 183, 0, 1, 42, 2, 181, 0, 9, 42, 16, 60, 188, 11, 181, 0, 13, 42, 16, 60, 188, 10]
abbrev dktX4_init_0 : List UInt8 := dkwX4_init_0 ++ dktX4_init_1
theorem dksX4_init_0 : cX4_init.data.toList.drop 0 = dktX4_init_0 := by decide +kernel
theorem dksX4_init_1 : cX4_init.data.toList.drop 22 = dktX4_init_1 := dk_seg dksX4_init_0 22 rfl rfl
theorem dksX4_init_2 : cX4_init.data.toList.drop 46 = dktX4_init_2 := dk_seg dksX4_init_1 24 rfl rfl
theorem dksX4_init_3 : cX4_init.data.toList.drop 70 = dktX4_init_3 := dk_seg dksX4_init_2 24 rfl rfl
theorem dksX4_init_4 : cX4_init.data.toList.drop 94 = dktX4_init_4 := dk_seg dksX4_init_3 24 rfl rfl
theorem dksX4_init_5 : cX4_init.data.toList.drop 118 = dktX4_init_5 := dk_seg dksX4_init_4 24 rfl rfl
theorem dksX4_init_6 : cX4_init.data.toList.drop 142 = dktX4_init_6 := dk_seg dksX4_init_5 24 rfl rfl
theorem dksX4_init_7 : cX4_init.data.toList.drop 166 = dktX4_init_7 := dk_seg dksX4_init_6 24 rfl rfl
theorem dksX4_init_8 : cX4_init.data.toList.drop 189 = dktX4_init_8 := dk_seg dksX4_init_7 23 rfl rfl
theorem dksX4_init_9 : cX4_init.data.toList.drop 211 = dktX4_init_9 := dk_seg dksX4_init_8 22 rfl rfl
theorem dksX4_init_10 : cX4_init.data.toList.drop 234 = dktX4_init_10 := dk_seg dksX4_init_9 23 rfl rfl
theorem dX4_init_0 : decode cX4_init 0 = .ok (.aload_n 0, 1) := dk_42 (dk_at dksX4_init_0 0 rfl rfl)
theorem dX4_init_1 : decode cX4_init 1 = .ok (.invokespecial 1, 3) := dk_183 0 1 (dk_at dksX4_init_0 1 rfl rfl)
theorem dX4_init_4 : decode cX4_init 4 = .ok (.aload_n 0, 1) := dk_42 (dk_at dksX4_init_0 4 rfl rfl)
theorem dX4_init_5 : decode cX4_init 5 = .ok (.iconst (-1), 1) := dk_2 (dk_at dksX4_init_0 5 rfl rfl)
theorem dX4_init_6 : decode cX4_init 6 = .ok (.putfield 9, 3) := dk_181 0 9 (dk_at dksX4_init_0 6 rfl rfl)
theorem dX4_init_9 : decode cX4_init 9 = .ok (.aload_n 0, 1) := dk_42 (dk_at dksX4_init_0 9 rfl rfl)
theorem dX4_init_10 : decode cX4_init 10 = .ok (.bipush 60, 2) := dk_16 60 (dk_at dksX4_init_0 10 rfl rfl)
theorem dX4_init_12 : decode cX4_init 12 = .ok (.newarray .long, 2) := dk_188_11 (dk_at dksX4_init_0 12 rfl rfl)
theorem dX4_init_14 : decode cX4_init 14 = .ok (.putfield 13, 3) := dk_181 0 13 (dk_at dksX4_init_0 14 rfl rfl)
theorem dX4_init_17 : decode cX4_init 17 = .ok (.aload_n 0, 1) := dk_42 (dk_at dksX4_init_0 17 rfl rfl)
theorem dX4_init_18 : decode cX4_init 18 = .ok (.bipush 60, 2) := dk_16 60 (dk_at dksX4_init_0 18 rfl rfl)
theorem dX4_init_20 : decode cX4_init 20 = .ok (.newarray .int, 2) := dk_188_10 (dk_at dksX4_init_0 20 rfl rfl)
theorem dX4_init_22 : decode cX4_init 22 = .ok (.putfield 17, 3) := dk_181 0 17 (dk_at dksX4_init_1 0 rfl rfl)
theorem dX4_init_25 : decode cX4_init 25 = .ok (.aload_n 0, 1) := dk_42 (dk_at dksX4_init_1 3 rfl rfl)
theorem dX4_init_26 : decode cX4_init 26 = .ok (.bipush 20, 2) := dk_16 20 (dk_at dksX4_init_1 4 rfl rfl)
theorem dX4_init_28 : decode cX4_init 28 = .ok (.anewarray 21, 3) := dk_189 0 21 (dk_at dksX4_init_1 6 rfl rfl)
theorem dX4_init_31 : decode cX4_init 31 = .ok (.putfield 23, 3) := dk_181 0 23 (dk_at dksX4_init_1 9 rfl rfl)
theorem dX4_init_34 : decode cX4_init 34 = .ok (.aload_n 0, 1) := dk_42 (dk_at dksX4_init_1 12 rfl rfl)
theorem dX4_init_35 : decode cX4_init 35 = .ok (.bipush 8, 2) := dk_16 8 (dk_at dksX4_init_1 13 rfl rfl)
theorem dX4_init_37 : decode cX4_init 37 = .ok (.anewarray 21, 3) := dk_189 0 21 (dk_at dksX4_init_1 15 rfl rfl)
theorem dX4_init_40 : decode cX4_init 40 = .ok (.putfield 27, 3) := dk_181 0 27 (dk_at dksX4_init_1 18 rfl rfl)
theorem dX4_init_43 : decode cX4_init 43 = .ok (.aload_n 0, 1) := dk_42 (dk_at dksX4_init_1 21 rfl rfl)
theorem dX4_init_44 : decode cX4_init 44 = .ok (.bipush 12, 2) := dk_16 12 (dk_at dksX4_init_1 22 rfl rfl)
theorem dX4_init_46 : decode cX4_init 46 = .ok (.anewarray 21, 3) := dk_189 0 21 (dk_at dksX4_init_2 0 rfl rfl)
theorem dX4_init_49 : decode cX4_init 49 = .ok (.putfield 30, 3) := dk_181 0 30 (dk_at dksX4_init_2 3 rfl rfl)
theorem dX4_init_52 : decode cX4_init 52 = .ok (.aload_n 0, 1) := dk_42 (dk_at dksX4_init_2 6 rfl rfl)
theorem dX4_init_53 : decode cX4_init 53 = .ok (.bipush 40, 2) := dk_16 40 (dk_at dksX4_init_2 7 rfl rfl)
theorem dX4_init_55 : decode cX4_init 55 = .ok (.anewarray 21, 3) := dk_189 0 21 (dk_at dksX4_init_2 9 rfl rfl)
theorem dX4_init_58 : decode cX4_init 58 = .ok (.putfield 33, 3) := dk_181 0 33 (dk_at dksX4_init_2 12 rfl rfl)
theorem dX4_init_61 : decode cX4_init 61 = .ok (.aload_n 0, 1) := dk_42 (dk_at dksX4_init_2 15 rfl rfl)
theorem dX4_init_62 : decode cX4_init 62 = .ok (.bipush 20, 2) := dk_16 20 (dk_at dksX4_init_2 16 rfl rfl)
theorem dX4_init_64 : decode cX4_init 64 = .ok (.newarray .int, 2) := dk_188_10 (dk_at dksX4_init_2 18 rfl rfl)
theorem dX4_init_66 : decode cX4_init 66 = .ok (.putfield 36, 3) := dk_181 0 36 (dk_at dksX4_init_2 20 rfl rfl)
theorem dX4_init_69 : decode cX4_init 69 = .ok (.aload_n 0, 1) := dk_42 (dk_at dksX4_init_2 23 rfl rfl)
theorem dX4_init_70 : decode cX4_init 70 = .ok (.bipush 20, 2) := dk_16 20 (dk_at dksX4_init_3 0 rfl rfl)
theorem dX4_init_72 : decode cX4_init 72 = .ok (.newarray .int, 2) := dk_188_10 (dk_at dksX4_init_3 2 rfl rfl)
theorem dX4_init_74 : decode cX4_init 74 = .ok (.putfield 39, 3) := dk_181 0 39 (dk_at dksX4_init_3 4 rfl rfl)
theorem dX4_init_77 : decode cX4_init 77 = .ok (.aload_n 0, 1) := dk_42 (dk_at dksX4_init_3 7 rfl rfl)
theorem dX4_init_78 : decode cX4_init 78 = .ok (.bipush 12, 2) := dk_16 12 (dk_at dksX4_init_3 8 rfl rfl)
theorem dX4_init_80 : decode cX4_init 80 = .ok (.newarray .int, 2) := dk_188_10 (dk_at dksX4_init_3 10 rfl rfl)
theorem dX4_init_82 : decode cX4_init 82 = .ok (.putfield 42, 3) := dk_181 0 42 (dk_at dksX4_init_3 12 rfl rfl)
theorem dX4_init_85 : decode cX4_init 85 = .ok (.aload_n 0, 1) := dk_42 (dk_at dksX4_init_3 15 rfl rfl)
theorem dX4_init_86 : decode cX4_init 86 = .ok (.bipush 8, 2) := dk_16 8 (dk_at dksX4_init_3 16 rfl rfl)
theorem dX4_init_88 : decode cX4_init 88 = .ok (.newarray .int, 2) := dk_188_10 (dk_at dksX4_init_3 18 rfl rfl)
theorem dX4_init_90 : decode cX4_init 90 = .ok (.putfield 45, 3) := dk_181 0 45 (dk_at dksX4_init_3 20 rfl rfl)
theorem dX4_init_93 : decode cX4_init 93 = .ok (.aload_n 0, 1) := dk_42 (dk_at dksX4_init_3 23 rfl rfl)
theorem dX4_init_94 : decode cX4_init 94 = .ok (.bipush 8, 2) := dk_16 8 (dk_at dksX4_init_4 0 rfl rfl)
theorem dX4_init_96 : decode cX4_init 96 = .ok (.newarray .int, 2) := dk_188_10 (dk_at dksX4_init_4 2 rfl rfl)
theorem dX4_init_98 : decode cX4_init 98 = .ok (.putfield 48, 3) := dk_181 0 48 (dk_at dksX4_init_4 4 rfl rfl)
theorem dX4_init_101 : decode cX4_init 101 = .ok (.aload_n 0, 1) := dk_42 (dk_at dksX4_init_4 7 rfl rfl)
theorem dX4_init_102 : decode cX4_init 102 = .ok (.bipush 40, 2) := dk_16 40 (dk_at dksX4_init_4 8 rfl rfl)
theorem dX4_init_104 : decode cX4_init 104 = .ok (.newarray .int, 2) := dk_188_10 (dk_at dksX4_init_4 10 rfl rfl)
theorem dX4_init_106 : decode cX4_init 106 = .ok (.putfield 51, 3) := dk_181 0 51 (dk_at dksX4_init_4 12 rfl rfl)
theorem dX4_init_109 : decode cX4_init 109 = .ok (.aload_n 0, 1) := dk_42 (dk_at dksX4_init_4 15 rfl rfl)
theorem dX4_init_110 : decode cX4_init 110 = .ok (.bipush 40, 2) := dk_16 40 (dk_at dksX4_init_4 16 rfl rfl)
theorem dX4_init_112 : decode cX4_init 112 = .ok (.newarray .int, 2) := dk_188_10 (dk_at dksX4_init_4 18 rfl rfl)
theorem dX4_init_114 : decode cX4_init 114 = .ok (.putfield 54, 3) := dk_181 0 54 (dk_at dksX4_init_4 20 rfl rfl)
theorem dX4_init_117 : decode cX4_init 117 = .ok (.aload_n 0, 1) := dk_42 (dk_at dksX4_init_4 23 rfl rfl)
theorem dX4_init_118 : decode cX4_init 118 = .ok (.bipush 40, 2) := dk_16 40 (dk_at dksX4_init_5 0 rfl rfl)
theorem dX4_init_120 : decode cX4_init 120 = .ok (.newarray .int, 2) := dk_188_10 (dk_at dksX4_init_5 2 rfl rfl)
theorem dX4_init_122 : decode cX4_init 122 = .ok (.putfield 57, 3) := dk_181 0 57 (dk_at dksX4_init_5 4 rfl rfl)
theorem dX4_init_125 : decode cX4_init 125 = .ok (.aload_n 0, 1) := dk_42 (dk_at dksX4_init_5 7 rfl rfl)
theorem dX4_init_126 : decode cX4_init 126 = .ok (.bipush 40, 2) := dk_16 40 (dk_at dksX4_init_5 8 rfl rfl)
theorem dX4_init_128 : decode cX4_init 128 = .ok (.newarray .int, 2) := dk_188_10 (dk_at dksX4_init_5 10 rfl rfl)
theorem dX4_init_130 : decode cX4_init 130 = .ok (.putfield 60, 3) := dk_181 0 60 (dk_at dksX4_init_5 12 rfl rfl)
theorem dX4_init_133 : decode cX4_init 133 = .ok (.aload_n 0, 1) := dk_42 (dk_at dksX4_init_5 15 rfl rfl)
theorem dX4_init_134 : decode cX4_init 134 = .ok (.bipush 40, 2) := dk_16 40 (dk_at dksX4_init_5 16 rfl rfl)
theorem dX4_init_136 : decode cX4_init 136 = .ok (.newarray .int, 2) := dk_188_10 (dk_at dksX4_init_5 18 rfl rfl)
theorem dX4_init_138 : decode cX4_init 138 = .ok (.putfield 63, 3) := dk_181 0 63 (dk_at dksX4_init_5 20 rfl rfl)
theorem dX4_init_141 : decode cX4_init 141 = .ok (.aload_n 0, 1) := dk_42 (dk_at dksX4_init_5 23 rfl rfl)
theorem dX4_init_142 : decode cX4_init 142 = .ok (.bipush 100, 2) := dk_16 100 (dk_at dksX4_init_6 0 rfl rfl)
theorem dX4_init_144 : decode cX4_init 144 = .ok (.newarray .int, 2) := dk_188_10 (dk_at dksX4_init_6 2 rfl rfl)
theorem dX4_init_146 : decode cX4_init 146 = .ok (.putfield 66, 3) := dk_181 0 66 (dk_at dksX4_init_6 4 rfl rfl)
theorem dX4_init_149 : decode cX4_init 149 = .ok (.aload_n 0, 1) := dk_42 (dk_at dksX4_init_6 7 rfl rfl)
theorem dX4_init_150 : decode cX4_init 150 = .ok (.bipush 100, 2) := dk_16 100 (dk_at dksX4_init_6 8 rfl rfl)
theorem dX4_init_152 : decode cX4_init 152 = .ok (.newarray .int, 2) := dk_188_10 (dk_at dksX4_init_6 10 rfl rfl)
theorem dX4_init_154 : decode cX4_init 154 = .ok (.putfield 69, 3) := dk_181 0 69 (dk_at dksX4_init_6 12 rfl rfl)
theorem dX4_init_157 : decode cX4_init 157 = .ok (.aload_n 0, 1) := dk_42 (dk_at dksX4_init_6 15 rfl rfl)
theorem dX4_init_158 : decode cX4_init 158 = .ok (.bipush 100, 2) := dk_16 100 (dk_at dksX4_init_6 16 rfl rfl)
theorem dX4_init_160 : decode cX4_init 160 = .ok (.anewarray 21, 3) := dk_189 0 21 (dk_at dksX4_init_6 18 rfl rfl)
theorem dX4_init_163 : decode cX4_init 163 = .ok (.putfield 72, 3) := dk_181 0 72 (dk_at dksX4_init_6 21 rfl rfl)
theorem dX4_init_166 : decode cX4_init 166 = .ok (.aload_n 0, 1) := dk_42 (dk_at dksX4_init_7 0 rfl rfl)
theorem dX4_init_167 : decode cX4_init 167 = .ok (.new 75, 3) := dk_187 0 75 (dk_at dksX4_init_7 1 rfl rfl)
theorem dX4_init_170 : decode cX4_init 170 = .ok (.dup, 1) := dk_89 (dk_at dksX4_init_7 4 rfl rfl)
theorem dX4_init_171 : decode cX4_init 171 = .ok (.invokespecial 77, 3) := dk_183 0 77 (dk_at dksX4_init_7 5 rfl rfl)
theorem dX4_init_174 : decode cX4_init 174 = .ok (.putfield 78, 3) := dk_181 0 78 (dk_at dksX4_init_7 8 rfl rfl)
theorem dX4_init_177 : decode cX4_init 177 = .ok (.aload_n 0, 1) := dk_42 (dk_at dksX4_init_7 11 rfl rfl)
theorem dX4_init_178 : decode cX4_init 178 = .ok (.sipush 300, 3) := dk_17 1 44 (dk_at dksX4_init_7 12 rfl rfl)
theorem dX4_init_181 : decode cX4_init 181 = .ok (.newarray .byte, 2) := dk_188_8 (dk_at dksX4_init_7 15 rfl rfl)
theorem dX4_init_183 : decode cX4_init 183 = .ok (.putfield 82, 3) := dk_181 0 82 (dk_at dksX4_init_7 17 rfl rfl)
theorem dX4_init_186 : decode cX4_init 186 = .ok (.aload_n 0, 1) := dk_42 (dk_at dksX4_init_7 20 rfl rfl)
theorem dX4_init_187 : decode cX4_init 187 = .ok (.bipush 8, 2) := dk_16 8 (dk_at dksX4_init_7 21 rfl rfl)
theorem dX4_init_189 : decode cX4_init 189 = .ok (.newarray .int, 2) := dk_188_10 (dk_at dksX4_init_8 0 rfl rfl)
theorem dX4_init_191 : decode cX4_init 191 = .ok (.putfield 86, 3) := dk_181 0 86 (dk_at dksX4_init_8 2 rfl rfl)
theorem dX4_init_194 : decode cX4_init 194 = .ok (.aload_n 0, 1) := dk_42 (dk_at dksX4_init_8 5 rfl rfl)
theorem dX4_init_195 : decode cX4_init 195 = .ok (.bipush 8, 2) := dk_16 8 (dk_at dksX4_init_8 6 rfl rfl)
theorem dX4_init_197 : decode cX4_init 197 = .ok (.newarray .int, 2) := dk_188_10 (dk_at dksX4_init_8 8 rfl rfl)
theorem dX4_init_199 : decode cX4_init 199 = .ok (.putfield 89, 3) := dk_181 0 89 (dk_at dksX4_init_8 10 rfl rfl)
theorem dX4_init_202 : decode cX4_init 202 = .ok (.aload_n 0, 1) := dk_42 (dk_at dksX4_init_8 13 rfl rfl)
theorem dX4_init_203 : decode cX4_init 203 = .ok (.bipush 8, 2) := dk_16 8 (dk_at dksX4_init_8 14 rfl rfl)
theorem dX4_init_205 : decode cX4_init 205 = .ok (.newarray .int, 2) := dk_188_10 (dk_at dksX4_init_8 16 rfl rfl)
theorem dX4_init_207 : decode cX4_init 207 = .ok (.putfield 92, 3) := dk_181 0 92 (dk_at dksX4_init_8 18 rfl rfl)
theorem dX4_init_210 : decode cX4_init 210 = .ok (.aload_n 0, 1) := dk_42 (dk_at dksX4_init_8 21 rfl rfl)
theorem dX4_init_211 : decode cX4_init 211 = .ok (.new 21, 3) := dk_187 0 21 (dk_at dksX4_init_9 0 rfl rfl)
theorem dX4_init_214 : decode cX4_init 214 = .ok (.dup, 1) := dk_89 (dk_at dksX4_init_9 3 rfl rfl)
theorem dX4_init_215 : decode cX4_init 215 = .ok (.invokespecial 95, 3) := dk_183 0 95 (dk_at dksX4_init_9 4 rfl rfl)
theorem dX4_init_218 : decode cX4_init 218 = .ok (.putfield 96, 3) := dk_181 0 96 (dk_at dksX4_init_9 7 rfl rfl)
theorem dX4_init_221 : decode cX4_init 221 = .ok (.aload_n 0, 1) := dk_42 (dk_at dksX4_init_9 10 rfl rfl)
theorem dX4_init_222 : decode cX4_init 222 = .ok (.new 21, 3) := dk_187 0 21 (dk_at dksX4_init_9 11 rfl rfl)
theorem dX4_init_225 : decode cX4_init 225 = .ok (.dup, 1) := dk_89 (dk_at dksX4_init_9 14 rfl rfl)
theorem dX4_init_226 : decode cX4_init 226 = .ok (.invokespecial 95, 3) := dk_183 0 95 (dk_at dksX4_init_9 15 rfl rfl)
theorem dX4_init_229 : decode cX4_init 229 = .ok (.putfield 100, 3) := dk_181 0 100 (dk_at dksX4_init_9 18 rfl rfl)
theorem dX4_init_232 : decode cX4_init 232 = .ok (.aload_n 0, 1) := dk_42 (dk_at dksX4_init_9 21 rfl rfl)
theorem dX4_init_233 : decode cX4_init 233 = .ok (.iconst (-1), 1) := dk_2 (dk_at dksX4_init_9 22 rfl rfl)
theorem dX4_init_234 : decode cX4_init 234 = .ok (.putfield 103, 3) := dk_181 0 103 (dk_at dksX4_init_10 0 rfl rfl)
theorem dX4_init_237 : decode cX4_init 237 = .ok (.aload_n 0, 1) := dk_42 (dk_at dksX4_init_10 3 rfl rfl)
theorem dX4_init_238 : decode cX4_init 238 = .ok (.bipush 40, 2) := dk_16 40 (dk_at dksX4_init_10 4 rfl rfl)
theorem dX4_init_240 : decode cX4_init 240 = .ok (.newarray .int, 2) := dk_188_10 (dk_at dksX4_init_10 6 rfl rfl)
theorem dX4_init_242 : decode cX4_init 242 = .ok (.putfield 106, 3) := dk_181 0 106 (dk_at dksX4_init_10 8 rfl rfl)
theorem dX4_init_245 : decode cX4_init 245 = .ok (.return_, 1) := dk_177 (dk_at dksX4_init_10 11 rfl rfl)
abbrev cX4_undo : ByteArray := prog_22_method_9_code
def yX4_undo : MethodName := ⟨RX4, "undo", "()I"⟩
def dkwX4_undo_7 : List UInt8 := [180, 0, 60, 27, 2, 79, 167, 0, 10, 42, 180, 0, 63, 27, 2, 79, 4, 172]
abbrev dktX4_undo_7 : List UInt8 := dkwX4_undo_7 ++ []
def dkwX4_undo_6 : List UInt8 := [167, 0, 38, 42, 180, 0, 33, 27, 42, 180, 0, 72, 42, 180, 0, 115, 50, 83, 167, 0, 20, 42]
abbrev dktX4_undo_6 : List UInt8 := dkwX4_undo_6 ++ dktX4_undo_7
def dkwX4_undo_5 : List UInt8 := [42, 89, 180, 0, 130, 4, 100, 181, 0, 130, 167, 0, 51, 42, 89, 180, 0, 133, 4, 100, 181, 0, 133]
abbrev dktX4_undo_5 : List UInt8 := dkwX4_undo_5 ++ dktX4_undo_6
def dkwX4_undo_4 : List UInt8 := [180, 0, 124, 4, 100, 181, 0, 124, 167, 0, 77, 42, 89, 180, 0, 127, 4, 100, 181, 0, 127, 167, 0, 64]
abbrev dktX4_undo_4 : List UInt8 := dkwX4_undo_4 ++ dktX4_undo_5
def dkwX4_undo_3 : List UInt8 := [42, 89, 180, 0, 118, 4, 100, 181, 0, 118, 167, 0, 98, 42, 27, 181, 0, 121, 167, 0, 90, 42, 89]
abbrev dktX4_undo_3 : List UInt8 := dkwX4_undo_3 ++ dktX4_undo_4
def dkwX4_undo_2 : List UInt8 := [170, 0, 0, 0, 146, 0, 0, 0, 0, 0, 0, 0, 7, 0, 0, 0, 45, 0, 0, 0, 58, 0, 0, 0, 66, 0, 0, 0, 79, 0, 0, 0, 92, 0, 0, 0, 105, 0, 0, 0, 118, 0, 0, 0, 136]
abbrev dktX4_undo_2 : List UInt8 := dkwX4_undo_2 ++ dktX4_undo_3
def dkwX4_undo_1 : List UInt8 := [42, 180, 0, 69, 42, 180, 0, 115, 46, 60, 42, 180, 0, 66, 42, 180, 0, 115, 46]
abbrev dktX4_undo_1 : List UInt8 := dkwX4_undo_1 ++ dktX4_undo_2
def dkwX4_undo_0 : List UInt8 := [42, 3, 181, 0, 109, 42, 180, 0, 115, 154, 0, 5, 3, 172, 42, 89, 180, 0, 115, 4, 100, 181, 0, 115]
abbrev dktX4_undo_0 : List UInt8 := dkwX4_undo_0 ++ dktX4_undo_1
theorem dksX4_undo_0 : cX4_undo.data.toList.drop 0 = dktX4_undo_0 := by decide +kernel
theorem dksX4_undo_1 : cX4_undo.data.toList.drop 24 = dktX4_undo_1 := dk_seg dksX4_undo_0 24 rfl rfl
theorem dksX4_undo_2 : cX4_undo.data.toList.drop 43 = dktX4_undo_2 := dk_seg dksX4_undo_1 19 rfl rfl
theorem dksX4_undo_3 : cX4_undo.data.toList.drop 88 = dktX4_undo_3 := dk_seg dksX4_undo_2 45 rfl rfl
theorem dksX4_undo_4 : cX4_undo.data.toList.drop 111 = dktX4_undo_4 := dk_seg dksX4_undo_3 23 rfl rfl
theorem dksX4_undo_5 : cX4_undo.data.toList.drop 135 = dktX4_undo_5 := dk_seg dksX4_undo_4 24 rfl rfl
theorem dksX4_undo_6 : cX4_undo.data.toList.drop 158 = dktX4_undo_6 := dk_seg dksX4_undo_5 23 rfl rfl
theorem dksX4_undo_7 : cX4_undo.data.toList.drop 180 = dktX4_undo_7 := dk_seg dksX4_undo_6 22 rfl rfl
theorem dX4_undo_0 : decode cX4_undo 0 = .ok (.aload_n 0, 1) := dk_42 (dk_at dksX4_undo_0 0 rfl rfl)
theorem dX4_undo_1 : decode cX4_undo 1 = .ok (.iconst 0, 1) := dk_3 (dk_at dksX4_undo_0 1 rfl rfl)
theorem dX4_undo_2 : decode cX4_undo 2 = .ok (.putfield 109, 3) := dk_181 0 109 (dk_at dksX4_undo_0 2 rfl rfl)
theorem dX4_undo_5 : decode cX4_undo 5 = .ok (.aload_n 0, 1) := dk_42 (dk_at dksX4_undo_0 5 rfl rfl)
theorem dX4_undo_6 : decode cX4_undo 6 = .ok (.getfield 115, 3) := dk_180 0 115 (dk_at dksX4_undo_0 6 rfl rfl)
theorem dX4_undo_9 : decode cX4_undo 9 = .ok (.ifCond .ne 5, 3) := dk_154 0 5 (dk_at dksX4_undo_0 9 rfl rfl)
theorem dX4_undo_12 : decode cX4_undo 12 = .ok (.iconst 0, 1) := dk_3 (dk_at dksX4_undo_0 12 rfl rfl)
theorem dX4_undo_13 : decode cX4_undo 13 = .ok (.ireturn, 1) := dk_172 (dk_at dksX4_undo_0 13 rfl rfl)
theorem dX4_undo_14 : decode cX4_undo 14 = .ok (.aload_n 0, 1) := dk_42 (dk_at dksX4_undo_0 14 rfl rfl)
theorem dX4_undo_15 : decode cX4_undo 15 = .ok (.dup, 1) := dk_89 (dk_at dksX4_undo_0 15 rfl rfl)
theorem dX4_undo_16 : decode cX4_undo 16 = .ok (.getfield 115, 3) := dk_180 0 115 (dk_at dksX4_undo_0 16 rfl rfl)
theorem dX4_undo_19 : decode cX4_undo 19 = .ok (.iconst 1, 1) := dk_4 (dk_at dksX4_undo_0 19 rfl rfl)
theorem dX4_undo_20 : decode cX4_undo 20 = .ok (.isub, 1) := dk_100 (dk_at dksX4_undo_0 20 rfl rfl)
theorem dX4_undo_21 : decode cX4_undo 21 = .ok (.putfield 115, 3) := dk_181 0 115 (dk_at dksX4_undo_0 21 rfl rfl)
theorem dX4_undo_24 : decode cX4_undo 24 = .ok (.aload_n 0, 1) := dk_42 (dk_at dksX4_undo_1 0 rfl rfl)
theorem dX4_undo_25 : decode cX4_undo 25 = .ok (.getfield 69, 3) := dk_180 0 69 (dk_at dksX4_undo_1 1 rfl rfl)
theorem dX4_undo_28 : decode cX4_undo 28 = .ok (.aload_n 0, 1) := dk_42 (dk_at dksX4_undo_1 4 rfl rfl)
theorem dX4_undo_29 : decode cX4_undo 29 = .ok (.getfield 115, 3) := dk_180 0 115 (dk_at dksX4_undo_1 5 rfl rfl)
theorem dX4_undo_32 : decode cX4_undo 32 = .ok (.iaload, 1) := dk_46 (dk_at dksX4_undo_1 8 rfl rfl)
theorem dX4_undo_33 : decode cX4_undo 33 = .ok (.istore_n 1, 1) := dk_60 (dk_at dksX4_undo_1 9 rfl rfl)
theorem dX4_undo_34 : decode cX4_undo 34 = .ok (.aload_n 0, 1) := dk_42 (dk_at dksX4_undo_1 10 rfl rfl)
theorem dX4_undo_35 : decode cX4_undo 35 = .ok (.getfield 66, 3) := dk_180 0 66 (dk_at dksX4_undo_1 11 rfl rfl)
theorem dX4_undo_38 : decode cX4_undo 38 = .ok (.aload_n 0, 1) := dk_42 (dk_at dksX4_undo_1 14 rfl rfl)
theorem dX4_undo_39 : decode cX4_undo 39 = .ok (.getfield 115, 3) := dk_180 0 115 (dk_at dksX4_undo_1 15 rfl rfl)
theorem dX4_undo_42 : decode cX4_undo 42 = .ok (.iaload, 1) := dk_46 (dk_at dksX4_undo_1 18 rfl rfl)
theorem dX4_undo_43 : decode cX4_undo 43 = .ok (.tableswitch 146 0 7 #[45, 58, 66, 79, 92, 105, 118, 136], 45) := by decide +kernel
theorem dX4_undo_88 : decode cX4_undo 88 = .ok (.aload_n 0, 1) := dk_42 (dk_at dksX4_undo_3 0 rfl rfl)
theorem dX4_undo_89 : decode cX4_undo 89 = .ok (.dup, 1) := dk_89 (dk_at dksX4_undo_3 1 rfl rfl)
theorem dX4_undo_90 : decode cX4_undo 90 = .ok (.getfield 118, 3) := dk_180 0 118 (dk_at dksX4_undo_3 2 rfl rfl)
theorem dX4_undo_93 : decode cX4_undo 93 = .ok (.iconst 1, 1) := dk_4 (dk_at dksX4_undo_3 5 rfl rfl)
theorem dX4_undo_94 : decode cX4_undo 94 = .ok (.isub, 1) := dk_100 (dk_at dksX4_undo_3 6 rfl rfl)
theorem dX4_undo_95 : decode cX4_undo 95 = .ok (.putfield 118, 3) := dk_181 0 118 (dk_at dksX4_undo_3 7 rfl rfl)
theorem dX4_undo_98 : decode cX4_undo 98 = .ok (.goto 98, 3) := dk_167 0 98 (dk_at dksX4_undo_3 10 rfl rfl)
theorem dX4_undo_101 : decode cX4_undo 101 = .ok (.aload_n 0, 1) := dk_42 (dk_at dksX4_undo_3 13 rfl rfl)
theorem dX4_undo_102 : decode cX4_undo 102 = .ok (.iload_n 1, 1) := dk_27 (dk_at dksX4_undo_3 14 rfl rfl)
theorem dX4_undo_103 : decode cX4_undo 103 = .ok (.putfield 121, 3) := dk_181 0 121 (dk_at dksX4_undo_3 15 rfl rfl)
theorem dX4_undo_106 : decode cX4_undo 106 = .ok (.goto 90, 3) := dk_167 0 90 (dk_at dksX4_undo_3 18 rfl rfl)
theorem dX4_undo_109 : decode cX4_undo 109 = .ok (.aload_n 0, 1) := dk_42 (dk_at dksX4_undo_3 21 rfl rfl)
theorem dX4_undo_110 : decode cX4_undo 110 = .ok (.dup, 1) := dk_89 (dk_at dksX4_undo_3 22 rfl rfl)
theorem dX4_undo_111 : decode cX4_undo 111 = .ok (.getfield 124, 3) := dk_180 0 124 (dk_at dksX4_undo_4 0 rfl rfl)
theorem dX4_undo_114 : decode cX4_undo 114 = .ok (.iconst 1, 1) := dk_4 (dk_at dksX4_undo_4 3 rfl rfl)
theorem dX4_undo_115 : decode cX4_undo 115 = .ok (.isub, 1) := dk_100 (dk_at dksX4_undo_4 4 rfl rfl)
theorem dX4_undo_116 : decode cX4_undo 116 = .ok (.putfield 124, 3) := dk_181 0 124 (dk_at dksX4_undo_4 5 rfl rfl)
theorem dX4_undo_119 : decode cX4_undo 119 = .ok (.goto 77, 3) := dk_167 0 77 (dk_at dksX4_undo_4 8 rfl rfl)
theorem dX4_undo_122 : decode cX4_undo 122 = .ok (.aload_n 0, 1) := dk_42 (dk_at dksX4_undo_4 11 rfl rfl)
theorem dX4_undo_123 : decode cX4_undo 123 = .ok (.dup, 1) := dk_89 (dk_at dksX4_undo_4 12 rfl rfl)
theorem dX4_undo_124 : decode cX4_undo 124 = .ok (.getfield 127, 3) := dk_180 0 127 (dk_at dksX4_undo_4 13 rfl rfl)
theorem dX4_undo_127 : decode cX4_undo 127 = .ok (.iconst 1, 1) := dk_4 (dk_at dksX4_undo_4 16 rfl rfl)
theorem dX4_undo_128 : decode cX4_undo 128 = .ok (.isub, 1) := dk_100 (dk_at dksX4_undo_4 17 rfl rfl)
theorem dX4_undo_129 : decode cX4_undo 129 = .ok (.putfield 127, 3) := dk_181 0 127 (dk_at dksX4_undo_4 18 rfl rfl)
theorem dX4_undo_132 : decode cX4_undo 132 = .ok (.goto 64, 3) := dk_167 0 64 (dk_at dksX4_undo_4 21 rfl rfl)
theorem dX4_undo_135 : decode cX4_undo 135 = .ok (.aload_n 0, 1) := dk_42 (dk_at dksX4_undo_5 0 rfl rfl)
theorem dX4_undo_136 : decode cX4_undo 136 = .ok (.dup, 1) := dk_89 (dk_at dksX4_undo_5 1 rfl rfl)
theorem dX4_undo_137 : decode cX4_undo 137 = .ok (.getfield 130, 3) := dk_180 0 130 (dk_at dksX4_undo_5 2 rfl rfl)
theorem dX4_undo_140 : decode cX4_undo 140 = .ok (.iconst 1, 1) := dk_4 (dk_at dksX4_undo_5 5 rfl rfl)
theorem dX4_undo_141 : decode cX4_undo 141 = .ok (.isub, 1) := dk_100 (dk_at dksX4_undo_5 6 rfl rfl)
theorem dX4_undo_142 : decode cX4_undo 142 = .ok (.putfield 130, 3) := dk_181 0 130 (dk_at dksX4_undo_5 7 rfl rfl)
theorem dX4_undo_145 : decode cX4_undo 145 = .ok (.goto 51, 3) := dk_167 0 51 (dk_at dksX4_undo_5 10 rfl rfl)
theorem dX4_undo_148 : decode cX4_undo 148 = .ok (.aload_n 0, 1) := dk_42 (dk_at dksX4_undo_5 13 rfl rfl)
theorem dX4_undo_149 : decode cX4_undo 149 = .ok (.dup, 1) := dk_89 (dk_at dksX4_undo_5 14 rfl rfl)
theorem dX4_undo_150 : decode cX4_undo 150 = .ok (.getfield 133, 3) := dk_180 0 133 (dk_at dksX4_undo_5 15 rfl rfl)
theorem dX4_undo_153 : decode cX4_undo 153 = .ok (.iconst 1, 1) := dk_4 (dk_at dksX4_undo_5 18 rfl rfl)
theorem dX4_undo_154 : decode cX4_undo 154 = .ok (.isub, 1) := dk_100 (dk_at dksX4_undo_5 19 rfl rfl)
theorem dX4_undo_155 : decode cX4_undo 155 = .ok (.putfield 133, 3) := dk_181 0 133 (dk_at dksX4_undo_5 20 rfl rfl)
theorem dX4_undo_158 : decode cX4_undo 158 = .ok (.goto 38, 3) := dk_167 0 38 (dk_at dksX4_undo_6 0 rfl rfl)
theorem dX4_undo_161 : decode cX4_undo 161 = .ok (.aload_n 0, 1) := dk_42 (dk_at dksX4_undo_6 3 rfl rfl)
theorem dX4_undo_162 : decode cX4_undo 162 = .ok (.getfield 33, 3) := dk_180 0 33 (dk_at dksX4_undo_6 4 rfl rfl)
theorem dX4_undo_165 : decode cX4_undo 165 = .ok (.iload_n 1, 1) := dk_27 (dk_at dksX4_undo_6 7 rfl rfl)
theorem dX4_undo_166 : decode cX4_undo 166 = .ok (.aload_n 0, 1) := dk_42 (dk_at dksX4_undo_6 8 rfl rfl)
theorem dX4_undo_167 : decode cX4_undo 167 = .ok (.getfield 72, 3) := dk_180 0 72 (dk_at dksX4_undo_6 9 rfl rfl)
theorem dX4_undo_170 : decode cX4_undo 170 = .ok (.aload_n 0, 1) := dk_42 (dk_at dksX4_undo_6 12 rfl rfl)
theorem dX4_undo_171 : decode cX4_undo 171 = .ok (.getfield 115, 3) := dk_180 0 115 (dk_at dksX4_undo_6 13 rfl rfl)
theorem dX4_undo_174 : decode cX4_undo 174 = .ok (.aaload, 1) := dk_50 (dk_at dksX4_undo_6 16 rfl rfl)
theorem dX4_undo_175 : decode cX4_undo 175 = .ok (.aastore, 1) := dk_83 (dk_at dksX4_undo_6 17 rfl rfl)
theorem dX4_undo_176 : decode cX4_undo 176 = .ok (.goto 20, 3) := dk_167 0 20 (dk_at dksX4_undo_6 18 rfl rfl)
theorem dX4_undo_179 : decode cX4_undo 179 = .ok (.aload_n 0, 1) := dk_42 (dk_at dksX4_undo_6 21 rfl rfl)
theorem dX4_undo_180 : decode cX4_undo 180 = .ok (.getfield 60, 3) := dk_180 0 60 (dk_at dksX4_undo_7 0 rfl rfl)
theorem dX4_undo_183 : decode cX4_undo 183 = .ok (.iload_n 1, 1) := dk_27 (dk_at dksX4_undo_7 3 rfl rfl)
theorem dX4_undo_184 : decode cX4_undo 184 = .ok (.iconst (-1), 1) := dk_2 (dk_at dksX4_undo_7 4 rfl rfl)
theorem dX4_undo_185 : decode cX4_undo 185 = .ok (.iastore, 1) := dk_79 (dk_at dksX4_undo_7 5 rfl rfl)
theorem dX4_undo_186 : decode cX4_undo 186 = .ok (.goto 10, 3) := dk_167 0 10 (dk_at dksX4_undo_7 6 rfl rfl)
theorem dX4_undo_189 : decode cX4_undo 189 = .ok (.aload_n 0, 1) := dk_42 (dk_at dksX4_undo_7 9 rfl rfl)
theorem dX4_undo_190 : decode cX4_undo 190 = .ok (.getfield 63, 3) := dk_180 0 63 (dk_at dksX4_undo_7 10 rfl rfl)
theorem dX4_undo_193 : decode cX4_undo 193 = .ok (.iload_n 1, 1) := dk_27 (dk_at dksX4_undo_7 13 rfl rfl)
theorem dX4_undo_194 : decode cX4_undo 194 = .ok (.iconst (-1), 1) := dk_2 (dk_at dksX4_undo_7 14 rfl rfl)
theorem dX4_undo_195 : decode cX4_undo 195 = .ok (.iastore, 1) := dk_79 (dk_at dksX4_undo_7 15 rfl rfl)
theorem dX4_undo_196 : decode cX4_undo 196 = .ok (.iconst 1, 1) := dk_4 (dk_at dksX4_undo_7 16 rfl rfl)
theorem dX4_undo_197 : decode cX4_undo 197 = .ok (.ireturn, 1) := dk_172 (dk_at dksX4_undo_7 17 rfl rfl)
abbrev cX4_feed : ByteArray := prog_22_method_26_code
def yX4_feed : MethodName := ⟨RX4, "feed", "(IIIII)I"⟩
def dkwX4_feed_5 : List UInt8 := [180, 0, 169, 172]
abbrev dktX4_feed_5 : List UInt8 := dkwX4_feed_5 ++ []
def dkwX4_feed_4 : List UInt8 := [112, 104, 100, 122, 145, 84, 42, 89, 180, 0, 169, 4, 96, 181, 0, 169, 132, 6, 1, 167, 255, 165, 42]
abbrev dktX4_feed_4 : List UInt8 := dkwX4_feed_4 ++ dktX4_feed_5
def dkwX4_feed_3 : List UInt8 := [167, 0, 5, 21, 5, 54, 7, 42, 180, 0, 82, 42, 180, 0, 169, 21, 7, 16, 24, 16, 8, 21, 6, 7]
abbrev dktX4_feed_3 : List UInt8 := dkwX4_feed_3 ++ dktX4_feed_4
def dkwX4_feed_2 : List UInt8 := [28, 167, 0, 28, 21, 6, 16, 12, 162, 0, 7, 29, 167, 0, 17, 21, 6, 16, 16, 162, 0, 8, 21, 4]
abbrev dktX4_feed_2 : List UInt8 := dkwX4_feed_2 ++ dktX4_feed_3
def dkwX4_feed_1 : List UInt8 := [21, 6, 16, 20, 162, 0, 90, 21, 6, 7, 162, 0, 7, 27, 167, 0, 39, 21, 6, 16, 8, 162, 0, 7]
abbrev dktX4_feed_1 : List UInt8 := dkwX4_feed_1 ++ dktX4_feed_2
def dkwX4_feed_0 : List UInt8 := [42, 3, 181, 0, 109, 42, 180, 0, 169, 16, 20, 96, 17, 1, 44, 164, 0, 5, 2, 172, 3, 54, 6]
abbrev dktX4_feed_0 : List UInt8 := dkwX4_feed_0 ++ dktX4_feed_1
theorem dksX4_feed_0 : cX4_feed.data.toList.drop 0 = dktX4_feed_0 := by decide +kernel
theorem dksX4_feed_1 : cX4_feed.data.toList.drop 23 = dktX4_feed_1 := dk_seg dksX4_feed_0 23 rfl rfl
theorem dksX4_feed_2 : cX4_feed.data.toList.drop 47 = dktX4_feed_2 := dk_seg dksX4_feed_1 24 rfl rfl
theorem dksX4_feed_3 : cX4_feed.data.toList.drop 71 = dktX4_feed_3 := dk_seg dksX4_feed_2 24 rfl rfl
theorem dksX4_feed_4 : cX4_feed.data.toList.drop 95 = dktX4_feed_4 := dk_seg dksX4_feed_3 24 rfl rfl
theorem dksX4_feed_5 : cX4_feed.data.toList.drop 118 = dktX4_feed_5 := dk_seg dksX4_feed_4 23 rfl rfl
theorem dX4_feed_0 : decode cX4_feed 0 = .ok (.aload_n 0, 1) := dk_42 (dk_at dksX4_feed_0 0 rfl rfl)
theorem dX4_feed_1 : decode cX4_feed 1 = .ok (.iconst 0, 1) := dk_3 (dk_at dksX4_feed_0 1 rfl rfl)
theorem dX4_feed_2 : decode cX4_feed 2 = .ok (.putfield 109, 3) := dk_181 0 109 (dk_at dksX4_feed_0 2 rfl rfl)
theorem dX4_feed_5 : decode cX4_feed 5 = .ok (.aload_n 0, 1) := dk_42 (dk_at dksX4_feed_0 5 rfl rfl)
theorem dX4_feed_6 : decode cX4_feed 6 = .ok (.getfield 169, 3) := dk_180 0 169 (dk_at dksX4_feed_0 6 rfl rfl)
theorem dX4_feed_9 : decode cX4_feed 9 = .ok (.bipush 20, 2) := dk_16 20 (dk_at dksX4_feed_0 9 rfl rfl)
theorem dX4_feed_11 : decode cX4_feed 11 = .ok (.iadd, 1) := dk_96 (dk_at dksX4_feed_0 11 rfl rfl)
theorem dX4_feed_12 : decode cX4_feed 12 = .ok (.sipush 300, 3) := dk_17 1 44 (dk_at dksX4_feed_0 12 rfl rfl)
theorem dX4_feed_15 : decode cX4_feed 15 = .ok (.if_icmp .le 5, 3) := dk_164 0 5 (dk_at dksX4_feed_0 15 rfl rfl)
theorem dX4_feed_18 : decode cX4_feed 18 = .ok (.iconst (-1), 1) := dk_2 (dk_at dksX4_feed_0 18 rfl rfl)
theorem dX4_feed_19 : decode cX4_feed 19 = .ok (.ireturn, 1) := dk_172 (dk_at dksX4_feed_0 19 rfl rfl)
theorem dX4_feed_20 : decode cX4_feed 20 = .ok (.iconst 0, 1) := dk_3 (dk_at dksX4_feed_0 20 rfl rfl)
theorem dX4_feed_21 : decode cX4_feed 21 = .ok (.istore 6, 2) := dk_54 6 (dk_at dksX4_feed_0 21 rfl rfl)
theorem dX4_feed_23 : decode cX4_feed 23 = .ok (.iload 6, 2) := dk_21 6 (dk_at dksX4_feed_1 0 rfl rfl)
theorem dX4_feed_25 : decode cX4_feed 25 = .ok (.bipush 20, 2) := dk_16 20 (dk_at dksX4_feed_1 2 rfl rfl)
theorem dX4_feed_27 : decode cX4_feed 27 = .ok (.if_icmp .ge 90, 3) := dk_162 0 90 (dk_at dksX4_feed_1 4 rfl rfl)
theorem dX4_feed_30 : decode cX4_feed 30 = .ok (.iload 6, 2) := dk_21 6 (dk_at dksX4_feed_1 7 rfl rfl)
theorem dX4_feed_32 : decode cX4_feed 32 = .ok (.iconst 4, 1) := dk_7 (dk_at dksX4_feed_1 9 rfl rfl)
theorem dX4_feed_33 : decode cX4_feed 33 = .ok (.if_icmp .ge 7, 3) := dk_162 0 7 (dk_at dksX4_feed_1 10 rfl rfl)
theorem dX4_feed_36 : decode cX4_feed 36 = .ok (.iload_n 1, 1) := dk_27 (dk_at dksX4_feed_1 13 rfl rfl)
theorem dX4_feed_37 : decode cX4_feed 37 = .ok (.goto 39, 3) := dk_167 0 39 (dk_at dksX4_feed_1 14 rfl rfl)
theorem dX4_feed_40 : decode cX4_feed 40 = .ok (.iload 6, 2) := dk_21 6 (dk_at dksX4_feed_1 17 rfl rfl)
theorem dX4_feed_42 : decode cX4_feed 42 = .ok (.bipush 8, 2) := dk_16 8 (dk_at dksX4_feed_1 19 rfl rfl)
theorem dX4_feed_44 : decode cX4_feed 44 = .ok (.if_icmp .ge 7, 3) := dk_162 0 7 (dk_at dksX4_feed_1 21 rfl rfl)
theorem dX4_feed_47 : decode cX4_feed 47 = .ok (.iload_n 2, 1) := dk_28 (dk_at dksX4_feed_2 0 rfl rfl)
theorem dX4_feed_48 : decode cX4_feed 48 = .ok (.goto 28, 3) := dk_167 0 28 (dk_at dksX4_feed_2 1 rfl rfl)
theorem dX4_feed_51 : decode cX4_feed 51 = .ok (.iload 6, 2) := dk_21 6 (dk_at dksX4_feed_2 4 rfl rfl)
theorem dX4_feed_53 : decode cX4_feed 53 = .ok (.bipush 12, 2) := dk_16 12 (dk_at dksX4_feed_2 6 rfl rfl)
theorem dX4_feed_55 : decode cX4_feed 55 = .ok (.if_icmp .ge 7, 3) := dk_162 0 7 (dk_at dksX4_feed_2 8 rfl rfl)
theorem dX4_feed_58 : decode cX4_feed 58 = .ok (.iload_n 3, 1) := dk_29 (dk_at dksX4_feed_2 11 rfl rfl)
theorem dX4_feed_59 : decode cX4_feed 59 = .ok (.goto 17, 3) := dk_167 0 17 (dk_at dksX4_feed_2 12 rfl rfl)
theorem dX4_feed_62 : decode cX4_feed 62 = .ok (.iload 6, 2) := dk_21 6 (dk_at dksX4_feed_2 15 rfl rfl)
theorem dX4_feed_64 : decode cX4_feed 64 = .ok (.bipush 16, 2) := dk_16 16 (dk_at dksX4_feed_2 17 rfl rfl)
theorem dX4_feed_66 : decode cX4_feed 66 = .ok (.if_icmp .ge 8, 3) := dk_162 0 8 (dk_at dksX4_feed_2 19 rfl rfl)
theorem dX4_feed_69 : decode cX4_feed 69 = .ok (.iload 4, 2) := dk_21 4 (dk_at dksX4_feed_2 22 rfl rfl)
theorem dX4_feed_71 : decode cX4_feed 71 = .ok (.goto 5, 3) := dk_167 0 5 (dk_at dksX4_feed_3 0 rfl rfl)
theorem dX4_feed_74 : decode cX4_feed 74 = .ok (.iload 5, 2) := dk_21 5 (dk_at dksX4_feed_3 3 rfl rfl)
theorem dX4_feed_76 : decode cX4_feed 76 = .ok (.istore 7, 2) := dk_54 7 (dk_at dksX4_feed_3 5 rfl rfl)
theorem dX4_feed_78 : decode cX4_feed 78 = .ok (.aload_n 0, 1) := dk_42 (dk_at dksX4_feed_3 7 rfl rfl)
theorem dX4_feed_79 : decode cX4_feed 79 = .ok (.getfield 82, 3) := dk_180 0 82 (dk_at dksX4_feed_3 8 rfl rfl)
theorem dX4_feed_82 : decode cX4_feed 82 = .ok (.aload_n 0, 1) := dk_42 (dk_at dksX4_feed_3 11 rfl rfl)
theorem dX4_feed_83 : decode cX4_feed 83 = .ok (.getfield 169, 3) := dk_180 0 169 (dk_at dksX4_feed_3 12 rfl rfl)
theorem dX4_feed_86 : decode cX4_feed 86 = .ok (.iload 7, 2) := dk_21 7 (dk_at dksX4_feed_3 15 rfl rfl)
theorem dX4_feed_88 : decode cX4_feed 88 = .ok (.bipush 24, 2) := dk_16 24 (dk_at dksX4_feed_3 17 rfl rfl)
theorem dX4_feed_90 : decode cX4_feed 90 = .ok (.bipush 8, 2) := dk_16 8 (dk_at dksX4_feed_3 19 rfl rfl)
theorem dX4_feed_92 : decode cX4_feed 92 = .ok (.iload 6, 2) := dk_21 6 (dk_at dksX4_feed_3 21 rfl rfl)
theorem dX4_feed_94 : decode cX4_feed 94 = .ok (.iconst 4, 1) := dk_7 (dk_at dksX4_feed_3 23 rfl rfl)
theorem dX4_feed_95 : decode cX4_feed 95 = .ok (.irem, 1) := dk_112 (dk_at dksX4_feed_4 0 rfl rfl)
theorem dX4_feed_96 : decode cX4_feed 96 = .ok (.imul, 1) := dk_104 (dk_at dksX4_feed_4 1 rfl rfl)
theorem dX4_feed_97 : decode cX4_feed 97 = .ok (.isub, 1) := dk_100 (dk_at dksX4_feed_4 2 rfl rfl)
theorem dX4_feed_98 : decode cX4_feed 98 = .ok (.ishr, 1) := dk_122 (dk_at dksX4_feed_4 3 rfl rfl)
theorem dX4_feed_99 : decode cX4_feed 99 = .ok (.i2b, 1) := dk_145 (dk_at dksX4_feed_4 4 rfl rfl)
theorem dX4_feed_100 : decode cX4_feed 100 = .ok (.bastore, 1) := dk_84 (dk_at dksX4_feed_4 5 rfl rfl)
theorem dX4_feed_101 : decode cX4_feed 101 = .ok (.aload_n 0, 1) := dk_42 (dk_at dksX4_feed_4 6 rfl rfl)
theorem dX4_feed_102 : decode cX4_feed 102 = .ok (.dup, 1) := dk_89 (dk_at dksX4_feed_4 7 rfl rfl)
theorem dX4_feed_103 : decode cX4_feed 103 = .ok (.getfield 169, 3) := dk_180 0 169 (dk_at dksX4_feed_4 8 rfl rfl)
theorem dX4_feed_106 : decode cX4_feed 106 = .ok (.iconst 1, 1) := dk_4 (dk_at dksX4_feed_4 11 rfl rfl)
theorem dX4_feed_107 : decode cX4_feed 107 = .ok (.iadd, 1) := dk_96 (dk_at dksX4_feed_4 12 rfl rfl)
theorem dX4_feed_108 : decode cX4_feed 108 = .ok (.putfield 169, 3) := dk_181 0 169 (dk_at dksX4_feed_4 13 rfl rfl)
theorem dX4_feed_111 : decode cX4_feed 111 = .ok (.iinc 6 1, 3) := dk_132 6 1 (dk_at dksX4_feed_4 16 rfl rfl)
theorem dX4_feed_114 : decode cX4_feed 114 = .ok (.goto (-91), 3) := dk_167 255 165 (dk_at dksX4_feed_4 19 rfl rfl)
theorem dX4_feed_117 : decode cX4_feed 117 = .ok (.aload_n 0, 1) := dk_42 (dk_at dksX4_feed_4 22 rfl rfl)
theorem dX4_feed_118 : decode cX4_feed 118 = .ok (.getfield 169, 3) := dk_180 0 169 (dk_at dksX4_feed_5 0 rfl rfl)
theorem dX4_feed_121 : decode cX4_feed 121 = .ok (.ireturn, 1) := dk_172 (dk_at dksX4_feed_5 3 rfl rfl)
abbrev cX4_word : ByteArray := prog_22_method_28_code
def yX4_word : MethodName := ⟨RX4, "word", "(II)I"⟩
def dkwX4_word_6 : List UInt8 := [180, 0, 118, 4, 96, 181, 0, 118, 42, 42, 180, 0, 118, 4, 100, 182, 0, 249, 172]
abbrev dktX4_word_6 : List UInt8 := dkwX4_word_6 ++ []
def dkwX4_word_5 : List UInt8 := [180, 0, 118, 33, 80, 42, 180, 0, 17, 42, 180, 0, 118, 27, 79, 42, 3, 3, 1, 182, 0, 245, 42, 89]
abbrev dktX4_word_5 : List UInt8 := dkwX4_word_5 ++ dktX4_word_6
def dkwX4_word_4 : List UInt8 := [182, 0, 239, 172, 42, 180, 0, 118, 16, 60, 160, 0, 9, 42, 6, 182, 0, 239, 172, 42, 180, 0, 13, 42]
abbrev dktX4_word_4 : List UInt8 := dkwX4_word_4 ++ dktX4_word_5
def dkwX4_word_3 : List UInt8 := [21, 5, 153, 0, 20, 42, 180, 0, 153, 4, 160, 0, 12, 42, 33, 182, 0, 178, 2, 159, 0, 9, 42, 5]
abbrev dktX4_word_3 : List UInt8 := dkwX4_word_3 ++ dktX4_word_4
def dkwX4_word_2 : List UInt8 := [42, 180, 0, 153, 5, 160, 0, 7, 4, 167, 0, 4, 3, 54, 5, 21, 5, 153, 0, 7, 42, 182, 0, 172]
abbrev dktX4_word_2 : List UInt8 := dkwX4_word_2 ++ dktX4_word_3
def dkwX4_word_1 : List UInt8 := [42, 28, 182, 0, 242, 154, 0, 9, 42, 5, 182, 0, 239, 172, 42, 28, 182, 0, 182, 42, 180, 0, 163, 66]
abbrev dktX4_word_1 : List UInt8 := dkwX4_word_1 ++ dktX4_word_2
def dkwX4_word_0 : List UInt8 := [42, 3, 181, 0, 109, 27, 2, 161, 0, 11, 27, 42, 180, 0, 118, 161, 0, 9, 42, 4, 182, 0, 239, 172]
abbrev dktX4_word_0 : List UInt8 := dkwX4_word_0 ++ dktX4_word_1
theorem dksX4_word_0 : cX4_word.data.toList.drop 0 = dktX4_word_0 := by decide +kernel
theorem dksX4_word_1 : cX4_word.data.toList.drop 24 = dktX4_word_1 := dk_seg dksX4_word_0 24 rfl rfl
theorem dksX4_word_2 : cX4_word.data.toList.drop 48 = dktX4_word_2 := dk_seg dksX4_word_1 24 rfl rfl
theorem dksX4_word_3 : cX4_word.data.toList.drop 72 = dktX4_word_3 := dk_seg dksX4_word_2 24 rfl rfl
theorem dksX4_word_4 : cX4_word.data.toList.drop 96 = dktX4_word_4 := dk_seg dksX4_word_3 24 rfl rfl
theorem dksX4_word_5 : cX4_word.data.toList.drop 120 = dktX4_word_5 := dk_seg dksX4_word_4 24 rfl rfl
theorem dksX4_word_6 : cX4_word.data.toList.drop 144 = dktX4_word_6 := dk_seg dksX4_word_5 24 rfl rfl
theorem dX4_word_0 : decode cX4_word 0 = .ok (.aload_n 0, 1) := dk_42 (dk_at dksX4_word_0 0 rfl rfl)
theorem dX4_word_1 : decode cX4_word 1 = .ok (.iconst 0, 1) := dk_3 (dk_at dksX4_word_0 1 rfl rfl)
theorem dX4_word_2 : decode cX4_word 2 = .ok (.putfield 109, 3) := dk_181 0 109 (dk_at dksX4_word_0 2 rfl rfl)
theorem dX4_word_5 : decode cX4_word 5 = .ok (.iload_n 1, 1) := dk_27 (dk_at dksX4_word_0 5 rfl rfl)
theorem dX4_word_6 : decode cX4_word 6 = .ok (.iconst (-1), 1) := dk_2 (dk_at dksX4_word_0 6 rfl rfl)
theorem dX4_word_7 : decode cX4_word 7 = .ok (.if_icmp .lt 11, 3) := dk_161 0 11 (dk_at dksX4_word_0 7 rfl rfl)
theorem dX4_word_10 : decode cX4_word 10 = .ok (.iload_n 1, 1) := dk_27 (dk_at dksX4_word_0 10 rfl rfl)
theorem dX4_word_11 : decode cX4_word 11 = .ok (.aload_n 0, 1) := dk_42 (dk_at dksX4_word_0 11 rfl rfl)
theorem dX4_word_12 : decode cX4_word 12 = .ok (.getfield 118, 3) := dk_180 0 118 (dk_at dksX4_word_0 12 rfl rfl)
theorem dX4_word_15 : decode cX4_word 15 = .ok (.if_icmp .lt 9, 3) := dk_161 0 9 (dk_at dksX4_word_0 15 rfl rfl)
theorem dX4_word_18 : decode cX4_word 18 = .ok (.aload_n 0, 1) := dk_42 (dk_at dksX4_word_0 18 rfl rfl)
theorem dX4_word_19 : decode cX4_word 19 = .ok (.iconst 1, 1) := dk_4 (dk_at dksX4_word_0 19 rfl rfl)
theorem dX4_word_20 : decode cX4_word 20 = .ok (.invokevirtual 239, 3) := dk_182 0 239 (dk_at dksX4_word_0 20 rfl rfl)
theorem dX4_word_23 : decode cX4_word 23 = .ok (.ireturn, 1) := dk_172 (dk_at dksX4_word_0 23 rfl rfl)
theorem dX4_word_24 : decode cX4_word 24 = .ok (.aload_n 0, 1) := dk_42 (dk_at dksX4_word_1 0 rfl rfl)
theorem dX4_word_25 : decode cX4_word 25 = .ok (.iload_n 2, 1) := dk_28 (dk_at dksX4_word_1 1 rfl rfl)
theorem dX4_word_26 : decode cX4_word 26 = .ok (.invokevirtual 242, 3) := dk_182 0 242 (dk_at dksX4_word_1 2 rfl rfl)
theorem dX4_word_29 : decode cX4_word 29 = .ok (.ifCond .ne 9, 3) := dk_154 0 9 (dk_at dksX4_word_1 5 rfl rfl)
theorem dX4_word_32 : decode cX4_word 32 = .ok (.aload_n 0, 1) := dk_42 (dk_at dksX4_word_1 8 rfl rfl)
theorem dX4_word_33 : decode cX4_word 33 = .ok (.iconst 2, 1) := dk_5 (dk_at dksX4_word_1 9 rfl rfl)
theorem dX4_word_34 : decode cX4_word 34 = .ok (.invokevirtual 239, 3) := dk_182 0 239 (dk_at dksX4_word_1 10 rfl rfl)
theorem dX4_word_37 : decode cX4_word 37 = .ok (.ireturn, 1) := dk_172 (dk_at dksX4_word_1 13 rfl rfl)
theorem dX4_word_38 : decode cX4_word 38 = .ok (.aload_n 0, 1) := dk_42 (dk_at dksX4_word_1 14 rfl rfl)
theorem dX4_word_39 : decode cX4_word 39 = .ok (.iload_n 2, 1) := dk_28 (dk_at dksX4_word_1 15 rfl rfl)
theorem dX4_word_40 : decode cX4_word 40 = .ok (.invokevirtual 182, 3) := dk_182 0 182 (dk_at dksX4_word_1 16 rfl rfl)
theorem dX4_word_43 : decode cX4_word 43 = .ok (.aload_n 0, 1) := dk_42 (dk_at dksX4_word_1 19 rfl rfl)
theorem dX4_word_44 : decode cX4_word 44 = .ok (.getfield 163, 3) := dk_180 0 163 (dk_at dksX4_word_1 20 rfl rfl)
theorem dX4_word_47 : decode cX4_word 47 = .ok (.lstore_n 3, 1) := dk_66 (dk_at dksX4_word_1 23 rfl rfl)
theorem dX4_word_48 : decode cX4_word 48 = .ok (.aload_n 0, 1) := dk_42 (dk_at dksX4_word_2 0 rfl rfl)
theorem dX4_word_49 : decode cX4_word 49 = .ok (.getfield 153, 3) := dk_180 0 153 (dk_at dksX4_word_2 1 rfl rfl)
theorem dX4_word_52 : decode cX4_word 52 = .ok (.iconst 2, 1) := dk_5 (dk_at dksX4_word_2 4 rfl rfl)
theorem dX4_word_53 : decode cX4_word 53 = .ok (.if_icmp .ne 7, 3) := dk_160 0 7 (dk_at dksX4_word_2 5 rfl rfl)
theorem dX4_word_56 : decode cX4_word 56 = .ok (.iconst 1, 1) := dk_4 (dk_at dksX4_word_2 8 rfl rfl)
theorem dX4_word_57 : decode cX4_word 57 = .ok (.goto 4, 3) := dk_167 0 4 (dk_at dksX4_word_2 9 rfl rfl)
theorem dX4_word_60 : decode cX4_word 60 = .ok (.iconst 0, 1) := dk_3 (dk_at dksX4_word_2 12 rfl rfl)
theorem dX4_word_61 : decode cX4_word 61 = .ok (.istore 5, 2) := dk_54 5 (dk_at dksX4_word_2 13 rfl rfl)
theorem dX4_word_63 : decode cX4_word 63 = .ok (.iload 5, 2) := dk_21 5 (dk_at dksX4_word_2 15 rfl rfl)
theorem dX4_word_65 : decode cX4_word 65 = .ok (.ifCond .eq 7, 3) := dk_153 0 7 (dk_at dksX4_word_2 17 rfl rfl)
theorem dX4_word_68 : decode cX4_word 68 = .ok (.aload_n 0, 1) := dk_42 (dk_at dksX4_word_2 20 rfl rfl)
theorem dX4_word_69 : decode cX4_word 69 = .ok (.invokevirtual 172, 3) := dk_182 0 172 (dk_at dksX4_word_2 21 rfl rfl)
theorem dX4_word_72 : decode cX4_word 72 = .ok (.iload 5, 2) := dk_21 5 (dk_at dksX4_word_3 0 rfl rfl)
theorem dX4_word_74 : decode cX4_word 74 = .ok (.ifCond .eq 20, 3) := dk_153 0 20 (dk_at dksX4_word_3 2 rfl rfl)
theorem dX4_word_77 : decode cX4_word 77 = .ok (.aload_n 0, 1) := dk_42 (dk_at dksX4_word_3 5 rfl rfl)
theorem dX4_word_78 : decode cX4_word 78 = .ok (.getfield 153, 3) := dk_180 0 153 (dk_at dksX4_word_3 6 rfl rfl)
theorem dX4_word_81 : decode cX4_word 81 = .ok (.iconst 1, 1) := dk_4 (dk_at dksX4_word_3 9 rfl rfl)
theorem dX4_word_82 : decode cX4_word 82 = .ok (.if_icmp .ne 12, 3) := dk_160 0 12 (dk_at dksX4_word_3 10 rfl rfl)
theorem dX4_word_85 : decode cX4_word 85 = .ok (.aload_n 0, 1) := dk_42 (dk_at dksX4_word_3 13 rfl rfl)
theorem dX4_word_86 : decode cX4_word 86 = .ok (.lload_n 3, 1) := dk_33 (dk_at dksX4_word_3 14 rfl rfl)
theorem dX4_word_87 : decode cX4_word 87 = .ok (.invokevirtual 178, 3) := dk_182 0 178 (dk_at dksX4_word_3 15 rfl rfl)
theorem dX4_word_90 : decode cX4_word 90 = .ok (.iconst (-1), 1) := dk_2 (dk_at dksX4_word_3 18 rfl rfl)
theorem dX4_word_91 : decode cX4_word 91 = .ok (.if_icmp .eq 9, 3) := dk_159 0 9 (dk_at dksX4_word_3 19 rfl rfl)
theorem dX4_word_94 : decode cX4_word 94 = .ok (.aload_n 0, 1) := dk_42 (dk_at dksX4_word_3 22 rfl rfl)
theorem dX4_word_95 : decode cX4_word 95 = .ok (.iconst 2, 1) := dk_5 (dk_at dksX4_word_3 23 rfl rfl)
theorem dX4_word_96 : decode cX4_word 96 = .ok (.invokevirtual 239, 3) := dk_182 0 239 (dk_at dksX4_word_4 0 rfl rfl)
theorem dX4_word_99 : decode cX4_word 99 = .ok (.ireturn, 1) := dk_172 (dk_at dksX4_word_4 3 rfl rfl)
theorem dX4_word_100 : decode cX4_word 100 = .ok (.aload_n 0, 1) := dk_42 (dk_at dksX4_word_4 4 rfl rfl)
theorem dX4_word_101 : decode cX4_word 101 = .ok (.getfield 118, 3) := dk_180 0 118 (dk_at dksX4_word_4 5 rfl rfl)
theorem dX4_word_104 : decode cX4_word 104 = .ok (.bipush 60, 2) := dk_16 60 (dk_at dksX4_word_4 8 rfl rfl)
theorem dX4_word_106 : decode cX4_word 106 = .ok (.if_icmp .ne 9, 3) := dk_160 0 9 (dk_at dksX4_word_4 10 rfl rfl)
theorem dX4_word_109 : decode cX4_word 109 = .ok (.aload_n 0, 1) := dk_42 (dk_at dksX4_word_4 13 rfl rfl)
theorem dX4_word_110 : decode cX4_word 110 = .ok (.iconst 3, 1) := dk_6 (dk_at dksX4_word_4 14 rfl rfl)
theorem dX4_word_111 : decode cX4_word 111 = .ok (.invokevirtual 239, 3) := dk_182 0 239 (dk_at dksX4_word_4 15 rfl rfl)
theorem dX4_word_114 : decode cX4_word 114 = .ok (.ireturn, 1) := dk_172 (dk_at dksX4_word_4 18 rfl rfl)
theorem dX4_word_115 : decode cX4_word 115 = .ok (.aload_n 0, 1) := dk_42 (dk_at dksX4_word_4 19 rfl rfl)
theorem dX4_word_116 : decode cX4_word 116 = .ok (.getfield 13, 3) := dk_180 0 13 (dk_at dksX4_word_4 20 rfl rfl)
theorem dX4_word_119 : decode cX4_word 119 = .ok (.aload_n 0, 1) := dk_42 (dk_at dksX4_word_4 23 rfl rfl)
theorem dX4_word_120 : decode cX4_word 120 = .ok (.getfield 118, 3) := dk_180 0 118 (dk_at dksX4_word_5 0 rfl rfl)
theorem dX4_word_123 : decode cX4_word 123 = .ok (.lload_n 3, 1) := dk_33 (dk_at dksX4_word_5 3 rfl rfl)
theorem dX4_word_124 : decode cX4_word 124 = .ok (.lastore, 1) := dk_80 (dk_at dksX4_word_5 4 rfl rfl)
theorem dX4_word_125 : decode cX4_word 125 = .ok (.aload_n 0, 1) := dk_42 (dk_at dksX4_word_5 5 rfl rfl)
theorem dX4_word_126 : decode cX4_word 126 = .ok (.getfield 17, 3) := dk_180 0 17 (dk_at dksX4_word_5 6 rfl rfl)
theorem dX4_word_129 : decode cX4_word 129 = .ok (.aload_n 0, 1) := dk_42 (dk_at dksX4_word_5 9 rfl rfl)
theorem dX4_word_130 : decode cX4_word 130 = .ok (.getfield 118, 3) := dk_180 0 118 (dk_at dksX4_word_5 10 rfl rfl)
theorem dX4_word_133 : decode cX4_word 133 = .ok (.iload_n 1, 1) := dk_27 (dk_at dksX4_word_5 13 rfl rfl)
theorem dX4_word_134 : decode cX4_word 134 = .ok (.iastore, 1) := dk_79 (dk_at dksX4_word_5 14 rfl rfl)
theorem dX4_word_135 : decode cX4_word 135 = .ok (.aload_n 0, 1) := dk_42 (dk_at dksX4_word_5 15 rfl rfl)
theorem dX4_word_136 : decode cX4_word 136 = .ok (.iconst 0, 1) := dk_3 (dk_at dksX4_word_5 16 rfl rfl)
theorem dX4_word_137 : decode cX4_word 137 = .ok (.iconst 0, 1) := dk_3 (dk_at dksX4_word_5 17 rfl rfl)
theorem dX4_word_138 : decode cX4_word 138 = .ok (.aconst_null, 1) := dk_1 (dk_at dksX4_word_5 18 rfl rfl)
theorem dX4_word_139 : decode cX4_word 139 = .ok (.invokevirtual 245, 3) := dk_182 0 245 (dk_at dksX4_word_5 19 rfl rfl)
theorem dX4_word_142 : decode cX4_word 142 = .ok (.aload_n 0, 1) := dk_42 (dk_at dksX4_word_5 22 rfl rfl)
theorem dX4_word_143 : decode cX4_word 143 = .ok (.dup, 1) := dk_89 (dk_at dksX4_word_5 23 rfl rfl)
theorem dX4_word_144 : decode cX4_word 144 = .ok (.getfield 118, 3) := dk_180 0 118 (dk_at dksX4_word_6 0 rfl rfl)
theorem dX4_word_147 : decode cX4_word 147 = .ok (.iconst 1, 1) := dk_4 (dk_at dksX4_word_6 3 rfl rfl)
theorem dX4_word_148 : decode cX4_word 148 = .ok (.iadd, 1) := dk_96 (dk_at dksX4_word_6 4 rfl rfl)
theorem dX4_word_149 : decode cX4_word 149 = .ok (.putfield 118, 3) := dk_181 0 118 (dk_at dksX4_word_6 5 rfl rfl)
theorem dX4_word_152 : decode cX4_word 152 = .ok (.aload_n 0, 1) := dk_42 (dk_at dksX4_word_6 8 rfl rfl)
theorem dX4_word_153 : decode cX4_word 153 = .ok (.aload_n 0, 1) := dk_42 (dk_at dksX4_word_6 9 rfl rfl)
theorem dX4_word_154 : decode cX4_word 154 = .ok (.getfield 118, 3) := dk_180 0 118 (dk_at dksX4_word_6 10 rfl rfl)
theorem dX4_word_157 : decode cX4_word 157 = .ok (.iconst 1, 1) := dk_4 (dk_at dksX4_word_6 13 rfl rfl)
theorem dX4_word_158 : decode cX4_word 158 = .ok (.isub, 1) := dk_100 (dk_at dksX4_word_6 14 rfl rfl)
theorem dX4_word_159 : decode cX4_word 159 = .ok (.invokevirtual 249, 3) := dk_182 0 249 (dk_at dksX4_word_6 15 rfl rfl)
theorem dX4_word_162 : decode cX4_word 162 = .ok (.ireturn, 1) := dk_172 (dk_at dksX4_word_6 18 rfl rfl)
abbrev cX4_refused : ByteArray := prog_22_method_3_code
def yX4_refused : MethodName := ⟨RX4, "refused", "(I)I"⟩
def dkwX4_refused_0 : List UInt8 := [42, 27, 181, 0, 112, 42, 2, 181, 0, 9, 2, 172]
abbrev dktX4_refused_0 : List UInt8 := dkwX4_refused_0 ++ []
theorem dksX4_refused_0 : cX4_refused.data.toList.drop 0 = dktX4_refused_0 := by decide +kernel
theorem dX4_refused_0 : decode cX4_refused 0 = .ok (.aload_n 0, 1) := dk_42 (dk_at dksX4_refused_0 0 rfl rfl)
theorem dX4_refused_1 : decode cX4_refused 1 = .ok (.iload_n 1, 1) := dk_27 (dk_at dksX4_refused_0 1 rfl rfl)
theorem dX4_refused_2 : decode cX4_refused 2 = .ok (.putfield 112, 3) := dk_181 0 112 (dk_at dksX4_refused_0 2 rfl rfl)
theorem dX4_refused_5 : decode cX4_refused 5 = .ok (.aload_n 0, 1) := dk_42 (dk_at dksX4_refused_0 5 rfl rfl)
theorem dX4_refused_6 : decode cX4_refused 6 = .ok (.iconst (-1), 1) := dk_2 (dk_at dksX4_refused_0 6 rfl rfl)
theorem dX4_refused_7 : decode cX4_refused 7 = .ok (.putfield 9, 3) := dk_181 0 9 (dk_at dksX4_refused_0 7 rfl rfl)
theorem dX4_refused_10 : decode cX4_refused 10 = .ok (.iconst (-1), 1) := dk_2 (dk_at dksX4_refused_0 10 rfl rfl)
theorem dX4_refused_11 : decode cX4_refused 11 = .ok (.ireturn, 1) := dk_172 (dk_at dksX4_refused_0 11 rfl rfl)
abbrev cX4_isTaped : ByteArray := prog_22_method_27_code
def yX4_isTaped : MethodName := ⟨RX4, "isTaped", "(I)Z"⟩
def dkwX4_isTaped_0 : List UInt8 := [27, 155, 0, 15, 27, 42, 180, 0, 169, 163, 0, 7, 4, 167, 0, 4, 3, 172]
abbrev dktX4_isTaped_0 : List UInt8 := dkwX4_isTaped_0 ++ []
theorem dksX4_isTaped_0 : cX4_isTaped.data.toList.drop 0 = dktX4_isTaped_0 := by decide +kernel
theorem dX4_isTaped_0 : decode cX4_isTaped 0 = .ok (.iload_n 1, 1) := dk_27 (dk_at dksX4_isTaped_0 0 rfl rfl)
theorem dX4_isTaped_1 : decode cX4_isTaped 1 = .ok (.ifCond .lt 15, 3) := dk_155 0 15 (dk_at dksX4_isTaped_0 1 rfl rfl)
theorem dX4_isTaped_4 : decode cX4_isTaped 4 = .ok (.iload_n 1, 1) := dk_27 (dk_at dksX4_isTaped_0 4 rfl rfl)
theorem dX4_isTaped_5 : decode cX4_isTaped 5 = .ok (.aload_n 0, 1) := dk_42 (dk_at dksX4_isTaped_0 5 rfl rfl)
theorem dX4_isTaped_6 : decode cX4_isTaped 6 = .ok (.getfield 169, 3) := dk_180 0 169 (dk_at dksX4_isTaped_0 6 rfl rfl)
theorem dX4_isTaped_9 : decode cX4_isTaped 9 = .ok (.if_icmp .gt 7, 3) := dk_163 0 7 (dk_at dksX4_isTaped_0 9 rfl rfl)
theorem dX4_isTaped_12 : decode cX4_isTaped 12 = .ok (.iconst 1, 1) := dk_4 (dk_at dksX4_isTaped_0 12 rfl rfl)
theorem dX4_isTaped_13 : decode cX4_isTaped 13 = .ok (.goto 4, 3) := dk_167 0 4 (dk_at dksX4_isTaped_0 13 rfl rfl)
theorem dX4_isTaped_16 : decode cX4_isTaped 16 = .ok (.iconst 0, 1) := dk_3 (dk_at dksX4_isTaped_0 16 rfl rfl)
theorem dX4_isTaped_17 : decode cX4_isTaped 17 = .ok (.ireturn, 1) := dk_172 (dk_at dksX4_isTaped_0 17 rfl rfl)
abbrev cX4_starts : ByteArray := prog_22_method_14_code
def yX4_starts : MethodName := ⟨RX4, "starts", "(I)V"⟩
def dkwX4_starts_0 : List UInt8 := [42, 27, 181, 0, 142, 42, 3, 181, 0, 169, 42, 3, 181, 0, 145, 42, 182, 0, 172, 177]
abbrev dktX4_starts_0 : List UInt8 := dkwX4_starts_0 ++ []
theorem dksX4_starts_0 : cX4_starts.data.toList.drop 0 = dktX4_starts_0 := by decide +kernel
theorem dX4_starts_0 : decode cX4_starts 0 = .ok (.aload_n 0, 1) := dk_42 (dk_at dksX4_starts_0 0 rfl rfl)
theorem dX4_starts_1 : decode cX4_starts 1 = .ok (.iload_n 1, 1) := dk_27 (dk_at dksX4_starts_0 1 rfl rfl)
theorem dX4_starts_2 : decode cX4_starts 2 = .ok (.putfield 142, 3) := dk_181 0 142 (dk_at dksX4_starts_0 2 rfl rfl)
theorem dX4_starts_5 : decode cX4_starts 5 = .ok (.aload_n 0, 1) := dk_42 (dk_at dksX4_starts_0 5 rfl rfl)
theorem dX4_starts_6 : decode cX4_starts 6 = .ok (.iconst 0, 1) := dk_3 (dk_at dksX4_starts_0 6 rfl rfl)
theorem dX4_starts_7 : decode cX4_starts 7 = .ok (.putfield 169, 3) := dk_181 0 169 (dk_at dksX4_starts_0 7 rfl rfl)
theorem dX4_starts_10 : decode cX4_starts 10 = .ok (.aload_n 0, 1) := dk_42 (dk_at dksX4_starts_0 10 rfl rfl)
theorem dX4_starts_11 : decode cX4_starts 11 = .ok (.iconst 0, 1) := dk_3 (dk_at dksX4_starts_0 11 rfl rfl)
theorem dX4_starts_12 : decode cX4_starts 12 = .ok (.putfield 145, 3) := dk_181 0 145 (dk_at dksX4_starts_0 12 rfl rfl)
theorem dX4_starts_15 : decode cX4_starts 15 = .ok (.aload_n 0, 1) := dk_42 (dk_at dksX4_starts_0 15 rfl rfl)
theorem dX4_starts_16 : decode cX4_starts 16 = .ok (.invokevirtual 172, 3) := dk_182 0 172 (dk_at dksX4_starts_0 16 rfl rfl)
theorem dX4_starts_19 : decode cX4_starts 19 = .ok (.return_, 1) := dk_177 (dk_at dksX4_starts_0 19 rfl rfl)
abbrev cX4_next : ByteArray := prog_22_method_13_code
def yX4_next : MethodName := ⟨RX4, "next", "()V"⟩
def dkwX4_next_8 : List UInt8 := [4, 96, 181, 0, 145, 177]
abbrev dktX4_next_8 : List UInt8 := dkwX4_next_8 ++ []
def dkwX4_next_7 : List UInt8 := [159, 0, 9, 27, 16, 59, 160, 0, 23, 42, 6, 181, 0, 153, 42, 27, 181, 0, 156, 42, 89, 180, 0, 145]
abbrev dktX4_next_7 : List UInt8 := dkwX4_next_7 ++ dktX4_next_8
def dkwX4_next_6 : List UInt8 := [181, 0, 145, 167, 255, 196, 28, 16, 10, 163, 0, 43, 42, 5, 181, 0, 153, 167, 0, 35, 27, 16, 58]
abbrev dktX4_next_6 : List UInt8 := dkwX4_next_6 ++ dktX4_next_7
def dkwX4_next_5 : List UInt8 := [182, 0, 148, 16, 97, 100, 4, 96, 133, 97, 181, 0, 163, 132, 2, 1, 42, 89, 180, 0, 145, 4, 96]
abbrev dktX4_next_5 : List UInt8 := dkwX4_next_5 ++ dktX4_next_6
def dkwX4_next_4 : List UInt8 := [153, 0, 52, 28, 16, 10, 162, 0, 30, 42, 20, 0, 167, 42, 180, 0, 163, 105, 42, 42, 180, 0, 145]
abbrev dktX4_next_4 : List UInt8 := dkwX4_next_4 ++ dktX4_next_5
def dkwX4_next_3 : List UInt8 := [184, 0, 159, 153, 0, 85, 42, 9, 181, 0, 163, 42, 42, 180, 0, 145, 182, 0, 148, 184, 0, 159]
abbrev dktX4_next_3 : List UInt8 := dkwX4_next_3 ++ dktX4_next_4
def dkwX4_next_2 : List UInt8 := [180, 0, 145, 182, 0, 148, 60, 3, 61, 27, 2, 160, 0, 11, 42, 4, 181, 0, 153, 167, 0, 124, 27]
abbrev dktX4_next_2 : List UInt8 := dkwX4_next_2 ++ dktX4_next_3
def dkwX4_next_1 : List UInt8 := [167, 255, 233, 42, 42, 180, 0, 145, 181, 0, 152, 42, 3, 181, 0, 153, 42, 3, 181, 0, 156, 42, 42]
abbrev dktX4_next_1 : List UInt8 := dkwX4_next_1 ++ dktX4_next_2
def dkwX4_next_0 : List UInt8 := [42, 42, 180, 0, 145, 182, 0, 148, 16, 32, 160, 0, 16, 42, 89, 180, 0, 145, 4, 96, 181, 0, 145]
abbrev dktX4_next_0 : List UInt8 := dkwX4_next_0 ++ dktX4_next_1
theorem dksX4_next_0 : cX4_next.data.toList.drop 0 = dktX4_next_0 := by decide +kernel
theorem dksX4_next_1 : cX4_next.data.toList.drop 23 = dktX4_next_1 := dk_seg dksX4_next_0 23 rfl rfl
theorem dksX4_next_2 : cX4_next.data.toList.drop 46 = dktX4_next_2 := dk_seg dksX4_next_1 23 rfl rfl
theorem dksX4_next_3 : cX4_next.data.toList.drop 69 = dktX4_next_3 := dk_seg dksX4_next_2 23 rfl rfl
theorem dksX4_next_4 : cX4_next.data.toList.drop 91 = dktX4_next_4 := dk_seg dksX4_next_3 22 rfl rfl
theorem dksX4_next_5 : cX4_next.data.toList.drop 114 = dktX4_next_5 := dk_seg dksX4_next_4 23 rfl rfl
theorem dksX4_next_6 : cX4_next.data.toList.drop 137 = dktX4_next_6 := dk_seg dksX4_next_5 23 rfl rfl
theorem dksX4_next_7 : cX4_next.data.toList.drop 160 = dktX4_next_7 := dk_seg dksX4_next_6 23 rfl rfl
theorem dksX4_next_8 : cX4_next.data.toList.drop 184 = dktX4_next_8 := dk_seg dksX4_next_7 24 rfl rfl
theorem dX4_next_0 : decode cX4_next 0 = .ok (.aload_n 0, 1) := dk_42 (dk_at dksX4_next_0 0 rfl rfl)
theorem dX4_next_1 : decode cX4_next 1 = .ok (.aload_n 0, 1) := dk_42 (dk_at dksX4_next_0 1 rfl rfl)
theorem dX4_next_2 : decode cX4_next 2 = .ok (.getfield 145, 3) := dk_180 0 145 (dk_at dksX4_next_0 2 rfl rfl)
theorem dX4_next_5 : decode cX4_next 5 = .ok (.invokevirtual 148, 3) := dk_182 0 148 (dk_at dksX4_next_0 5 rfl rfl)
theorem dX4_next_8 : decode cX4_next 8 = .ok (.bipush 32, 2) := dk_16 32 (dk_at dksX4_next_0 8 rfl rfl)
theorem dX4_next_10 : decode cX4_next 10 = .ok (.if_icmp .ne 16, 3) := dk_160 0 16 (dk_at dksX4_next_0 10 rfl rfl)
theorem dX4_next_13 : decode cX4_next 13 = .ok (.aload_n 0, 1) := dk_42 (dk_at dksX4_next_0 13 rfl rfl)
theorem dX4_next_14 : decode cX4_next 14 = .ok (.dup, 1) := dk_89 (dk_at dksX4_next_0 14 rfl rfl)
theorem dX4_next_15 : decode cX4_next 15 = .ok (.getfield 145, 3) := dk_180 0 145 (dk_at dksX4_next_0 15 rfl rfl)
theorem dX4_next_18 : decode cX4_next 18 = .ok (.iconst 1, 1) := dk_4 (dk_at dksX4_next_0 18 rfl rfl)
theorem dX4_next_19 : decode cX4_next 19 = .ok (.iadd, 1) := dk_96 (dk_at dksX4_next_0 19 rfl rfl)
theorem dX4_next_20 : decode cX4_next 20 = .ok (.putfield 145, 3) := dk_181 0 145 (dk_at dksX4_next_0 20 rfl rfl)
theorem dX4_next_23 : decode cX4_next 23 = .ok (.goto (-23), 3) := dk_167 255 233 (dk_at dksX4_next_1 0 rfl rfl)
theorem dX4_next_26 : decode cX4_next 26 = .ok (.aload_n 0, 1) := dk_42 (dk_at dksX4_next_1 3 rfl rfl)
theorem dX4_next_27 : decode cX4_next 27 = .ok (.aload_n 0, 1) := dk_42 (dk_at dksX4_next_1 4 rfl rfl)
theorem dX4_next_28 : decode cX4_next 28 = .ok (.getfield 145, 3) := dk_180 0 145 (dk_at dksX4_next_1 5 rfl rfl)
theorem dX4_next_31 : decode cX4_next 31 = .ok (.putfield 152, 3) := dk_181 0 152 (dk_at dksX4_next_1 8 rfl rfl)
theorem dX4_next_34 : decode cX4_next 34 = .ok (.aload_n 0, 1) := dk_42 (dk_at dksX4_next_1 11 rfl rfl)
theorem dX4_next_35 : decode cX4_next 35 = .ok (.iconst 0, 1) := dk_3 (dk_at dksX4_next_1 12 rfl rfl)
theorem dX4_next_36 : decode cX4_next 36 = .ok (.putfield 153, 3) := dk_181 0 153 (dk_at dksX4_next_1 13 rfl rfl)
theorem dX4_next_39 : decode cX4_next 39 = .ok (.aload_n 0, 1) := dk_42 (dk_at dksX4_next_1 16 rfl rfl)
theorem dX4_next_40 : decode cX4_next 40 = .ok (.iconst 0, 1) := dk_3 (dk_at dksX4_next_1 17 rfl rfl)
theorem dX4_next_41 : decode cX4_next 41 = .ok (.putfield 156, 3) := dk_181 0 156 (dk_at dksX4_next_1 18 rfl rfl)
theorem dX4_next_44 : decode cX4_next 44 = .ok (.aload_n 0, 1) := dk_42 (dk_at dksX4_next_1 21 rfl rfl)
theorem dX4_next_45 : decode cX4_next 45 = .ok (.aload_n 0, 1) := dk_42 (dk_at dksX4_next_1 22 rfl rfl)
theorem dX4_next_46 : decode cX4_next 46 = .ok (.getfield 145, 3) := dk_180 0 145 (dk_at dksX4_next_2 0 rfl rfl)
theorem dX4_next_49 : decode cX4_next 49 = .ok (.invokevirtual 148, 3) := dk_182 0 148 (dk_at dksX4_next_2 3 rfl rfl)
theorem dX4_next_52 : decode cX4_next 52 = .ok (.istore_n 1, 1) := dk_60 (dk_at dksX4_next_2 6 rfl rfl)
theorem dX4_next_53 : decode cX4_next 53 = .ok (.iconst 0, 1) := dk_3 (dk_at dksX4_next_2 7 rfl rfl)
theorem dX4_next_54 : decode cX4_next 54 = .ok (.istore_n 2, 1) := dk_61 (dk_at dksX4_next_2 8 rfl rfl)
theorem dX4_next_55 : decode cX4_next 55 = .ok (.iload_n 1, 1) := dk_27 (dk_at dksX4_next_2 9 rfl rfl)
theorem dX4_next_56 : decode cX4_next 56 = .ok (.iconst (-1), 1) := dk_2 (dk_at dksX4_next_2 10 rfl rfl)
theorem dX4_next_57 : decode cX4_next 57 = .ok (.if_icmp .ne 11, 3) := dk_160 0 11 (dk_at dksX4_next_2 11 rfl rfl)
theorem dX4_next_60 : decode cX4_next 60 = .ok (.aload_n 0, 1) := dk_42 (dk_at dksX4_next_2 14 rfl rfl)
theorem dX4_next_61 : decode cX4_next 61 = .ok (.iconst 1, 1) := dk_4 (dk_at dksX4_next_2 15 rfl rfl)
theorem dX4_next_62 : decode cX4_next 62 = .ok (.putfield 153, 3) := dk_181 0 153 (dk_at dksX4_next_2 16 rfl rfl)
theorem dX4_next_65 : decode cX4_next 65 = .ok (.goto 124, 3) := dk_167 0 124 (dk_at dksX4_next_2 19 rfl rfl)
theorem dX4_next_68 : decode cX4_next 68 = .ok (.iload_n 1, 1) := dk_27 (dk_at dksX4_next_2 22 rfl rfl)
theorem dX4_next_69 : decode cX4_next 69 = .ok (.invokestatic 159, 3) := dk_184 0 159 (dk_at dksX4_next_3 0 rfl rfl)
theorem dX4_next_72 : decode cX4_next 72 = .ok (.ifCond .eq 85, 3) := dk_153 0 85 (dk_at dksX4_next_3 3 rfl rfl)
theorem dX4_next_75 : decode cX4_next 75 = .ok (.aload_n 0, 1) := dk_42 (dk_at dksX4_next_3 6 rfl rfl)
theorem dX4_next_76 : decode cX4_next 76 = .ok (.lconst 0, 1) := dk_9 (dk_at dksX4_next_3 7 rfl rfl)
theorem dX4_next_77 : decode cX4_next 77 = .ok (.putfield 163, 3) := dk_181 0 163 (dk_at dksX4_next_3 8 rfl rfl)
theorem dX4_next_80 : decode cX4_next 80 = .ok (.aload_n 0, 1) := dk_42 (dk_at dksX4_next_3 11 rfl rfl)
theorem dX4_next_81 : decode cX4_next 81 = .ok (.aload_n 0, 1) := dk_42 (dk_at dksX4_next_3 12 rfl rfl)
theorem dX4_next_82 : decode cX4_next 82 = .ok (.getfield 145, 3) := dk_180 0 145 (dk_at dksX4_next_3 13 rfl rfl)
theorem dX4_next_85 : decode cX4_next 85 = .ok (.invokevirtual 148, 3) := dk_182 0 148 (dk_at dksX4_next_3 16 rfl rfl)
theorem dX4_next_88 : decode cX4_next 88 = .ok (.invokestatic 159, 3) := dk_184 0 159 (dk_at dksX4_next_3 19 rfl rfl)
theorem dX4_next_91 : decode cX4_next 91 = .ok (.ifCond .eq 52, 3) := dk_153 0 52 (dk_at dksX4_next_4 0 rfl rfl)
theorem dX4_next_94 : decode cX4_next 94 = .ok (.iload_n 2, 1) := dk_28 (dk_at dksX4_next_4 3 rfl rfl)
theorem dX4_next_95 : decode cX4_next 95 = .ok (.bipush 10, 2) := dk_16 10 (dk_at dksX4_next_4 4 rfl rfl)
theorem dX4_next_97 : decode cX4_next 97 = .ok (.if_icmp .ge 30, 3) := dk_162 0 30 (dk_at dksX4_next_4 6 rfl rfl)
theorem dX4_next_100 : decode cX4_next 100 = .ok (.aload_n 0, 1) := dk_42 (dk_at dksX4_next_4 9 rfl rfl)
theorem dX4_next_101 : decode cX4_next 101 = .ok (.ldc2_w 167, 3) := dk_20 0 167 (dk_at dksX4_next_4 10 rfl rfl)
theorem dX4_next_104 : decode cX4_next 104 = .ok (.aload_n 0, 1) := dk_42 (dk_at dksX4_next_4 13 rfl rfl)
theorem dX4_next_105 : decode cX4_next 105 = .ok (.getfield 163, 3) := dk_180 0 163 (dk_at dksX4_next_4 14 rfl rfl)
theorem dX4_next_108 : decode cX4_next 108 = .ok (.lmul, 1) := dk_105 (dk_at dksX4_next_4 17 rfl rfl)
theorem dX4_next_109 : decode cX4_next 109 = .ok (.aload_n 0, 1) := dk_42 (dk_at dksX4_next_4 18 rfl rfl)
theorem dX4_next_110 : decode cX4_next 110 = .ok (.aload_n 0, 1) := dk_42 (dk_at dksX4_next_4 19 rfl rfl)
theorem dX4_next_111 : decode cX4_next 111 = .ok (.getfield 145, 3) := dk_180 0 145 (dk_at dksX4_next_4 20 rfl rfl)
theorem dX4_next_114 : decode cX4_next 114 = .ok (.invokevirtual 148, 3) := dk_182 0 148 (dk_at dksX4_next_5 0 rfl rfl)
theorem dX4_next_117 : decode cX4_next 117 = .ok (.bipush 97, 2) := dk_16 97 (dk_at dksX4_next_5 3 rfl rfl)
theorem dX4_next_119 : decode cX4_next 119 = .ok (.isub, 1) := dk_100 (dk_at dksX4_next_5 5 rfl rfl)
theorem dX4_next_120 : decode cX4_next 120 = .ok (.iconst 1, 1) := dk_4 (dk_at dksX4_next_5 6 rfl rfl)
theorem dX4_next_121 : decode cX4_next 121 = .ok (.iadd, 1) := dk_96 (dk_at dksX4_next_5 7 rfl rfl)
theorem dX4_next_122 : decode cX4_next 122 = .ok (.i2l, 1) := dk_133 (dk_at dksX4_next_5 8 rfl rfl)
theorem dX4_next_123 : decode cX4_next 123 = .ok (.ladd, 1) := dk_97 (dk_at dksX4_next_5 9 rfl rfl)
theorem dX4_next_124 : decode cX4_next 124 = .ok (.putfield 163, 3) := dk_181 0 163 (dk_at dksX4_next_5 10 rfl rfl)
theorem dX4_next_127 : decode cX4_next 127 = .ok (.iinc 2 1, 3) := dk_132 2 1 (dk_at dksX4_next_5 13 rfl rfl)
theorem dX4_next_130 : decode cX4_next 130 = .ok (.aload_n 0, 1) := dk_42 (dk_at dksX4_next_5 16 rfl rfl)
theorem dX4_next_131 : decode cX4_next 131 = .ok (.dup, 1) := dk_89 (dk_at dksX4_next_5 17 rfl rfl)
theorem dX4_next_132 : decode cX4_next 132 = .ok (.getfield 145, 3) := dk_180 0 145 (dk_at dksX4_next_5 18 rfl rfl)
theorem dX4_next_135 : decode cX4_next 135 = .ok (.iconst 1, 1) := dk_4 (dk_at dksX4_next_5 21 rfl rfl)
theorem dX4_next_136 : decode cX4_next 136 = .ok (.iadd, 1) := dk_96 (dk_at dksX4_next_5 22 rfl rfl)
theorem dX4_next_137 : decode cX4_next 137 = .ok (.putfield 145, 3) := dk_181 0 145 (dk_at dksX4_next_6 0 rfl rfl)
theorem dX4_next_140 : decode cX4_next 140 = .ok (.goto (-60), 3) := dk_167 255 196 (dk_at dksX4_next_6 3 rfl rfl)
theorem dX4_next_143 : decode cX4_next 143 = .ok (.iload_n 2, 1) := dk_28 (dk_at dksX4_next_6 6 rfl rfl)
theorem dX4_next_144 : decode cX4_next 144 = .ok (.bipush 10, 2) := dk_16 10 (dk_at dksX4_next_6 7 rfl rfl)
theorem dX4_next_146 : decode cX4_next 146 = .ok (.if_icmp .gt 43, 3) := dk_163 0 43 (dk_at dksX4_next_6 9 rfl rfl)
theorem dX4_next_149 : decode cX4_next 149 = .ok (.aload_n 0, 1) := dk_42 (dk_at dksX4_next_6 12 rfl rfl)
theorem dX4_next_150 : decode cX4_next 150 = .ok (.iconst 2, 1) := dk_5 (dk_at dksX4_next_6 13 rfl rfl)
theorem dX4_next_151 : decode cX4_next 151 = .ok (.putfield 153, 3) := dk_181 0 153 (dk_at dksX4_next_6 14 rfl rfl)
theorem dX4_next_154 : decode cX4_next 154 = .ok (.goto 35, 3) := dk_167 0 35 (dk_at dksX4_next_6 17 rfl rfl)
theorem dX4_next_157 : decode cX4_next 157 = .ok (.iload_n 1, 1) := dk_27 (dk_at dksX4_next_6 20 rfl rfl)
theorem dX4_next_158 : decode cX4_next 158 = .ok (.bipush 58, 2) := dk_16 58 (dk_at dksX4_next_6 21 rfl rfl)
theorem dX4_next_160 : decode cX4_next 160 = .ok (.if_icmp .eq 9, 3) := dk_159 0 9 (dk_at dksX4_next_7 0 rfl rfl)
theorem dX4_next_163 : decode cX4_next 163 = .ok (.iload_n 1, 1) := dk_27 (dk_at dksX4_next_7 3 rfl rfl)
theorem dX4_next_164 : decode cX4_next 164 = .ok (.bipush 59, 2) := dk_16 59 (dk_at dksX4_next_7 4 rfl rfl)
theorem dX4_next_166 : decode cX4_next 166 = .ok (.if_icmp .ne 23, 3) := dk_160 0 23 (dk_at dksX4_next_7 6 rfl rfl)
theorem dX4_next_169 : decode cX4_next 169 = .ok (.aload_n 0, 1) := dk_42 (dk_at dksX4_next_7 9 rfl rfl)
theorem dX4_next_170 : decode cX4_next 170 = .ok (.iconst 3, 1) := dk_6 (dk_at dksX4_next_7 10 rfl rfl)
theorem dX4_next_171 : decode cX4_next 171 = .ok (.putfield 153, 3) := dk_181 0 153 (dk_at dksX4_next_7 11 rfl rfl)
theorem dX4_next_174 : decode cX4_next 174 = .ok (.aload_n 0, 1) := dk_42 (dk_at dksX4_next_7 14 rfl rfl)
theorem dX4_next_175 : decode cX4_next 175 = .ok (.iload_n 1, 1) := dk_27 (dk_at dksX4_next_7 15 rfl rfl)
theorem dX4_next_176 : decode cX4_next 176 = .ok (.putfield 156, 3) := dk_181 0 156 (dk_at dksX4_next_7 16 rfl rfl)
theorem dX4_next_179 : decode cX4_next 179 = .ok (.aload_n 0, 1) := dk_42 (dk_at dksX4_next_7 19 rfl rfl)
theorem dX4_next_180 : decode cX4_next 180 = .ok (.dup, 1) := dk_89 (dk_at dksX4_next_7 20 rfl rfl)
theorem dX4_next_181 : decode cX4_next 181 = .ok (.getfield 145, 3) := dk_180 0 145 (dk_at dksX4_next_7 21 rfl rfl)
theorem dX4_next_184 : decode cX4_next 184 = .ok (.iconst 1, 1) := dk_4 (dk_at dksX4_next_8 0 rfl rfl)
theorem dX4_next_185 : decode cX4_next 185 = .ok (.iadd, 1) := dk_96 (dk_at dksX4_next_8 1 rfl rfl)
theorem dX4_next_186 : decode cX4_next 186 = .ok (.putfield 145, 3) := dk_181 0 145 (dk_at dksX4_next_8 2 rfl rfl)
theorem dX4_next_189 : decode cX4_next 189 = .ok (.return_, 1) := dk_177 (dk_at dksX4_next_8 5 rfl rfl)
abbrev cX4_byteAt : ByteArray := prog_22_method_11_code
def yX4_byteAt : MethodName := ⟨RX4, "byteAt", "(I)I"⟩
def dkwX4_byteAt_0 : List UInt8 := [27, 42, 180, 0, 142, 162, 0, 16, 42, 180, 0, 82, 27, 51, 17, 0, 255, 126, 167, 0, 4, 2, 172]
abbrev dktX4_byteAt_0 : List UInt8 := dkwX4_byteAt_0 ++ []
theorem dksX4_byteAt_0 : cX4_byteAt.data.toList.drop 0 = dktX4_byteAt_0 := by decide +kernel
theorem dX4_byteAt_0 : decode cX4_byteAt 0 = .ok (.iload_n 1, 1) := dk_27 (dk_at dksX4_byteAt_0 0 rfl rfl)
theorem dX4_byteAt_1 : decode cX4_byteAt 1 = .ok (.aload_n 0, 1) := dk_42 (dk_at dksX4_byteAt_0 1 rfl rfl)
theorem dX4_byteAt_2 : decode cX4_byteAt 2 = .ok (.getfield 142, 3) := dk_180 0 142 (dk_at dksX4_byteAt_0 2 rfl rfl)
theorem dX4_byteAt_5 : decode cX4_byteAt 5 = .ok (.if_icmp .ge 16, 3) := dk_162 0 16 (dk_at dksX4_byteAt_0 5 rfl rfl)
theorem dX4_byteAt_8 : decode cX4_byteAt 8 = .ok (.aload_n 0, 1) := dk_42 (dk_at dksX4_byteAt_0 8 rfl rfl)
theorem dX4_byteAt_9 : decode cX4_byteAt 9 = .ok (.getfield 82, 3) := dk_180 0 82 (dk_at dksX4_byteAt_0 9 rfl rfl)
theorem dX4_byteAt_12 : decode cX4_byteAt 12 = .ok (.iload_n 1, 1) := dk_27 (dk_at dksX4_byteAt_0 12 rfl rfl)
theorem dX4_byteAt_13 : decode cX4_byteAt 13 = .ok (.baload, 1) := dk_51 (dk_at dksX4_byteAt_0 13 rfl rfl)
theorem dX4_byteAt_14 : decode cX4_byteAt 14 = .ok (.sipush 255, 3) := dk_17 0 255 (dk_at dksX4_byteAt_0 14 rfl rfl)
theorem dX4_byteAt_17 : decode cX4_byteAt 17 = .ok (.iand, 1) := dk_126 (dk_at dksX4_byteAt_0 17 rfl rfl)
theorem dX4_byteAt_18 : decode cX4_byteAt 18 = .ok (.goto 4, 3) := dk_167 0 4 (dk_at dksX4_byteAt_0 18 rfl rfl)
theorem dX4_byteAt_21 : decode cX4_byteAt 21 = .ok (.iconst (-1), 1) := dk_2 (dk_at dksX4_byteAt_0 21 rfl rfl)
theorem dX4_byteAt_22 : decode cX4_byteAt 22 = .ok (.ireturn, 1) := dk_172 (dk_at dksX4_byteAt_0 22 rfl rfl)
abbrev cX4_isLetter : ByteArray := prog_22_method_12_code
def yX4_isLetter : MethodName := ⟨RX4, "isLetter", "(I)Z"⟩
def dkwX4_isLetter_0 : List UInt8 := [26, 16, 97, 161, 0, 13, 26, 16, 122, 163, 0, 7, 4, 167, 0, 4, 3, 172]
abbrev dktX4_isLetter_0 : List UInt8 := dkwX4_isLetter_0 ++ []
theorem dksX4_isLetter_0 : cX4_isLetter.data.toList.drop 0 = dktX4_isLetter_0 := by decide +kernel
theorem dX4_isLetter_0 : decode cX4_isLetter 0 = .ok (.iload_n 0, 1) := dk_26 (dk_at dksX4_isLetter_0 0 rfl rfl)
theorem dX4_isLetter_1 : decode cX4_isLetter 1 = .ok (.bipush 97, 2) := dk_16 97 (dk_at dksX4_isLetter_0 1 rfl rfl)
theorem dX4_isLetter_3 : decode cX4_isLetter 3 = .ok (.if_icmp .lt 13, 3) := dk_161 0 13 (dk_at dksX4_isLetter_0 3 rfl rfl)
theorem dX4_isLetter_6 : decode cX4_isLetter 6 = .ok (.iload_n 0, 1) := dk_26 (dk_at dksX4_isLetter_0 6 rfl rfl)
theorem dX4_isLetter_7 : decode cX4_isLetter 7 = .ok (.bipush 122, 2) := dk_16 122 (dk_at dksX4_isLetter_0 7 rfl rfl)
theorem dX4_isLetter_9 : decode cX4_isLetter 9 = .ok (.if_icmp .gt 7, 3) := dk_163 0 7 (dk_at dksX4_isLetter_0 9 rfl rfl)
theorem dX4_isLetter_12 : decode cX4_isLetter 12 = .ok (.iconst 1, 1) := dk_4 (dk_at dksX4_isLetter_0 12 rfl rfl)
theorem dX4_isLetter_13 : decode cX4_isLetter 13 = .ok (.goto 4, 3) := dk_167 0 4 (dk_at dksX4_isLetter_0 13 rfl rfl)
theorem dX4_isLetter_16 : decode cX4_isLetter 16 = .ok (.iconst 0, 1) := dk_3 (dk_at dksX4_isLetter_0 16 rfl rfl)
theorem dX4_isLetter_17 : decode cX4_isLetter 17 = .ok (.ireturn, 1) := dk_172 (dk_at dksX4_isLetter_0 17 rfl rfl)
abbrev cX4_wordOf : ByteArray := prog_22_method_16_code
def yX4_wordOf : MethodName := ⟨RX4, "wordOf", "(J)I"⟩
def dkwX4_wordOf_1 : List UInt8 := [167, 255, 234, 29, 42, 180, 0, 118, 162, 0, 7, 29, 167, 0, 4, 2, 172]
abbrev dktX4_wordOf_1 : List UInt8 := dkwX4_wordOf_1 ++ []
def dkwX4_wordOf_0 : List UInt8 := [3, 62, 29, 42, 180, 0, 118, 162, 0, 20, 42, 180, 0, 13, 29, 47, 31, 148, 153, 0, 9, 132, 3, 1]
abbrev dktX4_wordOf_0 : List UInt8 := dkwX4_wordOf_0 ++ dktX4_wordOf_1
theorem dksX4_wordOf_0 : cX4_wordOf.data.toList.drop 0 = dktX4_wordOf_0 := by decide +kernel
theorem dksX4_wordOf_1 : cX4_wordOf.data.toList.drop 24 = dktX4_wordOf_1 := dk_seg dksX4_wordOf_0 24 rfl rfl
theorem dX4_wordOf_0 : decode cX4_wordOf 0 = .ok (.iconst 0, 1) := dk_3 (dk_at dksX4_wordOf_0 0 rfl rfl)
theorem dX4_wordOf_1 : decode cX4_wordOf 1 = .ok (.istore_n 3, 1) := dk_62 (dk_at dksX4_wordOf_0 1 rfl rfl)
theorem dX4_wordOf_2 : decode cX4_wordOf 2 = .ok (.iload_n 3, 1) := dk_29 (dk_at dksX4_wordOf_0 2 rfl rfl)
theorem dX4_wordOf_3 : decode cX4_wordOf 3 = .ok (.aload_n 0, 1) := dk_42 (dk_at dksX4_wordOf_0 3 rfl rfl)
theorem dX4_wordOf_4 : decode cX4_wordOf 4 = .ok (.getfield 118, 3) := dk_180 0 118 (dk_at dksX4_wordOf_0 4 rfl rfl)
theorem dX4_wordOf_7 : decode cX4_wordOf 7 = .ok (.if_icmp .ge 20, 3) := dk_162 0 20 (dk_at dksX4_wordOf_0 7 rfl rfl)
theorem dX4_wordOf_10 : decode cX4_wordOf 10 = .ok (.aload_n 0, 1) := dk_42 (dk_at dksX4_wordOf_0 10 rfl rfl)
theorem dX4_wordOf_11 : decode cX4_wordOf 11 = .ok (.getfield 13, 3) := dk_180 0 13 (dk_at dksX4_wordOf_0 11 rfl rfl)
theorem dX4_wordOf_14 : decode cX4_wordOf 14 = .ok (.iload_n 3, 1) := dk_29 (dk_at dksX4_wordOf_0 14 rfl rfl)
theorem dX4_wordOf_15 : decode cX4_wordOf 15 = .ok (.laload, 1) := dk_47 (dk_at dksX4_wordOf_0 15 rfl rfl)
theorem dX4_wordOf_16 : decode cX4_wordOf 16 = .ok (.lload_n 1, 1) := dk_31 (dk_at dksX4_wordOf_0 16 rfl rfl)
theorem dX4_wordOf_17 : decode cX4_wordOf 17 = .ok (.lcmp, 1) := dk_148 (dk_at dksX4_wordOf_0 17 rfl rfl)
theorem dX4_wordOf_18 : decode cX4_wordOf 18 = .ok (.ifCond .eq 9, 3) := dk_153 0 9 (dk_at dksX4_wordOf_0 18 rfl rfl)
theorem dX4_wordOf_21 : decode cX4_wordOf 21 = .ok (.iinc 3 1, 3) := dk_132 3 1 (dk_at dksX4_wordOf_0 21 rfl rfl)
theorem dX4_wordOf_24 : decode cX4_wordOf 24 = .ok (.goto (-22), 3) := dk_167 255 234 (dk_at dksX4_wordOf_1 0 rfl rfl)
theorem dX4_wordOf_27 : decode cX4_wordOf 27 = .ok (.iload_n 3, 1) := dk_29 (dk_at dksX4_wordOf_1 3 rfl rfl)
theorem dX4_wordOf_28 : decode cX4_wordOf 28 = .ok (.aload_n 0, 1) := dk_42 (dk_at dksX4_wordOf_1 4 rfl rfl)
theorem dX4_wordOf_29 : decode cX4_wordOf 29 = .ok (.getfield 118, 3) := dk_180 0 118 (dk_at dksX4_wordOf_1 5 rfl rfl)
theorem dX4_wordOf_32 : decode cX4_wordOf 32 = .ok (.if_icmp .ge 7, 3) := dk_162 0 7 (dk_at dksX4_wordOf_1 8 rfl rfl)
theorem dX4_wordOf_35 : decode cX4_wordOf 35 = .ok (.iload_n 3, 1) := dk_29 (dk_at dksX4_wordOf_1 11 rfl rfl)
theorem dX4_wordOf_36 : decode cX4_wordOf 36 = .ok (.goto 4, 3) := dk_167 0 4 (dk_at dksX4_wordOf_1 12 rfl rfl)
theorem dX4_wordOf_39 : decode cX4_wordOf 39 = .ok (.iconst (-1), 1) := dk_2 (dk_at dksX4_wordOf_1 15 rfl rfl)
theorem dX4_wordOf_40 : decode cX4_wordOf 40 = .ok (.ireturn, 1) := dk_172 (dk_at dksX4_wordOf_1 16 rfl rfl)
abbrev cX4_act : ByteArray := prog_22_method_8_code
def yX4_act : MethodName := ⟨RX4, "act", "(IILPatentHallModel$Text;)V"⟩
def dkwX4_act_5 : List UInt8 := [4, 96, 181, 0, 115, 177]
abbrev dktX4_act_5 : List UInt8 := dkwX4_act_5 ++ []
def dkwX4_act_4 : List UInt8 := [180, 0, 69, 42, 180, 0, 115, 28, 79, 42, 180, 0, 72, 42, 180, 0, 115, 45, 83, 42, 89, 180, 0, 115]
abbrev dktX4_act_4 : List UInt8 := dkwX4_act_4 ++ dktX4_act_5
def dkwX4_act_3 : List UInt8 := [167, 255, 198, 42, 89, 180, 0, 115, 4, 100, 181, 0, 115, 42, 180, 0, 66, 42, 180, 0, 115, 27, 79, 42]
abbrev dktX4_act_3 : List UInt8 := dkwX4_act_3 ++ dktX4_act_4
def dkwX4_act_2 : List UInt8 := [21, 4, 46, 79, 42, 180, 0, 72, 21, 4, 4, 100, 42, 180, 0, 72, 21, 4, 50, 83, 132, 4, 1]
abbrev dktX4_act_2 : List UInt8 := dkwX4_act_2 ++ dktX4_act_3
def dkwX4_act_1 : List UInt8 := [21, 4, 4, 100, 42, 180, 0, 66, 21, 4, 46, 79, 42, 180, 0, 69, 21, 4, 4, 100, 42, 180, 0, 69]
abbrev dktX4_act_1 : List UInt8 := dkwX4_act_1 ++ dktX4_act_2
def dkwX4_act_0 : List UInt8 := [42, 180, 0, 115, 16, 100, 160, 0, 77, 4, 54, 4, 21, 4, 16, 100, 162, 0, 57, 42, 180, 0, 66]
abbrev dktX4_act_0 : List UInt8 := dkwX4_act_0 ++ dktX4_act_1
theorem dksX4_act_0 : cX4_act.data.toList.drop 0 = dktX4_act_0 := by decide +kernel
theorem dksX4_act_1 : cX4_act.data.toList.drop 23 = dktX4_act_1 := dk_seg dksX4_act_0 23 rfl rfl
theorem dksX4_act_2 : cX4_act.data.toList.drop 47 = dktX4_act_2 := dk_seg dksX4_act_1 24 rfl rfl
theorem dksX4_act_3 : cX4_act.data.toList.drop 70 = dktX4_act_3 := dk_seg dksX4_act_2 23 rfl rfl
theorem dksX4_act_4 : cX4_act.data.toList.drop 94 = dktX4_act_4 := dk_seg dksX4_act_3 24 rfl rfl
theorem dksX4_act_5 : cX4_act.data.toList.drop 118 = dktX4_act_5 := dk_seg dksX4_act_4 24 rfl rfl
theorem dX4_act_0 : decode cX4_act 0 = .ok (.aload_n 0, 1) := dk_42 (dk_at dksX4_act_0 0 rfl rfl)
theorem dX4_act_1 : decode cX4_act 1 = .ok (.getfield 115, 3) := dk_180 0 115 (dk_at dksX4_act_0 1 rfl rfl)
theorem dX4_act_4 : decode cX4_act 4 = .ok (.bipush 100, 2) := dk_16 100 (dk_at dksX4_act_0 4 rfl rfl)
theorem dX4_act_6 : decode cX4_act 6 = .ok (.if_icmp .ne 77, 3) := dk_160 0 77 (dk_at dksX4_act_0 6 rfl rfl)
theorem dX4_act_9 : decode cX4_act 9 = .ok (.iconst 1, 1) := dk_4 (dk_at dksX4_act_0 9 rfl rfl)
theorem dX4_act_10 : decode cX4_act 10 = .ok (.istore 4, 2) := dk_54 4 (dk_at dksX4_act_0 10 rfl rfl)
theorem dX4_act_12 : decode cX4_act 12 = .ok (.iload 4, 2) := dk_21 4 (dk_at dksX4_act_0 12 rfl rfl)
theorem dX4_act_14 : decode cX4_act 14 = .ok (.bipush 100, 2) := dk_16 100 (dk_at dksX4_act_0 14 rfl rfl)
theorem dX4_act_16 : decode cX4_act 16 = .ok (.if_icmp .ge 57, 3) := dk_162 0 57 (dk_at dksX4_act_0 16 rfl rfl)
theorem dX4_act_19 : decode cX4_act 19 = .ok (.aload_n 0, 1) := dk_42 (dk_at dksX4_act_0 19 rfl rfl)
theorem dX4_act_20 : decode cX4_act 20 = .ok (.getfield 66, 3) := dk_180 0 66 (dk_at dksX4_act_0 20 rfl rfl)
theorem dX4_act_23 : decode cX4_act 23 = .ok (.iload 4, 2) := dk_21 4 (dk_at dksX4_act_1 0 rfl rfl)
theorem dX4_act_25 : decode cX4_act 25 = .ok (.iconst 1, 1) := dk_4 (dk_at dksX4_act_1 2 rfl rfl)
theorem dX4_act_26 : decode cX4_act 26 = .ok (.isub, 1) := dk_100 (dk_at dksX4_act_1 3 rfl rfl)
theorem dX4_act_27 : decode cX4_act 27 = .ok (.aload_n 0, 1) := dk_42 (dk_at dksX4_act_1 4 rfl rfl)
theorem dX4_act_28 : decode cX4_act 28 = .ok (.getfield 66, 3) := dk_180 0 66 (dk_at dksX4_act_1 5 rfl rfl)
theorem dX4_act_31 : decode cX4_act 31 = .ok (.iload 4, 2) := dk_21 4 (dk_at dksX4_act_1 8 rfl rfl)
theorem dX4_act_33 : decode cX4_act 33 = .ok (.iaload, 1) := dk_46 (dk_at dksX4_act_1 10 rfl rfl)
theorem dX4_act_34 : decode cX4_act 34 = .ok (.iastore, 1) := dk_79 (dk_at dksX4_act_1 11 rfl rfl)
theorem dX4_act_35 : decode cX4_act 35 = .ok (.aload_n 0, 1) := dk_42 (dk_at dksX4_act_1 12 rfl rfl)
theorem dX4_act_36 : decode cX4_act 36 = .ok (.getfield 69, 3) := dk_180 0 69 (dk_at dksX4_act_1 13 rfl rfl)
theorem dX4_act_39 : decode cX4_act 39 = .ok (.iload 4, 2) := dk_21 4 (dk_at dksX4_act_1 16 rfl rfl)
theorem dX4_act_41 : decode cX4_act 41 = .ok (.iconst 1, 1) := dk_4 (dk_at dksX4_act_1 18 rfl rfl)
theorem dX4_act_42 : decode cX4_act 42 = .ok (.isub, 1) := dk_100 (dk_at dksX4_act_1 19 rfl rfl)
theorem dX4_act_43 : decode cX4_act 43 = .ok (.aload_n 0, 1) := dk_42 (dk_at dksX4_act_1 20 rfl rfl)
theorem dX4_act_44 : decode cX4_act 44 = .ok (.getfield 69, 3) := dk_180 0 69 (dk_at dksX4_act_1 21 rfl rfl)
theorem dX4_act_47 : decode cX4_act 47 = .ok (.iload 4, 2) := dk_21 4 (dk_at dksX4_act_2 0 rfl rfl)
theorem dX4_act_49 : decode cX4_act 49 = .ok (.iaload, 1) := dk_46 (dk_at dksX4_act_2 2 rfl rfl)
theorem dX4_act_50 : decode cX4_act 50 = .ok (.iastore, 1) := dk_79 (dk_at dksX4_act_2 3 rfl rfl)
theorem dX4_act_51 : decode cX4_act 51 = .ok (.aload_n 0, 1) := dk_42 (dk_at dksX4_act_2 4 rfl rfl)
theorem dX4_act_52 : decode cX4_act 52 = .ok (.getfield 72, 3) := dk_180 0 72 (dk_at dksX4_act_2 5 rfl rfl)
theorem dX4_act_55 : decode cX4_act 55 = .ok (.iload 4, 2) := dk_21 4 (dk_at dksX4_act_2 8 rfl rfl)
theorem dX4_act_57 : decode cX4_act 57 = .ok (.iconst 1, 1) := dk_4 (dk_at dksX4_act_2 10 rfl rfl)
theorem dX4_act_58 : decode cX4_act 58 = .ok (.isub, 1) := dk_100 (dk_at dksX4_act_2 11 rfl rfl)
theorem dX4_act_59 : decode cX4_act 59 = .ok (.aload_n 0, 1) := dk_42 (dk_at dksX4_act_2 12 rfl rfl)
theorem dX4_act_60 : decode cX4_act 60 = .ok (.getfield 72, 3) := dk_180 0 72 (dk_at dksX4_act_2 13 rfl rfl)
theorem dX4_act_63 : decode cX4_act 63 = .ok (.iload 4, 2) := dk_21 4 (dk_at dksX4_act_2 16 rfl rfl)
theorem dX4_act_65 : decode cX4_act 65 = .ok (.aaload, 1) := dk_50 (dk_at dksX4_act_2 18 rfl rfl)
theorem dX4_act_66 : decode cX4_act 66 = .ok (.aastore, 1) := dk_83 (dk_at dksX4_act_2 19 rfl rfl)
theorem dX4_act_67 : decode cX4_act 67 = .ok (.iinc 4 1, 3) := dk_132 4 1 (dk_at dksX4_act_2 20 rfl rfl)
theorem dX4_act_70 : decode cX4_act 70 = .ok (.goto (-58), 3) := dk_167 255 198 (dk_at dksX4_act_3 0 rfl rfl)
theorem dX4_act_73 : decode cX4_act 73 = .ok (.aload_n 0, 1) := dk_42 (dk_at dksX4_act_3 3 rfl rfl)
theorem dX4_act_74 : decode cX4_act 74 = .ok (.dup, 1) := dk_89 (dk_at dksX4_act_3 4 rfl rfl)
theorem dX4_act_75 : decode cX4_act 75 = .ok (.getfield 115, 3) := dk_180 0 115 (dk_at dksX4_act_3 5 rfl rfl)
theorem dX4_act_78 : decode cX4_act 78 = .ok (.iconst 1, 1) := dk_4 (dk_at dksX4_act_3 8 rfl rfl)
theorem dX4_act_79 : decode cX4_act 79 = .ok (.isub, 1) := dk_100 (dk_at dksX4_act_3 9 rfl rfl)
theorem dX4_act_80 : decode cX4_act 80 = .ok (.putfield 115, 3) := dk_181 0 115 (dk_at dksX4_act_3 10 rfl rfl)
theorem dX4_act_83 : decode cX4_act 83 = .ok (.aload_n 0, 1) := dk_42 (dk_at dksX4_act_3 13 rfl rfl)
theorem dX4_act_84 : decode cX4_act 84 = .ok (.getfield 66, 3) := dk_180 0 66 (dk_at dksX4_act_3 14 rfl rfl)
theorem dX4_act_87 : decode cX4_act 87 = .ok (.aload_n 0, 1) := dk_42 (dk_at dksX4_act_3 17 rfl rfl)
theorem dX4_act_88 : decode cX4_act 88 = .ok (.getfield 115, 3) := dk_180 0 115 (dk_at dksX4_act_3 18 rfl rfl)
theorem dX4_act_91 : decode cX4_act 91 = .ok (.iload_n 1, 1) := dk_27 (dk_at dksX4_act_3 21 rfl rfl)
theorem dX4_act_92 : decode cX4_act 92 = .ok (.iastore, 1) := dk_79 (dk_at dksX4_act_3 22 rfl rfl)
theorem dX4_act_93 : decode cX4_act 93 = .ok (.aload_n 0, 1) := dk_42 (dk_at dksX4_act_3 23 rfl rfl)
theorem dX4_act_94 : decode cX4_act 94 = .ok (.getfield 69, 3) := dk_180 0 69 (dk_at dksX4_act_4 0 rfl rfl)
theorem dX4_act_97 : decode cX4_act 97 = .ok (.aload_n 0, 1) := dk_42 (dk_at dksX4_act_4 3 rfl rfl)
theorem dX4_act_98 : decode cX4_act 98 = .ok (.getfield 115, 3) := dk_180 0 115 (dk_at dksX4_act_4 4 rfl rfl)
theorem dX4_act_101 : decode cX4_act 101 = .ok (.iload_n 2, 1) := dk_28 (dk_at dksX4_act_4 7 rfl rfl)
theorem dX4_act_102 : decode cX4_act 102 = .ok (.iastore, 1) := dk_79 (dk_at dksX4_act_4 8 rfl rfl)
theorem dX4_act_103 : decode cX4_act 103 = .ok (.aload_n 0, 1) := dk_42 (dk_at dksX4_act_4 9 rfl rfl)
theorem dX4_act_104 : decode cX4_act 104 = .ok (.getfield 72, 3) := dk_180 0 72 (dk_at dksX4_act_4 10 rfl rfl)
theorem dX4_act_107 : decode cX4_act 107 = .ok (.aload_n 0, 1) := dk_42 (dk_at dksX4_act_4 13 rfl rfl)
theorem dX4_act_108 : decode cX4_act 108 = .ok (.getfield 115, 3) := dk_180 0 115 (dk_at dksX4_act_4 14 rfl rfl)
theorem dX4_act_111 : decode cX4_act 111 = .ok (.aload_n 3, 1) := dk_45 (dk_at dksX4_act_4 17 rfl rfl)
theorem dX4_act_112 : decode cX4_act 112 = .ok (.aastore, 1) := dk_83 (dk_at dksX4_act_4 18 rfl rfl)
theorem dX4_act_113 : decode cX4_act 113 = .ok (.aload_n 0, 1) := dk_42 (dk_at dksX4_act_4 19 rfl rfl)
theorem dX4_act_114 : decode cX4_act 114 = .ok (.dup, 1) := dk_89 (dk_at dksX4_act_4 20 rfl rfl)
theorem dX4_act_115 : decode cX4_act 115 = .ok (.getfield 115, 3) := dk_180 0 115 (dk_at dksX4_act_4 21 rfl rfl)
theorem dX4_act_118 : decode cX4_act 118 = .ok (.iconst 1, 1) := dk_4 (dk_at dksX4_act_5 0 rfl rfl)
theorem dX4_act_119 : decode cX4_act 119 = .ok (.iadd, 1) := dk_96 (dk_at dksX4_act_5 1 rfl rfl)
theorem dX4_act_120 : decode cX4_act 120 = .ok (.putfield 115, 3) := dk_181 0 115 (dk_at dksX4_act_5 2 rfl rfl)
theorem dX4_act_123 : decode cX4_act 123 = .ok (.return_, 1) := dk_177 (dk_at dksX4_act_5 5 rfl rfl)
abbrev cX4_done : ByteArray := prog_22_method_5_code
def yX4_done : MethodName := ⟨RX4, "done", "(I)I"⟩
def dkwX4_done_0 : List UInt8 := [42, 3, 181, 0, 112, 42, 2, 181, 0, 9, 27, 172]
abbrev dktX4_done_0 : List UInt8 := dkwX4_done_0 ++ []
theorem dksX4_done_0 : cX4_done.data.toList.drop 0 = dktX4_done_0 := by decide +kernel
theorem dX4_done_0 : decode cX4_done 0 = .ok (.aload_n 0, 1) := dk_42 (dk_at dksX4_done_0 0 rfl rfl)
theorem dX4_done_1 : decode cX4_done 1 = .ok (.iconst 0, 1) := dk_3 (dk_at dksX4_done_0 1 rfl rfl)
theorem dX4_done_2 : decode cX4_done 2 = .ok (.putfield 112, 3) := dk_181 0 112 (dk_at dksX4_done_0 2 rfl rfl)
theorem dX4_done_5 : decode cX4_done 5 = .ok (.aload_n 0, 1) := dk_42 (dk_at dksX4_done_0 5 rfl rfl)
theorem dX4_done_6 : decode cX4_done 6 = .ok (.iconst (-1), 1) := dk_2 (dk_at dksX4_done_0 6 rfl rfl)
theorem dX4_done_7 : decode cX4_done 7 = .ok (.putfield 9, 3) := dk_181 0 9 (dk_at dksX4_done_0 7 rfl rfl)
theorem dX4_done_10 : decode cX4_done 10 = .ok (.iload_n 1, 1) := dk_27 (dk_at dksX4_done_0 10 rfl rfl)
theorem dX4_done_11 : decode cX4_done 11 = .ok (.ireturn, 1) := dk_172 (dk_at dksX4_done_0 11 rfl rfl)
abbrev cX4_under : ByteArray := prog_22_method_30_code
def yX4_under : MethodName := ⟨RX4, "under", "(II)I"⟩
def dkwX4_under_1 : List UInt8 := [182, 0, 223, 153, 0, 7, 4, 167, 0, 8, 3, 167, 0, 4, 2, 172]
abbrev dktX4_under_1 : List UInt8 := dkwX4_under_1 ++ []
def dkwX4_under_0 : List UInt8 := [42, 3, 181, 0, 109, 42, 27, 182, 0, 252, 153, 0, 28, 42, 28, 182, 0, 252, 153, 0, 20, 42, 27, 28]
abbrev dktX4_under_0 : List UInt8 := dkwX4_under_0 ++ dktX4_under_1
theorem dksX4_under_0 : cX4_under.data.toList.drop 0 = dktX4_under_0 := by decide +kernel
theorem dksX4_under_1 : cX4_under.data.toList.drop 24 = dktX4_under_1 := dk_seg dksX4_under_0 24 rfl rfl
theorem dX4_under_0 : decode cX4_under 0 = .ok (.aload_n 0, 1) := dk_42 (dk_at dksX4_under_0 0 rfl rfl)
theorem dX4_under_1 : decode cX4_under 1 = .ok (.iconst 0, 1) := dk_3 (dk_at dksX4_under_0 1 rfl rfl)
theorem dX4_under_2 : decode cX4_under 2 = .ok (.putfield 109, 3) := dk_181 0 109 (dk_at dksX4_under_0 2 rfl rfl)
theorem dX4_under_5 : decode cX4_under 5 = .ok (.aload_n 0, 1) := dk_42 (dk_at dksX4_under_0 5 rfl rfl)
theorem dX4_under_6 : decode cX4_under 6 = .ok (.iload_n 1, 1) := dk_27 (dk_at dksX4_under_0 6 rfl rfl)
theorem dX4_under_7 : decode cX4_under 7 = .ok (.invokevirtual 252, 3) := dk_182 0 252 (dk_at dksX4_under_0 7 rfl rfl)
theorem dX4_under_10 : decode cX4_under 10 = .ok (.ifCond .eq 28, 3) := dk_153 0 28 (dk_at dksX4_under_0 10 rfl rfl)
theorem dX4_under_13 : decode cX4_under 13 = .ok (.aload_n 0, 1) := dk_42 (dk_at dksX4_under_0 13 rfl rfl)
theorem dX4_under_14 : decode cX4_under 14 = .ok (.iload_n 2, 1) := dk_28 (dk_at dksX4_under_0 14 rfl rfl)
theorem dX4_under_15 : decode cX4_under 15 = .ok (.invokevirtual 252, 3) := dk_182 0 252 (dk_at dksX4_under_0 15 rfl rfl)
theorem dX4_under_18 : decode cX4_under 18 = .ok (.ifCond .eq 20, 3) := dk_153 0 20 (dk_at dksX4_under_0 18 rfl rfl)
theorem dX4_under_21 : decode cX4_under 21 = .ok (.aload_n 0, 1) := dk_42 (dk_at dksX4_under_0 21 rfl rfl)
theorem dX4_under_22 : decode cX4_under 22 = .ok (.iload_n 1, 1) := dk_27 (dk_at dksX4_under_0 22 rfl rfl)
theorem dX4_under_23 : decode cX4_under 23 = .ok (.iload_n 2, 1) := dk_28 (dk_at dksX4_under_0 23 rfl rfl)
theorem dX4_under_24 : decode cX4_under 24 = .ok (.invokevirtual 223, 3) := dk_182 0 223 (dk_at dksX4_under_1 0 rfl rfl)
theorem dX4_under_27 : decode cX4_under 27 = .ok (.ifCond .eq 7, 3) := dk_153 0 7 (dk_at dksX4_under_1 3 rfl rfl)
theorem dX4_under_30 : decode cX4_under 30 = .ok (.iconst 1, 1) := dk_4 (dk_at dksX4_under_1 6 rfl rfl)
theorem dX4_under_31 : decode cX4_under 31 = .ok (.goto 8, 3) := dk_167 0 8 (dk_at dksX4_under_1 7 rfl rfl)
theorem dX4_under_34 : decode cX4_under 34 = .ok (.iconst 0, 1) := dk_3 (dk_at dksX4_under_1 10 rfl rfl)
theorem dX4_under_35 : decode cX4_under 35 = .ok (.goto 4, 3) := dk_167 0 4 (dk_at dksX4_under_1 11 rfl rfl)
theorem dX4_under_38 : decode cX4_under 38 = .ok (.iconst (-1), 1) := dk_2 (dk_at dksX4_under_1 14 rfl rfl)
theorem dX4_under_39 : decode cX4_under 39 = .ok (.ireturn, 1) := dk_172 (dk_at dksX4_under_1 15 rfl rfl)
abbrev cX4_isWord : ByteArray := prog_22_method_29_code
def yX4_isWord : MethodName := ⟨RX4, "isWord", "(I)Z"⟩
def dkwX4_isWord_0 : List UInt8 := [27, 155, 0, 15, 27, 42, 180, 0, 118, 162, 0, 7, 4, 167, 0, 4, 3, 172]
abbrev dktX4_isWord_0 : List UInt8 := dkwX4_isWord_0 ++ []
theorem dksX4_isWord_0 : cX4_isWord.data.toList.drop 0 = dktX4_isWord_0 := by decide +kernel
theorem dX4_isWord_0 : decode cX4_isWord 0 = .ok (.iload_n 1, 1) := dk_27 (dk_at dksX4_isWord_0 0 rfl rfl)
theorem dX4_isWord_1 : decode cX4_isWord 1 = .ok (.ifCond .lt 15, 3) := dk_155 0 15 (dk_at dksX4_isWord_0 1 rfl rfl)
theorem dX4_isWord_4 : decode cX4_isWord 4 = .ok (.iload_n 1, 1) := dk_27 (dk_at dksX4_isWord_0 4 rfl rfl)
theorem dX4_isWord_5 : decode cX4_isWord 5 = .ok (.aload_n 0, 1) := dk_42 (dk_at dksX4_isWord_0 5 rfl rfl)
theorem dX4_isWord_6 : decode cX4_isWord 6 = .ok (.getfield 118, 3) := dk_180 0 118 (dk_at dksX4_isWord_0 6 rfl rfl)
theorem dX4_isWord_9 : decode cX4_isWord 9 = .ok (.if_icmp .ge 7, 3) := dk_162 0 7 (dk_at dksX4_isWord_0 9 rfl rfl)
theorem dX4_isWord_12 : decode cX4_isWord 12 = .ok (.iconst 1, 1) := dk_4 (dk_at dksX4_isWord_0 12 rfl rfl)
theorem dX4_isWord_13 : decode cX4_isWord 13 = .ok (.goto 4, 3) := dk_167 0 4 (dk_at dksX4_isWord_0 13 rfl rfl)
theorem dX4_isWord_16 : decode cX4_isWord 16 = .ok (.iconst 0, 1) := dk_3 (dk_at dksX4_isWord_0 16 rfl rfl)
theorem dX4_isWord_17 : decode cX4_isWord 17 = .ok (.ireturn, 1) := dk_172 (dk_at dksX4_isWord_0 17 rfl rfl)
abbrev cX4_isUnder : ByteArray := prog_22_method_20_code
def yX4_isUnder : MethodName := ⟨RX4, "isUnder", "(II)Z"⟩
def dkwX4_isUnder_1 : List UInt8 := [160, 0, 7, 4, 167, 0, 4, 3, 172]
abbrev dktX4_isUnder_1 : List UInt8 := dkwX4_isUnder_1 ++ []
def dkwX4_isUnder_0 : List UInt8 := [27, 62, 29, 2, 159, 0, 18, 29, 28, 159, 0, 13, 42, 180, 0, 17, 29, 46, 62, 167, 255, 239, 29, 28]
abbrev dktX4_isUnder_0 : List UInt8 := dkwX4_isUnder_0 ++ dktX4_isUnder_1
theorem dksX4_isUnder_0 : cX4_isUnder.data.toList.drop 0 = dktX4_isUnder_0 := by decide +kernel
theorem dksX4_isUnder_1 : cX4_isUnder.data.toList.drop 24 = dktX4_isUnder_1 := dk_seg dksX4_isUnder_0 24 rfl rfl
theorem dX4_isUnder_0 : decode cX4_isUnder 0 = .ok (.iload_n 1, 1) := dk_27 (dk_at dksX4_isUnder_0 0 rfl rfl)
theorem dX4_isUnder_1 : decode cX4_isUnder 1 = .ok (.istore_n 3, 1) := dk_62 (dk_at dksX4_isUnder_0 1 rfl rfl)
theorem dX4_isUnder_2 : decode cX4_isUnder 2 = .ok (.iload_n 3, 1) := dk_29 (dk_at dksX4_isUnder_0 2 rfl rfl)
theorem dX4_isUnder_3 : decode cX4_isUnder 3 = .ok (.iconst (-1), 1) := dk_2 (dk_at dksX4_isUnder_0 3 rfl rfl)
theorem dX4_isUnder_4 : decode cX4_isUnder 4 = .ok (.if_icmp .eq 18, 3) := dk_159 0 18 (dk_at dksX4_isUnder_0 4 rfl rfl)
theorem dX4_isUnder_7 : decode cX4_isUnder 7 = .ok (.iload_n 3, 1) := dk_29 (dk_at dksX4_isUnder_0 7 rfl rfl)
theorem dX4_isUnder_8 : decode cX4_isUnder 8 = .ok (.iload_n 2, 1) := dk_28 (dk_at dksX4_isUnder_0 8 rfl rfl)
theorem dX4_isUnder_9 : decode cX4_isUnder 9 = .ok (.if_icmp .eq 13, 3) := dk_159 0 13 (dk_at dksX4_isUnder_0 9 rfl rfl)
theorem dX4_isUnder_12 : decode cX4_isUnder 12 = .ok (.aload_n 0, 1) := dk_42 (dk_at dksX4_isUnder_0 12 rfl rfl)
theorem dX4_isUnder_13 : decode cX4_isUnder 13 = .ok (.getfield 17, 3) := dk_180 0 17 (dk_at dksX4_isUnder_0 13 rfl rfl)
theorem dX4_isUnder_16 : decode cX4_isUnder 16 = .ok (.iload_n 3, 1) := dk_29 (dk_at dksX4_isUnder_0 16 rfl rfl)
theorem dX4_isUnder_17 : decode cX4_isUnder 17 = .ok (.iaload, 1) := dk_46 (dk_at dksX4_isUnder_0 17 rfl rfl)
theorem dX4_isUnder_18 : decode cX4_isUnder 18 = .ok (.istore_n 3, 1) := dk_62 (dk_at dksX4_isUnder_0 18 rfl rfl)
theorem dX4_isUnder_19 : decode cX4_isUnder 19 = .ok (.goto (-17), 3) := dk_167 255 239 (dk_at dksX4_isUnder_0 19 rfl rfl)
theorem dX4_isUnder_22 : decode cX4_isUnder 22 = .ok (.iload_n 3, 1) := dk_29 (dk_at dksX4_isUnder_0 22 rfl rfl)
theorem dX4_isUnder_23 : decode cX4_isUnder 23 = .ok (.iload_n 2, 1) := dk_28 (dk_at dksX4_isUnder_0 23 rfl rfl)
theorem dX4_isUnder_24 : decode cX4_isUnder 24 = .ok (.if_icmp .ne 7, 3) := dk_160 0 7 (dk_at dksX4_isUnder_1 0 rfl rfl)
theorem dX4_isUnder_27 : decode cX4_isUnder 27 = .ok (.iconst 1, 1) := dk_4 (dk_at dksX4_isUnder_1 3 rfl rfl)
theorem dX4_isUnder_28 : decode cX4_isUnder 28 = .ok (.goto 4, 3) := dk_167 0 4 (dk_at dksX4_isUnder_1 4 rfl rfl)
theorem dX4_isUnder_31 : decode cX4_isUnder 31 = .ok (.iconst 0, 1) := dk_3 (dk_at dksX4_isUnder_1 7 rfl rfl)
theorem dX4_isUnder_32 : decode cX4_isUnder 32 = .ok (.ireturn, 1) := dk_172 (dk_at dksX4_isUnder_1 8 rfl rfl)
abbrev cX4_pass : ByteArray := prog_22_method_31_code
def yX4_pass : MethodName := ⟨RX4, "pass", "(I)I"⟩
def dkwX4_pass_2 : List UInt8 := [180, 0, 121, 27, 96, 181, 0, 121, 42, 42, 180, 0, 121, 182, 0, 249, 172]
abbrev dktX4_pass_2 : List UInt8 := dkwX4_pass_2 ++ []
def dkwX4_pass_1 : List UInt8 := [17, 78, 32, 164, 0, 9, 42, 5, 182, 0, 239, 172, 42, 4, 42, 180, 0, 121, 1, 182, 0, 245, 42, 89]
abbrev dktX4_pass_1 : List UInt8 := dkwX4_pass_1 ++ dktX4_pass_2
def dkwX4_pass_0 : List UInt8 := [42, 3, 181, 0, 109, 27, 4, 17, 19, 136, 184, 0, 255, 153, 0, 15, 42, 180, 0, 121, 27, 96]
abbrev dktX4_pass_0 : List UInt8 := dkwX4_pass_0 ++ dktX4_pass_1
theorem dksX4_pass_0 : cX4_pass.data.toList.drop 0 = dktX4_pass_0 := by decide +kernel
theorem dksX4_pass_1 : cX4_pass.data.toList.drop 22 = dktX4_pass_1 := dk_seg dksX4_pass_0 22 rfl rfl
theorem dksX4_pass_2 : cX4_pass.data.toList.drop 46 = dktX4_pass_2 := dk_seg dksX4_pass_1 24 rfl rfl
theorem dX4_pass_0 : decode cX4_pass 0 = .ok (.aload_n 0, 1) := dk_42 (dk_at dksX4_pass_0 0 rfl rfl)
theorem dX4_pass_1 : decode cX4_pass 1 = .ok (.iconst 0, 1) := dk_3 (dk_at dksX4_pass_0 1 rfl rfl)
theorem dX4_pass_2 : decode cX4_pass 2 = .ok (.putfield 109, 3) := dk_181 0 109 (dk_at dksX4_pass_0 2 rfl rfl)
theorem dX4_pass_5 : decode cX4_pass 5 = .ok (.iload_n 1, 1) := dk_27 (dk_at dksX4_pass_0 5 rfl rfl)
theorem dX4_pass_6 : decode cX4_pass 6 = .ok (.iconst 1, 1) := dk_4 (dk_at dksX4_pass_0 6 rfl rfl)
theorem dX4_pass_7 : decode cX4_pass 7 = .ok (.sipush 5000, 3) := dk_17 19 136 (dk_at dksX4_pass_0 7 rfl rfl)
theorem dX4_pass_10 : decode cX4_pass 10 = .ok (.invokestatic 255, 3) := dk_184 0 255 (dk_at dksX4_pass_0 10 rfl rfl)
theorem dX4_pass_13 : decode cX4_pass 13 = .ok (.ifCond .eq 15, 3) := dk_153 0 15 (dk_at dksX4_pass_0 13 rfl rfl)
theorem dX4_pass_16 : decode cX4_pass 16 = .ok (.aload_n 0, 1) := dk_42 (dk_at dksX4_pass_0 16 rfl rfl)
theorem dX4_pass_17 : decode cX4_pass 17 = .ok (.getfield 121, 3) := dk_180 0 121 (dk_at dksX4_pass_0 17 rfl rfl)
theorem dX4_pass_20 : decode cX4_pass 20 = .ok (.iload_n 1, 1) := dk_27 (dk_at dksX4_pass_0 20 rfl rfl)
theorem dX4_pass_21 : decode cX4_pass 21 = .ok (.iadd, 1) := dk_96 (dk_at dksX4_pass_0 21 rfl rfl)
theorem dX4_pass_22 : decode cX4_pass 22 = .ok (.sipush 20000, 3) := dk_17 78 32 (dk_at dksX4_pass_1 0 rfl rfl)
theorem dX4_pass_25 : decode cX4_pass 25 = .ok (.if_icmp .le 9, 3) := dk_164 0 9 (dk_at dksX4_pass_1 3 rfl rfl)
theorem dX4_pass_28 : decode cX4_pass 28 = .ok (.aload_n 0, 1) := dk_42 (dk_at dksX4_pass_1 6 rfl rfl)
theorem dX4_pass_29 : decode cX4_pass 29 = .ok (.iconst 2, 1) := dk_5 (dk_at dksX4_pass_1 7 rfl rfl)
theorem dX4_pass_30 : decode cX4_pass 30 = .ok (.invokevirtual 239, 3) := dk_182 0 239 (dk_at dksX4_pass_1 8 rfl rfl)
theorem dX4_pass_33 : decode cX4_pass 33 = .ok (.ireturn, 1) := dk_172 (dk_at dksX4_pass_1 11 rfl rfl)
theorem dX4_pass_34 : decode cX4_pass 34 = .ok (.aload_n 0, 1) := dk_42 (dk_at dksX4_pass_1 12 rfl rfl)
theorem dX4_pass_35 : decode cX4_pass 35 = .ok (.iconst 1, 1) := dk_4 (dk_at dksX4_pass_1 13 rfl rfl)
theorem dX4_pass_36 : decode cX4_pass 36 = .ok (.aload_n 0, 1) := dk_42 (dk_at dksX4_pass_1 14 rfl rfl)
theorem dX4_pass_37 : decode cX4_pass 37 = .ok (.getfield 121, 3) := dk_180 0 121 (dk_at dksX4_pass_1 15 rfl rfl)
theorem dX4_pass_40 : decode cX4_pass 40 = .ok (.aconst_null, 1) := dk_1 (dk_at dksX4_pass_1 18 rfl rfl)
theorem dX4_pass_41 : decode cX4_pass 41 = .ok (.invokevirtual 245, 3) := dk_182 0 245 (dk_at dksX4_pass_1 19 rfl rfl)
theorem dX4_pass_44 : decode cX4_pass 44 = .ok (.aload_n 0, 1) := dk_42 (dk_at dksX4_pass_1 22 rfl rfl)
theorem dX4_pass_45 : decode cX4_pass 45 = .ok (.dup, 1) := dk_89 (dk_at dksX4_pass_1 23 rfl rfl)
theorem dX4_pass_46 : decode cX4_pass 46 = .ok (.getfield 121, 3) := dk_180 0 121 (dk_at dksX4_pass_2 0 rfl rfl)
theorem dX4_pass_49 : decode cX4_pass 49 = .ok (.iload_n 1, 1) := dk_27 (dk_at dksX4_pass_2 3 rfl rfl)
theorem dX4_pass_50 : decode cX4_pass 50 = .ok (.iadd, 1) := dk_96 (dk_at dksX4_pass_2 4 rfl rfl)
theorem dX4_pass_51 : decode cX4_pass 51 = .ok (.putfield 121, 3) := dk_181 0 121 (dk_at dksX4_pass_2 5 rfl rfl)
theorem dX4_pass_54 : decode cX4_pass 54 = .ok (.aload_n 0, 1) := dk_42 (dk_at dksX4_pass_2 8 rfl rfl)
theorem dX4_pass_55 : decode cX4_pass 55 = .ok (.aload_n 0, 1) := dk_42 (dk_at dksX4_pass_2 9 rfl rfl)
theorem dX4_pass_56 : decode cX4_pass 56 = .ok (.getfield 121, 3) := dk_180 0 121 (dk_at dksX4_pass_2 10 rfl rfl)
theorem dX4_pass_59 : decode cX4_pass 59 = .ok (.invokevirtual 249, 3) := dk_182 0 249 (dk_at dksX4_pass_2 13 rfl rfl)
theorem dX4_pass_62 : decode cX4_pass 62 = .ok (.ireturn, 1) := dk_172 (dk_at dksX4_pass_2 16 rfl rfl)
abbrev cX4_in : ByteArray := prog_22_method_7_code
def yX4_in : MethodName := ⟨RX4, "in", "(III)Z"⟩
def dkwX4_in_0 : List UInt8 := [26, 27, 161, 0, 12, 26, 28, 163, 0, 7, 4, 167, 0, 4, 3, 172]
abbrev dktX4_in_0 : List UInt8 := dkwX4_in_0 ++ []
theorem dksX4_in_0 : cX4_in.data.toList.drop 0 = dktX4_in_0 := by decide +kernel
theorem dX4_in_0 : decode cX4_in 0 = .ok (.iload_n 0, 1) := dk_26 (dk_at dksX4_in_0 0 rfl rfl)
theorem dX4_in_1 : decode cX4_in 1 = .ok (.iload_n 1, 1) := dk_27 (dk_at dksX4_in_0 1 rfl rfl)
theorem dX4_in_2 : decode cX4_in 2 = .ok (.if_icmp .lt 12, 3) := dk_161 0 12 (dk_at dksX4_in_0 2 rfl rfl)
theorem dX4_in_5 : decode cX4_in 5 = .ok (.iload_n 0, 1) := dk_26 (dk_at dksX4_in_0 5 rfl rfl)
theorem dX4_in_6 : decode cX4_in 6 = .ok (.iload_n 2, 1) := dk_28 (dk_at dksX4_in_0 6 rfl rfl)
theorem dX4_in_7 : decode cX4_in 7 = .ok (.if_icmp .gt 7, 3) := dk_163 0 7 (dk_at dksX4_in_0 7 rfl rfl)
theorem dX4_in_10 : decode cX4_in 10 = .ok (.iconst 1, 1) := dk_4 (dk_at dksX4_in_0 10 rfl rfl)
theorem dX4_in_11 : decode cX4_in 11 = .ok (.goto 4, 3) := dk_167 0 4 (dk_at dksX4_in_0 11 rfl rfl)
theorem dX4_in_14 : decode cX4_in 14 = .ok (.iconst 0, 1) := dk_3 (dk_at dksX4_in_0 14 rfl rfl)
theorem dX4_in_15 : decode cX4_in 15 = .ok (.ireturn, 1) := dk_172 (dk_at dksX4_in_0 15 rfl rfl)
abbrev cX4_paper : ByteArray := prog_22_method_32_code
def yX4_paper : MethodName := ⟨RX4, "paper", "(II)I"⟩
def dkwX4_paper_6 : List UInt8 := [182, 0, 249, 172]
abbrev dktX4_paper_6 : List UInt8 := dkwX4_paper_6 ++ []
def dkwX4_paper_5 : List UInt8 := [3, 1, 182, 0, 245, 42, 89, 180, 0, 124, 4, 96, 181, 0, 124, 42, 42, 180, 0, 124, 4, 100]
abbrev dktX4_paper_5 : List UInt8 := dkwX4_paper_5 ++ dktX4_paper_6
def dkwX4_paper_4 : List UInt8 := [180, 0, 36, 42, 180, 0, 124, 27, 79, 42, 180, 0, 39, 42, 180, 0, 124, 42, 180, 0, 121, 79, 42, 5]
abbrev dktX4_paper_4 : List UInt8 := dkwX4_paper_4 ++ dktX4_paper_5
def dkwX4_paper_3 : List UInt8 := [16, 20, 160, 0, 9, 42, 6, 182, 0, 239, 172, 42, 180, 0, 23, 42, 180, 0, 124, 45, 83, 42]
abbrev dktX4_paper_3 : List UInt8 := dkwX4_paper_3 ++ dktX4_paper_4
def dkwX4_paper_2 : List UInt8 := [28, 16, 8, 16, 10, 182, 1, 3, 167, 0, 12, 58, 4, 42, 25, 4, 182, 1, 7, 172, 42, 180, 0, 124]
abbrev dktX4_paper_2 : List UInt8 := dkwX4_paper_2 ++ dktX4_paper_3
def dkwX4_paper_1 : List UInt8 := [154, 0, 9, 42, 5, 182, 0, 239, 172, 42, 3, 181, 0, 217, 187, 0, 21, 89, 183, 0, 95, 78, 42, 45]
abbrev dktX4_paper_1 : List UInt8 := dkwX4_paper_1 ++ dktX4_paper_2
def dkwX4_paper_0 : List UInt8 := [42, 3, 181, 0, 109, 27, 3, 42, 180, 0, 121, 184, 0, 255, 153, 0, 11, 42, 28, 182, 0, 242]
abbrev dktX4_paper_0 : List UInt8 := dkwX4_paper_0 ++ dktX4_paper_1
theorem dksX4_paper_0 : cX4_paper.data.toList.drop 0 = dktX4_paper_0 := by decide +kernel
theorem dksX4_paper_1 : cX4_paper.data.toList.drop 22 = dktX4_paper_1 := dk_seg dksX4_paper_0 22 rfl rfl
theorem dksX4_paper_2 : cX4_paper.data.toList.drop 46 = dktX4_paper_2 := dk_seg dksX4_paper_1 24 rfl rfl
theorem dksX4_paper_3 : cX4_paper.data.toList.drop 70 = dktX4_paper_3 := dk_seg dksX4_paper_2 24 rfl rfl
theorem dksX4_paper_4 : cX4_paper.data.toList.drop 92 = dktX4_paper_4 := dk_seg dksX4_paper_3 22 rfl rfl
theorem dksX4_paper_5 : cX4_paper.data.toList.drop 116 = dktX4_paper_5 := dk_seg dksX4_paper_4 24 rfl rfl
theorem dksX4_paper_6 : cX4_paper.data.toList.drop 138 = dktX4_paper_6 := dk_seg dksX4_paper_5 22 rfl rfl
theorem dX4_paper_0 : decode cX4_paper 0 = .ok (.aload_n 0, 1) := dk_42 (dk_at dksX4_paper_0 0 rfl rfl)
theorem dX4_paper_1 : decode cX4_paper 1 = .ok (.iconst 0, 1) := dk_3 (dk_at dksX4_paper_0 1 rfl rfl)
theorem dX4_paper_2 : decode cX4_paper 2 = .ok (.putfield 109, 3) := dk_181 0 109 (dk_at dksX4_paper_0 2 rfl rfl)
theorem dX4_paper_5 : decode cX4_paper 5 = .ok (.iload_n 1, 1) := dk_27 (dk_at dksX4_paper_0 5 rfl rfl)
theorem dX4_paper_6 : decode cX4_paper 6 = .ok (.iconst 0, 1) := dk_3 (dk_at dksX4_paper_0 6 rfl rfl)
theorem dX4_paper_7 : decode cX4_paper 7 = .ok (.aload_n 0, 1) := dk_42 (dk_at dksX4_paper_0 7 rfl rfl)
theorem dX4_paper_8 : decode cX4_paper 8 = .ok (.getfield 121, 3) := dk_180 0 121 (dk_at dksX4_paper_0 8 rfl rfl)
theorem dX4_paper_11 : decode cX4_paper 11 = .ok (.invokestatic 255, 3) := dk_184 0 255 (dk_at dksX4_paper_0 11 rfl rfl)
theorem dX4_paper_14 : decode cX4_paper 14 = .ok (.ifCond .eq 11, 3) := dk_153 0 11 (dk_at dksX4_paper_0 14 rfl rfl)
theorem dX4_paper_17 : decode cX4_paper 17 = .ok (.aload_n 0, 1) := dk_42 (dk_at dksX4_paper_0 17 rfl rfl)
theorem dX4_paper_18 : decode cX4_paper 18 = .ok (.iload_n 2, 1) := dk_28 (dk_at dksX4_paper_0 18 rfl rfl)
theorem dX4_paper_19 : decode cX4_paper 19 = .ok (.invokevirtual 242, 3) := dk_182 0 242 (dk_at dksX4_paper_0 19 rfl rfl)
theorem dX4_paper_22 : decode cX4_paper 22 = .ok (.ifCond .ne 9, 3) := dk_154 0 9 (dk_at dksX4_paper_1 0 rfl rfl)
theorem dX4_paper_25 : decode cX4_paper 25 = .ok (.aload_n 0, 1) := dk_42 (dk_at dksX4_paper_1 3 rfl rfl)
theorem dX4_paper_26 : decode cX4_paper 26 = .ok (.iconst 2, 1) := dk_5 (dk_at dksX4_paper_1 4 rfl rfl)
theorem dX4_paper_27 : decode cX4_paper 27 = .ok (.invokevirtual 239, 3) := dk_182 0 239 (dk_at dksX4_paper_1 5 rfl rfl)
theorem dX4_paper_30 : decode cX4_paper 30 = .ok (.ireturn, 1) := dk_172 (dk_at dksX4_paper_1 8 rfl rfl)
theorem dX4_paper_31 : decode cX4_paper 31 = .ok (.aload_n 0, 1) := dk_42 (dk_at dksX4_paper_1 9 rfl rfl)
theorem dX4_paper_32 : decode cX4_paper 32 = .ok (.iconst 0, 1) := dk_3 (dk_at dksX4_paper_1 10 rfl rfl)
theorem dX4_paper_33 : decode cX4_paper 33 = .ok (.putfield 217, 3) := dk_181 0 217 (dk_at dksX4_paper_1 11 rfl rfl)
theorem dX4_paper_36 : decode cX4_paper 36 = .ok (.new 21, 3) := dk_187 0 21 (dk_at dksX4_paper_1 14 rfl rfl)
theorem dX4_paper_39 : decode cX4_paper 39 = .ok (.dup, 1) := dk_89 (dk_at dksX4_paper_1 17 rfl rfl)
theorem dX4_paper_40 : decode cX4_paper 40 = .ok (.invokespecial 95, 3) := dk_183 0 95 (dk_at dksX4_paper_1 18 rfl rfl)
theorem dX4_paper_43 : decode cX4_paper 43 = .ok (.astore_n 3, 1) := dk_78 (dk_at dksX4_paper_1 21 rfl rfl)
theorem dX4_paper_44 : decode cX4_paper 44 = .ok (.aload_n 0, 1) := dk_42 (dk_at dksX4_paper_1 22 rfl rfl)
theorem dX4_paper_45 : decode cX4_paper 45 = .ok (.aload_n 3, 1) := dk_45 (dk_at dksX4_paper_1 23 rfl rfl)
theorem dX4_paper_46 : decode cX4_paper 46 = .ok (.iload_n 2, 1) := dk_28 (dk_at dksX4_paper_2 0 rfl rfl)
theorem dX4_paper_47 : decode cX4_paper 47 = .ok (.bipush 8, 2) := dk_16 8 (dk_at dksX4_paper_2 1 rfl rfl)
theorem dX4_paper_49 : decode cX4_paper 49 = .ok (.bipush 10, 2) := dk_16 10 (dk_at dksX4_paper_2 3 rfl rfl)
theorem dX4_paper_51 : decode cX4_paper 51 = .ok (.invokevirtual 259, 3) := dk_182 1 3 (dk_at dksX4_paper_2 5 rfl rfl)
theorem dX4_paper_54 : decode cX4_paper 54 = .ok (.goto 12, 3) := dk_167 0 12 (dk_at dksX4_paper_2 8 rfl rfl)
theorem dX4_paper_57 : decode cX4_paper 57 = .ok (.astore 4, 2) := dk_58 4 (dk_at dksX4_paper_2 11 rfl rfl)
theorem dX4_paper_59 : decode cX4_paper 59 = .ok (.aload_n 0, 1) := dk_42 (dk_at dksX4_paper_2 13 rfl rfl)
theorem dX4_paper_60 : decode cX4_paper 60 = .ok (.aload 4, 2) := dk_25 4 (dk_at dksX4_paper_2 14 rfl rfl)
theorem dX4_paper_62 : decode cX4_paper 62 = .ok (.invokevirtual 263, 3) := dk_182 1 7 (dk_at dksX4_paper_2 16 rfl rfl)
theorem dX4_paper_65 : decode cX4_paper 65 = .ok (.ireturn, 1) := dk_172 (dk_at dksX4_paper_2 19 rfl rfl)
theorem dX4_paper_66 : decode cX4_paper 66 = .ok (.aload_n 0, 1) := dk_42 (dk_at dksX4_paper_2 20 rfl rfl)
theorem dX4_paper_67 : decode cX4_paper 67 = .ok (.getfield 124, 3) := dk_180 0 124 (dk_at dksX4_paper_2 21 rfl rfl)
theorem dX4_paper_70 : decode cX4_paper 70 = .ok (.bipush 20, 2) := dk_16 20 (dk_at dksX4_paper_3 0 rfl rfl)
theorem dX4_paper_72 : decode cX4_paper 72 = .ok (.if_icmp .ne 9, 3) := dk_160 0 9 (dk_at dksX4_paper_3 2 rfl rfl)
theorem dX4_paper_75 : decode cX4_paper 75 = .ok (.aload_n 0, 1) := dk_42 (dk_at dksX4_paper_3 5 rfl rfl)
theorem dX4_paper_76 : decode cX4_paper 76 = .ok (.iconst 3, 1) := dk_6 (dk_at dksX4_paper_3 6 rfl rfl)
theorem dX4_paper_77 : decode cX4_paper 77 = .ok (.invokevirtual 239, 3) := dk_182 0 239 (dk_at dksX4_paper_3 7 rfl rfl)
theorem dX4_paper_80 : decode cX4_paper 80 = .ok (.ireturn, 1) := dk_172 (dk_at dksX4_paper_3 10 rfl rfl)
theorem dX4_paper_81 : decode cX4_paper 81 = .ok (.aload_n 0, 1) := dk_42 (dk_at dksX4_paper_3 11 rfl rfl)
theorem dX4_paper_82 : decode cX4_paper 82 = .ok (.getfield 23, 3) := dk_180 0 23 (dk_at dksX4_paper_3 12 rfl rfl)
theorem dX4_paper_85 : decode cX4_paper 85 = .ok (.aload_n 0, 1) := dk_42 (dk_at dksX4_paper_3 15 rfl rfl)
theorem dX4_paper_86 : decode cX4_paper 86 = .ok (.getfield 124, 3) := dk_180 0 124 (dk_at dksX4_paper_3 16 rfl rfl)
theorem dX4_paper_89 : decode cX4_paper 89 = .ok (.aload_n 3, 1) := dk_45 (dk_at dksX4_paper_3 19 rfl rfl)
theorem dX4_paper_90 : decode cX4_paper 90 = .ok (.aastore, 1) := dk_83 (dk_at dksX4_paper_3 20 rfl rfl)
theorem dX4_paper_91 : decode cX4_paper 91 = .ok (.aload_n 0, 1) := dk_42 (dk_at dksX4_paper_3 21 rfl rfl)
theorem dX4_paper_92 : decode cX4_paper 92 = .ok (.getfield 36, 3) := dk_180 0 36 (dk_at dksX4_paper_4 0 rfl rfl)
theorem dX4_paper_95 : decode cX4_paper 95 = .ok (.aload_n 0, 1) := dk_42 (dk_at dksX4_paper_4 3 rfl rfl)
theorem dX4_paper_96 : decode cX4_paper 96 = .ok (.getfield 124, 3) := dk_180 0 124 (dk_at dksX4_paper_4 4 rfl rfl)
theorem dX4_paper_99 : decode cX4_paper 99 = .ok (.iload_n 1, 1) := dk_27 (dk_at dksX4_paper_4 7 rfl rfl)
theorem dX4_paper_100 : decode cX4_paper 100 = .ok (.iastore, 1) := dk_79 (dk_at dksX4_paper_4 8 rfl rfl)
theorem dX4_paper_101 : decode cX4_paper 101 = .ok (.aload_n 0, 1) := dk_42 (dk_at dksX4_paper_4 9 rfl rfl)
theorem dX4_paper_102 : decode cX4_paper 102 = .ok (.getfield 39, 3) := dk_180 0 39 (dk_at dksX4_paper_4 10 rfl rfl)
theorem dX4_paper_105 : decode cX4_paper 105 = .ok (.aload_n 0, 1) := dk_42 (dk_at dksX4_paper_4 13 rfl rfl)
theorem dX4_paper_106 : decode cX4_paper 106 = .ok (.getfield 124, 3) := dk_180 0 124 (dk_at dksX4_paper_4 14 rfl rfl)
theorem dX4_paper_109 : decode cX4_paper 109 = .ok (.aload_n 0, 1) := dk_42 (dk_at dksX4_paper_4 17 rfl rfl)
theorem dX4_paper_110 : decode cX4_paper 110 = .ok (.getfield 121, 3) := dk_180 0 121 (dk_at dksX4_paper_4 18 rfl rfl)
theorem dX4_paper_113 : decode cX4_paper 113 = .ok (.iastore, 1) := dk_79 (dk_at dksX4_paper_4 21 rfl rfl)
theorem dX4_paper_114 : decode cX4_paper 114 = .ok (.aload_n 0, 1) := dk_42 (dk_at dksX4_paper_4 22 rfl rfl)
theorem dX4_paper_115 : decode cX4_paper 115 = .ok (.iconst 2, 1) := dk_5 (dk_at dksX4_paper_4 23 rfl rfl)
theorem dX4_paper_116 : decode cX4_paper 116 = .ok (.iconst 0, 1) := dk_3 (dk_at dksX4_paper_5 0 rfl rfl)
theorem dX4_paper_117 : decode cX4_paper 117 = .ok (.aconst_null, 1) := dk_1 (dk_at dksX4_paper_5 1 rfl rfl)
theorem dX4_paper_118 : decode cX4_paper 118 = .ok (.invokevirtual 245, 3) := dk_182 0 245 (dk_at dksX4_paper_5 2 rfl rfl)
theorem dX4_paper_121 : decode cX4_paper 121 = .ok (.aload_n 0, 1) := dk_42 (dk_at dksX4_paper_5 5 rfl rfl)
theorem dX4_paper_122 : decode cX4_paper 122 = .ok (.dup, 1) := dk_89 (dk_at dksX4_paper_5 6 rfl rfl)
theorem dX4_paper_123 : decode cX4_paper 123 = .ok (.getfield 124, 3) := dk_180 0 124 (dk_at dksX4_paper_5 7 rfl rfl)
theorem dX4_paper_126 : decode cX4_paper 126 = .ok (.iconst 1, 1) := dk_4 (dk_at dksX4_paper_5 10 rfl rfl)
theorem dX4_paper_127 : decode cX4_paper 127 = .ok (.iadd, 1) := dk_96 (dk_at dksX4_paper_5 11 rfl rfl)
theorem dX4_paper_128 : decode cX4_paper 128 = .ok (.putfield 124, 3) := dk_181 0 124 (dk_at dksX4_paper_5 12 rfl rfl)
theorem dX4_paper_131 : decode cX4_paper 131 = .ok (.aload_n 0, 1) := dk_42 (dk_at dksX4_paper_5 15 rfl rfl)
theorem dX4_paper_132 : decode cX4_paper 132 = .ok (.aload_n 0, 1) := dk_42 (dk_at dksX4_paper_5 16 rfl rfl)
theorem dX4_paper_133 : decode cX4_paper 133 = .ok (.getfield 124, 3) := dk_180 0 124 (dk_at dksX4_paper_5 17 rfl rfl)
theorem dX4_paper_136 : decode cX4_paper 136 = .ok (.iconst 1, 1) := dk_4 (dk_at dksX4_paper_5 20 rfl rfl)
theorem dX4_paper_137 : decode cX4_paper 137 = .ok (.isub, 1) := dk_100 (dk_at dksX4_paper_5 21 rfl rfl)
theorem dX4_paper_138 : decode cX4_paper 138 = .ok (.invokevirtual 249, 3) := dk_182 0 249 (dk_at dksX4_paper_6 0 rfl rfl)
theorem dX4_paper_141 : decode cX4_paper 141 = .ok (.ireturn, 1) := dk_172 (dk_at dksX4_paper_6 3 rfl rfl)
abbrev cX4_reads : ByteArray := prog_22_method_18_code
def yX4_reads : MethodName := ⟨RX4, "reads", "(LPatentHallModel$Text;III)V"⟩
def dkwX4_reads_17 : List UInt8 := [159, 0, 13, 42, 4, 42, 180, 0, 152, 182, 0, 175, 191, 177]
abbrev dktX4_reads_17 : List UInt8 := dkwX4_reads_17 ++ []
def dkwX4_reads_16 : List UInt8 := [182, 0, 186, 54, 5, 21, 5, 153, 0, 7, 42, 182, 0, 172, 167, 254, 129, 42, 180, 0, 153, 4]
abbrev dktX4_reads_16 : List UInt8 := dkwX4_reads_16 ++ dktX4_reads_17
def dkwX4_reads_15 : List UInt8 := [180, 0, 205, 4, 96, 181, 0, 205, 167, 0, 13, 42, 4, 42, 180, 0, 152, 182, 0, 175, 191, 42, 16, 59]
abbrev dktX4_reads_15 : List UInt8 := dkwX4_reads_15 ++ dktX4_reads_16
def dkwX4_reads_14 : List UInt8 := [43, 180, 0, 211, 43, 180, 0, 205, 21, 10, 79, 43, 180, 0, 214, 43, 180, 0, 205, 21, 11, 79, 43, 89]
abbrev dktX4_reads_14 : List UInt8 := dkwX4_reads_14 ++ dktX4_reads_15
def dkwX4_reads_13 : List UInt8 := [21, 4, 160, 0, 11, 42, 7, 21, 8, 182, 0, 175, 191, 43, 180, 0, 208, 43, 180, 0, 205, 21, 9, 79]
abbrev dktX4_reads_13 : List UInt8 := dkwX4_reads_13 ++ dktX4_reads_14
def dkwX4_reads_12 : List UInt8 := [132, 13, 1, 167, 255, 196, 21, 12, 153, 0, 11, 42, 6, 21, 8, 182, 0, 175, 191, 43, 180, 0, 205]
abbrev dktX4_reads_12 : List UInt8 := dkwX4_reads_12 ++ dktX4_reads_13
def dkwX4_reads_11 : List UInt8 := [21, 10, 160, 0, 19, 43, 180, 0, 214, 21, 13, 46, 21, 11, 160, 0, 7, 4, 167, 0, 4, 3, 54, 12]
abbrev dktX4_reads_11 : List UInt8 := dkwX4_reads_11 ++ dktX4_reads_12
def dkwX4_reads_10 : List UInt8 := [21, 12, 154, 0, 39, 43, 180, 0, 208, 21, 13, 46, 21, 9, 160, 0, 31, 43, 180, 0, 211, 21, 13, 46]
abbrev dktX4_reads_10 : List UInt8 := dkwX4_reads_10 ++ dktX4_reads_11
def dkwX4_reads_9 : List UInt8 := [182, 0, 175, 191, 42, 182, 0, 172, 3, 54, 12, 3, 54, 13, 21, 13, 43, 180, 0, 205, 162, 0, 57]
abbrev dktX4_reads_9 : List UInt8 := dkwX4_reads_9 ++ dktX4_reads_10
def dkwX4_reads_8 : List UInt8 := [191, 43, 42, 180, 0, 163, 182, 0, 189, 54, 11, 21, 11, 2, 160, 0, 13, 42, 5, 42, 180, 0, 152]
abbrev dktX4_reads_8 : List UInt8 := dkwX4_reads_8 ++ dktX4_reads_9
def dkwX4_reads_7 : List UInt8 := [191, 42, 182, 0, 192, 54, 10, 42, 180, 0, 153, 5, 159, 0, 13, 42, 4, 42, 180, 0, 152, 182, 0, 175]
abbrev dktX4_reads_7 : List UInt8 := dkwX4_reads_7 ++ dktX4_reads_8
def dkwX4_reads_6 : List UInt8 := [160, 0, 224, 43, 22, 6, 182, 0, 189, 54, 9, 21, 9, 2, 160, 0, 11, 42, 5, 21, 8, 182, 0, 175]
abbrev dktX4_reads_6 : List UInt8 := dkwX4_reads_6 ++ dktX4_reads_7
def dkwX4_reads_5 : List UInt8 := [180, 0, 196, 21, 9, 79, 43, 89, 180, 0, 196, 4, 96, 181, 0, 196, 167, 0, 242, 42, 180, 0, 153, 5]
abbrev dktX4_reads_5 : List UInt8 := dkwX4_reads_5 ++ dktX4_reads_6
def dkwX4_reads_4 : List UInt8 := [21, 8, 182, 0, 175, 191, 43, 180, 0, 199, 43, 180, 0, 196, 22, 6, 80, 43, 180, 0, 202, 43]
abbrev dktX4_reads_4 : List UInt8 := dkwX4_reads_4 ++ dktX4_reads_5
def dkwX4_reads_3 : List UInt8 := [182, 0, 175, 191, 42, 182, 0, 172, 42, 182, 0, 192, 54, 9, 43, 180, 0, 196, 29, 160, 0, 11, 42, 7]
abbrev dktX4_reads_3 : List UInt8 := dkwX4_reads_3 ++ dktX4_reads_4
def dkwX4_reads_2 : List UInt8 := [16, 58, 182, 0, 186, 153, 0, 82, 43, 22, 6, 182, 0, 189, 2, 159, 0, 11, 42, 6, 21, 8]
abbrev dktX4_reads_2 : List UInt8 := dkwX4_reads_2 ++ dktX4_reads_3
def dkwX4_reads_1 : List UInt8 := [180, 0, 152, 182, 0, 175, 191, 42, 180, 0, 163, 55, 6, 42, 180, 0, 152, 54, 8, 42, 182, 0, 172, 42]
abbrev dktX4_reads_1 : List UInt8 := dkwX4_reads_1 ++ dktX4_reads_2
def dkwX4_reads_0 : List UInt8 := [42, 28, 182, 0, 182, 4, 54, 5, 21, 5, 153, 1, 128, 42, 180, 0, 153, 5, 159, 0, 13, 42, 4, 42]
abbrev dktX4_reads_0 : List UInt8 := dkwX4_reads_0 ++ dktX4_reads_1
theorem dksX4_reads_0 : cX4_reads.data.toList.drop 0 = dktX4_reads_0 := by decide +kernel
theorem dksX4_reads_1 : cX4_reads.data.toList.drop 24 = dktX4_reads_1 := dk_seg dksX4_reads_0 24 rfl rfl
theorem dksX4_reads_2 : cX4_reads.data.toList.drop 48 = dktX4_reads_2 := dk_seg dksX4_reads_1 24 rfl rfl
theorem dksX4_reads_3 : cX4_reads.data.toList.drop 70 = dktX4_reads_3 := dk_seg dksX4_reads_2 22 rfl rfl
theorem dksX4_reads_4 : cX4_reads.data.toList.drop 94 = dktX4_reads_4 := dk_seg dksX4_reads_3 24 rfl rfl
theorem dksX4_reads_5 : cX4_reads.data.toList.drop 116 = dktX4_reads_5 := dk_seg dksX4_reads_4 22 rfl rfl
theorem dksX4_reads_6 : cX4_reads.data.toList.drop 140 = dktX4_reads_6 := dk_seg dksX4_reads_5 24 rfl rfl
theorem dksX4_reads_7 : cX4_reads.data.toList.drop 164 = dktX4_reads_7 := dk_seg dksX4_reads_6 24 rfl rfl
theorem dksX4_reads_8 : cX4_reads.data.toList.drop 188 = dktX4_reads_8 := dk_seg dksX4_reads_7 24 rfl rfl
theorem dksX4_reads_9 : cX4_reads.data.toList.drop 211 = dktX4_reads_9 := dk_seg dksX4_reads_8 23 rfl rfl
theorem dksX4_reads_10 : cX4_reads.data.toList.drop 234 = dktX4_reads_10 := dk_seg dksX4_reads_9 23 rfl rfl
theorem dksX4_reads_11 : cX4_reads.data.toList.drop 258 = dktX4_reads_11 := dk_seg dksX4_reads_10 24 rfl rfl
theorem dksX4_reads_12 : cX4_reads.data.toList.drop 282 = dktX4_reads_12 := dk_seg dksX4_reads_11 24 rfl rfl
theorem dksX4_reads_13 : cX4_reads.data.toList.drop 305 = dktX4_reads_13 := dk_seg dksX4_reads_12 23 rfl rfl
theorem dksX4_reads_14 : cX4_reads.data.toList.drop 329 = dktX4_reads_14 := dk_seg dksX4_reads_13 24 rfl rfl
theorem dksX4_reads_15 : cX4_reads.data.toList.drop 353 = dktX4_reads_15 := dk_seg dksX4_reads_14 24 rfl rfl
theorem dksX4_reads_16 : cX4_reads.data.toList.drop 377 = dktX4_reads_16 := dk_seg dksX4_reads_15 24 rfl rfl
theorem dksX4_reads_17 : cX4_reads.data.toList.drop 399 = dktX4_reads_17 := dk_seg dksX4_reads_16 22 rfl rfl
theorem dX4_reads_0 : decode cX4_reads 0 = .ok (.aload_n 0, 1) := dk_42 (dk_at dksX4_reads_0 0 rfl rfl)
theorem dX4_reads_1 : decode cX4_reads 1 = .ok (.iload_n 2, 1) := dk_28 (dk_at dksX4_reads_0 1 rfl rfl)
theorem dX4_reads_2 : decode cX4_reads 2 = .ok (.invokevirtual 182, 3) := dk_182 0 182 (dk_at dksX4_reads_0 2 rfl rfl)
theorem dX4_reads_5 : decode cX4_reads 5 = .ok (.iconst 1, 1) := dk_4 (dk_at dksX4_reads_0 5 rfl rfl)
theorem dX4_reads_6 : decode cX4_reads 6 = .ok (.istore 5, 2) := dk_54 5 (dk_at dksX4_reads_0 6 rfl rfl)
theorem dX4_reads_8 : decode cX4_reads 8 = .ok (.iload 5, 2) := dk_21 5 (dk_at dksX4_reads_0 8 rfl rfl)
theorem dX4_reads_10 : decode cX4_reads 10 = .ok (.ifCond .eq 384, 3) := dk_153 1 128 (dk_at dksX4_reads_0 10 rfl rfl)
theorem dX4_reads_13 : decode cX4_reads 13 = .ok (.aload_n 0, 1) := dk_42 (dk_at dksX4_reads_0 13 rfl rfl)
theorem dX4_reads_14 : decode cX4_reads 14 = .ok (.getfield 153, 3) := dk_180 0 153 (dk_at dksX4_reads_0 14 rfl rfl)
theorem dX4_reads_17 : decode cX4_reads 17 = .ok (.iconst 2, 1) := dk_5 (dk_at dksX4_reads_0 17 rfl rfl)
theorem dX4_reads_18 : decode cX4_reads 18 = .ok (.if_icmp .eq 13, 3) := dk_159 0 13 (dk_at dksX4_reads_0 18 rfl rfl)
theorem dX4_reads_21 : decode cX4_reads 21 = .ok (.aload_n 0, 1) := dk_42 (dk_at dksX4_reads_0 21 rfl rfl)
theorem dX4_reads_22 : decode cX4_reads 22 = .ok (.iconst 1, 1) := dk_4 (dk_at dksX4_reads_0 22 rfl rfl)
theorem dX4_reads_23 : decode cX4_reads 23 = .ok (.aload_n 0, 1) := dk_42 (dk_at dksX4_reads_0 23 rfl rfl)
theorem dX4_reads_24 : decode cX4_reads 24 = .ok (.getfield 152, 3) := dk_180 0 152 (dk_at dksX4_reads_1 0 rfl rfl)
theorem dX4_reads_27 : decode cX4_reads 27 = .ok (.invokevirtual 175, 3) := dk_182 0 175 (dk_at dksX4_reads_1 3 rfl rfl)
theorem dX4_reads_30 : decode cX4_reads 30 = .ok (.athrow, 1) := dk_191 (dk_at dksX4_reads_1 6 rfl rfl)
theorem dX4_reads_31 : decode cX4_reads 31 = .ok (.aload_n 0, 1) := dk_42 (dk_at dksX4_reads_1 7 rfl rfl)
theorem dX4_reads_32 : decode cX4_reads 32 = .ok (.getfield 163, 3) := dk_180 0 163 (dk_at dksX4_reads_1 8 rfl rfl)
theorem dX4_reads_35 : decode cX4_reads 35 = .ok (.lstore 6, 2) := dk_55 6 (dk_at dksX4_reads_1 11 rfl rfl)
theorem dX4_reads_37 : decode cX4_reads 37 = .ok (.aload_n 0, 1) := dk_42 (dk_at dksX4_reads_1 13 rfl rfl)
theorem dX4_reads_38 : decode cX4_reads 38 = .ok (.getfield 152, 3) := dk_180 0 152 (dk_at dksX4_reads_1 14 rfl rfl)
theorem dX4_reads_41 : decode cX4_reads 41 = .ok (.istore 8, 2) := dk_54 8 (dk_at dksX4_reads_1 17 rfl rfl)
theorem dX4_reads_43 : decode cX4_reads 43 = .ok (.aload_n 0, 1) := dk_42 (dk_at dksX4_reads_1 19 rfl rfl)
theorem dX4_reads_44 : decode cX4_reads 44 = .ok (.invokevirtual 172, 3) := dk_182 0 172 (dk_at dksX4_reads_1 20 rfl rfl)
theorem dX4_reads_47 : decode cX4_reads 47 = .ok (.aload_n 0, 1) := dk_42 (dk_at dksX4_reads_1 23 rfl rfl)
theorem dX4_reads_48 : decode cX4_reads 48 = .ok (.bipush 58, 2) := dk_16 58 (dk_at dksX4_reads_2 0 rfl rfl)
theorem dX4_reads_50 : decode cX4_reads 50 = .ok (.invokevirtual 186, 3) := dk_182 0 186 (dk_at dksX4_reads_2 2 rfl rfl)
theorem dX4_reads_53 : decode cX4_reads 53 = .ok (.ifCond .eq 82, 3) := dk_153 0 82 (dk_at dksX4_reads_2 5 rfl rfl)
theorem dX4_reads_56 : decode cX4_reads 56 = .ok (.aload_n 1, 1) := dk_43 (dk_at dksX4_reads_2 8 rfl rfl)
theorem dX4_reads_57 : decode cX4_reads 57 = .ok (.lload 6, 2) := dk_22 6 (dk_at dksX4_reads_2 9 rfl rfl)
theorem dX4_reads_59 : decode cX4_reads 59 = .ok (.invokevirtual 189, 3) := dk_182 0 189 (dk_at dksX4_reads_2 11 rfl rfl)
theorem dX4_reads_62 : decode cX4_reads 62 = .ok (.iconst (-1), 1) := dk_2 (dk_at dksX4_reads_2 14 rfl rfl)
theorem dX4_reads_63 : decode cX4_reads 63 = .ok (.if_icmp .eq 11, 3) := dk_159 0 11 (dk_at dksX4_reads_2 15 rfl rfl)
theorem dX4_reads_66 : decode cX4_reads 66 = .ok (.aload_n 0, 1) := dk_42 (dk_at dksX4_reads_2 18 rfl rfl)
theorem dX4_reads_67 : decode cX4_reads 67 = .ok (.iconst 3, 1) := dk_6 (dk_at dksX4_reads_2 19 rfl rfl)
theorem dX4_reads_68 : decode cX4_reads 68 = .ok (.iload 8, 2) := dk_21 8 (dk_at dksX4_reads_2 20 rfl rfl)
theorem dX4_reads_70 : decode cX4_reads 70 = .ok (.invokevirtual 175, 3) := dk_182 0 175 (dk_at dksX4_reads_3 0 rfl rfl)
theorem dX4_reads_73 : decode cX4_reads 73 = .ok (.athrow, 1) := dk_191 (dk_at dksX4_reads_3 3 rfl rfl)
theorem dX4_reads_74 : decode cX4_reads 74 = .ok (.aload_n 0, 1) := dk_42 (dk_at dksX4_reads_3 4 rfl rfl)
theorem dX4_reads_75 : decode cX4_reads 75 = .ok (.invokevirtual 172, 3) := dk_182 0 172 (dk_at dksX4_reads_3 5 rfl rfl)
theorem dX4_reads_78 : decode cX4_reads 78 = .ok (.aload_n 0, 1) := dk_42 (dk_at dksX4_reads_3 8 rfl rfl)
theorem dX4_reads_79 : decode cX4_reads 79 = .ok (.invokevirtual 192, 3) := dk_182 0 192 (dk_at dksX4_reads_3 9 rfl rfl)
theorem dX4_reads_82 : decode cX4_reads 82 = .ok (.istore 9, 2) := dk_54 9 (dk_at dksX4_reads_3 12 rfl rfl)
theorem dX4_reads_84 : decode cX4_reads 84 = .ok (.aload_n 1, 1) := dk_43 (dk_at dksX4_reads_3 14 rfl rfl)
theorem dX4_reads_85 : decode cX4_reads 85 = .ok (.getfield 196, 3) := dk_180 0 196 (dk_at dksX4_reads_3 15 rfl rfl)
theorem dX4_reads_88 : decode cX4_reads 88 = .ok (.iload_n 3, 1) := dk_29 (dk_at dksX4_reads_3 18 rfl rfl)
theorem dX4_reads_89 : decode cX4_reads 89 = .ok (.if_icmp .ne 11, 3) := dk_160 0 11 (dk_at dksX4_reads_3 19 rfl rfl)
theorem dX4_reads_92 : decode cX4_reads 92 = .ok (.aload_n 0, 1) := dk_42 (dk_at dksX4_reads_3 22 rfl rfl)
theorem dX4_reads_93 : decode cX4_reads 93 = .ok (.iconst 4, 1) := dk_7 (dk_at dksX4_reads_3 23 rfl rfl)
theorem dX4_reads_94 : decode cX4_reads 94 = .ok (.iload 8, 2) := dk_21 8 (dk_at dksX4_reads_4 0 rfl rfl)
theorem dX4_reads_96 : decode cX4_reads 96 = .ok (.invokevirtual 175, 3) := dk_182 0 175 (dk_at dksX4_reads_4 2 rfl rfl)
theorem dX4_reads_99 : decode cX4_reads 99 = .ok (.athrow, 1) := dk_191 (dk_at dksX4_reads_4 5 rfl rfl)
theorem dX4_reads_100 : decode cX4_reads 100 = .ok (.aload_n 1, 1) := dk_43 (dk_at dksX4_reads_4 6 rfl rfl)
theorem dX4_reads_101 : decode cX4_reads 101 = .ok (.getfield 199, 3) := dk_180 0 199 (dk_at dksX4_reads_4 7 rfl rfl)
theorem dX4_reads_104 : decode cX4_reads 104 = .ok (.aload_n 1, 1) := dk_43 (dk_at dksX4_reads_4 10 rfl rfl)
theorem dX4_reads_105 : decode cX4_reads 105 = .ok (.getfield 196, 3) := dk_180 0 196 (dk_at dksX4_reads_4 11 rfl rfl)
theorem dX4_reads_108 : decode cX4_reads 108 = .ok (.lload 6, 2) := dk_22 6 (dk_at dksX4_reads_4 14 rfl rfl)
theorem dX4_reads_110 : decode cX4_reads 110 = .ok (.lastore, 1) := dk_80 (dk_at dksX4_reads_4 16 rfl rfl)
theorem dX4_reads_111 : decode cX4_reads 111 = .ok (.aload_n 1, 1) := dk_43 (dk_at dksX4_reads_4 17 rfl rfl)
theorem dX4_reads_112 : decode cX4_reads 112 = .ok (.getfield 202, 3) := dk_180 0 202 (dk_at dksX4_reads_4 18 rfl rfl)
theorem dX4_reads_115 : decode cX4_reads 115 = .ok (.aload_n 1, 1) := dk_43 (dk_at dksX4_reads_4 21 rfl rfl)
theorem dX4_reads_116 : decode cX4_reads 116 = .ok (.getfield 196, 3) := dk_180 0 196 (dk_at dksX4_reads_5 0 rfl rfl)
theorem dX4_reads_119 : decode cX4_reads 119 = .ok (.iload 9, 2) := dk_21 9 (dk_at dksX4_reads_5 3 rfl rfl)
theorem dX4_reads_121 : decode cX4_reads 121 = .ok (.iastore, 1) := dk_79 (dk_at dksX4_reads_5 5 rfl rfl)
theorem dX4_reads_122 : decode cX4_reads 122 = .ok (.aload_n 1, 1) := dk_43 (dk_at dksX4_reads_5 6 rfl rfl)
theorem dX4_reads_123 : decode cX4_reads 123 = .ok (.dup, 1) := dk_89 (dk_at dksX4_reads_5 7 rfl rfl)
theorem dX4_reads_124 : decode cX4_reads 124 = .ok (.getfield 196, 3) := dk_180 0 196 (dk_at dksX4_reads_5 8 rfl rfl)
theorem dX4_reads_127 : decode cX4_reads 127 = .ok (.iconst 1, 1) := dk_4 (dk_at dksX4_reads_5 11 rfl rfl)
theorem dX4_reads_128 : decode cX4_reads 128 = .ok (.iadd, 1) := dk_96 (dk_at dksX4_reads_5 12 rfl rfl)
theorem dX4_reads_129 : decode cX4_reads 129 = .ok (.putfield 196, 3) := dk_181 0 196 (dk_at dksX4_reads_5 13 rfl rfl)
theorem dX4_reads_132 : decode cX4_reads 132 = .ok (.goto 242, 3) := dk_167 0 242 (dk_at dksX4_reads_5 16 rfl rfl)
theorem dX4_reads_135 : decode cX4_reads 135 = .ok (.aload_n 0, 1) := dk_42 (dk_at dksX4_reads_5 19 rfl rfl)
theorem dX4_reads_136 : decode cX4_reads 136 = .ok (.getfield 153, 3) := dk_180 0 153 (dk_at dksX4_reads_5 20 rfl rfl)
theorem dX4_reads_139 : decode cX4_reads 139 = .ok (.iconst 2, 1) := dk_5 (dk_at dksX4_reads_5 23 rfl rfl)
theorem dX4_reads_140 : decode cX4_reads 140 = .ok (.if_icmp .ne 224, 3) := dk_160 0 224 (dk_at dksX4_reads_6 0 rfl rfl)
theorem dX4_reads_143 : decode cX4_reads 143 = .ok (.aload_n 1, 1) := dk_43 (dk_at dksX4_reads_6 3 rfl rfl)
theorem dX4_reads_144 : decode cX4_reads 144 = .ok (.lload 6, 2) := dk_22 6 (dk_at dksX4_reads_6 4 rfl rfl)
theorem dX4_reads_146 : decode cX4_reads 146 = .ok (.invokevirtual 189, 3) := dk_182 0 189 (dk_at dksX4_reads_6 6 rfl rfl)
theorem dX4_reads_149 : decode cX4_reads 149 = .ok (.istore 9, 2) := dk_54 9 (dk_at dksX4_reads_6 9 rfl rfl)
theorem dX4_reads_151 : decode cX4_reads 151 = .ok (.iload 9, 2) := dk_21 9 (dk_at dksX4_reads_6 11 rfl rfl)
theorem dX4_reads_153 : decode cX4_reads 153 = .ok (.iconst (-1), 1) := dk_2 (dk_at dksX4_reads_6 13 rfl rfl)
theorem dX4_reads_154 : decode cX4_reads 154 = .ok (.if_icmp .ne 11, 3) := dk_160 0 11 (dk_at dksX4_reads_6 14 rfl rfl)
theorem dX4_reads_157 : decode cX4_reads 157 = .ok (.aload_n 0, 1) := dk_42 (dk_at dksX4_reads_6 17 rfl rfl)
theorem dX4_reads_158 : decode cX4_reads 158 = .ok (.iconst 2, 1) := dk_5 (dk_at dksX4_reads_6 18 rfl rfl)
theorem dX4_reads_159 : decode cX4_reads 159 = .ok (.iload 8, 2) := dk_21 8 (dk_at dksX4_reads_6 19 rfl rfl)
theorem dX4_reads_161 : decode cX4_reads 161 = .ok (.invokevirtual 175, 3) := dk_182 0 175 (dk_at dksX4_reads_6 21 rfl rfl)
theorem dX4_reads_164 : decode cX4_reads 164 = .ok (.athrow, 1) := dk_191 (dk_at dksX4_reads_7 0 rfl rfl)
theorem dX4_reads_165 : decode cX4_reads 165 = .ok (.aload_n 0, 1) := dk_42 (dk_at dksX4_reads_7 1 rfl rfl)
theorem dX4_reads_166 : decode cX4_reads 166 = .ok (.invokevirtual 192, 3) := dk_182 0 192 (dk_at dksX4_reads_7 2 rfl rfl)
theorem dX4_reads_169 : decode cX4_reads 169 = .ok (.istore 10, 2) := dk_54 10 (dk_at dksX4_reads_7 5 rfl rfl)
theorem dX4_reads_171 : decode cX4_reads 171 = .ok (.aload_n 0, 1) := dk_42 (dk_at dksX4_reads_7 7 rfl rfl)
theorem dX4_reads_172 : decode cX4_reads 172 = .ok (.getfield 153, 3) := dk_180 0 153 (dk_at dksX4_reads_7 8 rfl rfl)
theorem dX4_reads_175 : decode cX4_reads 175 = .ok (.iconst 2, 1) := dk_5 (dk_at dksX4_reads_7 11 rfl rfl)
theorem dX4_reads_176 : decode cX4_reads 176 = .ok (.if_icmp .eq 13, 3) := dk_159 0 13 (dk_at dksX4_reads_7 12 rfl rfl)
theorem dX4_reads_179 : decode cX4_reads 179 = .ok (.aload_n 0, 1) := dk_42 (dk_at dksX4_reads_7 15 rfl rfl)
theorem dX4_reads_180 : decode cX4_reads 180 = .ok (.iconst 1, 1) := dk_4 (dk_at dksX4_reads_7 16 rfl rfl)
theorem dX4_reads_181 : decode cX4_reads 181 = .ok (.aload_n 0, 1) := dk_42 (dk_at dksX4_reads_7 17 rfl rfl)
theorem dX4_reads_182 : decode cX4_reads 182 = .ok (.getfield 152, 3) := dk_180 0 152 (dk_at dksX4_reads_7 18 rfl rfl)
theorem dX4_reads_185 : decode cX4_reads 185 = .ok (.invokevirtual 175, 3) := dk_182 0 175 (dk_at dksX4_reads_7 21 rfl rfl)
theorem dX4_reads_188 : decode cX4_reads 188 = .ok (.athrow, 1) := dk_191 (dk_at dksX4_reads_8 0 rfl rfl)
theorem dX4_reads_189 : decode cX4_reads 189 = .ok (.aload_n 1, 1) := dk_43 (dk_at dksX4_reads_8 1 rfl rfl)
theorem dX4_reads_190 : decode cX4_reads 190 = .ok (.aload_n 0, 1) := dk_42 (dk_at dksX4_reads_8 2 rfl rfl)
theorem dX4_reads_191 : decode cX4_reads 191 = .ok (.getfield 163, 3) := dk_180 0 163 (dk_at dksX4_reads_8 3 rfl rfl)
theorem dX4_reads_194 : decode cX4_reads 194 = .ok (.invokevirtual 189, 3) := dk_182 0 189 (dk_at dksX4_reads_8 6 rfl rfl)
theorem dX4_reads_197 : decode cX4_reads 197 = .ok (.istore 11, 2) := dk_54 11 (dk_at dksX4_reads_8 9 rfl rfl)
theorem dX4_reads_199 : decode cX4_reads 199 = .ok (.iload 11, 2) := dk_21 11 (dk_at dksX4_reads_8 11 rfl rfl)
theorem dX4_reads_201 : decode cX4_reads 201 = .ok (.iconst (-1), 1) := dk_2 (dk_at dksX4_reads_8 13 rfl rfl)
theorem dX4_reads_202 : decode cX4_reads 202 = .ok (.if_icmp .ne 13, 3) := dk_160 0 13 (dk_at dksX4_reads_8 14 rfl rfl)
theorem dX4_reads_205 : decode cX4_reads 205 = .ok (.aload_n 0, 1) := dk_42 (dk_at dksX4_reads_8 17 rfl rfl)
theorem dX4_reads_206 : decode cX4_reads 206 = .ok (.iconst 2, 1) := dk_5 (dk_at dksX4_reads_8 18 rfl rfl)
theorem dX4_reads_207 : decode cX4_reads 207 = .ok (.aload_n 0, 1) := dk_42 (dk_at dksX4_reads_8 19 rfl rfl)
theorem dX4_reads_208 : decode cX4_reads 208 = .ok (.getfield 152, 3) := dk_180 0 152 (dk_at dksX4_reads_8 20 rfl rfl)
theorem dX4_reads_211 : decode cX4_reads 211 = .ok (.invokevirtual 175, 3) := dk_182 0 175 (dk_at dksX4_reads_9 0 rfl rfl)
theorem dX4_reads_214 : decode cX4_reads 214 = .ok (.athrow, 1) := dk_191 (dk_at dksX4_reads_9 3 rfl rfl)
theorem dX4_reads_215 : decode cX4_reads 215 = .ok (.aload_n 0, 1) := dk_42 (dk_at dksX4_reads_9 4 rfl rfl)
theorem dX4_reads_216 : decode cX4_reads 216 = .ok (.invokevirtual 172, 3) := dk_182 0 172 (dk_at dksX4_reads_9 5 rfl rfl)
theorem dX4_reads_219 : decode cX4_reads 219 = .ok (.iconst 0, 1) := dk_3 (dk_at dksX4_reads_9 8 rfl rfl)
theorem dX4_reads_220 : decode cX4_reads 220 = .ok (.istore 12, 2) := dk_54 12 (dk_at dksX4_reads_9 9 rfl rfl)
theorem dX4_reads_222 : decode cX4_reads 222 = .ok (.iconst 0, 1) := dk_3 (dk_at dksX4_reads_9 11 rfl rfl)
theorem dX4_reads_223 : decode cX4_reads 223 = .ok (.istore 13, 2) := dk_54 13 (dk_at dksX4_reads_9 12 rfl rfl)
theorem dX4_reads_225 : decode cX4_reads 225 = .ok (.iload 13, 2) := dk_21 13 (dk_at dksX4_reads_9 14 rfl rfl)
theorem dX4_reads_227 : decode cX4_reads 227 = .ok (.aload_n 1, 1) := dk_43 (dk_at dksX4_reads_9 16 rfl rfl)
theorem dX4_reads_228 : decode cX4_reads 228 = .ok (.getfield 205, 3) := dk_180 0 205 (dk_at dksX4_reads_9 17 rfl rfl)
theorem dX4_reads_231 : decode cX4_reads 231 = .ok (.if_icmp .ge 57, 3) := dk_162 0 57 (dk_at dksX4_reads_9 20 rfl rfl)
theorem dX4_reads_234 : decode cX4_reads 234 = .ok (.iload 12, 2) := dk_21 12 (dk_at dksX4_reads_10 0 rfl rfl)
theorem dX4_reads_236 : decode cX4_reads 236 = .ok (.ifCond .ne 39, 3) := dk_154 0 39 (dk_at dksX4_reads_10 2 rfl rfl)
theorem dX4_reads_239 : decode cX4_reads 239 = .ok (.aload_n 1, 1) := dk_43 (dk_at dksX4_reads_10 5 rfl rfl)
theorem dX4_reads_240 : decode cX4_reads 240 = .ok (.getfield 208, 3) := dk_180 0 208 (dk_at dksX4_reads_10 6 rfl rfl)
theorem dX4_reads_243 : decode cX4_reads 243 = .ok (.iload 13, 2) := dk_21 13 (dk_at dksX4_reads_10 9 rfl rfl)
theorem dX4_reads_245 : decode cX4_reads 245 = .ok (.iaload, 1) := dk_46 (dk_at dksX4_reads_10 11 rfl rfl)
theorem dX4_reads_246 : decode cX4_reads 246 = .ok (.iload 9, 2) := dk_21 9 (dk_at dksX4_reads_10 12 rfl rfl)
theorem dX4_reads_248 : decode cX4_reads 248 = .ok (.if_icmp .ne 31, 3) := dk_160 0 31 (dk_at dksX4_reads_10 14 rfl rfl)
theorem dX4_reads_251 : decode cX4_reads 251 = .ok (.aload_n 1, 1) := dk_43 (dk_at dksX4_reads_10 17 rfl rfl)
theorem dX4_reads_252 : decode cX4_reads 252 = .ok (.getfield 211, 3) := dk_180 0 211 (dk_at dksX4_reads_10 18 rfl rfl)
theorem dX4_reads_255 : decode cX4_reads 255 = .ok (.iload 13, 2) := dk_21 13 (dk_at dksX4_reads_10 21 rfl rfl)
theorem dX4_reads_257 : decode cX4_reads 257 = .ok (.iaload, 1) := dk_46 (dk_at dksX4_reads_10 23 rfl rfl)
theorem dX4_reads_258 : decode cX4_reads 258 = .ok (.iload 10, 2) := dk_21 10 (dk_at dksX4_reads_11 0 rfl rfl)
theorem dX4_reads_260 : decode cX4_reads 260 = .ok (.if_icmp .ne 19, 3) := dk_160 0 19 (dk_at dksX4_reads_11 2 rfl rfl)
theorem dX4_reads_263 : decode cX4_reads 263 = .ok (.aload_n 1, 1) := dk_43 (dk_at dksX4_reads_11 5 rfl rfl)
theorem dX4_reads_264 : decode cX4_reads 264 = .ok (.getfield 214, 3) := dk_180 0 214 (dk_at dksX4_reads_11 6 rfl rfl)
theorem dX4_reads_267 : decode cX4_reads 267 = .ok (.iload 13, 2) := dk_21 13 (dk_at dksX4_reads_11 9 rfl rfl)
theorem dX4_reads_269 : decode cX4_reads 269 = .ok (.iaload, 1) := dk_46 (dk_at dksX4_reads_11 11 rfl rfl)
theorem dX4_reads_270 : decode cX4_reads 270 = .ok (.iload 11, 2) := dk_21 11 (dk_at dksX4_reads_11 12 rfl rfl)
theorem dX4_reads_272 : decode cX4_reads 272 = .ok (.if_icmp .ne 7, 3) := dk_160 0 7 (dk_at dksX4_reads_11 14 rfl rfl)
theorem dX4_reads_275 : decode cX4_reads 275 = .ok (.iconst 1, 1) := dk_4 (dk_at dksX4_reads_11 17 rfl rfl)
theorem dX4_reads_276 : decode cX4_reads 276 = .ok (.goto 4, 3) := dk_167 0 4 (dk_at dksX4_reads_11 18 rfl rfl)
theorem dX4_reads_279 : decode cX4_reads 279 = .ok (.iconst 0, 1) := dk_3 (dk_at dksX4_reads_11 21 rfl rfl)
theorem dX4_reads_280 : decode cX4_reads 280 = .ok (.istore 12, 2) := dk_54 12 (dk_at dksX4_reads_11 22 rfl rfl)
theorem dX4_reads_282 : decode cX4_reads 282 = .ok (.iinc 13 1, 3) := dk_132 13 1 (dk_at dksX4_reads_12 0 rfl rfl)
theorem dX4_reads_285 : decode cX4_reads 285 = .ok (.goto (-60), 3) := dk_167 255 196 (dk_at dksX4_reads_12 3 rfl rfl)
theorem dX4_reads_288 : decode cX4_reads 288 = .ok (.iload 12, 2) := dk_21 12 (dk_at dksX4_reads_12 6 rfl rfl)
theorem dX4_reads_290 : decode cX4_reads 290 = .ok (.ifCond .eq 11, 3) := dk_153 0 11 (dk_at dksX4_reads_12 8 rfl rfl)
theorem dX4_reads_293 : decode cX4_reads 293 = .ok (.aload_n 0, 1) := dk_42 (dk_at dksX4_reads_12 11 rfl rfl)
theorem dX4_reads_294 : decode cX4_reads 294 = .ok (.iconst 3, 1) := dk_6 (dk_at dksX4_reads_12 12 rfl rfl)
theorem dX4_reads_295 : decode cX4_reads 295 = .ok (.iload 8, 2) := dk_21 8 (dk_at dksX4_reads_12 13 rfl rfl)
theorem dX4_reads_297 : decode cX4_reads 297 = .ok (.invokevirtual 175, 3) := dk_182 0 175 (dk_at dksX4_reads_12 15 rfl rfl)
theorem dX4_reads_300 : decode cX4_reads 300 = .ok (.athrow, 1) := dk_191 (dk_at dksX4_reads_12 18 rfl rfl)
theorem dX4_reads_301 : decode cX4_reads 301 = .ok (.aload_n 1, 1) := dk_43 (dk_at dksX4_reads_12 19 rfl rfl)
theorem dX4_reads_302 : decode cX4_reads 302 = .ok (.getfield 205, 3) := dk_180 0 205 (dk_at dksX4_reads_12 20 rfl rfl)
theorem dX4_reads_305 : decode cX4_reads 305 = .ok (.iload 4, 2) := dk_21 4 (dk_at dksX4_reads_13 0 rfl rfl)
theorem dX4_reads_307 : decode cX4_reads 307 = .ok (.if_icmp .ne 11, 3) := dk_160 0 11 (dk_at dksX4_reads_13 2 rfl rfl)
theorem dX4_reads_310 : decode cX4_reads 310 = .ok (.aload_n 0, 1) := dk_42 (dk_at dksX4_reads_13 5 rfl rfl)
theorem dX4_reads_311 : decode cX4_reads 311 = .ok (.iconst 4, 1) := dk_7 (dk_at dksX4_reads_13 6 rfl rfl)
theorem dX4_reads_312 : decode cX4_reads 312 = .ok (.iload 8, 2) := dk_21 8 (dk_at dksX4_reads_13 7 rfl rfl)
theorem dX4_reads_314 : decode cX4_reads 314 = .ok (.invokevirtual 175, 3) := dk_182 0 175 (dk_at dksX4_reads_13 9 rfl rfl)
theorem dX4_reads_317 : decode cX4_reads 317 = .ok (.athrow, 1) := dk_191 (dk_at dksX4_reads_13 12 rfl rfl)
theorem dX4_reads_318 : decode cX4_reads 318 = .ok (.aload_n 1, 1) := dk_43 (dk_at dksX4_reads_13 13 rfl rfl)
theorem dX4_reads_319 : decode cX4_reads 319 = .ok (.getfield 208, 3) := dk_180 0 208 (dk_at dksX4_reads_13 14 rfl rfl)
theorem dX4_reads_322 : decode cX4_reads 322 = .ok (.aload_n 1, 1) := dk_43 (dk_at dksX4_reads_13 17 rfl rfl)
theorem dX4_reads_323 : decode cX4_reads 323 = .ok (.getfield 205, 3) := dk_180 0 205 (dk_at dksX4_reads_13 18 rfl rfl)
theorem dX4_reads_326 : decode cX4_reads 326 = .ok (.iload 9, 2) := dk_21 9 (dk_at dksX4_reads_13 21 rfl rfl)
theorem dX4_reads_328 : decode cX4_reads 328 = .ok (.iastore, 1) := dk_79 (dk_at dksX4_reads_13 23 rfl rfl)
theorem dX4_reads_329 : decode cX4_reads 329 = .ok (.aload_n 1, 1) := dk_43 (dk_at dksX4_reads_14 0 rfl rfl)
theorem dX4_reads_330 : decode cX4_reads 330 = .ok (.getfield 211, 3) := dk_180 0 211 (dk_at dksX4_reads_14 1 rfl rfl)
theorem dX4_reads_333 : decode cX4_reads 333 = .ok (.aload_n 1, 1) := dk_43 (dk_at dksX4_reads_14 4 rfl rfl)
theorem dX4_reads_334 : decode cX4_reads 334 = .ok (.getfield 205, 3) := dk_180 0 205 (dk_at dksX4_reads_14 5 rfl rfl)
theorem dX4_reads_337 : decode cX4_reads 337 = .ok (.iload 10, 2) := dk_21 10 (dk_at dksX4_reads_14 8 rfl rfl)
theorem dX4_reads_339 : decode cX4_reads 339 = .ok (.iastore, 1) := dk_79 (dk_at dksX4_reads_14 10 rfl rfl)
theorem dX4_reads_340 : decode cX4_reads 340 = .ok (.aload_n 1, 1) := dk_43 (dk_at dksX4_reads_14 11 rfl rfl)
theorem dX4_reads_341 : decode cX4_reads 341 = .ok (.getfield 214, 3) := dk_180 0 214 (dk_at dksX4_reads_14 12 rfl rfl)
theorem dX4_reads_344 : decode cX4_reads 344 = .ok (.aload_n 1, 1) := dk_43 (dk_at dksX4_reads_14 15 rfl rfl)
theorem dX4_reads_345 : decode cX4_reads 345 = .ok (.getfield 205, 3) := dk_180 0 205 (dk_at dksX4_reads_14 16 rfl rfl)
theorem dX4_reads_348 : decode cX4_reads 348 = .ok (.iload 11, 2) := dk_21 11 (dk_at dksX4_reads_14 19 rfl rfl)
theorem dX4_reads_350 : decode cX4_reads 350 = .ok (.iastore, 1) := dk_79 (dk_at dksX4_reads_14 21 rfl rfl)
theorem dX4_reads_351 : decode cX4_reads 351 = .ok (.aload_n 1, 1) := dk_43 (dk_at dksX4_reads_14 22 rfl rfl)
theorem dX4_reads_352 : decode cX4_reads 352 = .ok (.dup, 1) := dk_89 (dk_at dksX4_reads_14 23 rfl rfl)
theorem dX4_reads_353 : decode cX4_reads 353 = .ok (.getfield 205, 3) := dk_180 0 205 (dk_at dksX4_reads_15 0 rfl rfl)
theorem dX4_reads_356 : decode cX4_reads 356 = .ok (.iconst 1, 1) := dk_4 (dk_at dksX4_reads_15 3 rfl rfl)
theorem dX4_reads_357 : decode cX4_reads 357 = .ok (.iadd, 1) := dk_96 (dk_at dksX4_reads_15 4 rfl rfl)
theorem dX4_reads_358 : decode cX4_reads 358 = .ok (.putfield 205, 3) := dk_181 0 205 (dk_at dksX4_reads_15 5 rfl rfl)
theorem dX4_reads_361 : decode cX4_reads 361 = .ok (.goto 13, 3) := dk_167 0 13 (dk_at dksX4_reads_15 8 rfl rfl)
theorem dX4_reads_364 : decode cX4_reads 364 = .ok (.aload_n 0, 1) := dk_42 (dk_at dksX4_reads_15 11 rfl rfl)
theorem dX4_reads_365 : decode cX4_reads 365 = .ok (.iconst 1, 1) := dk_4 (dk_at dksX4_reads_15 12 rfl rfl)
theorem dX4_reads_366 : decode cX4_reads 366 = .ok (.aload_n 0, 1) := dk_42 (dk_at dksX4_reads_15 13 rfl rfl)
theorem dX4_reads_367 : decode cX4_reads 367 = .ok (.getfield 152, 3) := dk_180 0 152 (dk_at dksX4_reads_15 14 rfl rfl)
theorem dX4_reads_370 : decode cX4_reads 370 = .ok (.invokevirtual 175, 3) := dk_182 0 175 (dk_at dksX4_reads_15 17 rfl rfl)
theorem dX4_reads_373 : decode cX4_reads 373 = .ok (.athrow, 1) := dk_191 (dk_at dksX4_reads_15 20 rfl rfl)
theorem dX4_reads_374 : decode cX4_reads 374 = .ok (.aload_n 0, 1) := dk_42 (dk_at dksX4_reads_15 21 rfl rfl)
theorem dX4_reads_375 : decode cX4_reads 375 = .ok (.bipush 59, 2) := dk_16 59 (dk_at dksX4_reads_15 22 rfl rfl)
theorem dX4_reads_377 : decode cX4_reads 377 = .ok (.invokevirtual 186, 3) := dk_182 0 186 (dk_at dksX4_reads_16 0 rfl rfl)
theorem dX4_reads_380 : decode cX4_reads 380 = .ok (.istore 5, 2) := dk_54 5 (dk_at dksX4_reads_16 3 rfl rfl)
theorem dX4_reads_382 : decode cX4_reads 382 = .ok (.iload 5, 2) := dk_21 5 (dk_at dksX4_reads_16 5 rfl rfl)
theorem dX4_reads_384 : decode cX4_reads 384 = .ok (.ifCond .eq 7, 3) := dk_153 0 7 (dk_at dksX4_reads_16 7 rfl rfl)
theorem dX4_reads_387 : decode cX4_reads 387 = .ok (.aload_n 0, 1) := dk_42 (dk_at dksX4_reads_16 10 rfl rfl)
theorem dX4_reads_388 : decode cX4_reads 388 = .ok (.invokevirtual 172, 3) := dk_182 0 172 (dk_at dksX4_reads_16 11 rfl rfl)
theorem dX4_reads_391 : decode cX4_reads 391 = .ok (.goto (-383), 3) := dk_167 254 129 (dk_at dksX4_reads_16 14 rfl rfl)
theorem dX4_reads_394 : decode cX4_reads 394 = .ok (.aload_n 0, 1) := dk_42 (dk_at dksX4_reads_16 17 rfl rfl)
theorem dX4_reads_395 : decode cX4_reads 395 = .ok (.getfield 153, 3) := dk_180 0 153 (dk_at dksX4_reads_16 18 rfl rfl)
theorem dX4_reads_398 : decode cX4_reads 398 = .ok (.iconst 1, 1) := dk_4 (dk_at dksX4_reads_16 21 rfl rfl)
theorem dX4_reads_399 : decode cX4_reads 399 = .ok (.if_icmp .eq 13, 3) := dk_159 0 13 (dk_at dksX4_reads_17 0 rfl rfl)
theorem dX4_reads_402 : decode cX4_reads 402 = .ok (.aload_n 0, 1) := dk_42 (dk_at dksX4_reads_17 3 rfl rfl)
theorem dX4_reads_403 : decode cX4_reads 403 = .ok (.iconst 1, 1) := dk_4 (dk_at dksX4_reads_17 4 rfl rfl)
theorem dX4_reads_404 : decode cX4_reads 404 = .ok (.aload_n 0, 1) := dk_42 (dk_at dksX4_reads_17 5 rfl rfl)
theorem dX4_reads_405 : decode cX4_reads 405 = .ok (.getfield 152, 3) := dk_180 0 152 (dk_at dksX4_reads_17 6 rfl rfl)
theorem dX4_reads_408 : decode cX4_reads 408 = .ok (.invokevirtual 175, 3) := dk_182 0 175 (dk_at dksX4_reads_17 9 rfl rfl)
theorem dX4_reads_411 : decode cX4_reads 411 = .ok (.athrow, 1) := dk_191 (dk_at dksX4_reads_17 12 rfl rfl)
theorem dX4_reads_412 : decode cX4_reads 412 = .ok (.return_, 1) := dk_177 (dk_at dksX4_reads_17 13 rfl rfl)
abbrev cX4_stop : ByteArray := prog_22_method_10_code
def yX4_stop : MethodName := ⟨RX4, "stop", "(II)LPatentHallModel$Stop;"⟩
def dkwX4_stop_0 : List UInt8 := [42, 180, 0, 78, 27, 181, 0, 136, 42, 180, 0, 78, 28, 181, 0, 139, 42, 180, 0, 78, 176]
abbrev dktX4_stop_0 : List UInt8 := dkwX4_stop_0 ++ []
theorem dksX4_stop_0 : cX4_stop.data.toList.drop 0 = dktX4_stop_0 := by decide +kernel
theorem dX4_stop_0 : decode cX4_stop 0 = .ok (.aload_n 0, 1) := dk_42 (dk_at dksX4_stop_0 0 rfl rfl)
theorem dX4_stop_1 : decode cX4_stop 1 = .ok (.getfield 78, 3) := dk_180 0 78 (dk_at dksX4_stop_0 1 rfl rfl)
theorem dX4_stop_4 : decode cX4_stop 4 = .ok (.iload_n 1, 1) := dk_27 (dk_at dksX4_stop_0 4 rfl rfl)
theorem dX4_stop_5 : decode cX4_stop 5 = .ok (.putfield 136, 3) := dk_181 0 136 (dk_at dksX4_stop_0 5 rfl rfl)
theorem dX4_stop_8 : decode cX4_stop 8 = .ok (.aload_n 0, 1) := dk_42 (dk_at dksX4_stop_0 8 rfl rfl)
theorem dX4_stop_9 : decode cX4_stop 9 = .ok (.getfield 78, 3) := dk_180 0 78 (dk_at dksX4_stop_0 9 rfl rfl)
theorem dX4_stop_12 : decode cX4_stop 12 = .ok (.iload_n 2, 1) := dk_28 (dk_at dksX4_stop_0 12 rfl rfl)
theorem dX4_stop_13 : decode cX4_stop 13 = .ok (.putfield 139, 3) := dk_181 0 139 (dk_at dksX4_stop_0 13 rfl rfl)
theorem dX4_stop_16 : decode cX4_stop 16 = .ok (.aload_n 0, 1) := dk_42 (dk_at dksX4_stop_0 16 rfl rfl)
theorem dX4_stop_17 : decode cX4_stop 17 = .ok (.getfield 78, 3) := dk_180 0 78 (dk_at dksX4_stop_0 17 rfl rfl)
theorem dX4_stop_20 : decode cX4_stop 20 = .ok (.areturn, 1) := dk_176 (dk_at dksX4_stop_0 20 rfl rfl)
abbrev cX4_is : ByteArray := prog_22_method_15_code
def yX4_is : MethodName := ⟨RX4, "is", "(I)Z"⟩
def dkwX4_is_0 : List UInt8 := [42, 180, 0, 153, 6, 160, 0, 15, 42, 180, 0, 156, 27, 160, 0, 7, 4, 167, 0, 4, 3, 172]
abbrev dktX4_is_0 : List UInt8 := dkwX4_is_0 ++ []
theorem dksX4_is_0 : cX4_is.data.toList.drop 0 = dktX4_is_0 := by decide +kernel
theorem dX4_is_0 : decode cX4_is 0 = .ok (.aload_n 0, 1) := dk_42 (dk_at dksX4_is_0 0 rfl rfl)
theorem dX4_is_1 : decode cX4_is 1 = .ok (.getfield 153, 3) := dk_180 0 153 (dk_at dksX4_is_0 1 rfl rfl)
theorem dX4_is_4 : decode cX4_is 4 = .ok (.iconst 3, 1) := dk_6 (dk_at dksX4_is_0 4 rfl rfl)
theorem dX4_is_5 : decode cX4_is 5 = .ok (.if_icmp .ne 15, 3) := dk_160 0 15 (dk_at dksX4_is_0 5 rfl rfl)
theorem dX4_is_8 : decode cX4_is 8 = .ok (.aload_n 0, 1) := dk_42 (dk_at dksX4_is_0 8 rfl rfl)
theorem dX4_is_9 : decode cX4_is 9 = .ok (.getfield 156, 3) := dk_180 0 156 (dk_at dksX4_is_0 9 rfl rfl)
theorem dX4_is_12 : decode cX4_is 12 = .ok (.iload_n 1, 1) := dk_27 (dk_at dksX4_is_0 12 rfl rfl)
theorem dX4_is_13 : decode cX4_is 13 = .ok (.if_icmp .ne 7, 3) := dk_160 0 7 (dk_at dksX4_is_0 13 rfl rfl)
theorem dX4_is_16 : decode cX4_is 16 = .ok (.iconst 1, 1) := dk_4 (dk_at dksX4_is_0 16 rfl rfl)
theorem dX4_is_17 : decode cX4_is 17 = .ok (.goto 4, 3) := dk_167 0 4 (dk_at dksX4_is_0 17 rfl rfl)
theorem dX4_is_20 : decode cX4_is 20 = .ok (.iconst 0, 1) := dk_3 (dk_at dksX4_is_0 20 rfl rfl)
theorem dX4_is_21 : decode cX4_is 21 = .ok (.ireturn, 1) := dk_172 (dk_at dksX4_is_0 21 rfl rfl)
abbrev cX4_wordHere : ByteArray := prog_22_method_17_code
def yX4_wordHere : MethodName := ⟨RX4, "wordHere", "()I"⟩
def dkwX4_wordHere_2 : List UInt8 := [172]
abbrev dktX4_wordHere_2 : List UInt8 := dkwX4_wordHere_2 ++ []
def dkwX4_wordHere_1 : List UInt8 := [182, 0, 178, 60, 27, 2, 160, 0, 13, 42, 5, 42, 180, 0, 152, 182, 0, 175, 191, 42, 182, 0, 172, 27]
abbrev dktX4_wordHere_1 : List UInt8 := dkwX4_wordHere_1 ++ dktX4_wordHere_2
def dkwX4_wordHere_0 : List UInt8 := [42, 180, 0, 153, 5, 159, 0, 13, 42, 4, 42, 180, 0, 152, 182, 0, 175, 191, 42, 42, 180, 0, 163]
abbrev dktX4_wordHere_0 : List UInt8 := dkwX4_wordHere_0 ++ dktX4_wordHere_1
theorem dksX4_wordHere_0 : cX4_wordHere.data.toList.drop 0 = dktX4_wordHere_0 := by decide +kernel
theorem dksX4_wordHere_1 : cX4_wordHere.data.toList.drop 23 = dktX4_wordHere_1 := dk_seg dksX4_wordHere_0 23 rfl rfl
theorem dksX4_wordHere_2 : cX4_wordHere.data.toList.drop 47 = dktX4_wordHere_2 := dk_seg dksX4_wordHere_1 24 rfl rfl
theorem dX4_wordHere_0 : decode cX4_wordHere 0 = .ok (.aload_n 0, 1) := dk_42 (dk_at dksX4_wordHere_0 0 rfl rfl)
theorem dX4_wordHere_1 : decode cX4_wordHere 1 = .ok (.getfield 153, 3) := dk_180 0 153 (dk_at dksX4_wordHere_0 1 rfl rfl)
theorem dX4_wordHere_4 : decode cX4_wordHere 4 = .ok (.iconst 2, 1) := dk_5 (dk_at dksX4_wordHere_0 4 rfl rfl)
theorem dX4_wordHere_5 : decode cX4_wordHere 5 = .ok (.if_icmp .eq 13, 3) := dk_159 0 13 (dk_at dksX4_wordHere_0 5 rfl rfl)
theorem dX4_wordHere_8 : decode cX4_wordHere 8 = .ok (.aload_n 0, 1) := dk_42 (dk_at dksX4_wordHere_0 8 rfl rfl)
theorem dX4_wordHere_9 : decode cX4_wordHere 9 = .ok (.iconst 1, 1) := dk_4 (dk_at dksX4_wordHere_0 9 rfl rfl)
theorem dX4_wordHere_10 : decode cX4_wordHere 10 = .ok (.aload_n 0, 1) := dk_42 (dk_at dksX4_wordHere_0 10 rfl rfl)
theorem dX4_wordHere_11 : decode cX4_wordHere 11 = .ok (.getfield 152, 3) := dk_180 0 152 (dk_at dksX4_wordHere_0 11 rfl rfl)
theorem dX4_wordHere_14 : decode cX4_wordHere 14 = .ok (.invokevirtual 175, 3) := dk_182 0 175 (dk_at dksX4_wordHere_0 14 rfl rfl)
theorem dX4_wordHere_17 : decode cX4_wordHere 17 = .ok (.athrow, 1) := dk_191 (dk_at dksX4_wordHere_0 17 rfl rfl)
theorem dX4_wordHere_18 : decode cX4_wordHere 18 = .ok (.aload_n 0, 1) := dk_42 (dk_at dksX4_wordHere_0 18 rfl rfl)
theorem dX4_wordHere_19 : decode cX4_wordHere 19 = .ok (.aload_n 0, 1) := dk_42 (dk_at dksX4_wordHere_0 19 rfl rfl)
theorem dX4_wordHere_20 : decode cX4_wordHere 20 = .ok (.getfield 163, 3) := dk_180 0 163 (dk_at dksX4_wordHere_0 20 rfl rfl)
theorem dX4_wordHere_23 : decode cX4_wordHere 23 = .ok (.invokevirtual 178, 3) := dk_182 0 178 (dk_at dksX4_wordHere_1 0 rfl rfl)
theorem dX4_wordHere_26 : decode cX4_wordHere 26 = .ok (.istore_n 1, 1) := dk_60 (dk_at dksX4_wordHere_1 3 rfl rfl)
theorem dX4_wordHere_27 : decode cX4_wordHere 27 = .ok (.iload_n 1, 1) := dk_27 (dk_at dksX4_wordHere_1 4 rfl rfl)
theorem dX4_wordHere_28 : decode cX4_wordHere 28 = .ok (.iconst (-1), 1) := dk_2 (dk_at dksX4_wordHere_1 5 rfl rfl)
theorem dX4_wordHere_29 : decode cX4_wordHere 29 = .ok (.if_icmp .ne 13, 3) := dk_160 0 13 (dk_at dksX4_wordHere_1 6 rfl rfl)
theorem dX4_wordHere_32 : decode cX4_wordHere 32 = .ok (.aload_n 0, 1) := dk_42 (dk_at dksX4_wordHere_1 9 rfl rfl)
theorem dX4_wordHere_33 : decode cX4_wordHere 33 = .ok (.iconst 2, 1) := dk_5 (dk_at dksX4_wordHere_1 10 rfl rfl)
theorem dX4_wordHere_34 : decode cX4_wordHere 34 = .ok (.aload_n 0, 1) := dk_42 (dk_at dksX4_wordHere_1 11 rfl rfl)
theorem dX4_wordHere_35 : decode cX4_wordHere 35 = .ok (.getfield 152, 3) := dk_180 0 152 (dk_at dksX4_wordHere_1 12 rfl rfl)
theorem dX4_wordHere_38 : decode cX4_wordHere 38 = .ok (.invokevirtual 175, 3) := dk_182 0 175 (dk_at dksX4_wordHere_1 15 rfl rfl)
theorem dX4_wordHere_41 : decode cX4_wordHere 41 = .ok (.athrow, 1) := dk_191 (dk_at dksX4_wordHere_1 18 rfl rfl)
theorem dX4_wordHere_42 : decode cX4_wordHere 42 = .ok (.aload_n 0, 1) := dk_42 (dk_at dksX4_wordHere_1 19 rfl rfl)
theorem dX4_wordHere_43 : decode cX4_wordHere 43 = .ok (.invokevirtual 172, 3) := dk_182 0 172 (dk_at dksX4_wordHere_1 20 rfl rfl)
theorem dX4_wordHere_46 : decode cX4_wordHere 46 = .ok (.iload_n 1, 1) := dk_27 (dk_at dksX4_wordHere_1 23 rfl rfl)
theorem dX4_wordHere_47 : decode cX4_wordHere 47 = .ok (.ireturn, 1) := dk_172 (dk_at dksX4_wordHere_2 0 rfl rfl)
abbrev cX4_wrong : ByteArray := prog_22_method_19_code
def yX4_wrong : MethodName := ⟨RX4, "wrong", "(LPatentHallModel$Stop;)I"⟩
def dkwX4_wrong_0 : List UInt8 := [42, 43, 180, 0, 136, 181, 0, 217, 42, 7, 181, 0, 112, 42, 43, 180, 0, 139, 181, 0, 9, 2, 172]
abbrev dktX4_wrong_0 : List UInt8 := dkwX4_wrong_0 ++ []
theorem dksX4_wrong_0 : cX4_wrong.data.toList.drop 0 = dktX4_wrong_0 := by decide +kernel
theorem dX4_wrong_0 : decode cX4_wrong 0 = .ok (.aload_n 0, 1) := dk_42 (dk_at dksX4_wrong_0 0 rfl rfl)
theorem dX4_wrong_1 : decode cX4_wrong 1 = .ok (.aload_n 1, 1) := dk_43 (dk_at dksX4_wrong_0 1 rfl rfl)
theorem dX4_wrong_2 : decode cX4_wrong 2 = .ok (.getfield 136, 3) := dk_180 0 136 (dk_at dksX4_wrong_0 2 rfl rfl)
theorem dX4_wrong_5 : decode cX4_wrong 5 = .ok (.putfield 217, 3) := dk_181 0 217 (dk_at dksX4_wrong_0 5 rfl rfl)
theorem dX4_wrong_8 : decode cX4_wrong 8 = .ok (.aload_n 0, 1) := dk_42 (dk_at dksX4_wrong_0 8 rfl rfl)
theorem dX4_wrong_9 : decode cX4_wrong 9 = .ok (.iconst 4, 1) := dk_7 (dk_at dksX4_wrong_0 9 rfl rfl)
theorem dX4_wrong_10 : decode cX4_wrong 10 = .ok (.putfield 112, 3) := dk_181 0 112 (dk_at dksX4_wrong_0 10 rfl rfl)
theorem dX4_wrong_13 : decode cX4_wrong 13 = .ok (.aload_n 0, 1) := dk_42 (dk_at dksX4_wrong_0 13 rfl rfl)
theorem dX4_wrong_14 : decode cX4_wrong 14 = .ok (.aload_n 1, 1) := dk_43 (dk_at dksX4_wrong_0 14 rfl rfl)
theorem dX4_wrong_15 : decode cX4_wrong 15 = .ok (.getfield 139, 3) := dk_180 0 139 (dk_at dksX4_wrong_0 15 rfl rfl)
theorem dX4_wrong_18 : decode cX4_wrong 18 = .ok (.putfield 9, 3) := dk_181 0 9 (dk_at dksX4_wrong_0 18 rfl rfl)
theorem dX4_wrong_21 : decode cX4_wrong 21 = .ok (.iconst (-1), 1) := dk_2 (dk_at dksX4_wrong_0 21 rfl rfl)
theorem dX4_wrong_22 : decode cX4_wrong 22 = .ok (.ireturn, 1) := dk_172 (dk_at dksX4_wrong_0 22 rfl rfl)
abbrev cX4_thing : ByteArray := prog_22_method_33_code
def yX4_thing : MethodName := ⟨RX4, "thing", "(I)I"⟩
def dkwX4_thing_4 : List UInt8 := [182, 0, 245, 42, 89, 180, 0, 127, 4, 96, 181, 0, 127, 42, 42, 180, 0, 127, 4, 100, 182, 0, 249, 172]
abbrev dktX4_thing_4 : List UInt8 := dkwX4_thing_4 ++ []
def dkwX4_thing_3 : List UInt8 := [180, 0, 127, 44, 83, 42, 180, 0, 42, 42, 180, 0, 127, 42, 180, 0, 121, 79, 42, 6, 3, 1]
abbrev dktX4_thing_3 : List UInt8 := dkwX4_thing_3 ++ dktX4_thing_4
def dkwX4_thing_2 : List UInt8 := [182, 1, 7, 172, 42, 180, 0, 127, 16, 12, 160, 0, 9, 42, 6, 182, 0, 239, 172, 42, 180, 0, 30, 42]
abbrev dktX4_thing_2 : List UInt8 := dkwX4_thing_2 ++ dktX4_thing_3
def dkwX4_thing_1 : List UInt8 := [187, 0, 21, 89, 183, 0, 95, 77, 42, 44, 27, 16, 8, 16, 10, 182, 1, 3, 167, 0, 10, 78, 42, 45]
abbrev dktX4_thing_1 : List UInt8 := dkwX4_thing_1 ++ dktX4_thing_2
def dkwX4_thing_0 : List UInt8 := [42, 3, 181, 0, 109, 42, 27, 182, 0, 242, 154, 0, 9, 42, 5, 182, 0, 239, 172, 42, 3, 181, 0, 217]
abbrev dktX4_thing_0 : List UInt8 := dkwX4_thing_0 ++ dktX4_thing_1
theorem dksX4_thing_0 : cX4_thing.data.toList.drop 0 = dktX4_thing_0 := by decide +kernel
theorem dksX4_thing_1 : cX4_thing.data.toList.drop 24 = dktX4_thing_1 := dk_seg dksX4_thing_0 24 rfl rfl
theorem dksX4_thing_2 : cX4_thing.data.toList.drop 48 = dktX4_thing_2 := dk_seg dksX4_thing_1 24 rfl rfl
theorem dksX4_thing_3 : cX4_thing.data.toList.drop 72 = dktX4_thing_3 := dk_seg dksX4_thing_2 24 rfl rfl
theorem dksX4_thing_4 : cX4_thing.data.toList.drop 94 = dktX4_thing_4 := dk_seg dksX4_thing_3 22 rfl rfl
theorem dX4_thing_0 : decode cX4_thing 0 = .ok (.aload_n 0, 1) := dk_42 (dk_at dksX4_thing_0 0 rfl rfl)
theorem dX4_thing_1 : decode cX4_thing 1 = .ok (.iconst 0, 1) := dk_3 (dk_at dksX4_thing_0 1 rfl rfl)
theorem dX4_thing_2 : decode cX4_thing 2 = .ok (.putfield 109, 3) := dk_181 0 109 (dk_at dksX4_thing_0 2 rfl rfl)
theorem dX4_thing_5 : decode cX4_thing 5 = .ok (.aload_n 0, 1) := dk_42 (dk_at dksX4_thing_0 5 rfl rfl)
theorem dX4_thing_6 : decode cX4_thing 6 = .ok (.iload_n 1, 1) := dk_27 (dk_at dksX4_thing_0 6 rfl rfl)
theorem dX4_thing_7 : decode cX4_thing 7 = .ok (.invokevirtual 242, 3) := dk_182 0 242 (dk_at dksX4_thing_0 7 rfl rfl)
theorem dX4_thing_10 : decode cX4_thing 10 = .ok (.ifCond .ne 9, 3) := dk_154 0 9 (dk_at dksX4_thing_0 10 rfl rfl)
theorem dX4_thing_13 : decode cX4_thing 13 = .ok (.aload_n 0, 1) := dk_42 (dk_at dksX4_thing_0 13 rfl rfl)
theorem dX4_thing_14 : decode cX4_thing 14 = .ok (.iconst 2, 1) := dk_5 (dk_at dksX4_thing_0 14 rfl rfl)
theorem dX4_thing_15 : decode cX4_thing 15 = .ok (.invokevirtual 239, 3) := dk_182 0 239 (dk_at dksX4_thing_0 15 rfl rfl)
theorem dX4_thing_18 : decode cX4_thing 18 = .ok (.ireturn, 1) := dk_172 (dk_at dksX4_thing_0 18 rfl rfl)
theorem dX4_thing_19 : decode cX4_thing 19 = .ok (.aload_n 0, 1) := dk_42 (dk_at dksX4_thing_0 19 rfl rfl)
theorem dX4_thing_20 : decode cX4_thing 20 = .ok (.iconst 0, 1) := dk_3 (dk_at dksX4_thing_0 20 rfl rfl)
theorem dX4_thing_21 : decode cX4_thing 21 = .ok (.putfield 217, 3) := dk_181 0 217 (dk_at dksX4_thing_0 21 rfl rfl)
theorem dX4_thing_24 : decode cX4_thing 24 = .ok (.new 21, 3) := dk_187 0 21 (dk_at dksX4_thing_1 0 rfl rfl)
theorem dX4_thing_27 : decode cX4_thing 27 = .ok (.dup, 1) := dk_89 (dk_at dksX4_thing_1 3 rfl rfl)
theorem dX4_thing_28 : decode cX4_thing 28 = .ok (.invokespecial 95, 3) := dk_183 0 95 (dk_at dksX4_thing_1 4 rfl rfl)
theorem dX4_thing_31 : decode cX4_thing 31 = .ok (.astore_n 2, 1) := dk_77 (dk_at dksX4_thing_1 7 rfl rfl)
theorem dX4_thing_32 : decode cX4_thing 32 = .ok (.aload_n 0, 1) := dk_42 (dk_at dksX4_thing_1 8 rfl rfl)
theorem dX4_thing_33 : decode cX4_thing 33 = .ok (.aload_n 2, 1) := dk_44 (dk_at dksX4_thing_1 9 rfl rfl)
theorem dX4_thing_34 : decode cX4_thing 34 = .ok (.iload_n 1, 1) := dk_27 (dk_at dksX4_thing_1 10 rfl rfl)
theorem dX4_thing_35 : decode cX4_thing 35 = .ok (.bipush 8, 2) := dk_16 8 (dk_at dksX4_thing_1 11 rfl rfl)
theorem dX4_thing_37 : decode cX4_thing 37 = .ok (.bipush 10, 2) := dk_16 10 (dk_at dksX4_thing_1 13 rfl rfl)
theorem dX4_thing_39 : decode cX4_thing 39 = .ok (.invokevirtual 259, 3) := dk_182 1 3 (dk_at dksX4_thing_1 15 rfl rfl)
theorem dX4_thing_42 : decode cX4_thing 42 = .ok (.goto 10, 3) := dk_167 0 10 (dk_at dksX4_thing_1 18 rfl rfl)
theorem dX4_thing_45 : decode cX4_thing 45 = .ok (.astore_n 3, 1) := dk_78 (dk_at dksX4_thing_1 21 rfl rfl)
theorem dX4_thing_46 : decode cX4_thing 46 = .ok (.aload_n 0, 1) := dk_42 (dk_at dksX4_thing_1 22 rfl rfl)
theorem dX4_thing_47 : decode cX4_thing 47 = .ok (.aload_n 3, 1) := dk_45 (dk_at dksX4_thing_1 23 rfl rfl)
theorem dX4_thing_48 : decode cX4_thing 48 = .ok (.invokevirtual 263, 3) := dk_182 1 7 (dk_at dksX4_thing_2 0 rfl rfl)
theorem dX4_thing_51 : decode cX4_thing 51 = .ok (.ireturn, 1) := dk_172 (dk_at dksX4_thing_2 3 rfl rfl)
theorem dX4_thing_52 : decode cX4_thing 52 = .ok (.aload_n 0, 1) := dk_42 (dk_at dksX4_thing_2 4 rfl rfl)
theorem dX4_thing_53 : decode cX4_thing 53 = .ok (.getfield 127, 3) := dk_180 0 127 (dk_at dksX4_thing_2 5 rfl rfl)
theorem dX4_thing_56 : decode cX4_thing 56 = .ok (.bipush 12, 2) := dk_16 12 (dk_at dksX4_thing_2 8 rfl rfl)
theorem dX4_thing_58 : decode cX4_thing 58 = .ok (.if_icmp .ne 9, 3) := dk_160 0 9 (dk_at dksX4_thing_2 10 rfl rfl)
theorem dX4_thing_61 : decode cX4_thing 61 = .ok (.aload_n 0, 1) := dk_42 (dk_at dksX4_thing_2 13 rfl rfl)
theorem dX4_thing_62 : decode cX4_thing 62 = .ok (.iconst 3, 1) := dk_6 (dk_at dksX4_thing_2 14 rfl rfl)
theorem dX4_thing_63 : decode cX4_thing 63 = .ok (.invokevirtual 239, 3) := dk_182 0 239 (dk_at dksX4_thing_2 15 rfl rfl)
theorem dX4_thing_66 : decode cX4_thing 66 = .ok (.ireturn, 1) := dk_172 (dk_at dksX4_thing_2 18 rfl rfl)
theorem dX4_thing_67 : decode cX4_thing 67 = .ok (.aload_n 0, 1) := dk_42 (dk_at dksX4_thing_2 19 rfl rfl)
theorem dX4_thing_68 : decode cX4_thing 68 = .ok (.getfield 30, 3) := dk_180 0 30 (dk_at dksX4_thing_2 20 rfl rfl)
theorem dX4_thing_71 : decode cX4_thing 71 = .ok (.aload_n 0, 1) := dk_42 (dk_at dksX4_thing_2 23 rfl rfl)
theorem dX4_thing_72 : decode cX4_thing 72 = .ok (.getfield 127, 3) := dk_180 0 127 (dk_at dksX4_thing_3 0 rfl rfl)
theorem dX4_thing_75 : decode cX4_thing 75 = .ok (.aload_n 2, 1) := dk_44 (dk_at dksX4_thing_3 3 rfl rfl)
theorem dX4_thing_76 : decode cX4_thing 76 = .ok (.aastore, 1) := dk_83 (dk_at dksX4_thing_3 4 rfl rfl)
theorem dX4_thing_77 : decode cX4_thing 77 = .ok (.aload_n 0, 1) := dk_42 (dk_at dksX4_thing_3 5 rfl rfl)
theorem dX4_thing_78 : decode cX4_thing 78 = .ok (.getfield 42, 3) := dk_180 0 42 (dk_at dksX4_thing_3 6 rfl rfl)
theorem dX4_thing_81 : decode cX4_thing 81 = .ok (.aload_n 0, 1) := dk_42 (dk_at dksX4_thing_3 9 rfl rfl)
theorem dX4_thing_82 : decode cX4_thing 82 = .ok (.getfield 127, 3) := dk_180 0 127 (dk_at dksX4_thing_3 10 rfl rfl)
theorem dX4_thing_85 : decode cX4_thing 85 = .ok (.aload_n 0, 1) := dk_42 (dk_at dksX4_thing_3 13 rfl rfl)
theorem dX4_thing_86 : decode cX4_thing 86 = .ok (.getfield 121, 3) := dk_180 0 121 (dk_at dksX4_thing_3 14 rfl rfl)
theorem dX4_thing_89 : decode cX4_thing 89 = .ok (.iastore, 1) := dk_79 (dk_at dksX4_thing_3 17 rfl rfl)
theorem dX4_thing_90 : decode cX4_thing 90 = .ok (.aload_n 0, 1) := dk_42 (dk_at dksX4_thing_3 18 rfl rfl)
theorem dX4_thing_91 : decode cX4_thing 91 = .ok (.iconst 3, 1) := dk_6 (dk_at dksX4_thing_3 19 rfl rfl)
theorem dX4_thing_92 : decode cX4_thing 92 = .ok (.iconst 0, 1) := dk_3 (dk_at dksX4_thing_3 20 rfl rfl)
theorem dX4_thing_93 : decode cX4_thing 93 = .ok (.aconst_null, 1) := dk_1 (dk_at dksX4_thing_3 21 rfl rfl)
theorem dX4_thing_94 : decode cX4_thing 94 = .ok (.invokevirtual 245, 3) := dk_182 0 245 (dk_at dksX4_thing_4 0 rfl rfl)
theorem dX4_thing_97 : decode cX4_thing 97 = .ok (.aload_n 0, 1) := dk_42 (dk_at dksX4_thing_4 3 rfl rfl)
theorem dX4_thing_98 : decode cX4_thing 98 = .ok (.dup, 1) := dk_89 (dk_at dksX4_thing_4 4 rfl rfl)
theorem dX4_thing_99 : decode cX4_thing 99 = .ok (.getfield 127, 3) := dk_180 0 127 (dk_at dksX4_thing_4 5 rfl rfl)
theorem dX4_thing_102 : decode cX4_thing 102 = .ok (.iconst 1, 1) := dk_4 (dk_at dksX4_thing_4 8 rfl rfl)
theorem dX4_thing_103 : decode cX4_thing 103 = .ok (.iadd, 1) := dk_96 (dk_at dksX4_thing_4 9 rfl rfl)
theorem dX4_thing_104 : decode cX4_thing 104 = .ok (.putfield 127, 3) := dk_181 0 127 (dk_at dksX4_thing_4 10 rfl rfl)
theorem dX4_thing_107 : decode cX4_thing 107 = .ok (.aload_n 0, 1) := dk_42 (dk_at dksX4_thing_4 13 rfl rfl)
theorem dX4_thing_108 : decode cX4_thing 108 = .ok (.aload_n 0, 1) := dk_42 (dk_at dksX4_thing_4 14 rfl rfl)
theorem dX4_thing_109 : decode cX4_thing 109 = .ok (.getfield 127, 3) := dk_180 0 127 (dk_at dksX4_thing_4 15 rfl rfl)
theorem dX4_thing_112 : decode cX4_thing 112 = .ok (.iconst 1, 1) := dk_4 (dk_at dksX4_thing_4 18 rfl rfl)
theorem dX4_thing_113 : decode cX4_thing 113 = .ok (.isub, 1) := dk_100 (dk_at dksX4_thing_4 19 rfl rfl)
theorem dX4_thing_114 : decode cX4_thing 114 = .ok (.invokevirtual 249, 3) := dk_182 0 249 (dk_at dksX4_thing_4 20 rfl rfl)
theorem dX4_thing_117 : decode cX4_thing 117 = .ok (.ireturn, 1) := dk_172 (dk_at dksX4_thing_4 23 rfl rfl)
abbrev cX4_file : ByteArray := prog_22_method_36_code
def yX4_file : MethodName := ⟨RX4, "file", "(II)I"⟩
def dkwX4_file_6 : List UInt8 := [180, 0, 130, 4, 100, 182, 0, 249, 172]
abbrev dktX4_file_6 : List UInt8 := dkwX4_file_6 ++ []
def dkwX4_file_5 : List UInt8 := [180, 0, 130, 27, 79, 42, 7, 3, 1, 182, 0, 245, 42, 89, 180, 0, 130, 4, 96, 181, 0, 130, 42, 42]
abbrev dktX4_file_5 : List UInt8 := dkwX4_file_5 ++ dktX4_file_6
def dkwX4_file_4 : List UInt8 := [180, 0, 130, 45, 83, 42, 180, 0, 45, 42, 180, 0, 130, 42, 180, 0, 121, 79, 42, 180, 0, 48, 42]
abbrev dktX4_file_4 : List UInt8 := dkwX4_file_4 ++ dktX4_file_5
def dkwX4_file_3 : List UInt8 := [182, 1, 7, 172, 42, 180, 0, 130, 16, 8, 160, 0, 9, 42, 6, 182, 0, 239, 172, 42, 180, 0, 27, 42]
abbrev dktX4_file_3 : List UInt8 := dkwX4_file_3 ++ dktX4_file_4
def dkwX4_file_2 : List UInt8 := [183, 0, 95, 78, 42, 45, 28, 16, 8, 16, 10, 182, 1, 3, 167, 0, 12, 58, 4, 42, 25, 4]
abbrev dktX4_file_2 : List UInt8 := dkwX4_file_2 ++ dktX4_file_3
def dkwX4_file_1 : List UInt8 := [42, 28, 182, 0, 242, 154, 0, 9, 42, 5, 182, 0, 239, 172, 42, 3, 181, 0, 217, 187, 0, 21, 89]
abbrev dktX4_file_1 : List UInt8 := dkwX4_file_1 ++ dktX4_file_2
def dkwX4_file_0 : List UInt8 := [42, 3, 181, 0, 109, 27, 2, 159, 0, 17, 42, 27, 182, 1, 11, 154, 0, 9, 42, 4, 182, 0, 239, 172]
abbrev dktX4_file_0 : List UInt8 := dkwX4_file_0 ++ dktX4_file_1
theorem dksX4_file_0 : cX4_file.data.toList.drop 0 = dktX4_file_0 := by decide +kernel
theorem dksX4_file_1 : cX4_file.data.toList.drop 24 = dktX4_file_1 := dk_seg dksX4_file_0 24 rfl rfl
theorem dksX4_file_2 : cX4_file.data.toList.drop 47 = dktX4_file_2 := dk_seg dksX4_file_1 23 rfl rfl
theorem dksX4_file_3 : cX4_file.data.toList.drop 69 = dktX4_file_3 := dk_seg dksX4_file_2 22 rfl rfl
theorem dksX4_file_4 : cX4_file.data.toList.drop 93 = dktX4_file_4 := dk_seg dksX4_file_3 24 rfl rfl
theorem dksX4_file_5 : cX4_file.data.toList.drop 116 = dktX4_file_5 := dk_seg dksX4_file_4 23 rfl rfl
theorem dksX4_file_6 : cX4_file.data.toList.drop 140 = dktX4_file_6 := dk_seg dksX4_file_5 24 rfl rfl
theorem dX4_file_0 : decode cX4_file 0 = .ok (.aload_n 0, 1) := dk_42 (dk_at dksX4_file_0 0 rfl rfl)
theorem dX4_file_1 : decode cX4_file 1 = .ok (.iconst 0, 1) := dk_3 (dk_at dksX4_file_0 1 rfl rfl)
theorem dX4_file_2 : decode cX4_file 2 = .ok (.putfield 109, 3) := dk_181 0 109 (dk_at dksX4_file_0 2 rfl rfl)
theorem dX4_file_5 : decode cX4_file 5 = .ok (.iload_n 1, 1) := dk_27 (dk_at dksX4_file_0 5 rfl rfl)
theorem dX4_file_6 : decode cX4_file 6 = .ok (.iconst (-1), 1) := dk_2 (dk_at dksX4_file_0 6 rfl rfl)
theorem dX4_file_7 : decode cX4_file 7 = .ok (.if_icmp .eq 17, 3) := dk_159 0 17 (dk_at dksX4_file_0 7 rfl rfl)
theorem dX4_file_10 : decode cX4_file 10 = .ok (.aload_n 0, 1) := dk_42 (dk_at dksX4_file_0 10 rfl rfl)
theorem dX4_file_11 : decode cX4_file 11 = .ok (.iload_n 1, 1) := dk_27 (dk_at dksX4_file_0 11 rfl rfl)
theorem dX4_file_12 : decode cX4_file 12 = .ok (.invokevirtual 267, 3) := dk_182 1 11 (dk_at dksX4_file_0 12 rfl rfl)
theorem dX4_file_15 : decode cX4_file 15 = .ok (.ifCond .ne 9, 3) := dk_154 0 9 (dk_at dksX4_file_0 15 rfl rfl)
theorem dX4_file_18 : decode cX4_file 18 = .ok (.aload_n 0, 1) := dk_42 (dk_at dksX4_file_0 18 rfl rfl)
theorem dX4_file_19 : decode cX4_file 19 = .ok (.iconst 1, 1) := dk_4 (dk_at dksX4_file_0 19 rfl rfl)
theorem dX4_file_20 : decode cX4_file 20 = .ok (.invokevirtual 239, 3) := dk_182 0 239 (dk_at dksX4_file_0 20 rfl rfl)
theorem dX4_file_23 : decode cX4_file 23 = .ok (.ireturn, 1) := dk_172 (dk_at dksX4_file_0 23 rfl rfl)
theorem dX4_file_24 : decode cX4_file 24 = .ok (.aload_n 0, 1) := dk_42 (dk_at dksX4_file_1 0 rfl rfl)
theorem dX4_file_25 : decode cX4_file 25 = .ok (.iload_n 2, 1) := dk_28 (dk_at dksX4_file_1 1 rfl rfl)
theorem dX4_file_26 : decode cX4_file 26 = .ok (.invokevirtual 242, 3) := dk_182 0 242 (dk_at dksX4_file_1 2 rfl rfl)
theorem dX4_file_29 : decode cX4_file 29 = .ok (.ifCond .ne 9, 3) := dk_154 0 9 (dk_at dksX4_file_1 5 rfl rfl)
theorem dX4_file_32 : decode cX4_file 32 = .ok (.aload_n 0, 1) := dk_42 (dk_at dksX4_file_1 8 rfl rfl)
theorem dX4_file_33 : decode cX4_file 33 = .ok (.iconst 2, 1) := dk_5 (dk_at dksX4_file_1 9 rfl rfl)
theorem dX4_file_34 : decode cX4_file 34 = .ok (.invokevirtual 239, 3) := dk_182 0 239 (dk_at dksX4_file_1 10 rfl rfl)
theorem dX4_file_37 : decode cX4_file 37 = .ok (.ireturn, 1) := dk_172 (dk_at dksX4_file_1 13 rfl rfl)
theorem dX4_file_38 : decode cX4_file 38 = .ok (.aload_n 0, 1) := dk_42 (dk_at dksX4_file_1 14 rfl rfl)
theorem dX4_file_39 : decode cX4_file 39 = .ok (.iconst 0, 1) := dk_3 (dk_at dksX4_file_1 15 rfl rfl)
theorem dX4_file_40 : decode cX4_file 40 = .ok (.putfield 217, 3) := dk_181 0 217 (dk_at dksX4_file_1 16 rfl rfl)
theorem dX4_file_43 : decode cX4_file 43 = .ok (.new 21, 3) := dk_187 0 21 (dk_at dksX4_file_1 19 rfl rfl)
theorem dX4_file_46 : decode cX4_file 46 = .ok (.dup, 1) := dk_89 (dk_at dksX4_file_1 22 rfl rfl)
theorem dX4_file_47 : decode cX4_file 47 = .ok (.invokespecial 95, 3) := dk_183 0 95 (dk_at dksX4_file_2 0 rfl rfl)
theorem dX4_file_50 : decode cX4_file 50 = .ok (.astore_n 3, 1) := dk_78 (dk_at dksX4_file_2 3 rfl rfl)
theorem dX4_file_51 : decode cX4_file 51 = .ok (.aload_n 0, 1) := dk_42 (dk_at dksX4_file_2 4 rfl rfl)
theorem dX4_file_52 : decode cX4_file 52 = .ok (.aload_n 3, 1) := dk_45 (dk_at dksX4_file_2 5 rfl rfl)
theorem dX4_file_53 : decode cX4_file 53 = .ok (.iload_n 2, 1) := dk_28 (dk_at dksX4_file_2 6 rfl rfl)
theorem dX4_file_54 : decode cX4_file 54 = .ok (.bipush 8, 2) := dk_16 8 (dk_at dksX4_file_2 7 rfl rfl)
theorem dX4_file_56 : decode cX4_file 56 = .ok (.bipush 10, 2) := dk_16 10 (dk_at dksX4_file_2 9 rfl rfl)
theorem dX4_file_58 : decode cX4_file 58 = .ok (.invokevirtual 259, 3) := dk_182 1 3 (dk_at dksX4_file_2 11 rfl rfl)
theorem dX4_file_61 : decode cX4_file 61 = .ok (.goto 12, 3) := dk_167 0 12 (dk_at dksX4_file_2 14 rfl rfl)
theorem dX4_file_64 : decode cX4_file 64 = .ok (.astore 4, 2) := dk_58 4 (dk_at dksX4_file_2 17 rfl rfl)
theorem dX4_file_66 : decode cX4_file 66 = .ok (.aload_n 0, 1) := dk_42 (dk_at dksX4_file_2 19 rfl rfl)
theorem dX4_file_67 : decode cX4_file 67 = .ok (.aload 4, 2) := dk_25 4 (dk_at dksX4_file_2 20 rfl rfl)
theorem dX4_file_69 : decode cX4_file 69 = .ok (.invokevirtual 263, 3) := dk_182 1 7 (dk_at dksX4_file_3 0 rfl rfl)
theorem dX4_file_72 : decode cX4_file 72 = .ok (.ireturn, 1) := dk_172 (dk_at dksX4_file_3 3 rfl rfl)
theorem dX4_file_73 : decode cX4_file 73 = .ok (.aload_n 0, 1) := dk_42 (dk_at dksX4_file_3 4 rfl rfl)
theorem dX4_file_74 : decode cX4_file 74 = .ok (.getfield 130, 3) := dk_180 0 130 (dk_at dksX4_file_3 5 rfl rfl)
theorem dX4_file_77 : decode cX4_file 77 = .ok (.bipush 8, 2) := dk_16 8 (dk_at dksX4_file_3 8 rfl rfl)
theorem dX4_file_79 : decode cX4_file 79 = .ok (.if_icmp .ne 9, 3) := dk_160 0 9 (dk_at dksX4_file_3 10 rfl rfl)
theorem dX4_file_82 : decode cX4_file 82 = .ok (.aload_n 0, 1) := dk_42 (dk_at dksX4_file_3 13 rfl rfl)
theorem dX4_file_83 : decode cX4_file 83 = .ok (.iconst 3, 1) := dk_6 (dk_at dksX4_file_3 14 rfl rfl)
theorem dX4_file_84 : decode cX4_file 84 = .ok (.invokevirtual 239, 3) := dk_182 0 239 (dk_at dksX4_file_3 15 rfl rfl)
theorem dX4_file_87 : decode cX4_file 87 = .ok (.ireturn, 1) := dk_172 (dk_at dksX4_file_3 18 rfl rfl)
theorem dX4_file_88 : decode cX4_file 88 = .ok (.aload_n 0, 1) := dk_42 (dk_at dksX4_file_3 19 rfl rfl)
theorem dX4_file_89 : decode cX4_file 89 = .ok (.getfield 27, 3) := dk_180 0 27 (dk_at dksX4_file_3 20 rfl rfl)
theorem dX4_file_92 : decode cX4_file 92 = .ok (.aload_n 0, 1) := dk_42 (dk_at dksX4_file_3 23 rfl rfl)
theorem dX4_file_93 : decode cX4_file 93 = .ok (.getfield 130, 3) := dk_180 0 130 (dk_at dksX4_file_4 0 rfl rfl)
theorem dX4_file_96 : decode cX4_file 96 = .ok (.aload_n 3, 1) := dk_45 (dk_at dksX4_file_4 3 rfl rfl)
theorem dX4_file_97 : decode cX4_file 97 = .ok (.aastore, 1) := dk_83 (dk_at dksX4_file_4 4 rfl rfl)
theorem dX4_file_98 : decode cX4_file 98 = .ok (.aload_n 0, 1) := dk_42 (dk_at dksX4_file_4 5 rfl rfl)
theorem dX4_file_99 : decode cX4_file 99 = .ok (.getfield 45, 3) := dk_180 0 45 (dk_at dksX4_file_4 6 rfl rfl)
theorem dX4_file_102 : decode cX4_file 102 = .ok (.aload_n 0, 1) := dk_42 (dk_at dksX4_file_4 9 rfl rfl)
theorem dX4_file_103 : decode cX4_file 103 = .ok (.getfield 130, 3) := dk_180 0 130 (dk_at dksX4_file_4 10 rfl rfl)
theorem dX4_file_106 : decode cX4_file 106 = .ok (.aload_n 0, 1) := dk_42 (dk_at dksX4_file_4 13 rfl rfl)
theorem dX4_file_107 : decode cX4_file 107 = .ok (.getfield 121, 3) := dk_180 0 121 (dk_at dksX4_file_4 14 rfl rfl)
theorem dX4_file_110 : decode cX4_file 110 = .ok (.iastore, 1) := dk_79 (dk_at dksX4_file_4 17 rfl rfl)
theorem dX4_file_111 : decode cX4_file 111 = .ok (.aload_n 0, 1) := dk_42 (dk_at dksX4_file_4 18 rfl rfl)
theorem dX4_file_112 : decode cX4_file 112 = .ok (.getfield 48, 3) := dk_180 0 48 (dk_at dksX4_file_4 19 rfl rfl)
theorem dX4_file_115 : decode cX4_file 115 = .ok (.aload_n 0, 1) := dk_42 (dk_at dksX4_file_4 22 rfl rfl)
theorem dX4_file_116 : decode cX4_file 116 = .ok (.getfield 130, 3) := dk_180 0 130 (dk_at dksX4_file_5 0 rfl rfl)
theorem dX4_file_119 : decode cX4_file 119 = .ok (.iload_n 1, 1) := dk_27 (dk_at dksX4_file_5 3 rfl rfl)
theorem dX4_file_120 : decode cX4_file 120 = .ok (.iastore, 1) := dk_79 (dk_at dksX4_file_5 4 rfl rfl)
theorem dX4_file_121 : decode cX4_file 121 = .ok (.aload_n 0, 1) := dk_42 (dk_at dksX4_file_5 5 rfl rfl)
theorem dX4_file_122 : decode cX4_file 122 = .ok (.iconst 4, 1) := dk_7 (dk_at dksX4_file_5 6 rfl rfl)
theorem dX4_file_123 : decode cX4_file 123 = .ok (.iconst 0, 1) := dk_3 (dk_at dksX4_file_5 7 rfl rfl)
theorem dX4_file_124 : decode cX4_file 124 = .ok (.aconst_null, 1) := dk_1 (dk_at dksX4_file_5 8 rfl rfl)
theorem dX4_file_125 : decode cX4_file 125 = .ok (.invokevirtual 245, 3) := dk_182 0 245 (dk_at dksX4_file_5 9 rfl rfl)
theorem dX4_file_128 : decode cX4_file 128 = .ok (.aload_n 0, 1) := dk_42 (dk_at dksX4_file_5 12 rfl rfl)
theorem dX4_file_129 : decode cX4_file 129 = .ok (.dup, 1) := dk_89 (dk_at dksX4_file_5 13 rfl rfl)
theorem dX4_file_130 : decode cX4_file 130 = .ok (.getfield 130, 3) := dk_180 0 130 (dk_at dksX4_file_5 14 rfl rfl)
theorem dX4_file_133 : decode cX4_file 133 = .ok (.iconst 1, 1) := dk_4 (dk_at dksX4_file_5 17 rfl rfl)
theorem dX4_file_134 : decode cX4_file 134 = .ok (.iadd, 1) := dk_96 (dk_at dksX4_file_5 18 rfl rfl)
theorem dX4_file_135 : decode cX4_file 135 = .ok (.putfield 130, 3) := dk_181 0 130 (dk_at dksX4_file_5 19 rfl rfl)
theorem dX4_file_138 : decode cX4_file 138 = .ok (.aload_n 0, 1) := dk_42 (dk_at dksX4_file_5 22 rfl rfl)
theorem dX4_file_139 : decode cX4_file 139 = .ok (.aload_n 0, 1) := dk_42 (dk_at dksX4_file_5 23 rfl rfl)
theorem dX4_file_140 : decode cX4_file 140 = .ok (.getfield 130, 3) := dk_180 0 130 (dk_at dksX4_file_6 0 rfl rfl)
theorem dX4_file_143 : decode cX4_file 143 = .ok (.iconst 1, 1) := dk_4 (dk_at dksX4_file_6 3 rfl rfl)
theorem dX4_file_144 : decode cX4_file 144 = .ok (.isub, 1) := dk_100 (dk_at dksX4_file_6 4 rfl rfl)
theorem dX4_file_145 : decode cX4_file 145 = .ok (.invokevirtual 249, 3) := dk_182 0 249 (dk_at dksX4_file_6 5 rfl rfl)
theorem dX4_file_148 : decode cX4_file 148 = .ok (.ireturn, 1) := dk_172 (dk_at dksX4_file_6 8 rfl rfl)
abbrev cX4_isFile : ByteArray := prog_22_method_34_code
def yX4_isFile : MethodName := ⟨RX4, "isFile", "(I)Z"⟩
def dkwX4_isFile_0 : List UInt8 := [27, 155, 0, 15, 27, 42, 180, 0, 130, 162, 0, 7, 4, 167, 0, 4, 3, 172]
abbrev dktX4_isFile_0 : List UInt8 := dkwX4_isFile_0 ++ []
theorem dksX4_isFile_0 : cX4_isFile.data.toList.drop 0 = dktX4_isFile_0 := by decide +kernel
theorem dX4_isFile_0 : decode cX4_isFile 0 = .ok (.iload_n 1, 1) := dk_27 (dk_at dksX4_isFile_0 0 rfl rfl)
theorem dX4_isFile_1 : decode cX4_isFile 1 = .ok (.ifCond .lt 15, 3) := dk_155 0 15 (dk_at dksX4_isFile_0 1 rfl rfl)
theorem dX4_isFile_4 : decode cX4_isFile 4 = .ok (.iload_n 1, 1) := dk_27 (dk_at dksX4_isFile_0 4 rfl rfl)
theorem dX4_isFile_5 : decode cX4_isFile 5 = .ok (.aload_n 0, 1) := dk_42 (dk_at dksX4_isFile_0 5 rfl rfl)
theorem dX4_isFile_6 : decode cX4_isFile 6 = .ok (.getfield 130, 3) := dk_180 0 130 (dk_at dksX4_isFile_0 6 rfl rfl)
theorem dX4_isFile_9 : decode cX4_isFile 9 = .ok (.if_icmp .ge 7, 3) := dk_162 0 7 (dk_at dksX4_isFile_0 9 rfl rfl)
theorem dX4_isFile_12 : decode cX4_isFile 12 = .ok (.iconst 1, 1) := dk_4 (dk_at dksX4_isFile_0 12 rfl rfl)
theorem dX4_isFile_13 : decode cX4_isFile 13 = .ok (.goto 4, 3) := dk_167 0 4 (dk_at dksX4_isFile_0 13 rfl rfl)
theorem dX4_isFile_16 : decode cX4_isFile 16 = .ok (.iconst 0, 1) := dk_3 (dk_at dksX4_isFile_0 16 rfl rfl)
theorem dX4_isFile_17 : decode cX4_isFile 17 = .ok (.ireturn, 1) := dk_172 (dk_at dksX4_isFile_0 17 rfl rfl)
abbrev cX4_claim : ByteArray := prog_22_method_37_code
def yX4_claim : MethodName := ⟨RX4, "claim", "(III)I"⟩
def dkwX4_claim_9 : List UInt8 := [182, 0, 245, 42, 89, 180, 0, 133, 4, 96, 181, 0, 133, 42, 42, 180, 0, 133, 4, 100, 182, 0, 249, 172]
abbrev dktX4_claim_9 : List UInt8 := dkwX4_claim_9 ++ []
def dkwX4_claim_8 : List UInt8 := [42, 180, 0, 60, 42, 180, 0, 133, 2, 79, 42, 180, 0, 63, 42, 180, 0, 133, 2, 79, 42, 8, 3, 1]
abbrev dktX4_claim_8 : List UInt8 := dkwX4_claim_8 ++ dktX4_claim_9
def dkwX4_claim_7 : List UInt8 := [79, 42, 180, 0, 54, 42, 180, 0, 133, 28, 79, 42, 180, 0, 57, 42, 180, 0, 133, 42, 180, 0, 121, 79]
abbrev dktX4_claim_7 : List UInt8 := dkwX4_claim_7 ++ dktX4_claim_8
def dkwX4_claim_6 : List UInt8 := [182, 0, 239, 172, 42, 180, 0, 33, 42, 180, 0, 133, 25, 4, 83, 42, 180, 0, 51, 42, 180, 0, 133, 27]
abbrev dktX4_claim_6 : List UInt8 := dkwX4_claim_6 ++ dktX4_claim_7
def dkwX4_claim_5 : List UInt8 := [182, 1, 21, 154, 0, 9, 42, 8, 182, 0, 239, 172, 42, 180, 0, 133, 16, 40, 160, 0, 9, 42, 6]
abbrev dktX4_claim_5 : List UInt8 := dkwX4_claim_5 ++ dktX4_claim_6
def dkwX4_claim_4 : List UInt8 := [182, 1, 3, 167, 0, 12, 58, 5, 42, 25, 5, 182, 1, 7, 172, 42, 42, 180, 0, 27, 27, 50, 25, 4]
abbrev dktX4_claim_4 : List UInt8 := dkwX4_claim_4 ++ dktX4_claim_5
def dkwX4_claim_3 : List UInt8 := [2, 159, 0, 14, 25, 4, 42, 180, 0, 33, 28, 50, 182, 1, 17, 42, 25, 4, 29, 16, 6, 16, 8]
abbrev dktX4_claim_3 : List UInt8 := dkwX4_claim_3 ++ dktX4_claim_4
def dkwX4_claim_2 : List UInt8 := [154, 0, 9, 42, 5, 182, 0, 239, 172, 42, 3, 181, 0, 217, 187, 0, 21, 89, 183, 0, 95, 58, 4, 28]
abbrev dktX4_claim_2 : List UInt8 := dkwX4_claim_2 ++ dktX4_claim_3
def dkwX4_claim_1 : List UInt8 := [153, 0, 13, 42, 180, 0, 51, 28, 46, 27, 159, 0, 9, 42, 4, 182, 0, 239, 172, 42, 29, 182, 0, 242]
abbrev dktX4_claim_1 : List UInt8 := dkwX4_claim_1 ++ dktX4_claim_2
def dkwX4_claim_0 : List UInt8 := [42, 3, 181, 0, 109, 42, 27, 182, 1, 11, 153, 0, 26, 28, 2, 159, 0, 27, 42, 28, 182, 1, 14]
abbrev dktX4_claim_0 : List UInt8 := dkwX4_claim_0 ++ dktX4_claim_1
theorem dksX4_claim_0 : cX4_claim.data.toList.drop 0 = dktX4_claim_0 := by decide +kernel
theorem dksX4_claim_1 : cX4_claim.data.toList.drop 23 = dktX4_claim_1 := dk_seg dksX4_claim_0 23 rfl rfl
theorem dksX4_claim_2 : cX4_claim.data.toList.drop 47 = dktX4_claim_2 := dk_seg dksX4_claim_1 24 rfl rfl
theorem dksX4_claim_3 : cX4_claim.data.toList.drop 71 = dktX4_claim_3 := dk_seg dksX4_claim_2 24 rfl rfl
theorem dksX4_claim_4 : cX4_claim.data.toList.drop 94 = dktX4_claim_4 := dk_seg dksX4_claim_3 23 rfl rfl
theorem dksX4_claim_5 : cX4_claim.data.toList.drop 118 = dktX4_claim_5 := dk_seg dksX4_claim_4 24 rfl rfl
theorem dksX4_claim_6 : cX4_claim.data.toList.drop 141 = dktX4_claim_6 := dk_seg dksX4_claim_5 23 rfl rfl
theorem dksX4_claim_7 : cX4_claim.data.toList.drop 165 = dktX4_claim_7 := dk_seg dksX4_claim_6 24 rfl rfl
theorem dksX4_claim_8 : cX4_claim.data.toList.drop 189 = dktX4_claim_8 := dk_seg dksX4_claim_7 24 rfl rfl
theorem dksX4_claim_9 : cX4_claim.data.toList.drop 213 = dktX4_claim_9 := dk_seg dksX4_claim_8 24 rfl rfl
theorem dX4_claim_0 : decode cX4_claim 0 = .ok (.aload_n 0, 1) := dk_42 (dk_at dksX4_claim_0 0 rfl rfl)
theorem dX4_claim_1 : decode cX4_claim 1 = .ok (.iconst 0, 1) := dk_3 (dk_at dksX4_claim_0 1 rfl rfl)
theorem dX4_claim_2 : decode cX4_claim 2 = .ok (.putfield 109, 3) := dk_181 0 109 (dk_at dksX4_claim_0 2 rfl rfl)
theorem dX4_claim_5 : decode cX4_claim 5 = .ok (.aload_n 0, 1) := dk_42 (dk_at dksX4_claim_0 5 rfl rfl)
theorem dX4_claim_6 : decode cX4_claim 6 = .ok (.iload_n 1, 1) := dk_27 (dk_at dksX4_claim_0 6 rfl rfl)
theorem dX4_claim_7 : decode cX4_claim 7 = .ok (.invokevirtual 267, 3) := dk_182 1 11 (dk_at dksX4_claim_0 7 rfl rfl)
theorem dX4_claim_10 : decode cX4_claim 10 = .ok (.ifCond .eq 26, 3) := dk_153 0 26 (dk_at dksX4_claim_0 10 rfl rfl)
theorem dX4_claim_13 : decode cX4_claim 13 = .ok (.iload_n 2, 1) := dk_28 (dk_at dksX4_claim_0 13 rfl rfl)
theorem dX4_claim_14 : decode cX4_claim 14 = .ok (.iconst (-1), 1) := dk_2 (dk_at dksX4_claim_0 14 rfl rfl)
theorem dX4_claim_15 : decode cX4_claim 15 = .ok (.if_icmp .eq 27, 3) := dk_159 0 27 (dk_at dksX4_claim_0 15 rfl rfl)
theorem dX4_claim_18 : decode cX4_claim 18 = .ok (.aload_n 0, 1) := dk_42 (dk_at dksX4_claim_0 18 rfl rfl)
theorem dX4_claim_19 : decode cX4_claim 19 = .ok (.iload_n 2, 1) := dk_28 (dk_at dksX4_claim_0 19 rfl rfl)
theorem dX4_claim_20 : decode cX4_claim 20 = .ok (.invokevirtual 270, 3) := dk_182 1 14 (dk_at dksX4_claim_0 20 rfl rfl)
theorem dX4_claim_23 : decode cX4_claim 23 = .ok (.ifCond .eq 13, 3) := dk_153 0 13 (dk_at dksX4_claim_1 0 rfl rfl)
theorem dX4_claim_26 : decode cX4_claim 26 = .ok (.aload_n 0, 1) := dk_42 (dk_at dksX4_claim_1 3 rfl rfl)
theorem dX4_claim_27 : decode cX4_claim 27 = .ok (.getfield 51, 3) := dk_180 0 51 (dk_at dksX4_claim_1 4 rfl rfl)
theorem dX4_claim_30 : decode cX4_claim 30 = .ok (.iload_n 2, 1) := dk_28 (dk_at dksX4_claim_1 7 rfl rfl)
theorem dX4_claim_31 : decode cX4_claim 31 = .ok (.iaload, 1) := dk_46 (dk_at dksX4_claim_1 8 rfl rfl)
theorem dX4_claim_32 : decode cX4_claim 32 = .ok (.iload_n 1, 1) := dk_27 (dk_at dksX4_claim_1 9 rfl rfl)
theorem dX4_claim_33 : decode cX4_claim 33 = .ok (.if_icmp .eq 9, 3) := dk_159 0 9 (dk_at dksX4_claim_1 10 rfl rfl)
theorem dX4_claim_36 : decode cX4_claim 36 = .ok (.aload_n 0, 1) := dk_42 (dk_at dksX4_claim_1 13 rfl rfl)
theorem dX4_claim_37 : decode cX4_claim 37 = .ok (.iconst 1, 1) := dk_4 (dk_at dksX4_claim_1 14 rfl rfl)
theorem dX4_claim_38 : decode cX4_claim 38 = .ok (.invokevirtual 239, 3) := dk_182 0 239 (dk_at dksX4_claim_1 15 rfl rfl)
theorem dX4_claim_41 : decode cX4_claim 41 = .ok (.ireturn, 1) := dk_172 (dk_at dksX4_claim_1 18 rfl rfl)
theorem dX4_claim_42 : decode cX4_claim 42 = .ok (.aload_n 0, 1) := dk_42 (dk_at dksX4_claim_1 19 rfl rfl)
theorem dX4_claim_43 : decode cX4_claim 43 = .ok (.iload_n 3, 1) := dk_29 (dk_at dksX4_claim_1 20 rfl rfl)
theorem dX4_claim_44 : decode cX4_claim 44 = .ok (.invokevirtual 242, 3) := dk_182 0 242 (dk_at dksX4_claim_1 21 rfl rfl)
theorem dX4_claim_47 : decode cX4_claim 47 = .ok (.ifCond .ne 9, 3) := dk_154 0 9 (dk_at dksX4_claim_2 0 rfl rfl)
theorem dX4_claim_50 : decode cX4_claim 50 = .ok (.aload_n 0, 1) := dk_42 (dk_at dksX4_claim_2 3 rfl rfl)
theorem dX4_claim_51 : decode cX4_claim 51 = .ok (.iconst 2, 1) := dk_5 (dk_at dksX4_claim_2 4 rfl rfl)
theorem dX4_claim_52 : decode cX4_claim 52 = .ok (.invokevirtual 239, 3) := dk_182 0 239 (dk_at dksX4_claim_2 5 rfl rfl)
theorem dX4_claim_55 : decode cX4_claim 55 = .ok (.ireturn, 1) := dk_172 (dk_at dksX4_claim_2 8 rfl rfl)
theorem dX4_claim_56 : decode cX4_claim 56 = .ok (.aload_n 0, 1) := dk_42 (dk_at dksX4_claim_2 9 rfl rfl)
theorem dX4_claim_57 : decode cX4_claim 57 = .ok (.iconst 0, 1) := dk_3 (dk_at dksX4_claim_2 10 rfl rfl)
theorem dX4_claim_58 : decode cX4_claim 58 = .ok (.putfield 217, 3) := dk_181 0 217 (dk_at dksX4_claim_2 11 rfl rfl)
theorem dX4_claim_61 : decode cX4_claim 61 = .ok (.new 21, 3) := dk_187 0 21 (dk_at dksX4_claim_2 14 rfl rfl)
theorem dX4_claim_64 : decode cX4_claim 64 = .ok (.dup, 1) := dk_89 (dk_at dksX4_claim_2 17 rfl rfl)
theorem dX4_claim_65 : decode cX4_claim 65 = .ok (.invokespecial 95, 3) := dk_183 0 95 (dk_at dksX4_claim_2 18 rfl rfl)
theorem dX4_claim_68 : decode cX4_claim 68 = .ok (.astore 4, 2) := dk_58 4 (dk_at dksX4_claim_2 21 rfl rfl)
theorem dX4_claim_70 : decode cX4_claim 70 = .ok (.iload_n 2, 1) := dk_28 (dk_at dksX4_claim_2 23 rfl rfl)
theorem dX4_claim_71 : decode cX4_claim 71 = .ok (.iconst (-1), 1) := dk_2 (dk_at dksX4_claim_3 0 rfl rfl)
theorem dX4_claim_72 : decode cX4_claim 72 = .ok (.if_icmp .eq 14, 3) := dk_159 0 14 (dk_at dksX4_claim_3 1 rfl rfl)
theorem dX4_claim_75 : decode cX4_claim 75 = .ok (.aload 4, 2) := dk_25 4 (dk_at dksX4_claim_3 4 rfl rfl)
theorem dX4_claim_77 : decode cX4_claim 77 = .ok (.aload_n 0, 1) := dk_42 (dk_at dksX4_claim_3 6 rfl rfl)
theorem dX4_claim_78 : decode cX4_claim 78 = .ok (.getfield 33, 3) := dk_180 0 33 (dk_at dksX4_claim_3 7 rfl rfl)
theorem dX4_claim_81 : decode cX4_claim 81 = .ok (.iload_n 2, 1) := dk_28 (dk_at dksX4_claim_3 10 rfl rfl)
theorem dX4_claim_82 : decode cX4_claim 82 = .ok (.aaload, 1) := dk_50 (dk_at dksX4_claim_3 11 rfl rfl)
theorem dX4_claim_83 : decode cX4_claim 83 = .ok (.invokevirtual 273, 3) := dk_182 1 17 (dk_at dksX4_claim_3 12 rfl rfl)
theorem dX4_claim_86 : decode cX4_claim 86 = .ok (.aload_n 0, 1) := dk_42 (dk_at dksX4_claim_3 15 rfl rfl)
theorem dX4_claim_87 : decode cX4_claim 87 = .ok (.aload 4, 2) := dk_25 4 (dk_at dksX4_claim_3 16 rfl rfl)
theorem dX4_claim_89 : decode cX4_claim 89 = .ok (.iload_n 3, 1) := dk_29 (dk_at dksX4_claim_3 18 rfl rfl)
theorem dX4_claim_90 : decode cX4_claim 90 = .ok (.bipush 6, 2) := dk_16 6 (dk_at dksX4_claim_3 19 rfl rfl)
theorem dX4_claim_92 : decode cX4_claim 92 = .ok (.bipush 8, 2) := dk_16 8 (dk_at dksX4_claim_3 21 rfl rfl)
theorem dX4_claim_94 : decode cX4_claim 94 = .ok (.invokevirtual 259, 3) := dk_182 1 3 (dk_at dksX4_claim_4 0 rfl rfl)
theorem dX4_claim_97 : decode cX4_claim 97 = .ok (.goto 12, 3) := dk_167 0 12 (dk_at dksX4_claim_4 3 rfl rfl)
theorem dX4_claim_100 : decode cX4_claim 100 = .ok (.astore 5, 2) := dk_58 5 (dk_at dksX4_claim_4 6 rfl rfl)
theorem dX4_claim_102 : decode cX4_claim 102 = .ok (.aload_n 0, 1) := dk_42 (dk_at dksX4_claim_4 8 rfl rfl)
theorem dX4_claim_103 : decode cX4_claim 103 = .ok (.aload 5, 2) := dk_25 5 (dk_at dksX4_claim_4 9 rfl rfl)
theorem dX4_claim_105 : decode cX4_claim 105 = .ok (.invokevirtual 263, 3) := dk_182 1 7 (dk_at dksX4_claim_4 11 rfl rfl)
theorem dX4_claim_108 : decode cX4_claim 108 = .ok (.ireturn, 1) := dk_172 (dk_at dksX4_claim_4 14 rfl rfl)
theorem dX4_claim_109 : decode cX4_claim 109 = .ok (.aload_n 0, 1) := dk_42 (dk_at dksX4_claim_4 15 rfl rfl)
theorem dX4_claim_110 : decode cX4_claim 110 = .ok (.aload_n 0, 1) := dk_42 (dk_at dksX4_claim_4 16 rfl rfl)
theorem dX4_claim_111 : decode cX4_claim 111 = .ok (.getfield 27, 3) := dk_180 0 27 (dk_at dksX4_claim_4 17 rfl rfl)
theorem dX4_claim_114 : decode cX4_claim 114 = .ok (.iload_n 1, 1) := dk_27 (dk_at dksX4_claim_4 20 rfl rfl)
theorem dX4_claim_115 : decode cX4_claim 115 = .ok (.aaload, 1) := dk_50 (dk_at dksX4_claim_4 21 rfl rfl)
theorem dX4_claim_116 : decode cX4_claim 116 = .ok (.aload 4, 2) := dk_25 4 (dk_at dksX4_claim_4 22 rfl rfl)
theorem dX4_claim_118 : decode cX4_claim 118 = .ok (.invokevirtual 277, 3) := dk_182 1 21 (dk_at dksX4_claim_5 0 rfl rfl)
theorem dX4_claim_121 : decode cX4_claim 121 = .ok (.ifCond .ne 9, 3) := dk_154 0 9 (dk_at dksX4_claim_5 3 rfl rfl)
theorem dX4_claim_124 : decode cX4_claim 124 = .ok (.aload_n 0, 1) := dk_42 (dk_at dksX4_claim_5 6 rfl rfl)
theorem dX4_claim_125 : decode cX4_claim 125 = .ok (.iconst 5, 1) := dk_8 (dk_at dksX4_claim_5 7 rfl rfl)
theorem dX4_claim_126 : decode cX4_claim 126 = .ok (.invokevirtual 239, 3) := dk_182 0 239 (dk_at dksX4_claim_5 8 rfl rfl)
theorem dX4_claim_129 : decode cX4_claim 129 = .ok (.ireturn, 1) := dk_172 (dk_at dksX4_claim_5 11 rfl rfl)
theorem dX4_claim_130 : decode cX4_claim 130 = .ok (.aload_n 0, 1) := dk_42 (dk_at dksX4_claim_5 12 rfl rfl)
theorem dX4_claim_131 : decode cX4_claim 131 = .ok (.getfield 133, 3) := dk_180 0 133 (dk_at dksX4_claim_5 13 rfl rfl)
theorem dX4_claim_134 : decode cX4_claim 134 = .ok (.bipush 40, 2) := dk_16 40 (dk_at dksX4_claim_5 16 rfl rfl)
theorem dX4_claim_136 : decode cX4_claim 136 = .ok (.if_icmp .ne 9, 3) := dk_160 0 9 (dk_at dksX4_claim_5 18 rfl rfl)
theorem dX4_claim_139 : decode cX4_claim 139 = .ok (.aload_n 0, 1) := dk_42 (dk_at dksX4_claim_5 21 rfl rfl)
theorem dX4_claim_140 : decode cX4_claim 140 = .ok (.iconst 3, 1) := dk_6 (dk_at dksX4_claim_5 22 rfl rfl)
theorem dX4_claim_141 : decode cX4_claim 141 = .ok (.invokevirtual 239, 3) := dk_182 0 239 (dk_at dksX4_claim_6 0 rfl rfl)
theorem dX4_claim_144 : decode cX4_claim 144 = .ok (.ireturn, 1) := dk_172 (dk_at dksX4_claim_6 3 rfl rfl)
theorem dX4_claim_145 : decode cX4_claim 145 = .ok (.aload_n 0, 1) := dk_42 (dk_at dksX4_claim_6 4 rfl rfl)
theorem dX4_claim_146 : decode cX4_claim 146 = .ok (.getfield 33, 3) := dk_180 0 33 (dk_at dksX4_claim_6 5 rfl rfl)
theorem dX4_claim_149 : decode cX4_claim 149 = .ok (.aload_n 0, 1) := dk_42 (dk_at dksX4_claim_6 8 rfl rfl)
theorem dX4_claim_150 : decode cX4_claim 150 = .ok (.getfield 133, 3) := dk_180 0 133 (dk_at dksX4_claim_6 9 rfl rfl)
theorem dX4_claim_153 : decode cX4_claim 153 = .ok (.aload 4, 2) := dk_25 4 (dk_at dksX4_claim_6 12 rfl rfl)
theorem dX4_claim_155 : decode cX4_claim 155 = .ok (.aastore, 1) := dk_83 (dk_at dksX4_claim_6 14 rfl rfl)
theorem dX4_claim_156 : decode cX4_claim 156 = .ok (.aload_n 0, 1) := dk_42 (dk_at dksX4_claim_6 15 rfl rfl)
theorem dX4_claim_157 : decode cX4_claim 157 = .ok (.getfield 51, 3) := dk_180 0 51 (dk_at dksX4_claim_6 16 rfl rfl)
theorem dX4_claim_160 : decode cX4_claim 160 = .ok (.aload_n 0, 1) := dk_42 (dk_at dksX4_claim_6 19 rfl rfl)
theorem dX4_claim_161 : decode cX4_claim 161 = .ok (.getfield 133, 3) := dk_180 0 133 (dk_at dksX4_claim_6 20 rfl rfl)
theorem dX4_claim_164 : decode cX4_claim 164 = .ok (.iload_n 1, 1) := dk_27 (dk_at dksX4_claim_6 23 rfl rfl)
theorem dX4_claim_165 : decode cX4_claim 165 = .ok (.iastore, 1) := dk_79 (dk_at dksX4_claim_7 0 rfl rfl)
theorem dX4_claim_166 : decode cX4_claim 166 = .ok (.aload_n 0, 1) := dk_42 (dk_at dksX4_claim_7 1 rfl rfl)
theorem dX4_claim_167 : decode cX4_claim 167 = .ok (.getfield 54, 3) := dk_180 0 54 (dk_at dksX4_claim_7 2 rfl rfl)
theorem dX4_claim_170 : decode cX4_claim 170 = .ok (.aload_n 0, 1) := dk_42 (dk_at dksX4_claim_7 5 rfl rfl)
theorem dX4_claim_171 : decode cX4_claim 171 = .ok (.getfield 133, 3) := dk_180 0 133 (dk_at dksX4_claim_7 6 rfl rfl)
theorem dX4_claim_174 : decode cX4_claim 174 = .ok (.iload_n 2, 1) := dk_28 (dk_at dksX4_claim_7 9 rfl rfl)
theorem dX4_claim_175 : decode cX4_claim 175 = .ok (.iastore, 1) := dk_79 (dk_at dksX4_claim_7 10 rfl rfl)
theorem dX4_claim_176 : decode cX4_claim 176 = .ok (.aload_n 0, 1) := dk_42 (dk_at dksX4_claim_7 11 rfl rfl)
theorem dX4_claim_177 : decode cX4_claim 177 = .ok (.getfield 57, 3) := dk_180 0 57 (dk_at dksX4_claim_7 12 rfl rfl)
theorem dX4_claim_180 : decode cX4_claim 180 = .ok (.aload_n 0, 1) := dk_42 (dk_at dksX4_claim_7 15 rfl rfl)
theorem dX4_claim_181 : decode cX4_claim 181 = .ok (.getfield 133, 3) := dk_180 0 133 (dk_at dksX4_claim_7 16 rfl rfl)
theorem dX4_claim_184 : decode cX4_claim 184 = .ok (.aload_n 0, 1) := dk_42 (dk_at dksX4_claim_7 19 rfl rfl)
theorem dX4_claim_185 : decode cX4_claim 185 = .ok (.getfield 121, 3) := dk_180 0 121 (dk_at dksX4_claim_7 20 rfl rfl)
theorem dX4_claim_188 : decode cX4_claim 188 = .ok (.iastore, 1) := dk_79 (dk_at dksX4_claim_7 23 rfl rfl)
theorem dX4_claim_189 : decode cX4_claim 189 = .ok (.aload_n 0, 1) := dk_42 (dk_at dksX4_claim_8 0 rfl rfl)
theorem dX4_claim_190 : decode cX4_claim 190 = .ok (.getfield 60, 3) := dk_180 0 60 (dk_at dksX4_claim_8 1 rfl rfl)
theorem dX4_claim_193 : decode cX4_claim 193 = .ok (.aload_n 0, 1) := dk_42 (dk_at dksX4_claim_8 4 rfl rfl)
theorem dX4_claim_194 : decode cX4_claim 194 = .ok (.getfield 133, 3) := dk_180 0 133 (dk_at dksX4_claim_8 5 rfl rfl)
theorem dX4_claim_197 : decode cX4_claim 197 = .ok (.iconst (-1), 1) := dk_2 (dk_at dksX4_claim_8 8 rfl rfl)
theorem dX4_claim_198 : decode cX4_claim 198 = .ok (.iastore, 1) := dk_79 (dk_at dksX4_claim_8 9 rfl rfl)
theorem dX4_claim_199 : decode cX4_claim 199 = .ok (.aload_n 0, 1) := dk_42 (dk_at dksX4_claim_8 10 rfl rfl)
theorem dX4_claim_200 : decode cX4_claim 200 = .ok (.getfield 63, 3) := dk_180 0 63 (dk_at dksX4_claim_8 11 rfl rfl)
theorem dX4_claim_203 : decode cX4_claim 203 = .ok (.aload_n 0, 1) := dk_42 (dk_at dksX4_claim_8 14 rfl rfl)
theorem dX4_claim_204 : decode cX4_claim 204 = .ok (.getfield 133, 3) := dk_180 0 133 (dk_at dksX4_claim_8 15 rfl rfl)
theorem dX4_claim_207 : decode cX4_claim 207 = .ok (.iconst (-1), 1) := dk_2 (dk_at dksX4_claim_8 18 rfl rfl)
theorem dX4_claim_208 : decode cX4_claim 208 = .ok (.iastore, 1) := dk_79 (dk_at dksX4_claim_8 19 rfl rfl)
theorem dX4_claim_209 : decode cX4_claim 209 = .ok (.aload_n 0, 1) := dk_42 (dk_at dksX4_claim_8 20 rfl rfl)
theorem dX4_claim_210 : decode cX4_claim 210 = .ok (.iconst 5, 1) := dk_8 (dk_at dksX4_claim_8 21 rfl rfl)
theorem dX4_claim_211 : decode cX4_claim 211 = .ok (.iconst 0, 1) := dk_3 (dk_at dksX4_claim_8 22 rfl rfl)
theorem dX4_claim_212 : decode cX4_claim 212 = .ok (.aconst_null, 1) := dk_1 (dk_at dksX4_claim_8 23 rfl rfl)
theorem dX4_claim_213 : decode cX4_claim 213 = .ok (.invokevirtual 245, 3) := dk_182 0 245 (dk_at dksX4_claim_9 0 rfl rfl)
theorem dX4_claim_216 : decode cX4_claim 216 = .ok (.aload_n 0, 1) := dk_42 (dk_at dksX4_claim_9 3 rfl rfl)
theorem dX4_claim_217 : decode cX4_claim 217 = .ok (.dup, 1) := dk_89 (dk_at dksX4_claim_9 4 rfl rfl)
theorem dX4_claim_218 : decode cX4_claim 218 = .ok (.getfield 133, 3) := dk_180 0 133 (dk_at dksX4_claim_9 5 rfl rfl)
theorem dX4_claim_221 : decode cX4_claim 221 = .ok (.iconst 1, 1) := dk_4 (dk_at dksX4_claim_9 8 rfl rfl)
theorem dX4_claim_222 : decode cX4_claim 222 = .ok (.iadd, 1) := dk_96 (dk_at dksX4_claim_9 9 rfl rfl)
theorem dX4_claim_223 : decode cX4_claim 223 = .ok (.putfield 133, 3) := dk_181 0 133 (dk_at dksX4_claim_9 10 rfl rfl)
theorem dX4_claim_226 : decode cX4_claim 226 = .ok (.aload_n 0, 1) := dk_42 (dk_at dksX4_claim_9 13 rfl rfl)
theorem dX4_claim_227 : decode cX4_claim 227 = .ok (.aload_n 0, 1) := dk_42 (dk_at dksX4_claim_9 14 rfl rfl)
theorem dX4_claim_228 : decode cX4_claim 228 = .ok (.getfield 133, 3) := dk_180 0 133 (dk_at dksX4_claim_9 15 rfl rfl)
theorem dX4_claim_231 : decode cX4_claim 231 = .ok (.iconst 1, 1) := dk_4 (dk_at dksX4_claim_9 18 rfl rfl)
theorem dX4_claim_232 : decode cX4_claim 232 = .ok (.isub, 1) := dk_100 (dk_at dksX4_claim_9 19 rfl rfl)
theorem dX4_claim_233 : decode cX4_claim 233 = .ok (.invokevirtual 249, 3) := dk_182 0 249 (dk_at dksX4_claim_9 20 rfl rfl)
theorem dX4_claim_236 : decode cX4_claim 236 = .ok (.ireturn, 1) := dk_172 (dk_at dksX4_claim_9 23 rfl rfl)
abbrev cX4_isClaim : ByteArray := prog_22_method_35_code
def yX4_isClaim : MethodName := ⟨RX4, "isClaim", "(I)Z"⟩
def dkwX4_isClaim_0 : List UInt8 := [27, 155, 0, 15, 27, 42, 180, 0, 133, 162, 0, 7, 4, 167, 0, 4, 3, 172]
abbrev dktX4_isClaim_0 : List UInt8 := dkwX4_isClaim_0 ++ []
theorem dksX4_isClaim_0 : cX4_isClaim.data.toList.drop 0 = dktX4_isClaim_0 := by decide +kernel
theorem dX4_isClaim_0 : decode cX4_isClaim 0 = .ok (.iload_n 1, 1) := dk_27 (dk_at dksX4_isClaim_0 0 rfl rfl)
theorem dX4_isClaim_1 : decode cX4_isClaim 1 = .ok (.ifCond .lt 15, 3) := dk_155 0 15 (dk_at dksX4_isClaim_0 1 rfl rfl)
theorem dX4_isClaim_4 : decode cX4_isClaim 4 = .ok (.iload_n 1, 1) := dk_27 (dk_at dksX4_isClaim_0 4 rfl rfl)
theorem dX4_isClaim_5 : decode cX4_isClaim 5 = .ok (.aload_n 0, 1) := dk_42 (dk_at dksX4_isClaim_0 5 rfl rfl)
theorem dX4_isClaim_6 : decode cX4_isClaim 6 = .ok (.getfield 133, 3) := dk_180 0 133 (dk_at dksX4_isClaim_0 6 rfl rfl)
theorem dX4_isClaim_9 : decode cX4_isClaim 9 = .ok (.if_icmp .ge 7, 3) := dk_162 0 7 (dk_at dksX4_isClaim_0 9 rfl rfl)
theorem dX4_isClaim_12 : decode cX4_isClaim 12 = .ok (.iconst 1, 1) := dk_4 (dk_at dksX4_isClaim_0 12 rfl rfl)
theorem dX4_isClaim_13 : decode cX4_isClaim 13 = .ok (.goto 4, 3) := dk_167 0 4 (dk_at dksX4_isClaim_0 13 rfl rfl)
theorem dX4_isClaim_16 : decode cX4_isClaim 16 = .ok (.iconst 0, 1) := dk_3 (dk_at dksX4_isClaim_0 16 rfl rfl)
theorem dX4_isClaim_17 : decode cX4_isClaim 17 = .ok (.ireturn, 1) := dk_172 (dk_at dksX4_isClaim_0 17 rfl rfl)
abbrev cX4_discloses : ByteArray := prog_22_method_24_code
def yX4_discloses : MethodName := ⟨RX4, "discloses", "(LPatentHallModel$Text;LPatentHallModel$Text;)Z"⟩
def dkwX4_discloses_0 : List UInt8 := [42, 44, 43, 4, 182, 0, 235, 158, 0, 7, 4, 167, 0, 4, 3, 172]
abbrev dktX4_discloses_0 : List UInt8 := dkwX4_discloses_0 ++ []
theorem dksX4_discloses_0 : cX4_discloses.data.toList.drop 0 = dktX4_discloses_0 := by decide +kernel
theorem dX4_discloses_0 : decode cX4_discloses 0 = .ok (.aload_n 0, 1) := dk_42 (dk_at dksX4_discloses_0 0 rfl rfl)
theorem dX4_discloses_1 : decode cX4_discloses 1 = .ok (.aload_n 2, 1) := dk_44 (dk_at dksX4_discloses_0 1 rfl rfl)
theorem dX4_discloses_2 : decode cX4_discloses 2 = .ok (.aload_n 1, 1) := dk_43 (dk_at dksX4_discloses_0 2 rfl rfl)
theorem dX4_discloses_3 : decode cX4_discloses 3 = .ok (.iconst 1, 1) := dk_4 (dk_at dksX4_discloses_0 3 rfl rfl)
theorem dX4_discloses_4 : decode cX4_discloses 4 = .ok (.invokevirtual 235, 3) := dk_182 0 235 (dk_at dksX4_discloses_0 4 rfl rfl)
theorem dX4_discloses_7 : decode cX4_discloses 7 = .ok (.ifCond .le 7, 3) := dk_158 0 7 (dk_at dksX4_discloses_0 7 rfl rfl)
theorem dX4_discloses_10 : decode cX4_discloses 10 = .ok (.iconst 1, 1) := dk_4 (dk_at dksX4_discloses_0 10 rfl rfl)
theorem dX4_discloses_11 : decode cX4_discloses 11 = .ok (.goto 4, 3) := dk_167 0 4 (dk_at dksX4_discloses_0 11 rfl rfl)
theorem dX4_discloses_14 : decode cX4_discloses 14 = .ok (.iconst 0, 1) := dk_3 (dk_at dksX4_discloses_0 14 rfl rfl)
theorem dX4_discloses_15 : decode cX4_discloses 15 = .ok (.ireturn, 1) := dk_172 (dk_at dksX4_discloses_0 15 rfl rfl)
abbrev cX4_waysOf : ByteArray := prog_22_method_23_code
def yX4_waysOf : MethodName := ⟨RX4, "waysOf", "(LPatentHallModel$Text;LPatentHallModel$Text;I)I"⟩
def dkwX4_waysOf_0 : List UInt8 := [42, 3, 181, 0, 220, 42, 43, 44, 3, 3, 29, 182, 0, 231, 42, 180, 0, 220, 172]
abbrev dktX4_waysOf_0 : List UInt8 := dkwX4_waysOf_0 ++ []
theorem dksX4_waysOf_0 : cX4_waysOf.data.toList.drop 0 = dktX4_waysOf_0 := by decide +kernel
theorem dX4_waysOf_0 : decode cX4_waysOf 0 = .ok (.aload_n 0, 1) := dk_42 (dk_at dksX4_waysOf_0 0 rfl rfl)
theorem dX4_waysOf_1 : decode cX4_waysOf 1 = .ok (.iconst 0, 1) := dk_3 (dk_at dksX4_waysOf_0 1 rfl rfl)
theorem dX4_waysOf_2 : decode cX4_waysOf 2 = .ok (.putfield 220, 3) := dk_181 0 220 (dk_at dksX4_waysOf_0 2 rfl rfl)
theorem dX4_waysOf_5 : decode cX4_waysOf 5 = .ok (.aload_n 0, 1) := dk_42 (dk_at dksX4_waysOf_0 5 rfl rfl)
theorem dX4_waysOf_6 : decode cX4_waysOf 6 = .ok (.aload_n 1, 1) := dk_43 (dk_at dksX4_waysOf_0 6 rfl rfl)
theorem dX4_waysOf_7 : decode cX4_waysOf 7 = .ok (.aload_n 2, 1) := dk_44 (dk_at dksX4_waysOf_0 7 rfl rfl)
theorem dX4_waysOf_8 : decode cX4_waysOf 8 = .ok (.iconst 0, 1) := dk_3 (dk_at dksX4_waysOf_0 8 rfl rfl)
theorem dX4_waysOf_9 : decode cX4_waysOf 9 = .ok (.iconst 0, 1) := dk_3 (dk_at dksX4_waysOf_0 9 rfl rfl)
theorem dX4_waysOf_10 : decode cX4_waysOf 10 = .ok (.iload_n 3, 1) := dk_29 (dk_at dksX4_waysOf_0 10 rfl rfl)
theorem dX4_waysOf_11 : decode cX4_waysOf 11 = .ok (.invokevirtual 231, 3) := dk_182 0 231 (dk_at dksX4_waysOf_0 11 rfl rfl)
theorem dX4_waysOf_14 : decode cX4_waysOf 14 = .ok (.aload_n 0, 1) := dk_42 (dk_at dksX4_waysOf_0 14 rfl rfl)
theorem dX4_waysOf_15 : decode cX4_waysOf 15 = .ok (.getfield 220, 3) := dk_180 0 220 (dk_at dksX4_waysOf_0 15 rfl rfl)
theorem dX4_waysOf_18 : decode cX4_waysOf 18 = .ok (.ireturn, 1) := dk_172 (dk_at dksX4_waysOf_0 18 rfl rfl)
abbrev cX4_put : ByteArray := prog_22_method_21_code
def yX4_put : MethodName := ⟨RX4, "put", "(LPatentHallModel$Text;LPatentHallModel$Text;III)V"⟩
def dkwX4_put_6 : List UInt8 := [120, 128, 21, 5, 182, 0, 231, 132, 6, 1, 167, 255, 165, 177]
abbrev dktX4_put_6 : List UInt8 := dkwX4_put_6 ++ []
def dkwX4_put_5 : List UInt8 := [21, 6, 79, 42, 43, 44, 29, 182, 0, 227, 153, 0, 21, 42, 43, 44, 29, 4, 96, 21, 4, 4, 21, 6]
abbrev dktX4_put_5 : List UInt8 := dkwX4_put_5 ++ dktX4_put_6
def dkwX4_put_4 : List UInt8 := [21, 6, 46, 43, 180, 0, 202, 29, 46, 182, 0, 223, 154, 0, 6, 167, 0, 39, 42, 180, 0, 86, 29]
abbrev dktX4_put_4 : List UInt8 := dkwX4_put_4 ++ dktX4_put_5
def dkwX4_put_3 : List UInt8 := [180, 0, 220, 21, 5, 162, 0, 79, 21, 4, 21, 6, 122, 4, 126, 4, 159, 0, 62, 42, 44, 180, 0, 202]
abbrev dktX4_put_3 : List UInt8 := dkwX4_put_3 ++ dktX4_put_4
def dkwX4_put_2 : List UInt8 := [89, 180, 0, 220, 4, 96, 181, 0, 220, 177, 3, 54, 6, 21, 6, 44, 180, 0, 196, 162, 0, 88, 42]
abbrev dktX4_put_2 : List UInt8 := dkwX4_put_2 ++ dktX4_put_3
def dkwX4_put_1 : List UInt8 := [162, 0, 23, 42, 180, 0, 89, 21, 6, 42, 180, 0, 86, 21, 6, 46, 79, 132, 6, 1, 167, 255, 230, 42]
abbrev dktX4_put_1 : List UInt8 := dkwX4_put_1 ++ dktX4_put_2
def dkwX4_put_0 : List UInt8 := [29, 43, 180, 0, 196, 160, 0, 53, 42, 180, 0, 220, 154, 0, 35, 3, 54, 6, 21, 6, 43, 180, 0, 196]
abbrev dktX4_put_0 : List UInt8 := dkwX4_put_0 ++ dktX4_put_1
theorem dksX4_put_0 : cX4_put.data.toList.drop 0 = dktX4_put_0 := by decide +kernel
theorem dksX4_put_1 : cX4_put.data.toList.drop 24 = dktX4_put_1 := dk_seg dksX4_put_0 24 rfl rfl
theorem dksX4_put_2 : cX4_put.data.toList.drop 48 = dktX4_put_2 := dk_seg dksX4_put_1 24 rfl rfl
theorem dksX4_put_3 : cX4_put.data.toList.drop 71 = dktX4_put_3 := dk_seg dksX4_put_2 23 rfl rfl
theorem dksX4_put_4 : cX4_put.data.toList.drop 95 = dktX4_put_4 := dk_seg dksX4_put_3 24 rfl rfl
theorem dksX4_put_5 : cX4_put.data.toList.drop 118 = dktX4_put_5 := dk_seg dksX4_put_4 23 rfl rfl
theorem dksX4_put_6 : cX4_put.data.toList.drop 142 = dktX4_put_6 := dk_seg dksX4_put_5 24 rfl rfl
theorem dX4_put_0 : decode cX4_put 0 = .ok (.iload_n 3, 1) := dk_29 (dk_at dksX4_put_0 0 rfl rfl)
theorem dX4_put_1 : decode cX4_put 1 = .ok (.aload_n 1, 1) := dk_43 (dk_at dksX4_put_0 1 rfl rfl)
theorem dX4_put_2 : decode cX4_put 2 = .ok (.getfield 196, 3) := dk_180 0 196 (dk_at dksX4_put_0 2 rfl rfl)
theorem dX4_put_5 : decode cX4_put 5 = .ok (.if_icmp .ne 53, 3) := dk_160 0 53 (dk_at dksX4_put_0 5 rfl rfl)
theorem dX4_put_8 : decode cX4_put 8 = .ok (.aload_n 0, 1) := dk_42 (dk_at dksX4_put_0 8 rfl rfl)
theorem dX4_put_9 : decode cX4_put 9 = .ok (.getfield 220, 3) := dk_180 0 220 (dk_at dksX4_put_0 9 rfl rfl)
theorem dX4_put_12 : decode cX4_put 12 = .ok (.ifCond .ne 35, 3) := dk_154 0 35 (dk_at dksX4_put_0 12 rfl rfl)
theorem dX4_put_15 : decode cX4_put 15 = .ok (.iconst 0, 1) := dk_3 (dk_at dksX4_put_0 15 rfl rfl)
theorem dX4_put_16 : decode cX4_put 16 = .ok (.istore 6, 2) := dk_54 6 (dk_at dksX4_put_0 16 rfl rfl)
theorem dX4_put_18 : decode cX4_put 18 = .ok (.iload 6, 2) := dk_21 6 (dk_at dksX4_put_0 18 rfl rfl)
theorem dX4_put_20 : decode cX4_put 20 = .ok (.aload_n 1, 1) := dk_43 (dk_at dksX4_put_0 20 rfl rfl)
theorem dX4_put_21 : decode cX4_put 21 = .ok (.getfield 196, 3) := dk_180 0 196 (dk_at dksX4_put_0 21 rfl rfl)
theorem dX4_put_24 : decode cX4_put 24 = .ok (.if_icmp .ge 23, 3) := dk_162 0 23 (dk_at dksX4_put_1 0 rfl rfl)
theorem dX4_put_27 : decode cX4_put 27 = .ok (.aload_n 0, 1) := dk_42 (dk_at dksX4_put_1 3 rfl rfl)
theorem dX4_put_28 : decode cX4_put 28 = .ok (.getfield 89, 3) := dk_180 0 89 (dk_at dksX4_put_1 4 rfl rfl)
theorem dX4_put_31 : decode cX4_put 31 = .ok (.iload 6, 2) := dk_21 6 (dk_at dksX4_put_1 7 rfl rfl)
theorem dX4_put_33 : decode cX4_put 33 = .ok (.aload_n 0, 1) := dk_42 (dk_at dksX4_put_1 9 rfl rfl)
theorem dX4_put_34 : decode cX4_put 34 = .ok (.getfield 86, 3) := dk_180 0 86 (dk_at dksX4_put_1 10 rfl rfl)
theorem dX4_put_37 : decode cX4_put 37 = .ok (.iload 6, 2) := dk_21 6 (dk_at dksX4_put_1 13 rfl rfl)
theorem dX4_put_39 : decode cX4_put 39 = .ok (.iaload, 1) := dk_46 (dk_at dksX4_put_1 15 rfl rfl)
theorem dX4_put_40 : decode cX4_put 40 = .ok (.iastore, 1) := dk_79 (dk_at dksX4_put_1 16 rfl rfl)
theorem dX4_put_41 : decode cX4_put 41 = .ok (.iinc 6 1, 3) := dk_132 6 1 (dk_at dksX4_put_1 17 rfl rfl)
theorem dX4_put_44 : decode cX4_put 44 = .ok (.goto (-26), 3) := dk_167 255 230 (dk_at dksX4_put_1 20 rfl rfl)
theorem dX4_put_47 : decode cX4_put 47 = .ok (.aload_n 0, 1) := dk_42 (dk_at dksX4_put_1 23 rfl rfl)
theorem dX4_put_48 : decode cX4_put 48 = .ok (.dup, 1) := dk_89 (dk_at dksX4_put_2 0 rfl rfl)
theorem dX4_put_49 : decode cX4_put 49 = .ok (.getfield 220, 3) := dk_180 0 220 (dk_at dksX4_put_2 1 rfl rfl)
theorem dX4_put_52 : decode cX4_put 52 = .ok (.iconst 1, 1) := dk_4 (dk_at dksX4_put_2 4 rfl rfl)
theorem dX4_put_53 : decode cX4_put 53 = .ok (.iadd, 1) := dk_96 (dk_at dksX4_put_2 5 rfl rfl)
theorem dX4_put_54 : decode cX4_put 54 = .ok (.putfield 220, 3) := dk_181 0 220 (dk_at dksX4_put_2 6 rfl rfl)
theorem dX4_put_57 : decode cX4_put 57 = .ok (.return_, 1) := dk_177 (dk_at dksX4_put_2 9 rfl rfl)
theorem dX4_put_58 : decode cX4_put 58 = .ok (.iconst 0, 1) := dk_3 (dk_at dksX4_put_2 10 rfl rfl)
theorem dX4_put_59 : decode cX4_put 59 = .ok (.istore 6, 2) := dk_54 6 (dk_at dksX4_put_2 11 rfl rfl)
theorem dX4_put_61 : decode cX4_put 61 = .ok (.iload 6, 2) := dk_21 6 (dk_at dksX4_put_2 13 rfl rfl)
theorem dX4_put_63 : decode cX4_put 63 = .ok (.aload_n 2, 1) := dk_44 (dk_at dksX4_put_2 15 rfl rfl)
theorem dX4_put_64 : decode cX4_put 64 = .ok (.getfield 196, 3) := dk_180 0 196 (dk_at dksX4_put_2 16 rfl rfl)
theorem dX4_put_67 : decode cX4_put 67 = .ok (.if_icmp .ge 88, 3) := dk_162 0 88 (dk_at dksX4_put_2 19 rfl rfl)
theorem dX4_put_70 : decode cX4_put 70 = .ok (.aload_n 0, 1) := dk_42 (dk_at dksX4_put_2 22 rfl rfl)
theorem dX4_put_71 : decode cX4_put 71 = .ok (.getfield 220, 3) := dk_180 0 220 (dk_at dksX4_put_3 0 rfl rfl)
theorem dX4_put_74 : decode cX4_put 74 = .ok (.iload 5, 2) := dk_21 5 (dk_at dksX4_put_3 3 rfl rfl)
theorem dX4_put_76 : decode cX4_put 76 = .ok (.if_icmp .ge 79, 3) := dk_162 0 79 (dk_at dksX4_put_3 5 rfl rfl)
theorem dX4_put_79 : decode cX4_put 79 = .ok (.iload 4, 2) := dk_21 4 (dk_at dksX4_put_3 8 rfl rfl)
theorem dX4_put_81 : decode cX4_put 81 = .ok (.iload 6, 2) := dk_21 6 (dk_at dksX4_put_3 10 rfl rfl)
theorem dX4_put_83 : decode cX4_put 83 = .ok (.ishr, 1) := dk_122 (dk_at dksX4_put_3 12 rfl rfl)
theorem dX4_put_84 : decode cX4_put 84 = .ok (.iconst 1, 1) := dk_4 (dk_at dksX4_put_3 13 rfl rfl)
theorem dX4_put_85 : decode cX4_put 85 = .ok (.iand, 1) := dk_126 (dk_at dksX4_put_3 14 rfl rfl)
theorem dX4_put_86 : decode cX4_put 86 = .ok (.iconst 1, 1) := dk_4 (dk_at dksX4_put_3 15 rfl rfl)
theorem dX4_put_87 : decode cX4_put 87 = .ok (.if_icmp .eq 62, 3) := dk_159 0 62 (dk_at dksX4_put_3 16 rfl rfl)
theorem dX4_put_90 : decode cX4_put 90 = .ok (.aload_n 0, 1) := dk_42 (dk_at dksX4_put_3 19 rfl rfl)
theorem dX4_put_91 : decode cX4_put 91 = .ok (.aload_n 2, 1) := dk_44 (dk_at dksX4_put_3 20 rfl rfl)
theorem dX4_put_92 : decode cX4_put 92 = .ok (.getfield 202, 3) := dk_180 0 202 (dk_at dksX4_put_3 21 rfl rfl)
theorem dX4_put_95 : decode cX4_put 95 = .ok (.iload 6, 2) := dk_21 6 (dk_at dksX4_put_4 0 rfl rfl)
theorem dX4_put_97 : decode cX4_put 97 = .ok (.iaload, 1) := dk_46 (dk_at dksX4_put_4 2 rfl rfl)
theorem dX4_put_98 : decode cX4_put 98 = .ok (.aload_n 1, 1) := dk_43 (dk_at dksX4_put_4 3 rfl rfl)
theorem dX4_put_99 : decode cX4_put 99 = .ok (.getfield 202, 3) := dk_180 0 202 (dk_at dksX4_put_4 4 rfl rfl)
theorem dX4_put_102 : decode cX4_put 102 = .ok (.iload_n 3, 1) := dk_29 (dk_at dksX4_put_4 7 rfl rfl)
theorem dX4_put_103 : decode cX4_put 103 = .ok (.iaload, 1) := dk_46 (dk_at dksX4_put_4 8 rfl rfl)
theorem dX4_put_104 : decode cX4_put 104 = .ok (.invokevirtual 223, 3) := dk_182 0 223 (dk_at dksX4_put_4 9 rfl rfl)
theorem dX4_put_107 : decode cX4_put 107 = .ok (.ifCond .ne 6, 3) := dk_154 0 6 (dk_at dksX4_put_4 12 rfl rfl)
theorem dX4_put_110 : decode cX4_put 110 = .ok (.goto 39, 3) := dk_167 0 39 (dk_at dksX4_put_4 15 rfl rfl)
theorem dX4_put_113 : decode cX4_put 113 = .ok (.aload_n 0, 1) := dk_42 (dk_at dksX4_put_4 18 rfl rfl)
theorem dX4_put_114 : decode cX4_put 114 = .ok (.getfield 86, 3) := dk_180 0 86 (dk_at dksX4_put_4 19 rfl rfl)
theorem dX4_put_117 : decode cX4_put 117 = .ok (.iload_n 3, 1) := dk_29 (dk_at dksX4_put_4 22 rfl rfl)
theorem dX4_put_118 : decode cX4_put 118 = .ok (.iload 6, 2) := dk_21 6 (dk_at dksX4_put_5 0 rfl rfl)
theorem dX4_put_120 : decode cX4_put 120 = .ok (.iastore, 1) := dk_79 (dk_at dksX4_put_5 2 rfl rfl)
theorem dX4_put_121 : decode cX4_put 121 = .ok (.aload_n 0, 1) := dk_42 (dk_at dksX4_put_5 3 rfl rfl)
theorem dX4_put_122 : decode cX4_put 122 = .ok (.aload_n 1, 1) := dk_43 (dk_at dksX4_put_5 4 rfl rfl)
theorem dX4_put_123 : decode cX4_put 123 = .ok (.aload_n 2, 1) := dk_44 (dk_at dksX4_put_5 5 rfl rfl)
theorem dX4_put_124 : decode cX4_put 124 = .ok (.iload_n 3, 1) := dk_29 (dk_at dksX4_put_5 6 rfl rfl)
theorem dX4_put_125 : decode cX4_put 125 = .ok (.invokevirtual 227, 3) := dk_182 0 227 (dk_at dksX4_put_5 7 rfl rfl)
theorem dX4_put_128 : decode cX4_put 128 = .ok (.ifCond .eq 21, 3) := dk_153 0 21 (dk_at dksX4_put_5 10 rfl rfl)
theorem dX4_put_131 : decode cX4_put 131 = .ok (.aload_n 0, 1) := dk_42 (dk_at dksX4_put_5 13 rfl rfl)
theorem dX4_put_132 : decode cX4_put 132 = .ok (.aload_n 1, 1) := dk_43 (dk_at dksX4_put_5 14 rfl rfl)
theorem dX4_put_133 : decode cX4_put 133 = .ok (.aload_n 2, 1) := dk_44 (dk_at dksX4_put_5 15 rfl rfl)
theorem dX4_put_134 : decode cX4_put 134 = .ok (.iload_n 3, 1) := dk_29 (dk_at dksX4_put_5 16 rfl rfl)
theorem dX4_put_135 : decode cX4_put 135 = .ok (.iconst 1, 1) := dk_4 (dk_at dksX4_put_5 17 rfl rfl)
theorem dX4_put_136 : decode cX4_put 136 = .ok (.iadd, 1) := dk_96 (dk_at dksX4_put_5 18 rfl rfl)
theorem dX4_put_137 : decode cX4_put 137 = .ok (.iload 4, 2) := dk_21 4 (dk_at dksX4_put_5 19 rfl rfl)
theorem dX4_put_139 : decode cX4_put 139 = .ok (.iconst 1, 1) := dk_4 (dk_at dksX4_put_5 21 rfl rfl)
theorem dX4_put_140 : decode cX4_put 140 = .ok (.iload 6, 2) := dk_21 6 (dk_at dksX4_put_5 22 rfl rfl)
theorem dX4_put_142 : decode cX4_put 142 = .ok (.ishl, 1) := dk_120 (dk_at dksX4_put_6 0 rfl rfl)
theorem dX4_put_143 : decode cX4_put 143 = .ok (.ior, 1) := dk_128 (dk_at dksX4_put_6 1 rfl rfl)
theorem dX4_put_144 : decode cX4_put 144 = .ok (.iload 5, 2) := dk_21 5 (dk_at dksX4_put_6 2 rfl rfl)
theorem dX4_put_146 : decode cX4_put 146 = .ok (.invokevirtual 231, 3) := dk_182 0 231 (dk_at dksX4_put_6 4 rfl rfl)
theorem dX4_put_149 : decode cX4_put 149 = .ok (.iinc 6 1, 3) := dk_132 6 1 (dk_at dksX4_put_6 7 rfl rfl)
theorem dX4_put_152 : decode cX4_put 152 = .ok (.goto (-91), 3) := dk_167 255 165 (dk_at dksX4_put_6 10 rfl rfl)
theorem dX4_put_155 : decode cX4_put 155 = .ok (.return_, 1) := dk_177 (dk_at dksX4_put_6 13 rfl rfl)
abbrev cX4_isLinked : ByteArray := prog_22_method_22_code
def yX4_isLinked : MethodName := ⟨RX4, "isLinked", "(LPatentHallModel$Text;LPatentHallModel$Text;I)Z"⟩
def dkwX4_isLinked_7 : List UInt8 := [21, 4, 172]
abbrev dktX4_isLinked_7 : List UInt8 := dkwX4_isLinked_7 ++ []
def dkwX4_isLinked_6 : List UInt8 := [4, 167, 0, 4, 3, 54, 8, 132, 9, 1, 167, 255, 177, 21, 8, 54, 4, 132, 5, 1, 167, 255, 102]
abbrev dktX4_isLinked_6 : List UInt8 := dkwX4_isLinked_6 ++ dktX4_isLinked_7
def dkwX4_isLinked_5 : List UInt8 := [160, 0, 28, 42, 44, 180, 0, 211, 21, 9, 46, 43, 180, 0, 211, 21, 5, 46, 182, 0, 223, 153, 0, 7]
abbrev dktX4_isLinked_5 : List UInt8 := dkwX4_isLinked_5 ++ dktX4_isLinked_6
def dkwX4_isLinked_4 : List UInt8 := [180, 0, 86, 21, 6, 46, 160, 0, 45, 44, 180, 0, 214, 21, 9, 46, 42, 180, 0, 86, 21, 7, 46]
abbrev dktX4_isLinked_4 : List UInt8 := dkwX4_isLinked_4 ++ dktX4_isLinked_5
def dkwX4_isLinked_3 : List UInt8 := [21, 9, 44, 180, 0, 205, 162, 0, 76, 21, 8, 154, 0, 58, 44, 180, 0, 208, 21, 9, 46, 42]
abbrev dktX4_isLinked_3 : List UInt8 := dkwX4_isLinked_3 ++ dktX4_isLinked_4
def dkwX4_isLinked_2 : List UInt8 := [163, 0, 110, 21, 6, 29, 159, 0, 12, 21, 7, 29, 159, 0, 6, 167, 0, 95, 3, 54, 8, 3, 54, 9]
abbrev dktX4_isLinked_2 : List UInt8 := dkwX4_isLinked_2 ++ dktX4_isLinked_3
def dkwX4_isLinked_1 : List UInt8 := [21, 5, 46, 54, 6, 43, 180, 0, 214, 21, 5, 46, 54, 7, 21, 6, 29, 163, 0, 116, 21, 7, 29]
abbrev dktX4_isLinked_1 : List UInt8 := dkwX4_isLinked_1 ++ dktX4_isLinked_2
def dkwX4_isLinked_0 : List UInt8 := [4, 54, 4, 3, 54, 5, 21, 5, 43, 180, 0, 205, 162, 0, 151, 21, 4, 153, 0, 146, 43, 180, 0, 208]
abbrev dktX4_isLinked_0 : List UInt8 := dkwX4_isLinked_0 ++ dktX4_isLinked_1
theorem dksX4_isLinked_0 : cX4_isLinked.data.toList.drop 0 = dktX4_isLinked_0 := by decide +kernel
theorem dksX4_isLinked_1 : cX4_isLinked.data.toList.drop 24 = dktX4_isLinked_1 := dk_seg dksX4_isLinked_0 24 rfl rfl
theorem dksX4_isLinked_2 : cX4_isLinked.data.toList.drop 47 = dktX4_isLinked_2 := dk_seg dksX4_isLinked_1 23 rfl rfl
theorem dksX4_isLinked_3 : cX4_isLinked.data.toList.drop 71 = dktX4_isLinked_3 := dk_seg dksX4_isLinked_2 24 rfl rfl
theorem dksX4_isLinked_4 : cX4_isLinked.data.toList.drop 93 = dktX4_isLinked_4 := dk_seg dksX4_isLinked_3 22 rfl rfl
theorem dksX4_isLinked_5 : cX4_isLinked.data.toList.drop 116 = dktX4_isLinked_5 := dk_seg dksX4_isLinked_4 23 rfl rfl
theorem dksX4_isLinked_6 : cX4_isLinked.data.toList.drop 140 = dktX4_isLinked_6 := dk_seg dksX4_isLinked_5 24 rfl rfl
theorem dksX4_isLinked_7 : cX4_isLinked.data.toList.drop 163 = dktX4_isLinked_7 := dk_seg dksX4_isLinked_6 23 rfl rfl
theorem dX4_isLinked_0 : decode cX4_isLinked 0 = .ok (.iconst 1, 1) := dk_4 (dk_at dksX4_isLinked_0 0 rfl rfl)
theorem dX4_isLinked_1 : decode cX4_isLinked 1 = .ok (.istore 4, 2) := dk_54 4 (dk_at dksX4_isLinked_0 1 rfl rfl)
theorem dX4_isLinked_3 : decode cX4_isLinked 3 = .ok (.iconst 0, 1) := dk_3 (dk_at dksX4_isLinked_0 3 rfl rfl)
theorem dX4_isLinked_4 : decode cX4_isLinked 4 = .ok (.istore 5, 2) := dk_54 5 (dk_at dksX4_isLinked_0 4 rfl rfl)
theorem dX4_isLinked_6 : decode cX4_isLinked 6 = .ok (.iload 5, 2) := dk_21 5 (dk_at dksX4_isLinked_0 6 rfl rfl)
theorem dX4_isLinked_8 : decode cX4_isLinked 8 = .ok (.aload_n 1, 1) := dk_43 (dk_at dksX4_isLinked_0 8 rfl rfl)
theorem dX4_isLinked_9 : decode cX4_isLinked 9 = .ok (.getfield 205, 3) := dk_180 0 205 (dk_at dksX4_isLinked_0 9 rfl rfl)
theorem dX4_isLinked_12 : decode cX4_isLinked 12 = .ok (.if_icmp .ge 151, 3) := dk_162 0 151 (dk_at dksX4_isLinked_0 12 rfl rfl)
theorem dX4_isLinked_15 : decode cX4_isLinked 15 = .ok (.iload 4, 2) := dk_21 4 (dk_at dksX4_isLinked_0 15 rfl rfl)
theorem dX4_isLinked_17 : decode cX4_isLinked 17 = .ok (.ifCond .eq 146, 3) := dk_153 0 146 (dk_at dksX4_isLinked_0 17 rfl rfl)
theorem dX4_isLinked_20 : decode cX4_isLinked 20 = .ok (.aload_n 1, 1) := dk_43 (dk_at dksX4_isLinked_0 20 rfl rfl)
theorem dX4_isLinked_21 : decode cX4_isLinked 21 = .ok (.getfield 208, 3) := dk_180 0 208 (dk_at dksX4_isLinked_0 21 rfl rfl)
theorem dX4_isLinked_24 : decode cX4_isLinked 24 = .ok (.iload 5, 2) := dk_21 5 (dk_at dksX4_isLinked_1 0 rfl rfl)
theorem dX4_isLinked_26 : decode cX4_isLinked 26 = .ok (.iaload, 1) := dk_46 (dk_at dksX4_isLinked_1 2 rfl rfl)
theorem dX4_isLinked_27 : decode cX4_isLinked 27 = .ok (.istore 6, 2) := dk_54 6 (dk_at dksX4_isLinked_1 3 rfl rfl)
theorem dX4_isLinked_29 : decode cX4_isLinked 29 = .ok (.aload_n 1, 1) := dk_43 (dk_at dksX4_isLinked_1 5 rfl rfl)
theorem dX4_isLinked_30 : decode cX4_isLinked 30 = .ok (.getfield 214, 3) := dk_180 0 214 (dk_at dksX4_isLinked_1 6 rfl rfl)
theorem dX4_isLinked_33 : decode cX4_isLinked 33 = .ok (.iload 5, 2) := dk_21 5 (dk_at dksX4_isLinked_1 9 rfl rfl)
theorem dX4_isLinked_35 : decode cX4_isLinked 35 = .ok (.iaload, 1) := dk_46 (dk_at dksX4_isLinked_1 11 rfl rfl)
theorem dX4_isLinked_36 : decode cX4_isLinked 36 = .ok (.istore 7, 2) := dk_54 7 (dk_at dksX4_isLinked_1 12 rfl rfl)
theorem dX4_isLinked_38 : decode cX4_isLinked 38 = .ok (.iload 6, 2) := dk_21 6 (dk_at dksX4_isLinked_1 14 rfl rfl)
theorem dX4_isLinked_40 : decode cX4_isLinked 40 = .ok (.iload_n 3, 1) := dk_29 (dk_at dksX4_isLinked_1 16 rfl rfl)
theorem dX4_isLinked_41 : decode cX4_isLinked 41 = .ok (.if_icmp .gt 116, 3) := dk_163 0 116 (dk_at dksX4_isLinked_1 17 rfl rfl)
theorem dX4_isLinked_44 : decode cX4_isLinked 44 = .ok (.iload 7, 2) := dk_21 7 (dk_at dksX4_isLinked_1 20 rfl rfl)
theorem dX4_isLinked_46 : decode cX4_isLinked 46 = .ok (.iload_n 3, 1) := dk_29 (dk_at dksX4_isLinked_1 22 rfl rfl)
theorem dX4_isLinked_47 : decode cX4_isLinked 47 = .ok (.if_icmp .gt 110, 3) := dk_163 0 110 (dk_at dksX4_isLinked_2 0 rfl rfl)
theorem dX4_isLinked_50 : decode cX4_isLinked 50 = .ok (.iload 6, 2) := dk_21 6 (dk_at dksX4_isLinked_2 3 rfl rfl)
theorem dX4_isLinked_52 : decode cX4_isLinked 52 = .ok (.iload_n 3, 1) := dk_29 (dk_at dksX4_isLinked_2 5 rfl rfl)
theorem dX4_isLinked_53 : decode cX4_isLinked 53 = .ok (.if_icmp .eq 12, 3) := dk_159 0 12 (dk_at dksX4_isLinked_2 6 rfl rfl)
theorem dX4_isLinked_56 : decode cX4_isLinked 56 = .ok (.iload 7, 2) := dk_21 7 (dk_at dksX4_isLinked_2 9 rfl rfl)
theorem dX4_isLinked_58 : decode cX4_isLinked 58 = .ok (.iload_n 3, 1) := dk_29 (dk_at dksX4_isLinked_2 11 rfl rfl)
theorem dX4_isLinked_59 : decode cX4_isLinked 59 = .ok (.if_icmp .eq 6, 3) := dk_159 0 6 (dk_at dksX4_isLinked_2 12 rfl rfl)
theorem dX4_isLinked_62 : decode cX4_isLinked 62 = .ok (.goto 95, 3) := dk_167 0 95 (dk_at dksX4_isLinked_2 15 rfl rfl)
theorem dX4_isLinked_65 : decode cX4_isLinked 65 = .ok (.iconst 0, 1) := dk_3 (dk_at dksX4_isLinked_2 18 rfl rfl)
theorem dX4_isLinked_66 : decode cX4_isLinked 66 = .ok (.istore 8, 2) := dk_54 8 (dk_at dksX4_isLinked_2 19 rfl rfl)
theorem dX4_isLinked_68 : decode cX4_isLinked 68 = .ok (.iconst 0, 1) := dk_3 (dk_at dksX4_isLinked_2 21 rfl rfl)
theorem dX4_isLinked_69 : decode cX4_isLinked 69 = .ok (.istore 9, 2) := dk_54 9 (dk_at dksX4_isLinked_2 22 rfl rfl)
theorem dX4_isLinked_71 : decode cX4_isLinked 71 = .ok (.iload 9, 2) := dk_21 9 (dk_at dksX4_isLinked_3 0 rfl rfl)
theorem dX4_isLinked_73 : decode cX4_isLinked 73 = .ok (.aload_n 2, 1) := dk_44 (dk_at dksX4_isLinked_3 2 rfl rfl)
theorem dX4_isLinked_74 : decode cX4_isLinked 74 = .ok (.getfield 205, 3) := dk_180 0 205 (dk_at dksX4_isLinked_3 3 rfl rfl)
theorem dX4_isLinked_77 : decode cX4_isLinked 77 = .ok (.if_icmp .ge 76, 3) := dk_162 0 76 (dk_at dksX4_isLinked_3 6 rfl rfl)
theorem dX4_isLinked_80 : decode cX4_isLinked 80 = .ok (.iload 8, 2) := dk_21 8 (dk_at dksX4_isLinked_3 9 rfl rfl)
theorem dX4_isLinked_82 : decode cX4_isLinked 82 = .ok (.ifCond .ne 58, 3) := dk_154 0 58 (dk_at dksX4_isLinked_3 11 rfl rfl)
theorem dX4_isLinked_85 : decode cX4_isLinked 85 = .ok (.aload_n 2, 1) := dk_44 (dk_at dksX4_isLinked_3 14 rfl rfl)
theorem dX4_isLinked_86 : decode cX4_isLinked 86 = .ok (.getfield 208, 3) := dk_180 0 208 (dk_at dksX4_isLinked_3 15 rfl rfl)
theorem dX4_isLinked_89 : decode cX4_isLinked 89 = .ok (.iload 9, 2) := dk_21 9 (dk_at dksX4_isLinked_3 18 rfl rfl)
theorem dX4_isLinked_91 : decode cX4_isLinked 91 = .ok (.iaload, 1) := dk_46 (dk_at dksX4_isLinked_3 20 rfl rfl)
theorem dX4_isLinked_92 : decode cX4_isLinked 92 = .ok (.aload_n 0, 1) := dk_42 (dk_at dksX4_isLinked_3 21 rfl rfl)
theorem dX4_isLinked_93 : decode cX4_isLinked 93 = .ok (.getfield 86, 3) := dk_180 0 86 (dk_at dksX4_isLinked_4 0 rfl rfl)
theorem dX4_isLinked_96 : decode cX4_isLinked 96 = .ok (.iload 6, 2) := dk_21 6 (dk_at dksX4_isLinked_4 3 rfl rfl)
theorem dX4_isLinked_98 : decode cX4_isLinked 98 = .ok (.iaload, 1) := dk_46 (dk_at dksX4_isLinked_4 5 rfl rfl)
theorem dX4_isLinked_99 : decode cX4_isLinked 99 = .ok (.if_icmp .ne 45, 3) := dk_160 0 45 (dk_at dksX4_isLinked_4 6 rfl rfl)
theorem dX4_isLinked_102 : decode cX4_isLinked 102 = .ok (.aload_n 2, 1) := dk_44 (dk_at dksX4_isLinked_4 9 rfl rfl)
theorem dX4_isLinked_103 : decode cX4_isLinked 103 = .ok (.getfield 214, 3) := dk_180 0 214 (dk_at dksX4_isLinked_4 10 rfl rfl)
theorem dX4_isLinked_106 : decode cX4_isLinked 106 = .ok (.iload 9, 2) := dk_21 9 (dk_at dksX4_isLinked_4 13 rfl rfl)
theorem dX4_isLinked_108 : decode cX4_isLinked 108 = .ok (.iaload, 1) := dk_46 (dk_at dksX4_isLinked_4 15 rfl rfl)
theorem dX4_isLinked_109 : decode cX4_isLinked 109 = .ok (.aload_n 0, 1) := dk_42 (dk_at dksX4_isLinked_4 16 rfl rfl)
theorem dX4_isLinked_110 : decode cX4_isLinked 110 = .ok (.getfield 86, 3) := dk_180 0 86 (dk_at dksX4_isLinked_4 17 rfl rfl)
theorem dX4_isLinked_113 : decode cX4_isLinked 113 = .ok (.iload 7, 2) := dk_21 7 (dk_at dksX4_isLinked_4 20 rfl rfl)
theorem dX4_isLinked_115 : decode cX4_isLinked 115 = .ok (.iaload, 1) := dk_46 (dk_at dksX4_isLinked_4 22 rfl rfl)
theorem dX4_isLinked_116 : decode cX4_isLinked 116 = .ok (.if_icmp .ne 28, 3) := dk_160 0 28 (dk_at dksX4_isLinked_5 0 rfl rfl)
theorem dX4_isLinked_119 : decode cX4_isLinked 119 = .ok (.aload_n 0, 1) := dk_42 (dk_at dksX4_isLinked_5 3 rfl rfl)
theorem dX4_isLinked_120 : decode cX4_isLinked 120 = .ok (.aload_n 2, 1) := dk_44 (dk_at dksX4_isLinked_5 4 rfl rfl)
theorem dX4_isLinked_121 : decode cX4_isLinked 121 = .ok (.getfield 211, 3) := dk_180 0 211 (dk_at dksX4_isLinked_5 5 rfl rfl)
theorem dX4_isLinked_124 : decode cX4_isLinked 124 = .ok (.iload 9, 2) := dk_21 9 (dk_at dksX4_isLinked_5 8 rfl rfl)
theorem dX4_isLinked_126 : decode cX4_isLinked 126 = .ok (.iaload, 1) := dk_46 (dk_at dksX4_isLinked_5 10 rfl rfl)
theorem dX4_isLinked_127 : decode cX4_isLinked 127 = .ok (.aload_n 1, 1) := dk_43 (dk_at dksX4_isLinked_5 11 rfl rfl)
theorem dX4_isLinked_128 : decode cX4_isLinked 128 = .ok (.getfield 211, 3) := dk_180 0 211 (dk_at dksX4_isLinked_5 12 rfl rfl)
theorem dX4_isLinked_131 : decode cX4_isLinked 131 = .ok (.iload 5, 2) := dk_21 5 (dk_at dksX4_isLinked_5 15 rfl rfl)
theorem dX4_isLinked_133 : decode cX4_isLinked 133 = .ok (.iaload, 1) := dk_46 (dk_at dksX4_isLinked_5 17 rfl rfl)
theorem dX4_isLinked_134 : decode cX4_isLinked 134 = .ok (.invokevirtual 223, 3) := dk_182 0 223 (dk_at dksX4_isLinked_5 18 rfl rfl)
theorem dX4_isLinked_137 : decode cX4_isLinked 137 = .ok (.ifCond .eq 7, 3) := dk_153 0 7 (dk_at dksX4_isLinked_5 21 rfl rfl)
theorem dX4_isLinked_140 : decode cX4_isLinked 140 = .ok (.iconst 1, 1) := dk_4 (dk_at dksX4_isLinked_6 0 rfl rfl)
theorem dX4_isLinked_141 : decode cX4_isLinked 141 = .ok (.goto 4, 3) := dk_167 0 4 (dk_at dksX4_isLinked_6 1 rfl rfl)
theorem dX4_isLinked_144 : decode cX4_isLinked 144 = .ok (.iconst 0, 1) := dk_3 (dk_at dksX4_isLinked_6 4 rfl rfl)
theorem dX4_isLinked_145 : decode cX4_isLinked 145 = .ok (.istore 8, 2) := dk_54 8 (dk_at dksX4_isLinked_6 5 rfl rfl)
theorem dX4_isLinked_147 : decode cX4_isLinked 147 = .ok (.iinc 9 1, 3) := dk_132 9 1 (dk_at dksX4_isLinked_6 7 rfl rfl)
theorem dX4_isLinked_150 : decode cX4_isLinked 150 = .ok (.goto (-79), 3) := dk_167 255 177 (dk_at dksX4_isLinked_6 10 rfl rfl)
theorem dX4_isLinked_153 : decode cX4_isLinked 153 = .ok (.iload 8, 2) := dk_21 8 (dk_at dksX4_isLinked_6 13 rfl rfl)
theorem dX4_isLinked_155 : decode cX4_isLinked 155 = .ok (.istore 4, 2) := dk_54 4 (dk_at dksX4_isLinked_6 15 rfl rfl)
theorem dX4_isLinked_157 : decode cX4_isLinked 157 = .ok (.iinc 5 1, 3) := dk_132 5 1 (dk_at dksX4_isLinked_6 17 rfl rfl)
theorem dX4_isLinked_160 : decode cX4_isLinked 160 = .ok (.goto (-154), 3) := dk_167 255 102 (dk_at dksX4_isLinked_6 20 rfl rfl)
theorem dX4_isLinked_163 : decode cX4_isLinked 163 = .ok (.iload 4, 2) := dk_21 4 (dk_at dksX4_isLinked_7 0 rfl rfl)
theorem dX4_isLinked_165 : decode cX4_isLinked 165 = .ok (.ireturn, 1) := dk_172 (dk_at dksX4_isLinked_7 2 rfl rfl)
abbrev cX4_amend : ByteArray := prog_22_method_38_code
def yX4_amend : MethodName := ⟨RX4, "amend", "(II)Z"⟩
def dkwX4_amend_10 : List UInt8 := [27, 25, 4, 83, 42, 182, 1, 28, 172]
abbrev dktX4_amend_10 : List UInt8 := dkwX4_amend_10 ++ []
def dkwX4_amend_9 : List UInt8 := [42, 16, 6, 182, 1, 25, 172, 42, 16, 6, 27, 42, 180, 0, 33, 27, 50, 182, 0, 245, 42, 180, 0, 33]
abbrev dktX4_amend_9 : List UInt8 := dkwX4_amend_9 ++ dktX4_amend_10
def dkwX4_amend_8 : List UInt8 := [154, 0, 9, 42, 8, 182, 1, 25, 172, 42, 25, 4, 42, 180, 0, 33, 27, 50, 182, 1, 21, 154, 0, 10]
abbrev dktX4_amend_8 : List UInt8 := dkwX4_amend_8 ++ dktX4_amend_9
def dkwX4_amend_7 : List UInt8 := [182, 1, 7, 54, 6, 3, 172, 42, 42, 180, 0, 27, 42, 180, 0, 51, 27, 46, 50, 25, 4, 182, 1, 21]
abbrev dktX4_amend_7 : List UInt8 := dkwX4_amend_7 ++ dktX4_amend_8
def dkwX4_amend_6 : List UInt8 := [182, 1, 17, 42, 25, 4, 28, 16, 6, 16, 8, 182, 1, 3, 167, 0, 15, 58, 5, 42, 25, 5]
abbrev dktX4_amend_6 : List UInt8 := dkwX4_amend_6 ++ dktX4_amend_7
def dkwX4_amend_5 : List UInt8 := [42, 180, 0, 54, 27, 46, 2, 159, 0, 19, 25, 4, 42, 180, 0, 33, 42, 180, 0, 54, 27, 46, 50]
abbrev dktX4_amend_5 : List UInt8 := dkwX4_amend_5 ++ dktX4_amend_6
def dkwX4_amend_4 : List UInt8 := [153, 0, 10, 42, 16, 8, 182, 1, 25, 172, 42, 3, 181, 0, 217, 187, 0, 21, 89, 183, 0, 95, 58, 4]
abbrev dktX4_amend_4 : List UInt8 := dkwX4_amend_4 ++ dktX4_amend_5
def dkwX4_amend_3 : List UInt8 := [180, 0, 54, 21, 4, 46, 27, 160, 0, 7, 4, 167, 0, 4, 3, 62, 132, 4, 1, 167, 255, 223, 29]
abbrev dktX4_amend_3 : List UInt8 := dkwX4_amend_3 ++ dktX4_amend_4
def dkwX4_amend_2 : List UInt8 := [182, 1, 25, 172, 3, 62, 3, 54, 4, 21, 4, 42, 180, 0, 133, 162, 0, 30, 29, 154, 0, 14, 42]
abbrev dktX4_amend_2 : List UInt8 := dkwX4_amend_2 ++ dktX4_amend_3
def dkwX4_amend_1 : List UInt8 := [154, 0, 9, 42, 5, 182, 1, 25, 172, 42, 180, 0, 60, 27, 46, 2, 159, 0, 10, 42, 16, 7]
abbrev dktX4_amend_1 : List UInt8 := dkwX4_amend_1 ++ dktX4_amend_2
def dkwX4_amend_0 : List UInt8 := [42, 3, 181, 0, 109, 42, 27, 182, 1, 14, 154, 0, 9, 42, 4, 182, 1, 25, 172, 42, 28, 182, 0, 242]
abbrev dktX4_amend_0 : List UInt8 := dkwX4_amend_0 ++ dktX4_amend_1
theorem dksX4_amend_0 : cX4_amend.data.toList.drop 0 = dktX4_amend_0 := by decide +kernel
theorem dksX4_amend_1 : cX4_amend.data.toList.drop 24 = dktX4_amend_1 := dk_seg dksX4_amend_0 24 rfl rfl
theorem dksX4_amend_2 : cX4_amend.data.toList.drop 46 = dktX4_amend_2 := dk_seg dksX4_amend_1 22 rfl rfl
theorem dksX4_amend_3 : cX4_amend.data.toList.drop 69 = dktX4_amend_3 := dk_seg dksX4_amend_2 23 rfl rfl
theorem dksX4_amend_4 : cX4_amend.data.toList.drop 92 = dktX4_amend_4 := dk_seg dksX4_amend_3 23 rfl rfl
theorem dksX4_amend_5 : cX4_amend.data.toList.drop 116 = dktX4_amend_5 := dk_seg dksX4_amend_4 24 rfl rfl
theorem dksX4_amend_6 : cX4_amend.data.toList.drop 139 = dktX4_amend_6 := dk_seg dksX4_amend_5 23 rfl rfl
theorem dksX4_amend_7 : cX4_amend.data.toList.drop 161 = dktX4_amend_7 := dk_seg dksX4_amend_6 22 rfl rfl
theorem dksX4_amend_8 : cX4_amend.data.toList.drop 185 = dktX4_amend_8 := dk_seg dksX4_amend_7 24 rfl rfl
theorem dksX4_amend_9 : cX4_amend.data.toList.drop 209 = dktX4_amend_9 := dk_seg dksX4_amend_8 24 rfl rfl
theorem dksX4_amend_10 : cX4_amend.data.toList.drop 233 = dktX4_amend_10 := dk_seg dksX4_amend_9 24 rfl rfl
theorem dX4_amend_0 : decode cX4_amend 0 = .ok (.aload_n 0, 1) := dk_42 (dk_at dksX4_amend_0 0 rfl rfl)
theorem dX4_amend_1 : decode cX4_amend 1 = .ok (.iconst 0, 1) := dk_3 (dk_at dksX4_amend_0 1 rfl rfl)
theorem dX4_amend_2 : decode cX4_amend 2 = .ok (.putfield 109, 3) := dk_181 0 109 (dk_at dksX4_amend_0 2 rfl rfl)
theorem dX4_amend_5 : decode cX4_amend 5 = .ok (.aload_n 0, 1) := dk_42 (dk_at dksX4_amend_0 5 rfl rfl)
theorem dX4_amend_6 : decode cX4_amend 6 = .ok (.iload_n 1, 1) := dk_27 (dk_at dksX4_amend_0 6 rfl rfl)
theorem dX4_amend_7 : decode cX4_amend 7 = .ok (.invokevirtual 270, 3) := dk_182 1 14 (dk_at dksX4_amend_0 7 rfl rfl)
theorem dX4_amend_10 : decode cX4_amend 10 = .ok (.ifCond .ne 9, 3) := dk_154 0 9 (dk_at dksX4_amend_0 10 rfl rfl)
theorem dX4_amend_13 : decode cX4_amend 13 = .ok (.aload_n 0, 1) := dk_42 (dk_at dksX4_amend_0 13 rfl rfl)
theorem dX4_amend_14 : decode cX4_amend 14 = .ok (.iconst 1, 1) := dk_4 (dk_at dksX4_amend_0 14 rfl rfl)
theorem dX4_amend_15 : decode cX4_amend 15 = .ok (.invokevirtual 281, 3) := dk_182 1 25 (dk_at dksX4_amend_0 15 rfl rfl)
theorem dX4_amend_18 : decode cX4_amend 18 = .ok (.ireturn, 1) := dk_172 (dk_at dksX4_amend_0 18 rfl rfl)
theorem dX4_amend_19 : decode cX4_amend 19 = .ok (.aload_n 0, 1) := dk_42 (dk_at dksX4_amend_0 19 rfl rfl)
theorem dX4_amend_20 : decode cX4_amend 20 = .ok (.iload_n 2, 1) := dk_28 (dk_at dksX4_amend_0 20 rfl rfl)
theorem dX4_amend_21 : decode cX4_amend 21 = .ok (.invokevirtual 242, 3) := dk_182 0 242 (dk_at dksX4_amend_0 21 rfl rfl)
theorem dX4_amend_24 : decode cX4_amend 24 = .ok (.ifCond .ne 9, 3) := dk_154 0 9 (dk_at dksX4_amend_1 0 rfl rfl)
theorem dX4_amend_27 : decode cX4_amend 27 = .ok (.aload_n 0, 1) := dk_42 (dk_at dksX4_amend_1 3 rfl rfl)
theorem dX4_amend_28 : decode cX4_amend 28 = .ok (.iconst 2, 1) := dk_5 (dk_at dksX4_amend_1 4 rfl rfl)
theorem dX4_amend_29 : decode cX4_amend 29 = .ok (.invokevirtual 281, 3) := dk_182 1 25 (dk_at dksX4_amend_1 5 rfl rfl)
theorem dX4_amend_32 : decode cX4_amend 32 = .ok (.ireturn, 1) := dk_172 (dk_at dksX4_amend_1 8 rfl rfl)
theorem dX4_amend_33 : decode cX4_amend 33 = .ok (.aload_n 0, 1) := dk_42 (dk_at dksX4_amend_1 9 rfl rfl)
theorem dX4_amend_34 : decode cX4_amend 34 = .ok (.getfield 60, 3) := dk_180 0 60 (dk_at dksX4_amend_1 10 rfl rfl)
theorem dX4_amend_37 : decode cX4_amend 37 = .ok (.iload_n 1, 1) := dk_27 (dk_at dksX4_amend_1 13 rfl rfl)
theorem dX4_amend_38 : decode cX4_amend 38 = .ok (.iaload, 1) := dk_46 (dk_at dksX4_amend_1 14 rfl rfl)
theorem dX4_amend_39 : decode cX4_amend 39 = .ok (.iconst (-1), 1) := dk_2 (dk_at dksX4_amend_1 15 rfl rfl)
theorem dX4_amend_40 : decode cX4_amend 40 = .ok (.if_icmp .eq 10, 3) := dk_159 0 10 (dk_at dksX4_amend_1 16 rfl rfl)
theorem dX4_amend_43 : decode cX4_amend 43 = .ok (.aload_n 0, 1) := dk_42 (dk_at dksX4_amend_1 19 rfl rfl)
theorem dX4_amend_44 : decode cX4_amend 44 = .ok (.bipush 7, 2) := dk_16 7 (dk_at dksX4_amend_1 20 rfl rfl)
theorem dX4_amend_46 : decode cX4_amend 46 = .ok (.invokevirtual 281, 3) := dk_182 1 25 (dk_at dksX4_amend_2 0 rfl rfl)
theorem dX4_amend_49 : decode cX4_amend 49 = .ok (.ireturn, 1) := dk_172 (dk_at dksX4_amend_2 3 rfl rfl)
theorem dX4_amend_50 : decode cX4_amend 50 = .ok (.iconst 0, 1) := dk_3 (dk_at dksX4_amend_2 4 rfl rfl)
theorem dX4_amend_51 : decode cX4_amend 51 = .ok (.istore_n 3, 1) := dk_62 (dk_at dksX4_amend_2 5 rfl rfl)
theorem dX4_amend_52 : decode cX4_amend 52 = .ok (.iconst 0, 1) := dk_3 (dk_at dksX4_amend_2 6 rfl rfl)
theorem dX4_amend_53 : decode cX4_amend 53 = .ok (.istore 4, 2) := dk_54 4 (dk_at dksX4_amend_2 7 rfl rfl)
theorem dX4_amend_55 : decode cX4_amend 55 = .ok (.iload 4, 2) := dk_21 4 (dk_at dksX4_amend_2 9 rfl rfl)
theorem dX4_amend_57 : decode cX4_amend 57 = .ok (.aload_n 0, 1) := dk_42 (dk_at dksX4_amend_2 11 rfl rfl)
theorem dX4_amend_58 : decode cX4_amend 58 = .ok (.getfield 133, 3) := dk_180 0 133 (dk_at dksX4_amend_2 12 rfl rfl)
theorem dX4_amend_61 : decode cX4_amend 61 = .ok (.if_icmp .ge 30, 3) := dk_162 0 30 (dk_at dksX4_amend_2 15 rfl rfl)
theorem dX4_amend_64 : decode cX4_amend 64 = .ok (.iload_n 3, 1) := dk_29 (dk_at dksX4_amend_2 18 rfl rfl)
theorem dX4_amend_65 : decode cX4_amend 65 = .ok (.ifCond .ne 14, 3) := dk_154 0 14 (dk_at dksX4_amend_2 19 rfl rfl)
theorem dX4_amend_68 : decode cX4_amend 68 = .ok (.aload_n 0, 1) := dk_42 (dk_at dksX4_amend_2 22 rfl rfl)
theorem dX4_amend_69 : decode cX4_amend 69 = .ok (.getfield 54, 3) := dk_180 0 54 (dk_at dksX4_amend_3 0 rfl rfl)
theorem dX4_amend_72 : decode cX4_amend 72 = .ok (.iload 4, 2) := dk_21 4 (dk_at dksX4_amend_3 3 rfl rfl)
theorem dX4_amend_74 : decode cX4_amend 74 = .ok (.iaload, 1) := dk_46 (dk_at dksX4_amend_3 5 rfl rfl)
theorem dX4_amend_75 : decode cX4_amend 75 = .ok (.iload_n 1, 1) := dk_27 (dk_at dksX4_amend_3 6 rfl rfl)
theorem dX4_amend_76 : decode cX4_amend 76 = .ok (.if_icmp .ne 7, 3) := dk_160 0 7 (dk_at dksX4_amend_3 7 rfl rfl)
theorem dX4_amend_79 : decode cX4_amend 79 = .ok (.iconst 1, 1) := dk_4 (dk_at dksX4_amend_3 10 rfl rfl)
theorem dX4_amend_80 : decode cX4_amend 80 = .ok (.goto 4, 3) := dk_167 0 4 (dk_at dksX4_amend_3 11 rfl rfl)
theorem dX4_amend_83 : decode cX4_amend 83 = .ok (.iconst 0, 1) := dk_3 (dk_at dksX4_amend_3 14 rfl rfl)
theorem dX4_amend_84 : decode cX4_amend 84 = .ok (.istore_n 3, 1) := dk_62 (dk_at dksX4_amend_3 15 rfl rfl)
theorem dX4_amend_85 : decode cX4_amend 85 = .ok (.iinc 4 1, 3) := dk_132 4 1 (dk_at dksX4_amend_3 16 rfl rfl)
theorem dX4_amend_88 : decode cX4_amend 88 = .ok (.goto (-33), 3) := dk_167 255 223 (dk_at dksX4_amend_3 19 rfl rfl)
theorem dX4_amend_91 : decode cX4_amend 91 = .ok (.iload_n 3, 1) := dk_29 (dk_at dksX4_amend_3 22 rfl rfl)
theorem dX4_amend_92 : decode cX4_amend 92 = .ok (.ifCond .eq 10, 3) := dk_153 0 10 (dk_at dksX4_amend_4 0 rfl rfl)
theorem dX4_amend_95 : decode cX4_amend 95 = .ok (.aload_n 0, 1) := dk_42 (dk_at dksX4_amend_4 3 rfl rfl)
theorem dX4_amend_96 : decode cX4_amend 96 = .ok (.bipush 8, 2) := dk_16 8 (dk_at dksX4_amend_4 4 rfl rfl)
theorem dX4_amend_98 : decode cX4_amend 98 = .ok (.invokevirtual 281, 3) := dk_182 1 25 (dk_at dksX4_amend_4 6 rfl rfl)
theorem dX4_amend_101 : decode cX4_amend 101 = .ok (.ireturn, 1) := dk_172 (dk_at dksX4_amend_4 9 rfl rfl)
theorem dX4_amend_102 : decode cX4_amend 102 = .ok (.aload_n 0, 1) := dk_42 (dk_at dksX4_amend_4 10 rfl rfl)
theorem dX4_amend_103 : decode cX4_amend 103 = .ok (.iconst 0, 1) := dk_3 (dk_at dksX4_amend_4 11 rfl rfl)
theorem dX4_amend_104 : decode cX4_amend 104 = .ok (.putfield 217, 3) := dk_181 0 217 (dk_at dksX4_amend_4 12 rfl rfl)
theorem dX4_amend_107 : decode cX4_amend 107 = .ok (.new 21, 3) := dk_187 0 21 (dk_at dksX4_amend_4 15 rfl rfl)
theorem dX4_amend_110 : decode cX4_amend 110 = .ok (.dup, 1) := dk_89 (dk_at dksX4_amend_4 18 rfl rfl)
theorem dX4_amend_111 : decode cX4_amend 111 = .ok (.invokespecial 95, 3) := dk_183 0 95 (dk_at dksX4_amend_4 19 rfl rfl)
theorem dX4_amend_114 : decode cX4_amend 114 = .ok (.astore 4, 2) := dk_58 4 (dk_at dksX4_amend_4 22 rfl rfl)
theorem dX4_amend_116 : decode cX4_amend 116 = .ok (.aload_n 0, 1) := dk_42 (dk_at dksX4_amend_5 0 rfl rfl)
theorem dX4_amend_117 : decode cX4_amend 117 = .ok (.getfield 54, 3) := dk_180 0 54 (dk_at dksX4_amend_5 1 rfl rfl)
theorem dX4_amend_120 : decode cX4_amend 120 = .ok (.iload_n 1, 1) := dk_27 (dk_at dksX4_amend_5 4 rfl rfl)
theorem dX4_amend_121 : decode cX4_amend 121 = .ok (.iaload, 1) := dk_46 (dk_at dksX4_amend_5 5 rfl rfl)
theorem dX4_amend_122 : decode cX4_amend 122 = .ok (.iconst (-1), 1) := dk_2 (dk_at dksX4_amend_5 6 rfl rfl)
theorem dX4_amend_123 : decode cX4_amend 123 = .ok (.if_icmp .eq 19, 3) := dk_159 0 19 (dk_at dksX4_amend_5 7 rfl rfl)
theorem dX4_amend_126 : decode cX4_amend 126 = .ok (.aload 4, 2) := dk_25 4 (dk_at dksX4_amend_5 10 rfl rfl)
theorem dX4_amend_128 : decode cX4_amend 128 = .ok (.aload_n 0, 1) := dk_42 (dk_at dksX4_amend_5 12 rfl rfl)
theorem dX4_amend_129 : decode cX4_amend 129 = .ok (.getfield 33, 3) := dk_180 0 33 (dk_at dksX4_amend_5 13 rfl rfl)
theorem dX4_amend_132 : decode cX4_amend 132 = .ok (.aload_n 0, 1) := dk_42 (dk_at dksX4_amend_5 16 rfl rfl)
theorem dX4_amend_133 : decode cX4_amend 133 = .ok (.getfield 54, 3) := dk_180 0 54 (dk_at dksX4_amend_5 17 rfl rfl)
theorem dX4_amend_136 : decode cX4_amend 136 = .ok (.iload_n 1, 1) := dk_27 (dk_at dksX4_amend_5 20 rfl rfl)
theorem dX4_amend_137 : decode cX4_amend 137 = .ok (.iaload, 1) := dk_46 (dk_at dksX4_amend_5 21 rfl rfl)
theorem dX4_amend_138 : decode cX4_amend 138 = .ok (.aaload, 1) := dk_50 (dk_at dksX4_amend_5 22 rfl rfl)
theorem dX4_amend_139 : decode cX4_amend 139 = .ok (.invokevirtual 273, 3) := dk_182 1 17 (dk_at dksX4_amend_6 0 rfl rfl)
theorem dX4_amend_142 : decode cX4_amend 142 = .ok (.aload_n 0, 1) := dk_42 (dk_at dksX4_amend_6 3 rfl rfl)
theorem dX4_amend_143 : decode cX4_amend 143 = .ok (.aload 4, 2) := dk_25 4 (dk_at dksX4_amend_6 4 rfl rfl)
theorem dX4_amend_145 : decode cX4_amend 145 = .ok (.iload_n 2, 1) := dk_28 (dk_at dksX4_amend_6 6 rfl rfl)
theorem dX4_amend_146 : decode cX4_amend 146 = .ok (.bipush 6, 2) := dk_16 6 (dk_at dksX4_amend_6 7 rfl rfl)
theorem dX4_amend_148 : decode cX4_amend 148 = .ok (.bipush 8, 2) := dk_16 8 (dk_at dksX4_amend_6 9 rfl rfl)
theorem dX4_amend_150 : decode cX4_amend 150 = .ok (.invokevirtual 259, 3) := dk_182 1 3 (dk_at dksX4_amend_6 11 rfl rfl)
theorem dX4_amend_153 : decode cX4_amend 153 = .ok (.goto 15, 3) := dk_167 0 15 (dk_at dksX4_amend_6 14 rfl rfl)
theorem dX4_amend_156 : decode cX4_amend 156 = .ok (.astore 5, 2) := dk_58 5 (dk_at dksX4_amend_6 17 rfl rfl)
theorem dX4_amend_158 : decode cX4_amend 158 = .ok (.aload_n 0, 1) := dk_42 (dk_at dksX4_amend_6 19 rfl rfl)
theorem dX4_amend_159 : decode cX4_amend 159 = .ok (.aload 5, 2) := dk_25 5 (dk_at dksX4_amend_6 20 rfl rfl)
theorem dX4_amend_161 : decode cX4_amend 161 = .ok (.invokevirtual 263, 3) := dk_182 1 7 (dk_at dksX4_amend_7 0 rfl rfl)
theorem dX4_amend_164 : decode cX4_amend 164 = .ok (.istore 6, 2) := dk_54 6 (dk_at dksX4_amend_7 3 rfl rfl)
theorem dX4_amend_166 : decode cX4_amend 166 = .ok (.iconst 0, 1) := dk_3 (dk_at dksX4_amend_7 5 rfl rfl)
theorem dX4_amend_167 : decode cX4_amend 167 = .ok (.ireturn, 1) := dk_172 (dk_at dksX4_amend_7 6 rfl rfl)
theorem dX4_amend_168 : decode cX4_amend 168 = .ok (.aload_n 0, 1) := dk_42 (dk_at dksX4_amend_7 7 rfl rfl)
theorem dX4_amend_169 : decode cX4_amend 169 = .ok (.aload_n 0, 1) := dk_42 (dk_at dksX4_amend_7 8 rfl rfl)
theorem dX4_amend_170 : decode cX4_amend 170 = .ok (.getfield 27, 3) := dk_180 0 27 (dk_at dksX4_amend_7 9 rfl rfl)
theorem dX4_amend_173 : decode cX4_amend 173 = .ok (.aload_n 0, 1) := dk_42 (dk_at dksX4_amend_7 12 rfl rfl)
theorem dX4_amend_174 : decode cX4_amend 174 = .ok (.getfield 51, 3) := dk_180 0 51 (dk_at dksX4_amend_7 13 rfl rfl)
theorem dX4_amend_177 : decode cX4_amend 177 = .ok (.iload_n 1, 1) := dk_27 (dk_at dksX4_amend_7 16 rfl rfl)
theorem dX4_amend_178 : decode cX4_amend 178 = .ok (.iaload, 1) := dk_46 (dk_at dksX4_amend_7 17 rfl rfl)
theorem dX4_amend_179 : decode cX4_amend 179 = .ok (.aaload, 1) := dk_50 (dk_at dksX4_amend_7 18 rfl rfl)
theorem dX4_amend_180 : decode cX4_amend 180 = .ok (.aload 4, 2) := dk_25 4 (dk_at dksX4_amend_7 19 rfl rfl)
theorem dX4_amend_182 : decode cX4_amend 182 = .ok (.invokevirtual 277, 3) := dk_182 1 21 (dk_at dksX4_amend_7 21 rfl rfl)
theorem dX4_amend_185 : decode cX4_amend 185 = .ok (.ifCond .ne 9, 3) := dk_154 0 9 (dk_at dksX4_amend_8 0 rfl rfl)
theorem dX4_amend_188 : decode cX4_amend 188 = .ok (.aload_n 0, 1) := dk_42 (dk_at dksX4_amend_8 3 rfl rfl)
theorem dX4_amend_189 : decode cX4_amend 189 = .ok (.iconst 5, 1) := dk_8 (dk_at dksX4_amend_8 4 rfl rfl)
theorem dX4_amend_190 : decode cX4_amend 190 = .ok (.invokevirtual 281, 3) := dk_182 1 25 (dk_at dksX4_amend_8 5 rfl rfl)
theorem dX4_amend_193 : decode cX4_amend 193 = .ok (.ireturn, 1) := dk_172 (dk_at dksX4_amend_8 8 rfl rfl)
theorem dX4_amend_194 : decode cX4_amend 194 = .ok (.aload_n 0, 1) := dk_42 (dk_at dksX4_amend_8 9 rfl rfl)
theorem dX4_amend_195 : decode cX4_amend 195 = .ok (.aload 4, 2) := dk_25 4 (dk_at dksX4_amend_8 10 rfl rfl)
theorem dX4_amend_197 : decode cX4_amend 197 = .ok (.aload_n 0, 1) := dk_42 (dk_at dksX4_amend_8 12 rfl rfl)
theorem dX4_amend_198 : decode cX4_amend 198 = .ok (.getfield 33, 3) := dk_180 0 33 (dk_at dksX4_amend_8 13 rfl rfl)
theorem dX4_amend_201 : decode cX4_amend 201 = .ok (.iload_n 1, 1) := dk_27 (dk_at dksX4_amend_8 16 rfl rfl)
theorem dX4_amend_202 : decode cX4_amend 202 = .ok (.aaload, 1) := dk_50 (dk_at dksX4_amend_8 17 rfl rfl)
theorem dX4_amend_203 : decode cX4_amend 203 = .ok (.invokevirtual 277, 3) := dk_182 1 21 (dk_at dksX4_amend_8 18 rfl rfl)
theorem dX4_amend_206 : decode cX4_amend 206 = .ok (.ifCond .ne 10, 3) := dk_154 0 10 (dk_at dksX4_amend_8 21 rfl rfl)
theorem dX4_amend_209 : decode cX4_amend 209 = .ok (.aload_n 0, 1) := dk_42 (dk_at dksX4_amend_9 0 rfl rfl)
theorem dX4_amend_210 : decode cX4_amend 210 = .ok (.bipush 6, 2) := dk_16 6 (dk_at dksX4_amend_9 1 rfl rfl)
theorem dX4_amend_212 : decode cX4_amend 212 = .ok (.invokevirtual 281, 3) := dk_182 1 25 (dk_at dksX4_amend_9 3 rfl rfl)
theorem dX4_amend_215 : decode cX4_amend 215 = .ok (.ireturn, 1) := dk_172 (dk_at dksX4_amend_9 6 rfl rfl)
theorem dX4_amend_216 : decode cX4_amend 216 = .ok (.aload_n 0, 1) := dk_42 (dk_at dksX4_amend_9 7 rfl rfl)
theorem dX4_amend_217 : decode cX4_amend 217 = .ok (.bipush 6, 2) := dk_16 6 (dk_at dksX4_amend_9 8 rfl rfl)
theorem dX4_amend_219 : decode cX4_amend 219 = .ok (.iload_n 1, 1) := dk_27 (dk_at dksX4_amend_9 10 rfl rfl)
theorem dX4_amend_220 : decode cX4_amend 220 = .ok (.aload_n 0, 1) := dk_42 (dk_at dksX4_amend_9 11 rfl rfl)
theorem dX4_amend_221 : decode cX4_amend 221 = .ok (.getfield 33, 3) := dk_180 0 33 (dk_at dksX4_amend_9 12 rfl rfl)
theorem dX4_amend_224 : decode cX4_amend 224 = .ok (.iload_n 1, 1) := dk_27 (dk_at dksX4_amend_9 15 rfl rfl)
theorem dX4_amend_225 : decode cX4_amend 225 = .ok (.aaload, 1) := dk_50 (dk_at dksX4_amend_9 16 rfl rfl)
theorem dX4_amend_226 : decode cX4_amend 226 = .ok (.invokevirtual 245, 3) := dk_182 0 245 (dk_at dksX4_amend_9 17 rfl rfl)
theorem dX4_amend_229 : decode cX4_amend 229 = .ok (.aload_n 0, 1) := dk_42 (dk_at dksX4_amend_9 20 rfl rfl)
theorem dX4_amend_230 : decode cX4_amend 230 = .ok (.getfield 33, 3) := dk_180 0 33 (dk_at dksX4_amend_9 21 rfl rfl)
theorem dX4_amend_233 : decode cX4_amend 233 = .ok (.iload_n 1, 1) := dk_27 (dk_at dksX4_amend_10 0 rfl rfl)
theorem dX4_amend_234 : decode cX4_amend 234 = .ok (.aload 4, 2) := dk_25 4 (dk_at dksX4_amend_10 1 rfl rfl)
theorem dX4_amend_236 : decode cX4_amend 236 = .ok (.aastore, 1) := dk_83 (dk_at dksX4_amend_10 3 rfl rfl)
theorem dX4_amend_237 : decode cX4_amend 237 = .ok (.aload_n 0, 1) := dk_42 (dk_at dksX4_amend_10 4 rfl rfl)
theorem dX4_amend_238 : decode cX4_amend 238 = .ok (.invokevirtual 284, 3) := dk_182 1 28 (dk_at dksX4_amend_10 5 rfl rfl)
theorem dX4_amend_241 : decode cX4_amend 241 = .ok (.ireturn, 1) := dk_172 (dk_at dksX4_amend_10 8 rfl rfl)
abbrev cX4_denied : ByteArray := prog_22_method_4_code
def yX4_denied : MethodName := ⟨RX4, "denied", "(I)Z"⟩
def dkwX4_denied_0 : List UInt8 := [42, 27, 181, 0, 112, 42, 2, 181, 0, 9, 3, 172]
abbrev dktX4_denied_0 : List UInt8 := dkwX4_denied_0 ++ []
theorem dksX4_denied_0 : cX4_denied.data.toList.drop 0 = dktX4_denied_0 := by decide +kernel
theorem dX4_denied_0 : decode cX4_denied 0 = .ok (.aload_n 0, 1) := dk_42 (dk_at dksX4_denied_0 0 rfl rfl)
theorem dX4_denied_1 : decode cX4_denied 1 = .ok (.iload_n 1, 1) := dk_27 (dk_at dksX4_denied_0 1 rfl rfl)
theorem dX4_denied_2 : decode cX4_denied 2 = .ok (.putfield 112, 3) := dk_181 0 112 (dk_at dksX4_denied_0 2 rfl rfl)
theorem dX4_denied_5 : decode cX4_denied 5 = .ok (.aload_n 0, 1) := dk_42 (dk_at dksX4_denied_0 5 rfl rfl)
theorem dX4_denied_6 : decode cX4_denied 6 = .ok (.iconst (-1), 1) := dk_2 (dk_at dksX4_denied_0 6 rfl rfl)
theorem dX4_denied_7 : decode cX4_denied 7 = .ok (.putfield 9, 3) := dk_181 0 9 (dk_at dksX4_denied_0 7 rfl rfl)
theorem dX4_denied_10 : decode cX4_denied 10 = .ok (.iconst 0, 1) := dk_3 (dk_at dksX4_denied_0 10 rfl rfl)
theorem dX4_denied_11 : decode cX4_denied 11 = .ok (.ireturn, 1) := dk_172 (dk_at dksX4_denied_0 11 rfl rfl)
abbrev cX4_granted : ByteArray := prog_22_method_6_code
def yX4_granted : MethodName := ⟨RX4, "granted", "()Z"⟩
def dkwX4_granted_0 : List UInt8 := [42, 3, 181, 0, 112, 42, 2, 181, 0, 9, 4, 172]
abbrev dktX4_granted_0 : List UInt8 := dkwX4_granted_0 ++ []
theorem dksX4_granted_0 : cX4_granted.data.toList.drop 0 = dktX4_granted_0 := by decide +kernel
theorem dX4_granted_0 : decode cX4_granted 0 = .ok (.aload_n 0, 1) := dk_42 (dk_at dksX4_granted_0 0 rfl rfl)
theorem dX4_granted_1 : decode cX4_granted 1 = .ok (.iconst 0, 1) := dk_3 (dk_at dksX4_granted_0 1 rfl rfl)
theorem dX4_granted_2 : decode cX4_granted 2 = .ok (.putfield 112, 3) := dk_181 0 112 (dk_at dksX4_granted_0 2 rfl rfl)
theorem dX4_granted_5 : decode cX4_granted 5 = .ok (.aload_n 0, 1) := dk_42 (dk_at dksX4_granted_0 5 rfl rfl)
theorem dX4_granted_6 : decode cX4_granted 6 = .ok (.iconst (-1), 1) := dk_2 (dk_at dksX4_granted_0 6 rfl rfl)
theorem dX4_granted_7 : decode cX4_granted 7 = .ok (.putfield 9, 3) := dk_181 0 9 (dk_at dksX4_granted_0 7 rfl rfl)
theorem dX4_granted_10 : decode cX4_granted 10 = .ok (.iconst 1, 1) := dk_4 (dk_at dksX4_granted_0 10 rfl rfl)
theorem dX4_granted_11 : decode cX4_granted 11 = .ok (.ireturn, 1) := dk_172 (dk_at dksX4_granted_0 11 rfl rfl)
abbrev cX4_fault : ByteArray := prog_22_method_39_code
def yX4_fault : MethodName := ⟨RX4, "fault", "()I"⟩
def dkwX4_fault_0 : List UInt8 := [42, 3, 181, 0, 109, 42, 180, 0, 217, 172]
abbrev dktX4_fault_0 : List UInt8 := dkwX4_fault_0 ++ []
theorem dksX4_fault_0 : cX4_fault.data.toList.drop 0 = dktX4_fault_0 := by decide +kernel
theorem dX4_fault_0 : decode cX4_fault 0 = .ok (.aload_n 0, 1) := dk_42 (dk_at dksX4_fault_0 0 rfl rfl)
theorem dX4_fault_1 : decode cX4_fault 1 = .ok (.iconst 0, 1) := dk_3 (dk_at dksX4_fault_0 1 rfl rfl)
theorem dX4_fault_2 : decode cX4_fault 2 = .ok (.putfield 109, 3) := dk_181 0 109 (dk_at dksX4_fault_0 2 rfl rfl)
theorem dX4_fault_5 : decode cX4_fault 5 = .ok (.aload_n 0, 1) := dk_42 (dk_at dksX4_fault_0 5 rfl rfl)
theorem dX4_fault_6 : decode cX4_fault 6 = .ok (.getfield 217, 3) := dk_180 0 217 (dk_at dksX4_fault_0 6 rfl rfl)
theorem dX4_fault_9 : decode cX4_fault 9 = .ok (.ireturn, 1) := dk_172 (dk_at dksX4_fault_0 9 rfl rfl)
abbrev cX4_where : ByteArray := prog_22_method_40_code
def yX4_where : MethodName := ⟨RX4, "where", "()I"⟩
def dkwX4_where_0 : List UInt8 := [42, 3, 181, 0, 109, 42, 180, 0, 9, 172]
abbrev dktX4_where_0 : List UInt8 := dkwX4_where_0 ++ []
theorem dksX4_where_0 : cX4_where.data.toList.drop 0 = dktX4_where_0 := by decide +kernel
theorem dX4_where_0 : decode cX4_where 0 = .ok (.aload_n 0, 1) := dk_42 (dk_at dksX4_where_0 0 rfl rfl)
theorem dX4_where_1 : decode cX4_where 1 = .ok (.iconst 0, 1) := dk_3 (dk_at dksX4_where_0 1 rfl rfl)
theorem dX4_where_2 : decode cX4_where 2 = .ok (.putfield 109, 3) := dk_181 0 109 (dk_at dksX4_where_0 2 rfl rfl)
theorem dX4_where_5 : decode cX4_where 5 = .ok (.aload_n 0, 1) := dk_42 (dk_at dksX4_where_0 5 rfl rfl)
theorem dX4_where_6 : decode cX4_where 6 = .ok (.getfield 9, 3) := dk_180 0 9 (dk_at dksX4_where_0 6 rfl rfl)
theorem dX4_where_9 : decode cX4_where 9 = .ok (.ireturn, 1) := dk_172 (dk_at dksX4_where_0 9 rfl rfl)
abbrev cX4_grant : ByteArray := prog_22_method_41_code
def yX4_grant : MethodName := ⟨RX4, "grant", "(I)Z"⟩
def dkwX4_grant_2 : List UInt8 := [16, 7, 27, 1, 182, 0, 245, 42, 182, 1, 28, 172]
abbrev dktX4_grant_2 : List UInt8 := dkwX4_grant_2 ++ []
def dkwX4_grant_1 : List UInt8 := [46, 2, 159, 0, 10, 42, 16, 7, 182, 1, 25, 172, 42, 180, 0, 60, 27, 42, 180, 0, 121, 79, 42]
abbrev dktX4_grant_1 : List UInt8 := dkwX4_grant_1 ++ dktX4_grant_2
def dkwX4_grant_0 : List UInt8 := [42, 3, 181, 0, 109, 42, 27, 182, 1, 14, 154, 0, 9, 42, 4, 182, 1, 25, 172, 42, 180, 0, 60, 27]
abbrev dktX4_grant_0 : List UInt8 := dkwX4_grant_0 ++ dktX4_grant_1
theorem dksX4_grant_0 : cX4_grant.data.toList.drop 0 = dktX4_grant_0 := by decide +kernel
theorem dksX4_grant_1 : cX4_grant.data.toList.drop 24 = dktX4_grant_1 := dk_seg dksX4_grant_0 24 rfl rfl
theorem dksX4_grant_2 : cX4_grant.data.toList.drop 47 = dktX4_grant_2 := dk_seg dksX4_grant_1 23 rfl rfl
theorem dX4_grant_0 : decode cX4_grant 0 = .ok (.aload_n 0, 1) := dk_42 (dk_at dksX4_grant_0 0 rfl rfl)
theorem dX4_grant_1 : decode cX4_grant 1 = .ok (.iconst 0, 1) := dk_3 (dk_at dksX4_grant_0 1 rfl rfl)
theorem dX4_grant_2 : decode cX4_grant 2 = .ok (.putfield 109, 3) := dk_181 0 109 (dk_at dksX4_grant_0 2 rfl rfl)
theorem dX4_grant_5 : decode cX4_grant 5 = .ok (.aload_n 0, 1) := dk_42 (dk_at dksX4_grant_0 5 rfl rfl)
theorem dX4_grant_6 : decode cX4_grant 6 = .ok (.iload_n 1, 1) := dk_27 (dk_at dksX4_grant_0 6 rfl rfl)
theorem dX4_grant_7 : decode cX4_grant 7 = .ok (.invokevirtual 270, 3) := dk_182 1 14 (dk_at dksX4_grant_0 7 rfl rfl)
theorem dX4_grant_10 : decode cX4_grant 10 = .ok (.ifCond .ne 9, 3) := dk_154 0 9 (dk_at dksX4_grant_0 10 rfl rfl)
theorem dX4_grant_13 : decode cX4_grant 13 = .ok (.aload_n 0, 1) := dk_42 (dk_at dksX4_grant_0 13 rfl rfl)
theorem dX4_grant_14 : decode cX4_grant 14 = .ok (.iconst 1, 1) := dk_4 (dk_at dksX4_grant_0 14 rfl rfl)
theorem dX4_grant_15 : decode cX4_grant 15 = .ok (.invokevirtual 281, 3) := dk_182 1 25 (dk_at dksX4_grant_0 15 rfl rfl)
theorem dX4_grant_18 : decode cX4_grant 18 = .ok (.ireturn, 1) := dk_172 (dk_at dksX4_grant_0 18 rfl rfl)
theorem dX4_grant_19 : decode cX4_grant 19 = .ok (.aload_n 0, 1) := dk_42 (dk_at dksX4_grant_0 19 rfl rfl)
theorem dX4_grant_20 : decode cX4_grant 20 = .ok (.getfield 60, 3) := dk_180 0 60 (dk_at dksX4_grant_0 20 rfl rfl)
theorem dX4_grant_23 : decode cX4_grant 23 = .ok (.iload_n 1, 1) := dk_27 (dk_at dksX4_grant_0 23 rfl rfl)
theorem dX4_grant_24 : decode cX4_grant 24 = .ok (.iaload, 1) := dk_46 (dk_at dksX4_grant_1 0 rfl rfl)
theorem dX4_grant_25 : decode cX4_grant 25 = .ok (.iconst (-1), 1) := dk_2 (dk_at dksX4_grant_1 1 rfl rfl)
theorem dX4_grant_26 : decode cX4_grant 26 = .ok (.if_icmp .eq 10, 3) := dk_159 0 10 (dk_at dksX4_grant_1 2 rfl rfl)
theorem dX4_grant_29 : decode cX4_grant 29 = .ok (.aload_n 0, 1) := dk_42 (dk_at dksX4_grant_1 5 rfl rfl)
theorem dX4_grant_30 : decode cX4_grant 30 = .ok (.bipush 7, 2) := dk_16 7 (dk_at dksX4_grant_1 6 rfl rfl)
theorem dX4_grant_32 : decode cX4_grant 32 = .ok (.invokevirtual 281, 3) := dk_182 1 25 (dk_at dksX4_grant_1 8 rfl rfl)
theorem dX4_grant_35 : decode cX4_grant 35 = .ok (.ireturn, 1) := dk_172 (dk_at dksX4_grant_1 11 rfl rfl)
theorem dX4_grant_36 : decode cX4_grant 36 = .ok (.aload_n 0, 1) := dk_42 (dk_at dksX4_grant_1 12 rfl rfl)
theorem dX4_grant_37 : decode cX4_grant 37 = .ok (.getfield 60, 3) := dk_180 0 60 (dk_at dksX4_grant_1 13 rfl rfl)
theorem dX4_grant_40 : decode cX4_grant 40 = .ok (.iload_n 1, 1) := dk_27 (dk_at dksX4_grant_1 16 rfl rfl)
theorem dX4_grant_41 : decode cX4_grant 41 = .ok (.aload_n 0, 1) := dk_42 (dk_at dksX4_grant_1 17 rfl rfl)
theorem dX4_grant_42 : decode cX4_grant 42 = .ok (.getfield 121, 3) := dk_180 0 121 (dk_at dksX4_grant_1 18 rfl rfl)
theorem dX4_grant_45 : decode cX4_grant 45 = .ok (.iastore, 1) := dk_79 (dk_at dksX4_grant_1 21 rfl rfl)
theorem dX4_grant_46 : decode cX4_grant 46 = .ok (.aload_n 0, 1) := dk_42 (dk_at dksX4_grant_1 22 rfl rfl)
theorem dX4_grant_47 : decode cX4_grant 47 = .ok (.bipush 7, 2) := dk_16 7 (dk_at dksX4_grant_2 0 rfl rfl)
theorem dX4_grant_49 : decode cX4_grant 49 = .ok (.iload_n 1, 1) := dk_27 (dk_at dksX4_grant_2 2 rfl rfl)
theorem dX4_grant_50 : decode cX4_grant 50 = .ok (.aconst_null, 1) := dk_1 (dk_at dksX4_grant_2 3 rfl rfl)
theorem dX4_grant_51 : decode cX4_grant 51 = .ok (.invokevirtual 245, 3) := dk_182 0 245 (dk_at dksX4_grant_2 4 rfl rfl)
theorem dX4_grant_54 : decode cX4_grant 54 = .ok (.aload_n 0, 1) := dk_42 (dk_at dksX4_grant_2 7 rfl rfl)
theorem dX4_grant_55 : decode cX4_grant 55 = .ok (.invokevirtual 284, 3) := dk_182 1 28 (dk_at dksX4_grant_2 8 rfl rfl)
theorem dX4_grant_58 : decode cX4_grant 58 = .ok (.ireturn, 1) := dk_172 (dk_at dksX4_grant_2 11 rfl rfl)
abbrev cX4_drop : ByteArray := prog_22_method_42_code
def yX4_drop : MethodName := ⟨RX4, "drop", "(I)Z"⟩
def dkwX4_drop_2 : List UInt8 := [180, 0, 63, 27, 42, 180, 0, 121, 79, 42, 16, 8, 27, 1, 182, 0, 245, 42, 182, 1, 28, 172]
abbrev dktX4_drop_2 : List UInt8 := dkwX4_drop_2 ++ []
def dkwX4_drop_1 : List UInt8 := [46, 2, 159, 0, 13, 42, 180, 0, 63, 27, 46, 2, 159, 0, 10, 42, 16, 7, 182, 1, 25, 172, 42]
abbrev dktX4_drop_1 : List UInt8 := dkwX4_drop_1 ++ dktX4_drop_2
def dkwX4_drop_0 : List UInt8 := [42, 3, 181, 0, 109, 42, 27, 182, 1, 14, 154, 0, 9, 42, 4, 182, 1, 25, 172, 42, 180, 0, 60, 27]
abbrev dktX4_drop_0 : List UInt8 := dkwX4_drop_0 ++ dktX4_drop_1
theorem dksX4_drop_0 : cX4_drop.data.toList.drop 0 = dktX4_drop_0 := by decide +kernel
theorem dksX4_drop_1 : cX4_drop.data.toList.drop 24 = dktX4_drop_1 := dk_seg dksX4_drop_0 24 rfl rfl
theorem dksX4_drop_2 : cX4_drop.data.toList.drop 47 = dktX4_drop_2 := dk_seg dksX4_drop_1 23 rfl rfl
theorem dX4_drop_0 : decode cX4_drop 0 = .ok (.aload_n 0, 1) := dk_42 (dk_at dksX4_drop_0 0 rfl rfl)
theorem dX4_drop_1 : decode cX4_drop 1 = .ok (.iconst 0, 1) := dk_3 (dk_at dksX4_drop_0 1 rfl rfl)
theorem dX4_drop_2 : decode cX4_drop 2 = .ok (.putfield 109, 3) := dk_181 0 109 (dk_at dksX4_drop_0 2 rfl rfl)
theorem dX4_drop_5 : decode cX4_drop 5 = .ok (.aload_n 0, 1) := dk_42 (dk_at dksX4_drop_0 5 rfl rfl)
theorem dX4_drop_6 : decode cX4_drop 6 = .ok (.iload_n 1, 1) := dk_27 (dk_at dksX4_drop_0 6 rfl rfl)
theorem dX4_drop_7 : decode cX4_drop 7 = .ok (.invokevirtual 270, 3) := dk_182 1 14 (dk_at dksX4_drop_0 7 rfl rfl)
theorem dX4_drop_10 : decode cX4_drop 10 = .ok (.ifCond .ne 9, 3) := dk_154 0 9 (dk_at dksX4_drop_0 10 rfl rfl)
theorem dX4_drop_13 : decode cX4_drop 13 = .ok (.aload_n 0, 1) := dk_42 (dk_at dksX4_drop_0 13 rfl rfl)
theorem dX4_drop_14 : decode cX4_drop 14 = .ok (.iconst 1, 1) := dk_4 (dk_at dksX4_drop_0 14 rfl rfl)
theorem dX4_drop_15 : decode cX4_drop 15 = .ok (.invokevirtual 281, 3) := dk_182 1 25 (dk_at dksX4_drop_0 15 rfl rfl)
theorem dX4_drop_18 : decode cX4_drop 18 = .ok (.ireturn, 1) := dk_172 (dk_at dksX4_drop_0 18 rfl rfl)
theorem dX4_drop_19 : decode cX4_drop 19 = .ok (.aload_n 0, 1) := dk_42 (dk_at dksX4_drop_0 19 rfl rfl)
theorem dX4_drop_20 : decode cX4_drop 20 = .ok (.getfield 60, 3) := dk_180 0 60 (dk_at dksX4_drop_0 20 rfl rfl)
theorem dX4_drop_23 : decode cX4_drop 23 = .ok (.iload_n 1, 1) := dk_27 (dk_at dksX4_drop_0 23 rfl rfl)
theorem dX4_drop_24 : decode cX4_drop 24 = .ok (.iaload, 1) := dk_46 (dk_at dksX4_drop_1 0 rfl rfl)
theorem dX4_drop_25 : decode cX4_drop 25 = .ok (.iconst (-1), 1) := dk_2 (dk_at dksX4_drop_1 1 rfl rfl)
theorem dX4_drop_26 : decode cX4_drop 26 = .ok (.if_icmp .eq 13, 3) := dk_159 0 13 (dk_at dksX4_drop_1 2 rfl rfl)
theorem dX4_drop_29 : decode cX4_drop 29 = .ok (.aload_n 0, 1) := dk_42 (dk_at dksX4_drop_1 5 rfl rfl)
theorem dX4_drop_30 : decode cX4_drop 30 = .ok (.getfield 63, 3) := dk_180 0 63 (dk_at dksX4_drop_1 6 rfl rfl)
theorem dX4_drop_33 : decode cX4_drop 33 = .ok (.iload_n 1, 1) := dk_27 (dk_at dksX4_drop_1 9 rfl rfl)
theorem dX4_drop_34 : decode cX4_drop 34 = .ok (.iaload, 1) := dk_46 (dk_at dksX4_drop_1 10 rfl rfl)
theorem dX4_drop_35 : decode cX4_drop 35 = .ok (.iconst (-1), 1) := dk_2 (dk_at dksX4_drop_1 11 rfl rfl)
theorem dX4_drop_36 : decode cX4_drop 36 = .ok (.if_icmp .eq 10, 3) := dk_159 0 10 (dk_at dksX4_drop_1 12 rfl rfl)
theorem dX4_drop_39 : decode cX4_drop 39 = .ok (.aload_n 0, 1) := dk_42 (dk_at dksX4_drop_1 15 rfl rfl)
theorem dX4_drop_40 : decode cX4_drop 40 = .ok (.bipush 7, 2) := dk_16 7 (dk_at dksX4_drop_1 16 rfl rfl)
theorem dX4_drop_42 : decode cX4_drop 42 = .ok (.invokevirtual 281, 3) := dk_182 1 25 (dk_at dksX4_drop_1 18 rfl rfl)
theorem dX4_drop_45 : decode cX4_drop 45 = .ok (.ireturn, 1) := dk_172 (dk_at dksX4_drop_1 21 rfl rfl)
theorem dX4_drop_46 : decode cX4_drop 46 = .ok (.aload_n 0, 1) := dk_42 (dk_at dksX4_drop_1 22 rfl rfl)
theorem dX4_drop_47 : decode cX4_drop 47 = .ok (.getfield 63, 3) := dk_180 0 63 (dk_at dksX4_drop_2 0 rfl rfl)
theorem dX4_drop_50 : decode cX4_drop 50 = .ok (.iload_n 1, 1) := dk_27 (dk_at dksX4_drop_2 3 rfl rfl)
theorem dX4_drop_51 : decode cX4_drop 51 = .ok (.aload_n 0, 1) := dk_42 (dk_at dksX4_drop_2 4 rfl rfl)
theorem dX4_drop_52 : decode cX4_drop 52 = .ok (.getfield 121, 3) := dk_180 0 121 (dk_at dksX4_drop_2 5 rfl rfl)
theorem dX4_drop_55 : decode cX4_drop 55 = .ok (.iastore, 1) := dk_79 (dk_at dksX4_drop_2 8 rfl rfl)
theorem dX4_drop_56 : decode cX4_drop 56 = .ok (.aload_n 0, 1) := dk_42 (dk_at dksX4_drop_2 9 rfl rfl)
theorem dX4_drop_57 : decode cX4_drop 57 = .ok (.bipush 8, 2) := dk_16 8 (dk_at dksX4_drop_2 10 rfl rfl)
theorem dX4_drop_59 : decode cX4_drop 59 = .ok (.iload_n 1, 1) := dk_27 (dk_at dksX4_drop_2 12 rfl rfl)
theorem dX4_drop_60 : decode cX4_drop 60 = .ok (.aconst_null, 1) := dk_1 (dk_at dksX4_drop_2 13 rfl rfl)
theorem dX4_drop_61 : decode cX4_drop 61 = .ok (.invokevirtual 245, 3) := dk_182 0 245 (dk_at dksX4_drop_2 14 rfl rfl)
theorem dX4_drop_64 : decode cX4_drop 64 = .ok (.aload_n 0, 1) := dk_42 (dk_at dksX4_drop_2 17 rfl rfl)
theorem dX4_drop_65 : decode cX4_drop 65 = .ok (.invokevirtual 284, 3) := dk_182 1 28 (dk_at dksX4_drop_2 18 rfl rfl)
theorem dX4_drop_68 : decode cX4_drop 68 = .ok (.ireturn, 1) := dk_172 (dk_at dksX4_drop_2 21 rfl rfl)
abbrev cX4_about : ByteArray := prog_22_method_45_code
def yX4_about : MethodName := ⟨RX4, "about", "(II)I"⟩
def dkwX4_about_5 : List UInt8 := [180, 0, 57, 27, 46, 172, 2, 172]
abbrev dktX4_about_5 : List UInt8 := dkwX4_about_5 ++ []
def dkwX4_about_4 : List UInt8 := [180, 0, 60, 27, 46, 2, 160, 0, 7, 2, 167, 0, 12, 42, 27, 42, 180, 0, 121, 182, 1, 41, 172, 42]
abbrev dktX4_about_4 : List UInt8 := dkwX4_about_4 ++ dktX4_about_5
def dkwX4_about_3 : List UInt8 := [42, 180, 0, 33, 27, 50, 180, 0, 205, 172, 42, 27, 182, 1, 38, 172, 42, 180, 0, 60, 27, 46, 172, 42]
abbrev dktX4_about_3 : List UInt8 := dkwX4_about_3 ++ dktX4_about_4
def dkwX4_about_2 : List UInt8 := [42, 180, 0, 51, 27, 46, 172, 42, 180, 0, 54, 27, 46, 172, 42, 180, 0, 33, 27, 50, 180, 0, 196, 172]
abbrev dktX4_about_2 : List UInt8 := dkwX4_about_2 ++ dktX4_about_3
def dkwX4_about_1 : List UInt8 := [170, 0, 0, 0, 0, 0, 0, 126, 0, 0, 0, 0, 0, 0, 0, 7, 0, 0, 0, 48, 0, 0, 0, 55, 0, 0, 0, 62, 0, 0, 0, 72, 0, 0, 0, 82, 0, 0, 0, 88, 0, 0, 0, 95, 0, 0, 0, 119]
abbrev dktX4_about_1 : List UInt8 := dkwX4_about_1 ++ dktX4_about_2
def dkwX4_about_0 : List UInt8 := [42, 3, 181, 0, 109, 42, 27, 182, 1, 14, 154, 0, 5, 2, 172, 28]
abbrev dktX4_about_0 : List UInt8 := dkwX4_about_0 ++ dktX4_about_1
theorem dksX4_about_0 : cX4_about.data.toList.drop 0 = dktX4_about_0 := by decide +kernel
theorem dksX4_about_1 : cX4_about.data.toList.drop 16 = dktX4_about_1 := dk_seg dksX4_about_0 16 rfl rfl
theorem dksX4_about_2 : cX4_about.data.toList.drop 64 = dktX4_about_2 := dk_seg dksX4_about_1 48 rfl rfl
theorem dksX4_about_3 : cX4_about.data.toList.drop 88 = dktX4_about_3 := dk_seg dksX4_about_2 24 rfl rfl
theorem dksX4_about_4 : cX4_about.data.toList.drop 112 = dktX4_about_4 := dk_seg dksX4_about_3 24 rfl rfl
theorem dksX4_about_5 : cX4_about.data.toList.drop 136 = dktX4_about_5 := dk_seg dksX4_about_4 24 rfl rfl
theorem dX4_about_0 : decode cX4_about 0 = .ok (.aload_n 0, 1) := dk_42 (dk_at dksX4_about_0 0 rfl rfl)
theorem dX4_about_1 : decode cX4_about 1 = .ok (.iconst 0, 1) := dk_3 (dk_at dksX4_about_0 1 rfl rfl)
theorem dX4_about_2 : decode cX4_about 2 = .ok (.putfield 109, 3) := dk_181 0 109 (dk_at dksX4_about_0 2 rfl rfl)
theorem dX4_about_5 : decode cX4_about 5 = .ok (.aload_n 0, 1) := dk_42 (dk_at dksX4_about_0 5 rfl rfl)
theorem dX4_about_6 : decode cX4_about 6 = .ok (.iload_n 1, 1) := dk_27 (dk_at dksX4_about_0 6 rfl rfl)
theorem dX4_about_7 : decode cX4_about 7 = .ok (.invokevirtual 270, 3) := dk_182 1 14 (dk_at dksX4_about_0 7 rfl rfl)
theorem dX4_about_10 : decode cX4_about 10 = .ok (.ifCond .ne 5, 3) := dk_154 0 5 (dk_at dksX4_about_0 10 rfl rfl)
theorem dX4_about_13 : decode cX4_about 13 = .ok (.iconst (-1), 1) := dk_2 (dk_at dksX4_about_0 13 rfl rfl)
theorem dX4_about_14 : decode cX4_about 14 = .ok (.ireturn, 1) := dk_172 (dk_at dksX4_about_0 14 rfl rfl)
theorem dX4_about_15 : decode cX4_about 15 = .ok (.iload_n 2, 1) := dk_28 (dk_at dksX4_about_0 15 rfl rfl)
theorem dX4_about_16 : decode cX4_about 16 = .ok (.tableswitch 126 0 7 #[48, 55, 62, 72, 82, 88, 95, 119], 48) := by decide +kernel
theorem dX4_about_64 : decode cX4_about 64 = .ok (.aload_n 0, 1) := dk_42 (dk_at dksX4_about_2 0 rfl rfl)
theorem dX4_about_65 : decode cX4_about 65 = .ok (.getfield 51, 3) := dk_180 0 51 (dk_at dksX4_about_2 1 rfl rfl)
theorem dX4_about_68 : decode cX4_about 68 = .ok (.iload_n 1, 1) := dk_27 (dk_at dksX4_about_2 4 rfl rfl)
theorem dX4_about_69 : decode cX4_about 69 = .ok (.iaload, 1) := dk_46 (dk_at dksX4_about_2 5 rfl rfl)
theorem dX4_about_70 : decode cX4_about 70 = .ok (.ireturn, 1) := dk_172 (dk_at dksX4_about_2 6 rfl rfl)
theorem dX4_about_71 : decode cX4_about 71 = .ok (.aload_n 0, 1) := dk_42 (dk_at dksX4_about_2 7 rfl rfl)
theorem dX4_about_72 : decode cX4_about 72 = .ok (.getfield 54, 3) := dk_180 0 54 (dk_at dksX4_about_2 8 rfl rfl)
theorem dX4_about_75 : decode cX4_about 75 = .ok (.iload_n 1, 1) := dk_27 (dk_at dksX4_about_2 11 rfl rfl)
theorem dX4_about_76 : decode cX4_about 76 = .ok (.iaload, 1) := dk_46 (dk_at dksX4_about_2 12 rfl rfl)
theorem dX4_about_77 : decode cX4_about 77 = .ok (.ireturn, 1) := dk_172 (dk_at dksX4_about_2 13 rfl rfl)
theorem dX4_about_78 : decode cX4_about 78 = .ok (.aload_n 0, 1) := dk_42 (dk_at dksX4_about_2 14 rfl rfl)
theorem dX4_about_79 : decode cX4_about 79 = .ok (.getfield 33, 3) := dk_180 0 33 (dk_at dksX4_about_2 15 rfl rfl)
theorem dX4_about_82 : decode cX4_about 82 = .ok (.iload_n 1, 1) := dk_27 (dk_at dksX4_about_2 18 rfl rfl)
theorem dX4_about_83 : decode cX4_about 83 = .ok (.aaload, 1) := dk_50 (dk_at dksX4_about_2 19 rfl rfl)
theorem dX4_about_84 : decode cX4_about 84 = .ok (.getfield 196, 3) := dk_180 0 196 (dk_at dksX4_about_2 20 rfl rfl)
theorem dX4_about_87 : decode cX4_about 87 = .ok (.ireturn, 1) := dk_172 (dk_at dksX4_about_2 23 rfl rfl)
theorem dX4_about_88 : decode cX4_about 88 = .ok (.aload_n 0, 1) := dk_42 (dk_at dksX4_about_3 0 rfl rfl)
theorem dX4_about_89 : decode cX4_about 89 = .ok (.getfield 33, 3) := dk_180 0 33 (dk_at dksX4_about_3 1 rfl rfl)
theorem dX4_about_92 : decode cX4_about 92 = .ok (.iload_n 1, 1) := dk_27 (dk_at dksX4_about_3 4 rfl rfl)
theorem dX4_about_93 : decode cX4_about 93 = .ok (.aaload, 1) := dk_50 (dk_at dksX4_about_3 5 rfl rfl)
theorem dX4_about_94 : decode cX4_about 94 = .ok (.getfield 205, 3) := dk_180 0 205 (dk_at dksX4_about_3 6 rfl rfl)
theorem dX4_about_97 : decode cX4_about 97 = .ok (.ireturn, 1) := dk_172 (dk_at dksX4_about_3 9 rfl rfl)
theorem dX4_about_98 : decode cX4_about 98 = .ok (.aload_n 0, 1) := dk_42 (dk_at dksX4_about_3 10 rfl rfl)
theorem dX4_about_99 : decode cX4_about 99 = .ok (.iload_n 1, 1) := dk_27 (dk_at dksX4_about_3 11 rfl rfl)
theorem dX4_about_100 : decode cX4_about 100 = .ok (.invokevirtual 294, 3) := dk_182 1 38 (dk_at dksX4_about_3 12 rfl rfl)
theorem dX4_about_103 : decode cX4_about 103 = .ok (.ireturn, 1) := dk_172 (dk_at dksX4_about_3 15 rfl rfl)
theorem dX4_about_104 : decode cX4_about 104 = .ok (.aload_n 0, 1) := dk_42 (dk_at dksX4_about_3 16 rfl rfl)
theorem dX4_about_105 : decode cX4_about 105 = .ok (.getfield 60, 3) := dk_180 0 60 (dk_at dksX4_about_3 17 rfl rfl)
theorem dX4_about_108 : decode cX4_about 108 = .ok (.iload_n 1, 1) := dk_27 (dk_at dksX4_about_3 20 rfl rfl)
theorem dX4_about_109 : decode cX4_about 109 = .ok (.iaload, 1) := dk_46 (dk_at dksX4_about_3 21 rfl rfl)
theorem dX4_about_110 : decode cX4_about 110 = .ok (.ireturn, 1) := dk_172 (dk_at dksX4_about_3 22 rfl rfl)
theorem dX4_about_111 : decode cX4_about 111 = .ok (.aload_n 0, 1) := dk_42 (dk_at dksX4_about_3 23 rfl rfl)
theorem dX4_about_112 : decode cX4_about 112 = .ok (.getfield 60, 3) := dk_180 0 60 (dk_at dksX4_about_4 0 rfl rfl)
theorem dX4_about_115 : decode cX4_about 115 = .ok (.iload_n 1, 1) := dk_27 (dk_at dksX4_about_4 3 rfl rfl)
theorem dX4_about_116 : decode cX4_about 116 = .ok (.iaload, 1) := dk_46 (dk_at dksX4_about_4 4 rfl rfl)
theorem dX4_about_117 : decode cX4_about 117 = .ok (.iconst (-1), 1) := dk_2 (dk_at dksX4_about_4 5 rfl rfl)
theorem dX4_about_118 : decode cX4_about 118 = .ok (.if_icmp .ne 7, 3) := dk_160 0 7 (dk_at dksX4_about_4 6 rfl rfl)
theorem dX4_about_121 : decode cX4_about 121 = .ok (.iconst (-1), 1) := dk_2 (dk_at dksX4_about_4 9 rfl rfl)
theorem dX4_about_122 : decode cX4_about 122 = .ok (.goto 12, 3) := dk_167 0 12 (dk_at dksX4_about_4 10 rfl rfl)
theorem dX4_about_125 : decode cX4_about 125 = .ok (.aload_n 0, 1) := dk_42 (dk_at dksX4_about_4 13 rfl rfl)
theorem dX4_about_126 : decode cX4_about 126 = .ok (.iload_n 1, 1) := dk_27 (dk_at dksX4_about_4 14 rfl rfl)
theorem dX4_about_127 : decode cX4_about 127 = .ok (.aload_n 0, 1) := dk_42 (dk_at dksX4_about_4 15 rfl rfl)
theorem dX4_about_128 : decode cX4_about 128 = .ok (.getfield 121, 3) := dk_180 0 121 (dk_at dksX4_about_4 16 rfl rfl)
theorem dX4_about_131 : decode cX4_about 131 = .ok (.invokevirtual 297, 3) := dk_182 1 41 (dk_at dksX4_about_4 19 rfl rfl)
theorem dX4_about_134 : decode cX4_about 134 = .ok (.ireturn, 1) := dk_172 (dk_at dksX4_about_4 22 rfl rfl)
theorem dX4_about_135 : decode cX4_about 135 = .ok (.aload_n 0, 1) := dk_42 (dk_at dksX4_about_4 23 rfl rfl)
theorem dX4_about_136 : decode cX4_about 136 = .ok (.getfield 57, 3) := dk_180 0 57 (dk_at dksX4_about_5 0 rfl rfl)
theorem dX4_about_139 : decode cX4_about 139 = .ok (.iload_n 1, 1) := dk_27 (dk_at dksX4_about_5 3 rfl rfl)
theorem dX4_about_140 : decode cX4_about 140 = .ok (.iaload, 1) := dk_46 (dk_at dksX4_about_5 4 rfl rfl)
theorem dX4_about_141 : decode cX4_about 141 = .ok (.ireturn, 1) := dk_172 (dk_at dksX4_about_5 5 rfl rfl)
theorem dX4_about_142 : decode cX4_about 142 = .ok (.iconst (-1), 1) := dk_2 (dk_at dksX4_about_5 6 rfl rfl)
theorem dX4_about_143 : decode cX4_about 143 = .ok (.ireturn, 1) := dk_172 (dk_at dksX4_about_5 7 rfl rfl)
abbrev cX4_dayOf : ByteArray := prog_22_method_43_code
def yX4_dayOf : MethodName := ⟨RX4, "dayOf", "(I)I"⟩
def dkwX4_dayOf_2 : List UInt8 := [61, 167, 255, 215, 42, 180, 0, 45, 28, 46, 172]
abbrev dktX4_dayOf_2 : List UInt8 := dkwX4_dayOf_2 ++ []
def dkwX4_dayOf_1 : List UInt8 := [180, 0, 48, 28, 46, 50, 42, 180, 0, 33, 27, 50, 182, 1, 21, 153, 0, 13, 42, 180, 0, 48, 28, 46]
abbrev dktX4_dayOf_1 : List UInt8 := dkwX4_dayOf_1 ++ dktX4_dayOf_2
def dkwX4_dayOf_0 : List UInt8 := [42, 180, 0, 51, 27, 46, 61, 42, 180, 0, 48, 28, 46, 2, 159, 0, 37, 42, 42, 180, 0, 27, 42]
abbrev dktX4_dayOf_0 : List UInt8 := dkwX4_dayOf_0 ++ dktX4_dayOf_1
theorem dksX4_dayOf_0 : cX4_dayOf.data.toList.drop 0 = dktX4_dayOf_0 := by decide +kernel
theorem dksX4_dayOf_1 : cX4_dayOf.data.toList.drop 23 = dktX4_dayOf_1 := dk_seg dksX4_dayOf_0 23 rfl rfl
theorem dksX4_dayOf_2 : cX4_dayOf.data.toList.drop 47 = dktX4_dayOf_2 := dk_seg dksX4_dayOf_1 24 rfl rfl
theorem dX4_dayOf_0 : decode cX4_dayOf 0 = .ok (.aload_n 0, 1) := dk_42 (dk_at dksX4_dayOf_0 0 rfl rfl)
theorem dX4_dayOf_1 : decode cX4_dayOf 1 = .ok (.getfield 51, 3) := dk_180 0 51 (dk_at dksX4_dayOf_0 1 rfl rfl)
theorem dX4_dayOf_4 : decode cX4_dayOf 4 = .ok (.iload_n 1, 1) := dk_27 (dk_at dksX4_dayOf_0 4 rfl rfl)
theorem dX4_dayOf_5 : decode cX4_dayOf 5 = .ok (.iaload, 1) := dk_46 (dk_at dksX4_dayOf_0 5 rfl rfl)
theorem dX4_dayOf_6 : decode cX4_dayOf 6 = .ok (.istore_n 2, 1) := dk_61 (dk_at dksX4_dayOf_0 6 rfl rfl)
theorem dX4_dayOf_7 : decode cX4_dayOf 7 = .ok (.aload_n 0, 1) := dk_42 (dk_at dksX4_dayOf_0 7 rfl rfl)
theorem dX4_dayOf_8 : decode cX4_dayOf 8 = .ok (.getfield 48, 3) := dk_180 0 48 (dk_at dksX4_dayOf_0 8 rfl rfl)
theorem dX4_dayOf_11 : decode cX4_dayOf 11 = .ok (.iload_n 2, 1) := dk_28 (dk_at dksX4_dayOf_0 11 rfl rfl)
theorem dX4_dayOf_12 : decode cX4_dayOf 12 = .ok (.iaload, 1) := dk_46 (dk_at dksX4_dayOf_0 12 rfl rfl)
theorem dX4_dayOf_13 : decode cX4_dayOf 13 = .ok (.iconst (-1), 1) := dk_2 (dk_at dksX4_dayOf_0 13 rfl rfl)
theorem dX4_dayOf_14 : decode cX4_dayOf 14 = .ok (.if_icmp .eq 37, 3) := dk_159 0 37 (dk_at dksX4_dayOf_0 14 rfl rfl)
theorem dX4_dayOf_17 : decode cX4_dayOf 17 = .ok (.aload_n 0, 1) := dk_42 (dk_at dksX4_dayOf_0 17 rfl rfl)
theorem dX4_dayOf_18 : decode cX4_dayOf 18 = .ok (.aload_n 0, 1) := dk_42 (dk_at dksX4_dayOf_0 18 rfl rfl)
theorem dX4_dayOf_19 : decode cX4_dayOf 19 = .ok (.getfield 27, 3) := dk_180 0 27 (dk_at dksX4_dayOf_0 19 rfl rfl)
theorem dX4_dayOf_22 : decode cX4_dayOf 22 = .ok (.aload_n 0, 1) := dk_42 (dk_at dksX4_dayOf_0 22 rfl rfl)
theorem dX4_dayOf_23 : decode cX4_dayOf 23 = .ok (.getfield 48, 3) := dk_180 0 48 (dk_at dksX4_dayOf_1 0 rfl rfl)
theorem dX4_dayOf_26 : decode cX4_dayOf 26 = .ok (.iload_n 2, 1) := dk_28 (dk_at dksX4_dayOf_1 3 rfl rfl)
theorem dX4_dayOf_27 : decode cX4_dayOf 27 = .ok (.iaload, 1) := dk_46 (dk_at dksX4_dayOf_1 4 rfl rfl)
theorem dX4_dayOf_28 : decode cX4_dayOf 28 = .ok (.aaload, 1) := dk_50 (dk_at dksX4_dayOf_1 5 rfl rfl)
theorem dX4_dayOf_29 : decode cX4_dayOf 29 = .ok (.aload_n 0, 1) := dk_42 (dk_at dksX4_dayOf_1 6 rfl rfl)
theorem dX4_dayOf_30 : decode cX4_dayOf 30 = .ok (.getfield 33, 3) := dk_180 0 33 (dk_at dksX4_dayOf_1 7 rfl rfl)
theorem dX4_dayOf_33 : decode cX4_dayOf 33 = .ok (.iload_n 1, 1) := dk_27 (dk_at dksX4_dayOf_1 10 rfl rfl)
theorem dX4_dayOf_34 : decode cX4_dayOf 34 = .ok (.aaload, 1) := dk_50 (dk_at dksX4_dayOf_1 11 rfl rfl)
theorem dX4_dayOf_35 : decode cX4_dayOf 35 = .ok (.invokevirtual 277, 3) := dk_182 1 21 (dk_at dksX4_dayOf_1 12 rfl rfl)
theorem dX4_dayOf_38 : decode cX4_dayOf 38 = .ok (.ifCond .eq 13, 3) := dk_153 0 13 (dk_at dksX4_dayOf_1 15 rfl rfl)
theorem dX4_dayOf_41 : decode cX4_dayOf 41 = .ok (.aload_n 0, 1) := dk_42 (dk_at dksX4_dayOf_1 18 rfl rfl)
theorem dX4_dayOf_42 : decode cX4_dayOf 42 = .ok (.getfield 48, 3) := dk_180 0 48 (dk_at dksX4_dayOf_1 19 rfl rfl)
theorem dX4_dayOf_45 : decode cX4_dayOf 45 = .ok (.iload_n 2, 1) := dk_28 (dk_at dksX4_dayOf_1 22 rfl rfl)
theorem dX4_dayOf_46 : decode cX4_dayOf 46 = .ok (.iaload, 1) := dk_46 (dk_at dksX4_dayOf_1 23 rfl rfl)
theorem dX4_dayOf_47 : decode cX4_dayOf 47 = .ok (.istore_n 2, 1) := dk_61 (dk_at dksX4_dayOf_2 0 rfl rfl)
theorem dX4_dayOf_48 : decode cX4_dayOf 48 = .ok (.goto (-41), 3) := dk_167 255 215 (dk_at dksX4_dayOf_2 1 rfl rfl)
theorem dX4_dayOf_51 : decode cX4_dayOf 51 = .ok (.aload_n 0, 1) := dk_42 (dk_at dksX4_dayOf_2 4 rfl rfl)
theorem dX4_dayOf_52 : decode cX4_dayOf 52 = .ok (.getfield 45, 3) := dk_180 0 45 (dk_at dksX4_dayOf_2 5 rfl rfl)
theorem dX4_dayOf_55 : decode cX4_dayOf 55 = .ok (.iload_n 2, 1) := dk_28 (dk_at dksX4_dayOf_2 8 rfl rfl)
theorem dX4_dayOf_56 : decode cX4_dayOf 56 = .ok (.iaload, 1) := dk_46 (dk_at dksX4_dayOf_2 9 rfl rfl)
theorem dX4_dayOf_57 : decode cX4_dayOf 57 = .ok (.ireturn, 1) := dk_172 (dk_at dksX4_dayOf_2 10 rfl rfl)
abbrev cX4_endOf : ByteArray := prog_22_method_44_code
def yX4_endOf : MethodName := ⟨RX4, "endOf", "(II)I"⟩
def dkwX4_endOf_2 : List UInt8 := [167, 0, 4, 29, 172]
abbrev dktX4_endOf_2 : List UInt8 := dkwX4_endOf_2 ++ []
def dkwX4_endOf_1 : List UInt8 := [159, 0, 26, 42, 180, 0, 63, 27, 46, 28, 163, 0, 16, 29, 42, 180, 0, 63, 27, 46, 184, 1, 32]
abbrev dktX4_endOf_1 : List UInt8 := dkwX4_endOf_1 ++ dktX4_endOf_2
def dkwX4_endOf_0 : List UInt8 := [42, 180, 0, 45, 42, 180, 0, 51, 27, 46, 46, 17, 28, 132, 96, 62, 42, 180, 0, 63, 27, 46, 2]
abbrev dktX4_endOf_0 : List UInt8 := dkwX4_endOf_0 ++ dktX4_endOf_1
theorem dksX4_endOf_0 : cX4_endOf.data.toList.drop 0 = dktX4_endOf_0 := by decide +kernel
theorem dksX4_endOf_1 : cX4_endOf.data.toList.drop 23 = dktX4_endOf_1 := dk_seg dksX4_endOf_0 23 rfl rfl
theorem dksX4_endOf_2 : cX4_endOf.data.toList.drop 46 = dktX4_endOf_2 := dk_seg dksX4_endOf_1 23 rfl rfl
theorem dX4_endOf_0 : decode cX4_endOf 0 = .ok (.aload_n 0, 1) := dk_42 (dk_at dksX4_endOf_0 0 rfl rfl)
theorem dX4_endOf_1 : decode cX4_endOf 1 = .ok (.getfield 45, 3) := dk_180 0 45 (dk_at dksX4_endOf_0 1 rfl rfl)
theorem dX4_endOf_4 : decode cX4_endOf 4 = .ok (.aload_n 0, 1) := dk_42 (dk_at dksX4_endOf_0 4 rfl rfl)
theorem dX4_endOf_5 : decode cX4_endOf 5 = .ok (.getfield 51, 3) := dk_180 0 51 (dk_at dksX4_endOf_0 5 rfl rfl)
theorem dX4_endOf_8 : decode cX4_endOf 8 = .ok (.iload_n 1, 1) := dk_27 (dk_at dksX4_endOf_0 8 rfl rfl)
theorem dX4_endOf_9 : decode cX4_endOf 9 = .ok (.iaload, 1) := dk_46 (dk_at dksX4_endOf_0 9 rfl rfl)
theorem dX4_endOf_10 : decode cX4_endOf 10 = .ok (.iaload, 1) := dk_46 (dk_at dksX4_endOf_0 10 rfl rfl)
theorem dX4_endOf_11 : decode cX4_endOf 11 = .ok (.sipush 7300, 3) := dk_17 28 132 (dk_at dksX4_endOf_0 11 rfl rfl)
theorem dX4_endOf_14 : decode cX4_endOf 14 = .ok (.iadd, 1) := dk_96 (dk_at dksX4_endOf_0 14 rfl rfl)
theorem dX4_endOf_15 : decode cX4_endOf 15 = .ok (.istore_n 3, 1) := dk_62 (dk_at dksX4_endOf_0 15 rfl rfl)
theorem dX4_endOf_16 : decode cX4_endOf 16 = .ok (.aload_n 0, 1) := dk_42 (dk_at dksX4_endOf_0 16 rfl rfl)
theorem dX4_endOf_17 : decode cX4_endOf 17 = .ok (.getfield 63, 3) := dk_180 0 63 (dk_at dksX4_endOf_0 17 rfl rfl)
theorem dX4_endOf_20 : decode cX4_endOf 20 = .ok (.iload_n 1, 1) := dk_27 (dk_at dksX4_endOf_0 20 rfl rfl)
theorem dX4_endOf_21 : decode cX4_endOf 21 = .ok (.iaload, 1) := dk_46 (dk_at dksX4_endOf_0 21 rfl rfl)
theorem dX4_endOf_22 : decode cX4_endOf 22 = .ok (.iconst (-1), 1) := dk_2 (dk_at dksX4_endOf_0 22 rfl rfl)
theorem dX4_endOf_23 : decode cX4_endOf 23 = .ok (.if_icmp .eq 26, 3) := dk_159 0 26 (dk_at dksX4_endOf_1 0 rfl rfl)
theorem dX4_endOf_26 : decode cX4_endOf 26 = .ok (.aload_n 0, 1) := dk_42 (dk_at dksX4_endOf_1 3 rfl rfl)
theorem dX4_endOf_27 : decode cX4_endOf 27 = .ok (.getfield 63, 3) := dk_180 0 63 (dk_at dksX4_endOf_1 4 rfl rfl)
theorem dX4_endOf_30 : decode cX4_endOf 30 = .ok (.iload_n 1, 1) := dk_27 (dk_at dksX4_endOf_1 7 rfl rfl)
theorem dX4_endOf_31 : decode cX4_endOf 31 = .ok (.iaload, 1) := dk_46 (dk_at dksX4_endOf_1 8 rfl rfl)
theorem dX4_endOf_32 : decode cX4_endOf 32 = .ok (.iload_n 2, 1) := dk_28 (dk_at dksX4_endOf_1 9 rfl rfl)
theorem dX4_endOf_33 : decode cX4_endOf 33 = .ok (.if_icmp .gt 16, 3) := dk_163 0 16 (dk_at dksX4_endOf_1 10 rfl rfl)
theorem dX4_endOf_36 : decode cX4_endOf 36 = .ok (.iload_n 3, 1) := dk_29 (dk_at dksX4_endOf_1 13 rfl rfl)
theorem dX4_endOf_37 : decode cX4_endOf 37 = .ok (.aload_n 0, 1) := dk_42 (dk_at dksX4_endOf_1 14 rfl rfl)
theorem dX4_endOf_38 : decode cX4_endOf 38 = .ok (.getfield 63, 3) := dk_180 0 63 (dk_at dksX4_endOf_1 15 rfl rfl)
theorem dX4_endOf_41 : decode cX4_endOf 41 = .ok (.iload_n 1, 1) := dk_27 (dk_at dksX4_endOf_1 18 rfl rfl)
theorem dX4_endOf_42 : decode cX4_endOf 42 = .ok (.iaload, 1) := dk_46 (dk_at dksX4_endOf_1 19 rfl rfl)
theorem dX4_endOf_43 : decode cX4_endOf 43 = .ok (.invokestatic 288, 3) := dk_184 1 32 (dk_at dksX4_endOf_1 20 rfl rfl)
theorem dX4_endOf_46 : decode cX4_endOf 46 = .ok (.goto 4, 3) := dk_167 0 4 (dk_at dksX4_endOf_2 0 rfl rfl)
theorem dX4_endOf_49 : decode cX4_endOf 49 = .ok (.iload_n 3, 1) := dk_29 (dk_at dksX4_endOf_2 3 rfl rfl)
theorem dX4_endOf_50 : decode cX4_endOf 50 = .ok (.ireturn, 1) := dk_172 (dk_at dksX4_endOf_2 4 rfl rfl)
abbrev cX4_finds : ByteArray := prog_22_method_46_code
def yX4_finds : MethodName := ⟨RX4, "finds", "(III)I"⟩
def dkwX4_finds_7 : List UInt8 := [180, 0, 89, 21, 6, 46, 79, 132, 6, 1, 167, 255, 230, 42, 21, 5, 182, 0, 249, 172]
abbrev dktX4_finds_7 : List UInt8 := dkwX4_finds_7 ++ []
def dkwX4_finds_6 : List UInt8 := [181, 1, 47, 3, 54, 6, 21, 6, 42, 180, 1, 47, 162, 0, 23, 42, 180, 0, 92, 21, 6, 42]
abbrev dktX4_finds_6 : List UInt8 := dkwX4_finds_6 ++ dktX4_finds_7
def dkwX4_finds_5 : List UInt8 := [182, 0, 235, 54, 5, 42, 21, 5, 154, 0, 7, 3, 167, 0, 12, 42, 180, 0, 33, 27, 50, 180, 0, 196]
abbrev dktX4_finds_5 : List UInt8 := dkwX4_finds_5 ++ dktX4_finds_6
def dkwX4_finds_4 : List UInt8 := [25, 4, 199, 0, 9, 42, 4, 182, 0, 239, 172, 42, 42, 180, 0, 33, 27, 50, 25, 4, 19, 1, 46]
abbrev dktX4_finds_4 : List UInt8 := dkwX4_finds_4 ++ dktX4_finds_5
def dkwX4_finds_3 : List UInt8 := [162, 0, 12, 42, 180, 0, 30, 29, 50, 167, 0, 4, 1, 58, 4, 42, 27, 182, 1, 14, 153, 0, 8]
abbrev dktX4_finds_3 : List UInt8 := dkwX4_finds_3 ++ dktX4_finds_4
def dkwX4_finds_2 : List UInt8 := [180, 0, 27, 29, 50, 167, 0, 30, 28, 5, 160, 0, 24, 29, 155, 0, 20, 29, 42, 180, 0, 127]
abbrev dktX4_finds_2 : List UInt8 := dkwX4_finds_2 ++ dktX4_finds_3
def dkwX4_finds_1 : List UInt8 := [180, 0, 23, 29, 50, 167, 0, 52, 28, 4, 160, 0, 20, 42, 29, 182, 1, 11, 153, 0, 12, 42]
abbrev dktX4_finds_1 : List UInt8 := dkwX4_finds_1 ++ dktX4_finds_2
def dkwX4_finds_0 : List UInt8 := [42, 3, 181, 0, 109, 28, 154, 0, 24, 29, 155, 0, 20, 29, 42, 180, 0, 124, 162, 0, 12, 42]
abbrev dktX4_finds_0 : List UInt8 := dkwX4_finds_0 ++ dktX4_finds_1
theorem dksX4_finds_0 : cX4_finds.data.toList.drop 0 = dktX4_finds_0 := by decide +kernel
theorem dksX4_finds_1 : cX4_finds.data.toList.drop 22 = dktX4_finds_1 := dk_seg dksX4_finds_0 22 rfl rfl
theorem dksX4_finds_2 : cX4_finds.data.toList.drop 44 = dktX4_finds_2 := dk_seg dksX4_finds_1 22 rfl rfl
theorem dksX4_finds_3 : cX4_finds.data.toList.drop 66 = dktX4_finds_3 := dk_seg dksX4_finds_2 22 rfl rfl
theorem dksX4_finds_4 : cX4_finds.data.toList.drop 89 = dktX4_finds_4 := dk_seg dksX4_finds_3 23 rfl rfl
theorem dksX4_finds_5 : cX4_finds.data.toList.drop 112 = dktX4_finds_5 := dk_seg dksX4_finds_4 23 rfl rfl
theorem dksX4_finds_6 : cX4_finds.data.toList.drop 136 = dktX4_finds_6 := dk_seg dksX4_finds_5 24 rfl rfl
theorem dksX4_finds_7 : cX4_finds.data.toList.drop 158 = dktX4_finds_7 := dk_seg dksX4_finds_6 22 rfl rfl
theorem dX4_finds_0 : decode cX4_finds 0 = .ok (.aload_n 0, 1) := dk_42 (dk_at dksX4_finds_0 0 rfl rfl)
theorem dX4_finds_1 : decode cX4_finds 1 = .ok (.iconst 0, 1) := dk_3 (dk_at dksX4_finds_0 1 rfl rfl)
theorem dX4_finds_2 : decode cX4_finds 2 = .ok (.putfield 109, 3) := dk_181 0 109 (dk_at dksX4_finds_0 2 rfl rfl)
theorem dX4_finds_5 : decode cX4_finds 5 = .ok (.iload_n 2, 1) := dk_28 (dk_at dksX4_finds_0 5 rfl rfl)
theorem dX4_finds_6 : decode cX4_finds 6 = .ok (.ifCond .ne 24, 3) := dk_154 0 24 (dk_at dksX4_finds_0 6 rfl rfl)
theorem dX4_finds_9 : decode cX4_finds 9 = .ok (.iload_n 3, 1) := dk_29 (dk_at dksX4_finds_0 9 rfl rfl)
theorem dX4_finds_10 : decode cX4_finds 10 = .ok (.ifCond .lt 20, 3) := dk_155 0 20 (dk_at dksX4_finds_0 10 rfl rfl)
theorem dX4_finds_13 : decode cX4_finds 13 = .ok (.iload_n 3, 1) := dk_29 (dk_at dksX4_finds_0 13 rfl rfl)
theorem dX4_finds_14 : decode cX4_finds 14 = .ok (.aload_n 0, 1) := dk_42 (dk_at dksX4_finds_0 14 rfl rfl)
theorem dX4_finds_15 : decode cX4_finds 15 = .ok (.getfield 124, 3) := dk_180 0 124 (dk_at dksX4_finds_0 15 rfl rfl)
theorem dX4_finds_18 : decode cX4_finds 18 = .ok (.if_icmp .ge 12, 3) := dk_162 0 12 (dk_at dksX4_finds_0 18 rfl rfl)
theorem dX4_finds_21 : decode cX4_finds 21 = .ok (.aload_n 0, 1) := dk_42 (dk_at dksX4_finds_0 21 rfl rfl)
theorem dX4_finds_22 : decode cX4_finds 22 = .ok (.getfield 23, 3) := dk_180 0 23 (dk_at dksX4_finds_1 0 rfl rfl)
theorem dX4_finds_25 : decode cX4_finds 25 = .ok (.iload_n 3, 1) := dk_29 (dk_at dksX4_finds_1 3 rfl rfl)
theorem dX4_finds_26 : decode cX4_finds 26 = .ok (.aaload, 1) := dk_50 (dk_at dksX4_finds_1 4 rfl rfl)
theorem dX4_finds_27 : decode cX4_finds 27 = .ok (.goto 52, 3) := dk_167 0 52 (dk_at dksX4_finds_1 5 rfl rfl)
theorem dX4_finds_30 : decode cX4_finds 30 = .ok (.iload_n 2, 1) := dk_28 (dk_at dksX4_finds_1 8 rfl rfl)
theorem dX4_finds_31 : decode cX4_finds 31 = .ok (.iconst 1, 1) := dk_4 (dk_at dksX4_finds_1 9 rfl rfl)
theorem dX4_finds_32 : decode cX4_finds 32 = .ok (.if_icmp .ne 20, 3) := dk_160 0 20 (dk_at dksX4_finds_1 10 rfl rfl)
theorem dX4_finds_35 : decode cX4_finds 35 = .ok (.aload_n 0, 1) := dk_42 (dk_at dksX4_finds_1 13 rfl rfl)
theorem dX4_finds_36 : decode cX4_finds 36 = .ok (.iload_n 3, 1) := dk_29 (dk_at dksX4_finds_1 14 rfl rfl)
theorem dX4_finds_37 : decode cX4_finds 37 = .ok (.invokevirtual 267, 3) := dk_182 1 11 (dk_at dksX4_finds_1 15 rfl rfl)
theorem dX4_finds_40 : decode cX4_finds 40 = .ok (.ifCond .eq 12, 3) := dk_153 0 12 (dk_at dksX4_finds_1 18 rfl rfl)
theorem dX4_finds_43 : decode cX4_finds 43 = .ok (.aload_n 0, 1) := dk_42 (dk_at dksX4_finds_1 21 rfl rfl)
theorem dX4_finds_44 : decode cX4_finds 44 = .ok (.getfield 27, 3) := dk_180 0 27 (dk_at dksX4_finds_2 0 rfl rfl)
theorem dX4_finds_47 : decode cX4_finds 47 = .ok (.iload_n 3, 1) := dk_29 (dk_at dksX4_finds_2 3 rfl rfl)
theorem dX4_finds_48 : decode cX4_finds 48 = .ok (.aaload, 1) := dk_50 (dk_at dksX4_finds_2 4 rfl rfl)
theorem dX4_finds_49 : decode cX4_finds 49 = .ok (.goto 30, 3) := dk_167 0 30 (dk_at dksX4_finds_2 5 rfl rfl)
theorem dX4_finds_52 : decode cX4_finds 52 = .ok (.iload_n 2, 1) := dk_28 (dk_at dksX4_finds_2 8 rfl rfl)
theorem dX4_finds_53 : decode cX4_finds 53 = .ok (.iconst 2, 1) := dk_5 (dk_at dksX4_finds_2 9 rfl rfl)
theorem dX4_finds_54 : decode cX4_finds 54 = .ok (.if_icmp .ne 24, 3) := dk_160 0 24 (dk_at dksX4_finds_2 10 rfl rfl)
theorem dX4_finds_57 : decode cX4_finds 57 = .ok (.iload_n 3, 1) := dk_29 (dk_at dksX4_finds_2 13 rfl rfl)
theorem dX4_finds_58 : decode cX4_finds 58 = .ok (.ifCond .lt 20, 3) := dk_155 0 20 (dk_at dksX4_finds_2 14 rfl rfl)
theorem dX4_finds_61 : decode cX4_finds 61 = .ok (.iload_n 3, 1) := dk_29 (dk_at dksX4_finds_2 17 rfl rfl)
theorem dX4_finds_62 : decode cX4_finds 62 = .ok (.aload_n 0, 1) := dk_42 (dk_at dksX4_finds_2 18 rfl rfl)
theorem dX4_finds_63 : decode cX4_finds 63 = .ok (.getfield 127, 3) := dk_180 0 127 (dk_at dksX4_finds_2 19 rfl rfl)
theorem dX4_finds_66 : decode cX4_finds 66 = .ok (.if_icmp .ge 12, 3) := dk_162 0 12 (dk_at dksX4_finds_3 0 rfl rfl)
theorem dX4_finds_69 : decode cX4_finds 69 = .ok (.aload_n 0, 1) := dk_42 (dk_at dksX4_finds_3 3 rfl rfl)
theorem dX4_finds_70 : decode cX4_finds 70 = .ok (.getfield 30, 3) := dk_180 0 30 (dk_at dksX4_finds_3 4 rfl rfl)
theorem dX4_finds_73 : decode cX4_finds 73 = .ok (.iload_n 3, 1) := dk_29 (dk_at dksX4_finds_3 7 rfl rfl)
theorem dX4_finds_74 : decode cX4_finds 74 = .ok (.aaload, 1) := dk_50 (dk_at dksX4_finds_3 8 rfl rfl)
theorem dX4_finds_75 : decode cX4_finds 75 = .ok (.goto 4, 3) := dk_167 0 4 (dk_at dksX4_finds_3 9 rfl rfl)
theorem dX4_finds_78 : decode cX4_finds 78 = .ok (.aconst_null, 1) := dk_1 (dk_at dksX4_finds_3 12 rfl rfl)
theorem dX4_finds_79 : decode cX4_finds 79 = .ok (.astore 4, 2) := dk_58 4 (dk_at dksX4_finds_3 13 rfl rfl)
theorem dX4_finds_81 : decode cX4_finds 81 = .ok (.aload_n 0, 1) := dk_42 (dk_at dksX4_finds_3 15 rfl rfl)
theorem dX4_finds_82 : decode cX4_finds 82 = .ok (.iload_n 1, 1) := dk_27 (dk_at dksX4_finds_3 16 rfl rfl)
theorem dX4_finds_83 : decode cX4_finds 83 = .ok (.invokevirtual 270, 3) := dk_182 1 14 (dk_at dksX4_finds_3 17 rfl rfl)
theorem dX4_finds_86 : decode cX4_finds 86 = .ok (.ifCond .eq 8, 3) := dk_153 0 8 (dk_at dksX4_finds_3 20 rfl rfl)
theorem dX4_finds_89 : decode cX4_finds 89 = .ok (.aload 4, 2) := dk_25 4 (dk_at dksX4_finds_4 0 rfl rfl)
theorem dX4_finds_91 : decode cX4_finds 91 = .ok (.ifnonnull 9, 3) := dk_199 0 9 (dk_at dksX4_finds_4 2 rfl rfl)
theorem dX4_finds_94 : decode cX4_finds 94 = .ok (.aload_n 0, 1) := dk_42 (dk_at dksX4_finds_4 5 rfl rfl)
theorem dX4_finds_95 : decode cX4_finds 95 = .ok (.iconst 1, 1) := dk_4 (dk_at dksX4_finds_4 6 rfl rfl)
theorem dX4_finds_96 : decode cX4_finds 96 = .ok (.invokevirtual 239, 3) := dk_182 0 239 (dk_at dksX4_finds_4 7 rfl rfl)
theorem dX4_finds_99 : decode cX4_finds 99 = .ok (.ireturn, 1) := dk_172 (dk_at dksX4_finds_4 10 rfl rfl)
theorem dX4_finds_100 : decode cX4_finds 100 = .ok (.aload_n 0, 1) := dk_42 (dk_at dksX4_finds_4 11 rfl rfl)
theorem dX4_finds_101 : decode cX4_finds 101 = .ok (.aload_n 0, 1) := dk_42 (dk_at dksX4_finds_4 12 rfl rfl)
theorem dX4_finds_102 : decode cX4_finds 102 = .ok (.getfield 33, 3) := dk_180 0 33 (dk_at dksX4_finds_4 13 rfl rfl)
theorem dX4_finds_105 : decode cX4_finds 105 = .ok (.iload_n 1, 1) := dk_27 (dk_at dksX4_finds_4 16 rfl rfl)
theorem dX4_finds_106 : decode cX4_finds 106 = .ok (.aaload, 1) := dk_50 (dk_at dksX4_finds_4 17 rfl rfl)
theorem dX4_finds_107 : decode cX4_finds 107 = .ok (.aload 4, 2) := dk_25 4 (dk_at dksX4_finds_4 18 rfl rfl)
theorem dX4_finds_109 : decode cX4_finds 109 = .ok (.ldc_w 302, 3) := dk_19 1 46 (dk_at dksX4_finds_4 20 rfl rfl)
theorem dX4_finds_112 : decode cX4_finds 112 = .ok (.invokevirtual 235, 3) := dk_182 0 235 (dk_at dksX4_finds_5 0 rfl rfl)
theorem dX4_finds_115 : decode cX4_finds 115 = .ok (.istore 5, 2) := dk_54 5 (dk_at dksX4_finds_5 3 rfl rfl)
theorem dX4_finds_117 : decode cX4_finds 117 = .ok (.aload_n 0, 1) := dk_42 (dk_at dksX4_finds_5 5 rfl rfl)
theorem dX4_finds_118 : decode cX4_finds 118 = .ok (.iload 5, 2) := dk_21 5 (dk_at dksX4_finds_5 6 rfl rfl)
theorem dX4_finds_120 : decode cX4_finds 120 = .ok (.ifCond .ne 7, 3) := dk_154 0 7 (dk_at dksX4_finds_5 8 rfl rfl)
theorem dX4_finds_123 : decode cX4_finds 123 = .ok (.iconst 0, 1) := dk_3 (dk_at dksX4_finds_5 11 rfl rfl)
theorem dX4_finds_124 : decode cX4_finds 124 = .ok (.goto 12, 3) := dk_167 0 12 (dk_at dksX4_finds_5 12 rfl rfl)
theorem dX4_finds_127 : decode cX4_finds 127 = .ok (.aload_n 0, 1) := dk_42 (dk_at dksX4_finds_5 15 rfl rfl)
theorem dX4_finds_128 : decode cX4_finds 128 = .ok (.getfield 33, 3) := dk_180 0 33 (dk_at dksX4_finds_5 16 rfl rfl)
theorem dX4_finds_131 : decode cX4_finds 131 = .ok (.iload_n 1, 1) := dk_27 (dk_at dksX4_finds_5 19 rfl rfl)
theorem dX4_finds_132 : decode cX4_finds 132 = .ok (.aaload, 1) := dk_50 (dk_at dksX4_finds_5 20 rfl rfl)
theorem dX4_finds_133 : decode cX4_finds 133 = .ok (.getfield 196, 3) := dk_180 0 196 (dk_at dksX4_finds_5 21 rfl rfl)
theorem dX4_finds_136 : decode cX4_finds 136 = .ok (.putfield 303, 3) := dk_181 1 47 (dk_at dksX4_finds_6 0 rfl rfl)
theorem dX4_finds_139 : decode cX4_finds 139 = .ok (.iconst 0, 1) := dk_3 (dk_at dksX4_finds_6 3 rfl rfl)
theorem dX4_finds_140 : decode cX4_finds 140 = .ok (.istore 6, 2) := dk_54 6 (dk_at dksX4_finds_6 4 rfl rfl)
theorem dX4_finds_142 : decode cX4_finds 142 = .ok (.iload 6, 2) := dk_21 6 (dk_at dksX4_finds_6 6 rfl rfl)
theorem dX4_finds_144 : decode cX4_finds 144 = .ok (.aload_n 0, 1) := dk_42 (dk_at dksX4_finds_6 8 rfl rfl)
theorem dX4_finds_145 : decode cX4_finds 145 = .ok (.getfield 303, 3) := dk_180 1 47 (dk_at dksX4_finds_6 9 rfl rfl)
theorem dX4_finds_148 : decode cX4_finds 148 = .ok (.if_icmp .ge 23, 3) := dk_162 0 23 (dk_at dksX4_finds_6 12 rfl rfl)
theorem dX4_finds_151 : decode cX4_finds 151 = .ok (.aload_n 0, 1) := dk_42 (dk_at dksX4_finds_6 15 rfl rfl)
theorem dX4_finds_152 : decode cX4_finds 152 = .ok (.getfield 92, 3) := dk_180 0 92 (dk_at dksX4_finds_6 16 rfl rfl)
theorem dX4_finds_155 : decode cX4_finds 155 = .ok (.iload 6, 2) := dk_21 6 (dk_at dksX4_finds_6 19 rfl rfl)
theorem dX4_finds_157 : decode cX4_finds 157 = .ok (.aload_n 0, 1) := dk_42 (dk_at dksX4_finds_6 21 rfl rfl)
theorem dX4_finds_158 : decode cX4_finds 158 = .ok (.getfield 89, 3) := dk_180 0 89 (dk_at dksX4_finds_7 0 rfl rfl)
theorem dX4_finds_161 : decode cX4_finds 161 = .ok (.iload 6, 2) := dk_21 6 (dk_at dksX4_finds_7 3 rfl rfl)
theorem dX4_finds_163 : decode cX4_finds 163 = .ok (.iaload, 1) := dk_46 (dk_at dksX4_finds_7 5 rfl rfl)
theorem dX4_finds_164 : decode cX4_finds 164 = .ok (.iastore, 1) := dk_79 (dk_at dksX4_finds_7 6 rfl rfl)
theorem dX4_finds_165 : decode cX4_finds 165 = .ok (.iinc 6 1, 3) := dk_132 6 1 (dk_at dksX4_finds_7 7 rfl rfl)
theorem dX4_finds_168 : decode cX4_finds 168 = .ok (.goto (-26), 3) := dk_167 255 230 (dk_at dksX4_finds_7 10 rfl rfl)
theorem dX4_finds_171 : decode cX4_finds 171 = .ok (.aload_n 0, 1) := dk_42 (dk_at dksX4_finds_7 13 rfl rfl)
theorem dX4_finds_172 : decode cX4_finds 172 = .ok (.iload 5, 2) := dk_21 5 (dk_at dksX4_finds_7 14 rfl rfl)
theorem dX4_finds_174 : decode cX4_finds 174 = .ok (.invokevirtual 249, 3) := dk_182 0 249 (dk_at dksX4_finds_7 16 rfl rfl)
theorem dX4_finds_177 : decode cX4_finds 177 = .ok (.ireturn, 1) := dk_172 (dk_at dksX4_finds_7 19 rfl rfl)
abbrev cX4_part : ByteArray := prog_22_method_47_code
def yX4_part : MethodName := ⟨RX4, "part", "(I)I"⟩
def dkwX4_part_1 : List UInt8 := [167, 0, 4, 2, 172]
abbrev dktX4_part_1 : List UInt8 := dkwX4_part_1 ++ []
def dkwX4_part_0 : List UInt8 := [42, 3, 181, 0, 109, 27, 155, 0, 20, 27, 42, 180, 1, 47, 162, 0, 12, 42, 180, 0, 92, 27, 46]
abbrev dktX4_part_0 : List UInt8 := dkwX4_part_0 ++ dktX4_part_1
theorem dksX4_part_0 : cX4_part.data.toList.drop 0 = dktX4_part_0 := by decide +kernel
theorem dksX4_part_1 : cX4_part.data.toList.drop 23 = dktX4_part_1 := dk_seg dksX4_part_0 23 rfl rfl
theorem dX4_part_0 : decode cX4_part 0 = .ok (.aload_n 0, 1) := dk_42 (dk_at dksX4_part_0 0 rfl rfl)
theorem dX4_part_1 : decode cX4_part 1 = .ok (.iconst 0, 1) := dk_3 (dk_at dksX4_part_0 1 rfl rfl)
theorem dX4_part_2 : decode cX4_part 2 = .ok (.putfield 109, 3) := dk_181 0 109 (dk_at dksX4_part_0 2 rfl rfl)
theorem dX4_part_5 : decode cX4_part 5 = .ok (.iload_n 1, 1) := dk_27 (dk_at dksX4_part_0 5 rfl rfl)
theorem dX4_part_6 : decode cX4_part 6 = .ok (.ifCond .lt 20, 3) := dk_155 0 20 (dk_at dksX4_part_0 6 rfl rfl)
theorem dX4_part_9 : decode cX4_part 9 = .ok (.iload_n 1, 1) := dk_27 (dk_at dksX4_part_0 9 rfl rfl)
theorem dX4_part_10 : decode cX4_part 10 = .ok (.aload_n 0, 1) := dk_42 (dk_at dksX4_part_0 10 rfl rfl)
theorem dX4_part_11 : decode cX4_part 11 = .ok (.getfield 303, 3) := dk_180 1 47 (dk_at dksX4_part_0 11 rfl rfl)
theorem dX4_part_14 : decode cX4_part 14 = .ok (.if_icmp .ge 12, 3) := dk_162 0 12 (dk_at dksX4_part_0 14 rfl rfl)
theorem dX4_part_17 : decode cX4_part 17 = .ok (.aload_n 0, 1) := dk_42 (dk_at dksX4_part_0 17 rfl rfl)
theorem dX4_part_18 : decode cX4_part 18 = .ok (.getfield 92, 3) := dk_180 0 92 (dk_at dksX4_part_0 18 rfl rfl)
theorem dX4_part_21 : decode cX4_part 21 = .ok (.iload_n 1, 1) := dk_27 (dk_at dksX4_part_0 21 rfl rfl)
theorem dX4_part_22 : decode cX4_part 22 = .ok (.iaload, 1) := dk_46 (dk_at dksX4_part_0 22 rfl rfl)
theorem dX4_part_23 : decode cX4_part 23 = .ok (.goto 4, 3) := dk_167 0 4 (dk_at dksX4_part_1 0 rfl rfl)
theorem dX4_part_26 : decode cX4_part 26 = .ok (.iconst (-1), 1) := dk_2 (dk_at dksX4_part_1 3 rfl rfl)
theorem dX4_part_27 : decode cX4_part 27 = .ok (.ireturn, 1) := dk_172 (dk_at dksX4_part_1 4 rfl rfl)
abbrev cX4_old : ByteArray := prog_22_method_50_code
def yX4_old : MethodName := ⟨RX4, "old", "(II)I"⟩
def dkwX4_old_4 : List UInt8 := [16, 254, 182, 0, 249, 172]
abbrev dktX4_old_4 : List UInt8 := dkwX4_old_4 ++ []
def dkwX4_old_3 : List UInt8 := [154, 0, 9, 132, 5, 1, 167, 255, 212, 42, 21, 5, 42, 180, 0, 124, 162, 0, 8, 21, 5, 167, 0, 5]
abbrev dktX4_old_3 : List UInt8 := dkwX4_old_3 ++ dktX4_old_4
def dkwX4_old_2 : List UInt8 := [182, 1, 53, 153, 0, 23, 42, 42, 180, 0, 23, 21, 5, 50, 42, 180, 0, 33, 27, 50, 182, 1, 21]
abbrev dktX4_old_2 : List UInt8 := dkwX4_old_2 ++ dktX4_old_3
def dkwX4_old_1 : List UInt8 := [182, 1, 38, 54, 4, 3, 54, 5, 21, 5, 42, 180, 0, 124, 162, 0, 41, 42, 21, 5, 21, 4, 28]
abbrev dktX4_old_1 : List UInt8 := dkwX4_old_1 ++ dktX4_old_2
def dkwX4_old_0 : List UInt8 := [42, 3, 181, 0, 109, 42, 27, 28, 182, 1, 50, 62, 29, 158, 0, 9, 42, 29, 182, 0, 239, 172, 42, 27]
abbrev dktX4_old_0 : List UInt8 := dkwX4_old_0 ++ dktX4_old_1
theorem dksX4_old_0 : cX4_old.data.toList.drop 0 = dktX4_old_0 := by decide +kernel
theorem dksX4_old_1 : cX4_old.data.toList.drop 24 = dktX4_old_1 := dk_seg dksX4_old_0 24 rfl rfl
theorem dksX4_old_2 : cX4_old.data.toList.drop 47 = dktX4_old_2 := dk_seg dksX4_old_1 23 rfl rfl
theorem dksX4_old_3 : cX4_old.data.toList.drop 70 = dktX4_old_3 := dk_seg dksX4_old_2 23 rfl rfl
theorem dksX4_old_4 : cX4_old.data.toList.drop 94 = dktX4_old_4 := dk_seg dksX4_old_3 24 rfl rfl
theorem dX4_old_0 : decode cX4_old 0 = .ok (.aload_n 0, 1) := dk_42 (dk_at dksX4_old_0 0 rfl rfl)
theorem dX4_old_1 : decode cX4_old 1 = .ok (.iconst 0, 1) := dk_3 (dk_at dksX4_old_0 1 rfl rfl)
theorem dX4_old_2 : decode cX4_old 2 = .ok (.putfield 109, 3) := dk_181 0 109 (dk_at dksX4_old_0 2 rfl rfl)
theorem dX4_old_5 : decode cX4_old 5 = .ok (.aload_n 0, 1) := dk_42 (dk_at dksX4_old_0 5 rfl rfl)
theorem dX4_old_6 : decode cX4_old 6 = .ok (.iload_n 1, 1) := dk_27 (dk_at dksX4_old_0 6 rfl rfl)
theorem dX4_old_7 : decode cX4_old 7 = .ok (.iload_n 2, 1) := dk_28 (dk_at dksX4_old_0 7 rfl rfl)
theorem dX4_old_8 : decode cX4_old 8 = .ok (.invokevirtual 306, 3) := dk_182 1 50 (dk_at dksX4_old_0 8 rfl rfl)
theorem dX4_old_11 : decode cX4_old 11 = .ok (.istore_n 3, 1) := dk_62 (dk_at dksX4_old_0 11 rfl rfl)
theorem dX4_old_12 : decode cX4_old 12 = .ok (.iload_n 3, 1) := dk_29 (dk_at dksX4_old_0 12 rfl rfl)
theorem dX4_old_13 : decode cX4_old 13 = .ok (.ifCond .le 9, 3) := dk_158 0 9 (dk_at dksX4_old_0 13 rfl rfl)
theorem dX4_old_16 : decode cX4_old 16 = .ok (.aload_n 0, 1) := dk_42 (dk_at dksX4_old_0 16 rfl rfl)
theorem dX4_old_17 : decode cX4_old 17 = .ok (.iload_n 3, 1) := dk_29 (dk_at dksX4_old_0 17 rfl rfl)
theorem dX4_old_18 : decode cX4_old 18 = .ok (.invokevirtual 239, 3) := dk_182 0 239 (dk_at dksX4_old_0 18 rfl rfl)
theorem dX4_old_21 : decode cX4_old 21 = .ok (.ireturn, 1) := dk_172 (dk_at dksX4_old_0 21 rfl rfl)
theorem dX4_old_22 : decode cX4_old 22 = .ok (.aload_n 0, 1) := dk_42 (dk_at dksX4_old_0 22 rfl rfl)
theorem dX4_old_23 : decode cX4_old 23 = .ok (.iload_n 1, 1) := dk_27 (dk_at dksX4_old_0 23 rfl rfl)
theorem dX4_old_24 : decode cX4_old 24 = .ok (.invokevirtual 294, 3) := dk_182 1 38 (dk_at dksX4_old_1 0 rfl rfl)
theorem dX4_old_27 : decode cX4_old 27 = .ok (.istore 4, 2) := dk_54 4 (dk_at dksX4_old_1 3 rfl rfl)
theorem dX4_old_29 : decode cX4_old 29 = .ok (.iconst 0, 1) := dk_3 (dk_at dksX4_old_1 5 rfl rfl)
theorem dX4_old_30 : decode cX4_old 30 = .ok (.istore 5, 2) := dk_54 5 (dk_at dksX4_old_1 6 rfl rfl)
theorem dX4_old_32 : decode cX4_old 32 = .ok (.iload 5, 2) := dk_21 5 (dk_at dksX4_old_1 8 rfl rfl)
theorem dX4_old_34 : decode cX4_old 34 = .ok (.aload_n 0, 1) := dk_42 (dk_at dksX4_old_1 10 rfl rfl)
theorem dX4_old_35 : decode cX4_old 35 = .ok (.getfield 124, 3) := dk_180 0 124 (dk_at dksX4_old_1 11 rfl rfl)
theorem dX4_old_38 : decode cX4_old 38 = .ok (.if_icmp .ge 41, 3) := dk_162 0 41 (dk_at dksX4_old_1 14 rfl rfl)
theorem dX4_old_41 : decode cX4_old 41 = .ok (.aload_n 0, 1) := dk_42 (dk_at dksX4_old_1 17 rfl rfl)
theorem dX4_old_42 : decode cX4_old 42 = .ok (.iload 5, 2) := dk_21 5 (dk_at dksX4_old_1 18 rfl rfl)
theorem dX4_old_44 : decode cX4_old 44 = .ok (.iload 4, 2) := dk_21 4 (dk_at dksX4_old_1 20 rfl rfl)
theorem dX4_old_46 : decode cX4_old 46 = .ok (.iload_n 2, 1) := dk_28 (dk_at dksX4_old_1 22 rfl rfl)
theorem dX4_old_47 : decode cX4_old 47 = .ok (.invokevirtual 309, 3) := dk_182 1 53 (dk_at dksX4_old_2 0 rfl rfl)
theorem dX4_old_50 : decode cX4_old 50 = .ok (.ifCond .eq 23, 3) := dk_153 0 23 (dk_at dksX4_old_2 3 rfl rfl)
theorem dX4_old_53 : decode cX4_old 53 = .ok (.aload_n 0, 1) := dk_42 (dk_at dksX4_old_2 6 rfl rfl)
theorem dX4_old_54 : decode cX4_old 54 = .ok (.aload_n 0, 1) := dk_42 (dk_at dksX4_old_2 7 rfl rfl)
theorem dX4_old_55 : decode cX4_old 55 = .ok (.getfield 23, 3) := dk_180 0 23 (dk_at dksX4_old_2 8 rfl rfl)
theorem dX4_old_58 : decode cX4_old 58 = .ok (.iload 5, 2) := dk_21 5 (dk_at dksX4_old_2 11 rfl rfl)
theorem dX4_old_60 : decode cX4_old 60 = .ok (.aaload, 1) := dk_50 (dk_at dksX4_old_2 13 rfl rfl)
theorem dX4_old_61 : decode cX4_old 61 = .ok (.aload_n 0, 1) := dk_42 (dk_at dksX4_old_2 14 rfl rfl)
theorem dX4_old_62 : decode cX4_old 62 = .ok (.getfield 33, 3) := dk_180 0 33 (dk_at dksX4_old_2 15 rfl rfl)
theorem dX4_old_65 : decode cX4_old 65 = .ok (.iload_n 1, 1) := dk_27 (dk_at dksX4_old_2 18 rfl rfl)
theorem dX4_old_66 : decode cX4_old 66 = .ok (.aaload, 1) := dk_50 (dk_at dksX4_old_2 19 rfl rfl)
theorem dX4_old_67 : decode cX4_old 67 = .ok (.invokevirtual 277, 3) := dk_182 1 21 (dk_at dksX4_old_2 20 rfl rfl)
theorem dX4_old_70 : decode cX4_old 70 = .ok (.ifCond .ne 9, 3) := dk_154 0 9 (dk_at dksX4_old_3 0 rfl rfl)
theorem dX4_old_73 : decode cX4_old 73 = .ok (.iinc 5 1, 3) := dk_132 5 1 (dk_at dksX4_old_3 3 rfl rfl)
theorem dX4_old_76 : decode cX4_old 76 = .ok (.goto (-44), 3) := dk_167 255 212 (dk_at dksX4_old_3 6 rfl rfl)
theorem dX4_old_79 : decode cX4_old 79 = .ok (.aload_n 0, 1) := dk_42 (dk_at dksX4_old_3 9 rfl rfl)
theorem dX4_old_80 : decode cX4_old 80 = .ok (.iload 5, 2) := dk_21 5 (dk_at dksX4_old_3 10 rfl rfl)
theorem dX4_old_82 : decode cX4_old 82 = .ok (.aload_n 0, 1) := dk_42 (dk_at dksX4_old_3 12 rfl rfl)
theorem dX4_old_83 : decode cX4_old 83 = .ok (.getfield 124, 3) := dk_180 0 124 (dk_at dksX4_old_3 13 rfl rfl)
theorem dX4_old_86 : decode cX4_old 86 = .ok (.if_icmp .ge 8, 3) := dk_162 0 8 (dk_at dksX4_old_3 16 rfl rfl)
theorem dX4_old_89 : decode cX4_old 89 = .ok (.iload 5, 2) := dk_21 5 (dk_at dksX4_old_3 19 rfl rfl)
theorem dX4_old_91 : decode cX4_old 91 = .ok (.goto 5, 3) := dk_167 0 5 (dk_at dksX4_old_3 21 rfl rfl)
theorem dX4_old_94 : decode cX4_old 94 = .ok (.bipush (-2), 2) := dk_16 254 (dk_at dksX4_old_4 0 rfl rfl)
theorem dX4_old_96 : decode cX4_old 96 = .ok (.invokevirtual 249, 3) := dk_182 0 249 (dk_at dksX4_old_4 2 rfl rfl)
theorem dX4_old_99 : decode cX4_old 99 = .ok (.ireturn, 1) := dk_172 (dk_at dksX4_old_4 5 rfl rfl)
abbrev cX4_asked : ByteArray := prog_22_method_49_code
def yX4_asked : MethodName := ⟨RX4, "asked", "(II)I"⟩
def dkwX4_asked_2 : List UInt8 := [3, 172]
abbrev dktX4_asked_2 : List UInt8 := dkwX4_asked_2 ++ []
def dkwX4_asked_1 : List UInt8 := [46, 28, 164, 0, 7, 4, 167, 0, 19, 28, 3, 17, 78, 32, 184, 0, 255, 154, 0, 7, 5, 167, 0, 4]
abbrev dktX4_asked_1 : List UInt8 := dkwX4_asked_1 ++ dktX4_asked_2
def dkwX4_asked_0 : List UInt8 := [42, 27, 182, 1, 14, 153, 0, 24, 28, 3, 17, 78, 32, 184, 0, 255, 153, 0, 17, 42, 180, 0, 57, 27]
abbrev dktX4_asked_0 : List UInt8 := dkwX4_asked_0 ++ dktX4_asked_1
theorem dksX4_asked_0 : cX4_asked.data.toList.drop 0 = dktX4_asked_0 := by decide +kernel
theorem dksX4_asked_1 : cX4_asked.data.toList.drop 24 = dktX4_asked_1 := dk_seg dksX4_asked_0 24 rfl rfl
theorem dksX4_asked_2 : cX4_asked.data.toList.drop 48 = dktX4_asked_2 := dk_seg dksX4_asked_1 24 rfl rfl
theorem dX4_asked_0 : decode cX4_asked 0 = .ok (.aload_n 0, 1) := dk_42 (dk_at dksX4_asked_0 0 rfl rfl)
theorem dX4_asked_1 : decode cX4_asked 1 = .ok (.iload_n 1, 1) := dk_27 (dk_at dksX4_asked_0 1 rfl rfl)
theorem dX4_asked_2 : decode cX4_asked 2 = .ok (.invokevirtual 270, 3) := dk_182 1 14 (dk_at dksX4_asked_0 2 rfl rfl)
theorem dX4_asked_5 : decode cX4_asked 5 = .ok (.ifCond .eq 24, 3) := dk_153 0 24 (dk_at dksX4_asked_0 5 rfl rfl)
theorem dX4_asked_8 : decode cX4_asked 8 = .ok (.iload_n 2, 1) := dk_28 (dk_at dksX4_asked_0 8 rfl rfl)
theorem dX4_asked_9 : decode cX4_asked 9 = .ok (.iconst 0, 1) := dk_3 (dk_at dksX4_asked_0 9 rfl rfl)
theorem dX4_asked_10 : decode cX4_asked 10 = .ok (.sipush 20000, 3) := dk_17 78 32 (dk_at dksX4_asked_0 10 rfl rfl)
theorem dX4_asked_13 : decode cX4_asked 13 = .ok (.invokestatic 255, 3) := dk_184 0 255 (dk_at dksX4_asked_0 13 rfl rfl)
theorem dX4_asked_16 : decode cX4_asked 16 = .ok (.ifCond .eq 17, 3) := dk_153 0 17 (dk_at dksX4_asked_0 16 rfl rfl)
theorem dX4_asked_19 : decode cX4_asked 19 = .ok (.aload_n 0, 1) := dk_42 (dk_at dksX4_asked_0 19 rfl rfl)
theorem dX4_asked_20 : decode cX4_asked 20 = .ok (.getfield 57, 3) := dk_180 0 57 (dk_at dksX4_asked_0 20 rfl rfl)
theorem dX4_asked_23 : decode cX4_asked 23 = .ok (.iload_n 1, 1) := dk_27 (dk_at dksX4_asked_0 23 rfl rfl)
theorem dX4_asked_24 : decode cX4_asked 24 = .ok (.iaload, 1) := dk_46 (dk_at dksX4_asked_1 0 rfl rfl)
theorem dX4_asked_25 : decode cX4_asked 25 = .ok (.iload_n 2, 1) := dk_28 (dk_at dksX4_asked_1 1 rfl rfl)
theorem dX4_asked_26 : decode cX4_asked 26 = .ok (.if_icmp .le 7, 3) := dk_164 0 7 (dk_at dksX4_asked_1 2 rfl rfl)
theorem dX4_asked_29 : decode cX4_asked 29 = .ok (.iconst 1, 1) := dk_4 (dk_at dksX4_asked_1 5 rfl rfl)
theorem dX4_asked_30 : decode cX4_asked 30 = .ok (.goto 19, 3) := dk_167 0 19 (dk_at dksX4_asked_1 6 rfl rfl)
theorem dX4_asked_33 : decode cX4_asked 33 = .ok (.iload_n 2, 1) := dk_28 (dk_at dksX4_asked_1 9 rfl rfl)
theorem dX4_asked_34 : decode cX4_asked 34 = .ok (.iconst 0, 1) := dk_3 (dk_at dksX4_asked_1 10 rfl rfl)
theorem dX4_asked_35 : decode cX4_asked 35 = .ok (.sipush 20000, 3) := dk_17 78 32 (dk_at dksX4_asked_1 11 rfl rfl)
theorem dX4_asked_38 : decode cX4_asked 38 = .ok (.invokestatic 255, 3) := dk_184 0 255 (dk_at dksX4_asked_1 14 rfl rfl)
theorem dX4_asked_41 : decode cX4_asked 41 = .ok (.ifCond .ne 7, 3) := dk_154 0 7 (dk_at dksX4_asked_1 17 rfl rfl)
theorem dX4_asked_44 : decode cX4_asked 44 = .ok (.iconst 2, 1) := dk_5 (dk_at dksX4_asked_1 20 rfl rfl)
theorem dX4_asked_45 : decode cX4_asked 45 = .ok (.goto 4, 3) := dk_167 0 4 (dk_at dksX4_asked_1 21 rfl rfl)
theorem dX4_asked_48 : decode cX4_asked 48 = .ok (.iconst 0, 1) := dk_3 (dk_at dksX4_asked_2 0 rfl rfl)
theorem dX4_asked_49 : decode cX4_asked 49 = .ok (.ireturn, 1) := dk_172 (dk_at dksX4_asked_2 1 rfl rfl)
abbrev cX4_isAhead : ByteArray := prog_22_method_48_code
def yX4_isAhead : MethodName := ⟨RX4, "isAhead", "(III)Z"⟩
def dkwX4_isAhead_1 : List UInt8 := [3, 172]
abbrev dktX4_isAhead_1 : List UInt8 := dkwX4_isAhead_1 ++ []
def dkwX4_isAhead_0 : List UInt8 := [42, 180, 0, 39, 27, 46, 29, 163, 0, 17, 42, 180, 0, 36, 27, 46, 28, 162, 0, 7, 4, 167, 0, 4]
abbrev dktX4_isAhead_0 : List UInt8 := dkwX4_isAhead_0 ++ dktX4_isAhead_1
theorem dksX4_isAhead_0 : cX4_isAhead.data.toList.drop 0 = dktX4_isAhead_0 := by decide +kernel
theorem dksX4_isAhead_1 : cX4_isAhead.data.toList.drop 24 = dktX4_isAhead_1 := dk_seg dksX4_isAhead_0 24 rfl rfl
theorem dX4_isAhead_0 : decode cX4_isAhead 0 = .ok (.aload_n 0, 1) := dk_42 (dk_at dksX4_isAhead_0 0 rfl rfl)
theorem dX4_isAhead_1 : decode cX4_isAhead 1 = .ok (.getfield 39, 3) := dk_180 0 39 (dk_at dksX4_isAhead_0 1 rfl rfl)
theorem dX4_isAhead_4 : decode cX4_isAhead 4 = .ok (.iload_n 1, 1) := dk_27 (dk_at dksX4_isAhead_0 4 rfl rfl)
theorem dX4_isAhead_5 : decode cX4_isAhead 5 = .ok (.iaload, 1) := dk_46 (dk_at dksX4_isAhead_0 5 rfl rfl)
theorem dX4_isAhead_6 : decode cX4_isAhead 6 = .ok (.iload_n 3, 1) := dk_29 (dk_at dksX4_isAhead_0 6 rfl rfl)
theorem dX4_isAhead_7 : decode cX4_isAhead 7 = .ok (.if_icmp .gt 17, 3) := dk_163 0 17 (dk_at dksX4_isAhead_0 7 rfl rfl)
theorem dX4_isAhead_10 : decode cX4_isAhead 10 = .ok (.aload_n 0, 1) := dk_42 (dk_at dksX4_isAhead_0 10 rfl rfl)
theorem dX4_isAhead_11 : decode cX4_isAhead 11 = .ok (.getfield 36, 3) := dk_180 0 36 (dk_at dksX4_isAhead_0 11 rfl rfl)
theorem dX4_isAhead_14 : decode cX4_isAhead 14 = .ok (.iload_n 1, 1) := dk_27 (dk_at dksX4_isAhead_0 14 rfl rfl)
theorem dX4_isAhead_15 : decode cX4_isAhead 15 = .ok (.iaload, 1) := dk_46 (dk_at dksX4_isAhead_0 15 rfl rfl)
theorem dX4_isAhead_16 : decode cX4_isAhead 16 = .ok (.iload_n 2, 1) := dk_28 (dk_at dksX4_isAhead_0 16 rfl rfl)
theorem dX4_isAhead_17 : decode cX4_isAhead 17 = .ok (.if_icmp .ge 7, 3) := dk_162 0 7 (dk_at dksX4_isAhead_0 17 rfl rfl)
theorem dX4_isAhead_20 : decode cX4_isAhead 20 = .ok (.iconst 1, 1) := dk_4 (dk_at dksX4_isAhead_0 20 rfl rfl)
theorem dX4_isAhead_21 : decode cX4_isAhead 21 = .ok (.goto 4, 3) := dk_167 0 4 (dk_at dksX4_isAhead_0 21 rfl rfl)
theorem dX4_isAhead_24 : decode cX4_isAhead 24 = .ok (.iconst 0, 1) := dk_3 (dk_at dksX4_isAhead_1 0 rfl rfl)
theorem dX4_isAhead_25 : decode cX4_isAhead 25 = .ok (.ireturn, 1) := dk_172 (dk_at dksX4_isAhead_1 1 rfl rfl)
abbrev cX4_plain : ByteArray := prog_22_method_51_code
def yX4_plain : MethodName := ⟨RX4, "plain", "(II)I"⟩
def dkwX4_plain_19 : List UInt8 := [42, 16, 254, 182, 0, 249, 172]
abbrev dktX4_plain_19 : List UInt8 := dkwX4_plain_19 ++ []
def dkwX4_plain_18 : List UInt8 := [16, 100, 21, 9, 104, 21, 10, 96, 182, 0, 249, 172, 132, 10, 1, 167, 255, 164, 132, 9, 1, 167, 255, 146]
abbrev dktX4_plain_18 : List UInt8 := dkwX4_plain_18 ++ dktX4_plain_19
def dkwX4_plain_17 : List UInt8 := [4, 160, 0, 7, 4, 167, 0, 4, 3, 54, 11, 132, 12, 1, 167, 255, 203, 21, 11, 153, 0, 16, 42]
abbrev dktX4_plain_17 : List UInt8 := dkwX4_plain_17 ++ dktX4_plain_18
def dkwX4_plain_16 : List UInt8 := [25, 7, 21, 12, 46, 21, 9, 122, 4, 126, 4, 160, 0, 21, 25, 8, 21, 12, 46, 21, 10, 122, 4, 126]
abbrev dktX4_plain_16 : List UInt8 := dkwX4_plain_16 ++ dktX4_plain_17
def dkwX4_plain_15 : List UInt8 := [162, 0, 89, 3, 54, 11, 3, 54, 12, 21, 12, 25, 4, 180, 0, 196, 162, 0, 49, 21, 11, 154, 0, 31]
abbrev dktX4_plain_15 : List UInt8 := dkwX4_plain_15 ++ dktX4_plain_16
def dkwX4_plain_14 : List UInt8 := [167, 254, 250, 3, 54, 9, 21, 9, 42, 180, 0, 124, 162, 0, 107, 3, 54, 10, 21, 10, 42, 180, 0, 124]
abbrev dktX4_plain_14 : List UInt8 := dkwX4_plain_14 ++ dktX4_plain_15
def dkwX4_plain_13 : List UInt8 := [153, 0, 10, 4, 21, 12, 120, 167, 0, 4, 3, 128, 79, 132, 12, 1, 167, 255, 161, 132, 9, 1]
abbrev dktX4_plain_13 : List UInt8 := dkwX4_plain_13 ++ dktX4_plain_14
def dkwX4_plain_12 : List UInt8 := [128, 79, 25, 8, 21, 9, 92, 46, 42, 42, 180, 0, 23, 21, 12, 50, 42, 180, 0, 100, 182, 1, 21]
abbrev dktX4_plain_12 : List UInt8 := dkwX4_plain_12 ++ dktX4_plain_13
def dkwX4_plain_11 : List UInt8 := [180, 0, 23, 21, 12, 50, 42, 180, 0, 96, 182, 1, 21, 153, 0, 10, 4, 21, 12, 120, 167, 0, 4, 3]
abbrev dktX4_plain_11 : List UInt8 := dkwX4_plain_11 ++ dktX4_plain_12
def dkwX4_plain_10 : List UInt8 := [21, 12, 21, 5, 28, 182, 1, 53, 154, 0, 6, 167, 0, 71, 25, 7, 21, 9, 92, 46, 42, 42]
abbrev dktX4_plain_10 : List UInt8 := dkwX4_plain_10 ++ dktX4_plain_11
def dkwX4_plain_9 : List UInt8 := [21, 11, 21, 10, 42, 180, 0, 100, 182, 1, 56, 3, 54, 12, 21, 12, 42, 180, 0, 124, 162, 0, 92, 42]
abbrev dktX4_plain_9 : List UInt8 := dkwX4_plain_9 ++ dktX4_plain_10
def dkwX4_plain_8 : List UInt8 := [25, 4, 180, 0, 205, 120, 4, 100, 21, 10, 2, 130, 126, 42, 180, 0, 96, 182, 1, 56, 42, 25, 4]
abbrev dktX4_plain_8 : List UInt8 := dkwX4_plain_8 ++ dktX4_plain_9
def dkwX4_plain_7 : List UInt8 := [128, 128, 54, 11, 132, 12, 1, 167, 255, 179, 42, 25, 4, 21, 6, 4, 21, 9, 120, 2, 130, 126, 4]
abbrev dktX4_plain_7 : List UInt8 := dkwX4_plain_7 ++ dktX4_plain_8
def dkwX4_plain_6 : List UInt8 := [54, 10, 21, 11, 4, 25, 4, 180, 0, 208, 21, 12, 46, 120, 4, 25, 4, 180, 0, 214, 21, 12, 46, 120]
abbrev dktX4_plain_6 : List UInt8 := dkwX4_plain_6 ++ dktX4_plain_7
def dkwX4_plain_5 : List UInt8 := [25, 4, 180, 0, 214, 21, 12, 46, 21, 9, 159, 0, 6, 167, 0, 38, 21, 10, 4, 21, 12, 120, 128]
abbrev dktX4_plain_5 : List UInt8 := dkwX4_plain_5 ++ dktX4_plain_6
def dkwX4_plain_4 : List UInt8 := [21, 12, 25, 4, 180, 0, 205, 162, 0, 73, 25, 4, 180, 0, 208, 21, 12, 46, 21, 9, 159, 0, 19]
abbrev dktX4_plain_4 : List UInt8 := dkwX4_plain_4 ++ dktX4_plain_5
def dkwX4_plain_3 : List UInt8 := [162, 1, 2, 25, 4, 180, 0, 196, 4, 164, 0, 249, 3, 54, 10, 4, 21, 9, 120, 54, 11, 3, 54, 12]
abbrev dktX4_plain_3 : List UInt8 := dkwX4_plain_3 ++ dktX4_plain_4
def dkwX4_plain_2 : List UInt8 := [54, 6, 16, 8, 188, 10, 58, 7, 16, 8, 188, 10, 58, 8, 3, 54, 9, 21, 9, 25, 4, 180, 0, 196]
abbrev dktX4_plain_2 : List UInt8 := dkwX4_plain_2 ++ dktX4_plain_3
def dkwX4_plain_1 : List UInt8 := [180, 0, 33, 27, 50, 58, 4, 42, 27, 182, 1, 38, 54, 5, 4, 25, 4, 180, 0, 196, 120, 4, 100]
abbrev dktX4_plain_1 : List UInt8 := dkwX4_plain_1 ++ dktX4_plain_2
def dkwX4_plain_0 : List UInt8 := [42, 3, 181, 0, 109, 42, 27, 28, 182, 1, 50, 62, 29, 158, 0, 9, 42, 29, 182, 0, 239, 172, 42]
abbrev dktX4_plain_0 : List UInt8 := dkwX4_plain_0 ++ dktX4_plain_1
theorem dksX4_plain_0 : cX4_plain.data.toList.drop 0 = dktX4_plain_0 := by decide +kernel
theorem dksX4_plain_1 : cX4_plain.data.toList.drop 23 = dktX4_plain_1 := dk_seg dksX4_plain_0 23 rfl rfl
theorem dksX4_plain_2 : cX4_plain.data.toList.drop 46 = dktX4_plain_2 := dk_seg dksX4_plain_1 23 rfl rfl
theorem dksX4_plain_3 : cX4_plain.data.toList.drop 70 = dktX4_plain_3 := dk_seg dksX4_plain_2 24 rfl rfl
theorem dksX4_plain_4 : cX4_plain.data.toList.drop 94 = dktX4_plain_4 := dk_seg dksX4_plain_3 24 rfl rfl
theorem dksX4_plain_5 : cX4_plain.data.toList.drop 117 = dktX4_plain_5 := dk_seg dksX4_plain_4 23 rfl rfl
theorem dksX4_plain_6 : cX4_plain.data.toList.drop 140 = dktX4_plain_6 := dk_seg dksX4_plain_5 23 rfl rfl
theorem dksX4_plain_7 : cX4_plain.data.toList.drop 164 = dktX4_plain_7 := dk_seg dksX4_plain_6 24 rfl rfl
theorem dksX4_plain_8 : cX4_plain.data.toList.drop 187 = dktX4_plain_8 := dk_seg dksX4_plain_7 23 rfl rfl
theorem dksX4_plain_9 : cX4_plain.data.toList.drop 210 = dktX4_plain_9 := dk_seg dksX4_plain_8 23 rfl rfl
theorem dksX4_plain_10 : cX4_plain.data.toList.drop 234 = dktX4_plain_10 := dk_seg dksX4_plain_9 24 rfl rfl
theorem dksX4_plain_11 : cX4_plain.data.toList.drop 256 = dktX4_plain_11 := dk_seg dksX4_plain_10 22 rfl rfl
theorem dksX4_plain_12 : cX4_plain.data.toList.drop 280 = dktX4_plain_12 := dk_seg dksX4_plain_11 24 rfl rfl
theorem dksX4_plain_13 : cX4_plain.data.toList.drop 303 = dktX4_plain_13 := dk_seg dksX4_plain_12 23 rfl rfl
theorem dksX4_plain_14 : cX4_plain.data.toList.drop 325 = dktX4_plain_14 := dk_seg dksX4_plain_13 22 rfl rfl
theorem dksX4_plain_15 : cX4_plain.data.toList.drop 349 = dktX4_plain_15 := dk_seg dksX4_plain_14 24 rfl rfl
theorem dksX4_plain_16 : cX4_plain.data.toList.drop 373 = dktX4_plain_16 := dk_seg dksX4_plain_15 24 rfl rfl
theorem dksX4_plain_17 : cX4_plain.data.toList.drop 397 = dktX4_plain_17 := dk_seg dksX4_plain_16 24 rfl rfl
theorem dksX4_plain_18 : cX4_plain.data.toList.drop 420 = dktX4_plain_18 := dk_seg dksX4_plain_17 23 rfl rfl
theorem dksX4_plain_19 : cX4_plain.data.toList.drop 444 = dktX4_plain_19 := dk_seg dksX4_plain_18 24 rfl rfl
theorem dX4_plain_0 : decode cX4_plain 0 = .ok (.aload_n 0, 1) := dk_42 (dk_at dksX4_plain_0 0 rfl rfl)
theorem dX4_plain_1 : decode cX4_plain 1 = .ok (.iconst 0, 1) := dk_3 (dk_at dksX4_plain_0 1 rfl rfl)
theorem dX4_plain_2 : decode cX4_plain 2 = .ok (.putfield 109, 3) := dk_181 0 109 (dk_at dksX4_plain_0 2 rfl rfl)
theorem dX4_plain_5 : decode cX4_plain 5 = .ok (.aload_n 0, 1) := dk_42 (dk_at dksX4_plain_0 5 rfl rfl)
theorem dX4_plain_6 : decode cX4_plain 6 = .ok (.iload_n 1, 1) := dk_27 (dk_at dksX4_plain_0 6 rfl rfl)
theorem dX4_plain_7 : decode cX4_plain 7 = .ok (.iload_n 2, 1) := dk_28 (dk_at dksX4_plain_0 7 rfl rfl)
theorem dX4_plain_8 : decode cX4_plain 8 = .ok (.invokevirtual 306, 3) := dk_182 1 50 (dk_at dksX4_plain_0 8 rfl rfl)
theorem dX4_plain_11 : decode cX4_plain 11 = .ok (.istore_n 3, 1) := dk_62 (dk_at dksX4_plain_0 11 rfl rfl)
theorem dX4_plain_12 : decode cX4_plain 12 = .ok (.iload_n 3, 1) := dk_29 (dk_at dksX4_plain_0 12 rfl rfl)
theorem dX4_plain_13 : decode cX4_plain 13 = .ok (.ifCond .le 9, 3) := dk_158 0 9 (dk_at dksX4_plain_0 13 rfl rfl)
theorem dX4_plain_16 : decode cX4_plain 16 = .ok (.aload_n 0, 1) := dk_42 (dk_at dksX4_plain_0 16 rfl rfl)
theorem dX4_plain_17 : decode cX4_plain 17 = .ok (.iload_n 3, 1) := dk_29 (dk_at dksX4_plain_0 17 rfl rfl)
theorem dX4_plain_18 : decode cX4_plain 18 = .ok (.invokevirtual 239, 3) := dk_182 0 239 (dk_at dksX4_plain_0 18 rfl rfl)
theorem dX4_plain_21 : decode cX4_plain 21 = .ok (.ireturn, 1) := dk_172 (dk_at dksX4_plain_0 21 rfl rfl)
theorem dX4_plain_22 : decode cX4_plain 22 = .ok (.aload_n 0, 1) := dk_42 (dk_at dksX4_plain_0 22 rfl rfl)
theorem dX4_plain_23 : decode cX4_plain 23 = .ok (.getfield 33, 3) := dk_180 0 33 (dk_at dksX4_plain_1 0 rfl rfl)
theorem dX4_plain_26 : decode cX4_plain 26 = .ok (.iload_n 1, 1) := dk_27 (dk_at dksX4_plain_1 3 rfl rfl)
theorem dX4_plain_27 : decode cX4_plain 27 = .ok (.aaload, 1) := dk_50 (dk_at dksX4_plain_1 4 rfl rfl)
theorem dX4_plain_28 : decode cX4_plain 28 = .ok (.astore 4, 2) := dk_58 4 (dk_at dksX4_plain_1 5 rfl rfl)
theorem dX4_plain_30 : decode cX4_plain 30 = .ok (.aload_n 0, 1) := dk_42 (dk_at dksX4_plain_1 7 rfl rfl)
theorem dX4_plain_31 : decode cX4_plain 31 = .ok (.iload_n 1, 1) := dk_27 (dk_at dksX4_plain_1 8 rfl rfl)
theorem dX4_plain_32 : decode cX4_plain 32 = .ok (.invokevirtual 294, 3) := dk_182 1 38 (dk_at dksX4_plain_1 9 rfl rfl)
theorem dX4_plain_35 : decode cX4_plain 35 = .ok (.istore 5, 2) := dk_54 5 (dk_at dksX4_plain_1 12 rfl rfl)
theorem dX4_plain_37 : decode cX4_plain 37 = .ok (.iconst 1, 1) := dk_4 (dk_at dksX4_plain_1 14 rfl rfl)
theorem dX4_plain_38 : decode cX4_plain 38 = .ok (.aload 4, 2) := dk_25 4 (dk_at dksX4_plain_1 15 rfl rfl)
theorem dX4_plain_40 : decode cX4_plain 40 = .ok (.getfield 196, 3) := dk_180 0 196 (dk_at dksX4_plain_1 17 rfl rfl)
theorem dX4_plain_43 : decode cX4_plain 43 = .ok (.ishl, 1) := dk_120 (dk_at dksX4_plain_1 20 rfl rfl)
theorem dX4_plain_44 : decode cX4_plain 44 = .ok (.iconst 1, 1) := dk_4 (dk_at dksX4_plain_1 21 rfl rfl)
theorem dX4_plain_45 : decode cX4_plain 45 = .ok (.isub, 1) := dk_100 (dk_at dksX4_plain_1 22 rfl rfl)
theorem dX4_plain_46 : decode cX4_plain 46 = .ok (.istore 6, 2) := dk_54 6 (dk_at dksX4_plain_2 0 rfl rfl)
theorem dX4_plain_48 : decode cX4_plain 48 = .ok (.bipush 8, 2) := dk_16 8 (dk_at dksX4_plain_2 2 rfl rfl)
theorem dX4_plain_50 : decode cX4_plain 50 = .ok (.newarray .int, 2) := dk_188_10 (dk_at dksX4_plain_2 4 rfl rfl)
theorem dX4_plain_52 : decode cX4_plain 52 = .ok (.astore 7, 2) := dk_58 7 (dk_at dksX4_plain_2 6 rfl rfl)
theorem dX4_plain_54 : decode cX4_plain 54 = .ok (.bipush 8, 2) := dk_16 8 (dk_at dksX4_plain_2 8 rfl rfl)
theorem dX4_plain_56 : decode cX4_plain 56 = .ok (.newarray .int, 2) := dk_188_10 (dk_at dksX4_plain_2 10 rfl rfl)
theorem dX4_plain_58 : decode cX4_plain 58 = .ok (.astore 8, 2) := dk_58 8 (dk_at dksX4_plain_2 12 rfl rfl)
theorem dX4_plain_60 : decode cX4_plain 60 = .ok (.iconst 0, 1) := dk_3 (dk_at dksX4_plain_2 14 rfl rfl)
theorem dX4_plain_61 : decode cX4_plain 61 = .ok (.istore 9, 2) := dk_54 9 (dk_at dksX4_plain_2 15 rfl rfl)
theorem dX4_plain_63 : decode cX4_plain 63 = .ok (.iload 9, 2) := dk_21 9 (dk_at dksX4_plain_2 17 rfl rfl)
theorem dX4_plain_65 : decode cX4_plain 65 = .ok (.aload 4, 2) := dk_25 4 (dk_at dksX4_plain_2 19 rfl rfl)
theorem dX4_plain_67 : decode cX4_plain 67 = .ok (.getfield 196, 3) := dk_180 0 196 (dk_at dksX4_plain_2 21 rfl rfl)
theorem dX4_plain_70 : decode cX4_plain 70 = .ok (.if_icmp .ge 258, 3) := dk_162 1 2 (dk_at dksX4_plain_3 0 rfl rfl)
theorem dX4_plain_73 : decode cX4_plain 73 = .ok (.aload 4, 2) := dk_25 4 (dk_at dksX4_plain_3 3 rfl rfl)
theorem dX4_plain_75 : decode cX4_plain 75 = .ok (.getfield 196, 3) := dk_180 0 196 (dk_at dksX4_plain_3 5 rfl rfl)
theorem dX4_plain_78 : decode cX4_plain 78 = .ok (.iconst 1, 1) := dk_4 (dk_at dksX4_plain_3 8 rfl rfl)
theorem dX4_plain_79 : decode cX4_plain 79 = .ok (.if_icmp .le 249, 3) := dk_164 0 249 (dk_at dksX4_plain_3 9 rfl rfl)
theorem dX4_plain_82 : decode cX4_plain 82 = .ok (.iconst 0, 1) := dk_3 (dk_at dksX4_plain_3 12 rfl rfl)
theorem dX4_plain_83 : decode cX4_plain 83 = .ok (.istore 10, 2) := dk_54 10 (dk_at dksX4_plain_3 13 rfl rfl)
theorem dX4_plain_85 : decode cX4_plain 85 = .ok (.iconst 1, 1) := dk_4 (dk_at dksX4_plain_3 15 rfl rfl)
theorem dX4_plain_86 : decode cX4_plain 86 = .ok (.iload 9, 2) := dk_21 9 (dk_at dksX4_plain_3 16 rfl rfl)
theorem dX4_plain_88 : decode cX4_plain 88 = .ok (.ishl, 1) := dk_120 (dk_at dksX4_plain_3 18 rfl rfl)
theorem dX4_plain_89 : decode cX4_plain 89 = .ok (.istore 11, 2) := dk_54 11 (dk_at dksX4_plain_3 19 rfl rfl)
theorem dX4_plain_91 : decode cX4_plain 91 = .ok (.iconst 0, 1) := dk_3 (dk_at dksX4_plain_3 21 rfl rfl)
theorem dX4_plain_92 : decode cX4_plain 92 = .ok (.istore 12, 2) := dk_54 12 (dk_at dksX4_plain_3 22 rfl rfl)
theorem dX4_plain_94 : decode cX4_plain 94 = .ok (.iload 12, 2) := dk_21 12 (dk_at dksX4_plain_4 0 rfl rfl)
theorem dX4_plain_96 : decode cX4_plain 96 = .ok (.aload 4, 2) := dk_25 4 (dk_at dksX4_plain_4 2 rfl rfl)
theorem dX4_plain_98 : decode cX4_plain 98 = .ok (.getfield 205, 3) := dk_180 0 205 (dk_at dksX4_plain_4 4 rfl rfl)
theorem dX4_plain_101 : decode cX4_plain 101 = .ok (.if_icmp .ge 73, 3) := dk_162 0 73 (dk_at dksX4_plain_4 7 rfl rfl)
theorem dX4_plain_104 : decode cX4_plain 104 = .ok (.aload 4, 2) := dk_25 4 (dk_at dksX4_plain_4 10 rfl rfl)
theorem dX4_plain_106 : decode cX4_plain 106 = .ok (.getfield 208, 3) := dk_180 0 208 (dk_at dksX4_plain_4 12 rfl rfl)
theorem dX4_plain_109 : decode cX4_plain 109 = .ok (.iload 12, 2) := dk_21 12 (dk_at dksX4_plain_4 15 rfl rfl)
theorem dX4_plain_111 : decode cX4_plain 111 = .ok (.iaload, 1) := dk_46 (dk_at dksX4_plain_4 17 rfl rfl)
theorem dX4_plain_112 : decode cX4_plain 112 = .ok (.iload 9, 2) := dk_21 9 (dk_at dksX4_plain_4 18 rfl rfl)
theorem dX4_plain_114 : decode cX4_plain 114 = .ok (.if_icmp .eq 19, 3) := dk_159 0 19 (dk_at dksX4_plain_4 20 rfl rfl)
theorem dX4_plain_117 : decode cX4_plain 117 = .ok (.aload 4, 2) := dk_25 4 (dk_at dksX4_plain_5 0 rfl rfl)
theorem dX4_plain_119 : decode cX4_plain 119 = .ok (.getfield 214, 3) := dk_180 0 214 (dk_at dksX4_plain_5 2 rfl rfl)
theorem dX4_plain_122 : decode cX4_plain 122 = .ok (.iload 12, 2) := dk_21 12 (dk_at dksX4_plain_5 5 rfl rfl)
theorem dX4_plain_124 : decode cX4_plain 124 = .ok (.iaload, 1) := dk_46 (dk_at dksX4_plain_5 7 rfl rfl)
theorem dX4_plain_125 : decode cX4_plain 125 = .ok (.iload 9, 2) := dk_21 9 (dk_at dksX4_plain_5 8 rfl rfl)
theorem dX4_plain_127 : decode cX4_plain 127 = .ok (.if_icmp .eq 6, 3) := dk_159 0 6 (dk_at dksX4_plain_5 10 rfl rfl)
theorem dX4_plain_130 : decode cX4_plain 130 = .ok (.goto 38, 3) := dk_167 0 38 (dk_at dksX4_plain_5 13 rfl rfl)
theorem dX4_plain_133 : decode cX4_plain 133 = .ok (.iload 10, 2) := dk_21 10 (dk_at dksX4_plain_5 16 rfl rfl)
theorem dX4_plain_135 : decode cX4_plain 135 = .ok (.iconst 1, 1) := dk_4 (dk_at dksX4_plain_5 18 rfl rfl)
theorem dX4_plain_136 : decode cX4_plain 136 = .ok (.iload 12, 2) := dk_21 12 (dk_at dksX4_plain_5 19 rfl rfl)
theorem dX4_plain_138 : decode cX4_plain 138 = .ok (.ishl, 1) := dk_120 (dk_at dksX4_plain_5 21 rfl rfl)
theorem dX4_plain_139 : decode cX4_plain 139 = .ok (.ior, 1) := dk_128 (dk_at dksX4_plain_5 22 rfl rfl)
theorem dX4_plain_140 : decode cX4_plain 140 = .ok (.istore 10, 2) := dk_54 10 (dk_at dksX4_plain_6 0 rfl rfl)
theorem dX4_plain_142 : decode cX4_plain 142 = .ok (.iload 11, 2) := dk_21 11 (dk_at dksX4_plain_6 2 rfl rfl)
theorem dX4_plain_144 : decode cX4_plain 144 = .ok (.iconst 1, 1) := dk_4 (dk_at dksX4_plain_6 4 rfl rfl)
theorem dX4_plain_145 : decode cX4_plain 145 = .ok (.aload 4, 2) := dk_25 4 (dk_at dksX4_plain_6 5 rfl rfl)
theorem dX4_plain_147 : decode cX4_plain 147 = .ok (.getfield 208, 3) := dk_180 0 208 (dk_at dksX4_plain_6 7 rfl rfl)
theorem dX4_plain_150 : decode cX4_plain 150 = .ok (.iload 12, 2) := dk_21 12 (dk_at dksX4_plain_6 10 rfl rfl)
theorem dX4_plain_152 : decode cX4_plain 152 = .ok (.iaload, 1) := dk_46 (dk_at dksX4_plain_6 12 rfl rfl)
theorem dX4_plain_153 : decode cX4_plain 153 = .ok (.ishl, 1) := dk_120 (dk_at dksX4_plain_6 13 rfl rfl)
theorem dX4_plain_154 : decode cX4_plain 154 = .ok (.iconst 1, 1) := dk_4 (dk_at dksX4_plain_6 14 rfl rfl)
theorem dX4_plain_155 : decode cX4_plain 155 = .ok (.aload 4, 2) := dk_25 4 (dk_at dksX4_plain_6 15 rfl rfl)
theorem dX4_plain_157 : decode cX4_plain 157 = .ok (.getfield 214, 3) := dk_180 0 214 (dk_at dksX4_plain_6 17 rfl rfl)
theorem dX4_plain_160 : decode cX4_plain 160 = .ok (.iload 12, 2) := dk_21 12 (dk_at dksX4_plain_6 20 rfl rfl)
theorem dX4_plain_162 : decode cX4_plain 162 = .ok (.iaload, 1) := dk_46 (dk_at dksX4_plain_6 22 rfl rfl)
theorem dX4_plain_163 : decode cX4_plain 163 = .ok (.ishl, 1) := dk_120 (dk_at dksX4_plain_6 23 rfl rfl)
theorem dX4_plain_164 : decode cX4_plain 164 = .ok (.ior, 1) := dk_128 (dk_at dksX4_plain_7 0 rfl rfl)
theorem dX4_plain_165 : decode cX4_plain 165 = .ok (.ior, 1) := dk_128 (dk_at dksX4_plain_7 1 rfl rfl)
theorem dX4_plain_166 : decode cX4_plain 166 = .ok (.istore 11, 2) := dk_54 11 (dk_at dksX4_plain_7 2 rfl rfl)
theorem dX4_plain_168 : decode cX4_plain 168 = .ok (.iinc 12 1, 3) := dk_132 12 1 (dk_at dksX4_plain_7 4 rfl rfl)
theorem dX4_plain_171 : decode cX4_plain 171 = .ok (.goto (-77), 3) := dk_167 255 179 (dk_at dksX4_plain_7 7 rfl rfl)
theorem dX4_plain_174 : decode cX4_plain 174 = .ok (.aload_n 0, 1) := dk_42 (dk_at dksX4_plain_7 10 rfl rfl)
theorem dX4_plain_175 : decode cX4_plain 175 = .ok (.aload 4, 2) := dk_25 4 (dk_at dksX4_plain_7 11 rfl rfl)
theorem dX4_plain_177 : decode cX4_plain 177 = .ok (.iload 6, 2) := dk_21 6 (dk_at dksX4_plain_7 13 rfl rfl)
theorem dX4_plain_179 : decode cX4_plain 179 = .ok (.iconst 1, 1) := dk_4 (dk_at dksX4_plain_7 15 rfl rfl)
theorem dX4_plain_180 : decode cX4_plain 180 = .ok (.iload 9, 2) := dk_21 9 (dk_at dksX4_plain_7 16 rfl rfl)
theorem dX4_plain_182 : decode cX4_plain 182 = .ok (.ishl, 1) := dk_120 (dk_at dksX4_plain_7 18 rfl rfl)
theorem dX4_plain_183 : decode cX4_plain 183 = .ok (.iconst (-1), 1) := dk_2 (dk_at dksX4_plain_7 19 rfl rfl)
theorem dX4_plain_184 : decode cX4_plain 184 = .ok (.ixor, 1) := dk_130 (dk_at dksX4_plain_7 20 rfl rfl)
theorem dX4_plain_185 : decode cX4_plain 185 = .ok (.iand, 1) := dk_126 (dk_at dksX4_plain_7 21 rfl rfl)
theorem dX4_plain_186 : decode cX4_plain 186 = .ok (.iconst 1, 1) := dk_4 (dk_at dksX4_plain_7 22 rfl rfl)
theorem dX4_plain_187 : decode cX4_plain 187 = .ok (.aload 4, 2) := dk_25 4 (dk_at dksX4_plain_8 0 rfl rfl)
theorem dX4_plain_189 : decode cX4_plain 189 = .ok (.getfield 205, 3) := dk_180 0 205 (dk_at dksX4_plain_8 2 rfl rfl)
theorem dX4_plain_192 : decode cX4_plain 192 = .ok (.ishl, 1) := dk_120 (dk_at dksX4_plain_8 5 rfl rfl)
theorem dX4_plain_193 : decode cX4_plain 193 = .ok (.iconst 1, 1) := dk_4 (dk_at dksX4_plain_8 6 rfl rfl)
theorem dX4_plain_194 : decode cX4_plain 194 = .ok (.isub, 1) := dk_100 (dk_at dksX4_plain_8 7 rfl rfl)
theorem dX4_plain_195 : decode cX4_plain 195 = .ok (.iload 10, 2) := dk_21 10 (dk_at dksX4_plain_8 8 rfl rfl)
theorem dX4_plain_197 : decode cX4_plain 197 = .ok (.iconst (-1), 1) := dk_2 (dk_at dksX4_plain_8 10 rfl rfl)
theorem dX4_plain_198 : decode cX4_plain 198 = .ok (.ixor, 1) := dk_130 (dk_at dksX4_plain_8 11 rfl rfl)
theorem dX4_plain_199 : decode cX4_plain 199 = .ok (.iand, 1) := dk_126 (dk_at dksX4_plain_8 12 rfl rfl)
theorem dX4_plain_200 : decode cX4_plain 200 = .ok (.aload_n 0, 1) := dk_42 (dk_at dksX4_plain_8 13 rfl rfl)
theorem dX4_plain_201 : decode cX4_plain 201 = .ok (.getfield 96, 3) := dk_180 0 96 (dk_at dksX4_plain_8 14 rfl rfl)
theorem dX4_plain_204 : decode cX4_plain 204 = .ok (.invokevirtual 312, 3) := dk_182 1 56 (dk_at dksX4_plain_8 17 rfl rfl)
theorem dX4_plain_207 : decode cX4_plain 207 = .ok (.aload_n 0, 1) := dk_42 (dk_at dksX4_plain_8 20 rfl rfl)
theorem dX4_plain_208 : decode cX4_plain 208 = .ok (.aload 4, 2) := dk_25 4 (dk_at dksX4_plain_8 21 rfl rfl)
theorem dX4_plain_210 : decode cX4_plain 210 = .ok (.iload 11, 2) := dk_21 11 (dk_at dksX4_plain_9 0 rfl rfl)
theorem dX4_plain_212 : decode cX4_plain 212 = .ok (.iload 10, 2) := dk_21 10 (dk_at dksX4_plain_9 2 rfl rfl)
theorem dX4_plain_214 : decode cX4_plain 214 = .ok (.aload_n 0, 1) := dk_42 (dk_at dksX4_plain_9 4 rfl rfl)
theorem dX4_plain_215 : decode cX4_plain 215 = .ok (.getfield 100, 3) := dk_180 0 100 (dk_at dksX4_plain_9 5 rfl rfl)
theorem dX4_plain_218 : decode cX4_plain 218 = .ok (.invokevirtual 312, 3) := dk_182 1 56 (dk_at dksX4_plain_9 8 rfl rfl)
theorem dX4_plain_221 : decode cX4_plain 221 = .ok (.iconst 0, 1) := dk_3 (dk_at dksX4_plain_9 11 rfl rfl)
theorem dX4_plain_222 : decode cX4_plain 222 = .ok (.istore 12, 2) := dk_54 12 (dk_at dksX4_plain_9 12 rfl rfl)
theorem dX4_plain_224 : decode cX4_plain 224 = .ok (.iload 12, 2) := dk_21 12 (dk_at dksX4_plain_9 14 rfl rfl)
theorem dX4_plain_226 : decode cX4_plain 226 = .ok (.aload_n 0, 1) := dk_42 (dk_at dksX4_plain_9 16 rfl rfl)
theorem dX4_plain_227 : decode cX4_plain 227 = .ok (.getfield 124, 3) := dk_180 0 124 (dk_at dksX4_plain_9 17 rfl rfl)
theorem dX4_plain_230 : decode cX4_plain 230 = .ok (.if_icmp .ge 92, 3) := dk_162 0 92 (dk_at dksX4_plain_9 20 rfl rfl)
theorem dX4_plain_233 : decode cX4_plain 233 = .ok (.aload_n 0, 1) := dk_42 (dk_at dksX4_plain_9 23 rfl rfl)
theorem dX4_plain_234 : decode cX4_plain 234 = .ok (.iload 12, 2) := dk_21 12 (dk_at dksX4_plain_10 0 rfl rfl)
theorem dX4_plain_236 : decode cX4_plain 236 = .ok (.iload 5, 2) := dk_21 5 (dk_at dksX4_plain_10 2 rfl rfl)
theorem dX4_plain_238 : decode cX4_plain 238 = .ok (.iload_n 2, 1) := dk_28 (dk_at dksX4_plain_10 4 rfl rfl)
theorem dX4_plain_239 : decode cX4_plain 239 = .ok (.invokevirtual 309, 3) := dk_182 1 53 (dk_at dksX4_plain_10 5 rfl rfl)
theorem dX4_plain_242 : decode cX4_plain 242 = .ok (.ifCond .ne 6, 3) := dk_154 0 6 (dk_at dksX4_plain_10 8 rfl rfl)
theorem dX4_plain_245 : decode cX4_plain 245 = .ok (.goto 71, 3) := dk_167 0 71 (dk_at dksX4_plain_10 11 rfl rfl)
theorem dX4_plain_248 : decode cX4_plain 248 = .ok (.aload 7, 2) := dk_25 7 (dk_at dksX4_plain_10 14 rfl rfl)
theorem dX4_plain_250 : decode cX4_plain 250 = .ok (.iload 9, 2) := dk_21 9 (dk_at dksX4_plain_10 16 rfl rfl)
theorem dX4_plain_252 : decode cX4_plain 252 = .ok (.dup2, 1) := dk_92 (dk_at dksX4_plain_10 18 rfl rfl)
theorem dX4_plain_253 : decode cX4_plain 253 = .ok (.iaload, 1) := dk_46 (dk_at dksX4_plain_10 19 rfl rfl)
theorem dX4_plain_254 : decode cX4_plain 254 = .ok (.aload_n 0, 1) := dk_42 (dk_at dksX4_plain_10 20 rfl rfl)
theorem dX4_plain_255 : decode cX4_plain 255 = .ok (.aload_n 0, 1) := dk_42 (dk_at dksX4_plain_10 21 rfl rfl)
theorem dX4_plain_256 : decode cX4_plain 256 = .ok (.getfield 23, 3) := dk_180 0 23 (dk_at dksX4_plain_11 0 rfl rfl)
theorem dX4_plain_259 : decode cX4_plain 259 = .ok (.iload 12, 2) := dk_21 12 (dk_at dksX4_plain_11 3 rfl rfl)
theorem dX4_plain_261 : decode cX4_plain 261 = .ok (.aaload, 1) := dk_50 (dk_at dksX4_plain_11 5 rfl rfl)
theorem dX4_plain_262 : decode cX4_plain 262 = .ok (.aload_n 0, 1) := dk_42 (dk_at dksX4_plain_11 6 rfl rfl)
theorem dX4_plain_263 : decode cX4_plain 263 = .ok (.getfield 96, 3) := dk_180 0 96 (dk_at dksX4_plain_11 7 rfl rfl)
theorem dX4_plain_266 : decode cX4_plain 266 = .ok (.invokevirtual 277, 3) := dk_182 1 21 (dk_at dksX4_plain_11 10 rfl rfl)
theorem dX4_plain_269 : decode cX4_plain 269 = .ok (.ifCond .eq 10, 3) := dk_153 0 10 (dk_at dksX4_plain_11 13 rfl rfl)
theorem dX4_plain_272 : decode cX4_plain 272 = .ok (.iconst 1, 1) := dk_4 (dk_at dksX4_plain_11 16 rfl rfl)
theorem dX4_plain_273 : decode cX4_plain 273 = .ok (.iload 12, 2) := dk_21 12 (dk_at dksX4_plain_11 17 rfl rfl)
theorem dX4_plain_275 : decode cX4_plain 275 = .ok (.ishl, 1) := dk_120 (dk_at dksX4_plain_11 19 rfl rfl)
theorem dX4_plain_276 : decode cX4_plain 276 = .ok (.goto 4, 3) := dk_167 0 4 (dk_at dksX4_plain_11 20 rfl rfl)
theorem dX4_plain_279 : decode cX4_plain 279 = .ok (.iconst 0, 1) := dk_3 (dk_at dksX4_plain_11 23 rfl rfl)
theorem dX4_plain_280 : decode cX4_plain 280 = .ok (.ior, 1) := dk_128 (dk_at dksX4_plain_12 0 rfl rfl)
theorem dX4_plain_281 : decode cX4_plain 281 = .ok (.iastore, 1) := dk_79 (dk_at dksX4_plain_12 1 rfl rfl)
theorem dX4_plain_282 : decode cX4_plain 282 = .ok (.aload 8, 2) := dk_25 8 (dk_at dksX4_plain_12 2 rfl rfl)
theorem dX4_plain_284 : decode cX4_plain 284 = .ok (.iload 9, 2) := dk_21 9 (dk_at dksX4_plain_12 4 rfl rfl)
theorem dX4_plain_286 : decode cX4_plain 286 = .ok (.dup2, 1) := dk_92 (dk_at dksX4_plain_12 6 rfl rfl)
theorem dX4_plain_287 : decode cX4_plain 287 = .ok (.iaload, 1) := dk_46 (dk_at dksX4_plain_12 7 rfl rfl)
theorem dX4_plain_288 : decode cX4_plain 288 = .ok (.aload_n 0, 1) := dk_42 (dk_at dksX4_plain_12 8 rfl rfl)
theorem dX4_plain_289 : decode cX4_plain 289 = .ok (.aload_n 0, 1) := dk_42 (dk_at dksX4_plain_12 9 rfl rfl)
theorem dX4_plain_290 : decode cX4_plain 290 = .ok (.getfield 23, 3) := dk_180 0 23 (dk_at dksX4_plain_12 10 rfl rfl)
theorem dX4_plain_293 : decode cX4_plain 293 = .ok (.iload 12, 2) := dk_21 12 (dk_at dksX4_plain_12 13 rfl rfl)
theorem dX4_plain_295 : decode cX4_plain 295 = .ok (.aaload, 1) := dk_50 (dk_at dksX4_plain_12 15 rfl rfl)
theorem dX4_plain_296 : decode cX4_plain 296 = .ok (.aload_n 0, 1) := dk_42 (dk_at dksX4_plain_12 16 rfl rfl)
theorem dX4_plain_297 : decode cX4_plain 297 = .ok (.getfield 100, 3) := dk_180 0 100 (dk_at dksX4_plain_12 17 rfl rfl)
theorem dX4_plain_300 : decode cX4_plain 300 = .ok (.invokevirtual 277, 3) := dk_182 1 21 (dk_at dksX4_plain_12 20 rfl rfl)
theorem dX4_plain_303 : decode cX4_plain 303 = .ok (.ifCond .eq 10, 3) := dk_153 0 10 (dk_at dksX4_plain_13 0 rfl rfl)
theorem dX4_plain_306 : decode cX4_plain 306 = .ok (.iconst 1, 1) := dk_4 (dk_at dksX4_plain_13 3 rfl rfl)
theorem dX4_plain_307 : decode cX4_plain 307 = .ok (.iload 12, 2) := dk_21 12 (dk_at dksX4_plain_13 4 rfl rfl)
theorem dX4_plain_309 : decode cX4_plain 309 = .ok (.ishl, 1) := dk_120 (dk_at dksX4_plain_13 6 rfl rfl)
theorem dX4_plain_310 : decode cX4_plain 310 = .ok (.goto 4, 3) := dk_167 0 4 (dk_at dksX4_plain_13 7 rfl rfl)
theorem dX4_plain_313 : decode cX4_plain 313 = .ok (.iconst 0, 1) := dk_3 (dk_at dksX4_plain_13 10 rfl rfl)
theorem dX4_plain_314 : decode cX4_plain 314 = .ok (.ior, 1) := dk_128 (dk_at dksX4_plain_13 11 rfl rfl)
theorem dX4_plain_315 : decode cX4_plain 315 = .ok (.iastore, 1) := dk_79 (dk_at dksX4_plain_13 12 rfl rfl)
theorem dX4_plain_316 : decode cX4_plain 316 = .ok (.iinc 12 1, 3) := dk_132 12 1 (dk_at dksX4_plain_13 13 rfl rfl)
theorem dX4_plain_319 : decode cX4_plain 319 = .ok (.goto (-95), 3) := dk_167 255 161 (dk_at dksX4_plain_13 16 rfl rfl)
theorem dX4_plain_322 : decode cX4_plain 322 = .ok (.iinc 9 1, 3) := dk_132 9 1 (dk_at dksX4_plain_13 19 rfl rfl)
theorem dX4_plain_325 : decode cX4_plain 325 = .ok (.goto (-262), 3) := dk_167 254 250 (dk_at dksX4_plain_14 0 rfl rfl)
theorem dX4_plain_328 : decode cX4_plain 328 = .ok (.iconst 0, 1) := dk_3 (dk_at dksX4_plain_14 3 rfl rfl)
theorem dX4_plain_329 : decode cX4_plain 329 = .ok (.istore 9, 2) := dk_54 9 (dk_at dksX4_plain_14 4 rfl rfl)
theorem dX4_plain_331 : decode cX4_plain 331 = .ok (.iload 9, 2) := dk_21 9 (dk_at dksX4_plain_14 6 rfl rfl)
theorem dX4_plain_333 : decode cX4_plain 333 = .ok (.aload_n 0, 1) := dk_42 (dk_at dksX4_plain_14 8 rfl rfl)
theorem dX4_plain_334 : decode cX4_plain 334 = .ok (.getfield 124, 3) := dk_180 0 124 (dk_at dksX4_plain_14 9 rfl rfl)
theorem dX4_plain_337 : decode cX4_plain 337 = .ok (.if_icmp .ge 107, 3) := dk_162 0 107 (dk_at dksX4_plain_14 12 rfl rfl)
theorem dX4_plain_340 : decode cX4_plain 340 = .ok (.iconst 0, 1) := dk_3 (dk_at dksX4_plain_14 15 rfl rfl)
theorem dX4_plain_341 : decode cX4_plain 341 = .ok (.istore 10, 2) := dk_54 10 (dk_at dksX4_plain_14 16 rfl rfl)
theorem dX4_plain_343 : decode cX4_plain 343 = .ok (.iload 10, 2) := dk_21 10 (dk_at dksX4_plain_14 18 rfl rfl)
theorem dX4_plain_345 : decode cX4_plain 345 = .ok (.aload_n 0, 1) := dk_42 (dk_at dksX4_plain_14 20 rfl rfl)
theorem dX4_plain_346 : decode cX4_plain 346 = .ok (.getfield 124, 3) := dk_180 0 124 (dk_at dksX4_plain_14 21 rfl rfl)
theorem dX4_plain_349 : decode cX4_plain 349 = .ok (.if_icmp .ge 89, 3) := dk_162 0 89 (dk_at dksX4_plain_15 0 rfl rfl)
theorem dX4_plain_352 : decode cX4_plain 352 = .ok (.iconst 0, 1) := dk_3 (dk_at dksX4_plain_15 3 rfl rfl)
theorem dX4_plain_353 : decode cX4_plain 353 = .ok (.istore 11, 2) := dk_54 11 (dk_at dksX4_plain_15 4 rfl rfl)
theorem dX4_plain_355 : decode cX4_plain 355 = .ok (.iconst 0, 1) := dk_3 (dk_at dksX4_plain_15 6 rfl rfl)
theorem dX4_plain_356 : decode cX4_plain 356 = .ok (.istore 12, 2) := dk_54 12 (dk_at dksX4_plain_15 7 rfl rfl)
theorem dX4_plain_358 : decode cX4_plain 358 = .ok (.iload 12, 2) := dk_21 12 (dk_at dksX4_plain_15 9 rfl rfl)
theorem dX4_plain_360 : decode cX4_plain 360 = .ok (.aload 4, 2) := dk_25 4 (dk_at dksX4_plain_15 11 rfl rfl)
theorem dX4_plain_362 : decode cX4_plain 362 = .ok (.getfield 196, 3) := dk_180 0 196 (dk_at dksX4_plain_15 13 rfl rfl)
theorem dX4_plain_365 : decode cX4_plain 365 = .ok (.if_icmp .ge 49, 3) := dk_162 0 49 (dk_at dksX4_plain_15 16 rfl rfl)
theorem dX4_plain_368 : decode cX4_plain 368 = .ok (.iload 11, 2) := dk_21 11 (dk_at dksX4_plain_15 19 rfl rfl)
theorem dX4_plain_370 : decode cX4_plain 370 = .ok (.ifCond .ne 31, 3) := dk_154 0 31 (dk_at dksX4_plain_15 21 rfl rfl)
theorem dX4_plain_373 : decode cX4_plain 373 = .ok (.aload 7, 2) := dk_25 7 (dk_at dksX4_plain_16 0 rfl rfl)
theorem dX4_plain_375 : decode cX4_plain 375 = .ok (.iload 12, 2) := dk_21 12 (dk_at dksX4_plain_16 2 rfl rfl)
theorem dX4_plain_377 : decode cX4_plain 377 = .ok (.iaload, 1) := dk_46 (dk_at dksX4_plain_16 4 rfl rfl)
theorem dX4_plain_378 : decode cX4_plain 378 = .ok (.iload 9, 2) := dk_21 9 (dk_at dksX4_plain_16 5 rfl rfl)
theorem dX4_plain_380 : decode cX4_plain 380 = .ok (.ishr, 1) := dk_122 (dk_at dksX4_plain_16 7 rfl rfl)
theorem dX4_plain_381 : decode cX4_plain 381 = .ok (.iconst 1, 1) := dk_4 (dk_at dksX4_plain_16 8 rfl rfl)
theorem dX4_plain_382 : decode cX4_plain 382 = .ok (.iand, 1) := dk_126 (dk_at dksX4_plain_16 9 rfl rfl)
theorem dX4_plain_383 : decode cX4_plain 383 = .ok (.iconst 1, 1) := dk_4 (dk_at dksX4_plain_16 10 rfl rfl)
theorem dX4_plain_384 : decode cX4_plain 384 = .ok (.if_icmp .ne 21, 3) := dk_160 0 21 (dk_at dksX4_plain_16 11 rfl rfl)
theorem dX4_plain_387 : decode cX4_plain 387 = .ok (.aload 8, 2) := dk_25 8 (dk_at dksX4_plain_16 14 rfl rfl)
theorem dX4_plain_389 : decode cX4_plain 389 = .ok (.iload 12, 2) := dk_21 12 (dk_at dksX4_plain_16 16 rfl rfl)
theorem dX4_plain_391 : decode cX4_plain 391 = .ok (.iaload, 1) := dk_46 (dk_at dksX4_plain_16 18 rfl rfl)
theorem dX4_plain_392 : decode cX4_plain 392 = .ok (.iload 10, 2) := dk_21 10 (dk_at dksX4_plain_16 19 rfl rfl)
theorem dX4_plain_394 : decode cX4_plain 394 = .ok (.ishr, 1) := dk_122 (dk_at dksX4_plain_16 21 rfl rfl)
theorem dX4_plain_395 : decode cX4_plain 395 = .ok (.iconst 1, 1) := dk_4 (dk_at dksX4_plain_16 22 rfl rfl)
theorem dX4_plain_396 : decode cX4_plain 396 = .ok (.iand, 1) := dk_126 (dk_at dksX4_plain_16 23 rfl rfl)
theorem dX4_plain_397 : decode cX4_plain 397 = .ok (.iconst 1, 1) := dk_4 (dk_at dksX4_plain_17 0 rfl rfl)
theorem dX4_plain_398 : decode cX4_plain 398 = .ok (.if_icmp .ne 7, 3) := dk_160 0 7 (dk_at dksX4_plain_17 1 rfl rfl)
theorem dX4_plain_401 : decode cX4_plain 401 = .ok (.iconst 1, 1) := dk_4 (dk_at dksX4_plain_17 4 rfl rfl)
theorem dX4_plain_402 : decode cX4_plain 402 = .ok (.goto 4, 3) := dk_167 0 4 (dk_at dksX4_plain_17 5 rfl rfl)
theorem dX4_plain_405 : decode cX4_plain 405 = .ok (.iconst 0, 1) := dk_3 (dk_at dksX4_plain_17 8 rfl rfl)
theorem dX4_plain_406 : decode cX4_plain 406 = .ok (.istore 11, 2) := dk_54 11 (dk_at dksX4_plain_17 9 rfl rfl)
theorem dX4_plain_408 : decode cX4_plain 408 = .ok (.iinc 12 1, 3) := dk_132 12 1 (dk_at dksX4_plain_17 11 rfl rfl)
theorem dX4_plain_411 : decode cX4_plain 411 = .ok (.goto (-53), 3) := dk_167 255 203 (dk_at dksX4_plain_17 14 rfl rfl)
theorem dX4_plain_414 : decode cX4_plain 414 = .ok (.iload 11, 2) := dk_21 11 (dk_at dksX4_plain_17 17 rfl rfl)
theorem dX4_plain_416 : decode cX4_plain 416 = .ok (.ifCond .eq 16, 3) := dk_153 0 16 (dk_at dksX4_plain_17 19 rfl rfl)
theorem dX4_plain_419 : decode cX4_plain 419 = .ok (.aload_n 0, 1) := dk_42 (dk_at dksX4_plain_17 22 rfl rfl)
theorem dX4_plain_420 : decode cX4_plain 420 = .ok (.bipush 100, 2) := dk_16 100 (dk_at dksX4_plain_18 0 rfl rfl)
theorem dX4_plain_422 : decode cX4_plain 422 = .ok (.iload 9, 2) := dk_21 9 (dk_at dksX4_plain_18 2 rfl rfl)
theorem dX4_plain_424 : decode cX4_plain 424 = .ok (.imul, 1) := dk_104 (dk_at dksX4_plain_18 4 rfl rfl)
theorem dX4_plain_425 : decode cX4_plain 425 = .ok (.iload 10, 2) := dk_21 10 (dk_at dksX4_plain_18 5 rfl rfl)
theorem dX4_plain_427 : decode cX4_plain 427 = .ok (.iadd, 1) := dk_96 (dk_at dksX4_plain_18 7 rfl rfl)
theorem dX4_plain_428 : decode cX4_plain 428 = .ok (.invokevirtual 249, 3) := dk_182 0 249 (dk_at dksX4_plain_18 8 rfl rfl)
theorem dX4_plain_431 : decode cX4_plain 431 = .ok (.ireturn, 1) := dk_172 (dk_at dksX4_plain_18 11 rfl rfl)
theorem dX4_plain_432 : decode cX4_plain 432 = .ok (.iinc 10 1, 3) := dk_132 10 1 (dk_at dksX4_plain_18 12 rfl rfl)
theorem dX4_plain_435 : decode cX4_plain 435 = .ok (.goto (-92), 3) := dk_167 255 164 (dk_at dksX4_plain_18 15 rfl rfl)
theorem dX4_plain_438 : decode cX4_plain 438 = .ok (.iinc 9 1, 3) := dk_132 9 1 (dk_at dksX4_plain_18 18 rfl rfl)
theorem dX4_plain_441 : decode cX4_plain 441 = .ok (.goto (-110), 3) := dk_167 255 146 (dk_at dksX4_plain_18 21 rfl rfl)
theorem dX4_plain_444 : decode cX4_plain 444 = .ok (.aload_n 0, 1) := dk_42 (dk_at dksX4_plain_19 0 rfl rfl)
theorem dX4_plain_445 : decode cX4_plain 445 = .ok (.bipush (-2), 2) := dk_16 254 (dk_at dksX4_plain_19 1 rfl rfl)
theorem dX4_plain_447 : decode cX4_plain 447 = .ok (.invokevirtual 249, 3) := dk_182 0 249 (dk_at dksX4_plain_19 3 rfl rfl)
theorem dX4_plain_450 : decode cX4_plain 450 = .ok (.ireturn, 1) := dk_172 (dk_at dksX4_plain_19 6 rfl rfl)
abbrev cX4_choose : ByteArray := prog_22_method_25_code
def yX4_choose : MethodName := ⟨RX4, "choose", "(LPatentHallModel$Text;IILPatentHallModel$Text;)V"⟩
def dkwX4_choose_7 : List UInt8 := [21, 6, 46, 46, 79, 25, 4, 89, 180, 0, 205, 4, 96, 181, 0, 205, 132, 6, 1, 167, 255, 161, 177]
abbrev dktX4_choose_7 : List UInt8 := dkwX4_choose_7 ++ []
def dkwX4_choose_6 : List UInt8 := [43, 180, 0, 211, 21, 6, 46, 79, 25, 4, 180, 0, 214, 25, 4, 180, 0, 205, 25, 5, 43, 180, 0, 214]
abbrev dktX4_choose_6 : List UInt8 := dkwX4_choose_6 ++ dktX4_choose_7
def dkwX4_choose_5 : List UInt8 := [180, 0, 205, 25, 5, 43, 180, 0, 208, 21, 6, 46, 46, 79, 25, 4, 180, 0, 211, 25, 4, 180, 0, 205]
abbrev dktX4_choose_5 : List UInt8 := dkwX4_choose_5 ++ dktX4_choose_6
def dkwX4_choose_4 : List UInt8 := [162, 0, 92, 29, 21, 6, 122, 4, 126, 154, 0, 6, 167, 0, 74, 25, 4, 180, 0, 208, 25, 4]
abbrev dktX4_choose_4 : List UInt8 := dkwX4_choose_4 ++ dktX4_choose_5
def dkwX4_choose_3 : List UInt8 := [89, 180, 0, 196, 4, 96, 181, 0, 196, 132, 6, 1, 167, 255, 193, 3, 54, 6, 21, 6, 43, 180, 0, 205]
abbrev dktX4_choose_3 : List UInt8 := dkwX4_choose_3 ++ dktX4_choose_4
def dkwX4_choose_2 : List UInt8 := [180, 0, 196, 79, 25, 4, 180, 0, 202, 25, 4, 180, 0, 196, 43, 180, 0, 202, 21, 6, 46, 79, 25, 4]
abbrev dktX4_choose_2 : List UInt8 := dkwX4_choose_2 ++ dktX4_choose_3
def dkwX4_choose_1 : List UInt8 := [180, 0, 196, 162, 0, 60, 28, 21, 6, 122, 4, 126, 154, 0, 6, 167, 0, 42, 25, 5, 21, 6, 25, 4]
abbrev dktX4_choose_1 : List UInt8 := dkwX4_choose_1 ++ dktX4_choose_2
def dkwX4_choose_0 : List UInt8 := [16, 8, 188, 10, 58, 5, 25, 4, 3, 181, 0, 196, 25, 4, 3, 181, 0, 205, 3, 54, 6, 21, 6, 43]
abbrev dktX4_choose_0 : List UInt8 := dkwX4_choose_0 ++ dktX4_choose_1
theorem dksX4_choose_0 : cX4_choose.data.toList.drop 0 = dktX4_choose_0 := by decide +kernel
theorem dksX4_choose_1 : cX4_choose.data.toList.drop 24 = dktX4_choose_1 := dk_seg dksX4_choose_0 24 rfl rfl
theorem dksX4_choose_2 : cX4_choose.data.toList.drop 48 = dktX4_choose_2 := dk_seg dksX4_choose_1 24 rfl rfl
theorem dksX4_choose_3 : cX4_choose.data.toList.drop 72 = dktX4_choose_3 := dk_seg dksX4_choose_2 24 rfl rfl
theorem dksX4_choose_4 : cX4_choose.data.toList.drop 96 = dktX4_choose_4 := dk_seg dksX4_choose_3 24 rfl rfl
theorem dksX4_choose_5 : cX4_choose.data.toList.drop 118 = dktX4_choose_5 := dk_seg dksX4_choose_4 22 rfl rfl
theorem dksX4_choose_6 : cX4_choose.data.toList.drop 142 = dktX4_choose_6 := dk_seg dksX4_choose_5 24 rfl rfl
theorem dksX4_choose_7 : cX4_choose.data.toList.drop 166 = dktX4_choose_7 := dk_seg dksX4_choose_6 24 rfl rfl
theorem dX4_choose_0 : decode cX4_choose 0 = .ok (.bipush 8, 2) := dk_16 8 (dk_at dksX4_choose_0 0 rfl rfl)
theorem dX4_choose_2 : decode cX4_choose 2 = .ok (.newarray .int, 2) := dk_188_10 (dk_at dksX4_choose_0 2 rfl rfl)
theorem dX4_choose_4 : decode cX4_choose 4 = .ok (.astore 5, 2) := dk_58 5 (dk_at dksX4_choose_0 4 rfl rfl)
theorem dX4_choose_6 : decode cX4_choose 6 = .ok (.aload 4, 2) := dk_25 4 (dk_at dksX4_choose_0 6 rfl rfl)
theorem dX4_choose_8 : decode cX4_choose 8 = .ok (.iconst 0, 1) := dk_3 (dk_at dksX4_choose_0 8 rfl rfl)
theorem dX4_choose_9 : decode cX4_choose 9 = .ok (.putfield 196, 3) := dk_181 0 196 (dk_at dksX4_choose_0 9 rfl rfl)
theorem dX4_choose_12 : decode cX4_choose 12 = .ok (.aload 4, 2) := dk_25 4 (dk_at dksX4_choose_0 12 rfl rfl)
theorem dX4_choose_14 : decode cX4_choose 14 = .ok (.iconst 0, 1) := dk_3 (dk_at dksX4_choose_0 14 rfl rfl)
theorem dX4_choose_15 : decode cX4_choose 15 = .ok (.putfield 205, 3) := dk_181 0 205 (dk_at dksX4_choose_0 15 rfl rfl)
theorem dX4_choose_18 : decode cX4_choose 18 = .ok (.iconst 0, 1) := dk_3 (dk_at dksX4_choose_0 18 rfl rfl)
theorem dX4_choose_19 : decode cX4_choose 19 = .ok (.istore 6, 2) := dk_54 6 (dk_at dksX4_choose_0 19 rfl rfl)
theorem dX4_choose_21 : decode cX4_choose 21 = .ok (.iload 6, 2) := dk_21 6 (dk_at dksX4_choose_0 21 rfl rfl)
theorem dX4_choose_23 : decode cX4_choose 23 = .ok (.aload_n 1, 1) := dk_43 (dk_at dksX4_choose_0 23 rfl rfl)
theorem dX4_choose_24 : decode cX4_choose 24 = .ok (.getfield 196, 3) := dk_180 0 196 (dk_at dksX4_choose_1 0 rfl rfl)
theorem dX4_choose_27 : decode cX4_choose 27 = .ok (.if_icmp .ge 60, 3) := dk_162 0 60 (dk_at dksX4_choose_1 3 rfl rfl)
theorem dX4_choose_30 : decode cX4_choose 30 = .ok (.iload_n 2, 1) := dk_28 (dk_at dksX4_choose_1 6 rfl rfl)
theorem dX4_choose_31 : decode cX4_choose 31 = .ok (.iload 6, 2) := dk_21 6 (dk_at dksX4_choose_1 7 rfl rfl)
theorem dX4_choose_33 : decode cX4_choose 33 = .ok (.ishr, 1) := dk_122 (dk_at dksX4_choose_1 9 rfl rfl)
theorem dX4_choose_34 : decode cX4_choose 34 = .ok (.iconst 1, 1) := dk_4 (dk_at dksX4_choose_1 10 rfl rfl)
theorem dX4_choose_35 : decode cX4_choose 35 = .ok (.iand, 1) := dk_126 (dk_at dksX4_choose_1 11 rfl rfl)
theorem dX4_choose_36 : decode cX4_choose 36 = .ok (.ifCond .ne 6, 3) := dk_154 0 6 (dk_at dksX4_choose_1 12 rfl rfl)
theorem dX4_choose_39 : decode cX4_choose 39 = .ok (.goto 42, 3) := dk_167 0 42 (dk_at dksX4_choose_1 15 rfl rfl)
theorem dX4_choose_42 : decode cX4_choose 42 = .ok (.aload 5, 2) := dk_25 5 (dk_at dksX4_choose_1 18 rfl rfl)
theorem dX4_choose_44 : decode cX4_choose 44 = .ok (.iload 6, 2) := dk_21 6 (dk_at dksX4_choose_1 20 rfl rfl)
theorem dX4_choose_46 : decode cX4_choose 46 = .ok (.aload 4, 2) := dk_25 4 (dk_at dksX4_choose_1 22 rfl rfl)
theorem dX4_choose_48 : decode cX4_choose 48 = .ok (.getfield 196, 3) := dk_180 0 196 (dk_at dksX4_choose_2 0 rfl rfl)
theorem dX4_choose_51 : decode cX4_choose 51 = .ok (.iastore, 1) := dk_79 (dk_at dksX4_choose_2 3 rfl rfl)
theorem dX4_choose_52 : decode cX4_choose 52 = .ok (.aload 4, 2) := dk_25 4 (dk_at dksX4_choose_2 4 rfl rfl)
theorem dX4_choose_54 : decode cX4_choose 54 = .ok (.getfield 202, 3) := dk_180 0 202 (dk_at dksX4_choose_2 6 rfl rfl)
theorem dX4_choose_57 : decode cX4_choose 57 = .ok (.aload 4, 2) := dk_25 4 (dk_at dksX4_choose_2 9 rfl rfl)
theorem dX4_choose_59 : decode cX4_choose 59 = .ok (.getfield 196, 3) := dk_180 0 196 (dk_at dksX4_choose_2 11 rfl rfl)
theorem dX4_choose_62 : decode cX4_choose 62 = .ok (.aload_n 1, 1) := dk_43 (dk_at dksX4_choose_2 14 rfl rfl)
theorem dX4_choose_63 : decode cX4_choose 63 = .ok (.getfield 202, 3) := dk_180 0 202 (dk_at dksX4_choose_2 15 rfl rfl)
theorem dX4_choose_66 : decode cX4_choose 66 = .ok (.iload 6, 2) := dk_21 6 (dk_at dksX4_choose_2 18 rfl rfl)
theorem dX4_choose_68 : decode cX4_choose 68 = .ok (.iaload, 1) := dk_46 (dk_at dksX4_choose_2 20 rfl rfl)
theorem dX4_choose_69 : decode cX4_choose 69 = .ok (.iastore, 1) := dk_79 (dk_at dksX4_choose_2 21 rfl rfl)
theorem dX4_choose_70 : decode cX4_choose 70 = .ok (.aload 4, 2) := dk_25 4 (dk_at dksX4_choose_2 22 rfl rfl)
theorem dX4_choose_72 : decode cX4_choose 72 = .ok (.dup, 1) := dk_89 (dk_at dksX4_choose_3 0 rfl rfl)
theorem dX4_choose_73 : decode cX4_choose 73 = .ok (.getfield 196, 3) := dk_180 0 196 (dk_at dksX4_choose_3 1 rfl rfl)
theorem dX4_choose_76 : decode cX4_choose 76 = .ok (.iconst 1, 1) := dk_4 (dk_at dksX4_choose_3 4 rfl rfl)
theorem dX4_choose_77 : decode cX4_choose 77 = .ok (.iadd, 1) := dk_96 (dk_at dksX4_choose_3 5 rfl rfl)
theorem dX4_choose_78 : decode cX4_choose 78 = .ok (.putfield 196, 3) := dk_181 0 196 (dk_at dksX4_choose_3 6 rfl rfl)
theorem dX4_choose_81 : decode cX4_choose 81 = .ok (.iinc 6 1, 3) := dk_132 6 1 (dk_at dksX4_choose_3 9 rfl rfl)
theorem dX4_choose_84 : decode cX4_choose 84 = .ok (.goto (-63), 3) := dk_167 255 193 (dk_at dksX4_choose_3 12 rfl rfl)
theorem dX4_choose_87 : decode cX4_choose 87 = .ok (.iconst 0, 1) := dk_3 (dk_at dksX4_choose_3 15 rfl rfl)
theorem dX4_choose_88 : decode cX4_choose 88 = .ok (.istore 6, 2) := dk_54 6 (dk_at dksX4_choose_3 16 rfl rfl)
theorem dX4_choose_90 : decode cX4_choose 90 = .ok (.iload 6, 2) := dk_21 6 (dk_at dksX4_choose_3 18 rfl rfl)
theorem dX4_choose_92 : decode cX4_choose 92 = .ok (.aload_n 1, 1) := dk_43 (dk_at dksX4_choose_3 20 rfl rfl)
theorem dX4_choose_93 : decode cX4_choose 93 = .ok (.getfield 205, 3) := dk_180 0 205 (dk_at dksX4_choose_3 21 rfl rfl)
theorem dX4_choose_96 : decode cX4_choose 96 = .ok (.if_icmp .ge 92, 3) := dk_162 0 92 (dk_at dksX4_choose_4 0 rfl rfl)
theorem dX4_choose_99 : decode cX4_choose 99 = .ok (.iload_n 3, 1) := dk_29 (dk_at dksX4_choose_4 3 rfl rfl)
theorem dX4_choose_100 : decode cX4_choose 100 = .ok (.iload 6, 2) := dk_21 6 (dk_at dksX4_choose_4 4 rfl rfl)
theorem dX4_choose_102 : decode cX4_choose 102 = .ok (.ishr, 1) := dk_122 (dk_at dksX4_choose_4 6 rfl rfl)
theorem dX4_choose_103 : decode cX4_choose 103 = .ok (.iconst 1, 1) := dk_4 (dk_at dksX4_choose_4 7 rfl rfl)
theorem dX4_choose_104 : decode cX4_choose 104 = .ok (.iand, 1) := dk_126 (dk_at dksX4_choose_4 8 rfl rfl)
theorem dX4_choose_105 : decode cX4_choose 105 = .ok (.ifCond .ne 6, 3) := dk_154 0 6 (dk_at dksX4_choose_4 9 rfl rfl)
theorem dX4_choose_108 : decode cX4_choose 108 = .ok (.goto 74, 3) := dk_167 0 74 (dk_at dksX4_choose_4 12 rfl rfl)
theorem dX4_choose_111 : decode cX4_choose 111 = .ok (.aload 4, 2) := dk_25 4 (dk_at dksX4_choose_4 15 rfl rfl)
theorem dX4_choose_113 : decode cX4_choose 113 = .ok (.getfield 208, 3) := dk_180 0 208 (dk_at dksX4_choose_4 17 rfl rfl)
theorem dX4_choose_116 : decode cX4_choose 116 = .ok (.aload 4, 2) := dk_25 4 (dk_at dksX4_choose_4 20 rfl rfl)
theorem dX4_choose_118 : decode cX4_choose 118 = .ok (.getfield 205, 3) := dk_180 0 205 (dk_at dksX4_choose_5 0 rfl rfl)
theorem dX4_choose_121 : decode cX4_choose 121 = .ok (.aload 5, 2) := dk_25 5 (dk_at dksX4_choose_5 3 rfl rfl)
theorem dX4_choose_123 : decode cX4_choose 123 = .ok (.aload_n 1, 1) := dk_43 (dk_at dksX4_choose_5 5 rfl rfl)
theorem dX4_choose_124 : decode cX4_choose 124 = .ok (.getfield 208, 3) := dk_180 0 208 (dk_at dksX4_choose_5 6 rfl rfl)
theorem dX4_choose_127 : decode cX4_choose 127 = .ok (.iload 6, 2) := dk_21 6 (dk_at dksX4_choose_5 9 rfl rfl)
theorem dX4_choose_129 : decode cX4_choose 129 = .ok (.iaload, 1) := dk_46 (dk_at dksX4_choose_5 11 rfl rfl)
theorem dX4_choose_130 : decode cX4_choose 130 = .ok (.iaload, 1) := dk_46 (dk_at dksX4_choose_5 12 rfl rfl)
theorem dX4_choose_131 : decode cX4_choose 131 = .ok (.iastore, 1) := dk_79 (dk_at dksX4_choose_5 13 rfl rfl)
theorem dX4_choose_132 : decode cX4_choose 132 = .ok (.aload 4, 2) := dk_25 4 (dk_at dksX4_choose_5 14 rfl rfl)
theorem dX4_choose_134 : decode cX4_choose 134 = .ok (.getfield 211, 3) := dk_180 0 211 (dk_at dksX4_choose_5 16 rfl rfl)
theorem dX4_choose_137 : decode cX4_choose 137 = .ok (.aload 4, 2) := dk_25 4 (dk_at dksX4_choose_5 19 rfl rfl)
theorem dX4_choose_139 : decode cX4_choose 139 = .ok (.getfield 205, 3) := dk_180 0 205 (dk_at dksX4_choose_5 21 rfl rfl)
theorem dX4_choose_142 : decode cX4_choose 142 = .ok (.aload_n 1, 1) := dk_43 (dk_at dksX4_choose_6 0 rfl rfl)
theorem dX4_choose_143 : decode cX4_choose 143 = .ok (.getfield 211, 3) := dk_180 0 211 (dk_at dksX4_choose_6 1 rfl rfl)
theorem dX4_choose_146 : decode cX4_choose 146 = .ok (.iload 6, 2) := dk_21 6 (dk_at dksX4_choose_6 4 rfl rfl)
theorem dX4_choose_148 : decode cX4_choose 148 = .ok (.iaload, 1) := dk_46 (dk_at dksX4_choose_6 6 rfl rfl)
theorem dX4_choose_149 : decode cX4_choose 149 = .ok (.iastore, 1) := dk_79 (dk_at dksX4_choose_6 7 rfl rfl)
theorem dX4_choose_150 : decode cX4_choose 150 = .ok (.aload 4, 2) := dk_25 4 (dk_at dksX4_choose_6 8 rfl rfl)
theorem dX4_choose_152 : decode cX4_choose 152 = .ok (.getfield 214, 3) := dk_180 0 214 (dk_at dksX4_choose_6 10 rfl rfl)
theorem dX4_choose_155 : decode cX4_choose 155 = .ok (.aload 4, 2) := dk_25 4 (dk_at dksX4_choose_6 13 rfl rfl)
theorem dX4_choose_157 : decode cX4_choose 157 = .ok (.getfield 205, 3) := dk_180 0 205 (dk_at dksX4_choose_6 15 rfl rfl)
theorem dX4_choose_160 : decode cX4_choose 160 = .ok (.aload 5, 2) := dk_25 5 (dk_at dksX4_choose_6 18 rfl rfl)
theorem dX4_choose_162 : decode cX4_choose 162 = .ok (.aload_n 1, 1) := dk_43 (dk_at dksX4_choose_6 20 rfl rfl)
theorem dX4_choose_163 : decode cX4_choose 163 = .ok (.getfield 214, 3) := dk_180 0 214 (dk_at dksX4_choose_6 21 rfl rfl)
theorem dX4_choose_166 : decode cX4_choose 166 = .ok (.iload 6, 2) := dk_21 6 (dk_at dksX4_choose_7 0 rfl rfl)
theorem dX4_choose_168 : decode cX4_choose 168 = .ok (.iaload, 1) := dk_46 (dk_at dksX4_choose_7 2 rfl rfl)
theorem dX4_choose_169 : decode cX4_choose 169 = .ok (.iaload, 1) := dk_46 (dk_at dksX4_choose_7 3 rfl rfl)
theorem dX4_choose_170 : decode cX4_choose 170 = .ok (.iastore, 1) := dk_79 (dk_at dksX4_choose_7 4 rfl rfl)
theorem dX4_choose_171 : decode cX4_choose 171 = .ok (.aload 4, 2) := dk_25 4 (dk_at dksX4_choose_7 5 rfl rfl)
theorem dX4_choose_173 : decode cX4_choose 173 = .ok (.dup, 1) := dk_89 (dk_at dksX4_choose_7 7 rfl rfl)
theorem dX4_choose_174 : decode cX4_choose 174 = .ok (.getfield 205, 3) := dk_180 0 205 (dk_at dksX4_choose_7 8 rfl rfl)
theorem dX4_choose_177 : decode cX4_choose 177 = .ok (.iconst 1, 1) := dk_4 (dk_at dksX4_choose_7 11 rfl rfl)
theorem dX4_choose_178 : decode cX4_choose 178 = .ok (.iadd, 1) := dk_96 (dk_at dksX4_choose_7 12 rfl rfl)
theorem dX4_choose_179 : decode cX4_choose 179 = .ok (.putfield 205, 3) := dk_181 0 205 (dk_at dksX4_choose_7 13 rfl rfl)
theorem dX4_choose_182 : decode cX4_choose 182 = .ok (.iinc 6 1, 3) := dk_132 6 1 (dk_at dksX4_choose_7 16 rfl rfl)
theorem dX4_choose_185 : decode cX4_choose 185 = .ok (.goto (-95), 3) := dk_167 255 161 (dk_at dksX4_choose_7 19 rfl rfl)
theorem dX4_choose_188 : decode cX4_choose 188 = .ok (.return_, 1) := dk_177 (dk_at dksX4_choose_7 22 rfl rfl)
abbrev cX4_widest : ByteArray := prog_22_method_53_code
def yX4_widest : MethodName := ⟨RX4, "widest", "(I)I"⟩
def dkwX4_widest_10 : List UInt8 := [172, 42, 21, 4, 181, 0, 103, 42, 21, 4, 184, 1, 60, 182, 0, 249, 172]
abbrev dktX4_widest_10 : List UInt8 := dkwX4_widest_10 ++ []
def dkwX4_widest_9 : List UInt8 := [154, 0, 7, 21, 5, 54, 4, 132, 5, 1, 167, 255, 73, 21, 4, 154, 0, 10, 42, 16, 254, 182, 0, 249]
abbrev dktX4_widest_9 : List UInt8 := dkwX4_widest_9 ++ dktX4_widest_10
def dkwX4_widest_8 : List UInt8 := [180, 0, 96, 182, 1, 21, 153, 0, 7, 4, 167, 0, 4, 3, 54, 7, 132, 8, 1, 167, 255, 200, 21, 7]
abbrev dktX4_widest_8 : List UInt8 := dkwX4_widest_8 ++ dktX4_widest_9
def dkwX4_widest_7 : List UInt8 := [21, 8, 29, 42, 180, 0, 121, 182, 1, 53, 153, 0, 25, 42, 42, 180, 0, 23, 21, 8, 50, 42]
abbrev dktX4_widest_7 : List UInt8 := dkwX4_widest_7 ++ dktX4_widest_8
def dkwX4_widest_6 : List UInt8 := [182, 1, 56, 3, 54, 7, 3, 54, 8, 21, 8, 42, 180, 0, 124, 162, 0, 53, 21, 7, 154, 0, 48, 42]
abbrev dktX4_widest_6 : List UInt8 := dkwX4_widest_6 ++ dktX4_widest_7
def dkwX4_widest_5 : List UInt8 := [120, 167, 0, 4, 3, 128, 54, 6, 132, 7, 1, 167, 255, 204, 42, 44, 21, 5, 21, 6, 42, 180, 0, 96]
abbrev dktX4_widest_5 : List UInt8 := dkwX4_widest_5 ++ dktX4_widest_6
def dkwX4_widest_4 : List UInt8 := [21, 7, 46, 122, 21, 5, 44, 180, 0, 214, 21, 7, 46, 122, 126, 4, 126, 4, 160, 0, 10, 4, 21, 7]
abbrev dktX4_widest_4 : List UInt8 := dkwX4_widest_4 ++ dktX4_widest_5
def dkwX4_widest_3 : List UInt8 := [3, 54, 6, 3, 54, 7, 21, 7, 44, 180, 0, 205, 162, 0, 49, 21, 6, 21, 5, 44, 180, 0, 208]
abbrev dktX4_widest_3 : List UInt8 := dkwX4_widest_3 ++ dktX4_widest_4
def dkwX4_widest_2 : List UInt8 := [162, 0, 178, 21, 4, 158, 0, 19, 21, 5, 184, 1, 60, 21, 4, 184, 1, 60, 161, 0, 6, 167, 0, 151]
abbrev dktX4_widest_2 : List UInt8 := dkwX4_widest_2 ++ dktX4_widest_3
def dkwX4_widest_1 : List UInt8 := [50, 77, 42, 27, 182, 1, 38, 62, 3, 54, 4, 4, 54, 5, 21, 5, 4, 44, 180, 0, 196, 120]
abbrev dktX4_widest_1 : List UInt8 := dkwX4_widest_1 ++ dktX4_widest_2
def dkwX4_widest_0 : List UInt8 := [42, 3, 181, 0, 109, 42, 27, 182, 1, 14, 154, 0, 9, 42, 4, 182, 0, 239, 172, 42, 180, 0, 33, 27]
abbrev dktX4_widest_0 : List UInt8 := dkwX4_widest_0 ++ dktX4_widest_1
theorem dksX4_widest_0 : cX4_widest.data.toList.drop 0 = dktX4_widest_0 := by decide +kernel
theorem dksX4_widest_1 : cX4_widest.data.toList.drop 24 = dktX4_widest_1 := dk_seg dksX4_widest_0 24 rfl rfl
theorem dksX4_widest_2 : cX4_widest.data.toList.drop 46 = dktX4_widest_2 := dk_seg dksX4_widest_1 22 rfl rfl
theorem dksX4_widest_3 : cX4_widest.data.toList.drop 70 = dktX4_widest_3 := dk_seg dksX4_widest_2 24 rfl rfl
theorem dksX4_widest_4 : cX4_widest.data.toList.drop 93 = dktX4_widest_4 := dk_seg dksX4_widest_3 23 rfl rfl
theorem dksX4_widest_5 : cX4_widest.data.toList.drop 117 = dktX4_widest_5 := dk_seg dksX4_widest_4 24 rfl rfl
theorem dksX4_widest_6 : cX4_widest.data.toList.drop 141 = dktX4_widest_6 := dk_seg dksX4_widest_5 24 rfl rfl
theorem dksX4_widest_7 : cX4_widest.data.toList.drop 165 = dktX4_widest_7 := dk_seg dksX4_widest_6 24 rfl rfl
theorem dksX4_widest_8 : cX4_widest.data.toList.drop 187 = dktX4_widest_8 := dk_seg dksX4_widest_7 22 rfl rfl
theorem dksX4_widest_9 : cX4_widest.data.toList.drop 211 = dktX4_widest_9 := dk_seg dksX4_widest_8 24 rfl rfl
theorem dksX4_widest_10 : cX4_widest.data.toList.drop 235 = dktX4_widest_10 := dk_seg dksX4_widest_9 24 rfl rfl
theorem dX4_widest_0 : decode cX4_widest 0 = .ok (.aload_n 0, 1) := dk_42 (dk_at dksX4_widest_0 0 rfl rfl)
theorem dX4_widest_1 : decode cX4_widest 1 = .ok (.iconst 0, 1) := dk_3 (dk_at dksX4_widest_0 1 rfl rfl)
theorem dX4_widest_2 : decode cX4_widest 2 = .ok (.putfield 109, 3) := dk_181 0 109 (dk_at dksX4_widest_0 2 rfl rfl)
theorem dX4_widest_5 : decode cX4_widest 5 = .ok (.aload_n 0, 1) := dk_42 (dk_at dksX4_widest_0 5 rfl rfl)
theorem dX4_widest_6 : decode cX4_widest 6 = .ok (.iload_n 1, 1) := dk_27 (dk_at dksX4_widest_0 6 rfl rfl)
theorem dX4_widest_7 : decode cX4_widest 7 = .ok (.invokevirtual 270, 3) := dk_182 1 14 (dk_at dksX4_widest_0 7 rfl rfl)
theorem dX4_widest_10 : decode cX4_widest 10 = .ok (.ifCond .ne 9, 3) := dk_154 0 9 (dk_at dksX4_widest_0 10 rfl rfl)
theorem dX4_widest_13 : decode cX4_widest 13 = .ok (.aload_n 0, 1) := dk_42 (dk_at dksX4_widest_0 13 rfl rfl)
theorem dX4_widest_14 : decode cX4_widest 14 = .ok (.iconst 1, 1) := dk_4 (dk_at dksX4_widest_0 14 rfl rfl)
theorem dX4_widest_15 : decode cX4_widest 15 = .ok (.invokevirtual 239, 3) := dk_182 0 239 (dk_at dksX4_widest_0 15 rfl rfl)
theorem dX4_widest_18 : decode cX4_widest 18 = .ok (.ireturn, 1) := dk_172 (dk_at dksX4_widest_0 18 rfl rfl)
theorem dX4_widest_19 : decode cX4_widest 19 = .ok (.aload_n 0, 1) := dk_42 (dk_at dksX4_widest_0 19 rfl rfl)
theorem dX4_widest_20 : decode cX4_widest 20 = .ok (.getfield 33, 3) := dk_180 0 33 (dk_at dksX4_widest_0 20 rfl rfl)
theorem dX4_widest_23 : decode cX4_widest 23 = .ok (.iload_n 1, 1) := dk_27 (dk_at dksX4_widest_0 23 rfl rfl)
theorem dX4_widest_24 : decode cX4_widest 24 = .ok (.aaload, 1) := dk_50 (dk_at dksX4_widest_1 0 rfl rfl)
theorem dX4_widest_25 : decode cX4_widest 25 = .ok (.astore_n 2, 1) := dk_77 (dk_at dksX4_widest_1 1 rfl rfl)
theorem dX4_widest_26 : decode cX4_widest 26 = .ok (.aload_n 0, 1) := dk_42 (dk_at dksX4_widest_1 2 rfl rfl)
theorem dX4_widest_27 : decode cX4_widest 27 = .ok (.iload_n 1, 1) := dk_27 (dk_at dksX4_widest_1 3 rfl rfl)
theorem dX4_widest_28 : decode cX4_widest 28 = .ok (.invokevirtual 294, 3) := dk_182 1 38 (dk_at dksX4_widest_1 4 rfl rfl)
theorem dX4_widest_31 : decode cX4_widest 31 = .ok (.istore_n 3, 1) := dk_62 (dk_at dksX4_widest_1 7 rfl rfl)
theorem dX4_widest_32 : decode cX4_widest 32 = .ok (.iconst 0, 1) := dk_3 (dk_at dksX4_widest_1 8 rfl rfl)
theorem dX4_widest_33 : decode cX4_widest 33 = .ok (.istore 4, 2) := dk_54 4 (dk_at dksX4_widest_1 9 rfl rfl)
theorem dX4_widest_35 : decode cX4_widest 35 = .ok (.iconst 1, 1) := dk_4 (dk_at dksX4_widest_1 11 rfl rfl)
theorem dX4_widest_36 : decode cX4_widest 36 = .ok (.istore 5, 2) := dk_54 5 (dk_at dksX4_widest_1 12 rfl rfl)
theorem dX4_widest_38 : decode cX4_widest 38 = .ok (.iload 5, 2) := dk_21 5 (dk_at dksX4_widest_1 14 rfl rfl)
theorem dX4_widest_40 : decode cX4_widest 40 = .ok (.iconst 1, 1) := dk_4 (dk_at dksX4_widest_1 16 rfl rfl)
theorem dX4_widest_41 : decode cX4_widest 41 = .ok (.aload_n 2, 1) := dk_44 (dk_at dksX4_widest_1 17 rfl rfl)
theorem dX4_widest_42 : decode cX4_widest 42 = .ok (.getfield 196, 3) := dk_180 0 196 (dk_at dksX4_widest_1 18 rfl rfl)
theorem dX4_widest_45 : decode cX4_widest 45 = .ok (.ishl, 1) := dk_120 (dk_at dksX4_widest_1 21 rfl rfl)
theorem dX4_widest_46 : decode cX4_widest 46 = .ok (.if_icmp .ge 178, 3) := dk_162 0 178 (dk_at dksX4_widest_2 0 rfl rfl)
theorem dX4_widest_49 : decode cX4_widest 49 = .ok (.iload 4, 2) := dk_21 4 (dk_at dksX4_widest_2 3 rfl rfl)
theorem dX4_widest_51 : decode cX4_widest 51 = .ok (.ifCond .le 19, 3) := dk_158 0 19 (dk_at dksX4_widest_2 5 rfl rfl)
theorem dX4_widest_54 : decode cX4_widest 54 = .ok (.iload 5, 2) := dk_21 5 (dk_at dksX4_widest_2 8 rfl rfl)
theorem dX4_widest_56 : decode cX4_widest 56 = .ok (.invokestatic 316, 3) := dk_184 1 60 (dk_at dksX4_widest_2 10 rfl rfl)
theorem dX4_widest_59 : decode cX4_widest 59 = .ok (.iload 4, 2) := dk_21 4 (dk_at dksX4_widest_2 13 rfl rfl)
theorem dX4_widest_61 : decode cX4_widest 61 = .ok (.invokestatic 316, 3) := dk_184 1 60 (dk_at dksX4_widest_2 15 rfl rfl)
theorem dX4_widest_64 : decode cX4_widest 64 = .ok (.if_icmp .lt 6, 3) := dk_161 0 6 (dk_at dksX4_widest_2 18 rfl rfl)
theorem dX4_widest_67 : decode cX4_widest 67 = .ok (.goto 151, 3) := dk_167 0 151 (dk_at dksX4_widest_2 21 rfl rfl)
theorem dX4_widest_70 : decode cX4_widest 70 = .ok (.iconst 0, 1) := dk_3 (dk_at dksX4_widest_3 0 rfl rfl)
theorem dX4_widest_71 : decode cX4_widest 71 = .ok (.istore 6, 2) := dk_54 6 (dk_at dksX4_widest_3 1 rfl rfl)
theorem dX4_widest_73 : decode cX4_widest 73 = .ok (.iconst 0, 1) := dk_3 (dk_at dksX4_widest_3 3 rfl rfl)
theorem dX4_widest_74 : decode cX4_widest 74 = .ok (.istore 7, 2) := dk_54 7 (dk_at dksX4_widest_3 4 rfl rfl)
theorem dX4_widest_76 : decode cX4_widest 76 = .ok (.iload 7, 2) := dk_21 7 (dk_at dksX4_widest_3 6 rfl rfl)
theorem dX4_widest_78 : decode cX4_widest 78 = .ok (.aload_n 2, 1) := dk_44 (dk_at dksX4_widest_3 8 rfl rfl)
theorem dX4_widest_79 : decode cX4_widest 79 = .ok (.getfield 205, 3) := dk_180 0 205 (dk_at dksX4_widest_3 9 rfl rfl)
theorem dX4_widest_82 : decode cX4_widest 82 = .ok (.if_icmp .ge 49, 3) := dk_162 0 49 (dk_at dksX4_widest_3 12 rfl rfl)
theorem dX4_widest_85 : decode cX4_widest 85 = .ok (.iload 6, 2) := dk_21 6 (dk_at dksX4_widest_3 15 rfl rfl)
theorem dX4_widest_87 : decode cX4_widest 87 = .ok (.iload 5, 2) := dk_21 5 (dk_at dksX4_widest_3 17 rfl rfl)
theorem dX4_widest_89 : decode cX4_widest 89 = .ok (.aload_n 2, 1) := dk_44 (dk_at dksX4_widest_3 19 rfl rfl)
theorem dX4_widest_90 : decode cX4_widest 90 = .ok (.getfield 208, 3) := dk_180 0 208 (dk_at dksX4_widest_3 20 rfl rfl)
theorem dX4_widest_93 : decode cX4_widest 93 = .ok (.iload 7, 2) := dk_21 7 (dk_at dksX4_widest_4 0 rfl rfl)
theorem dX4_widest_95 : decode cX4_widest 95 = .ok (.iaload, 1) := dk_46 (dk_at dksX4_widest_4 2 rfl rfl)
theorem dX4_widest_96 : decode cX4_widest 96 = .ok (.ishr, 1) := dk_122 (dk_at dksX4_widest_4 3 rfl rfl)
theorem dX4_widest_97 : decode cX4_widest 97 = .ok (.iload 5, 2) := dk_21 5 (dk_at dksX4_widest_4 4 rfl rfl)
theorem dX4_widest_99 : decode cX4_widest 99 = .ok (.aload_n 2, 1) := dk_44 (dk_at dksX4_widest_4 6 rfl rfl)
theorem dX4_widest_100 : decode cX4_widest 100 = .ok (.getfield 214, 3) := dk_180 0 214 (dk_at dksX4_widest_4 7 rfl rfl)
theorem dX4_widest_103 : decode cX4_widest 103 = .ok (.iload 7, 2) := dk_21 7 (dk_at dksX4_widest_4 10 rfl rfl)
theorem dX4_widest_105 : decode cX4_widest 105 = .ok (.iaload, 1) := dk_46 (dk_at dksX4_widest_4 12 rfl rfl)
theorem dX4_widest_106 : decode cX4_widest 106 = .ok (.ishr, 1) := dk_122 (dk_at dksX4_widest_4 13 rfl rfl)
theorem dX4_widest_107 : decode cX4_widest 107 = .ok (.iand, 1) := dk_126 (dk_at dksX4_widest_4 14 rfl rfl)
theorem dX4_widest_108 : decode cX4_widest 108 = .ok (.iconst 1, 1) := dk_4 (dk_at dksX4_widest_4 15 rfl rfl)
theorem dX4_widest_109 : decode cX4_widest 109 = .ok (.iand, 1) := dk_126 (dk_at dksX4_widest_4 16 rfl rfl)
theorem dX4_widest_110 : decode cX4_widest 110 = .ok (.iconst 1, 1) := dk_4 (dk_at dksX4_widest_4 17 rfl rfl)
theorem dX4_widest_111 : decode cX4_widest 111 = .ok (.if_icmp .ne 10, 3) := dk_160 0 10 (dk_at dksX4_widest_4 18 rfl rfl)
theorem dX4_widest_114 : decode cX4_widest 114 = .ok (.iconst 1, 1) := dk_4 (dk_at dksX4_widest_4 21 rfl rfl)
theorem dX4_widest_115 : decode cX4_widest 115 = .ok (.iload 7, 2) := dk_21 7 (dk_at dksX4_widest_4 22 rfl rfl)
theorem dX4_widest_117 : decode cX4_widest 117 = .ok (.ishl, 1) := dk_120 (dk_at dksX4_widest_5 0 rfl rfl)
theorem dX4_widest_118 : decode cX4_widest 118 = .ok (.goto 4, 3) := dk_167 0 4 (dk_at dksX4_widest_5 1 rfl rfl)
theorem dX4_widest_121 : decode cX4_widest 121 = .ok (.iconst 0, 1) := dk_3 (dk_at dksX4_widest_5 4 rfl rfl)
theorem dX4_widest_122 : decode cX4_widest 122 = .ok (.ior, 1) := dk_128 (dk_at dksX4_widest_5 5 rfl rfl)
theorem dX4_widest_123 : decode cX4_widest 123 = .ok (.istore 6, 2) := dk_54 6 (dk_at dksX4_widest_5 6 rfl rfl)
theorem dX4_widest_125 : decode cX4_widest 125 = .ok (.iinc 7 1, 3) := dk_132 7 1 (dk_at dksX4_widest_5 8 rfl rfl)
theorem dX4_widest_128 : decode cX4_widest 128 = .ok (.goto (-52), 3) := dk_167 255 204 (dk_at dksX4_widest_5 11 rfl rfl)
theorem dX4_widest_131 : decode cX4_widest 131 = .ok (.aload_n 0, 1) := dk_42 (dk_at dksX4_widest_5 14 rfl rfl)
theorem dX4_widest_132 : decode cX4_widest 132 = .ok (.aload_n 2, 1) := dk_44 (dk_at dksX4_widest_5 15 rfl rfl)
theorem dX4_widest_133 : decode cX4_widest 133 = .ok (.iload 5, 2) := dk_21 5 (dk_at dksX4_widest_5 16 rfl rfl)
theorem dX4_widest_135 : decode cX4_widest 135 = .ok (.iload 6, 2) := dk_21 6 (dk_at dksX4_widest_5 18 rfl rfl)
theorem dX4_widest_137 : decode cX4_widest 137 = .ok (.aload_n 0, 1) := dk_42 (dk_at dksX4_widest_5 20 rfl rfl)
theorem dX4_widest_138 : decode cX4_widest 138 = .ok (.getfield 96, 3) := dk_180 0 96 (dk_at dksX4_widest_5 21 rfl rfl)
theorem dX4_widest_141 : decode cX4_widest 141 = .ok (.invokevirtual 312, 3) := dk_182 1 56 (dk_at dksX4_widest_6 0 rfl rfl)
theorem dX4_widest_144 : decode cX4_widest 144 = .ok (.iconst 0, 1) := dk_3 (dk_at dksX4_widest_6 3 rfl rfl)
theorem dX4_widest_145 : decode cX4_widest 145 = .ok (.istore 7, 2) := dk_54 7 (dk_at dksX4_widest_6 4 rfl rfl)
theorem dX4_widest_147 : decode cX4_widest 147 = .ok (.iconst 0, 1) := dk_3 (dk_at dksX4_widest_6 6 rfl rfl)
theorem dX4_widest_148 : decode cX4_widest 148 = .ok (.istore 8, 2) := dk_54 8 (dk_at dksX4_widest_6 7 rfl rfl)
theorem dX4_widest_150 : decode cX4_widest 150 = .ok (.iload 8, 2) := dk_21 8 (dk_at dksX4_widest_6 9 rfl rfl)
theorem dX4_widest_152 : decode cX4_widest 152 = .ok (.aload_n 0, 1) := dk_42 (dk_at dksX4_widest_6 11 rfl rfl)
theorem dX4_widest_153 : decode cX4_widest 153 = .ok (.getfield 124, 3) := dk_180 0 124 (dk_at dksX4_widest_6 12 rfl rfl)
theorem dX4_widest_156 : decode cX4_widest 156 = .ok (.if_icmp .ge 53, 3) := dk_162 0 53 (dk_at dksX4_widest_6 15 rfl rfl)
theorem dX4_widest_159 : decode cX4_widest 159 = .ok (.iload 7, 2) := dk_21 7 (dk_at dksX4_widest_6 18 rfl rfl)
theorem dX4_widest_161 : decode cX4_widest 161 = .ok (.ifCond .ne 48, 3) := dk_154 0 48 (dk_at dksX4_widest_6 20 rfl rfl)
theorem dX4_widest_164 : decode cX4_widest 164 = .ok (.aload_n 0, 1) := dk_42 (dk_at dksX4_widest_6 23 rfl rfl)
theorem dX4_widest_165 : decode cX4_widest 165 = .ok (.iload 8, 2) := dk_21 8 (dk_at dksX4_widest_7 0 rfl rfl)
theorem dX4_widest_167 : decode cX4_widest 167 = .ok (.iload_n 3, 1) := dk_29 (dk_at dksX4_widest_7 2 rfl rfl)
theorem dX4_widest_168 : decode cX4_widest 168 = .ok (.aload_n 0, 1) := dk_42 (dk_at dksX4_widest_7 3 rfl rfl)
theorem dX4_widest_169 : decode cX4_widest 169 = .ok (.getfield 121, 3) := dk_180 0 121 (dk_at dksX4_widest_7 4 rfl rfl)
theorem dX4_widest_172 : decode cX4_widest 172 = .ok (.invokevirtual 309, 3) := dk_182 1 53 (dk_at dksX4_widest_7 7 rfl rfl)
theorem dX4_widest_175 : decode cX4_widest 175 = .ok (.ifCond .eq 25, 3) := dk_153 0 25 (dk_at dksX4_widest_7 10 rfl rfl)
theorem dX4_widest_178 : decode cX4_widest 178 = .ok (.aload_n 0, 1) := dk_42 (dk_at dksX4_widest_7 13 rfl rfl)
theorem dX4_widest_179 : decode cX4_widest 179 = .ok (.aload_n 0, 1) := dk_42 (dk_at dksX4_widest_7 14 rfl rfl)
theorem dX4_widest_180 : decode cX4_widest 180 = .ok (.getfield 23, 3) := dk_180 0 23 (dk_at dksX4_widest_7 15 rfl rfl)
theorem dX4_widest_183 : decode cX4_widest 183 = .ok (.iload 8, 2) := dk_21 8 (dk_at dksX4_widest_7 18 rfl rfl)
theorem dX4_widest_185 : decode cX4_widest 185 = .ok (.aaload, 1) := dk_50 (dk_at dksX4_widest_7 20 rfl rfl)
theorem dX4_widest_186 : decode cX4_widest 186 = .ok (.aload_n 0, 1) := dk_42 (dk_at dksX4_widest_7 21 rfl rfl)
theorem dX4_widest_187 : decode cX4_widest 187 = .ok (.getfield 96, 3) := dk_180 0 96 (dk_at dksX4_widest_8 0 rfl rfl)
theorem dX4_widest_190 : decode cX4_widest 190 = .ok (.invokevirtual 277, 3) := dk_182 1 21 (dk_at dksX4_widest_8 3 rfl rfl)
theorem dX4_widest_193 : decode cX4_widest 193 = .ok (.ifCond .eq 7, 3) := dk_153 0 7 (dk_at dksX4_widest_8 6 rfl rfl)
theorem dX4_widest_196 : decode cX4_widest 196 = .ok (.iconst 1, 1) := dk_4 (dk_at dksX4_widest_8 9 rfl rfl)
theorem dX4_widest_197 : decode cX4_widest 197 = .ok (.goto 4, 3) := dk_167 0 4 (dk_at dksX4_widest_8 10 rfl rfl)
theorem dX4_widest_200 : decode cX4_widest 200 = .ok (.iconst 0, 1) := dk_3 (dk_at dksX4_widest_8 13 rfl rfl)
theorem dX4_widest_201 : decode cX4_widest 201 = .ok (.istore 7, 2) := dk_54 7 (dk_at dksX4_widest_8 14 rfl rfl)
theorem dX4_widest_203 : decode cX4_widest 203 = .ok (.iinc 8 1, 3) := dk_132 8 1 (dk_at dksX4_widest_8 16 rfl rfl)
theorem dX4_widest_206 : decode cX4_widest 206 = .ok (.goto (-56), 3) := dk_167 255 200 (dk_at dksX4_widest_8 19 rfl rfl)
theorem dX4_widest_209 : decode cX4_widest 209 = .ok (.iload 7, 2) := dk_21 7 (dk_at dksX4_widest_8 22 rfl rfl)
theorem dX4_widest_211 : decode cX4_widest 211 = .ok (.ifCond .ne 7, 3) := dk_154 0 7 (dk_at dksX4_widest_9 0 rfl rfl)
theorem dX4_widest_214 : decode cX4_widest 214 = .ok (.iload 5, 2) := dk_21 5 (dk_at dksX4_widest_9 3 rfl rfl)
theorem dX4_widest_216 : decode cX4_widest 216 = .ok (.istore 4, 2) := dk_54 4 (dk_at dksX4_widest_9 5 rfl rfl)
theorem dX4_widest_218 : decode cX4_widest 218 = .ok (.iinc 5 1, 3) := dk_132 5 1 (dk_at dksX4_widest_9 7 rfl rfl)
theorem dX4_widest_221 : decode cX4_widest 221 = .ok (.goto (-183), 3) := dk_167 255 73 (dk_at dksX4_widest_9 10 rfl rfl)
theorem dX4_widest_224 : decode cX4_widest 224 = .ok (.iload 4, 2) := dk_21 4 (dk_at dksX4_widest_9 13 rfl rfl)
theorem dX4_widest_226 : decode cX4_widest 226 = .ok (.ifCond .ne 10, 3) := dk_154 0 10 (dk_at dksX4_widest_9 15 rfl rfl)
theorem dX4_widest_229 : decode cX4_widest 229 = .ok (.aload_n 0, 1) := dk_42 (dk_at dksX4_widest_9 18 rfl rfl)
theorem dX4_widest_230 : decode cX4_widest 230 = .ok (.bipush (-2), 2) := dk_16 254 (dk_at dksX4_widest_9 19 rfl rfl)
theorem dX4_widest_232 : decode cX4_widest 232 = .ok (.invokevirtual 249, 3) := dk_182 0 249 (dk_at dksX4_widest_9 21 rfl rfl)
theorem dX4_widest_235 : decode cX4_widest 235 = .ok (.ireturn, 1) := dk_172 (dk_at dksX4_widest_10 0 rfl rfl)
theorem dX4_widest_236 : decode cX4_widest 236 = .ok (.aload_n 0, 1) := dk_42 (dk_at dksX4_widest_10 1 rfl rfl)
theorem dX4_widest_237 : decode cX4_widest 237 = .ok (.iload 4, 2) := dk_21 4 (dk_at dksX4_widest_10 2 rfl rfl)
theorem dX4_widest_239 : decode cX4_widest 239 = .ok (.putfield 103, 3) := dk_181 0 103 (dk_at dksX4_widest_10 4 rfl rfl)
theorem dX4_widest_242 : decode cX4_widest 242 = .ok (.aload_n 0, 1) := dk_42 (dk_at dksX4_widest_10 7 rfl rfl)
theorem dX4_widest_243 : decode cX4_widest 243 = .ok (.iload 4, 2) := dk_21 4 (dk_at dksX4_widest_10 8 rfl rfl)
theorem dX4_widest_245 : decode cX4_widest 245 = .ok (.invokestatic 316, 3) := dk_184 1 60 (dk_at dksX4_widest_10 10 rfl rfl)
theorem dX4_widest_248 : decode cX4_widest 248 = .ok (.invokevirtual 249, 3) := dk_182 0 249 (dk_at dksX4_widest_10 13 rfl rfl)
theorem dX4_widest_251 : decode cX4_widest 251 = .ok (.ireturn, 1) := dk_172 (dk_at dksX4_widest_10 16 rfl rfl)
abbrev cX4_bits : ByteArray := prog_22_method_52_code
def yX4_bits : MethodName := ⟨RX4, "bits", "(I)I"⟩
def dkwX4_bits_0 : List UInt8 := [3, 60, 26, 61, 28, 153, 0, 15, 132, 1, 1, 28, 28, 4, 100, 126, 61, 167, 255, 243, 27, 172]
abbrev dktX4_bits_0 : List UInt8 := dkwX4_bits_0 ++ []
theorem dksX4_bits_0 : cX4_bits.data.toList.drop 0 = dktX4_bits_0 := by decide +kernel
theorem dX4_bits_0 : decode cX4_bits 0 = .ok (.iconst 0, 1) := dk_3 (dk_at dksX4_bits_0 0 rfl rfl)
theorem dX4_bits_1 : decode cX4_bits 1 = .ok (.istore_n 1, 1) := dk_60 (dk_at dksX4_bits_0 1 rfl rfl)
theorem dX4_bits_2 : decode cX4_bits 2 = .ok (.iload_n 0, 1) := dk_26 (dk_at dksX4_bits_0 2 rfl rfl)
theorem dX4_bits_3 : decode cX4_bits 3 = .ok (.istore_n 2, 1) := dk_61 (dk_at dksX4_bits_0 3 rfl rfl)
theorem dX4_bits_4 : decode cX4_bits 4 = .ok (.iload_n 2, 1) := dk_28 (dk_at dksX4_bits_0 4 rfl rfl)
theorem dX4_bits_5 : decode cX4_bits 5 = .ok (.ifCond .eq 15, 3) := dk_153 0 15 (dk_at dksX4_bits_0 5 rfl rfl)
theorem dX4_bits_8 : decode cX4_bits 8 = .ok (.iinc 1 1, 3) := dk_132 1 1 (dk_at dksX4_bits_0 8 rfl rfl)
theorem dX4_bits_11 : decode cX4_bits 11 = .ok (.iload_n 2, 1) := dk_28 (dk_at dksX4_bits_0 11 rfl rfl)
theorem dX4_bits_12 : decode cX4_bits 12 = .ok (.iload_n 2, 1) := dk_28 (dk_at dksX4_bits_0 12 rfl rfl)
theorem dX4_bits_13 : decode cX4_bits 13 = .ok (.iconst 1, 1) := dk_4 (dk_at dksX4_bits_0 13 rfl rfl)
theorem dX4_bits_14 : decode cX4_bits 14 = .ok (.isub, 1) := dk_100 (dk_at dksX4_bits_0 14 rfl rfl)
theorem dX4_bits_15 : decode cX4_bits 15 = .ok (.iand, 1) := dk_126 (dk_at dksX4_bits_0 15 rfl rfl)
theorem dX4_bits_16 : decode cX4_bits 16 = .ok (.istore_n 2, 1) := dk_61 (dk_at dksX4_bits_0 16 rfl rfl)
theorem dX4_bits_17 : decode cX4_bits 17 = .ok (.goto (-13), 3) := dk_167 255 243 (dk_at dksX4_bits_0 17 rfl rfl)
theorem dX4_bits_20 : decode cX4_bits 20 = .ok (.iload_n 1, 1) := dk_27 (dk_at dksX4_bits_0 20 rfl rfl)
theorem dX4_bits_21 : decode cX4_bits 21 = .ok (.ireturn, 1) := dk_172 (dk_at dksX4_bits_0 21 rfl rfl)
abbrev cX4_left : ByteArray := prog_22_method_54_code
def yX4_left : MethodName := ⟨RX4, "left", "()I"⟩
def dkwX4_left_0 : List UInt8 := [42, 3, 181, 0, 109, 42, 180, 0, 103, 172]
abbrev dktX4_left_0 : List UInt8 := dkwX4_left_0 ++ []
theorem dksX4_left_0 : cX4_left.data.toList.drop 0 = dktX4_left_0 := by decide +kernel
theorem dX4_left_0 : decode cX4_left 0 = .ok (.aload_n 0, 1) := dk_42 (dk_at dksX4_left_0 0 rfl rfl)
theorem dX4_left_1 : decode cX4_left 1 = .ok (.iconst 0, 1) := dk_3 (dk_at dksX4_left_0 1 rfl rfl)
theorem dX4_left_2 : decode cX4_left 2 = .ok (.putfield 109, 3) := dk_181 0 109 (dk_at dksX4_left_0 2 rfl rfl)
theorem dX4_left_5 : decode cX4_left 5 = .ok (.aload_n 0, 1) := dk_42 (dk_at dksX4_left_0 5 rfl rfl)
theorem dX4_left_6 : decode cX4_left 6 = .ok (.getfield 103, 3) := dk_180 0 103 (dk_at dksX4_left_0 6 rfl rfl)
theorem dX4_left_9 : decode cX4_left 9 = .ok (.ireturn, 1) := dk_172 (dk_at dksX4_left_0 9 rfl rfl)
abbrev cX4_narrower : ByteArray := prog_22_method_55_code
def yX4_narrower : MethodName := ⟨RX4, "narrower", "(II)I"⟩
def dkwX4_narrower_2 : List UInt8 := [4, 167, 0, 4, 3, 182, 0, 249, 172]
abbrev dktX4_narrower_2 : List UInt8 := dkwX4_narrower_2 ++ []
def dkwX4_narrower_1 : List UInt8 := [182, 0, 239, 172, 42, 42, 42, 180, 0, 33, 27, 50, 42, 180, 0, 33, 28, 50, 182, 1, 21, 153, 0, 7]
abbrev dktX4_narrower_1 : List UInt8 := dkwX4_narrower_1 ++ dktX4_narrower_2
def dkwX4_narrower_0 : List UInt8 := [42, 3, 181, 0, 109, 42, 27, 182, 1, 14, 153, 0, 11, 42, 28, 182, 1, 14, 154, 0, 9, 42, 4]
abbrev dktX4_narrower_0 : List UInt8 := dkwX4_narrower_0 ++ dktX4_narrower_1
theorem dksX4_narrower_0 : cX4_narrower.data.toList.drop 0 = dktX4_narrower_0 := by decide +kernel
theorem dksX4_narrower_1 : cX4_narrower.data.toList.drop 23 = dktX4_narrower_1 := dk_seg dksX4_narrower_0 23 rfl rfl
theorem dksX4_narrower_2 : cX4_narrower.data.toList.drop 47 = dktX4_narrower_2 := dk_seg dksX4_narrower_1 24 rfl rfl
theorem dX4_narrower_0 : decode cX4_narrower 0 = .ok (.aload_n 0, 1) := dk_42 (dk_at dksX4_narrower_0 0 rfl rfl)
theorem dX4_narrower_1 : decode cX4_narrower 1 = .ok (.iconst 0, 1) := dk_3 (dk_at dksX4_narrower_0 1 rfl rfl)
theorem dX4_narrower_2 : decode cX4_narrower 2 = .ok (.putfield 109, 3) := dk_181 0 109 (dk_at dksX4_narrower_0 2 rfl rfl)
theorem dX4_narrower_5 : decode cX4_narrower 5 = .ok (.aload_n 0, 1) := dk_42 (dk_at dksX4_narrower_0 5 rfl rfl)
theorem dX4_narrower_6 : decode cX4_narrower 6 = .ok (.iload_n 1, 1) := dk_27 (dk_at dksX4_narrower_0 6 rfl rfl)
theorem dX4_narrower_7 : decode cX4_narrower 7 = .ok (.invokevirtual 270, 3) := dk_182 1 14 (dk_at dksX4_narrower_0 7 rfl rfl)
theorem dX4_narrower_10 : decode cX4_narrower 10 = .ok (.ifCond .eq 11, 3) := dk_153 0 11 (dk_at dksX4_narrower_0 10 rfl rfl)
theorem dX4_narrower_13 : decode cX4_narrower 13 = .ok (.aload_n 0, 1) := dk_42 (dk_at dksX4_narrower_0 13 rfl rfl)
theorem dX4_narrower_14 : decode cX4_narrower 14 = .ok (.iload_n 2, 1) := dk_28 (dk_at dksX4_narrower_0 14 rfl rfl)
theorem dX4_narrower_15 : decode cX4_narrower 15 = .ok (.invokevirtual 270, 3) := dk_182 1 14 (dk_at dksX4_narrower_0 15 rfl rfl)
theorem dX4_narrower_18 : decode cX4_narrower 18 = .ok (.ifCond .ne 9, 3) := dk_154 0 9 (dk_at dksX4_narrower_0 18 rfl rfl)
theorem dX4_narrower_21 : decode cX4_narrower 21 = .ok (.aload_n 0, 1) := dk_42 (dk_at dksX4_narrower_0 21 rfl rfl)
theorem dX4_narrower_22 : decode cX4_narrower 22 = .ok (.iconst 1, 1) := dk_4 (dk_at dksX4_narrower_0 22 rfl rfl)
theorem dX4_narrower_23 : decode cX4_narrower 23 = .ok (.invokevirtual 239, 3) := dk_182 0 239 (dk_at dksX4_narrower_1 0 rfl rfl)
theorem dX4_narrower_26 : decode cX4_narrower 26 = .ok (.ireturn, 1) := dk_172 (dk_at dksX4_narrower_1 3 rfl rfl)
theorem dX4_narrower_27 : decode cX4_narrower 27 = .ok (.aload_n 0, 1) := dk_42 (dk_at dksX4_narrower_1 4 rfl rfl)
theorem dX4_narrower_28 : decode cX4_narrower 28 = .ok (.aload_n 0, 1) := dk_42 (dk_at dksX4_narrower_1 5 rfl rfl)
theorem dX4_narrower_29 : decode cX4_narrower 29 = .ok (.aload_n 0, 1) := dk_42 (dk_at dksX4_narrower_1 6 rfl rfl)
theorem dX4_narrower_30 : decode cX4_narrower 30 = .ok (.getfield 33, 3) := dk_180 0 33 (dk_at dksX4_narrower_1 7 rfl rfl)
theorem dX4_narrower_33 : decode cX4_narrower 33 = .ok (.iload_n 1, 1) := dk_27 (dk_at dksX4_narrower_1 10 rfl rfl)
theorem dX4_narrower_34 : decode cX4_narrower 34 = .ok (.aaload, 1) := dk_50 (dk_at dksX4_narrower_1 11 rfl rfl)
theorem dX4_narrower_35 : decode cX4_narrower 35 = .ok (.aload_n 0, 1) := dk_42 (dk_at dksX4_narrower_1 12 rfl rfl)
theorem dX4_narrower_36 : decode cX4_narrower 36 = .ok (.getfield 33, 3) := dk_180 0 33 (dk_at dksX4_narrower_1 13 rfl rfl)
theorem dX4_narrower_39 : decode cX4_narrower 39 = .ok (.iload_n 2, 1) := dk_28 (dk_at dksX4_narrower_1 16 rfl rfl)
theorem dX4_narrower_40 : decode cX4_narrower 40 = .ok (.aaload, 1) := dk_50 (dk_at dksX4_narrower_1 17 rfl rfl)
theorem dX4_narrower_41 : decode cX4_narrower 41 = .ok (.invokevirtual 277, 3) := dk_182 1 21 (dk_at dksX4_narrower_1 18 rfl rfl)
theorem dX4_narrower_44 : decode cX4_narrower 44 = .ok (.ifCond .eq 7, 3) := dk_153 0 7 (dk_at dksX4_narrower_1 21 rfl rfl)
theorem dX4_narrower_47 : decode cX4_narrower 47 = .ok (.iconst 1, 1) := dk_4 (dk_at dksX4_narrower_2 0 rfl rfl)
theorem dX4_narrower_48 : decode cX4_narrower 48 = .ok (.goto 4, 3) := dk_167 0 4 (dk_at dksX4_narrower_2 1 rfl rfl)
theorem dX4_narrower_51 : decode cX4_narrower 51 = .ok (.iconst 0, 1) := dk_3 (dk_at dksX4_narrower_2 4 rfl rfl)
theorem dX4_narrower_52 : decode cX4_narrower 52 = .ok (.invokevirtual 249, 3) := dk_182 0 249 (dk_at dksX4_narrower_2 5 rfl rfl)
theorem dX4_narrower_55 : decode cX4_narrower 55 = .ok (.ireturn, 1) := dk_172 (dk_at dksX4_narrower_2 8 rfl rfl)
abbrev cX4_falls : ByteArray := prog_22_method_57_code
def yX4_falls : MethodName := ⟨RX4, "falls", "(III)I"⟩
def dkwX4_falls_6 : List UInt8 := [180, 1, 63, 4, 96, 181, 1, 63, 132, 5, 1, 167, 255, 189, 42, 42, 180, 1, 63, 182, 0, 249, 172]
abbrev dktX4_falls_6 : List UInt8 := dkwX4_falls_6 ++ []
def dkwX4_falls_5 : List UInt8 := [182, 1, 21, 154, 0, 6, 167, 0, 24, 42, 180, 0, 106, 42, 180, 1, 63, 21, 5, 79, 42, 89]
abbrev dktX4_falls_5 : List UInt8 := dkwX4_falls_5 ++ dktX4_falls_6
def dkwX4_falls_4 : List UInt8 := [21, 5, 28, 29, 182, 1, 66, 153, 0, 47, 42, 42, 180, 0, 30, 27, 50, 42, 180, 0, 33, 21, 5, 50]
abbrev dktX4_falls_4 : List UInt8 := dkwX4_falls_4 ++ dktX4_falls_5
def dkwX4_falls_3 : List UInt8 := [42, 5, 182, 0, 239, 172, 42, 3, 181, 1, 63, 3, 54, 5, 21, 5, 42, 180, 0, 133, 162, 0, 64, 42]
abbrev dktX4_falls_3 : List UInt8 := dkwX4_falls_3 ++ dktX4_falls_4
def dkwX4_falls_2 : List UInt8 := [153, 0, 19, 42, 180, 0, 42, 27, 46, 29, 164, 0, 9, 42, 4, 182, 0, 239, 172, 21, 4, 154, 0, 9]
abbrev dktX4_falls_2 : List UInt8 := dkwX4_falls_2 ++ dktX4_falls_3
def dkwX4_falls_1 : List UInt8 := [153, 0, 7, 4, 167, 0, 4, 3, 54, 4, 27, 155, 0, 26, 27, 42, 180, 0, 127, 162, 0, 18, 21, 4]
abbrev dktX4_falls_1 : List UInt8 := dkwX4_falls_1 ++ dktX4_falls_2
def dkwX4_falls_0 : List UInt8 := [42, 3, 181, 0, 109, 28, 3, 17, 78, 32, 184, 0, 255, 153, 0, 18, 29, 3, 17, 78, 32, 184, 0, 255]
abbrev dktX4_falls_0 : List UInt8 := dkwX4_falls_0 ++ dktX4_falls_1
theorem dksX4_falls_0 : cX4_falls.data.toList.drop 0 = dktX4_falls_0 := by decide +kernel
theorem dksX4_falls_1 : cX4_falls.data.toList.drop 24 = dktX4_falls_1 := dk_seg dksX4_falls_0 24 rfl rfl
theorem dksX4_falls_2 : cX4_falls.data.toList.drop 48 = dktX4_falls_2 := dk_seg dksX4_falls_1 24 rfl rfl
theorem dksX4_falls_3 : cX4_falls.data.toList.drop 72 = dktX4_falls_3 := dk_seg dksX4_falls_2 24 rfl rfl
theorem dksX4_falls_4 : cX4_falls.data.toList.drop 96 = dktX4_falls_4 := dk_seg dksX4_falls_3 24 rfl rfl
theorem dksX4_falls_5 : cX4_falls.data.toList.drop 120 = dktX4_falls_5 := dk_seg dksX4_falls_4 24 rfl rfl
theorem dksX4_falls_6 : cX4_falls.data.toList.drop 142 = dktX4_falls_6 := dk_seg dksX4_falls_5 22 rfl rfl
theorem dX4_falls_0 : decode cX4_falls 0 = .ok (.aload_n 0, 1) := dk_42 (dk_at dksX4_falls_0 0 rfl rfl)
theorem dX4_falls_1 : decode cX4_falls 1 = .ok (.iconst 0, 1) := dk_3 (dk_at dksX4_falls_0 1 rfl rfl)
theorem dX4_falls_2 : decode cX4_falls 2 = .ok (.putfield 109, 3) := dk_181 0 109 (dk_at dksX4_falls_0 2 rfl rfl)
theorem dX4_falls_5 : decode cX4_falls 5 = .ok (.iload_n 2, 1) := dk_28 (dk_at dksX4_falls_0 5 rfl rfl)
theorem dX4_falls_6 : decode cX4_falls 6 = .ok (.iconst 0, 1) := dk_3 (dk_at dksX4_falls_0 6 rfl rfl)
theorem dX4_falls_7 : decode cX4_falls 7 = .ok (.sipush 20000, 3) := dk_17 78 32 (dk_at dksX4_falls_0 7 rfl rfl)
theorem dX4_falls_10 : decode cX4_falls 10 = .ok (.invokestatic 255, 3) := dk_184 0 255 (dk_at dksX4_falls_0 10 rfl rfl)
theorem dX4_falls_13 : decode cX4_falls 13 = .ok (.ifCond .eq 18, 3) := dk_153 0 18 (dk_at dksX4_falls_0 13 rfl rfl)
theorem dX4_falls_16 : decode cX4_falls 16 = .ok (.iload_n 3, 1) := dk_29 (dk_at dksX4_falls_0 16 rfl rfl)
theorem dX4_falls_17 : decode cX4_falls 17 = .ok (.iconst 0, 1) := dk_3 (dk_at dksX4_falls_0 17 rfl rfl)
theorem dX4_falls_18 : decode cX4_falls 18 = .ok (.sipush 20000, 3) := dk_17 78 32 (dk_at dksX4_falls_0 18 rfl rfl)
theorem dX4_falls_21 : decode cX4_falls 21 = .ok (.invokestatic 255, 3) := dk_184 0 255 (dk_at dksX4_falls_0 21 rfl rfl)
theorem dX4_falls_24 : decode cX4_falls 24 = .ok (.ifCond .eq 7, 3) := dk_153 0 7 (dk_at dksX4_falls_1 0 rfl rfl)
theorem dX4_falls_27 : decode cX4_falls 27 = .ok (.iconst 1, 1) := dk_4 (dk_at dksX4_falls_1 3 rfl rfl)
theorem dX4_falls_28 : decode cX4_falls 28 = .ok (.goto 4, 3) := dk_167 0 4 (dk_at dksX4_falls_1 4 rfl rfl)
theorem dX4_falls_31 : decode cX4_falls 31 = .ok (.iconst 0, 1) := dk_3 (dk_at dksX4_falls_1 7 rfl rfl)
theorem dX4_falls_32 : decode cX4_falls 32 = .ok (.istore 4, 2) := dk_54 4 (dk_at dksX4_falls_1 8 rfl rfl)
theorem dX4_falls_34 : decode cX4_falls 34 = .ok (.iload_n 1, 1) := dk_27 (dk_at dksX4_falls_1 10 rfl rfl)
theorem dX4_falls_35 : decode cX4_falls 35 = .ok (.ifCond .lt 26, 3) := dk_155 0 26 (dk_at dksX4_falls_1 11 rfl rfl)
theorem dX4_falls_38 : decode cX4_falls 38 = .ok (.iload_n 1, 1) := dk_27 (dk_at dksX4_falls_1 14 rfl rfl)
theorem dX4_falls_39 : decode cX4_falls 39 = .ok (.aload_n 0, 1) := dk_42 (dk_at dksX4_falls_1 15 rfl rfl)
theorem dX4_falls_40 : decode cX4_falls 40 = .ok (.getfield 127, 3) := dk_180 0 127 (dk_at dksX4_falls_1 16 rfl rfl)
theorem dX4_falls_43 : decode cX4_falls 43 = .ok (.if_icmp .ge 18, 3) := dk_162 0 18 (dk_at dksX4_falls_1 19 rfl rfl)
theorem dX4_falls_46 : decode cX4_falls 46 = .ok (.iload 4, 2) := dk_21 4 (dk_at dksX4_falls_1 22 rfl rfl)
theorem dX4_falls_48 : decode cX4_falls 48 = .ok (.ifCond .eq 19, 3) := dk_153 0 19 (dk_at dksX4_falls_2 0 rfl rfl)
theorem dX4_falls_51 : decode cX4_falls 51 = .ok (.aload_n 0, 1) := dk_42 (dk_at dksX4_falls_2 3 rfl rfl)
theorem dX4_falls_52 : decode cX4_falls 52 = .ok (.getfield 42, 3) := dk_180 0 42 (dk_at dksX4_falls_2 4 rfl rfl)
theorem dX4_falls_55 : decode cX4_falls 55 = .ok (.iload_n 1, 1) := dk_27 (dk_at dksX4_falls_2 7 rfl rfl)
theorem dX4_falls_56 : decode cX4_falls 56 = .ok (.iaload, 1) := dk_46 (dk_at dksX4_falls_2 8 rfl rfl)
theorem dX4_falls_57 : decode cX4_falls 57 = .ok (.iload_n 3, 1) := dk_29 (dk_at dksX4_falls_2 9 rfl rfl)
theorem dX4_falls_58 : decode cX4_falls 58 = .ok (.if_icmp .le 9, 3) := dk_164 0 9 (dk_at dksX4_falls_2 10 rfl rfl)
theorem dX4_falls_61 : decode cX4_falls 61 = .ok (.aload_n 0, 1) := dk_42 (dk_at dksX4_falls_2 13 rfl rfl)
theorem dX4_falls_62 : decode cX4_falls 62 = .ok (.iconst 1, 1) := dk_4 (dk_at dksX4_falls_2 14 rfl rfl)
theorem dX4_falls_63 : decode cX4_falls 63 = .ok (.invokevirtual 239, 3) := dk_182 0 239 (dk_at dksX4_falls_2 15 rfl rfl)
theorem dX4_falls_66 : decode cX4_falls 66 = .ok (.ireturn, 1) := dk_172 (dk_at dksX4_falls_2 18 rfl rfl)
theorem dX4_falls_67 : decode cX4_falls 67 = .ok (.iload 4, 2) := dk_21 4 (dk_at dksX4_falls_2 19 rfl rfl)
theorem dX4_falls_69 : decode cX4_falls 69 = .ok (.ifCond .ne 9, 3) := dk_154 0 9 (dk_at dksX4_falls_2 21 rfl rfl)
theorem dX4_falls_72 : decode cX4_falls 72 = .ok (.aload_n 0, 1) := dk_42 (dk_at dksX4_falls_3 0 rfl rfl)
theorem dX4_falls_73 : decode cX4_falls 73 = .ok (.iconst 2, 1) := dk_5 (dk_at dksX4_falls_3 1 rfl rfl)
theorem dX4_falls_74 : decode cX4_falls 74 = .ok (.invokevirtual 239, 3) := dk_182 0 239 (dk_at dksX4_falls_3 2 rfl rfl)
theorem dX4_falls_77 : decode cX4_falls 77 = .ok (.ireturn, 1) := dk_172 (dk_at dksX4_falls_3 5 rfl rfl)
theorem dX4_falls_78 : decode cX4_falls 78 = .ok (.aload_n 0, 1) := dk_42 (dk_at dksX4_falls_3 6 rfl rfl)
theorem dX4_falls_79 : decode cX4_falls 79 = .ok (.iconst 0, 1) := dk_3 (dk_at dksX4_falls_3 7 rfl rfl)
theorem dX4_falls_80 : decode cX4_falls 80 = .ok (.putfield 319, 3) := dk_181 1 63 (dk_at dksX4_falls_3 8 rfl rfl)
theorem dX4_falls_83 : decode cX4_falls 83 = .ok (.iconst 0, 1) := dk_3 (dk_at dksX4_falls_3 11 rfl rfl)
theorem dX4_falls_84 : decode cX4_falls 84 = .ok (.istore 5, 2) := dk_54 5 (dk_at dksX4_falls_3 12 rfl rfl)
theorem dX4_falls_86 : decode cX4_falls 86 = .ok (.iload 5, 2) := dk_21 5 (dk_at dksX4_falls_3 14 rfl rfl)
theorem dX4_falls_88 : decode cX4_falls 88 = .ok (.aload_n 0, 1) := dk_42 (dk_at dksX4_falls_3 16 rfl rfl)
theorem dX4_falls_89 : decode cX4_falls 89 = .ok (.getfield 133, 3) := dk_180 0 133 (dk_at dksX4_falls_3 17 rfl rfl)
theorem dX4_falls_92 : decode cX4_falls 92 = .ok (.if_icmp .ge 64, 3) := dk_162 0 64 (dk_at dksX4_falls_3 20 rfl rfl)
theorem dX4_falls_95 : decode cX4_falls 95 = .ok (.aload_n 0, 1) := dk_42 (dk_at dksX4_falls_3 23 rfl rfl)
theorem dX4_falls_96 : decode cX4_falls 96 = .ok (.iload 5, 2) := dk_21 5 (dk_at dksX4_falls_4 0 rfl rfl)
theorem dX4_falls_98 : decode cX4_falls 98 = .ok (.iload_n 2, 1) := dk_28 (dk_at dksX4_falls_4 2 rfl rfl)
theorem dX4_falls_99 : decode cX4_falls 99 = .ok (.iload_n 3, 1) := dk_29 (dk_at dksX4_falls_4 3 rfl rfl)
theorem dX4_falls_100 : decode cX4_falls 100 = .ok (.invokevirtual 322, 3) := dk_182 1 66 (dk_at dksX4_falls_4 4 rfl rfl)
theorem dX4_falls_103 : decode cX4_falls 103 = .ok (.ifCond .eq 47, 3) := dk_153 0 47 (dk_at dksX4_falls_4 7 rfl rfl)
theorem dX4_falls_106 : decode cX4_falls 106 = .ok (.aload_n 0, 1) := dk_42 (dk_at dksX4_falls_4 10 rfl rfl)
theorem dX4_falls_107 : decode cX4_falls 107 = .ok (.aload_n 0, 1) := dk_42 (dk_at dksX4_falls_4 11 rfl rfl)
theorem dX4_falls_108 : decode cX4_falls 108 = .ok (.getfield 30, 3) := dk_180 0 30 (dk_at dksX4_falls_4 12 rfl rfl)
theorem dX4_falls_111 : decode cX4_falls 111 = .ok (.iload_n 1, 1) := dk_27 (dk_at dksX4_falls_4 15 rfl rfl)
theorem dX4_falls_112 : decode cX4_falls 112 = .ok (.aaload, 1) := dk_50 (dk_at dksX4_falls_4 16 rfl rfl)
theorem dX4_falls_113 : decode cX4_falls 113 = .ok (.aload_n 0, 1) := dk_42 (dk_at dksX4_falls_4 17 rfl rfl)
theorem dX4_falls_114 : decode cX4_falls 114 = .ok (.getfield 33, 3) := dk_180 0 33 (dk_at dksX4_falls_4 18 rfl rfl)
theorem dX4_falls_117 : decode cX4_falls 117 = .ok (.iload 5, 2) := dk_21 5 (dk_at dksX4_falls_4 21 rfl rfl)
theorem dX4_falls_119 : decode cX4_falls 119 = .ok (.aaload, 1) := dk_50 (dk_at dksX4_falls_4 23 rfl rfl)
theorem dX4_falls_120 : decode cX4_falls 120 = .ok (.invokevirtual 277, 3) := dk_182 1 21 (dk_at dksX4_falls_5 0 rfl rfl)
theorem dX4_falls_123 : decode cX4_falls 123 = .ok (.ifCond .ne 6, 3) := dk_154 0 6 (dk_at dksX4_falls_5 3 rfl rfl)
theorem dX4_falls_126 : decode cX4_falls 126 = .ok (.goto 24, 3) := dk_167 0 24 (dk_at dksX4_falls_5 6 rfl rfl)
theorem dX4_falls_129 : decode cX4_falls 129 = .ok (.aload_n 0, 1) := dk_42 (dk_at dksX4_falls_5 9 rfl rfl)
theorem dX4_falls_130 : decode cX4_falls 130 = .ok (.getfield 106, 3) := dk_180 0 106 (dk_at dksX4_falls_5 10 rfl rfl)
theorem dX4_falls_133 : decode cX4_falls 133 = .ok (.aload_n 0, 1) := dk_42 (dk_at dksX4_falls_5 13 rfl rfl)
theorem dX4_falls_134 : decode cX4_falls 134 = .ok (.getfield 319, 3) := dk_180 1 63 (dk_at dksX4_falls_5 14 rfl rfl)
theorem dX4_falls_137 : decode cX4_falls 137 = .ok (.iload 5, 2) := dk_21 5 (dk_at dksX4_falls_5 17 rfl rfl)
theorem dX4_falls_139 : decode cX4_falls 139 = .ok (.iastore, 1) := dk_79 (dk_at dksX4_falls_5 19 rfl rfl)
theorem dX4_falls_140 : decode cX4_falls 140 = .ok (.aload_n 0, 1) := dk_42 (dk_at dksX4_falls_5 20 rfl rfl)
theorem dX4_falls_141 : decode cX4_falls 141 = .ok (.dup, 1) := dk_89 (dk_at dksX4_falls_5 21 rfl rfl)
theorem dX4_falls_142 : decode cX4_falls 142 = .ok (.getfield 319, 3) := dk_180 1 63 (dk_at dksX4_falls_6 0 rfl rfl)
theorem dX4_falls_145 : decode cX4_falls 145 = .ok (.iconst 1, 1) := dk_4 (dk_at dksX4_falls_6 3 rfl rfl)
theorem dX4_falls_146 : decode cX4_falls 146 = .ok (.iadd, 1) := dk_96 (dk_at dksX4_falls_6 4 rfl rfl)
theorem dX4_falls_147 : decode cX4_falls 147 = .ok (.putfield 319, 3) := dk_181 1 63 (dk_at dksX4_falls_6 5 rfl rfl)
theorem dX4_falls_150 : decode cX4_falls 150 = .ok (.iinc 5 1, 3) := dk_132 5 1 (dk_at dksX4_falls_6 8 rfl rfl)
theorem dX4_falls_153 : decode cX4_falls 153 = .ok (.goto (-67), 3) := dk_167 255 189 (dk_at dksX4_falls_6 11 rfl rfl)
theorem dX4_falls_156 : decode cX4_falls 156 = .ok (.aload_n 0, 1) := dk_42 (dk_at dksX4_falls_6 14 rfl rfl)
theorem dX4_falls_157 : decode cX4_falls 157 = .ok (.aload_n 0, 1) := dk_42 (dk_at dksX4_falls_6 15 rfl rfl)
theorem dX4_falls_158 : decode cX4_falls 158 = .ok (.getfield 319, 3) := dk_180 1 63 (dk_at dksX4_falls_6 16 rfl rfl)
theorem dX4_falls_161 : decode cX4_falls 161 = .ok (.invokevirtual 249, 3) := dk_182 0 249 (dk_at dksX4_falls_6 19 rfl rfl)
theorem dX4_falls_164 : decode cX4_falls 164 = .ok (.ireturn, 1) := dk_172 (dk_at dksX4_falls_6 22 rfl rfl)
abbrev cX4_isForce : ByteArray := prog_22_method_56_code
def yX4_isForce : MethodName := ⟨RX4, "isForce", "(III)Z"⟩
def dkwX4_isForce_2 : List UInt8 := [162, 0, 7, 4, 167, 0, 4, 3, 172]
abbrev dktX4_isForce_2 : List UInt8 := dkwX4_isForce_2 ++ []
def dkwX4_isForce_1 : List UInt8 := [27, 46, 29, 163, 0, 27, 42, 180, 0, 60, 27, 46, 28, 163, 0, 17, 28, 42, 27, 29, 182, 1, 41]
abbrev dktX4_isForce_1 : List UInt8 := dkwX4_isForce_1 ++ dktX4_isForce_2
def dkwX4_isForce_0 : List UInt8 := [42, 180, 0, 57, 27, 46, 29, 163, 0, 47, 42, 180, 0, 60, 27, 46, 2, 159, 0, 37, 42, 180, 0, 60]
abbrev dktX4_isForce_0 : List UInt8 := dkwX4_isForce_0 ++ dktX4_isForce_1
theorem dksX4_isForce_0 : cX4_isForce.data.toList.drop 0 = dktX4_isForce_0 := by decide +kernel
theorem dksX4_isForce_1 : cX4_isForce.data.toList.drop 24 = dktX4_isForce_1 := dk_seg dksX4_isForce_0 24 rfl rfl
theorem dksX4_isForce_2 : cX4_isForce.data.toList.drop 47 = dktX4_isForce_2 := dk_seg dksX4_isForce_1 23 rfl rfl
theorem dX4_isForce_0 : decode cX4_isForce 0 = .ok (.aload_n 0, 1) := dk_42 (dk_at dksX4_isForce_0 0 rfl rfl)
theorem dX4_isForce_1 : decode cX4_isForce 1 = .ok (.getfield 57, 3) := dk_180 0 57 (dk_at dksX4_isForce_0 1 rfl rfl)
theorem dX4_isForce_4 : decode cX4_isForce 4 = .ok (.iload_n 1, 1) := dk_27 (dk_at dksX4_isForce_0 4 rfl rfl)
theorem dX4_isForce_5 : decode cX4_isForce 5 = .ok (.iaload, 1) := dk_46 (dk_at dksX4_isForce_0 5 rfl rfl)
theorem dX4_isForce_6 : decode cX4_isForce 6 = .ok (.iload_n 3, 1) := dk_29 (dk_at dksX4_isForce_0 6 rfl rfl)
theorem dX4_isForce_7 : decode cX4_isForce 7 = .ok (.if_icmp .gt 47, 3) := dk_163 0 47 (dk_at dksX4_isForce_0 7 rfl rfl)
theorem dX4_isForce_10 : decode cX4_isForce 10 = .ok (.aload_n 0, 1) := dk_42 (dk_at dksX4_isForce_0 10 rfl rfl)
theorem dX4_isForce_11 : decode cX4_isForce 11 = .ok (.getfield 60, 3) := dk_180 0 60 (dk_at dksX4_isForce_0 11 rfl rfl)
theorem dX4_isForce_14 : decode cX4_isForce 14 = .ok (.iload_n 1, 1) := dk_27 (dk_at dksX4_isForce_0 14 rfl rfl)
theorem dX4_isForce_15 : decode cX4_isForce 15 = .ok (.iaload, 1) := dk_46 (dk_at dksX4_isForce_0 15 rfl rfl)
theorem dX4_isForce_16 : decode cX4_isForce 16 = .ok (.iconst (-1), 1) := dk_2 (dk_at dksX4_isForce_0 16 rfl rfl)
theorem dX4_isForce_17 : decode cX4_isForce 17 = .ok (.if_icmp .eq 37, 3) := dk_159 0 37 (dk_at dksX4_isForce_0 17 rfl rfl)
theorem dX4_isForce_20 : decode cX4_isForce 20 = .ok (.aload_n 0, 1) := dk_42 (dk_at dksX4_isForce_0 20 rfl rfl)
theorem dX4_isForce_21 : decode cX4_isForce 21 = .ok (.getfield 60, 3) := dk_180 0 60 (dk_at dksX4_isForce_0 21 rfl rfl)
theorem dX4_isForce_24 : decode cX4_isForce 24 = .ok (.iload_n 1, 1) := dk_27 (dk_at dksX4_isForce_1 0 rfl rfl)
theorem dX4_isForce_25 : decode cX4_isForce 25 = .ok (.iaload, 1) := dk_46 (dk_at dksX4_isForce_1 1 rfl rfl)
theorem dX4_isForce_26 : decode cX4_isForce 26 = .ok (.iload_n 3, 1) := dk_29 (dk_at dksX4_isForce_1 2 rfl rfl)
theorem dX4_isForce_27 : decode cX4_isForce 27 = .ok (.if_icmp .gt 27, 3) := dk_163 0 27 (dk_at dksX4_isForce_1 3 rfl rfl)
theorem dX4_isForce_30 : decode cX4_isForce 30 = .ok (.aload_n 0, 1) := dk_42 (dk_at dksX4_isForce_1 6 rfl rfl)
theorem dX4_isForce_31 : decode cX4_isForce 31 = .ok (.getfield 60, 3) := dk_180 0 60 (dk_at dksX4_isForce_1 7 rfl rfl)
theorem dX4_isForce_34 : decode cX4_isForce 34 = .ok (.iload_n 1, 1) := dk_27 (dk_at dksX4_isForce_1 10 rfl rfl)
theorem dX4_isForce_35 : decode cX4_isForce 35 = .ok (.iaload, 1) := dk_46 (dk_at dksX4_isForce_1 11 rfl rfl)
theorem dX4_isForce_36 : decode cX4_isForce 36 = .ok (.iload_n 2, 1) := dk_28 (dk_at dksX4_isForce_1 12 rfl rfl)
theorem dX4_isForce_37 : decode cX4_isForce 37 = .ok (.if_icmp .gt 17, 3) := dk_163 0 17 (dk_at dksX4_isForce_1 13 rfl rfl)
theorem dX4_isForce_40 : decode cX4_isForce 40 = .ok (.iload_n 2, 1) := dk_28 (dk_at dksX4_isForce_1 16 rfl rfl)
theorem dX4_isForce_41 : decode cX4_isForce 41 = .ok (.aload_n 0, 1) := dk_42 (dk_at dksX4_isForce_1 17 rfl rfl)
theorem dX4_isForce_42 : decode cX4_isForce 42 = .ok (.iload_n 1, 1) := dk_27 (dk_at dksX4_isForce_1 18 rfl rfl)
theorem dX4_isForce_43 : decode cX4_isForce 43 = .ok (.iload_n 3, 1) := dk_29 (dk_at dksX4_isForce_1 19 rfl rfl)
theorem dX4_isForce_44 : decode cX4_isForce 44 = .ok (.invokevirtual 297, 3) := dk_182 1 41 (dk_at dksX4_isForce_1 20 rfl rfl)
theorem dX4_isForce_47 : decode cX4_isForce 47 = .ok (.if_icmp .ge 7, 3) := dk_162 0 7 (dk_at dksX4_isForce_2 0 rfl rfl)
theorem dX4_isForce_50 : decode cX4_isForce 50 = .ok (.iconst 1, 1) := dk_4 (dk_at dksX4_isForce_2 3 rfl rfl)
theorem dX4_isForce_51 : decode cX4_isForce 51 = .ok (.goto 4, 3) := dk_167 0 4 (dk_at dksX4_isForce_2 4 rfl rfl)
theorem dX4_isForce_54 : decode cX4_isForce 54 = .ok (.iconst 0, 1) := dk_3 (dk_at dksX4_isForce_2 7 rfl rfl)
theorem dX4_isForce_55 : decode cX4_isForce 55 = .ok (.ireturn, 1) := dk_172 (dk_at dksX4_isForce_2 8 rfl rfl)
abbrev cX4_fallen : ByteArray := prog_22_method_58_code
def yX4_fallen : MethodName := ⟨RX4, "fallen", "(I)I"⟩
def dkwX4_fallen_1 : List UInt8 := [167, 0, 4, 2, 172]
abbrev dktX4_fallen_1 : List UInt8 := dkwX4_fallen_1 ++ []
def dkwX4_fallen_0 : List UInt8 := [42, 3, 181, 0, 109, 27, 155, 0, 20, 27, 42, 180, 1, 63, 162, 0, 12, 42, 180, 0, 106, 27, 46]
abbrev dktX4_fallen_0 : List UInt8 := dkwX4_fallen_0 ++ dktX4_fallen_1
theorem dksX4_fallen_0 : cX4_fallen.data.toList.drop 0 = dktX4_fallen_0 := by decide +kernel
theorem dksX4_fallen_1 : cX4_fallen.data.toList.drop 23 = dktX4_fallen_1 := dk_seg dksX4_fallen_0 23 rfl rfl
theorem dX4_fallen_0 : decode cX4_fallen 0 = .ok (.aload_n 0, 1) := dk_42 (dk_at dksX4_fallen_0 0 rfl rfl)
theorem dX4_fallen_1 : decode cX4_fallen 1 = .ok (.iconst 0, 1) := dk_3 (dk_at dksX4_fallen_0 1 rfl rfl)
theorem dX4_fallen_2 : decode cX4_fallen 2 = .ok (.putfield 109, 3) := dk_181 0 109 (dk_at dksX4_fallen_0 2 rfl rfl)
theorem dX4_fallen_5 : decode cX4_fallen 5 = .ok (.iload_n 1, 1) := dk_27 (dk_at dksX4_fallen_0 5 rfl rfl)
theorem dX4_fallen_6 : decode cX4_fallen 6 = .ok (.ifCond .lt 20, 3) := dk_155 0 20 (dk_at dksX4_fallen_0 6 rfl rfl)
theorem dX4_fallen_9 : decode cX4_fallen 9 = .ok (.iload_n 1, 1) := dk_27 (dk_at dksX4_fallen_0 9 rfl rfl)
theorem dX4_fallen_10 : decode cX4_fallen 10 = .ok (.aload_n 0, 1) := dk_42 (dk_at dksX4_fallen_0 10 rfl rfl)
theorem dX4_fallen_11 : decode cX4_fallen 11 = .ok (.getfield 319, 3) := dk_180 1 63 (dk_at dksX4_fallen_0 11 rfl rfl)
theorem dX4_fallen_14 : decode cX4_fallen 14 = .ok (.if_icmp .ge 12, 3) := dk_162 0 12 (dk_at dksX4_fallen_0 14 rfl rfl)
theorem dX4_fallen_17 : decode cX4_fallen 17 = .ok (.aload_n 0, 1) := dk_42 (dk_at dksX4_fallen_0 17 rfl rfl)
theorem dX4_fallen_18 : decode cX4_fallen 18 = .ok (.getfield 106, 3) := dk_180 0 106 (dk_at dksX4_fallen_0 18 rfl rfl)
theorem dX4_fallen_21 : decode cX4_fallen 21 = .ok (.iload_n 1, 1) := dk_27 (dk_at dksX4_fallen_0 21 rfl rfl)
theorem dX4_fallen_22 : decode cX4_fallen 22 = .ok (.iaload, 1) := dk_46 (dk_at dksX4_fallen_0 22 rfl rfl)
theorem dX4_fallen_23 : decode cX4_fallen 23 = .ok (.goto 4, 3) := dk_167 0 4 (dk_at dksX4_fallen_1 0 rfl rfl)
theorem dX4_fallen_26 : decode cX4_fallen 26 = .ok (.iconst (-1), 1) := dk_2 (dk_at dksX4_fallen_1 3 rfl rfl)
theorem dX4_fallen_27 : decode cX4_fallen 27 = .ok (.ireturn, 1) := dk_172 (dk_at dksX4_fallen_1 4 rfl rfl)
abbrev cX4_force : ByteArray := prog_22_method_59_code
def yX4_force : MethodName := ⟨RX4, "force", "(III)I"⟩
def dkwX4_force_2 : List UInt8 := [42, 27, 28, 29, 182, 1, 66, 153, 0, 7, 4, 167, 0, 4, 3, 182, 0, 249, 172]
abbrev dktX4_force_2 : List UInt8 := dkwX4_force_2 ++ []
def dkwX4_force_1 : List UInt8 := [184, 0, 255, 153, 0, 14, 29, 3, 17, 78, 32, 184, 0, 255, 154, 0, 9, 42, 5, 182, 0, 239, 172, 42]
abbrev dktX4_force_1 : List UInt8 := dkwX4_force_1 ++ dktX4_force_2
def dkwX4_force_0 : List UInt8 := [42, 3, 181, 0, 109, 42, 27, 182, 1, 14, 154, 0, 9, 42, 4, 182, 0, 239, 172, 28, 3, 17, 78, 32]
abbrev dktX4_force_0 : List UInt8 := dkwX4_force_0 ++ dktX4_force_1
theorem dksX4_force_0 : cX4_force.data.toList.drop 0 = dktX4_force_0 := by decide +kernel
theorem dksX4_force_1 : cX4_force.data.toList.drop 24 = dktX4_force_1 := dk_seg dksX4_force_0 24 rfl rfl
theorem dksX4_force_2 : cX4_force.data.toList.drop 48 = dktX4_force_2 := dk_seg dksX4_force_1 24 rfl rfl
theorem dX4_force_0 : decode cX4_force 0 = .ok (.aload_n 0, 1) := dk_42 (dk_at dksX4_force_0 0 rfl rfl)
theorem dX4_force_1 : decode cX4_force 1 = .ok (.iconst 0, 1) := dk_3 (dk_at dksX4_force_0 1 rfl rfl)
theorem dX4_force_2 : decode cX4_force 2 = .ok (.putfield 109, 3) := dk_181 0 109 (dk_at dksX4_force_0 2 rfl rfl)
theorem dX4_force_5 : decode cX4_force 5 = .ok (.aload_n 0, 1) := dk_42 (dk_at dksX4_force_0 5 rfl rfl)
theorem dX4_force_6 : decode cX4_force 6 = .ok (.iload_n 1, 1) := dk_27 (dk_at dksX4_force_0 6 rfl rfl)
theorem dX4_force_7 : decode cX4_force 7 = .ok (.invokevirtual 270, 3) := dk_182 1 14 (dk_at dksX4_force_0 7 rfl rfl)
theorem dX4_force_10 : decode cX4_force 10 = .ok (.ifCond .ne 9, 3) := dk_154 0 9 (dk_at dksX4_force_0 10 rfl rfl)
theorem dX4_force_13 : decode cX4_force 13 = .ok (.aload_n 0, 1) := dk_42 (dk_at dksX4_force_0 13 rfl rfl)
theorem dX4_force_14 : decode cX4_force 14 = .ok (.iconst 1, 1) := dk_4 (dk_at dksX4_force_0 14 rfl rfl)
theorem dX4_force_15 : decode cX4_force 15 = .ok (.invokevirtual 239, 3) := dk_182 0 239 (dk_at dksX4_force_0 15 rfl rfl)
theorem dX4_force_18 : decode cX4_force 18 = .ok (.ireturn, 1) := dk_172 (dk_at dksX4_force_0 18 rfl rfl)
theorem dX4_force_19 : decode cX4_force 19 = .ok (.iload_n 2, 1) := dk_28 (dk_at dksX4_force_0 19 rfl rfl)
theorem dX4_force_20 : decode cX4_force 20 = .ok (.iconst 0, 1) := dk_3 (dk_at dksX4_force_0 20 rfl rfl)
theorem dX4_force_21 : decode cX4_force 21 = .ok (.sipush 20000, 3) := dk_17 78 32 (dk_at dksX4_force_0 21 rfl rfl)
theorem dX4_force_24 : decode cX4_force 24 = .ok (.invokestatic 255, 3) := dk_184 0 255 (dk_at dksX4_force_1 0 rfl rfl)
theorem dX4_force_27 : decode cX4_force 27 = .ok (.ifCond .eq 14, 3) := dk_153 0 14 (dk_at dksX4_force_1 3 rfl rfl)
theorem dX4_force_30 : decode cX4_force 30 = .ok (.iload_n 3, 1) := dk_29 (dk_at dksX4_force_1 6 rfl rfl)
theorem dX4_force_31 : decode cX4_force 31 = .ok (.iconst 0, 1) := dk_3 (dk_at dksX4_force_1 7 rfl rfl)
theorem dX4_force_32 : decode cX4_force 32 = .ok (.sipush 20000, 3) := dk_17 78 32 (dk_at dksX4_force_1 8 rfl rfl)
theorem dX4_force_35 : decode cX4_force 35 = .ok (.invokestatic 255, 3) := dk_184 0 255 (dk_at dksX4_force_1 11 rfl rfl)
theorem dX4_force_38 : decode cX4_force 38 = .ok (.ifCond .ne 9, 3) := dk_154 0 9 (dk_at dksX4_force_1 14 rfl rfl)
theorem dX4_force_41 : decode cX4_force 41 = .ok (.aload_n 0, 1) := dk_42 (dk_at dksX4_force_1 17 rfl rfl)
theorem dX4_force_42 : decode cX4_force 42 = .ok (.iconst 2, 1) := dk_5 (dk_at dksX4_force_1 18 rfl rfl)
theorem dX4_force_43 : decode cX4_force 43 = .ok (.invokevirtual 239, 3) := dk_182 0 239 (dk_at dksX4_force_1 19 rfl rfl)
theorem dX4_force_46 : decode cX4_force 46 = .ok (.ireturn, 1) := dk_172 (dk_at dksX4_force_1 22 rfl rfl)
theorem dX4_force_47 : decode cX4_force 47 = .ok (.aload_n 0, 1) := dk_42 (dk_at dksX4_force_1 23 rfl rfl)
theorem dX4_force_48 : decode cX4_force 48 = .ok (.aload_n 0, 1) := dk_42 (dk_at dksX4_force_2 0 rfl rfl)
theorem dX4_force_49 : decode cX4_force 49 = .ok (.iload_n 1, 1) := dk_27 (dk_at dksX4_force_2 1 rfl rfl)
theorem dX4_force_50 : decode cX4_force 50 = .ok (.iload_n 2, 1) := dk_28 (dk_at dksX4_force_2 2 rfl rfl)
theorem dX4_force_51 : decode cX4_force 51 = .ok (.iload_n 3, 1) := dk_29 (dk_at dksX4_force_2 3 rfl rfl)
theorem dX4_force_52 : decode cX4_force 52 = .ok (.invokevirtual 322, 3) := dk_182 1 66 (dk_at dksX4_force_2 4 rfl rfl)
theorem dX4_force_55 : decode cX4_force 55 = .ok (.ifCond .eq 7, 3) := dk_153 0 7 (dk_at dksX4_force_2 7 rfl rfl)
theorem dX4_force_58 : decode cX4_force 58 = .ok (.iconst 1, 1) := dk_4 (dk_at dksX4_force_2 10 rfl rfl)
theorem dX4_force_59 : decode cX4_force 59 = .ok (.goto 4, 3) := dk_167 0 4 (dk_at dksX4_force_2 11 rfl rfl)
theorem dX4_force_62 : decode cX4_force 62 = .ok (.iconst 0, 1) := dk_3 (dk_at dksX4_force_2 14 rfl rfl)
theorem dX4_force_63 : decode cX4_force 63 = .ok (.invokevirtual 249, 3) := dk_182 0 249 (dk_at dksX4_force_2 15 rfl rfl)
theorem dX4_force_66 : decode cX4_force 66 = .ok (.ireturn, 1) := dk_172 (dk_at dksX4_force_2 18 rfl rfl)
abbrev cX4_count : ByteArray := prog_22_method_60_code
def yX4_count : MethodName := ⟨RX4, "count", "(I)I"⟩
def dkwX4_count_3 : List UInt8 := [172, 42, 180, 0, 121, 172, 42, 180, 0, 115, 172, 42, 180, 0, 169, 172, 2, 172]
abbrev dktX4_count_3 : List UInt8 := dkwX4_count_3 ++ []
def dkwX4_count_2 : List UInt8 := [42, 180, 0, 118, 172, 42, 180, 0, 124, 172, 42, 180, 0, 130, 172, 42, 180, 0, 127, 172, 42, 180, 0, 133]
abbrev dktX4_count_2 : List UInt8 := dkwX4_count_2 ++ dktX4_count_3
def dkwX4_count_1 : List UInt8 := [170, 0, 0, 0, 0, 86, 0, 0, 0, 0, 0, 0, 0, 7, 0, 0, 0, 46, 0, 0, 0, 51, 0, 0, 0, 56, 0, 0, 0, 61, 0, 0, 0, 66, 0, 0, 0, 71, 0, 0, 0, 76, 0, 0, 0, 81]
abbrev dktX4_count_1 : List UInt8 := dkwX4_count_1 ++ dktX4_count_2
def dkwX4_count_0 : List UInt8 := [42, 3, 181, 0, 109, 27]
abbrev dktX4_count_0 : List UInt8 := dkwX4_count_0 ++ dktX4_count_1
theorem dksX4_count_0 : cX4_count.data.toList.drop 0 = dktX4_count_0 := by decide +kernel
theorem dksX4_count_1 : cX4_count.data.toList.drop 6 = dktX4_count_1 := dk_seg dksX4_count_0 6 rfl rfl
theorem dksX4_count_2 : cX4_count.data.toList.drop 52 = dktX4_count_2 := dk_seg dksX4_count_1 46 rfl rfl
theorem dksX4_count_3 : cX4_count.data.toList.drop 76 = dktX4_count_3 := dk_seg dksX4_count_2 24 rfl rfl
theorem dX4_count_0 : decode cX4_count 0 = .ok (.aload_n 0, 1) := dk_42 (dk_at dksX4_count_0 0 rfl rfl)
theorem dX4_count_1 : decode cX4_count 1 = .ok (.iconst 0, 1) := dk_3 (dk_at dksX4_count_0 1 rfl rfl)
theorem dX4_count_2 : decode cX4_count 2 = .ok (.putfield 109, 3) := dk_181 0 109 (dk_at dksX4_count_0 2 rfl rfl)
theorem dX4_count_5 : decode cX4_count 5 = .ok (.iload_n 1, 1) := dk_27 (dk_at dksX4_count_0 5 rfl rfl)
theorem dX4_count_6 : decode cX4_count 6 = .ok (.tableswitch 86 0 7 #[46, 51, 56, 61, 66, 71, 76, 81], 46) := by decide +kernel
theorem dX4_count_52 : decode cX4_count 52 = .ok (.aload_n 0, 1) := dk_42 (dk_at dksX4_count_2 0 rfl rfl)
theorem dX4_count_53 : decode cX4_count 53 = .ok (.getfield 118, 3) := dk_180 0 118 (dk_at dksX4_count_2 1 rfl rfl)
theorem dX4_count_56 : decode cX4_count 56 = .ok (.ireturn, 1) := dk_172 (dk_at dksX4_count_2 4 rfl rfl)
theorem dX4_count_57 : decode cX4_count 57 = .ok (.aload_n 0, 1) := dk_42 (dk_at dksX4_count_2 5 rfl rfl)
theorem dX4_count_58 : decode cX4_count 58 = .ok (.getfield 124, 3) := dk_180 0 124 (dk_at dksX4_count_2 6 rfl rfl)
theorem dX4_count_61 : decode cX4_count 61 = .ok (.ireturn, 1) := dk_172 (dk_at dksX4_count_2 9 rfl rfl)
theorem dX4_count_62 : decode cX4_count 62 = .ok (.aload_n 0, 1) := dk_42 (dk_at dksX4_count_2 10 rfl rfl)
theorem dX4_count_63 : decode cX4_count 63 = .ok (.getfield 130, 3) := dk_180 0 130 (dk_at dksX4_count_2 11 rfl rfl)
theorem dX4_count_66 : decode cX4_count 66 = .ok (.ireturn, 1) := dk_172 (dk_at dksX4_count_2 14 rfl rfl)
theorem dX4_count_67 : decode cX4_count 67 = .ok (.aload_n 0, 1) := dk_42 (dk_at dksX4_count_2 15 rfl rfl)
theorem dX4_count_68 : decode cX4_count 68 = .ok (.getfield 127, 3) := dk_180 0 127 (dk_at dksX4_count_2 16 rfl rfl)
theorem dX4_count_71 : decode cX4_count 71 = .ok (.ireturn, 1) := dk_172 (dk_at dksX4_count_2 19 rfl rfl)
theorem dX4_count_72 : decode cX4_count 72 = .ok (.aload_n 0, 1) := dk_42 (dk_at dksX4_count_2 20 rfl rfl)
theorem dX4_count_73 : decode cX4_count 73 = .ok (.getfield 133, 3) := dk_180 0 133 (dk_at dksX4_count_2 21 rfl rfl)
theorem dX4_count_76 : decode cX4_count 76 = .ok (.ireturn, 1) := dk_172 (dk_at dksX4_count_3 0 rfl rfl)
theorem dX4_count_77 : decode cX4_count 77 = .ok (.aload_n 0, 1) := dk_42 (dk_at dksX4_count_3 1 rfl rfl)
theorem dX4_count_78 : decode cX4_count 78 = .ok (.getfield 121, 3) := dk_180 0 121 (dk_at dksX4_count_3 2 rfl rfl)
theorem dX4_count_81 : decode cX4_count 81 = .ok (.ireturn, 1) := dk_172 (dk_at dksX4_count_3 5 rfl rfl)
theorem dX4_count_82 : decode cX4_count 82 = .ok (.aload_n 0, 1) := dk_42 (dk_at dksX4_count_3 6 rfl rfl)
theorem dX4_count_83 : decode cX4_count 83 = .ok (.getfield 115, 3) := dk_180 0 115 (dk_at dksX4_count_3 7 rfl rfl)
theorem dX4_count_86 : decode cX4_count 86 = .ok (.ireturn, 1) := dk_172 (dk_at dksX4_count_3 10 rfl rfl)
theorem dX4_count_87 : decode cX4_count 87 = .ok (.aload_n 0, 1) := dk_42 (dk_at dksX4_count_3 11 rfl rfl)
theorem dX4_count_88 : decode cX4_count 88 = .ok (.getfield 169, 3) := dk_180 0 169 (dk_at dksX4_count_3 12 rfl rfl)
theorem dX4_count_91 : decode cX4_count 91 = .ok (.ireturn, 1) := dk_172 (dk_at dksX4_count_3 15 rfl rfl)
theorem dX4_count_92 : decode cX4_count 92 = .ok (.iconst (-1), 1) := dk_2 (dk_at dksX4_count_3 16 rfl rfl)
theorem dX4_count_93 : decode cX4_count 93 = .ok (.ireturn, 1) := dk_172 (dk_at dksX4_count_3 17 rfl rfl)
abbrev cX4_trouble : ByteArray := prog_22_method_61_code
def yX4_trouble : MethodName := ⟨RX4, "trouble", "()I"⟩
def dkwX4_trouble_0 : List UInt8 := [42, 3, 181, 0, 109, 42, 180, 0, 112, 172]
abbrev dktX4_trouble_0 : List UInt8 := dkwX4_trouble_0 ++ []
theorem dksX4_trouble_0 : cX4_trouble.data.toList.drop 0 = dktX4_trouble_0 := by decide +kernel
theorem dX4_trouble_0 : decode cX4_trouble 0 = .ok (.aload_n 0, 1) := dk_42 (dk_at dksX4_trouble_0 0 rfl rfl)
theorem dX4_trouble_1 : decode cX4_trouble 1 = .ok (.iconst 0, 1) := dk_3 (dk_at dksX4_trouble_0 1 rfl rfl)
theorem dX4_trouble_2 : decode cX4_trouble 2 = .ok (.putfield 109, 3) := dk_181 0 109 (dk_at dksX4_trouble_0 2 rfl rfl)
theorem dX4_trouble_5 : decode cX4_trouble 5 = .ok (.aload_n 0, 1) := dk_42 (dk_at dksX4_trouble_0 5 rfl rfl)
theorem dX4_trouble_6 : decode cX4_trouble 6 = .ok (.getfield 112, 3) := dk_180 0 112 (dk_at dksX4_trouble_0 6 rfl rfl)
theorem dX4_trouble_9 : decode cX4_trouble 9 = .ok (.ireturn, 1) := dk_172 (dk_at dksX4_trouble_0 9 rfl rfl)
theorem q66 : (Jvm.Cond.initialized "PatentHallModel") ∈ lw_all := lw_g (lw_at lw_m1 8 rfl) rfl
theorem q1032 : (Jvm.Cond.instantiable "PatentHallModel" (49 : Nat)) ∈ lw_all := lw_g (lw_at lw_m5 14 rfl) rfl
theorem q1034 : (Jvm.Cond.instanceMethod ({ cls := "PatentHallModel", name := "<init>", desc := "()V" } : Jvm.MethodName)) ∈ lw_all := lw_g (lw_at lw_m5 16 rfl) rfl
theorem q1035 : (Jvm.Cond.code ({ cls := "PatentHallModel", name := "<init>", desc := "()V" } : Jvm.MethodName) prog_22_method_1_code (1 : Nat) (Option.none : Option Jvm.ClassFile.FieldType)) ∈ lw_all := lw_g (lw_at lw_m5 17 rfl) rfl
theorem q1036 : (Jvm.Cond.methodLink "PatentHallModel" (1 : Nat) ({ cls := "java/lang/Object", name := "<init>", desc := "()V" } : Jvm.MethodName)) ∈ lw_all := lw_g (lw_at lw_m5 18 rfl) rfl
theorem q1037 : (Jvm.Cond.classLink "PatentHallModel" (21 : Nat) "PatentHallModel$Text") ∈ lw_all := lw_g (lw_at lw_m5 19 rfl) rfl
theorem q1039 : (Jvm.Cond.classLink "PatentHallModel" (75 : Nat) "PatentHallModel$Stop") ∈ lw_all := lw_g (lw_at lw_m5 21 rfl) rfl
theorem q1048 : (Jvm.Cond.methodLink "PatentHallModel" (77 : Nat) ({ cls := "PatentHallModel$Stop", name := "<init>", desc := "()V" } : Jvm.MethodName)) ∈ lw_all := lw_g (lw_at lw_m5 30 rfl) rfl
theorem q1052 : (Jvm.Cond.fieldLinkNest "PatentHallModel" (136 : Nat) "PatentHallModel$Stop" "kind" "I" "PatentHallModel") ∈ lw_tbl := lw_at lw_m5 34 rfl
theorem q1053 : (Jvm.Cond.fieldLinkNest "PatentHallModel" (139 : Nat) "PatentHallModel$Stop" "place" "I" "PatentHallModel") ∈ lw_tbl := lw_at lw_m5 35 rfl
theorem q1062 : (Jvm.Cond.methodLinkNest "PatentHallModel" (95 : Nat) ({ cls := "PatentHallModel$Text", name := "<init>", desc := "()V" } : Jvm.MethodName) "PatentHallModel") ∈ lw_tbl := lw_at lw_m5 44 rfl
theorem q1067 : (Jvm.Cond.fieldLinkNest "PatentHallModel" (196 : Nat) "PatentHallModel$Text" "parts" "I" "PatentHallModel") ∈ lw_tbl := lw_at lw_m5 49 rfl
theorem q1069 : (Jvm.Cond.fieldLinkNest "PatentHallModel" (205 : Nat) "PatentHallModel$Text" "links" "I" "PatentHallModel") ∈ lw_tbl := lw_at lw_m5 51 rfl
theorem q1071 : (Jvm.Cond.fieldLinkNest "PatentHallModel" (199 : Nat) "PatentHallModel$Text" "name" "[J" "PatentHallModel") ∈ lw_tbl := lw_at lw_m5 53 rfl
theorem q1073 : (Jvm.Cond.fieldLinkNest "PatentHallModel" (202 : Nat) "PatentHallModel$Text" "word" "[I" "PatentHallModel") ∈ lw_tbl := lw_at lw_m5 55 rfl
theorem q1075 : (Jvm.Cond.fieldLinkNest "PatentHallModel" (208 : Nat) "PatentHallModel$Text" "from" "[I" "PatentHallModel") ∈ lw_tbl := lw_at lw_m5 57 rfl
theorem q1077 : (Jvm.Cond.fieldLinkNest "PatentHallModel" (211 : Nat) "PatentHallModel$Text" "verb" "[I" "PatentHallModel") ∈ lw_tbl := lw_at lw_m5 59 rfl
theorem q1079 : (Jvm.Cond.fieldLinkNest "PatentHallModel" (214 : Nat) "PatentHallModel$Text" "to" "[I" "PatentHallModel") ∈ lw_tbl := lw_at lw_m5 61 rfl
theorem q1095 : (Jvm.Cond.fieldLink "PatentHallModel" (109 : Nat) "PatentHallModel" "thrown" "I") ∈ lw_all := lw_g (lw_at lw_m5 77 rfl) rfl
theorem q1096 : (Jvm.Cond.fieldLink "PatentHallModel" (112 : Nat) "PatentHallModel" "trouble" "I") ∈ lw_all := lw_g (lw_at lw_m5 78 rfl) rfl
theorem q1097 : (Jvm.Cond.fieldLink "PatentHallModel" (9 : Nat) "PatentHallModel" "where" "I") ∈ lw_all := lw_g (lw_at lw_m5 79 rfl) rfl
theorem q1098 : (Jvm.Cond.fieldLink "PatentHallModel" (217 : Nat) "PatentHallModel" "fault" "I") ∈ lw_all := lw_g (lw_at lw_m5 80 rfl) rfl
theorem q1099 : (Jvm.Cond.fieldLink "PatentHallModel" (118 : Nat) "PatentHallModel" "words" "I") ∈ lw_all := lw_g (lw_at lw_m5 81 rfl) rfl
theorem q1100 : (Jvm.Cond.fieldLink "PatentHallModel" (124 : Nat) "PatentHallModel" "papers" "I") ∈ lw_all := lw_g (lw_at lw_m5 82 rfl) rfl
theorem q1101 : (Jvm.Cond.fieldLink "PatentHallModel" (130 : Nat) "PatentHallModel" "files" "I") ∈ lw_all := lw_g (lw_at lw_m5 83 rfl) rfl
theorem q1102 : (Jvm.Cond.fieldLink "PatentHallModel" (133 : Nat) "PatentHallModel" "claims" "I") ∈ lw_all := lw_g (lw_at lw_m5 84 rfl) rfl
theorem q1103 : (Jvm.Cond.fieldLink "PatentHallModel" (127 : Nat) "PatentHallModel" "things" "I") ∈ lw_all := lw_g (lw_at lw_m5 85 rfl) rfl
theorem q1104 : (Jvm.Cond.fieldLink "PatentHallModel" (121 : Nat) "PatentHallModel" "now" "I") ∈ lw_all := lw_g (lw_at lw_m5 86 rfl) rfl
theorem q1105 : (Jvm.Cond.fieldLink "PatentHallModel" (13 : Nat) "PatentHallModel" "wordName" "[J") ∈ lw_all := lw_g (lw_at lw_m5 87 rfl) rfl
theorem q1106 : (Jvm.Cond.fieldLink "PatentHallModel" (17 : Nat) "PatentHallModel" "wider" "[I") ∈ lw_all := lw_g (lw_at lw_m5 88 rfl) rfl
theorem q1107 : (Jvm.Cond.fieldLink "PatentHallModel" (23 : Nat) "PatentHallModel" "paper" "[LPatentHallModel$Text;") ∈ lw_all := lw_g (lw_at lw_m5 89 rfl) rfl
theorem q1108 : (Jvm.Cond.fieldLink "PatentHallModel" (27 : Nat) "PatentHallModel" "file" "[LPatentHallModel$Text;") ∈ lw_all := lw_g (lw_at lw_m5 90 rfl) rfl
theorem q1109 : (Jvm.Cond.fieldLink "PatentHallModel" (30 : Nat) "PatentHallModel" "thing" "[LPatentHallModel$Text;") ∈ lw_all := lw_g (lw_at lw_m5 91 rfl) rfl
theorem q1110 : (Jvm.Cond.fieldLink "PatentHallModel" (33 : Nat) "PatentHallModel" "claim" "[LPatentHallModel$Text;") ∈ lw_all := lw_g (lw_at lw_m5 92 rfl) rfl
theorem q1111 : (Jvm.Cond.fieldLink "PatentHallModel" (36 : Nat) "PatentHallModel" "paperDay" "[I") ∈ lw_all := lw_g (lw_at lw_m5 93 rfl) rfl
theorem q1112 : (Jvm.Cond.fieldLink "PatentHallModel" (39 : Nat) "PatentHallModel" "paperKnown" "[I") ∈ lw_all := lw_g (lw_at lw_m5 94 rfl) rfl
theorem q1113 : (Jvm.Cond.fieldLink "PatentHallModel" (42 : Nat) "PatentHallModel" "thingKnown" "[I") ∈ lw_all := lw_g (lw_at lw_m5 95 rfl) rfl
theorem q1114 : (Jvm.Cond.fieldLink "PatentHallModel" (45 : Nat) "PatentHallModel" "fileDay" "[I") ∈ lw_all := lw_g (lw_at lw_m5 96 rfl) rfl
theorem q1115 : (Jvm.Cond.fieldLink "PatentHallModel" (48 : Nat) "PatentHallModel" "fileBack" "[I") ∈ lw_all := lw_g (lw_at lw_m5 97 rfl) rfl
theorem q1116 : (Jvm.Cond.fieldLink "PatentHallModel" (51 : Nat) "PatentHallModel" "claimFile" "[I") ∈ lw_all := lw_g (lw_at lw_m5 98 rfl) rfl
theorem q1117 : (Jvm.Cond.fieldLink "PatentHallModel" (54 : Nat) "PatentHallModel" "claimOn" "[I") ∈ lw_all := lw_g (lw_at lw_m5 99 rfl) rfl
theorem q1118 : (Jvm.Cond.fieldLink "PatentHallModel" (57 : Nat) "PatentHallModel" "claimKnown" "[I") ∈ lw_all := lw_g (lw_at lw_m5 100 rfl) rfl
theorem q1119 : (Jvm.Cond.fieldLink "PatentHallModel" (60 : Nat) "PatentHallModel" "grantDay" "[I") ∈ lw_all := lw_g (lw_at lw_m5 101 rfl) rfl
theorem q1120 : (Jvm.Cond.fieldLink "PatentHallModel" (63 : Nat) "PatentHallModel" "dropDay" "[I") ∈ lw_all := lw_g (lw_at lw_m5 102 rfl) rfl
theorem q1121 : (Jvm.Cond.fieldLink "PatentHallModel" (66 : Nat) "PatentHallModel" "actWhat" "[I") ∈ lw_all := lw_g (lw_at lw_m5 103 rfl) rfl
theorem q1122 : (Jvm.Cond.fieldLink "PatentHallModel" (69 : Nat) "PatentHallModel" "actOne" "[I") ∈ lw_all := lw_g (lw_at lw_m5 104 rfl) rfl
theorem q1123 : (Jvm.Cond.fieldLink "PatentHallModel" (72 : Nat) "PatentHallModel" "actText" "[LPatentHallModel$Text;") ∈ lw_all := lw_g (lw_at lw_m5 105 rfl) rfl
theorem q1124 : (Jvm.Cond.fieldLink "PatentHallModel" (115 : Nat) "PatentHallModel" "acts" "I") ∈ lw_all := lw_g (lw_at lw_m5 106 rfl) rfl
theorem q1125 : (Jvm.Cond.fieldLink "PatentHallModel" (78 : Nat) "PatentHallModel" "stop" "LPatentHallModel$Stop;") ∈ lw_all := lw_g (lw_at lw_m5 107 rfl) rfl
theorem q1126 : (Jvm.Cond.fieldLink "PatentHallModel" (82 : Nat) "PatentHallModel" "tape" "[B") ∈ lw_all := lw_g (lw_at lw_m5 108 rfl) rfl
theorem q1127 : (Jvm.Cond.fieldLink "PatentHallModel" (169 : Nat) "PatentHallModel" "taped" "I") ∈ lw_all := lw_g (lw_at lw_m5 109 rfl) rfl
theorem q1128 : (Jvm.Cond.fieldLink "PatentHallModel" (142 : Nat) "PatentHallModel" "size" "I") ∈ lw_all := lw_g (lw_at lw_m5 110 rfl) rfl
theorem q1129 : (Jvm.Cond.fieldLink "PatentHallModel" (145 : Nat) "PatentHallModel" "at" "I") ∈ lw_all := lw_g (lw_at lw_m5 111 rfl) rfl
theorem q1130 : (Jvm.Cond.fieldLink "PatentHallModel" (153 : Nat) "PatentHallModel" "sort" "I") ∈ lw_all := lw_g (lw_at lw_m5 112 rfl) rfl
theorem q1131 : (Jvm.Cond.fieldLink "PatentHallModel" (152 : Nat) "PatentHallModel" "place" "I") ∈ lw_all := lw_g (lw_at lw_m5 113 rfl) rfl
theorem q1132 : (Jvm.Cond.fieldLink "PatentHallModel" (156 : Nat) "PatentHallModel" "sign" "I") ∈ lw_all := lw_g (lw_at lw_m5 114 rfl) rfl
theorem q1133 : (Jvm.Cond.fieldLink "PatentHallModel" (163 : Nat) "PatentHallModel" "letters" "J") ∈ lw_all := lw_g (lw_at lw_m5 115 rfl) rfl
theorem q1134 : (Jvm.Cond.fieldLink "PatentHallModel" (86 : Nat) "PatentHallModel" "goes" "[I") ∈ lw_all := lw_g (lw_at lw_m5 116 rfl) rfl
theorem q1135 : (Jvm.Cond.fieldLink "PatentHallModel" (89 : Nat) "PatentHallModel" "firstWay" "[I") ∈ lw_all := lw_g (lw_at lw_m5 117 rfl) rfl
theorem q1136 : (Jvm.Cond.fieldLink "PatentHallModel" (220 : Nat) "PatentHallModel" "ways" "I") ∈ lw_all := lw_g (lw_at lw_m5 118 rfl) rfl
theorem q1137 : (Jvm.Cond.fieldLink "PatentHallModel" (303 : Nat) "PatentHallModel" "wayParts" "I") ∈ lw_all := lw_g (lw_at lw_m5 119 rfl) rfl
theorem q1138 : (Jvm.Cond.fieldLink "PatentHallModel" (92 : Nat) "PatentHallModel" "told" "[I") ∈ lw_all := lw_g (lw_at lw_m5 120 rfl) rfl
theorem q1139 : (Jvm.Cond.fieldLink "PatentHallModel" (96 : Nat) "PatentHallModel" "rest" "LPatentHallModel$Text;") ∈ lw_all := lw_g (lw_at lw_m5 121 rfl) rfl
theorem q1140 : (Jvm.Cond.fieldLink "PatentHallModel" (100 : Nat) "PatentHallModel" "one" "LPatentHallModel$Text;") ∈ lw_all := lw_g (lw_at lw_m5 122 rfl) rfl
theorem q1141 : (Jvm.Cond.fieldLink "PatentHallModel" (103 : Nat) "PatentHallModel" "leftBits" "I") ∈ lw_all := lw_g (lw_at lw_m5 123 rfl) rfl
theorem q1142 : (Jvm.Cond.fieldLink "PatentHallModel" (106 : Nat) "PatentHallModel" "fallen" "[I") ∈ lw_all := lw_g (lw_at lw_m5 124 rfl) rfl
theorem q1143 : (Jvm.Cond.fieldLink "PatentHallModel" (319 : Nat) "PatentHallModel" "falls" "I") ∈ lw_all := lw_g (lw_at lw_m5 125 rfl) rfl
theorem q1144 : (Jvm.Cond.lays "PatentHallModel" "PatentHallModel" "thrown" "I") ∈ lw_all := lw_g (lw_at lw_m5 126 rfl) rfl
theorem q1145 : (Jvm.Cond.soleField "PatentHallModel" "thrown") ∈ lw_all := lw_g (lw_at lw_m5 127 rfl) rfl
theorem q1146 : (Jvm.Cond.lays "PatentHallModel" "PatentHallModel" "trouble" "I") ∈ lw_all := lw_g (lw_at lw_m5 128 rfl) rfl
theorem q1147 : (Jvm.Cond.soleField "PatentHallModel" "trouble") ∈ lw_all := lw_g (lw_at lw_m5 129 rfl) rfl
theorem q1148 : (Jvm.Cond.lays "PatentHallModel" "PatentHallModel" "where" "I") ∈ lw_all := lw_g (lw_at lw_m5 130 rfl) rfl
theorem q1149 : (Jvm.Cond.soleField "PatentHallModel" "where") ∈ lw_all := lw_g (lw_at lw_m5 131 rfl) rfl
theorem q1150 : (Jvm.Cond.lays "PatentHallModel" "PatentHallModel" "fault" "I") ∈ lw_all := lw_g (lw_at lw_m5 132 rfl) rfl
theorem q1151 : (Jvm.Cond.soleField "PatentHallModel" "fault") ∈ lw_all := lw_g (lw_at lw_m5 133 rfl) rfl
theorem q1152 : (Jvm.Cond.lays "PatentHallModel" "PatentHallModel" "words" "I") ∈ lw_all := lw_g (lw_at lw_m5 134 rfl) rfl
theorem q1153 : (Jvm.Cond.soleField "PatentHallModel" "words") ∈ lw_all := lw_g (lw_at lw_m5 135 rfl) rfl
theorem q1154 : (Jvm.Cond.lays "PatentHallModel" "PatentHallModel" "papers" "I") ∈ lw_all := lw_g (lw_at lw_m5 136 rfl) rfl
theorem q1155 : (Jvm.Cond.soleField "PatentHallModel" "papers") ∈ lw_all := lw_g (lw_at lw_m5 137 rfl) rfl
theorem q1156 : (Jvm.Cond.lays "PatentHallModel" "PatentHallModel" "files" "I") ∈ lw_all := lw_g (lw_at lw_m5 138 rfl) rfl
theorem q1157 : (Jvm.Cond.soleField "PatentHallModel" "files") ∈ lw_all := lw_g (lw_at lw_m5 139 rfl) rfl
theorem q1158 : (Jvm.Cond.lays "PatentHallModel" "PatentHallModel" "claims" "I") ∈ lw_all := lw_g (lw_at lw_m5 140 rfl) rfl
theorem q1159 : (Jvm.Cond.soleField "PatentHallModel" "claims") ∈ lw_all := lw_g (lw_at lw_m5 141 rfl) rfl
theorem q1160 : (Jvm.Cond.lays "PatentHallModel" "PatentHallModel" "things" "I") ∈ lw_all := lw_g (lw_at lw_m5 142 rfl) rfl
theorem q1161 : (Jvm.Cond.soleField "PatentHallModel" "things") ∈ lw_all := lw_g (lw_at lw_m5 143 rfl) rfl
theorem q1162 : (Jvm.Cond.lays "PatentHallModel" "PatentHallModel" "now" "I") ∈ lw_all := lw_g (lw_at lw_m5 144 rfl) rfl
theorem q1163 : (Jvm.Cond.soleField "PatentHallModel" "now") ∈ lw_all := lw_g (lw_at lw_m5 145 rfl) rfl
theorem q1164 : (Jvm.Cond.laysFinal "PatentHallModel" "PatentHallModel" "wordName" "[J") ∈ lw_all := lw_g (lw_at lw_m5 146 rfl) rfl
theorem q1165 : (Jvm.Cond.soleField "PatentHallModel" "wordName") ∈ lw_all := lw_g (lw_at lw_m5 147 rfl) rfl
theorem q1166 : (Jvm.Cond.laysFinal "PatentHallModel" "PatentHallModel" "wider" "[I") ∈ lw_all := lw_g (lw_at lw_m5 148 rfl) rfl
theorem q1167 : (Jvm.Cond.soleField "PatentHallModel" "wider") ∈ lw_all := lw_g (lw_at lw_m5 149 rfl) rfl
theorem q1168 : (Jvm.Cond.laysFinal "PatentHallModel" "PatentHallModel" "paper" "[LPatentHallModel$Text;") ∈ lw_all := lw_g (lw_at lw_m5 150 rfl) rfl
theorem q1169 : (Jvm.Cond.soleField "PatentHallModel" "paper") ∈ lw_all := lw_g (lw_at lw_m5 151 rfl) rfl
theorem q1170 : (Jvm.Cond.laysFinal "PatentHallModel" "PatentHallModel" "file" "[LPatentHallModel$Text;") ∈ lw_all := lw_g (lw_at lw_m5 152 rfl) rfl
theorem q1171 : (Jvm.Cond.soleField "PatentHallModel" "file") ∈ lw_all := lw_g (lw_at lw_m5 153 rfl) rfl
theorem q1172 : (Jvm.Cond.laysFinal "PatentHallModel" "PatentHallModel" "thing" "[LPatentHallModel$Text;") ∈ lw_all := lw_g (lw_at lw_m5 154 rfl) rfl
theorem q1173 : (Jvm.Cond.soleField "PatentHallModel" "thing") ∈ lw_all := lw_g (lw_at lw_m5 155 rfl) rfl
theorem q1174 : (Jvm.Cond.laysFinal "PatentHallModel" "PatentHallModel" "claim" "[LPatentHallModel$Text;") ∈ lw_all := lw_g (lw_at lw_m5 156 rfl) rfl
theorem q1175 : (Jvm.Cond.soleField "PatentHallModel" "claim") ∈ lw_all := lw_g (lw_at lw_m5 157 rfl) rfl
theorem q1176 : (Jvm.Cond.laysFinal "PatentHallModel" "PatentHallModel" "paperDay" "[I") ∈ lw_all := lw_g (lw_at lw_m5 158 rfl) rfl
theorem q1177 : (Jvm.Cond.soleField "PatentHallModel" "paperDay") ∈ lw_all := lw_g (lw_at lw_m5 159 rfl) rfl
theorem q1178 : (Jvm.Cond.laysFinal "PatentHallModel" "PatentHallModel" "paperKnown" "[I") ∈ lw_all := lw_g (lw_at lw_m5 160 rfl) rfl
theorem q1179 : (Jvm.Cond.soleField "PatentHallModel" "paperKnown") ∈ lw_all := lw_g (lw_at lw_m5 161 rfl) rfl
theorem q1180 : (Jvm.Cond.laysFinal "PatentHallModel" "PatentHallModel" "thingKnown" "[I") ∈ lw_all := lw_g (lw_at lw_m5 162 rfl) rfl
theorem q1181 : (Jvm.Cond.soleField "PatentHallModel" "thingKnown") ∈ lw_all := lw_g (lw_at lw_m5 163 rfl) rfl
theorem q1182 : (Jvm.Cond.laysFinal "PatentHallModel" "PatentHallModel" "fileDay" "[I") ∈ lw_all := lw_g (lw_at lw_m5 164 rfl) rfl
theorem q1183 : (Jvm.Cond.soleField "PatentHallModel" "fileDay") ∈ lw_all := lw_g (lw_at lw_m5 165 rfl) rfl
theorem q1184 : (Jvm.Cond.laysFinal "PatentHallModel" "PatentHallModel" "fileBack" "[I") ∈ lw_all := lw_g (lw_at lw_m5 166 rfl) rfl
theorem q1185 : (Jvm.Cond.soleField "PatentHallModel" "fileBack") ∈ lw_all := lw_g (lw_at lw_m5 167 rfl) rfl
theorem q1186 : (Jvm.Cond.laysFinal "PatentHallModel" "PatentHallModel" "claimFile" "[I") ∈ lw_all := lw_g (lw_at lw_m5 168 rfl) rfl
theorem q1187 : (Jvm.Cond.soleField "PatentHallModel" "claimFile") ∈ lw_all := lw_g (lw_at lw_m5 169 rfl) rfl
theorem q1188 : (Jvm.Cond.laysFinal "PatentHallModel" "PatentHallModel" "claimOn" "[I") ∈ lw_all := lw_g (lw_at lw_m5 170 rfl) rfl
theorem q1189 : (Jvm.Cond.soleField "PatentHallModel" "claimOn") ∈ lw_all := lw_g (lw_at lw_m5 171 rfl) rfl
theorem q1190 : (Jvm.Cond.laysFinal "PatentHallModel" "PatentHallModel" "claimKnown" "[I") ∈ lw_all := lw_g (lw_at lw_m5 172 rfl) rfl
theorem q1191 : (Jvm.Cond.soleField "PatentHallModel" "claimKnown") ∈ lw_all := lw_g (lw_at lw_m5 173 rfl) rfl
theorem q1192 : (Jvm.Cond.laysFinal "PatentHallModel" "PatentHallModel" "grantDay" "[I") ∈ lw_all := lw_g (lw_at lw_m5 174 rfl) rfl
theorem q1193 : (Jvm.Cond.soleField "PatentHallModel" "grantDay") ∈ lw_all := lw_g (lw_at lw_m5 175 rfl) rfl
theorem q1194 : (Jvm.Cond.laysFinal "PatentHallModel" "PatentHallModel" "dropDay" "[I") ∈ lw_all := lw_g (lw_at lw_m5 176 rfl) rfl
theorem q1195 : (Jvm.Cond.soleField "PatentHallModel" "dropDay") ∈ lw_all := lw_g (lw_at lw_m5 177 rfl) rfl
theorem q1196 : (Jvm.Cond.laysFinal "PatentHallModel" "PatentHallModel" "actWhat" "[I") ∈ lw_all := lw_g (lw_at lw_m5 178 rfl) rfl
theorem q1197 : (Jvm.Cond.soleField "PatentHallModel" "actWhat") ∈ lw_all := lw_g (lw_at lw_m5 179 rfl) rfl
theorem q1198 : (Jvm.Cond.laysFinal "PatentHallModel" "PatentHallModel" "actOne" "[I") ∈ lw_all := lw_g (lw_at lw_m5 180 rfl) rfl
theorem q1199 : (Jvm.Cond.soleField "PatentHallModel" "actOne") ∈ lw_all := lw_g (lw_at lw_m5 181 rfl) rfl
theorem q1200 : (Jvm.Cond.laysFinal "PatentHallModel" "PatentHallModel" "actText" "[LPatentHallModel$Text;") ∈ lw_all := lw_g (lw_at lw_m5 182 rfl) rfl
theorem q1201 : (Jvm.Cond.soleField "PatentHallModel" "actText") ∈ lw_all := lw_g (lw_at lw_m5 183 rfl) rfl
theorem q1202 : (Jvm.Cond.lays "PatentHallModel" "PatentHallModel" "acts" "I") ∈ lw_all := lw_g (lw_at lw_m5 184 rfl) rfl
theorem q1203 : (Jvm.Cond.soleField "PatentHallModel" "acts") ∈ lw_all := lw_g (lw_at lw_m5 185 rfl) rfl
theorem q1204 : (Jvm.Cond.laysFinal "PatentHallModel" "PatentHallModel" "stop" "LPatentHallModel$Stop;") ∈ lw_all := lw_g (lw_at lw_m5 186 rfl) rfl
theorem q1205 : (Jvm.Cond.soleField "PatentHallModel" "stop") ∈ lw_all := lw_g (lw_at lw_m5 187 rfl) rfl
theorem q1206 : (Jvm.Cond.laysFinal "PatentHallModel" "PatentHallModel" "tape" "[B") ∈ lw_all := lw_g (lw_at lw_m5 188 rfl) rfl
theorem q1207 : (Jvm.Cond.soleField "PatentHallModel" "tape") ∈ lw_all := lw_g (lw_at lw_m5 189 rfl) rfl
theorem q1208 : (Jvm.Cond.lays "PatentHallModel" "PatentHallModel" "taped" "I") ∈ lw_all := lw_g (lw_at lw_m5 190 rfl) rfl
theorem q1209 : (Jvm.Cond.soleField "PatentHallModel" "taped") ∈ lw_all := lw_g (lw_at lw_m5 191 rfl) rfl
theorem q1210 : (Jvm.Cond.lays "PatentHallModel" "PatentHallModel" "size" "I") ∈ lw_all := lw_g (lw_at lw_m5 192 rfl) rfl
theorem q1211 : (Jvm.Cond.soleField "PatentHallModel" "size") ∈ lw_all := lw_g (lw_at lw_m5 193 rfl) rfl
theorem q1212 : (Jvm.Cond.lays "PatentHallModel" "PatentHallModel" "at" "I") ∈ lw_all := lw_g (lw_at lw_m5 194 rfl) rfl
theorem q1213 : (Jvm.Cond.soleField "PatentHallModel" "at") ∈ lw_all := lw_g (lw_at lw_m5 195 rfl) rfl
theorem q1214 : (Jvm.Cond.lays "PatentHallModel" "PatentHallModel" "sort" "I") ∈ lw_all := lw_g (lw_at lw_m5 196 rfl) rfl
theorem q1215 : (Jvm.Cond.soleField "PatentHallModel" "sort") ∈ lw_all := lw_g (lw_at lw_m5 197 rfl) rfl
theorem q1216 : (Jvm.Cond.lays "PatentHallModel" "PatentHallModel" "place" "I") ∈ lw_all := lw_g (lw_at lw_m5 198 rfl) rfl
theorem q1217 : (Jvm.Cond.soleField "PatentHallModel" "place") ∈ lw_all := lw_g (lw_at lw_m5 199 rfl) rfl
theorem q1218 : (Jvm.Cond.lays "PatentHallModel" "PatentHallModel" "sign" "I") ∈ lw_all := lw_g (lw_at lw_m5 200 rfl) rfl
theorem q1219 : (Jvm.Cond.soleField "PatentHallModel" "sign") ∈ lw_all := lw_g (lw_at lw_m5 201 rfl) rfl
theorem q1220 : (Jvm.Cond.lays "PatentHallModel" "PatentHallModel" "letters" "J") ∈ lw_all := lw_g (lw_at lw_m5 202 rfl) rfl
theorem q1221 : (Jvm.Cond.soleField "PatentHallModel" "letters") ∈ lw_all := lw_g (lw_at lw_m5 203 rfl) rfl
theorem q1222 : (Jvm.Cond.laysFinal "PatentHallModel" "PatentHallModel" "goes" "[I") ∈ lw_all := lw_g (lw_at lw_m5 204 rfl) rfl
theorem q1223 : (Jvm.Cond.soleField "PatentHallModel" "goes") ∈ lw_all := lw_g (lw_at lw_m5 205 rfl) rfl
theorem q1224 : (Jvm.Cond.laysFinal "PatentHallModel" "PatentHallModel" "firstWay" "[I") ∈ lw_all := lw_g (lw_at lw_m5 206 rfl) rfl
theorem q1225 : (Jvm.Cond.soleField "PatentHallModel" "firstWay") ∈ lw_all := lw_g (lw_at lw_m5 207 rfl) rfl
theorem q1226 : (Jvm.Cond.lays "PatentHallModel" "PatentHallModel" "ways" "I") ∈ lw_all := lw_g (lw_at lw_m5 208 rfl) rfl
theorem q1227 : (Jvm.Cond.soleField "PatentHallModel" "ways") ∈ lw_all := lw_g (lw_at lw_m5 209 rfl) rfl
theorem q1228 : (Jvm.Cond.lays "PatentHallModel" "PatentHallModel" "wayParts" "I") ∈ lw_all := lw_g (lw_at lw_m5 210 rfl) rfl
theorem q1229 : (Jvm.Cond.soleField "PatentHallModel" "wayParts") ∈ lw_all := lw_g (lw_at lw_m5 211 rfl) rfl
theorem q1230 : (Jvm.Cond.laysFinal "PatentHallModel" "PatentHallModel" "told" "[I") ∈ lw_all := lw_g (lw_at lw_m5 212 rfl) rfl
theorem q1231 : (Jvm.Cond.soleField "PatentHallModel" "told") ∈ lw_all := lw_g (lw_at lw_m5 213 rfl) rfl
theorem q1232 : (Jvm.Cond.laysFinal "PatentHallModel" "PatentHallModel" "rest" "LPatentHallModel$Text;") ∈ lw_all := lw_g (lw_at lw_m5 214 rfl) rfl
theorem q1233 : (Jvm.Cond.soleField "PatentHallModel" "rest") ∈ lw_all := lw_g (lw_at lw_m5 215 rfl) rfl
theorem q1234 : (Jvm.Cond.laysFinal "PatentHallModel" "PatentHallModel" "one" "LPatentHallModel$Text;") ∈ lw_all := lw_g (lw_at lw_m5 216 rfl) rfl
theorem q1235 : (Jvm.Cond.soleField "PatentHallModel" "one") ∈ lw_all := lw_g (lw_at lw_m5 217 rfl) rfl
theorem q1236 : (Jvm.Cond.lays "PatentHallModel" "PatentHallModel" "leftBits" "I") ∈ lw_all := lw_g (lw_at lw_m5 218 rfl) rfl
theorem q1237 : (Jvm.Cond.soleField "PatentHallModel" "leftBits") ∈ lw_all := lw_g (lw_at lw_m5 219 rfl) rfl
theorem q1238 : (Jvm.Cond.laysFinal "PatentHallModel" "PatentHallModel" "fallen" "[I") ∈ lw_all := lw_g (lw_at lw_m5 220 rfl) rfl
theorem q1239 : (Jvm.Cond.soleField "PatentHallModel" "fallen") ∈ lw_all := lw_g (lw_at lw_m5 221 rfl) rfl
theorem q1240 : (Jvm.Cond.lays "PatentHallModel" "PatentHallModel" "falls" "I") ∈ lw_all := lw_g (lw_at lw_m5 222 rfl) rfl
theorem q1241 : (Jvm.Cond.soleField "PatentHallModel" "falls") ∈ lw_all := lw_g (lw_at lw_m5 223 rfl) rfl
theorem q1242 : (Jvm.Cond.superclass "PatentHallModel" "java/lang/Object") ∈ lw_all := lw_g (lw_at lw_m5 224 rfl) rfl
theorem q1244 : (Jvm.Cond.instanceMethod ({ cls := "PatentHallModel", name := "undo", desc := "()I" } : Jvm.MethodName)) ∈ lw_all := lw_g (lw_at lw_m5 226 rfl) rfl
theorem q1245 : (Jvm.Cond.selects "PatentHallModel" ({ cls := "PatentHallModel", name := "undo", desc := "()I" } : Jvm.MethodName) ({ cls := "PatentHallModel", name := "undo", desc := "()I" } : Jvm.MethodName)) ∈ lw_all := lw_g (lw_at lw_m5 227 rfl) rfl
theorem q1246 : (Jvm.Cond.code ({ cls := "PatentHallModel", name := "undo", desc := "()I" } : Jvm.MethodName) prog_22_method_9_code (2 : Nat) (Option.some Jvm.ClassFile.FieldType.int)) ∈ lw_all := lw_g (lw_at lw_m5 228 rfl) rfl
theorem q1248 : (Jvm.Cond.instanceMethod ({ cls := "PatentHallModel", name := "feed", desc := "(IIIII)I" } : Jvm.MethodName)) ∈ lw_all := lw_g (lw_at lw_m5 230 rfl) rfl
theorem q1249 : (Jvm.Cond.selects "PatentHallModel" ({ cls := "PatentHallModel", name := "feed", desc := "(IIIII)I" } : Jvm.MethodName) ({ cls := "PatentHallModel", name := "feed", desc := "(IIIII)I" } : Jvm.MethodName)) ∈ lw_all := lw_g (lw_at lw_m5 231 rfl) rfl
theorem q1250 : (Jvm.Cond.code ({ cls := "PatentHallModel", name := "feed", desc := "(IIIII)I" } : Jvm.MethodName) prog_22_method_26_code (8 : Nat) (Option.some Jvm.ClassFile.FieldType.int)) ∈ lw_all := lw_g (lw_at lw_m5 232 rfl) rfl
theorem q1252 : (Jvm.Cond.instanceMethod ({ cls := "PatentHallModel", name := "word", desc := "(II)I" } : Jvm.MethodName)) ∈ lw_all := lw_g (lw_at lw_m5 234 rfl) rfl
theorem q1253 : (Jvm.Cond.selects "PatentHallModel" ({ cls := "PatentHallModel", name := "word", desc := "(II)I" } : Jvm.MethodName) ({ cls := "PatentHallModel", name := "word", desc := "(II)I" } : Jvm.MethodName)) ∈ lw_all := lw_g (lw_at lw_m5 235 rfl) rfl
theorem q1254 : (Jvm.Cond.code ({ cls := "PatentHallModel", name := "word", desc := "(II)I" } : Jvm.MethodName) prog_22_method_28_code (6 : Nat) (Option.some Jvm.ClassFile.FieldType.int)) ∈ lw_all := lw_g (lw_at lw_m5 236 rfl) rfl
theorem q1255 : (Jvm.Cond.methodLink "PatentHallModel" (239 : Nat) ({ cls := "PatentHallModel", name := "refused", desc := "(I)I" } : Jvm.MethodName)) ∈ lw_all := lw_g (lw_at lw_m5 237 rfl) rfl
theorem q1256 : (Jvm.Cond.privateMethod ({ cls := "PatentHallModel", name := "refused", desc := "(I)I" } : Jvm.MethodName)) ∈ lw_tbl := lw_at lw_m5 238 rfl
theorem q1257 : (Jvm.Cond.instanceMethod ({ cls := "PatentHallModel", name := "refused", desc := "(I)I" } : Jvm.MethodName)) ∈ lw_all := lw_g (lw_at lw_m5 239 rfl) rfl
theorem q1258 : (Jvm.Cond.code ({ cls := "PatentHallModel", name := "refused", desc := "(I)I" } : Jvm.MethodName) prog_22_method_3_code (2 : Nat) (Option.some Jvm.ClassFile.FieldType.int)) ∈ lw_all := lw_g (lw_at lw_m6 0 rfl) rfl
theorem q1259 : (Jvm.Cond.methodLink "PatentHallModel" (242 : Nat) ({ cls := "PatentHallModel", name := "isTaped", desc := "(I)Z" } : Jvm.MethodName)) ∈ lw_all := lw_g (lw_at lw_m6 1 rfl) rfl
theorem q1260 : (Jvm.Cond.privateMethod ({ cls := "PatentHallModel", name := "isTaped", desc := "(I)Z" } : Jvm.MethodName)) ∈ lw_tbl := lw_at lw_m6 2 rfl
theorem q1261 : (Jvm.Cond.instanceMethod ({ cls := "PatentHallModel", name := "isTaped", desc := "(I)Z" } : Jvm.MethodName)) ∈ lw_all := lw_g (lw_at lw_m6 3 rfl) rfl
theorem q1262 : (Jvm.Cond.code ({ cls := "PatentHallModel", name := "isTaped", desc := "(I)Z" } : Jvm.MethodName) prog_22_method_27_code (2 : Nat) (Option.some Jvm.ClassFile.FieldType.boolean)) ∈ lw_all := lw_g (lw_at lw_m6 4 rfl) rfl
theorem q1263 : (Jvm.Cond.methodLink "PatentHallModel" (182 : Nat) ({ cls := "PatentHallModel", name := "starts", desc := "(I)V" } : Jvm.MethodName)) ∈ lw_all := lw_g (lw_at lw_m6 5 rfl) rfl
theorem q1264 : (Jvm.Cond.privateMethod ({ cls := "PatentHallModel", name := "starts", desc := "(I)V" } : Jvm.MethodName)) ∈ lw_tbl := lw_at lw_m6 6 rfl
theorem q1265 : (Jvm.Cond.instanceMethod ({ cls := "PatentHallModel", name := "starts", desc := "(I)V" } : Jvm.MethodName)) ∈ lw_all := lw_g (lw_at lw_m6 7 rfl) rfl
theorem q1266 : (Jvm.Cond.code ({ cls := "PatentHallModel", name := "starts", desc := "(I)V" } : Jvm.MethodName) prog_22_method_14_code (2 : Nat) (Option.none : Option Jvm.ClassFile.FieldType)) ∈ lw_all := lw_g (lw_at lw_m6 8 rfl) rfl
theorem q1267 : (Jvm.Cond.methodLink "PatentHallModel" (172 : Nat) ({ cls := "PatentHallModel", name := "next", desc := "()V" } : Jvm.MethodName)) ∈ lw_all := lw_g (lw_at lw_m6 9 rfl) rfl
theorem q1268 : (Jvm.Cond.privateMethod ({ cls := "PatentHallModel", name := "next", desc := "()V" } : Jvm.MethodName)) ∈ lw_tbl := lw_at lw_m6 10 rfl
theorem q1269 : (Jvm.Cond.instanceMethod ({ cls := "PatentHallModel", name := "next", desc := "()V" } : Jvm.MethodName)) ∈ lw_all := lw_g (lw_at lw_m6 11 rfl) rfl
theorem q1270 : (Jvm.Cond.code ({ cls := "PatentHallModel", name := "next", desc := "()V" } : Jvm.MethodName) prog_22_method_13_code (3 : Nat) (Option.none : Option Jvm.ClassFile.FieldType)) ∈ lw_all := lw_g (lw_at lw_m6 12 rfl) rfl
theorem q1271 : (Jvm.Cond.methodLink "PatentHallModel" (148 : Nat) ({ cls := "PatentHallModel", name := "byteAt", desc := "(I)I" } : Jvm.MethodName)) ∈ lw_all := lw_g (lw_at lw_m6 13 rfl) rfl
theorem q1272 : (Jvm.Cond.privateMethod ({ cls := "PatentHallModel", name := "byteAt", desc := "(I)I" } : Jvm.MethodName)) ∈ lw_tbl := lw_at lw_m6 14 rfl
theorem q1273 : (Jvm.Cond.instanceMethod ({ cls := "PatentHallModel", name := "byteAt", desc := "(I)I" } : Jvm.MethodName)) ∈ lw_all := lw_g (lw_at lw_m6 15 rfl) rfl
theorem q1274 : (Jvm.Cond.code ({ cls := "PatentHallModel", name := "byteAt", desc := "(I)I" } : Jvm.MethodName) prog_22_method_11_code (2 : Nat) (Option.some Jvm.ClassFile.FieldType.int)) ∈ lw_all := lw_g (lw_at lw_m6 16 rfl) rfl
theorem q1275 : (Jvm.Cond.methodLink "PatentHallModel" (159 : Nat) ({ cls := "PatentHallModel", name := "isLetter", desc := "(I)Z" } : Jvm.MethodName)) ∈ lw_all := lw_g (lw_at lw_m6 17 rfl) rfl
theorem q1276 : (Jvm.Cond.static ({ cls := "PatentHallModel", name := "isLetter", desc := "(I)Z" } : Jvm.MethodName)) ∈ lw_all := lw_g (lw_at lw_m6 18 rfl) rfl
theorem q1277 : (Jvm.Cond.code ({ cls := "PatentHallModel", name := "isLetter", desc := "(I)Z" } : Jvm.MethodName) prog_22_method_12_code (1 : Nat) (Option.some Jvm.ClassFile.FieldType.boolean)) ∈ lw_all := lw_g (lw_at lw_m6 19 rfl) rfl
theorem q1278 : (Jvm.Cond.constantLong "PatentHallModel" (167 : Nat) (32 : Int64)) ∈ lw_all := lw_g (lw_at lw_m6 20 rfl) rfl
theorem q1279 : (Jvm.Cond.methodLink "PatentHallModel" (178 : Nat) ({ cls := "PatentHallModel", name := "wordOf", desc := "(J)I" } : Jvm.MethodName)) ∈ lw_all := lw_g (lw_at lw_m6 21 rfl) rfl
theorem q1280 : (Jvm.Cond.privateMethod ({ cls := "PatentHallModel", name := "wordOf", desc := "(J)I" } : Jvm.MethodName)) ∈ lw_tbl := lw_at lw_m6 22 rfl
theorem q1281 : (Jvm.Cond.instanceMethod ({ cls := "PatentHallModel", name := "wordOf", desc := "(J)I" } : Jvm.MethodName)) ∈ lw_all := lw_g (lw_at lw_m6 23 rfl) rfl
theorem q1282 : (Jvm.Cond.code ({ cls := "PatentHallModel", name := "wordOf", desc := "(J)I" } : Jvm.MethodName) prog_22_method_16_code (4 : Nat) (Option.some Jvm.ClassFile.FieldType.int)) ∈ lw_all := lw_g (lw_at lw_m6 24 rfl) rfl
theorem q1283 : (Jvm.Cond.methodLink "PatentHallModel" (245 : Nat) ({ cls := "PatentHallModel", name := "act", desc := "(IILPatentHallModel$Text;)V" } : Jvm.MethodName)) ∈ lw_all := lw_g (lw_at lw_m6 25 rfl) rfl
theorem q1284 : (Jvm.Cond.privateMethod ({ cls := "PatentHallModel", name := "act", desc := "(IILPatentHallModel$Text;)V" } : Jvm.MethodName)) ∈ lw_tbl := lw_at lw_m6 26 rfl
theorem q1285 : (Jvm.Cond.instanceMethod ({ cls := "PatentHallModel", name := "act", desc := "(IILPatentHallModel$Text;)V" } : Jvm.MethodName)) ∈ lw_all := lw_g (lw_at lw_m6 27 rfl) rfl
theorem q1286 : (Jvm.Cond.code ({ cls := "PatentHallModel", name := "act", desc := "(IILPatentHallModel$Text;)V" } : Jvm.MethodName) prog_22_method_8_code (5 : Nat) (Option.none : Option Jvm.ClassFile.FieldType)) ∈ lw_all := lw_g (lw_at lw_m6 28 rfl) rfl
theorem q1287 : (Jvm.Cond.methodLink "PatentHallModel" (249 : Nat) ({ cls := "PatentHallModel", name := "done", desc := "(I)I" } : Jvm.MethodName)) ∈ lw_all := lw_g (lw_at lw_m6 29 rfl) rfl
theorem q1288 : (Jvm.Cond.privateMethod ({ cls := "PatentHallModel", name := "done", desc := "(I)I" } : Jvm.MethodName)) ∈ lw_tbl := lw_at lw_m6 30 rfl
theorem q1289 : (Jvm.Cond.instanceMethod ({ cls := "PatentHallModel", name := "done", desc := "(I)I" } : Jvm.MethodName)) ∈ lw_all := lw_g (lw_at lw_m6 31 rfl) rfl
theorem q1290 : (Jvm.Cond.code ({ cls := "PatentHallModel", name := "done", desc := "(I)I" } : Jvm.MethodName) prog_22_method_5_code (2 : Nat) (Option.some Jvm.ClassFile.FieldType.int)) ∈ lw_all := lw_g (lw_at lw_m6 32 rfl) rfl
theorem q1292 : (Jvm.Cond.instanceMethod ({ cls := "PatentHallModel", name := "under", desc := "(II)I" } : Jvm.MethodName)) ∈ lw_all := lw_g (lw_at lw_m6 34 rfl) rfl
theorem q1293 : (Jvm.Cond.selects "PatentHallModel" ({ cls := "PatentHallModel", name := "under", desc := "(II)I" } : Jvm.MethodName) ({ cls := "PatentHallModel", name := "under", desc := "(II)I" } : Jvm.MethodName)) ∈ lw_all := lw_g (lw_at lw_m6 35 rfl) rfl
theorem q1294 : (Jvm.Cond.code ({ cls := "PatentHallModel", name := "under", desc := "(II)I" } : Jvm.MethodName) prog_22_method_30_code (3 : Nat) (Option.some Jvm.ClassFile.FieldType.int)) ∈ lw_all := lw_g (lw_at lw_m6 36 rfl) rfl
theorem q1295 : (Jvm.Cond.methodLink "PatentHallModel" (252 : Nat) ({ cls := "PatentHallModel", name := "isWord", desc := "(I)Z" } : Jvm.MethodName)) ∈ lw_all := lw_g (lw_at lw_m6 37 rfl) rfl
theorem q1296 : (Jvm.Cond.privateMethod ({ cls := "PatentHallModel", name := "isWord", desc := "(I)Z" } : Jvm.MethodName)) ∈ lw_tbl := lw_at lw_m6 38 rfl
theorem q1297 : (Jvm.Cond.instanceMethod ({ cls := "PatentHallModel", name := "isWord", desc := "(I)Z" } : Jvm.MethodName)) ∈ lw_all := lw_g (lw_at lw_m6 39 rfl) rfl
theorem q1298 : (Jvm.Cond.code ({ cls := "PatentHallModel", name := "isWord", desc := "(I)Z" } : Jvm.MethodName) prog_22_method_29_code (2 : Nat) (Option.some Jvm.ClassFile.FieldType.boolean)) ∈ lw_all := lw_g (lw_at lw_m6 40 rfl) rfl
theorem q1299 : (Jvm.Cond.methodLink "PatentHallModel" (223 : Nat) ({ cls := "PatentHallModel", name := "isUnder", desc := "(II)Z" } : Jvm.MethodName)) ∈ lw_all := lw_g (lw_at lw_m6 41 rfl) rfl
theorem q1300 : (Jvm.Cond.privateMethod ({ cls := "PatentHallModel", name := "isUnder", desc := "(II)Z" } : Jvm.MethodName)) ∈ lw_tbl := lw_at lw_m6 42 rfl
theorem q1301 : (Jvm.Cond.instanceMethod ({ cls := "PatentHallModel", name := "isUnder", desc := "(II)Z" } : Jvm.MethodName)) ∈ lw_all := lw_g (lw_at lw_m6 43 rfl) rfl
theorem q1302 : (Jvm.Cond.code ({ cls := "PatentHallModel", name := "isUnder", desc := "(II)Z" } : Jvm.MethodName) prog_22_method_20_code (4 : Nat) (Option.some Jvm.ClassFile.FieldType.boolean)) ∈ lw_all := lw_g (lw_at lw_m6 44 rfl) rfl
theorem q1304 : (Jvm.Cond.instanceMethod ({ cls := "PatentHallModel", name := "pass", desc := "(I)I" } : Jvm.MethodName)) ∈ lw_all := lw_g (lw_at lw_m6 46 rfl) rfl
theorem q1305 : (Jvm.Cond.selects "PatentHallModel" ({ cls := "PatentHallModel", name := "pass", desc := "(I)I" } : Jvm.MethodName) ({ cls := "PatentHallModel", name := "pass", desc := "(I)I" } : Jvm.MethodName)) ∈ lw_all := lw_g (lw_at lw_m6 47 rfl) rfl
theorem q1306 : (Jvm.Cond.code ({ cls := "PatentHallModel", name := "pass", desc := "(I)I" } : Jvm.MethodName) prog_22_method_31_code (2 : Nat) (Option.some Jvm.ClassFile.FieldType.int)) ∈ lw_all := lw_g (lw_at lw_m6 48 rfl) rfl
theorem q1307 : (Jvm.Cond.methodLink "PatentHallModel" (255 : Nat) ({ cls := "PatentHallModel", name := "in", desc := "(III)Z" } : Jvm.MethodName)) ∈ lw_all := lw_g (lw_at lw_m6 49 rfl) rfl
theorem q1308 : (Jvm.Cond.static ({ cls := "PatentHallModel", name := "in", desc := "(III)Z" } : Jvm.MethodName)) ∈ lw_all := lw_g (lw_at lw_m6 50 rfl) rfl
theorem q1309 : (Jvm.Cond.code ({ cls := "PatentHallModel", name := "in", desc := "(III)Z" } : Jvm.MethodName) prog_22_method_7_code (3 : Nat) (Option.some Jvm.ClassFile.FieldType.boolean)) ∈ lw_all := lw_g (lw_at lw_m6 51 rfl) rfl
theorem q1311 : (Jvm.Cond.instanceMethod ({ cls := "PatentHallModel", name := "paper", desc := "(II)I" } : Jvm.MethodName)) ∈ lw_all := lw_g (lw_at lw_m6 53 rfl) rfl
theorem q1312 : (Jvm.Cond.selects "PatentHallModel" ({ cls := "PatentHallModel", name := "paper", desc := "(II)I" } : Jvm.MethodName) ({ cls := "PatentHallModel", name := "paper", desc := "(II)I" } : Jvm.MethodName)) ∈ lw_all := lw_g (lw_at lw_m6 54 rfl) rfl
theorem q1313 : (Jvm.Cond.codeWith ({ cls := "PatentHallModel", name := "paper", desc := "(II)I" } : Jvm.MethodName) prog_22_method_32_code (5 : Nat) (Option.some Jvm.ClassFile.FieldType.int) [((44 : Nat), (54 : Nat), (57 : Nat), (75 : Nat))]) ∈ lw_all := lw_g (lw_at lw_m6 55 rfl) rfl
theorem q1314 : (Jvm.Cond.methodLink "PatentHallModel" (259 : Nat) ({ cls := "PatentHallModel", name := "reads", desc := "(LPatentHallModel$Text;III)V" } : Jvm.MethodName)) ∈ lw_all := lw_g (lw_at lw_m6 56 rfl) rfl
theorem q1315 : (Jvm.Cond.privateMethod ({ cls := "PatentHallModel", name := "reads", desc := "(LPatentHallModel$Text;III)V" } : Jvm.MethodName)) ∈ lw_tbl := lw_at lw_m6 57 rfl
theorem q1316 : (Jvm.Cond.instanceMethod ({ cls := "PatentHallModel", name := "reads", desc := "(LPatentHallModel$Text;III)V" } : Jvm.MethodName)) ∈ lw_all := lw_g (lw_at lw_m6 58 rfl) rfl
theorem q1317 : (Jvm.Cond.code ({ cls := "PatentHallModel", name := "reads", desc := "(LPatentHallModel$Text;III)V" } : Jvm.MethodName) prog_22_method_18_code (14 : Nat) (Option.none : Option Jvm.ClassFile.FieldType)) ∈ lw_all := lw_g (lw_at lw_m6 59 rfl) rfl
theorem q1318 : (Jvm.Cond.methodLink "PatentHallModel" (175 : Nat) ({ cls := "PatentHallModel", name := "stop", desc := "(II)LPatentHallModel$Stop;" } : Jvm.MethodName)) ∈ lw_all := lw_g (lw_at lw_m6 60 rfl) rfl
theorem q1319 : (Jvm.Cond.privateMethod ({ cls := "PatentHallModel", name := "stop", desc := "(II)LPatentHallModel$Stop;" } : Jvm.MethodName)) ∈ lw_tbl := lw_at lw_m6 61 rfl
theorem q1320 : (Jvm.Cond.instanceMethod ({ cls := "PatentHallModel", name := "stop", desc := "(II)LPatentHallModel$Stop;" } : Jvm.MethodName)) ∈ lw_all := lw_g (lw_at lw_m6 62 rfl) rfl
theorem q1321 : (Jvm.Cond.code ({ cls := "PatentHallModel", name := "stop", desc := "(II)LPatentHallModel$Stop;" } : Jvm.MethodName) prog_22_method_10_code (3 : Nat) (Option.some (Jvm.ClassFile.FieldType.object "PatentHallModel$Stop"))) ∈ lw_all := lw_g (lw_at lw_m6 63 rfl) rfl
theorem q1322 : (Jvm.Cond.methodLink "PatentHallModel" (186 : Nat) ({ cls := "PatentHallModel", name := "is", desc := "(I)Z" } : Jvm.MethodName)) ∈ lw_all := lw_g (lw_at lw_m6 64 rfl) rfl
theorem q1323 : (Jvm.Cond.privateMethod ({ cls := "PatentHallModel", name := "is", desc := "(I)Z" } : Jvm.MethodName)) ∈ lw_tbl := lw_at lw_m6 65 rfl
theorem q1324 : (Jvm.Cond.instanceMethod ({ cls := "PatentHallModel", name := "is", desc := "(I)Z" } : Jvm.MethodName)) ∈ lw_all := lw_g (lw_at lw_m6 66 rfl) rfl
theorem q1325 : (Jvm.Cond.code ({ cls := "PatentHallModel", name := "is", desc := "(I)Z" } : Jvm.MethodName) prog_22_method_15_code (2 : Nat) (Option.some Jvm.ClassFile.FieldType.boolean)) ∈ lw_all := lw_g (lw_at lw_m6 67 rfl) rfl
theorem q1326 : (Jvm.Cond.methodLink "PatentHallModel" (189 : Nat) ({ cls := "PatentHallModel$Text", name := "find", desc := "(J)I" } : Jvm.MethodName)) ∈ lw_all := lw_g (lw_at lw_m6 68 rfl) rfl
theorem q1330 : (Jvm.Cond.methodLink "PatentHallModel" (192 : Nat) ({ cls := "PatentHallModel", name := "wordHere", desc := "()I" } : Jvm.MethodName)) ∈ lw_all := lw_g (lw_at lw_m6 72 rfl) rfl
theorem q1331 : (Jvm.Cond.privateMethod ({ cls := "PatentHallModel", name := "wordHere", desc := "()I" } : Jvm.MethodName)) ∈ lw_tbl := lw_at lw_m6 73 rfl
theorem q1332 : (Jvm.Cond.instanceMethod ({ cls := "PatentHallModel", name := "wordHere", desc := "()I" } : Jvm.MethodName)) ∈ lw_all := lw_g (lw_at lw_m6 74 rfl) rfl
theorem q1333 : (Jvm.Cond.code ({ cls := "PatentHallModel", name := "wordHere", desc := "()I" } : Jvm.MethodName) prog_22_method_17_code (2 : Nat) (Option.some Jvm.ClassFile.FieldType.int)) ∈ lw_all := lw_g (lw_at lw_m6 75 rfl) rfl
theorem q1334 : (Jvm.Cond.methodLink "PatentHallModel" (263 : Nat) ({ cls := "PatentHallModel", name := "wrong", desc := "(LPatentHallModel$Stop;)I" } : Jvm.MethodName)) ∈ lw_all := lw_g (lw_at lw_m6 76 rfl) rfl
theorem q1335 : (Jvm.Cond.privateMethod ({ cls := "PatentHallModel", name := "wrong", desc := "(LPatentHallModel$Stop;)I" } : Jvm.MethodName)) ∈ lw_tbl := lw_at lw_m6 77 rfl
theorem q1336 : (Jvm.Cond.instanceMethod ({ cls := "PatentHallModel", name := "wrong", desc := "(LPatentHallModel$Stop;)I" } : Jvm.MethodName)) ∈ lw_all := lw_g (lw_at lw_m6 78 rfl) rfl
theorem q1337 : (Jvm.Cond.code ({ cls := "PatentHallModel", name := "wrong", desc := "(LPatentHallModel$Stop;)I" } : Jvm.MethodName) prog_22_method_19_code (2 : Nat) (Option.some Jvm.ClassFile.FieldType.int)) ∈ lw_all := lw_g (lw_at lw_m6 79 rfl) rfl
theorem q1339 : (Jvm.Cond.instanceMethod ({ cls := "PatentHallModel", name := "thing", desc := "(I)I" } : Jvm.MethodName)) ∈ lw_all := lw_g (lw_at lw_m6 81 rfl) rfl
theorem q1340 : (Jvm.Cond.selects "PatentHallModel" ({ cls := "PatentHallModel", name := "thing", desc := "(I)I" } : Jvm.MethodName) ({ cls := "PatentHallModel", name := "thing", desc := "(I)I" } : Jvm.MethodName)) ∈ lw_all := lw_g (lw_at lw_m6 82 rfl) rfl
theorem q1341 : (Jvm.Cond.codeWith ({ cls := "PatentHallModel", name := "thing", desc := "(I)I" } : Jvm.MethodName) prog_22_method_33_code (4 : Nat) (Option.some Jvm.ClassFile.FieldType.int) [((32 : Nat), (42 : Nat), (45 : Nat), (75 : Nat))]) ∈ lw_all := lw_g (lw_at lw_m6 83 rfl) rfl
theorem q1343 : (Jvm.Cond.instanceMethod ({ cls := "PatentHallModel", name := "file", desc := "(II)I" } : Jvm.MethodName)) ∈ lw_all := lw_g (lw_at lw_m6 85 rfl) rfl
theorem q1344 : (Jvm.Cond.selects "PatentHallModel" ({ cls := "PatentHallModel", name := "file", desc := "(II)I" } : Jvm.MethodName) ({ cls := "PatentHallModel", name := "file", desc := "(II)I" } : Jvm.MethodName)) ∈ lw_all := lw_g (lw_at lw_m6 86 rfl) rfl
theorem q1345 : (Jvm.Cond.codeWith ({ cls := "PatentHallModel", name := "file", desc := "(II)I" } : Jvm.MethodName) prog_22_method_36_code (5 : Nat) (Option.some Jvm.ClassFile.FieldType.int) [((51 : Nat), (61 : Nat), (64 : Nat), (75 : Nat))]) ∈ lw_all := lw_g (lw_at lw_m6 87 rfl) rfl
theorem q1346 : (Jvm.Cond.methodLink "PatentHallModel" (267 : Nat) ({ cls := "PatentHallModel", name := "isFile", desc := "(I)Z" } : Jvm.MethodName)) ∈ lw_all := lw_g (lw_at lw_m6 88 rfl) rfl
theorem q1347 : (Jvm.Cond.privateMethod ({ cls := "PatentHallModel", name := "isFile", desc := "(I)Z" } : Jvm.MethodName)) ∈ lw_tbl := lw_at lw_m6 89 rfl
theorem q1348 : (Jvm.Cond.instanceMethod ({ cls := "PatentHallModel", name := "isFile", desc := "(I)Z" } : Jvm.MethodName)) ∈ lw_all := lw_g (lw_at lw_m6 90 rfl) rfl
theorem q1349 : (Jvm.Cond.code ({ cls := "PatentHallModel", name := "isFile", desc := "(I)Z" } : Jvm.MethodName) prog_22_method_34_code (2 : Nat) (Option.some Jvm.ClassFile.FieldType.boolean)) ∈ lw_all := lw_g (lw_at lw_m6 91 rfl) rfl
theorem q1351 : (Jvm.Cond.instanceMethod ({ cls := "PatentHallModel", name := "claim", desc := "(III)I" } : Jvm.MethodName)) ∈ lw_all := lw_g (lw_at lw_m6 93 rfl) rfl
theorem q1352 : (Jvm.Cond.selects "PatentHallModel" ({ cls := "PatentHallModel", name := "claim", desc := "(III)I" } : Jvm.MethodName) ({ cls := "PatentHallModel", name := "claim", desc := "(III)I" } : Jvm.MethodName)) ∈ lw_all := lw_g (lw_at lw_m6 94 rfl) rfl
theorem q1353 : (Jvm.Cond.codeWith ({ cls := "PatentHallModel", name := "claim", desc := "(III)I" } : Jvm.MethodName) prog_22_method_37_code (6 : Nat) (Option.some Jvm.ClassFile.FieldType.int) [((86 : Nat), (97 : Nat), (100 : Nat), (75 : Nat))]) ∈ lw_all := lw_g (lw_at lw_m6 95 rfl) rfl
theorem q1354 : (Jvm.Cond.methodLink "PatentHallModel" (270 : Nat) ({ cls := "PatentHallModel", name := "isClaim", desc := "(I)Z" } : Jvm.MethodName)) ∈ lw_all := lw_g (lw_at lw_m6 96 rfl) rfl
theorem q1355 : (Jvm.Cond.privateMethod ({ cls := "PatentHallModel", name := "isClaim", desc := "(I)Z" } : Jvm.MethodName)) ∈ lw_tbl := lw_at lw_m6 97 rfl
theorem q1356 : (Jvm.Cond.instanceMethod ({ cls := "PatentHallModel", name := "isClaim", desc := "(I)Z" } : Jvm.MethodName)) ∈ lw_all := lw_g (lw_at lw_m6 98 rfl) rfl
theorem q1357 : (Jvm.Cond.code ({ cls := "PatentHallModel", name := "isClaim", desc := "(I)Z" } : Jvm.MethodName) prog_22_method_35_code (2 : Nat) (Option.some Jvm.ClassFile.FieldType.boolean)) ∈ lw_all := lw_g (lw_at lw_m6 99 rfl) rfl
theorem q1358 : (Jvm.Cond.methodLink "PatentHallModel" (273 : Nat) ({ cls := "PatentHallModel$Text", name := "become", desc := "(LPatentHallModel$Text;)V" } : Jvm.MethodName)) ∈ lw_all := lw_g (lw_at lw_m6 100 rfl) rfl
theorem q1362 : (Jvm.Cond.methodLink "PatentHallModel" (277 : Nat) ({ cls := "PatentHallModel", name := "discloses", desc := "(LPatentHallModel$Text;LPatentHallModel$Text;)Z" } : Jvm.MethodName)) ∈ lw_all := lw_g (lw_at lw_m6 104 rfl) rfl
theorem q1363 : (Jvm.Cond.privateMethod ({ cls := "PatentHallModel", name := "discloses", desc := "(LPatentHallModel$Text;LPatentHallModel$Text;)Z" } : Jvm.MethodName)) ∈ lw_tbl := lw_at lw_m6 105 rfl
theorem q1364 : (Jvm.Cond.instanceMethod ({ cls := "PatentHallModel", name := "discloses", desc := "(LPatentHallModel$Text;LPatentHallModel$Text;)Z" } : Jvm.MethodName)) ∈ lw_all := lw_g (lw_at lw_m6 106 rfl) rfl
theorem q1365 : (Jvm.Cond.code ({ cls := "PatentHallModel", name := "discloses", desc := "(LPatentHallModel$Text;LPatentHallModel$Text;)Z" } : Jvm.MethodName) prog_22_method_24_code (3 : Nat) (Option.some Jvm.ClassFile.FieldType.boolean)) ∈ lw_all := lw_g (lw_at lw_m6 107 rfl) rfl
theorem q1366 : (Jvm.Cond.methodLink "PatentHallModel" (235 : Nat) ({ cls := "PatentHallModel", name := "waysOf", desc := "(LPatentHallModel$Text;LPatentHallModel$Text;I)I" } : Jvm.MethodName)) ∈ lw_all := lw_g (lw_at lw_m6 108 rfl) rfl
theorem q1367 : (Jvm.Cond.privateMethod ({ cls := "PatentHallModel", name := "waysOf", desc := "(LPatentHallModel$Text;LPatentHallModel$Text;I)I" } : Jvm.MethodName)) ∈ lw_tbl := lw_at lw_m6 109 rfl
theorem q1368 : (Jvm.Cond.instanceMethod ({ cls := "PatentHallModel", name := "waysOf", desc := "(LPatentHallModel$Text;LPatentHallModel$Text;I)I" } : Jvm.MethodName)) ∈ lw_all := lw_g (lw_at lw_m6 110 rfl) rfl
theorem q1369 : (Jvm.Cond.code ({ cls := "PatentHallModel", name := "waysOf", desc := "(LPatentHallModel$Text;LPatentHallModel$Text;I)I" } : Jvm.MethodName) prog_22_method_23_code (4 : Nat) (Option.some Jvm.ClassFile.FieldType.int)) ∈ lw_all := lw_g (lw_at lw_m6 111 rfl) rfl
theorem q1370 : (Jvm.Cond.methodLink "PatentHallModel" (231 : Nat) ({ cls := "PatentHallModel", name := "put", desc := "(LPatentHallModel$Text;LPatentHallModel$Text;III)V" } : Jvm.MethodName)) ∈ lw_all := lw_g (lw_at lw_m6 112 rfl) rfl
theorem q1371 : (Jvm.Cond.privateMethod ({ cls := "PatentHallModel", name := "put", desc := "(LPatentHallModel$Text;LPatentHallModel$Text;III)V" } : Jvm.MethodName)) ∈ lw_tbl := lw_at lw_m6 113 rfl
theorem q1372 : (Jvm.Cond.instanceMethod ({ cls := "PatentHallModel", name := "put", desc := "(LPatentHallModel$Text;LPatentHallModel$Text;III)V" } : Jvm.MethodName)) ∈ lw_all := lw_g (lw_at lw_m6 114 rfl) rfl
theorem q1373 : (Jvm.Cond.code ({ cls := "PatentHallModel", name := "put", desc := "(LPatentHallModel$Text;LPatentHallModel$Text;III)V" } : Jvm.MethodName) prog_22_method_21_code (7 : Nat) (Option.none : Option Jvm.ClassFile.FieldType)) ∈ lw_all := lw_g (lw_at lw_m6 115 rfl) rfl
theorem q1374 : (Jvm.Cond.methodLink "PatentHallModel" (227 : Nat) ({ cls := "PatentHallModel", name := "isLinked", desc := "(LPatentHallModel$Text;LPatentHallModel$Text;I)Z" } : Jvm.MethodName)) ∈ lw_all := lw_g (lw_at lw_m6 116 rfl) rfl
theorem q1375 : (Jvm.Cond.privateMethod ({ cls := "PatentHallModel", name := "isLinked", desc := "(LPatentHallModel$Text;LPatentHallModel$Text;I)Z" } : Jvm.MethodName)) ∈ lw_tbl := lw_at lw_m6 117 rfl
theorem q1376 : (Jvm.Cond.instanceMethod ({ cls := "PatentHallModel", name := "isLinked", desc := "(LPatentHallModel$Text;LPatentHallModel$Text;I)Z" } : Jvm.MethodName)) ∈ lw_all := lw_g (lw_at lw_m6 118 rfl) rfl
theorem q1377 : (Jvm.Cond.code ({ cls := "PatentHallModel", name := "isLinked", desc := "(LPatentHallModel$Text;LPatentHallModel$Text;I)Z" } : Jvm.MethodName) prog_22_method_22_code (10 : Nat) (Option.some Jvm.ClassFile.FieldType.boolean)) ∈ lw_all := lw_g (lw_at lw_m6 119 rfl) rfl
theorem q1379 : (Jvm.Cond.instanceMethod ({ cls := "PatentHallModel", name := "amend", desc := "(II)Z" } : Jvm.MethodName)) ∈ lw_all := lw_g (lw_at lw_m6 121 rfl) rfl
theorem q1380 : (Jvm.Cond.selects "PatentHallModel" ({ cls := "PatentHallModel", name := "amend", desc := "(II)Z" } : Jvm.MethodName) ({ cls := "PatentHallModel", name := "amend", desc := "(II)Z" } : Jvm.MethodName)) ∈ lw_all := lw_g (lw_at lw_m6 122 rfl) rfl
theorem q1381 : (Jvm.Cond.codeWith ({ cls := "PatentHallModel", name := "amend", desc := "(II)Z" } : Jvm.MethodName) prog_22_method_38_code (7 : Nat) (Option.some Jvm.ClassFile.FieldType.boolean) [((142 : Nat), (153 : Nat), (156 : Nat), (75 : Nat))]) ∈ lw_all := lw_g (lw_at lw_m6 123 rfl) rfl
theorem q1382 : (Jvm.Cond.methodLink "PatentHallModel" (281 : Nat) ({ cls := "PatentHallModel", name := "denied", desc := "(I)Z" } : Jvm.MethodName)) ∈ lw_all := lw_g (lw_at lw_m6 124 rfl) rfl
theorem q1383 : (Jvm.Cond.privateMethod ({ cls := "PatentHallModel", name := "denied", desc := "(I)Z" } : Jvm.MethodName)) ∈ lw_tbl := lw_at lw_m6 125 rfl
theorem q1384 : (Jvm.Cond.instanceMethod ({ cls := "PatentHallModel", name := "denied", desc := "(I)Z" } : Jvm.MethodName)) ∈ lw_all := lw_g (lw_at lw_m6 126 rfl) rfl
theorem q1385 : (Jvm.Cond.code ({ cls := "PatentHallModel", name := "denied", desc := "(I)Z" } : Jvm.MethodName) prog_22_method_4_code (2 : Nat) (Option.some Jvm.ClassFile.FieldType.boolean)) ∈ lw_all := lw_g (lw_at lw_m6 127 rfl) rfl
theorem q1386 : (Jvm.Cond.methodLink "PatentHallModel" (284 : Nat) ({ cls := "PatentHallModel", name := "granted", desc := "()Z" } : Jvm.MethodName)) ∈ lw_all := lw_g (lw_at lw_m6 128 rfl) rfl
theorem q1387 : (Jvm.Cond.privateMethod ({ cls := "PatentHallModel", name := "granted", desc := "()Z" } : Jvm.MethodName)) ∈ lw_tbl := lw_at lw_m6 129 rfl
theorem q1388 : (Jvm.Cond.instanceMethod ({ cls := "PatentHallModel", name := "granted", desc := "()Z" } : Jvm.MethodName)) ∈ lw_all := lw_g (lw_at lw_m6 130 rfl) rfl
theorem q1389 : (Jvm.Cond.code ({ cls := "PatentHallModel", name := "granted", desc := "()Z" } : Jvm.MethodName) prog_22_method_6_code (1 : Nat) (Option.some Jvm.ClassFile.FieldType.boolean)) ∈ lw_all := lw_g (lw_at lw_m6 131 rfl) rfl
theorem q1391 : (Jvm.Cond.instanceMethod ({ cls := "PatentHallModel", name := "fault", desc := "()I" } : Jvm.MethodName)) ∈ lw_all := lw_g (lw_at lw_m6 133 rfl) rfl
theorem q1392 : (Jvm.Cond.selects "PatentHallModel" ({ cls := "PatentHallModel", name := "fault", desc := "()I" } : Jvm.MethodName) ({ cls := "PatentHallModel", name := "fault", desc := "()I" } : Jvm.MethodName)) ∈ lw_all := lw_g (lw_at lw_m6 134 rfl) rfl
theorem q1393 : (Jvm.Cond.code ({ cls := "PatentHallModel", name := "fault", desc := "()I" } : Jvm.MethodName) prog_22_method_39_code (1 : Nat) (Option.some Jvm.ClassFile.FieldType.int)) ∈ lw_all := lw_g (lw_at lw_m6 135 rfl) rfl
theorem q1395 : (Jvm.Cond.instanceMethod ({ cls := "PatentHallModel", name := "where", desc := "()I" } : Jvm.MethodName)) ∈ lw_all := lw_g (lw_at lw_m6 137 rfl) rfl
theorem q1396 : (Jvm.Cond.selects "PatentHallModel" ({ cls := "PatentHallModel", name := "where", desc := "()I" } : Jvm.MethodName) ({ cls := "PatentHallModel", name := "where", desc := "()I" } : Jvm.MethodName)) ∈ lw_all := lw_g (lw_at lw_m6 138 rfl) rfl
theorem q1397 : (Jvm.Cond.code ({ cls := "PatentHallModel", name := "where", desc := "()I" } : Jvm.MethodName) prog_22_method_40_code (1 : Nat) (Option.some Jvm.ClassFile.FieldType.int)) ∈ lw_all := lw_g (lw_at lw_m6 139 rfl) rfl
theorem q1399 : (Jvm.Cond.instanceMethod ({ cls := "PatentHallModel", name := "grant", desc := "(I)Z" } : Jvm.MethodName)) ∈ lw_all := lw_g (lw_at lw_m6 141 rfl) rfl
theorem q1400 : (Jvm.Cond.selects "PatentHallModel" ({ cls := "PatentHallModel", name := "grant", desc := "(I)Z" } : Jvm.MethodName) ({ cls := "PatentHallModel", name := "grant", desc := "(I)Z" } : Jvm.MethodName)) ∈ lw_all := lw_g (lw_at lw_m6 142 rfl) rfl
theorem q1401 : (Jvm.Cond.code ({ cls := "PatentHallModel", name := "grant", desc := "(I)Z" } : Jvm.MethodName) prog_22_method_41_code (2 : Nat) (Option.some Jvm.ClassFile.FieldType.boolean)) ∈ lw_all := lw_g (lw_at lw_m6 143 rfl) rfl
theorem q1403 : (Jvm.Cond.instanceMethod ({ cls := "PatentHallModel", name := "drop", desc := "(I)Z" } : Jvm.MethodName)) ∈ lw_all := lw_g (lw_at lw_m6 145 rfl) rfl
theorem q1404 : (Jvm.Cond.selects "PatentHallModel" ({ cls := "PatentHallModel", name := "drop", desc := "(I)Z" } : Jvm.MethodName) ({ cls := "PatentHallModel", name := "drop", desc := "(I)Z" } : Jvm.MethodName)) ∈ lw_all := lw_g (lw_at lw_m6 146 rfl) rfl
theorem q1405 : (Jvm.Cond.code ({ cls := "PatentHallModel", name := "drop", desc := "(I)Z" } : Jvm.MethodName) prog_22_method_42_code (2 : Nat) (Option.some Jvm.ClassFile.FieldType.boolean)) ∈ lw_all := lw_g (lw_at lw_m6 147 rfl) rfl
theorem q1407 : (Jvm.Cond.instanceMethod ({ cls := "PatentHallModel", name := "about", desc := "(II)I" } : Jvm.MethodName)) ∈ lw_all := lw_g (lw_at lw_m6 149 rfl) rfl
theorem q1408 : (Jvm.Cond.selects "PatentHallModel" ({ cls := "PatentHallModel", name := "about", desc := "(II)I" } : Jvm.MethodName) ({ cls := "PatentHallModel", name := "about", desc := "(II)I" } : Jvm.MethodName)) ∈ lw_all := lw_g (lw_at lw_m6 150 rfl) rfl
theorem q1409 : (Jvm.Cond.code ({ cls := "PatentHallModel", name := "about", desc := "(II)I" } : Jvm.MethodName) prog_22_method_45_code (3 : Nat) (Option.some Jvm.ClassFile.FieldType.int)) ∈ lw_all := lw_g (lw_at lw_m6 151 rfl) rfl
theorem q1410 : (Jvm.Cond.methodLink "PatentHallModel" (294 : Nat) ({ cls := "PatentHallModel", name := "dayOf", desc := "(I)I" } : Jvm.MethodName)) ∈ lw_all := lw_g (lw_at lw_m6 152 rfl) rfl
theorem q1411 : (Jvm.Cond.privateMethod ({ cls := "PatentHallModel", name := "dayOf", desc := "(I)I" } : Jvm.MethodName)) ∈ lw_tbl := lw_at lw_m6 153 rfl
theorem q1412 : (Jvm.Cond.instanceMethod ({ cls := "PatentHallModel", name := "dayOf", desc := "(I)I" } : Jvm.MethodName)) ∈ lw_all := lw_g (lw_at lw_m6 154 rfl) rfl
theorem q1413 : (Jvm.Cond.code ({ cls := "PatentHallModel", name := "dayOf", desc := "(I)I" } : Jvm.MethodName) prog_22_method_43_code (3 : Nat) (Option.some Jvm.ClassFile.FieldType.int)) ∈ lw_all := lw_g (lw_at lw_m6 155 rfl) rfl
theorem q1414 : (Jvm.Cond.methodLink "PatentHallModel" (297 : Nat) ({ cls := "PatentHallModel", name := "endOf", desc := "(II)I" } : Jvm.MethodName)) ∈ lw_all := lw_g (lw_at lw_m6 156 rfl) rfl
theorem q1415 : (Jvm.Cond.privateMethod ({ cls := "PatentHallModel", name := "endOf", desc := "(II)I" } : Jvm.MethodName)) ∈ lw_tbl := lw_at lw_m6 157 rfl
theorem q1416 : (Jvm.Cond.instanceMethod ({ cls := "PatentHallModel", name := "endOf", desc := "(II)I" } : Jvm.MethodName)) ∈ lw_all := lw_g (lw_at lw_m6 158 rfl) rfl
theorem q1417 : (Jvm.Cond.code ({ cls := "PatentHallModel", name := "endOf", desc := "(II)I" } : Jvm.MethodName) prog_22_method_44_code (4 : Nat) (Option.some Jvm.ClassFile.FieldType.int)) ∈ lw_all := lw_g (lw_at lw_m6 159 rfl) rfl
theorem q1418 : (Jvm.Cond.methodLink "PatentHallModel" (288 : Nat) ({ cls := "java/lang/Math", name := "min", desc := "(II)I" } : Jvm.MethodName)) ∈ lw_all := lw_g (lw_at lw_m6 160 rfl) rfl
theorem q1420 : (Jvm.Cond.instanceMethod ({ cls := "PatentHallModel", name := "finds", desc := "(III)I" } : Jvm.MethodName)) ∈ lw_all := lw_g (lw_at lw_m6 162 rfl) rfl
theorem q1421 : (Jvm.Cond.selects "PatentHallModel" ({ cls := "PatentHallModel", name := "finds", desc := "(III)I" } : Jvm.MethodName) ({ cls := "PatentHallModel", name := "finds", desc := "(III)I" } : Jvm.MethodName)) ∈ lw_all := lw_g (lw_at lw_m6 163 rfl) rfl
theorem q1422 : (Jvm.Cond.code ({ cls := "PatentHallModel", name := "finds", desc := "(III)I" } : Jvm.MethodName) prog_22_method_46_code (7 : Nat) (Option.some Jvm.ClassFile.FieldType.int)) ∈ lw_all := lw_g (lw_at lw_m6 164 rfl) rfl
theorem q1423 : (Jvm.Cond.constant "PatentHallModel" (302 : Nat) (2147483647 : Int32)) ∈ lw_all := lw_g (lw_at lw_m6 165 rfl) rfl
theorem q1425 : (Jvm.Cond.instanceMethod ({ cls := "PatentHallModel", name := "part", desc := "(I)I" } : Jvm.MethodName)) ∈ lw_all := lw_g (lw_at lw_m6 167 rfl) rfl
theorem q1426 : (Jvm.Cond.selects "PatentHallModel" ({ cls := "PatentHallModel", name := "part", desc := "(I)I" } : Jvm.MethodName) ({ cls := "PatentHallModel", name := "part", desc := "(I)I" } : Jvm.MethodName)) ∈ lw_all := lw_g (lw_at lw_m6 168 rfl) rfl
theorem q1427 : (Jvm.Cond.code ({ cls := "PatentHallModel", name := "part", desc := "(I)I" } : Jvm.MethodName) prog_22_method_47_code (2 : Nat) (Option.some Jvm.ClassFile.FieldType.int)) ∈ lw_all := lw_g (lw_at lw_m6 169 rfl) rfl
theorem q1429 : (Jvm.Cond.instanceMethod ({ cls := "PatentHallModel", name := "old", desc := "(II)I" } : Jvm.MethodName)) ∈ lw_all := lw_g (lw_at lw_m6 171 rfl) rfl
theorem q1430 : (Jvm.Cond.selects "PatentHallModel" ({ cls := "PatentHallModel", name := "old", desc := "(II)I" } : Jvm.MethodName) ({ cls := "PatentHallModel", name := "old", desc := "(II)I" } : Jvm.MethodName)) ∈ lw_all := lw_g (lw_at lw_m6 172 rfl) rfl
theorem q1431 : (Jvm.Cond.code ({ cls := "PatentHallModel", name := "old", desc := "(II)I" } : Jvm.MethodName) prog_22_method_50_code (6 : Nat) (Option.some Jvm.ClassFile.FieldType.int)) ∈ lw_all := lw_g (lw_at lw_m6 173 rfl) rfl
theorem q1432 : (Jvm.Cond.methodLink "PatentHallModel" (306 : Nat) ({ cls := "PatentHallModel", name := "asked", desc := "(II)I" } : Jvm.MethodName)) ∈ lw_all := lw_g (lw_at lw_m6 174 rfl) rfl
theorem q1433 : (Jvm.Cond.privateMethod ({ cls := "PatentHallModel", name := "asked", desc := "(II)I" } : Jvm.MethodName)) ∈ lw_tbl := lw_at lw_m6 175 rfl
theorem q1434 : (Jvm.Cond.instanceMethod ({ cls := "PatentHallModel", name := "asked", desc := "(II)I" } : Jvm.MethodName)) ∈ lw_all := lw_g (lw_at lw_m6 176 rfl) rfl
theorem q1435 : (Jvm.Cond.code ({ cls := "PatentHallModel", name := "asked", desc := "(II)I" } : Jvm.MethodName) prog_22_method_49_code (3 : Nat) (Option.some Jvm.ClassFile.FieldType.int)) ∈ lw_all := lw_g (lw_at lw_m6 177 rfl) rfl
theorem q1436 : (Jvm.Cond.methodLink "PatentHallModel" (309 : Nat) ({ cls := "PatentHallModel", name := "isAhead", desc := "(III)Z" } : Jvm.MethodName)) ∈ lw_all := lw_g (lw_at lw_m6 178 rfl) rfl
theorem q1437 : (Jvm.Cond.privateMethod ({ cls := "PatentHallModel", name := "isAhead", desc := "(III)Z" } : Jvm.MethodName)) ∈ lw_tbl := lw_at lw_m6 179 rfl
theorem q1438 : (Jvm.Cond.instanceMethod ({ cls := "PatentHallModel", name := "isAhead", desc := "(III)Z" } : Jvm.MethodName)) ∈ lw_all := lw_g (lw_at lw_m6 180 rfl) rfl
theorem q1439 : (Jvm.Cond.code ({ cls := "PatentHallModel", name := "isAhead", desc := "(III)Z" } : Jvm.MethodName) prog_22_method_48_code (4 : Nat) (Option.some Jvm.ClassFile.FieldType.boolean)) ∈ lw_all := lw_g (lw_at lw_m6 181 rfl) rfl
theorem q1441 : (Jvm.Cond.instanceMethod ({ cls := "PatentHallModel", name := "plain", desc := "(II)I" } : Jvm.MethodName)) ∈ lw_all := lw_g (lw_at lw_m6 183 rfl) rfl
theorem q1442 : (Jvm.Cond.selects "PatentHallModel" ({ cls := "PatentHallModel", name := "plain", desc := "(II)I" } : Jvm.MethodName) ({ cls := "PatentHallModel", name := "plain", desc := "(II)I" } : Jvm.MethodName)) ∈ lw_all := lw_g (lw_at lw_m6 184 rfl) rfl
theorem q1443 : (Jvm.Cond.code ({ cls := "PatentHallModel", name := "plain", desc := "(II)I" } : Jvm.MethodName) prog_22_method_51_code (13 : Nat) (Option.some Jvm.ClassFile.FieldType.int)) ∈ lw_all := lw_g (lw_at lw_m6 185 rfl) rfl
theorem q1444 : (Jvm.Cond.methodLink "PatentHallModel" (312 : Nat) ({ cls := "PatentHallModel", name := "choose", desc := "(LPatentHallModel$Text;IILPatentHallModel$Text;)V" } : Jvm.MethodName)) ∈ lw_all := lw_g (lw_at lw_m6 186 rfl) rfl
theorem q1445 : (Jvm.Cond.privateMethod ({ cls := "PatentHallModel", name := "choose", desc := "(LPatentHallModel$Text;IILPatentHallModel$Text;)V" } : Jvm.MethodName)) ∈ lw_tbl := lw_at lw_m6 187 rfl
theorem q1446 : (Jvm.Cond.instanceMethod ({ cls := "PatentHallModel", name := "choose", desc := "(LPatentHallModel$Text;IILPatentHallModel$Text;)V" } : Jvm.MethodName)) ∈ lw_all := lw_g (lw_at lw_m6 188 rfl) rfl
theorem q1447 : (Jvm.Cond.code ({ cls := "PatentHallModel", name := "choose", desc := "(LPatentHallModel$Text;IILPatentHallModel$Text;)V" } : Jvm.MethodName) prog_22_method_25_code (7 : Nat) (Option.none : Option Jvm.ClassFile.FieldType)) ∈ lw_all := lw_g (lw_at lw_m6 189 rfl) rfl
theorem q1449 : (Jvm.Cond.instanceMethod ({ cls := "PatentHallModel", name := "widest", desc := "(I)I" } : Jvm.MethodName)) ∈ lw_all := lw_g (lw_at lw_m6 191 rfl) rfl
theorem q1450 : (Jvm.Cond.selects "PatentHallModel" ({ cls := "PatentHallModel", name := "widest", desc := "(I)I" } : Jvm.MethodName) ({ cls := "PatentHallModel", name := "widest", desc := "(I)I" } : Jvm.MethodName)) ∈ lw_all := lw_g (lw_at lw_m6 192 rfl) rfl
theorem q1451 : (Jvm.Cond.code ({ cls := "PatentHallModel", name := "widest", desc := "(I)I" } : Jvm.MethodName) prog_22_method_53_code (9 : Nat) (Option.some Jvm.ClassFile.FieldType.int)) ∈ lw_all := lw_g (lw_at lw_m6 193 rfl) rfl
theorem q1452 : (Jvm.Cond.methodLink "PatentHallModel" (316 : Nat) ({ cls := "PatentHallModel", name := "bits", desc := "(I)I" } : Jvm.MethodName)) ∈ lw_all := lw_g (lw_at lw_m6 194 rfl) rfl
theorem q1453 : (Jvm.Cond.static ({ cls := "PatentHallModel", name := "bits", desc := "(I)I" } : Jvm.MethodName)) ∈ lw_all := lw_g (lw_at lw_m6 195 rfl) rfl
theorem q1454 : (Jvm.Cond.code ({ cls := "PatentHallModel", name := "bits", desc := "(I)I" } : Jvm.MethodName) prog_22_method_52_code (3 : Nat) (Option.some Jvm.ClassFile.FieldType.int)) ∈ lw_all := lw_g (lw_at lw_m6 196 rfl) rfl
theorem q1456 : (Jvm.Cond.instanceMethod ({ cls := "PatentHallModel", name := "left", desc := "()I" } : Jvm.MethodName)) ∈ lw_all := lw_g (lw_at lw_m6 198 rfl) rfl
theorem q1457 : (Jvm.Cond.selects "PatentHallModel" ({ cls := "PatentHallModel", name := "left", desc := "()I" } : Jvm.MethodName) ({ cls := "PatentHallModel", name := "left", desc := "()I" } : Jvm.MethodName)) ∈ lw_all := lw_g (lw_at lw_m6 199 rfl) rfl
theorem q1458 : (Jvm.Cond.code ({ cls := "PatentHallModel", name := "left", desc := "()I" } : Jvm.MethodName) prog_22_method_54_code (1 : Nat) (Option.some Jvm.ClassFile.FieldType.int)) ∈ lw_all := lw_g (lw_at lw_m6 200 rfl) rfl
theorem q1460 : (Jvm.Cond.instanceMethod ({ cls := "PatentHallModel", name := "narrower", desc := "(II)I" } : Jvm.MethodName)) ∈ lw_all := lw_g (lw_at lw_m6 202 rfl) rfl
theorem q1461 : (Jvm.Cond.selects "PatentHallModel" ({ cls := "PatentHallModel", name := "narrower", desc := "(II)I" } : Jvm.MethodName) ({ cls := "PatentHallModel", name := "narrower", desc := "(II)I" } : Jvm.MethodName)) ∈ lw_all := lw_g (lw_at lw_m6 203 rfl) rfl
theorem q1462 : (Jvm.Cond.code ({ cls := "PatentHallModel", name := "narrower", desc := "(II)I" } : Jvm.MethodName) prog_22_method_55_code (3 : Nat) (Option.some Jvm.ClassFile.FieldType.int)) ∈ lw_all := lw_g (lw_at lw_m6 204 rfl) rfl
theorem q1464 : (Jvm.Cond.instanceMethod ({ cls := "PatentHallModel", name := "falls", desc := "(III)I" } : Jvm.MethodName)) ∈ lw_all := lw_g (lw_at lw_m6 206 rfl) rfl
theorem q1465 : (Jvm.Cond.selects "PatentHallModel" ({ cls := "PatentHallModel", name := "falls", desc := "(III)I" } : Jvm.MethodName) ({ cls := "PatentHallModel", name := "falls", desc := "(III)I" } : Jvm.MethodName)) ∈ lw_all := lw_g (lw_at lw_m6 207 rfl) rfl
theorem q1466 : (Jvm.Cond.code ({ cls := "PatentHallModel", name := "falls", desc := "(III)I" } : Jvm.MethodName) prog_22_method_57_code (6 : Nat) (Option.some Jvm.ClassFile.FieldType.int)) ∈ lw_all := lw_g (lw_at lw_m6 208 rfl) rfl
theorem q1467 : (Jvm.Cond.methodLink "PatentHallModel" (322 : Nat) ({ cls := "PatentHallModel", name := "isForce", desc := "(III)Z" } : Jvm.MethodName)) ∈ lw_all := lw_g (lw_at lw_m6 209 rfl) rfl
theorem q1468 : (Jvm.Cond.privateMethod ({ cls := "PatentHallModel", name := "isForce", desc := "(III)Z" } : Jvm.MethodName)) ∈ lw_tbl := lw_at lw_m6 210 rfl
theorem q1469 : (Jvm.Cond.instanceMethod ({ cls := "PatentHallModel", name := "isForce", desc := "(III)Z" } : Jvm.MethodName)) ∈ lw_all := lw_g (lw_at lw_m6 211 rfl) rfl
theorem q1470 : (Jvm.Cond.code ({ cls := "PatentHallModel", name := "isForce", desc := "(III)Z" } : Jvm.MethodName) prog_22_method_56_code (4 : Nat) (Option.some Jvm.ClassFile.FieldType.boolean)) ∈ lw_all := lw_g (lw_at lw_m6 212 rfl) rfl
theorem q1472 : (Jvm.Cond.instanceMethod ({ cls := "PatentHallModel", name := "fallen", desc := "(I)I" } : Jvm.MethodName)) ∈ lw_all := lw_g (lw_at lw_m6 214 rfl) rfl
theorem q1473 : (Jvm.Cond.selects "PatentHallModel" ({ cls := "PatentHallModel", name := "fallen", desc := "(I)I" } : Jvm.MethodName) ({ cls := "PatentHallModel", name := "fallen", desc := "(I)I" } : Jvm.MethodName)) ∈ lw_all := lw_g (lw_at lw_m6 215 rfl) rfl
theorem q1474 : (Jvm.Cond.code ({ cls := "PatentHallModel", name := "fallen", desc := "(I)I" } : Jvm.MethodName) prog_22_method_58_code (2 : Nat) (Option.some Jvm.ClassFile.FieldType.int)) ∈ lw_all := lw_g (lw_at lw_m6 216 rfl) rfl
theorem q1476 : (Jvm.Cond.instanceMethod ({ cls := "PatentHallModel", name := "force", desc := "(III)I" } : Jvm.MethodName)) ∈ lw_all := lw_g (lw_at lw_m6 218 rfl) rfl
theorem q1477 : (Jvm.Cond.selects "PatentHallModel" ({ cls := "PatentHallModel", name := "force", desc := "(III)I" } : Jvm.MethodName) ({ cls := "PatentHallModel", name := "force", desc := "(III)I" } : Jvm.MethodName)) ∈ lw_all := lw_g (lw_at lw_m6 219 rfl) rfl
theorem q1478 : (Jvm.Cond.code ({ cls := "PatentHallModel", name := "force", desc := "(III)I" } : Jvm.MethodName) prog_22_method_59_code (4 : Nat) (Option.some Jvm.ClassFile.FieldType.int)) ∈ lw_all := lw_g (lw_at lw_m6 220 rfl) rfl
theorem q1480 : (Jvm.Cond.instanceMethod ({ cls := "PatentHallModel", name := "count", desc := "(I)I" } : Jvm.MethodName)) ∈ lw_all := lw_g (lw_at lw_m6 222 rfl) rfl
theorem q1481 : (Jvm.Cond.selects "PatentHallModel" ({ cls := "PatentHallModel", name := "count", desc := "(I)I" } : Jvm.MethodName) ({ cls := "PatentHallModel", name := "count", desc := "(I)I" } : Jvm.MethodName)) ∈ lw_all := lw_g (lw_at lw_m6 223 rfl) rfl
theorem q1482 : (Jvm.Cond.code ({ cls := "PatentHallModel", name := "count", desc := "(I)I" } : Jvm.MethodName) prog_22_method_60_code (2 : Nat) (Option.some Jvm.ClassFile.FieldType.int)) ∈ lw_all := lw_g (lw_at lw_m6 224 rfl) rfl
theorem q1484 : (Jvm.Cond.instanceMethod ({ cls := "PatentHallModel", name := "trouble", desc := "()I" } : Jvm.MethodName)) ∈ lw_all := lw_g (lw_at lw_m6 226 rfl) rfl
theorem q1485 : (Jvm.Cond.selects "PatentHallModel" ({ cls := "PatentHallModel", name := "trouble", desc := "()I" } : Jvm.MethodName) ({ cls := "PatentHallModel", name := "trouble", desc := "()I" } : Jvm.MethodName)) ∈ lw_all := lw_g (lw_at lw_m6 227 rfl) rfl
theorem q1486 : (Jvm.Cond.code ({ cls := "PatentHallModel", name := "trouble", desc := "()I" } : Jvm.MethodName) prog_22_method_61_code (1 : Nat) (Option.some Jvm.ClassFile.FieldType.int)) ∈ lw_all := lw_g (lw_at lw_m6 228 rfl) rfl
theorem in_X4 : ∀ w ∈ wsX40, w ∈ lw_all := lw_in wsX40 [1144, 1146, 1148, 1150, 1152, 1154, 1156, 1158, 1160, 1162, 1164, 1166, 1168, 1170, 1172, 1174, 1176, 1178, 1180, 1182, 1184, 1186, 1188, 1190, 1192, 1194, 1196, 1198, 1200, 1202, 1204, 1206, 1208, 1210, 1212, 1214, 1216, 1218, 1220, 1222, 1224, 1226, 1228, 1230, 1232, 1234, 1236, 1238, 1240] (by decide +kernel) (by decide +kernel)
