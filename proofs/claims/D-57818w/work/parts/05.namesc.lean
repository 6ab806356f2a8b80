/-! RoseGuildModel -/
set_option maxRecDepth 100000
def RX7 : String := "RoseGuildModel"
def TX7 : u_T := fun k => match k with
  | 0 => ("RoseGuildModel", "now", "[I", true)
  | 1 => ("RoseGuildModel", "aside", "[I", true)
  | 2 => ("RoseGuildModel", "reading", "[I", true)
  | 3 => ("RoseGuildModel", "past", "[I", true)
  | 4 => ("RoseGuildModel", "saved", "[I", true)
  | 5 => ("RoseGuildModel", "isSaved", "[Z", true)
  | 6 => ("RoseGuildModel", "undos", "I", false)
  | 7 => ("RoseGuildModel", "thrown", "I", false)
  | 8 => ("RoseGuildModel", "winner", "I", false)
  | 9 => ("RoseGuildModel", "buffer", "[I", true)
  | 10 => ("RoseGuildModel", "fed", "I", false)
  | 11 => ("RoseGuildModel", "lastCode", "I", false)
  | 12 => ("RoseGuildModel", "lastPlace", "I", false)
  | 13 => ("RoseGuildModel", "spot", "I", false)
  | 14 => ("RoseGuildModel", "begin", "I", false)
  | 15 => ("RoseGuildModel", "token", "I", false)
  | 16 => ("RoseGuildModel", "value", "I", false)
  | 17 => ("RoseGuildModel", "code", "I", false)
  | 18 => ("RoseGuildModel", "place", "I", false)
  | 19 => ("RoseGuildModel", "itsName", "I", false)
  | 20 => ("RoseGuildModel", "itsColumn", "I", false)
  | 21 => ("RoseGuildModel", "itsRow", "I", false)
  | 22 => ("RoseGuildModel", "kinds", "[I", true)
  | 23 => ("RoseGuildModel", "ones", "[I", true)
  | 24 => ("RoseGuildModel", "twos", "[I", true)
  | 25 => ("RoseGuildModel", "threes", "[I", true)
  | 26 => ("RoseGuildModel", "fours", "[I", true)
  | 27 => ("RoseGuildModel", "commands", "I", false)
  | 28 => ("RoseGuildModel", "done", "I", false)
  | 29 => ("RoseGuildModel", "isScript", "Z", false)
  | 30 => ("RoseGuildModel", "out", "[I", true)
  | 31 => ("RoseGuildModel", "digits", "[I", true)
  | _ => ("RoseGuildModel", "written", "I", false)
def tyX7 : Nat → FieldType := fun k => match k with
  | 0 => .array .int
  | 1 => .array .int
  | 2 => .array .int
  | 3 => .array .int
  | 4 => .array .int
  | 5 => .array .boolean
  | 6 => .int
  | 7 => .int
  | 8 => .int
  | 9 => .array .int
  | 10 => .int
  | 11 => .int
  | 12 => .int
  | 13 => .int
  | 14 => .int
  | 15 => .int
  | 16 => .int
  | 17 => .int
  | 18 => .int
  | 19 => .int
  | 20 => .int
  | 21 => .int
  | 22 => .array .int
  | 23 => .array .int
  | 24 => .array .int
  | 25 => .array .int
  | 26 => .array .int
  | 27 => .int
  | 28 => .int
  | 29 => .boolean
  | 30 => .array .int
  | 31 => .array .int
  | _ => .int
abbrev wsX70 : List Cond := u_ws RX7 TX7 33
set_option maxRecDepth 100000 in
theorem nmX7 : ∀ a, a < 33 → ∀ b, b < 33 → a ≠ b → (TX7 a).2.1 ≠ (TX7 b).2.1 := by decide +kernel
set_option maxRecDepth 100000 in
theorem tyX7_ok : ∀ k, k < 33 → parseFieldDescriptor (TX7 k).2.2.1 = some (tyX7 k) := by decide +kernel
abbrev cX7_init : ByteArray := prog_21_method_1_code
def yX7_init : MethodName := ⟨RX7, "<init>", "()V"⟩
def dkwX7_init_5 : List UInt8 := [17, 1, 44, 188, 10, 181, 0, 54, 42, 16, 8, 188, 10, 181, 0, 57, 42, 18, 60, 182, 0, 62, 177]
abbrev dktX7_init_5 : List UInt8 := dkwX7_init_5 ++ []
def dkwX7_init_4 : List UInt8 := [188, 10, 181, 0, 45, 42, 16, 30, 188, 10, 181, 0, 48, 42, 16, 30, 188, 10, 181, 0, 51, 42]
abbrev dktX7_init_4 : List UInt8 := dkwX7_init_4 ++ dktX7_init_5
def dkwX7_init_3 : List UInt8 := [42, 2, 181, 0, 36, 42, 16, 30, 188, 10, 181, 0, 39, 42, 16, 30, 188, 10, 181, 0, 42, 42, 16, 30]
abbrev dktX7_init_3 : List UInt8 := dkwX7_init_3 ++ dktX7_init_4
def dkwX7_init_2 : List UInt8 := [181, 0, 22, 42, 5, 188, 4, 181, 0, 25, 42, 2, 181, 0, 29, 42, 17, 2, 188, 188, 10, 181, 0, 33]
abbrev dktX7_init_2 : List UInt8 := dkwX7_init_2 ++ dktX7_init_3
def dkwX7_init_1 : List UInt8 := [17, 0, 212, 188, 10, 181, 0, 16, 42, 17, 6, 160, 188, 10, 181, 0, 19, 42, 17, 1, 168, 188, 10]
abbrev dktX7_init_1 : List UInt8 := dkwX7_init_1 ++ dktX7_init_2
def dkwX7_init_0 : List UInt8 := [42, 183, 0, 1, 42, 17, 0, 212, 188, 10, 181, 0, 7, 42, 17, 0, 212, 188, 10, 181, 0, 13, 42]
abbrev dktX7_init_0 : List UInt8 := dkwX7_init_0 ++ dktX7_init_1
theorem dksX7_init_0 : cX7_init.data.toList.drop 0 = dktX7_init_0 := by decide +kernel
theorem dksX7_init_1 : cX7_init.data.toList.drop 23 = dktX7_init_1 := dk_seg dksX7_init_0 23 rfl rfl
theorem dksX7_init_2 : cX7_init.data.toList.drop 46 = dktX7_init_2 := dk_seg dksX7_init_1 23 rfl rfl
theorem dksX7_init_3 : cX7_init.data.toList.drop 70 = dktX7_init_3 := dk_seg dksX7_init_2 24 rfl rfl
theorem dksX7_init_4 : cX7_init.data.toList.drop 94 = dktX7_init_4 := dk_seg dksX7_init_3 24 rfl rfl
theorem dksX7_init_5 : cX7_init.data.toList.drop 116 = dktX7_init_5 := dk_seg dksX7_init_4 22 rfl rfl
theorem dX7_init_0 : decode cX7_init 0 = .ok (.aload_n 0, 1) := dk_42 (dk_at dksX7_init_0 0 rfl rfl)
theorem dX7_init_1 : decode cX7_init 1 = .ok (.invokespecial 1, 3) := dk_183 0 1 (dk_at dksX7_init_0 1 rfl rfl)
theorem dX7_init_4 : decode cX7_init 4 = .ok (.aload_n 0, 1) := dk_42 (dk_at dksX7_init_0 4 rfl rfl)
theorem dX7_init_5 : decode cX7_init 5 = .ok (.sipush 212, 3) := dk_17 0 212 (dk_at dksX7_init_0 5 rfl rfl)
theorem dX7_init_8 : decode cX7_init 8 = .ok (.newarray .int, 2) := dk_188_10 (dk_at dksX7_init_0 8 rfl rfl)
theorem dX7_init_10 : decode cX7_init 10 = .ok (.putfield 7, 3) := dk_181 0 7 (dk_at dksX7_init_0 10 rfl rfl)
theorem dX7_init_13 : decode cX7_init 13 = .ok (.aload_n 0, 1) := dk_42 (dk_at dksX7_init_0 13 rfl rfl)
theorem dX7_init_14 : decode cX7_init 14 = .ok (.sipush 212, 3) := dk_17 0 212 (dk_at dksX7_init_0 14 rfl rfl)
theorem dX7_init_17 : decode cX7_init 17 = .ok (.newarray .int, 2) := dk_188_10 (dk_at dksX7_init_0 17 rfl rfl)
theorem dX7_init_19 : decode cX7_init 19 = .ok (.putfield 13, 3) := dk_181 0 13 (dk_at dksX7_init_0 19 rfl rfl)
theorem dX7_init_22 : decode cX7_init 22 = .ok (.aload_n 0, 1) := dk_42 (dk_at dksX7_init_0 22 rfl rfl)
theorem dX7_init_23 : decode cX7_init 23 = .ok (.sipush 212, 3) := dk_17 0 212 (dk_at dksX7_init_1 0 rfl rfl)
theorem dX7_init_26 : decode cX7_init 26 = .ok (.newarray .int, 2) := dk_188_10 (dk_at dksX7_init_1 3 rfl rfl)
theorem dX7_init_28 : decode cX7_init 28 = .ok (.putfield 16, 3) := dk_181 0 16 (dk_at dksX7_init_1 5 rfl rfl)
theorem dX7_init_31 : decode cX7_init 31 = .ok (.aload_n 0, 1) := dk_42 (dk_at dksX7_init_1 8 rfl rfl)
theorem dX7_init_32 : decode cX7_init 32 = .ok (.sipush 1696, 3) := dk_17 6 160 (dk_at dksX7_init_1 9 rfl rfl)
theorem dX7_init_35 : decode cX7_init 35 = .ok (.newarray .int, 2) := dk_188_10 (dk_at dksX7_init_1 12 rfl rfl)
theorem dX7_init_37 : decode cX7_init 37 = .ok (.putfield 19, 3) := dk_181 0 19 (dk_at dksX7_init_1 14 rfl rfl)
theorem dX7_init_40 : decode cX7_init 40 = .ok (.aload_n 0, 1) := dk_42 (dk_at dksX7_init_1 17 rfl rfl)
theorem dX7_init_41 : decode cX7_init 41 = .ok (.sipush 424, 3) := dk_17 1 168 (dk_at dksX7_init_1 18 rfl rfl)
theorem dX7_init_44 : decode cX7_init 44 = .ok (.newarray .int, 2) := dk_188_10 (dk_at dksX7_init_1 21 rfl rfl)
theorem dX7_init_46 : decode cX7_init 46 = .ok (.putfield 22, 3) := dk_181 0 22 (dk_at dksX7_init_2 0 rfl rfl)
theorem dX7_init_49 : decode cX7_init 49 = .ok (.aload_n 0, 1) := dk_42 (dk_at dksX7_init_2 3 rfl rfl)
theorem dX7_init_50 : decode cX7_init 50 = .ok (.iconst 2, 1) := dk_5 (dk_at dksX7_init_2 4 rfl rfl)
theorem dX7_init_51 : decode cX7_init 51 = .ok (.newarray .boolean, 2) := dk_188_4 (dk_at dksX7_init_2 5 rfl rfl)
theorem dX7_init_53 : decode cX7_init 53 = .ok (.putfield 25, 3) := dk_181 0 25 (dk_at dksX7_init_2 7 rfl rfl)
theorem dX7_init_56 : decode cX7_init 56 = .ok (.aload_n 0, 1) := dk_42 (dk_at dksX7_init_2 10 rfl rfl)
theorem dX7_init_57 : decode cX7_init 57 = .ok (.iconst (-1), 1) := dk_2 (dk_at dksX7_init_2 11 rfl rfl)
theorem dX7_init_58 : decode cX7_init 58 = .ok (.putfield 29, 3) := dk_181 0 29 (dk_at dksX7_init_2 12 rfl rfl)
theorem dX7_init_61 : decode cX7_init 61 = .ok (.aload_n 0, 1) := dk_42 (dk_at dksX7_init_2 15 rfl rfl)
theorem dX7_init_62 : decode cX7_init 62 = .ok (.sipush 700, 3) := dk_17 2 188 (dk_at dksX7_init_2 16 rfl rfl)
theorem dX7_init_65 : decode cX7_init 65 = .ok (.newarray .int, 2) := dk_188_10 (dk_at dksX7_init_2 19 rfl rfl)
theorem dX7_init_67 : decode cX7_init 67 = .ok (.putfield 33, 3) := dk_181 0 33 (dk_at dksX7_init_2 21 rfl rfl)
theorem dX7_init_70 : decode cX7_init 70 = .ok (.aload_n 0, 1) := dk_42 (dk_at dksX7_init_3 0 rfl rfl)
theorem dX7_init_71 : decode cX7_init 71 = .ok (.iconst (-1), 1) := dk_2 (dk_at dksX7_init_3 1 rfl rfl)
theorem dX7_init_72 : decode cX7_init 72 = .ok (.putfield 36, 3) := dk_181 0 36 (dk_at dksX7_init_3 2 rfl rfl)
theorem dX7_init_75 : decode cX7_init 75 = .ok (.aload_n 0, 1) := dk_42 (dk_at dksX7_init_3 5 rfl rfl)
theorem dX7_init_76 : decode cX7_init 76 = .ok (.bipush 30, 2) := dk_16 30 (dk_at dksX7_init_3 6 rfl rfl)
theorem dX7_init_78 : decode cX7_init 78 = .ok (.newarray .int, 2) := dk_188_10 (dk_at dksX7_init_3 8 rfl rfl)
theorem dX7_init_80 : decode cX7_init 80 = .ok (.putfield 39, 3) := dk_181 0 39 (dk_at dksX7_init_3 10 rfl rfl)
theorem dX7_init_83 : decode cX7_init 83 = .ok (.aload_n 0, 1) := dk_42 (dk_at dksX7_init_3 13 rfl rfl)
theorem dX7_init_84 : decode cX7_init 84 = .ok (.bipush 30, 2) := dk_16 30 (dk_at dksX7_init_3 14 rfl rfl)
theorem dX7_init_86 : decode cX7_init 86 = .ok (.newarray .int, 2) := dk_188_10 (dk_at dksX7_init_3 16 rfl rfl)
theorem dX7_init_88 : decode cX7_init 88 = .ok (.putfield 42, 3) := dk_181 0 42 (dk_at dksX7_init_3 18 rfl rfl)
theorem dX7_init_91 : decode cX7_init 91 = .ok (.aload_n 0, 1) := dk_42 (dk_at dksX7_init_3 21 rfl rfl)
theorem dX7_init_92 : decode cX7_init 92 = .ok (.bipush 30, 2) := dk_16 30 (dk_at dksX7_init_3 22 rfl rfl)
theorem dX7_init_94 : decode cX7_init 94 = .ok (.newarray .int, 2) := dk_188_10 (dk_at dksX7_init_4 0 rfl rfl)
theorem dX7_init_96 : decode cX7_init 96 = .ok (.putfield 45, 3) := dk_181 0 45 (dk_at dksX7_init_4 2 rfl rfl)
theorem dX7_init_99 : decode cX7_init 99 = .ok (.aload_n 0, 1) := dk_42 (dk_at dksX7_init_4 5 rfl rfl)
theorem dX7_init_100 : decode cX7_init 100 = .ok (.bipush 30, 2) := dk_16 30 (dk_at dksX7_init_4 6 rfl rfl)
theorem dX7_init_102 : decode cX7_init 102 = .ok (.newarray .int, 2) := dk_188_10 (dk_at dksX7_init_4 8 rfl rfl)
theorem dX7_init_104 : decode cX7_init 104 = .ok (.putfield 48, 3) := dk_181 0 48 (dk_at dksX7_init_4 10 rfl rfl)
theorem dX7_init_107 : decode cX7_init 107 = .ok (.aload_n 0, 1) := dk_42 (dk_at dksX7_init_4 13 rfl rfl)
theorem dX7_init_108 : decode cX7_init 108 = .ok (.bipush 30, 2) := dk_16 30 (dk_at dksX7_init_4 14 rfl rfl)
theorem dX7_init_110 : decode cX7_init 110 = .ok (.newarray .int, 2) := dk_188_10 (dk_at dksX7_init_4 16 rfl rfl)
theorem dX7_init_112 : decode cX7_init 112 = .ok (.putfield 51, 3) := dk_181 0 51 (dk_at dksX7_init_4 18 rfl rfl)
theorem dX7_init_115 : decode cX7_init 115 = .ok (.aload_n 0, 1) := dk_42 (dk_at dksX7_init_4 21 rfl rfl)
theorem dX7_init_116 : decode cX7_init 116 = .ok (.sipush 300, 3) := dk_17 1 44 (dk_at dksX7_init_5 0 rfl rfl)
theorem dX7_init_119 : decode cX7_init 119 = .ok (.newarray .int, 2) := dk_188_10 (dk_at dksX7_init_5 3 rfl rfl)
theorem dX7_init_121 : decode cX7_init 121 = .ok (.putfield 54, 3) := dk_181 0 54 (dk_at dksX7_init_5 5 rfl rfl)
theorem dX7_init_124 : decode cX7_init 124 = .ok (.aload_n 0, 1) := dk_42 (dk_at dksX7_init_5 8 rfl rfl)
theorem dX7_init_125 : decode cX7_init 125 = .ok (.bipush 8, 2) := dk_16 8 (dk_at dksX7_init_5 9 rfl rfl)
theorem dX7_init_127 : decode cX7_init 127 = .ok (.newarray .int, 2) := dk_188_10 (dk_at dksX7_init_5 11 rfl rfl)
theorem dX7_init_129 : decode cX7_init 129 = .ok (.putfield 57, 3) := dk_181 0 57 (dk_at dksX7_init_5 13 rfl rfl)
theorem dX7_init_132 : decode cX7_init 132 = .ok (.aload_n 0, 1) := dk_42 (dk_at dksX7_init_5 16 rfl rfl)
theorem dX7_init_133 : decode cX7_init 133 = .ok (.ldc 60, 2) := dk_18 60 (dk_at dksX7_init_5 17 rfl rfl)
theorem dX7_init_135 : decode cX7_init 135 = .ok (.invokevirtual 62, 3) := dk_182 0 62 (dk_at dksX7_init_5 19 rfl rfl)
theorem dX7_init_138 : decode cX7_init 138 = .ok (.return_, 1) := dk_177 (dk_at dksX7_init_5 22 rfl rfl)
abbrev cX7_takesText : ByteArray := prog_21_method_2_code
def yX7_takesText : MethodName := ⟨RX7, "takesText", "(Ljava/lang/String;)V"⟩
def dkwX7_takesText_2 : List UInt8 := [177]
abbrev dktX7_takesText_2 : List UInt8 := dkwX7_takesText_2 ++ []
def dkwX7_takesText_1 : List UInt8 := [167, 255, 234, 42, 43, 182, 0, 66, 181, 0, 76, 42, 182, 0, 79, 42, 182, 0, 82, 42, 3, 181, 0, 76]
abbrev dktX7_takesText_1 : List UInt8 := dkwX7_takesText_1 ++ dktX7_takesText_2
def dkwX7_takesText_0 : List UInt8 := [3, 61, 28, 43, 182, 0, 66, 162, 0, 20, 42, 180, 0, 33, 28, 43, 28, 182, 0, 72, 79, 132, 2, 1]
abbrev dktX7_takesText_0 : List UInt8 := dkwX7_takesText_0 ++ dktX7_takesText_1
theorem dksX7_takesText_0 : cX7_takesText.data.toList.drop 0 = dktX7_takesText_0 := by decide +kernel
theorem dksX7_takesText_1 : cX7_takesText.data.toList.drop 24 = dktX7_takesText_1 := dk_seg dksX7_takesText_0 24 rfl rfl
theorem dksX7_takesText_2 : cX7_takesText.data.toList.drop 48 = dktX7_takesText_2 := dk_seg dksX7_takesText_1 24 rfl rfl
theorem dX7_takesText_0 : decode cX7_takesText 0 = .ok (.iconst 0, 1) := dk_3 (dk_at dksX7_takesText_0 0 rfl rfl)
theorem dX7_takesText_1 : decode cX7_takesText 1 = .ok (.istore_n 2, 1) := dk_61 (dk_at dksX7_takesText_0 1 rfl rfl)
theorem dX7_takesText_2 : decode cX7_takesText 2 = .ok (.iload_n 2, 1) := dk_28 (dk_at dksX7_takesText_0 2 rfl rfl)
theorem dX7_takesText_3 : decode cX7_takesText 3 = .ok (.aload_n 1, 1) := dk_43 (dk_at dksX7_takesText_0 3 rfl rfl)
theorem dX7_takesText_4 : decode cX7_takesText 4 = .ok (.invokevirtual 66, 3) := dk_182 0 66 (dk_at dksX7_takesText_0 4 rfl rfl)
theorem dX7_takesText_7 : decode cX7_takesText 7 = .ok (.if_icmp .ge 20, 3) := dk_162 0 20 (dk_at dksX7_takesText_0 7 rfl rfl)
theorem dX7_takesText_10 : decode cX7_takesText 10 = .ok (.aload_n 0, 1) := dk_42 (dk_at dksX7_takesText_0 10 rfl rfl)
theorem dX7_takesText_11 : decode cX7_takesText 11 = .ok (.getfield 33, 3) := dk_180 0 33 (dk_at dksX7_takesText_0 11 rfl rfl)
theorem dX7_takesText_14 : decode cX7_takesText 14 = .ok (.iload_n 2, 1) := dk_28 (dk_at dksX7_takesText_0 14 rfl rfl)
theorem dX7_takesText_15 : decode cX7_takesText 15 = .ok (.aload_n 1, 1) := dk_43 (dk_at dksX7_takesText_0 15 rfl rfl)
theorem dX7_takesText_16 : decode cX7_takesText 16 = .ok (.iload_n 2, 1) := dk_28 (dk_at dksX7_takesText_0 16 rfl rfl)
theorem dX7_takesText_17 : decode cX7_takesText 17 = .ok (.invokevirtual 72, 3) := dk_182 0 72 (dk_at dksX7_takesText_0 17 rfl rfl)
theorem dX7_takesText_20 : decode cX7_takesText 20 = .ok (.iastore, 1) := dk_79 (dk_at dksX7_takesText_0 20 rfl rfl)
theorem dX7_takesText_21 : decode cX7_takesText 21 = .ok (.iinc 2 1, 3) := dk_132 2 1 (dk_at dksX7_takesText_0 21 rfl rfl)
theorem dX7_takesText_24 : decode cX7_takesText 24 = .ok (.goto (-22), 3) := dk_167 255 234 (dk_at dksX7_takesText_1 0 rfl rfl)
theorem dX7_takesText_27 : decode cX7_takesText 27 = .ok (.aload_n 0, 1) := dk_42 (dk_at dksX7_takesText_1 3 rfl rfl)
theorem dX7_takesText_28 : decode cX7_takesText 28 = .ok (.aload_n 1, 1) := dk_43 (dk_at dksX7_takesText_1 4 rfl rfl)
theorem dX7_takesText_29 : decode cX7_takesText 29 = .ok (.invokevirtual 66, 3) := dk_182 0 66 (dk_at dksX7_takesText_1 5 rfl rfl)
theorem dX7_takesText_32 : decode cX7_takesText 32 = .ok (.putfield 76, 3) := dk_181 0 76 (dk_at dksX7_takesText_1 8 rfl rfl)
theorem dX7_takesText_35 : decode cX7_takesText 35 = .ok (.aload_n 0, 1) := dk_42 (dk_at dksX7_takesText_1 11 rfl rfl)
theorem dX7_takesText_36 : decode cX7_takesText 36 = .ok (.invokevirtual 79, 3) := dk_182 0 79 (dk_at dksX7_takesText_1 12 rfl rfl)
theorem dX7_takesText_39 : decode cX7_takesText 39 = .ok (.aload_n 0, 1) := dk_42 (dk_at dksX7_takesText_1 15 rfl rfl)
theorem dX7_takesText_40 : decode cX7_takesText 40 = .ok (.invokevirtual 82, 3) := dk_182 0 82 (dk_at dksX7_takesText_1 16 rfl rfl)
theorem dX7_takesText_43 : decode cX7_takesText 43 = .ok (.aload_n 0, 1) := dk_42 (dk_at dksX7_takesText_1 19 rfl rfl)
theorem dX7_takesText_44 : decode cX7_takesText 44 = .ok (.iconst 0, 1) := dk_3 (dk_at dksX7_takesText_1 20 rfl rfl)
theorem dX7_takesText_45 : decode cX7_takesText 45 = .ok (.putfield 76, 3) := dk_181 0 76 (dk_at dksX7_takesText_1 21 rfl rfl)
theorem dX7_takesText_48 : decode cX7_takesText 48 = .ok (.return_, 1) := dk_177 (dk_at dksX7_takesText_2 0 rfl rfl)
abbrev cX7_starts : ByteArray := prog_21_method_40_code
def yX7_starts : MethodName := ⟨RX7, "starts", "()V"⟩
def dkwX7_starts_0 : List UInt8 := [42, 3, 181, 0, 183, 42, 3, 181, 0, 198, 42, 2, 181, 0, 201, 42, 182, 0, 204, 177]
abbrev dktX7_starts_0 : List UInt8 := dkwX7_starts_0 ++ []
theorem dksX7_starts_0 : cX7_starts.data.toList.drop 0 = dktX7_starts_0 := by decide +kernel
theorem dX7_starts_0 : decode cX7_starts 0 = .ok (.aload_n 0, 1) := dk_42 (dk_at dksX7_starts_0 0 rfl rfl)
theorem dX7_starts_1 : decode cX7_starts 1 = .ok (.iconst 0, 1) := dk_3 (dk_at dksX7_starts_0 1 rfl rfl)
theorem dX7_starts_2 : decode cX7_starts 2 = .ok (.putfield 183, 3) := dk_181 0 183 (dk_at dksX7_starts_0 2 rfl rfl)
theorem dX7_starts_5 : decode cX7_starts 5 = .ok (.aload_n 0, 1) := dk_42 (dk_at dksX7_starts_0 5 rfl rfl)
theorem dX7_starts_6 : decode cX7_starts 6 = .ok (.iconst 0, 1) := dk_3 (dk_at dksX7_starts_0 6 rfl rfl)
theorem dX7_starts_7 : decode cX7_starts 7 = .ok (.putfield 198, 3) := dk_181 0 198 (dk_at dksX7_starts_0 7 rfl rfl)
theorem dX7_starts_10 : decode cX7_starts 10 = .ok (.aload_n 0, 1) := dk_42 (dk_at dksX7_starts_0 10 rfl rfl)
theorem dX7_starts_11 : decode cX7_starts 11 = .ok (.iconst (-1), 1) := dk_2 (dk_at dksX7_starts_0 11 rfl rfl)
theorem dX7_starts_12 : decode cX7_starts 12 = .ok (.putfield 201, 3) := dk_181 0 201 (dk_at dksX7_starts_0 12 rfl rfl)
theorem dX7_starts_15 : decode cX7_starts 15 = .ok (.aload_n 0, 1) := dk_42 (dk_at dksX7_starts_0 15 rfl rfl)
theorem dX7_starts_16 : decode cX7_starts 16 = .ok (.invokevirtual 204, 3) := dk_182 0 204 (dk_at dksX7_starts_0 16 rfl rfl)
theorem dX7_starts_19 : decode cX7_starts 19 = .ok (.return_, 1) := dk_177 (dk_at dksX7_starts_0 19 rfl rfl)
abbrev cX7_reads : ByteArray := prog_21_method_39_code
def yX7_reads : MethodName := ⟨RX7, "reads", "()V"⟩
def dkwX7_reads_10 : List UInt8 := [177]
abbrev dktX7_reads_10 : List UInt8 := dkwX7_reads_10 ++ []
def dkwX7_reads_9 : List UInt8 := [27, 16, 41, 160, 0, 7, 6, 167, 0, 4, 7, 181, 0, 192, 42, 89, 180, 0, 183, 4, 96, 181, 0, 183]
abbrev dktX7_reads_9 : List UInt8 := dkwX7_reads_9 ++ dktX7_reads_10
def dkwX7_reads_8 : List UInt8 := [180, 0, 183, 4, 96, 181, 0, 183, 167, 255, 199, 42, 27, 16, 59, 159, 0, 15, 27, 16, 40, 159, 0, 9]
abbrev dktX7_reads_8 : List UInt8 := dkwX7_reads_8 ++ dktX7_reads_9
def dkwX7_reads_7 : List UInt8 := [180, 0, 195, 104, 42, 42, 180, 0, 183, 182, 0, 186, 96, 16, 48, 100, 184, 0, 115, 181, 0, 195, 42, 89]
abbrev dktX7_reads_7 : List UInt8 := dkwX7_reads_7 ++ dktX7_reads_8
def dkwX7_reads_6 : List UInt8 := [180, 0, 183, 182, 0, 186, 16, 48, 16, 57, 184, 0, 88, 153, 0, 82, 42, 17, 3, 232, 16, 10, 42]
abbrev dktX7_reads_6 : List UInt8 := dkwX7_reads_6 ++ dktX7_reads_7
def dkwX7_reads_5 : List UInt8 := [16, 48, 16, 57, 184, 0, 88, 153, 0, 73, 42, 5, 181, 0, 192, 42, 3, 181, 0, 195, 42, 42]
abbrev dktX7_reads_5 : List UInt8 := dkwX7_reads_5 ++ dktX7_reads_6
def dkwX7_reads_4 : List UInt8 := [16, 97, 16, 122, 184, 0, 88, 153, 0, 134, 42, 89, 180, 0, 183, 4, 96, 181, 0, 183, 167, 255, 228, 27]
abbrev dktX7_reads_4 : List UInt8 := dkwX7_reads_4 ++ dktX7_reads_5
def dkwX7_reads_3 : List UInt8 := [16, 97, 16, 122, 184, 0, 88, 153, 0, 39, 42, 4, 181, 0, 192, 42, 42, 180, 0, 183, 182, 0, 186]
abbrev dktX7_reads_3 : List UInt8 := dkwX7_reads_3 ++ dktX7_reads_4
def dkwX7_reads_2 : List UInt8 := [42, 42, 180, 0, 183, 182, 0, 186, 60, 27, 2, 160, 0, 11, 42, 3, 181, 0, 192, 167, 0, 168, 27]
abbrev dktX7_reads_2 : List UInt8 := dkwX7_reads_2 ++ dktX7_reads_3
def dkwX7_reads_1 : List UInt8 := [160, 0, 16, 42, 89, 180, 0, 183, 4, 96, 181, 0, 183, 167, 255, 220, 42, 42, 180, 0, 183, 181, 0, 189]
abbrev dktX7_reads_1 : List UInt8 := dkwX7_reads_1 ++ dktX7_reads_2
def dkwX7_reads_0 : List UInt8 := [42, 42, 180, 0, 183, 182, 0, 186, 16, 32, 159, 0, 16, 42, 42, 180, 0, 183, 182, 0, 186, 16, 10]
abbrev dktX7_reads_0 : List UInt8 := dkwX7_reads_0 ++ dktX7_reads_1
theorem dksX7_reads_0 : cX7_reads.data.toList.drop 0 = dktX7_reads_0 := by decide +kernel
theorem dksX7_reads_1 : cX7_reads.data.toList.drop 23 = dktX7_reads_1 := dk_seg dksX7_reads_0 23 rfl rfl
theorem dksX7_reads_2 : cX7_reads.data.toList.drop 47 = dktX7_reads_2 := dk_seg dksX7_reads_1 24 rfl rfl
theorem dksX7_reads_3 : cX7_reads.data.toList.drop 70 = dktX7_reads_3 := dk_seg dksX7_reads_2 23 rfl rfl
theorem dksX7_reads_4 : cX7_reads.data.toList.drop 93 = dktX7_reads_4 := dk_seg dksX7_reads_3 23 rfl rfl
theorem dksX7_reads_5 : cX7_reads.data.toList.drop 117 = dktX7_reads_5 := dk_seg dksX7_reads_4 24 rfl rfl
theorem dksX7_reads_6 : cX7_reads.data.toList.drop 139 = dktX7_reads_6 := dk_seg dksX7_reads_5 22 rfl rfl
theorem dksX7_reads_7 : cX7_reads.data.toList.drop 162 = dktX7_reads_7 := dk_seg dksX7_reads_6 23 rfl rfl
theorem dksX7_reads_8 : cX7_reads.data.toList.drop 186 = dktX7_reads_8 := dk_seg dksX7_reads_7 24 rfl rfl
theorem dksX7_reads_9 : cX7_reads.data.toList.drop 210 = dktX7_reads_9 := dk_seg dksX7_reads_8 24 rfl rfl
theorem dksX7_reads_10 : cX7_reads.data.toList.drop 234 = dktX7_reads_10 := dk_seg dksX7_reads_9 24 rfl rfl
theorem dX7_reads_0 : decode cX7_reads 0 = .ok (.aload_n 0, 1) := dk_42 (dk_at dksX7_reads_0 0 rfl rfl)
theorem dX7_reads_1 : decode cX7_reads 1 = .ok (.aload_n 0, 1) := dk_42 (dk_at dksX7_reads_0 1 rfl rfl)
theorem dX7_reads_2 : decode cX7_reads 2 = .ok (.getfield 183, 3) := dk_180 0 183 (dk_at dksX7_reads_0 2 rfl rfl)
theorem dX7_reads_5 : decode cX7_reads 5 = .ok (.invokevirtual 186, 3) := dk_182 0 186 (dk_at dksX7_reads_0 5 rfl rfl)
theorem dX7_reads_8 : decode cX7_reads 8 = .ok (.bipush 32, 2) := dk_16 32 (dk_at dksX7_reads_0 8 rfl rfl)
theorem dX7_reads_10 : decode cX7_reads 10 = .ok (.if_icmp .eq 16, 3) := dk_159 0 16 (dk_at dksX7_reads_0 10 rfl rfl)
theorem dX7_reads_13 : decode cX7_reads 13 = .ok (.aload_n 0, 1) := dk_42 (dk_at dksX7_reads_0 13 rfl rfl)
theorem dX7_reads_14 : decode cX7_reads 14 = .ok (.aload_n 0, 1) := dk_42 (dk_at dksX7_reads_0 14 rfl rfl)
theorem dX7_reads_15 : decode cX7_reads 15 = .ok (.getfield 183, 3) := dk_180 0 183 (dk_at dksX7_reads_0 15 rfl rfl)
theorem dX7_reads_18 : decode cX7_reads 18 = .ok (.invokevirtual 186, 3) := dk_182 0 186 (dk_at dksX7_reads_0 18 rfl rfl)
theorem dX7_reads_21 : decode cX7_reads 21 = .ok (.bipush 10, 2) := dk_16 10 (dk_at dksX7_reads_0 21 rfl rfl)
theorem dX7_reads_23 : decode cX7_reads 23 = .ok (.if_icmp .ne 16, 3) := dk_160 0 16 (dk_at dksX7_reads_1 0 rfl rfl)
theorem dX7_reads_26 : decode cX7_reads 26 = .ok (.aload_n 0, 1) := dk_42 (dk_at dksX7_reads_1 3 rfl rfl)
theorem dX7_reads_27 : decode cX7_reads 27 = .ok (.dup, 1) := dk_89 (dk_at dksX7_reads_1 4 rfl rfl)
theorem dX7_reads_28 : decode cX7_reads 28 = .ok (.getfield 183, 3) := dk_180 0 183 (dk_at dksX7_reads_1 5 rfl rfl)
theorem dX7_reads_31 : decode cX7_reads 31 = .ok (.iconst 1, 1) := dk_4 (dk_at dksX7_reads_1 8 rfl rfl)
theorem dX7_reads_32 : decode cX7_reads 32 = .ok (.iadd, 1) := dk_96 (dk_at dksX7_reads_1 9 rfl rfl)
theorem dX7_reads_33 : decode cX7_reads 33 = .ok (.putfield 183, 3) := dk_181 0 183 (dk_at dksX7_reads_1 10 rfl rfl)
theorem dX7_reads_36 : decode cX7_reads 36 = .ok (.goto (-36), 3) := dk_167 255 220 (dk_at dksX7_reads_1 13 rfl rfl)
theorem dX7_reads_39 : decode cX7_reads 39 = .ok (.aload_n 0, 1) := dk_42 (dk_at dksX7_reads_1 16 rfl rfl)
theorem dX7_reads_40 : decode cX7_reads 40 = .ok (.aload_n 0, 1) := dk_42 (dk_at dksX7_reads_1 17 rfl rfl)
theorem dX7_reads_41 : decode cX7_reads 41 = .ok (.getfield 183, 3) := dk_180 0 183 (dk_at dksX7_reads_1 18 rfl rfl)
theorem dX7_reads_44 : decode cX7_reads 44 = .ok (.putfield 189, 3) := dk_181 0 189 (dk_at dksX7_reads_1 21 rfl rfl)
theorem dX7_reads_47 : decode cX7_reads 47 = .ok (.aload_n 0, 1) := dk_42 (dk_at dksX7_reads_2 0 rfl rfl)
theorem dX7_reads_48 : decode cX7_reads 48 = .ok (.aload_n 0, 1) := dk_42 (dk_at dksX7_reads_2 1 rfl rfl)
theorem dX7_reads_49 : decode cX7_reads 49 = .ok (.getfield 183, 3) := dk_180 0 183 (dk_at dksX7_reads_2 2 rfl rfl)
theorem dX7_reads_52 : decode cX7_reads 52 = .ok (.invokevirtual 186, 3) := dk_182 0 186 (dk_at dksX7_reads_2 5 rfl rfl)
theorem dX7_reads_55 : decode cX7_reads 55 = .ok (.istore_n 1, 1) := dk_60 (dk_at dksX7_reads_2 8 rfl rfl)
theorem dX7_reads_56 : decode cX7_reads 56 = .ok (.iload_n 1, 1) := dk_27 (dk_at dksX7_reads_2 9 rfl rfl)
theorem dX7_reads_57 : decode cX7_reads 57 = .ok (.iconst (-1), 1) := dk_2 (dk_at dksX7_reads_2 10 rfl rfl)
theorem dX7_reads_58 : decode cX7_reads 58 = .ok (.if_icmp .ne 11, 3) := dk_160 0 11 (dk_at dksX7_reads_2 11 rfl rfl)
theorem dX7_reads_61 : decode cX7_reads 61 = .ok (.aload_n 0, 1) := dk_42 (dk_at dksX7_reads_2 14 rfl rfl)
theorem dX7_reads_62 : decode cX7_reads 62 = .ok (.iconst 0, 1) := dk_3 (dk_at dksX7_reads_2 15 rfl rfl)
theorem dX7_reads_63 : decode cX7_reads 63 = .ok (.putfield 192, 3) := dk_181 0 192 (dk_at dksX7_reads_2 16 rfl rfl)
theorem dX7_reads_66 : decode cX7_reads 66 = .ok (.goto 168, 3) := dk_167 0 168 (dk_at dksX7_reads_2 19 rfl rfl)
theorem dX7_reads_69 : decode cX7_reads 69 = .ok (.iload_n 1, 1) := dk_27 (dk_at dksX7_reads_2 22 rfl rfl)
theorem dX7_reads_70 : decode cX7_reads 70 = .ok (.bipush 97, 2) := dk_16 97 (dk_at dksX7_reads_3 0 rfl rfl)
theorem dX7_reads_72 : decode cX7_reads 72 = .ok (.bipush 122, 2) := dk_16 122 (dk_at dksX7_reads_3 2 rfl rfl)
theorem dX7_reads_74 : decode cX7_reads 74 = .ok (.invokestatic 88, 3) := dk_184 0 88 (dk_at dksX7_reads_3 4 rfl rfl)
theorem dX7_reads_77 : decode cX7_reads 77 = .ok (.ifCond .eq 39, 3) := dk_153 0 39 (dk_at dksX7_reads_3 7 rfl rfl)
theorem dX7_reads_80 : decode cX7_reads 80 = .ok (.aload_n 0, 1) := dk_42 (dk_at dksX7_reads_3 10 rfl rfl)
theorem dX7_reads_81 : decode cX7_reads 81 = .ok (.iconst 1, 1) := dk_4 (dk_at dksX7_reads_3 11 rfl rfl)
theorem dX7_reads_82 : decode cX7_reads 82 = .ok (.putfield 192, 3) := dk_181 0 192 (dk_at dksX7_reads_3 12 rfl rfl)
theorem dX7_reads_85 : decode cX7_reads 85 = .ok (.aload_n 0, 1) := dk_42 (dk_at dksX7_reads_3 15 rfl rfl)
theorem dX7_reads_86 : decode cX7_reads 86 = .ok (.aload_n 0, 1) := dk_42 (dk_at dksX7_reads_3 16 rfl rfl)
theorem dX7_reads_87 : decode cX7_reads 87 = .ok (.getfield 183, 3) := dk_180 0 183 (dk_at dksX7_reads_3 17 rfl rfl)
theorem dX7_reads_90 : decode cX7_reads 90 = .ok (.invokevirtual 186, 3) := dk_182 0 186 (dk_at dksX7_reads_3 20 rfl rfl)
theorem dX7_reads_93 : decode cX7_reads 93 = .ok (.bipush 97, 2) := dk_16 97 (dk_at dksX7_reads_4 0 rfl rfl)
theorem dX7_reads_95 : decode cX7_reads 95 = .ok (.bipush 122, 2) := dk_16 122 (dk_at dksX7_reads_4 2 rfl rfl)
theorem dX7_reads_97 : decode cX7_reads 97 = .ok (.invokestatic 88, 3) := dk_184 0 88 (dk_at dksX7_reads_4 4 rfl rfl)
theorem dX7_reads_100 : decode cX7_reads 100 = .ok (.ifCond .eq 134, 3) := dk_153 0 134 (dk_at dksX7_reads_4 7 rfl rfl)
theorem dX7_reads_103 : decode cX7_reads 103 = .ok (.aload_n 0, 1) := dk_42 (dk_at dksX7_reads_4 10 rfl rfl)
theorem dX7_reads_104 : decode cX7_reads 104 = .ok (.dup, 1) := dk_89 (dk_at dksX7_reads_4 11 rfl rfl)
theorem dX7_reads_105 : decode cX7_reads 105 = .ok (.getfield 183, 3) := dk_180 0 183 (dk_at dksX7_reads_4 12 rfl rfl)
theorem dX7_reads_108 : decode cX7_reads 108 = .ok (.iconst 1, 1) := dk_4 (dk_at dksX7_reads_4 15 rfl rfl)
theorem dX7_reads_109 : decode cX7_reads 109 = .ok (.iadd, 1) := dk_96 (dk_at dksX7_reads_4 16 rfl rfl)
theorem dX7_reads_110 : decode cX7_reads 110 = .ok (.putfield 183, 3) := dk_181 0 183 (dk_at dksX7_reads_4 17 rfl rfl)
theorem dX7_reads_113 : decode cX7_reads 113 = .ok (.goto (-28), 3) := dk_167 255 228 (dk_at dksX7_reads_4 20 rfl rfl)
theorem dX7_reads_116 : decode cX7_reads 116 = .ok (.iload_n 1, 1) := dk_27 (dk_at dksX7_reads_4 23 rfl rfl)
theorem dX7_reads_117 : decode cX7_reads 117 = .ok (.bipush 48, 2) := dk_16 48 (dk_at dksX7_reads_5 0 rfl rfl)
theorem dX7_reads_119 : decode cX7_reads 119 = .ok (.bipush 57, 2) := dk_16 57 (dk_at dksX7_reads_5 2 rfl rfl)
theorem dX7_reads_121 : decode cX7_reads 121 = .ok (.invokestatic 88, 3) := dk_184 0 88 (dk_at dksX7_reads_5 4 rfl rfl)
theorem dX7_reads_124 : decode cX7_reads 124 = .ok (.ifCond .eq 73, 3) := dk_153 0 73 (dk_at dksX7_reads_5 7 rfl rfl)
theorem dX7_reads_127 : decode cX7_reads 127 = .ok (.aload_n 0, 1) := dk_42 (dk_at dksX7_reads_5 10 rfl rfl)
theorem dX7_reads_128 : decode cX7_reads 128 = .ok (.iconst 2, 1) := dk_5 (dk_at dksX7_reads_5 11 rfl rfl)
theorem dX7_reads_129 : decode cX7_reads 129 = .ok (.putfield 192, 3) := dk_181 0 192 (dk_at dksX7_reads_5 12 rfl rfl)
theorem dX7_reads_132 : decode cX7_reads 132 = .ok (.aload_n 0, 1) := dk_42 (dk_at dksX7_reads_5 15 rfl rfl)
theorem dX7_reads_133 : decode cX7_reads 133 = .ok (.iconst 0, 1) := dk_3 (dk_at dksX7_reads_5 16 rfl rfl)
theorem dX7_reads_134 : decode cX7_reads 134 = .ok (.putfield 195, 3) := dk_181 0 195 (dk_at dksX7_reads_5 17 rfl rfl)
theorem dX7_reads_137 : decode cX7_reads 137 = .ok (.aload_n 0, 1) := dk_42 (dk_at dksX7_reads_5 20 rfl rfl)
theorem dX7_reads_138 : decode cX7_reads 138 = .ok (.aload_n 0, 1) := dk_42 (dk_at dksX7_reads_5 21 rfl rfl)
theorem dX7_reads_139 : decode cX7_reads 139 = .ok (.getfield 183, 3) := dk_180 0 183 (dk_at dksX7_reads_6 0 rfl rfl)
theorem dX7_reads_142 : decode cX7_reads 142 = .ok (.invokevirtual 186, 3) := dk_182 0 186 (dk_at dksX7_reads_6 3 rfl rfl)
theorem dX7_reads_145 : decode cX7_reads 145 = .ok (.bipush 48, 2) := dk_16 48 (dk_at dksX7_reads_6 6 rfl rfl)
theorem dX7_reads_147 : decode cX7_reads 147 = .ok (.bipush 57, 2) := dk_16 57 (dk_at dksX7_reads_6 8 rfl rfl)
theorem dX7_reads_149 : decode cX7_reads 149 = .ok (.invokestatic 88, 3) := dk_184 0 88 (dk_at dksX7_reads_6 10 rfl rfl)
theorem dX7_reads_152 : decode cX7_reads 152 = .ok (.ifCond .eq 82, 3) := dk_153 0 82 (dk_at dksX7_reads_6 13 rfl rfl)
theorem dX7_reads_155 : decode cX7_reads 155 = .ok (.aload_n 0, 1) := dk_42 (dk_at dksX7_reads_6 16 rfl rfl)
theorem dX7_reads_156 : decode cX7_reads 156 = .ok (.sipush 1000, 3) := dk_17 3 232 (dk_at dksX7_reads_6 17 rfl rfl)
theorem dX7_reads_159 : decode cX7_reads 159 = .ok (.bipush 10, 2) := dk_16 10 (dk_at dksX7_reads_6 20 rfl rfl)
theorem dX7_reads_161 : decode cX7_reads 161 = .ok (.aload_n 0, 1) := dk_42 (dk_at dksX7_reads_6 22 rfl rfl)
theorem dX7_reads_162 : decode cX7_reads 162 = .ok (.getfield 195, 3) := dk_180 0 195 (dk_at dksX7_reads_7 0 rfl rfl)
theorem dX7_reads_165 : decode cX7_reads 165 = .ok (.imul, 1) := dk_104 (dk_at dksX7_reads_7 3 rfl rfl)
theorem dX7_reads_166 : decode cX7_reads 166 = .ok (.aload_n 0, 1) := dk_42 (dk_at dksX7_reads_7 4 rfl rfl)
theorem dX7_reads_167 : decode cX7_reads 167 = .ok (.aload_n 0, 1) := dk_42 (dk_at dksX7_reads_7 5 rfl rfl)
theorem dX7_reads_168 : decode cX7_reads 168 = .ok (.getfield 183, 3) := dk_180 0 183 (dk_at dksX7_reads_7 6 rfl rfl)
theorem dX7_reads_171 : decode cX7_reads 171 = .ok (.invokevirtual 186, 3) := dk_182 0 186 (dk_at dksX7_reads_7 9 rfl rfl)
theorem dX7_reads_174 : decode cX7_reads 174 = .ok (.iadd, 1) := dk_96 (dk_at dksX7_reads_7 12 rfl rfl)
theorem dX7_reads_175 : decode cX7_reads 175 = .ok (.bipush 48, 2) := dk_16 48 (dk_at dksX7_reads_7 13 rfl rfl)
theorem dX7_reads_177 : decode cX7_reads 177 = .ok (.isub, 1) := dk_100 (dk_at dksX7_reads_7 15 rfl rfl)
theorem dX7_reads_178 : decode cX7_reads 178 = .ok (.invokestatic 115, 3) := dk_184 0 115 (dk_at dksX7_reads_7 16 rfl rfl)
theorem dX7_reads_181 : decode cX7_reads 181 = .ok (.putfield 195, 3) := dk_181 0 195 (dk_at dksX7_reads_7 19 rfl rfl)
theorem dX7_reads_184 : decode cX7_reads 184 = .ok (.aload_n 0, 1) := dk_42 (dk_at dksX7_reads_7 22 rfl rfl)
theorem dX7_reads_185 : decode cX7_reads 185 = .ok (.dup, 1) := dk_89 (dk_at dksX7_reads_7 23 rfl rfl)
theorem dX7_reads_186 : decode cX7_reads 186 = .ok (.getfield 183, 3) := dk_180 0 183 (dk_at dksX7_reads_8 0 rfl rfl)
theorem dX7_reads_189 : decode cX7_reads 189 = .ok (.iconst 1, 1) := dk_4 (dk_at dksX7_reads_8 3 rfl rfl)
theorem dX7_reads_190 : decode cX7_reads 190 = .ok (.iadd, 1) := dk_96 (dk_at dksX7_reads_8 4 rfl rfl)
theorem dX7_reads_191 : decode cX7_reads 191 = .ok (.putfield 183, 3) := dk_181 0 183 (dk_at dksX7_reads_8 5 rfl rfl)
theorem dX7_reads_194 : decode cX7_reads 194 = .ok (.goto (-57), 3) := dk_167 255 199 (dk_at dksX7_reads_8 8 rfl rfl)
theorem dX7_reads_197 : decode cX7_reads 197 = .ok (.aload_n 0, 1) := dk_42 (dk_at dksX7_reads_8 11 rfl rfl)
theorem dX7_reads_198 : decode cX7_reads 198 = .ok (.iload_n 1, 1) := dk_27 (dk_at dksX7_reads_8 12 rfl rfl)
theorem dX7_reads_199 : decode cX7_reads 199 = .ok (.bipush 59, 2) := dk_16 59 (dk_at dksX7_reads_8 13 rfl rfl)
theorem dX7_reads_201 : decode cX7_reads 201 = .ok (.if_icmp .eq 15, 3) := dk_159 0 15 (dk_at dksX7_reads_8 15 rfl rfl)
theorem dX7_reads_204 : decode cX7_reads 204 = .ok (.iload_n 1, 1) := dk_27 (dk_at dksX7_reads_8 18 rfl rfl)
theorem dX7_reads_205 : decode cX7_reads 205 = .ok (.bipush 40, 2) := dk_16 40 (dk_at dksX7_reads_8 19 rfl rfl)
theorem dX7_reads_207 : decode cX7_reads 207 = .ok (.if_icmp .eq 9, 3) := dk_159 0 9 (dk_at dksX7_reads_8 21 rfl rfl)
theorem dX7_reads_210 : decode cX7_reads 210 = .ok (.iload_n 1, 1) := dk_27 (dk_at dksX7_reads_9 0 rfl rfl)
theorem dX7_reads_211 : decode cX7_reads 211 = .ok (.bipush 41, 2) := dk_16 41 (dk_at dksX7_reads_9 1 rfl rfl)
theorem dX7_reads_213 : decode cX7_reads 213 = .ok (.if_icmp .ne 7, 3) := dk_160 0 7 (dk_at dksX7_reads_9 3 rfl rfl)
theorem dX7_reads_216 : decode cX7_reads 216 = .ok (.iconst 3, 1) := dk_6 (dk_at dksX7_reads_9 6 rfl rfl)
theorem dX7_reads_217 : decode cX7_reads 217 = .ok (.goto 4, 3) := dk_167 0 4 (dk_at dksX7_reads_9 7 rfl rfl)
theorem dX7_reads_220 : decode cX7_reads 220 = .ok (.iconst 4, 1) := dk_7 (dk_at dksX7_reads_9 10 rfl rfl)
theorem dX7_reads_221 : decode cX7_reads 221 = .ok (.putfield 192, 3) := dk_181 0 192 (dk_at dksX7_reads_9 11 rfl rfl)
theorem dX7_reads_224 : decode cX7_reads 224 = .ok (.aload_n 0, 1) := dk_42 (dk_at dksX7_reads_9 14 rfl rfl)
theorem dX7_reads_225 : decode cX7_reads 225 = .ok (.dup, 1) := dk_89 (dk_at dksX7_reads_9 15 rfl rfl)
theorem dX7_reads_226 : decode cX7_reads 226 = .ok (.getfield 183, 3) := dk_180 0 183 (dk_at dksX7_reads_9 16 rfl rfl)
theorem dX7_reads_229 : decode cX7_reads 229 = .ok (.iconst 1, 1) := dk_4 (dk_at dksX7_reads_9 19 rfl rfl)
theorem dX7_reads_230 : decode cX7_reads 230 = .ok (.iadd, 1) := dk_96 (dk_at dksX7_reads_9 20 rfl rfl)
theorem dX7_reads_231 : decode cX7_reads 231 = .ok (.putfield 183, 3) := dk_181 0 183 (dk_at dksX7_reads_9 21 rfl rfl)
theorem dX7_reads_234 : decode cX7_reads 234 = .ok (.return_, 1) := dk_177 (dk_at dksX7_reads_10 0 rfl rfl)
abbrev cX7_seen : ByteArray := prog_21_method_38_code
def yX7_seen : MethodName := ⟨RX7, "seen", "(I)I"⟩
def dkwX7_seen_0 : List UInt8 := [27, 42, 180, 0, 76, 162, 0, 12, 42, 180, 0, 33, 27, 46, 167, 0, 4, 2, 172]
abbrev dktX7_seen_0 : List UInt8 := dkwX7_seen_0 ++ []
theorem dksX7_seen_0 : cX7_seen.data.toList.drop 0 = dktX7_seen_0 := by decide +kernel
theorem dX7_seen_0 : decode cX7_seen 0 = .ok (.iload_n 1, 1) := dk_27 (dk_at dksX7_seen_0 0 rfl rfl)
theorem dX7_seen_1 : decode cX7_seen 1 = .ok (.aload_n 0, 1) := dk_42 (dk_at dksX7_seen_0 1 rfl rfl)
theorem dX7_seen_2 : decode cX7_seen 2 = .ok (.getfield 76, 3) := dk_180 0 76 (dk_at dksX7_seen_0 2 rfl rfl)
theorem dX7_seen_5 : decode cX7_seen 5 = .ok (.if_icmp .ge 12, 3) := dk_162 0 12 (dk_at dksX7_seen_0 5 rfl rfl)
theorem dX7_seen_8 : decode cX7_seen 8 = .ok (.aload_n 0, 1) := dk_42 (dk_at dksX7_seen_0 8 rfl rfl)
theorem dX7_seen_9 : decode cX7_seen 9 = .ok (.getfield 33, 3) := dk_180 0 33 (dk_at dksX7_seen_0 9 rfl rfl)
theorem dX7_seen_12 : decode cX7_seen 12 = .ok (.iload_n 1, 1) := dk_27 (dk_at dksX7_seen_0 12 rfl rfl)
theorem dX7_seen_13 : decode cX7_seen 13 = .ok (.iaload, 1) := dk_46 (dk_at dksX7_seen_0 13 rfl rfl)
theorem dX7_seen_14 : decode cX7_seen 14 = .ok (.goto 4, 3) := dk_167 0 4 (dk_at dksX7_seen_0 14 rfl rfl)
theorem dX7_seen_17 : decode cX7_seen 17 = .ok (.iconst (-1), 1) := dk_2 (dk_at dksX7_seen_0 17 rfl rfl)
theorem dX7_seen_18 : decode cX7_seen 18 = .ok (.ireturn, 1) := dk_172 (dk_at dksX7_seen_0 18 rfl rfl)
abbrev cX7_in : ByteArray := prog_21_method_4_code
def yX7_in : MethodName := ⟨RX7, "in", "(III)Z"⟩
def dkwX7_in_0 : List UInt8 := [27, 26, 163, 0, 12, 26, 28, 163, 0, 7, 4, 167, 0, 4, 3, 172]
abbrev dktX7_in_0 : List UInt8 := dkwX7_in_0 ++ []
theorem dksX7_in_0 : cX7_in.data.toList.drop 0 = dktX7_in_0 := by decide +kernel
theorem dX7_in_0 : decode cX7_in 0 = .ok (.iload_n 1, 1) := dk_27 (dk_at dksX7_in_0 0 rfl rfl)
theorem dX7_in_1 : decode cX7_in 1 = .ok (.iload_n 0, 1) := dk_26 (dk_at dksX7_in_0 1 rfl rfl)
theorem dX7_in_2 : decode cX7_in 2 = .ok (.if_icmp .gt 12, 3) := dk_163 0 12 (dk_at dksX7_in_0 2 rfl rfl)
theorem dX7_in_5 : decode cX7_in 5 = .ok (.iload_n 0, 1) := dk_26 (dk_at dksX7_in_0 5 rfl rfl)
theorem dX7_in_6 : decode cX7_in 6 = .ok (.iload_n 2, 1) := dk_28 (dk_at dksX7_in_0 6 rfl rfl)
theorem dX7_in_7 : decode cX7_in 7 = .ok (.if_icmp .gt 7, 3) := dk_163 0 7 (dk_at dksX7_in_0 7 rfl rfl)
theorem dX7_in_10 : decode cX7_in 10 = .ok (.iconst 1, 1) := dk_4 (dk_at dksX7_in_0 10 rfl rfl)
theorem dX7_in_11 : decode cX7_in 11 = .ok (.goto 4, 3) := dk_167 0 4 (dk_at dksX7_in_0 11 rfl rfl)
theorem dX7_in_14 : decode cX7_in 14 = .ok (.iconst 0, 1) := dk_3 (dk_at dksX7_in_0 14 rfl rfl)
theorem dX7_in_15 : decode cX7_in 15 = .ok (.ireturn, 1) := dk_172 (dk_at dksX7_in_0 15 rfl rfl)
abbrev cX7_readsSetup : ByteArray := prog_21_method_59_code
def yX7_readsSetup : MethodName := ⟨RX7, "readsSetup", "()V"⟩
def dkwX7_readsSetup_6 : List UInt8 := [180, 0, 192, 153, 0, 10, 42, 182, 1, 19, 167, 255, 238, 177]
abbrev dktX7_readsSetup_6 : List UInt8 := dkwX7_readsSetup_6 ++ []
def dkwX7_readsSetup_5 : List UInt8 := [153, 0, 10, 42, 182, 1, 16, 167, 255, 242, 42, 182, 1, 19, 42, 180, 0, 198, 154, 0, 17, 42]
abbrev dktX7_readsSetup_5 : List UInt8 := dkwX7_readsSetup_5 ++ dktX7_readsSetup_6
def dkwX7_readsSetup_4 : List UInt8 := [182, 0, 252, 153, 0, 10, 42, 182, 1, 13, 167, 255, 243, 42, 182, 1, 16, 42, 19, 1, 7, 182, 0, 252]
abbrev dktX7_readsSetup_4 : List UInt8 := dkwX7_readsSetup_4 ++ dktX7_readsSetup_5
def dkwX7_readsSetup_3 : List UInt8 := [180, 0, 7, 7, 42, 3, 6, 182, 0, 238, 79, 42, 16, 59, 182, 1, 4, 42, 182, 1, 13, 42, 18, 250]
abbrev dktX7_readsSetup_3 : List UInt8 := dkwX7_readsSetup_3 ++ dktX7_readsSetup_4
def dkwX7_readsSetup_2 : List UInt8 := [42, 3, 16, 99, 182, 0, 238, 79, 42, 180, 0, 7, 6, 42, 3, 16, 99, 182, 0, 238, 79, 42]
abbrev dktX7_readsSetup_2 : List UInt8 := dkwX7_readsSetup_2 ++ dktX7_readsSetup_3
def dkwX7_readsSetup_1 : List UInt8 := [16, 12, 182, 0, 238, 79, 42, 180, 0, 7, 4, 42, 3, 16, 9, 182, 0, 238, 79, 42, 180, 0, 7, 5]
abbrev dktX7_readsSetup_1 : List UInt8 := dkwX7_readsSetup_1 ++ dktX7_readsSetup_2
def dkwX7_readsSetup_0 : List UInt8 := [42, 42, 19, 1, 11, 182, 0, 252, 4, 182, 0, 210, 87, 42, 182, 0, 213, 42, 180, 0, 7, 3, 42, 4]
abbrev dktX7_readsSetup_0 : List UInt8 := dkwX7_readsSetup_0 ++ dktX7_readsSetup_1
theorem dksX7_readsSetup_0 : cX7_readsSetup.data.toList.drop 0 = dktX7_readsSetup_0 := by decide +kernel
theorem dksX7_readsSetup_1 : cX7_readsSetup.data.toList.drop 24 = dktX7_readsSetup_1 := dk_seg dksX7_readsSetup_0 24 rfl rfl
theorem dksX7_readsSetup_2 : cX7_readsSetup.data.toList.drop 48 = dktX7_readsSetup_2 := dk_seg dksX7_readsSetup_1 24 rfl rfl
theorem dksX7_readsSetup_3 : cX7_readsSetup.data.toList.drop 70 = dktX7_readsSetup_3 := dk_seg dksX7_readsSetup_2 22 rfl rfl
theorem dksX7_readsSetup_4 : cX7_readsSetup.data.toList.drop 94 = dktX7_readsSetup_4 := dk_seg dksX7_readsSetup_3 24 rfl rfl
theorem dksX7_readsSetup_5 : cX7_readsSetup.data.toList.drop 118 = dktX7_readsSetup_5 := dk_seg dksX7_readsSetup_4 24 rfl rfl
theorem dksX7_readsSetup_6 : cX7_readsSetup.data.toList.drop 140 = dktX7_readsSetup_6 := dk_seg dksX7_readsSetup_5 22 rfl rfl
theorem dX7_readsSetup_0 : decode cX7_readsSetup 0 = .ok (.aload_n 0, 1) := dk_42 (dk_at dksX7_readsSetup_0 0 rfl rfl)
theorem dX7_readsSetup_1 : decode cX7_readsSetup 1 = .ok (.aload_n 0, 1) := dk_42 (dk_at dksX7_readsSetup_0 1 rfl rfl)
theorem dX7_readsSetup_2 : decode cX7_readsSetup 2 = .ok (.ldc_w 267, 3) := dk_19 1 11 (dk_at dksX7_readsSetup_0 2 rfl rfl)
theorem dX7_readsSetup_5 : decode cX7_readsSetup 5 = .ok (.invokevirtual 252, 3) := dk_182 0 252 (dk_at dksX7_readsSetup_0 5 rfl rfl)
theorem dX7_readsSetup_8 : decode cX7_readsSetup 8 = .ok (.iconst 1, 1) := dk_4 (dk_at dksX7_readsSetup_0 8 rfl rfl)
theorem dX7_readsSetup_9 : decode cX7_readsSetup 9 = .ok (.invokevirtual 210, 3) := dk_182 0 210 (dk_at dksX7_readsSetup_0 9 rfl rfl)
theorem dX7_readsSetup_12 : decode cX7_readsSetup 12 = .ok (.pop, 1) := dk_87 (dk_at dksX7_readsSetup_0 12 rfl rfl)
theorem dX7_readsSetup_13 : decode cX7_readsSetup 13 = .ok (.aload_n 0, 1) := dk_42 (dk_at dksX7_readsSetup_0 13 rfl rfl)
theorem dX7_readsSetup_14 : decode cX7_readsSetup 14 = .ok (.invokevirtual 213, 3) := dk_182 0 213 (dk_at dksX7_readsSetup_0 14 rfl rfl)
theorem dX7_readsSetup_17 : decode cX7_readsSetup 17 = .ok (.aload_n 0, 1) := dk_42 (dk_at dksX7_readsSetup_0 17 rfl rfl)
theorem dX7_readsSetup_18 : decode cX7_readsSetup 18 = .ok (.getfield 7, 3) := dk_180 0 7 (dk_at dksX7_readsSetup_0 18 rfl rfl)
theorem dX7_readsSetup_21 : decode cX7_readsSetup 21 = .ok (.iconst 0, 1) := dk_3 (dk_at dksX7_readsSetup_0 21 rfl rfl)
theorem dX7_readsSetup_22 : decode cX7_readsSetup 22 = .ok (.aload_n 0, 1) := dk_42 (dk_at dksX7_readsSetup_0 22 rfl rfl)
theorem dX7_readsSetup_23 : decode cX7_readsSetup 23 = .ok (.iconst 1, 1) := dk_4 (dk_at dksX7_readsSetup_0 23 rfl rfl)
theorem dX7_readsSetup_24 : decode cX7_readsSetup 24 = .ok (.bipush 12, 2) := dk_16 12 (dk_at dksX7_readsSetup_1 0 rfl rfl)
theorem dX7_readsSetup_26 : decode cX7_readsSetup 26 = .ok (.invokevirtual 238, 3) := dk_182 0 238 (dk_at dksX7_readsSetup_1 2 rfl rfl)
theorem dX7_readsSetup_29 : decode cX7_readsSetup 29 = .ok (.iastore, 1) := dk_79 (dk_at dksX7_readsSetup_1 5 rfl rfl)
theorem dX7_readsSetup_30 : decode cX7_readsSetup 30 = .ok (.aload_n 0, 1) := dk_42 (dk_at dksX7_readsSetup_1 6 rfl rfl)
theorem dX7_readsSetup_31 : decode cX7_readsSetup 31 = .ok (.getfield 7, 3) := dk_180 0 7 (dk_at dksX7_readsSetup_1 7 rfl rfl)
theorem dX7_readsSetup_34 : decode cX7_readsSetup 34 = .ok (.iconst 1, 1) := dk_4 (dk_at dksX7_readsSetup_1 10 rfl rfl)
theorem dX7_readsSetup_35 : decode cX7_readsSetup 35 = .ok (.aload_n 0, 1) := dk_42 (dk_at dksX7_readsSetup_1 11 rfl rfl)
theorem dX7_readsSetup_36 : decode cX7_readsSetup 36 = .ok (.iconst 0, 1) := dk_3 (dk_at dksX7_readsSetup_1 12 rfl rfl)
theorem dX7_readsSetup_37 : decode cX7_readsSetup 37 = .ok (.bipush 9, 2) := dk_16 9 (dk_at dksX7_readsSetup_1 13 rfl rfl)
theorem dX7_readsSetup_39 : decode cX7_readsSetup 39 = .ok (.invokevirtual 238, 3) := dk_182 0 238 (dk_at dksX7_readsSetup_1 15 rfl rfl)
theorem dX7_readsSetup_42 : decode cX7_readsSetup 42 = .ok (.iastore, 1) := dk_79 (dk_at dksX7_readsSetup_1 18 rfl rfl)
theorem dX7_readsSetup_43 : decode cX7_readsSetup 43 = .ok (.aload_n 0, 1) := dk_42 (dk_at dksX7_readsSetup_1 19 rfl rfl)
theorem dX7_readsSetup_44 : decode cX7_readsSetup 44 = .ok (.getfield 7, 3) := dk_180 0 7 (dk_at dksX7_readsSetup_1 20 rfl rfl)
theorem dX7_readsSetup_47 : decode cX7_readsSetup 47 = .ok (.iconst 2, 1) := dk_5 (dk_at dksX7_readsSetup_1 23 rfl rfl)
theorem dX7_readsSetup_48 : decode cX7_readsSetup 48 = .ok (.aload_n 0, 1) := dk_42 (dk_at dksX7_readsSetup_2 0 rfl rfl)
theorem dX7_readsSetup_49 : decode cX7_readsSetup 49 = .ok (.iconst 0, 1) := dk_3 (dk_at dksX7_readsSetup_2 1 rfl rfl)
theorem dX7_readsSetup_50 : decode cX7_readsSetup 50 = .ok (.bipush 99, 2) := dk_16 99 (dk_at dksX7_readsSetup_2 2 rfl rfl)
theorem dX7_readsSetup_52 : decode cX7_readsSetup 52 = .ok (.invokevirtual 238, 3) := dk_182 0 238 (dk_at dksX7_readsSetup_2 4 rfl rfl)
theorem dX7_readsSetup_55 : decode cX7_readsSetup 55 = .ok (.iastore, 1) := dk_79 (dk_at dksX7_readsSetup_2 7 rfl rfl)
theorem dX7_readsSetup_56 : decode cX7_readsSetup 56 = .ok (.aload_n 0, 1) := dk_42 (dk_at dksX7_readsSetup_2 8 rfl rfl)
theorem dX7_readsSetup_57 : decode cX7_readsSetup 57 = .ok (.getfield 7, 3) := dk_180 0 7 (dk_at dksX7_readsSetup_2 9 rfl rfl)
theorem dX7_readsSetup_60 : decode cX7_readsSetup 60 = .ok (.iconst 3, 1) := dk_6 (dk_at dksX7_readsSetup_2 12 rfl rfl)
theorem dX7_readsSetup_61 : decode cX7_readsSetup 61 = .ok (.aload_n 0, 1) := dk_42 (dk_at dksX7_readsSetup_2 13 rfl rfl)
theorem dX7_readsSetup_62 : decode cX7_readsSetup 62 = .ok (.iconst 0, 1) := dk_3 (dk_at dksX7_readsSetup_2 14 rfl rfl)
theorem dX7_readsSetup_63 : decode cX7_readsSetup 63 = .ok (.bipush 99, 2) := dk_16 99 (dk_at dksX7_readsSetup_2 15 rfl rfl)
theorem dX7_readsSetup_65 : decode cX7_readsSetup 65 = .ok (.invokevirtual 238, 3) := dk_182 0 238 (dk_at dksX7_readsSetup_2 17 rfl rfl)
theorem dX7_readsSetup_68 : decode cX7_readsSetup 68 = .ok (.iastore, 1) := dk_79 (dk_at dksX7_readsSetup_2 20 rfl rfl)
theorem dX7_readsSetup_69 : decode cX7_readsSetup 69 = .ok (.aload_n 0, 1) := dk_42 (dk_at dksX7_readsSetup_2 21 rfl rfl)
theorem dX7_readsSetup_70 : decode cX7_readsSetup 70 = .ok (.getfield 7, 3) := dk_180 0 7 (dk_at dksX7_readsSetup_3 0 rfl rfl)
theorem dX7_readsSetup_73 : decode cX7_readsSetup 73 = .ok (.iconst 4, 1) := dk_7 (dk_at dksX7_readsSetup_3 3 rfl rfl)
theorem dX7_readsSetup_74 : decode cX7_readsSetup 74 = .ok (.aload_n 0, 1) := dk_42 (dk_at dksX7_readsSetup_3 4 rfl rfl)
theorem dX7_readsSetup_75 : decode cX7_readsSetup 75 = .ok (.iconst 0, 1) := dk_3 (dk_at dksX7_readsSetup_3 5 rfl rfl)
theorem dX7_readsSetup_76 : decode cX7_readsSetup 76 = .ok (.iconst 3, 1) := dk_6 (dk_at dksX7_readsSetup_3 6 rfl rfl)
theorem dX7_readsSetup_77 : decode cX7_readsSetup 77 = .ok (.invokevirtual 238, 3) := dk_182 0 238 (dk_at dksX7_readsSetup_3 7 rfl rfl)
theorem dX7_readsSetup_80 : decode cX7_readsSetup 80 = .ok (.iastore, 1) := dk_79 (dk_at dksX7_readsSetup_3 10 rfl rfl)
theorem dX7_readsSetup_81 : decode cX7_readsSetup 81 = .ok (.aload_n 0, 1) := dk_42 (dk_at dksX7_readsSetup_3 11 rfl rfl)
theorem dX7_readsSetup_82 : decode cX7_readsSetup 82 = .ok (.bipush 59, 2) := dk_16 59 (dk_at dksX7_readsSetup_3 12 rfl rfl)
theorem dX7_readsSetup_84 : decode cX7_readsSetup 84 = .ok (.invokevirtual 260, 3) := dk_182 1 4 (dk_at dksX7_readsSetup_3 14 rfl rfl)
theorem dX7_readsSetup_87 : decode cX7_readsSetup 87 = .ok (.aload_n 0, 1) := dk_42 (dk_at dksX7_readsSetup_3 17 rfl rfl)
theorem dX7_readsSetup_88 : decode cX7_readsSetup 88 = .ok (.invokevirtual 269, 3) := dk_182 1 13 (dk_at dksX7_readsSetup_3 18 rfl rfl)
theorem dX7_readsSetup_91 : decode cX7_readsSetup 91 = .ok (.aload_n 0, 1) := dk_42 (dk_at dksX7_readsSetup_3 21 rfl rfl)
theorem dX7_readsSetup_92 : decode cX7_readsSetup 92 = .ok (.ldc 250, 2) := dk_18 250 (dk_at dksX7_readsSetup_3 22 rfl rfl)
theorem dX7_readsSetup_94 : decode cX7_readsSetup 94 = .ok (.invokevirtual 252, 3) := dk_182 0 252 (dk_at dksX7_readsSetup_4 0 rfl rfl)
theorem dX7_readsSetup_97 : decode cX7_readsSetup 97 = .ok (.ifCond .eq 10, 3) := dk_153 0 10 (dk_at dksX7_readsSetup_4 3 rfl rfl)
theorem dX7_readsSetup_100 : decode cX7_readsSetup 100 = .ok (.aload_n 0, 1) := dk_42 (dk_at dksX7_readsSetup_4 6 rfl rfl)
theorem dX7_readsSetup_101 : decode cX7_readsSetup 101 = .ok (.invokevirtual 269, 3) := dk_182 1 13 (dk_at dksX7_readsSetup_4 7 rfl rfl)
theorem dX7_readsSetup_104 : decode cX7_readsSetup 104 = .ok (.goto (-13), 3) := dk_167 255 243 (dk_at dksX7_readsSetup_4 10 rfl rfl)
theorem dX7_readsSetup_107 : decode cX7_readsSetup 107 = .ok (.aload_n 0, 1) := dk_42 (dk_at dksX7_readsSetup_4 13 rfl rfl)
theorem dX7_readsSetup_108 : decode cX7_readsSetup 108 = .ok (.invokevirtual 272, 3) := dk_182 1 16 (dk_at dksX7_readsSetup_4 14 rfl rfl)
theorem dX7_readsSetup_111 : decode cX7_readsSetup 111 = .ok (.aload_n 0, 1) := dk_42 (dk_at dksX7_readsSetup_4 17 rfl rfl)
theorem dX7_readsSetup_112 : decode cX7_readsSetup 112 = .ok (.ldc_w 263, 3) := dk_19 1 7 (dk_at dksX7_readsSetup_4 18 rfl rfl)
theorem dX7_readsSetup_115 : decode cX7_readsSetup 115 = .ok (.invokevirtual 252, 3) := dk_182 0 252 (dk_at dksX7_readsSetup_4 21 rfl rfl)
theorem dX7_readsSetup_118 : decode cX7_readsSetup 118 = .ok (.ifCond .eq 10, 3) := dk_153 0 10 (dk_at dksX7_readsSetup_5 0 rfl rfl)
theorem dX7_readsSetup_121 : decode cX7_readsSetup 121 = .ok (.aload_n 0, 1) := dk_42 (dk_at dksX7_readsSetup_5 3 rfl rfl)
theorem dX7_readsSetup_122 : decode cX7_readsSetup 122 = .ok (.invokevirtual 272, 3) := dk_182 1 16 (dk_at dksX7_readsSetup_5 4 rfl rfl)
theorem dX7_readsSetup_125 : decode cX7_readsSetup 125 = .ok (.goto (-14), 3) := dk_167 255 242 (dk_at dksX7_readsSetup_5 7 rfl rfl)
theorem dX7_readsSetup_128 : decode cX7_readsSetup 128 = .ok (.aload_n 0, 1) := dk_42 (dk_at dksX7_readsSetup_5 10 rfl rfl)
theorem dX7_readsSetup_129 : decode cX7_readsSetup 129 = .ok (.invokevirtual 275, 3) := dk_182 1 19 (dk_at dksX7_readsSetup_5 11 rfl rfl)
theorem dX7_readsSetup_132 : decode cX7_readsSetup 132 = .ok (.aload_n 0, 1) := dk_42 (dk_at dksX7_readsSetup_5 14 rfl rfl)
theorem dX7_readsSetup_133 : decode cX7_readsSetup 133 = .ok (.getfield 198, 3) := dk_180 0 198 (dk_at dksX7_readsSetup_5 15 rfl rfl)
theorem dX7_readsSetup_136 : decode cX7_readsSetup 136 = .ok (.ifCond .ne 17, 3) := dk_154 0 17 (dk_at dksX7_readsSetup_5 18 rfl rfl)
theorem dX7_readsSetup_139 : decode cX7_readsSetup 139 = .ok (.aload_n 0, 1) := dk_42 (dk_at dksX7_readsSetup_5 21 rfl rfl)
theorem dX7_readsSetup_140 : decode cX7_readsSetup 140 = .ok (.getfield 192, 3) := dk_180 0 192 (dk_at dksX7_readsSetup_6 0 rfl rfl)
theorem dX7_readsSetup_143 : decode cX7_readsSetup 143 = .ok (.ifCond .eq 10, 3) := dk_153 0 10 (dk_at dksX7_readsSetup_6 3 rfl rfl)
theorem dX7_readsSetup_146 : decode cX7_readsSetup 146 = .ok (.aload_n 0, 1) := dk_42 (dk_at dksX7_readsSetup_6 6 rfl rfl)
theorem dX7_readsSetup_147 : decode cX7_readsSetup 147 = .ok (.invokevirtual 275, 3) := dk_182 1 19 (dk_at dksX7_readsSetup_6 7 rfl rfl)
theorem dX7_readsSetup_150 : decode cX7_readsSetup 150 = .ok (.goto (-18), 3) := dk_167 255 238 (dk_at dksX7_readsSetup_6 10 rfl rfl)
theorem dX7_readsSetup_153 : decode cX7_readsSetup 153 = .ok (.return_, 1) := dk_177 (dk_at dksX7_readsSetup_6 13 rfl rfl)
abbrev cX7_isWord : ByteArray := prog_21_method_44_code
def yX7_isWord : MethodName := ⟨RX7, "isWord", "(Ljava/lang/String;)Z"⟩
def dkwX7_isWord_2 : List UInt8 := [180, 0, 189, 28, 96, 46, 43, 28, 182, 0, 72, 159, 0, 5, 3, 172, 132, 2, 1, 167, 255, 224, 4, 172]
abbrev dktX7_isWord_2 : List UInt8 := dkwX7_isWord_2 ++ []
def dkwX7_isWord_1 : List UInt8 := [43, 182, 0, 66, 159, 0, 5, 3, 172, 3, 61, 28, 43, 182, 0, 66, 162, 0, 30, 42, 180, 0, 33, 42]
abbrev dktX7_isWord_1 : List UInt8 := dkwX7_isWord_1 ++ dktX7_isWord_2
def dkwX7_isWord_0 : List UInt8 := [42, 180, 0, 198, 154, 0, 27, 42, 180, 0, 192, 4, 160, 0, 19, 42, 180, 0, 183, 42, 180, 0, 189, 100]
abbrev dktX7_isWord_0 : List UInt8 := dkwX7_isWord_0 ++ dktX7_isWord_1
theorem dksX7_isWord_0 : cX7_isWord.data.toList.drop 0 = dktX7_isWord_0 := by decide +kernel
theorem dksX7_isWord_1 : cX7_isWord.data.toList.drop 24 = dktX7_isWord_1 := dk_seg dksX7_isWord_0 24 rfl rfl
theorem dksX7_isWord_2 : cX7_isWord.data.toList.drop 48 = dktX7_isWord_2 := dk_seg dksX7_isWord_1 24 rfl rfl
theorem dX7_isWord_0 : decode cX7_isWord 0 = .ok (.aload_n 0, 1) := dk_42 (dk_at dksX7_isWord_0 0 rfl rfl)
theorem dX7_isWord_1 : decode cX7_isWord 1 = .ok (.getfield 198, 3) := dk_180 0 198 (dk_at dksX7_isWord_0 1 rfl rfl)
theorem dX7_isWord_4 : decode cX7_isWord 4 = .ok (.ifCond .ne 27, 3) := dk_154 0 27 (dk_at dksX7_isWord_0 4 rfl rfl)
theorem dX7_isWord_7 : decode cX7_isWord 7 = .ok (.aload_n 0, 1) := dk_42 (dk_at dksX7_isWord_0 7 rfl rfl)
theorem dX7_isWord_8 : decode cX7_isWord 8 = .ok (.getfield 192, 3) := dk_180 0 192 (dk_at dksX7_isWord_0 8 rfl rfl)
theorem dX7_isWord_11 : decode cX7_isWord 11 = .ok (.iconst 1, 1) := dk_4 (dk_at dksX7_isWord_0 11 rfl rfl)
theorem dX7_isWord_12 : decode cX7_isWord 12 = .ok (.if_icmp .ne 19, 3) := dk_160 0 19 (dk_at dksX7_isWord_0 12 rfl rfl)
theorem dX7_isWord_15 : decode cX7_isWord 15 = .ok (.aload_n 0, 1) := dk_42 (dk_at dksX7_isWord_0 15 rfl rfl)
theorem dX7_isWord_16 : decode cX7_isWord 16 = .ok (.getfield 183, 3) := dk_180 0 183 (dk_at dksX7_isWord_0 16 rfl rfl)
theorem dX7_isWord_19 : decode cX7_isWord 19 = .ok (.aload_n 0, 1) := dk_42 (dk_at dksX7_isWord_0 19 rfl rfl)
theorem dX7_isWord_20 : decode cX7_isWord 20 = .ok (.getfield 189, 3) := dk_180 0 189 (dk_at dksX7_isWord_0 20 rfl rfl)
theorem dX7_isWord_23 : decode cX7_isWord 23 = .ok (.isub, 1) := dk_100 (dk_at dksX7_isWord_0 23 rfl rfl)
theorem dX7_isWord_24 : decode cX7_isWord 24 = .ok (.aload_n 1, 1) := dk_43 (dk_at dksX7_isWord_1 0 rfl rfl)
theorem dX7_isWord_25 : decode cX7_isWord 25 = .ok (.invokevirtual 66, 3) := dk_182 0 66 (dk_at dksX7_isWord_1 1 rfl rfl)
theorem dX7_isWord_28 : decode cX7_isWord 28 = .ok (.if_icmp .eq 5, 3) := dk_159 0 5 (dk_at dksX7_isWord_1 4 rfl rfl)
theorem dX7_isWord_31 : decode cX7_isWord 31 = .ok (.iconst 0, 1) := dk_3 (dk_at dksX7_isWord_1 7 rfl rfl)
theorem dX7_isWord_32 : decode cX7_isWord 32 = .ok (.ireturn, 1) := dk_172 (dk_at dksX7_isWord_1 8 rfl rfl)
theorem dX7_isWord_33 : decode cX7_isWord 33 = .ok (.iconst 0, 1) := dk_3 (dk_at dksX7_isWord_1 9 rfl rfl)
theorem dX7_isWord_34 : decode cX7_isWord 34 = .ok (.istore_n 2, 1) := dk_61 (dk_at dksX7_isWord_1 10 rfl rfl)
theorem dX7_isWord_35 : decode cX7_isWord 35 = .ok (.iload_n 2, 1) := dk_28 (dk_at dksX7_isWord_1 11 rfl rfl)
theorem dX7_isWord_36 : decode cX7_isWord 36 = .ok (.aload_n 1, 1) := dk_43 (dk_at dksX7_isWord_1 12 rfl rfl)
theorem dX7_isWord_37 : decode cX7_isWord 37 = .ok (.invokevirtual 66, 3) := dk_182 0 66 (dk_at dksX7_isWord_1 13 rfl rfl)
theorem dX7_isWord_40 : decode cX7_isWord 40 = .ok (.if_icmp .ge 30, 3) := dk_162 0 30 (dk_at dksX7_isWord_1 16 rfl rfl)
theorem dX7_isWord_43 : decode cX7_isWord 43 = .ok (.aload_n 0, 1) := dk_42 (dk_at dksX7_isWord_1 19 rfl rfl)
theorem dX7_isWord_44 : decode cX7_isWord 44 = .ok (.getfield 33, 3) := dk_180 0 33 (dk_at dksX7_isWord_1 20 rfl rfl)
theorem dX7_isWord_47 : decode cX7_isWord 47 = .ok (.aload_n 0, 1) := dk_42 (dk_at dksX7_isWord_1 23 rfl rfl)
theorem dX7_isWord_48 : decode cX7_isWord 48 = .ok (.getfield 189, 3) := dk_180 0 189 (dk_at dksX7_isWord_2 0 rfl rfl)
theorem dX7_isWord_51 : decode cX7_isWord 51 = .ok (.iload_n 2, 1) := dk_28 (dk_at dksX7_isWord_2 3 rfl rfl)
theorem dX7_isWord_52 : decode cX7_isWord 52 = .ok (.iadd, 1) := dk_96 (dk_at dksX7_isWord_2 4 rfl rfl)
theorem dX7_isWord_53 : decode cX7_isWord 53 = .ok (.iaload, 1) := dk_46 (dk_at dksX7_isWord_2 5 rfl rfl)
theorem dX7_isWord_54 : decode cX7_isWord 54 = .ok (.aload_n 1, 1) := dk_43 (dk_at dksX7_isWord_2 6 rfl rfl)
theorem dX7_isWord_55 : decode cX7_isWord 55 = .ok (.iload_n 2, 1) := dk_28 (dk_at dksX7_isWord_2 7 rfl rfl)
theorem dX7_isWord_56 : decode cX7_isWord 56 = .ok (.invokevirtual 72, 3) := dk_182 0 72 (dk_at dksX7_isWord_2 8 rfl rfl)
theorem dX7_isWord_59 : decode cX7_isWord 59 = .ok (.if_icmp .eq 5, 3) := dk_159 0 5 (dk_at dksX7_isWord_2 11 rfl rfl)
theorem dX7_isWord_62 : decode cX7_isWord 62 = .ok (.iconst 0, 1) := dk_3 (dk_at dksX7_isWord_2 14 rfl rfl)
theorem dX7_isWord_63 : decode cX7_isWord 63 = .ok (.ireturn, 1) := dk_172 (dk_at dksX7_isWord_2 15 rfl rfl)
theorem dX7_isWord_64 : decode cX7_isWord 64 = .ok (.iinc 2 1, 3) := dk_132 2 1 (dk_at dksX7_isWord_2 16 rfl rfl)
theorem dX7_isWord_67 : decode cX7_isWord 67 = .ok (.goto (-32), 3) := dk_167 255 224 (dk_at dksX7_isWord_2 19 rfl rfl)
theorem dX7_isWord_70 : decode cX7_isWord 70 = .ok (.iconst 1, 1) := dk_4 (dk_at dksX7_isWord_2 22 rfl rfl)
theorem dX7_isWord_71 : decode cX7_isWord 71 = .ok (.ireturn, 1) := dk_172 (dk_at dksX7_isWord_2 23 rfl rfl)
abbrev cX7_must : ByteArray := prog_21_method_41_code
def yX7_must : MethodName := ⟨RX7, "must", "(ZI)Z"⟩
def dkwX7_must_1 : List UInt8 := [42, 180, 0, 198, 154, 0, 7, 4, 167, 0, 4, 3, 172]
abbrev dktX7_must_1 : List UInt8 := dkwX7_must_1 ++ []
def dkwX7_must_0 : List UInt8 := [42, 180, 0, 198, 154, 0, 20, 27, 154, 0, 16, 42, 28, 181, 0, 198, 42, 42, 180, 0, 189, 181, 0, 201]
abbrev dktX7_must_0 : List UInt8 := dkwX7_must_0 ++ dktX7_must_1
theorem dksX7_must_0 : cX7_must.data.toList.drop 0 = dktX7_must_0 := by decide +kernel
theorem dksX7_must_1 : cX7_must.data.toList.drop 24 = dktX7_must_1 := dk_seg dksX7_must_0 24 rfl rfl
theorem dX7_must_0 : decode cX7_must 0 = .ok (.aload_n 0, 1) := dk_42 (dk_at dksX7_must_0 0 rfl rfl)
theorem dX7_must_1 : decode cX7_must 1 = .ok (.getfield 198, 3) := dk_180 0 198 (dk_at dksX7_must_0 1 rfl rfl)
theorem dX7_must_4 : decode cX7_must 4 = .ok (.ifCond .ne 20, 3) := dk_154 0 20 (dk_at dksX7_must_0 4 rfl rfl)
theorem dX7_must_7 : decode cX7_must 7 = .ok (.iload_n 1, 1) := dk_27 (dk_at dksX7_must_0 7 rfl rfl)
theorem dX7_must_8 : decode cX7_must 8 = .ok (.ifCond .ne 16, 3) := dk_154 0 16 (dk_at dksX7_must_0 8 rfl rfl)
theorem dX7_must_11 : decode cX7_must 11 = .ok (.aload_n 0, 1) := dk_42 (dk_at dksX7_must_0 11 rfl rfl)
theorem dX7_must_12 : decode cX7_must 12 = .ok (.iload_n 2, 1) := dk_28 (dk_at dksX7_must_0 12 rfl rfl)
theorem dX7_must_13 : decode cX7_must 13 = .ok (.putfield 198, 3) := dk_181 0 198 (dk_at dksX7_must_0 13 rfl rfl)
theorem dX7_must_16 : decode cX7_must 16 = .ok (.aload_n 0, 1) := dk_42 (dk_at dksX7_must_0 16 rfl rfl)
theorem dX7_must_17 : decode cX7_must 17 = .ok (.aload_n 0, 1) := dk_42 (dk_at dksX7_must_0 17 rfl rfl)
theorem dX7_must_18 : decode cX7_must 18 = .ok (.getfield 189, 3) := dk_180 0 189 (dk_at dksX7_must_0 18 rfl rfl)
theorem dX7_must_21 : decode cX7_must 21 = .ok (.putfield 201, 3) := dk_181 0 201 (dk_at dksX7_must_0 21 rfl rfl)
theorem dX7_must_24 : decode cX7_must 24 = .ok (.aload_n 0, 1) := dk_42 (dk_at dksX7_must_1 0 rfl rfl)
theorem dX7_must_25 : decode cX7_must 25 = .ok (.getfield 198, 3) := dk_180 0 198 (dk_at dksX7_must_1 1 rfl rfl)
theorem dX7_must_28 : decode cX7_must 28 = .ok (.ifCond .ne 7, 3) := dk_154 0 7 (dk_at dksX7_must_1 4 rfl rfl)
theorem dX7_must_31 : decode cX7_must 31 = .ok (.iconst 1, 1) := dk_4 (dk_at dksX7_must_1 7 rfl rfl)
theorem dX7_must_32 : decode cX7_must 32 = .ok (.goto 4, 3) := dk_167 0 4 (dk_at dksX7_must_1 8 rfl rfl)
theorem dX7_must_35 : decode cX7_must 35 = .ok (.iconst 0, 1) := dk_3 (dk_at dksX7_must_1 11 rfl rfl)
theorem dX7_must_36 : decode cX7_must 36 = .ok (.ireturn, 1) := dk_172 (dk_at dksX7_must_1 12 rfl rfl)
abbrev cX7_goesOn : ByteArray := prog_21_method_42_code
def yX7_goesOn : MethodName := ⟨RX7, "goesOn", "()V"⟩
def dkwX7_goesOn_0 : List UInt8 := [42, 180, 0, 198, 154, 0, 7, 42, 182, 0, 204, 177]
abbrev dktX7_goesOn_0 : List UInt8 := dkwX7_goesOn_0 ++ []
theorem dksX7_goesOn_0 : cX7_goesOn.data.toList.drop 0 = dktX7_goesOn_0 := by decide +kernel
theorem dX7_goesOn_0 : decode cX7_goesOn 0 = .ok (.aload_n 0, 1) := dk_42 (dk_at dksX7_goesOn_0 0 rfl rfl)
theorem dX7_goesOn_1 : decode cX7_goesOn 1 = .ok (.getfield 198, 3) := dk_180 0 198 (dk_at dksX7_goesOn_0 1 rfl rfl)
theorem dX7_goesOn_4 : decode cX7_goesOn 4 = .ok (.ifCond .ne 7, 3) := dk_154 0 7 (dk_at dksX7_goesOn_0 4 rfl rfl)
theorem dX7_goesOn_7 : decode cX7_goesOn 7 = .ok (.aload_n 0, 1) := dk_42 (dk_at dksX7_goesOn_0 7 rfl rfl)
theorem dX7_goesOn_8 : decode cX7_goesOn 8 = .ok (.invokevirtual 204, 3) := dk_182 0 204 (dk_at dksX7_goesOn_0 8 rfl rfl)
theorem dX7_goesOn_11 : decode cX7_goesOn 11 = .ok (.return_, 1) := dk_177 (dk_at dksX7_goesOn_0 11 rfl rfl)
abbrev cX7_number : ByteArray := prog_21_method_47_code
def yX7_number : MethodName := ⟨RX7, "number", "(II)I"⟩
def dkwX7_number_0 : List UInt8 := [42, 27, 28, 182, 0, 216, 62, 42, 180, 0, 195, 54, 4, 42, 182, 0, 213, 21, 4, 172]
abbrev dktX7_number_0 : List UInt8 := dkwX7_number_0 ++ []
theorem dksX7_number_0 : cX7_number.data.toList.drop 0 = dktX7_number_0 := by decide +kernel
theorem dX7_number_0 : decode cX7_number 0 = .ok (.aload_n 0, 1) := dk_42 (dk_at dksX7_number_0 0 rfl rfl)
theorem dX7_number_1 : decode cX7_number 1 = .ok (.iload_n 1, 1) := dk_27 (dk_at dksX7_number_0 1 rfl rfl)
theorem dX7_number_2 : decode cX7_number 2 = .ok (.iload_n 2, 1) := dk_28 (dk_at dksX7_number_0 2 rfl rfl)
theorem dX7_number_3 : decode cX7_number 3 = .ok (.invokevirtual 216, 3) := dk_182 0 216 (dk_at dksX7_number_0 3 rfl rfl)
theorem dX7_number_6 : decode cX7_number 6 = .ok (.istore_n 3, 1) := dk_62 (dk_at dksX7_number_0 6 rfl rfl)
theorem dX7_number_7 : decode cX7_number 7 = .ok (.aload_n 0, 1) := dk_42 (dk_at dksX7_number_0 7 rfl rfl)
theorem dX7_number_8 : decode cX7_number 8 = .ok (.getfield 195, 3) := dk_180 0 195 (dk_at dksX7_number_0 8 rfl rfl)
theorem dX7_number_11 : decode cX7_number 11 = .ok (.istore 4, 2) := dk_54 4 (dk_at dksX7_number_0 11 rfl rfl)
theorem dX7_number_13 : decode cX7_number 13 = .ok (.aload_n 0, 1) := dk_42 (dk_at dksX7_number_0 13 rfl rfl)
theorem dX7_number_14 : decode cX7_number 14 = .ok (.invokevirtual 213, 3) := dk_182 0 213 (dk_at dksX7_number_0 14 rfl rfl)
theorem dX7_number_17 : decode cX7_number 17 = .ok (.iload 4, 2) := dk_21 4 (dk_at dksX7_number_0 17 rfl rfl)
theorem dX7_number_19 : decode cX7_number 19 = .ok (.ireturn, 1) := dk_172 (dk_at dksX7_number_0 19 rfl rfl)
abbrev cX7_looksAt : ByteArray := prog_21_method_46_code
def yX7_looksAt : MethodName := ⟨RX7, "looksAt", "(II)Z"⟩
def dkwX7_looksAt_2 : List UInt8 := [3, 172]
abbrev dktX7_looksAt_2 : List UInt8 := dkwX7_looksAt_2 ++ []
def dkwX7_looksAt_1 : List UInt8 := [180, 0, 195, 27, 28, 184, 0, 88, 5, 182, 0, 210, 87, 42, 180, 0, 198, 154, 0, 7, 4, 167, 0, 4]
abbrev dktX7_looksAt_1 : List UInt8 := dkwX7_looksAt_1 ++ dktX7_looksAt_2
def dkwX7_looksAt_0 : List UInt8 := [42, 42, 180, 0, 192, 5, 160, 0, 7, 4, 167, 0, 4, 3, 4, 182, 0, 210, 153, 0, 18, 42, 42]
abbrev dktX7_looksAt_0 : List UInt8 := dkwX7_looksAt_0 ++ dktX7_looksAt_1
theorem dksX7_looksAt_0 : cX7_looksAt.data.toList.drop 0 = dktX7_looksAt_0 := by decide +kernel
theorem dksX7_looksAt_1 : cX7_looksAt.data.toList.drop 23 = dktX7_looksAt_1 := dk_seg dksX7_looksAt_0 23 rfl rfl
theorem dksX7_looksAt_2 : cX7_looksAt.data.toList.drop 47 = dktX7_looksAt_2 := dk_seg dksX7_looksAt_1 24 rfl rfl
theorem dX7_looksAt_0 : decode cX7_looksAt 0 = .ok (.aload_n 0, 1) := dk_42 (dk_at dksX7_looksAt_0 0 rfl rfl)
theorem dX7_looksAt_1 : decode cX7_looksAt 1 = .ok (.aload_n 0, 1) := dk_42 (dk_at dksX7_looksAt_0 1 rfl rfl)
theorem dX7_looksAt_2 : decode cX7_looksAt 2 = .ok (.getfield 192, 3) := dk_180 0 192 (dk_at dksX7_looksAt_0 2 rfl rfl)
theorem dX7_looksAt_5 : decode cX7_looksAt 5 = .ok (.iconst 2, 1) := dk_5 (dk_at dksX7_looksAt_0 5 rfl rfl)
theorem dX7_looksAt_6 : decode cX7_looksAt 6 = .ok (.if_icmp .ne 7, 3) := dk_160 0 7 (dk_at dksX7_looksAt_0 6 rfl rfl)
theorem dX7_looksAt_9 : decode cX7_looksAt 9 = .ok (.iconst 1, 1) := dk_4 (dk_at dksX7_looksAt_0 9 rfl rfl)
theorem dX7_looksAt_10 : decode cX7_looksAt 10 = .ok (.goto 4, 3) := dk_167 0 4 (dk_at dksX7_looksAt_0 10 rfl rfl)
theorem dX7_looksAt_13 : decode cX7_looksAt 13 = .ok (.iconst 0, 1) := dk_3 (dk_at dksX7_looksAt_0 13 rfl rfl)
theorem dX7_looksAt_14 : decode cX7_looksAt 14 = .ok (.iconst 1, 1) := dk_4 (dk_at dksX7_looksAt_0 14 rfl rfl)
theorem dX7_looksAt_15 : decode cX7_looksAt 15 = .ok (.invokevirtual 210, 3) := dk_182 0 210 (dk_at dksX7_looksAt_0 15 rfl rfl)
theorem dX7_looksAt_18 : decode cX7_looksAt 18 = .ok (.ifCond .eq 18, 3) := dk_153 0 18 (dk_at dksX7_looksAt_0 18 rfl rfl)
theorem dX7_looksAt_21 : decode cX7_looksAt 21 = .ok (.aload_n 0, 1) := dk_42 (dk_at dksX7_looksAt_0 21 rfl rfl)
theorem dX7_looksAt_22 : decode cX7_looksAt 22 = .ok (.aload_n 0, 1) := dk_42 (dk_at dksX7_looksAt_0 22 rfl rfl)
theorem dX7_looksAt_23 : decode cX7_looksAt 23 = .ok (.getfield 195, 3) := dk_180 0 195 (dk_at dksX7_looksAt_1 0 rfl rfl)
theorem dX7_looksAt_26 : decode cX7_looksAt 26 = .ok (.iload_n 1, 1) := dk_27 (dk_at dksX7_looksAt_1 3 rfl rfl)
theorem dX7_looksAt_27 : decode cX7_looksAt 27 = .ok (.iload_n 2, 1) := dk_28 (dk_at dksX7_looksAt_1 4 rfl rfl)
theorem dX7_looksAt_28 : decode cX7_looksAt 28 = .ok (.invokestatic 88, 3) := dk_184 0 88 (dk_at dksX7_looksAt_1 5 rfl rfl)
theorem dX7_looksAt_31 : decode cX7_looksAt 31 = .ok (.iconst 2, 1) := dk_5 (dk_at dksX7_looksAt_1 8 rfl rfl)
theorem dX7_looksAt_32 : decode cX7_looksAt 32 = .ok (.invokevirtual 210, 3) := dk_182 0 210 (dk_at dksX7_looksAt_1 9 rfl rfl)
theorem dX7_looksAt_35 : decode cX7_looksAt 35 = .ok (.pop, 1) := dk_87 (dk_at dksX7_looksAt_1 12 rfl rfl)
theorem dX7_looksAt_36 : decode cX7_looksAt 36 = .ok (.aload_n 0, 1) := dk_42 (dk_at dksX7_looksAt_1 13 rfl rfl)
theorem dX7_looksAt_37 : decode cX7_looksAt 37 = .ok (.getfield 198, 3) := dk_180 0 198 (dk_at dksX7_looksAt_1 14 rfl rfl)
theorem dX7_looksAt_40 : decode cX7_looksAt 40 = .ok (.ifCond .ne 7, 3) := dk_154 0 7 (dk_at dksX7_looksAt_1 17 rfl rfl)
theorem dX7_looksAt_43 : decode cX7_looksAt 43 = .ok (.iconst 1, 1) := dk_4 (dk_at dksX7_looksAt_1 20 rfl rfl)
theorem dX7_looksAt_44 : decode cX7_looksAt 44 = .ok (.goto 4, 3) := dk_167 0 4 (dk_at dksX7_looksAt_1 21 rfl rfl)
theorem dX7_looksAt_47 : decode cX7_looksAt 47 = .ok (.iconst 0, 1) := dk_3 (dk_at dksX7_looksAt_2 0 rfl rfl)
theorem dX7_looksAt_48 : decode cX7_looksAt 48 = .ok (.ireturn, 1) := dk_172 (dk_at dksX7_looksAt_2 1 rfl rfl)
abbrev cX7_takesSign : ByteArray := prog_21_method_45_code
def yX7_takesSign : MethodName := ⟨RX7, "takesSign", "(I)V"⟩
def dkwX7_takesSign_0 : List UInt8 := [42, 42, 27, 182, 0, 207, 4, 182, 0, 210, 87, 42, 182, 0, 213, 177]
abbrev dktX7_takesSign_0 : List UInt8 := dkwX7_takesSign_0 ++ []
theorem dksX7_takesSign_0 : cX7_takesSign.data.toList.drop 0 = dktX7_takesSign_0 := by decide +kernel
theorem dX7_takesSign_0 : decode cX7_takesSign 0 = .ok (.aload_n 0, 1) := dk_42 (dk_at dksX7_takesSign_0 0 rfl rfl)
theorem dX7_takesSign_1 : decode cX7_takesSign 1 = .ok (.aload_n 0, 1) := dk_42 (dk_at dksX7_takesSign_0 1 rfl rfl)
theorem dX7_takesSign_2 : decode cX7_takesSign 2 = .ok (.iload_n 1, 1) := dk_27 (dk_at dksX7_takesSign_0 2 rfl rfl)
theorem dX7_takesSign_3 : decode cX7_takesSign 3 = .ok (.invokevirtual 207, 3) := dk_182 0 207 (dk_at dksX7_takesSign_0 3 rfl rfl)
theorem dX7_takesSign_6 : decode cX7_takesSign 6 = .ok (.iconst 1, 1) := dk_4 (dk_at dksX7_takesSign_0 6 rfl rfl)
theorem dX7_takesSign_7 : decode cX7_takesSign 7 = .ok (.invokevirtual 210, 3) := dk_182 0 210 (dk_at dksX7_takesSign_0 7 rfl rfl)
theorem dX7_takesSign_10 : decode cX7_takesSign 10 = .ok (.pop, 1) := dk_87 (dk_at dksX7_takesSign_0 10 rfl rfl)
theorem dX7_takesSign_11 : decode cX7_takesSign 11 = .ok (.aload_n 0, 1) := dk_42 (dk_at dksX7_takesSign_0 11 rfl rfl)
theorem dX7_takesSign_12 : decode cX7_takesSign 12 = .ok (.invokevirtual 213, 3) := dk_182 0 213 (dk_at dksX7_takesSign_0 12 rfl rfl)
theorem dX7_takesSign_15 : decode cX7_takesSign 15 = .ok (.return_, 1) := dk_177 (dk_at dksX7_takesSign_0 15 rfl rfl)
abbrev cX7_isSign : ByteArray := prog_21_method_43_code
def yX7_isSign : MethodName := ⟨RX7, "isSign", "(I)Z"⟩
def dkwX7_isSign_1 : List UInt8 := [160, 0, 7, 4, 167, 0, 4, 3, 172]
abbrev dktX7_isSign_1 : List UInt8 := dkwX7_isSign_1 ++ []
def dkwX7_isSign_0 : List UInt8 := [42, 180, 0, 198, 154, 0, 27, 42, 180, 0, 192, 6, 160, 0, 19, 42, 42, 180, 0, 189, 182, 0, 186, 27]
abbrev dktX7_isSign_0 : List UInt8 := dkwX7_isSign_0 ++ dktX7_isSign_1
theorem dksX7_isSign_0 : cX7_isSign.data.toList.drop 0 = dktX7_isSign_0 := by decide +kernel
theorem dksX7_isSign_1 : cX7_isSign.data.toList.drop 24 = dktX7_isSign_1 := dk_seg dksX7_isSign_0 24 rfl rfl
theorem dX7_isSign_0 : decode cX7_isSign 0 = .ok (.aload_n 0, 1) := dk_42 (dk_at dksX7_isSign_0 0 rfl rfl)
theorem dX7_isSign_1 : decode cX7_isSign 1 = .ok (.getfield 198, 3) := dk_180 0 198 (dk_at dksX7_isSign_0 1 rfl rfl)
theorem dX7_isSign_4 : decode cX7_isSign 4 = .ok (.ifCond .ne 27, 3) := dk_154 0 27 (dk_at dksX7_isSign_0 4 rfl rfl)
theorem dX7_isSign_7 : decode cX7_isSign 7 = .ok (.aload_n 0, 1) := dk_42 (dk_at dksX7_isSign_0 7 rfl rfl)
theorem dX7_isSign_8 : decode cX7_isSign 8 = .ok (.getfield 192, 3) := dk_180 0 192 (dk_at dksX7_isSign_0 8 rfl rfl)
theorem dX7_isSign_11 : decode cX7_isSign 11 = .ok (.iconst 3, 1) := dk_6 (dk_at dksX7_isSign_0 11 rfl rfl)
theorem dX7_isSign_12 : decode cX7_isSign 12 = .ok (.if_icmp .ne 19, 3) := dk_160 0 19 (dk_at dksX7_isSign_0 12 rfl rfl)
theorem dX7_isSign_15 : decode cX7_isSign 15 = .ok (.aload_n 0, 1) := dk_42 (dk_at dksX7_isSign_0 15 rfl rfl)
theorem dX7_isSign_16 : decode cX7_isSign 16 = .ok (.aload_n 0, 1) := dk_42 (dk_at dksX7_isSign_0 16 rfl rfl)
theorem dX7_isSign_17 : decode cX7_isSign 17 = .ok (.getfield 189, 3) := dk_180 0 189 (dk_at dksX7_isSign_0 17 rfl rfl)
theorem dX7_isSign_20 : decode cX7_isSign 20 = .ok (.invokevirtual 186, 3) := dk_182 0 186 (dk_at dksX7_isSign_0 20 rfl rfl)
theorem dX7_isSign_23 : decode cX7_isSign 23 = .ok (.iload_n 1, 1) := dk_27 (dk_at dksX7_isSign_0 23 rfl rfl)
theorem dX7_isSign_24 : decode cX7_isSign 24 = .ok (.if_icmp .ne 7, 3) := dk_160 0 7 (dk_at dksX7_isSign_1 0 rfl rfl)
theorem dX7_isSign_27 : decode cX7_isSign 27 = .ok (.iconst 1, 1) := dk_4 (dk_at dksX7_isSign_1 3 rfl rfl)
theorem dX7_isSign_28 : decode cX7_isSign 28 = .ok (.goto 4, 3) := dk_167 0 4 (dk_at dksX7_isSign_1 4 rfl rfl)
theorem dX7_isSign_31 : decode cX7_isSign 31 = .ok (.iconst 0, 1) := dk_3 (dk_at dksX7_isSign_1 7 rfl rfl)
theorem dX7_isSign_32 : decode cX7_isSign 32 = .ok (.ireturn, 1) := dk_172 (dk_at dksX7_isSign_1 8 rfl rfl)
abbrev cX7_readsStreet : ByteArray := prog_21_method_56_code
def yX7_readsStreet : MethodName := ⟨RX7, "readsStreet", "()V"⟩
def dkwX7_readsStreet_6 : List UInt8 := [29, 7, 96, 28, 79, 42, 180, 0, 7, 16, 6, 92, 46, 4, 96, 79, 177]
abbrev dktX7_readsStreet_6 : List UInt8 := dkwX7_readsStreet_6 ++ []
def dkwX7_readsStreet_5 : List UInt8 := [180, 0, 7, 29, 5, 96, 42, 180, 0, 244, 79, 42, 180, 0, 7, 29, 6, 96, 27, 79, 42, 180, 0, 7]
abbrev dktX7_readsStreet_5 : List UInt8 := dkwX7_readsStreet_5 ++ dktX7_readsStreet_6
def dkwX7_readsStreet_4 : List UInt8 := [180, 0, 7, 29, 3, 96, 42, 180, 0, 229, 79, 42, 180, 0, 7, 29, 4, 96, 42, 180, 0, 241, 79, 42]
abbrev dktX7_readsStreet_4 : List UInt8 := dkwX7_readsStreet_4 ++ dktX7_readsStreet_5
def dkwX7_readsStreet_3 : List UInt8 := [180, 0, 198, 153, 0, 4, 177, 16, 16, 16, 9, 42, 180, 0, 7, 16, 6, 46, 104, 96, 62, 42]
abbrev dktX7_readsStreet_3 : List UInt8 := dkwX7_readsStreet_3 ++ dktX7_readsStreet_4
def dkwX7_readsStreet_2 : List UInt8 := [16, 50, 182, 0, 238, 60, 42, 4, 17, 0, 200, 182, 0, 238, 61, 42, 16, 59, 182, 1, 4, 42]
abbrev dktX7_readsStreet_2 : List UInt8 := dkwX7_readsStreet_2 ++ dktX7_readsStreet_3
def dkwX7_readsStreet_1 : List UInt8 := [162, 0, 7, 4, 167, 0, 4, 3, 8, 182, 0, 210, 87, 42, 182, 0, 213, 42, 4, 182, 1, 0, 42, 4]
abbrev dktX7_readsStreet_1 : List UInt8 := dkwX7_readsStreet_1 ++ dktX7_readsStreet_2
def dkwX7_readsStreet_0 : List UInt8 := [42, 42, 18, 250, 182, 0, 252, 4, 182, 0, 210, 87, 42, 42, 180, 0, 7, 16, 6, 46, 16, 8]
abbrev dktX7_readsStreet_0 : List UInt8 := dkwX7_readsStreet_0 ++ dktX7_readsStreet_1
theorem dksX7_readsStreet_0 : cX7_readsStreet.data.toList.drop 0 = dktX7_readsStreet_0 := by decide +kernel
theorem dksX7_readsStreet_1 : cX7_readsStreet.data.toList.drop 22 = dktX7_readsStreet_1 := dk_seg dksX7_readsStreet_0 22 rfl rfl
theorem dksX7_readsStreet_2 : cX7_readsStreet.data.toList.drop 46 = dktX7_readsStreet_2 := dk_seg dksX7_readsStreet_1 24 rfl rfl
theorem dksX7_readsStreet_3 : cX7_readsStreet.data.toList.drop 68 = dktX7_readsStreet_3 := dk_seg dksX7_readsStreet_2 22 rfl rfl
theorem dksX7_readsStreet_4 : cX7_readsStreet.data.toList.drop 90 = dktX7_readsStreet_4 := dk_seg dksX7_readsStreet_3 22 rfl rfl
theorem dksX7_readsStreet_5 : cX7_readsStreet.data.toList.drop 114 = dktX7_readsStreet_5 := dk_seg dksX7_readsStreet_4 24 rfl rfl
theorem dksX7_readsStreet_6 : cX7_readsStreet.data.toList.drop 138 = dktX7_readsStreet_6 := dk_seg dksX7_readsStreet_5 24 rfl rfl
theorem dX7_readsStreet_0 : decode cX7_readsStreet 0 = .ok (.aload_n 0, 1) := dk_42 (dk_at dksX7_readsStreet_0 0 rfl rfl)
theorem dX7_readsStreet_1 : decode cX7_readsStreet 1 = .ok (.aload_n 0, 1) := dk_42 (dk_at dksX7_readsStreet_0 1 rfl rfl)
theorem dX7_readsStreet_2 : decode cX7_readsStreet 2 = .ok (.ldc 250, 2) := dk_18 250 (dk_at dksX7_readsStreet_0 2 rfl rfl)
theorem dX7_readsStreet_4 : decode cX7_readsStreet 4 = .ok (.invokevirtual 252, 3) := dk_182 0 252 (dk_at dksX7_readsStreet_0 4 rfl rfl)
theorem dX7_readsStreet_7 : decode cX7_readsStreet 7 = .ok (.iconst 1, 1) := dk_4 (dk_at dksX7_readsStreet_0 7 rfl rfl)
theorem dX7_readsStreet_8 : decode cX7_readsStreet 8 = .ok (.invokevirtual 210, 3) := dk_182 0 210 (dk_at dksX7_readsStreet_0 8 rfl rfl)
theorem dX7_readsStreet_11 : decode cX7_readsStreet 11 = .ok (.pop, 1) := dk_87 (dk_at dksX7_readsStreet_0 11 rfl rfl)
theorem dX7_readsStreet_12 : decode cX7_readsStreet 12 = .ok (.aload_n 0, 1) := dk_42 (dk_at dksX7_readsStreet_0 12 rfl rfl)
theorem dX7_readsStreet_13 : decode cX7_readsStreet 13 = .ok (.aload_n 0, 1) := dk_42 (dk_at dksX7_readsStreet_0 13 rfl rfl)
theorem dX7_readsStreet_14 : decode cX7_readsStreet 14 = .ok (.getfield 7, 3) := dk_180 0 7 (dk_at dksX7_readsStreet_0 14 rfl rfl)
theorem dX7_readsStreet_17 : decode cX7_readsStreet 17 = .ok (.bipush 6, 2) := dk_16 6 (dk_at dksX7_readsStreet_0 17 rfl rfl)
theorem dX7_readsStreet_19 : decode cX7_readsStreet 19 = .ok (.iaload, 1) := dk_46 (dk_at dksX7_readsStreet_0 19 rfl rfl)
theorem dX7_readsStreet_20 : decode cX7_readsStreet 20 = .ok (.bipush 8, 2) := dk_16 8 (dk_at dksX7_readsStreet_0 20 rfl rfl)
theorem dX7_readsStreet_22 : decode cX7_readsStreet 22 = .ok (.if_icmp .ge 7, 3) := dk_162 0 7 (dk_at dksX7_readsStreet_1 0 rfl rfl)
theorem dX7_readsStreet_25 : decode cX7_readsStreet 25 = .ok (.iconst 1, 1) := dk_4 (dk_at dksX7_readsStreet_1 3 rfl rfl)
theorem dX7_readsStreet_26 : decode cX7_readsStreet 26 = .ok (.goto 4, 3) := dk_167 0 4 (dk_at dksX7_readsStreet_1 4 rfl rfl)
theorem dX7_readsStreet_29 : decode cX7_readsStreet 29 = .ok (.iconst 0, 1) := dk_3 (dk_at dksX7_readsStreet_1 7 rfl rfl)
theorem dX7_readsStreet_30 : decode cX7_readsStreet 30 = .ok (.iconst 5, 1) := dk_8 (dk_at dksX7_readsStreet_1 8 rfl rfl)
theorem dX7_readsStreet_31 : decode cX7_readsStreet 31 = .ok (.invokevirtual 210, 3) := dk_182 0 210 (dk_at dksX7_readsStreet_1 9 rfl rfl)
theorem dX7_readsStreet_34 : decode cX7_readsStreet 34 = .ok (.pop, 1) := dk_87 (dk_at dksX7_readsStreet_1 12 rfl rfl)
theorem dX7_readsStreet_35 : decode cX7_readsStreet 35 = .ok (.aload_n 0, 1) := dk_42 (dk_at dksX7_readsStreet_1 13 rfl rfl)
theorem dX7_readsStreet_36 : decode cX7_readsStreet 36 = .ok (.invokevirtual 213, 3) := dk_182 0 213 (dk_at dksX7_readsStreet_1 14 rfl rfl)
theorem dX7_readsStreet_39 : decode cX7_readsStreet 39 = .ok (.aload_n 0, 1) := dk_42 (dk_at dksX7_readsStreet_1 17 rfl rfl)
theorem dX7_readsStreet_40 : decode cX7_readsStreet 40 = .ok (.iconst 1, 1) := dk_4 (dk_at dksX7_readsStreet_1 18 rfl rfl)
theorem dX7_readsStreet_41 : decode cX7_readsStreet 41 = .ok (.invokevirtual 256, 3) := dk_182 1 0 (dk_at dksX7_readsStreet_1 19 rfl rfl)
theorem dX7_readsStreet_44 : decode cX7_readsStreet 44 = .ok (.aload_n 0, 1) := dk_42 (dk_at dksX7_readsStreet_1 22 rfl rfl)
theorem dX7_readsStreet_45 : decode cX7_readsStreet 45 = .ok (.iconst 1, 1) := dk_4 (dk_at dksX7_readsStreet_1 23 rfl rfl)
theorem dX7_readsStreet_46 : decode cX7_readsStreet 46 = .ok (.bipush 50, 2) := dk_16 50 (dk_at dksX7_readsStreet_2 0 rfl rfl)
theorem dX7_readsStreet_48 : decode cX7_readsStreet 48 = .ok (.invokevirtual 238, 3) := dk_182 0 238 (dk_at dksX7_readsStreet_2 2 rfl rfl)
theorem dX7_readsStreet_51 : decode cX7_readsStreet 51 = .ok (.istore_n 1, 1) := dk_60 (dk_at dksX7_readsStreet_2 5 rfl rfl)
theorem dX7_readsStreet_52 : decode cX7_readsStreet 52 = .ok (.aload_n 0, 1) := dk_42 (dk_at dksX7_readsStreet_2 6 rfl rfl)
theorem dX7_readsStreet_53 : decode cX7_readsStreet 53 = .ok (.iconst 1, 1) := dk_4 (dk_at dksX7_readsStreet_2 7 rfl rfl)
theorem dX7_readsStreet_54 : decode cX7_readsStreet 54 = .ok (.sipush 200, 3) := dk_17 0 200 (dk_at dksX7_readsStreet_2 8 rfl rfl)
theorem dX7_readsStreet_57 : decode cX7_readsStreet 57 = .ok (.invokevirtual 238, 3) := dk_182 0 238 (dk_at dksX7_readsStreet_2 11 rfl rfl)
theorem dX7_readsStreet_60 : decode cX7_readsStreet 60 = .ok (.istore_n 2, 1) := dk_61 (dk_at dksX7_readsStreet_2 14 rfl rfl)
theorem dX7_readsStreet_61 : decode cX7_readsStreet 61 = .ok (.aload_n 0, 1) := dk_42 (dk_at dksX7_readsStreet_2 15 rfl rfl)
theorem dX7_readsStreet_62 : decode cX7_readsStreet 62 = .ok (.bipush 59, 2) := dk_16 59 (dk_at dksX7_readsStreet_2 16 rfl rfl)
theorem dX7_readsStreet_64 : decode cX7_readsStreet 64 = .ok (.invokevirtual 260, 3) := dk_182 1 4 (dk_at dksX7_readsStreet_2 18 rfl rfl)
theorem dX7_readsStreet_67 : decode cX7_readsStreet 67 = .ok (.aload_n 0, 1) := dk_42 (dk_at dksX7_readsStreet_2 21 rfl rfl)
theorem dX7_readsStreet_68 : decode cX7_readsStreet 68 = .ok (.getfield 198, 3) := dk_180 0 198 (dk_at dksX7_readsStreet_3 0 rfl rfl)
theorem dX7_readsStreet_71 : decode cX7_readsStreet 71 = .ok (.ifCond .eq 4, 3) := dk_153 0 4 (dk_at dksX7_readsStreet_3 3 rfl rfl)
theorem dX7_readsStreet_74 : decode cX7_readsStreet 74 = .ok (.return_, 1) := dk_177 (dk_at dksX7_readsStreet_3 6 rfl rfl)
theorem dX7_readsStreet_75 : decode cX7_readsStreet 75 = .ok (.bipush 16, 2) := dk_16 16 (dk_at dksX7_readsStreet_3 7 rfl rfl)
theorem dX7_readsStreet_77 : decode cX7_readsStreet 77 = .ok (.bipush 9, 2) := dk_16 9 (dk_at dksX7_readsStreet_3 9 rfl rfl)
theorem dX7_readsStreet_79 : decode cX7_readsStreet 79 = .ok (.aload_n 0, 1) := dk_42 (dk_at dksX7_readsStreet_3 11 rfl rfl)
theorem dX7_readsStreet_80 : decode cX7_readsStreet 80 = .ok (.getfield 7, 3) := dk_180 0 7 (dk_at dksX7_readsStreet_3 12 rfl rfl)
theorem dX7_readsStreet_83 : decode cX7_readsStreet 83 = .ok (.bipush 6, 2) := dk_16 6 (dk_at dksX7_readsStreet_3 15 rfl rfl)
theorem dX7_readsStreet_85 : decode cX7_readsStreet 85 = .ok (.iaload, 1) := dk_46 (dk_at dksX7_readsStreet_3 17 rfl rfl)
theorem dX7_readsStreet_86 : decode cX7_readsStreet 86 = .ok (.imul, 1) := dk_104 (dk_at dksX7_readsStreet_3 18 rfl rfl)
theorem dX7_readsStreet_87 : decode cX7_readsStreet 87 = .ok (.iadd, 1) := dk_96 (dk_at dksX7_readsStreet_3 19 rfl rfl)
theorem dX7_readsStreet_88 : decode cX7_readsStreet 88 = .ok (.istore_n 3, 1) := dk_62 (dk_at dksX7_readsStreet_3 20 rfl rfl)
theorem dX7_readsStreet_89 : decode cX7_readsStreet 89 = .ok (.aload_n 0, 1) := dk_42 (dk_at dksX7_readsStreet_3 21 rfl rfl)
theorem dX7_readsStreet_90 : decode cX7_readsStreet 90 = .ok (.getfield 7, 3) := dk_180 0 7 (dk_at dksX7_readsStreet_4 0 rfl rfl)
theorem dX7_readsStreet_93 : decode cX7_readsStreet 93 = .ok (.iload_n 3, 1) := dk_29 (dk_at dksX7_readsStreet_4 3 rfl rfl)
theorem dX7_readsStreet_94 : decode cX7_readsStreet 94 = .ok (.iconst 0, 1) := dk_3 (dk_at dksX7_readsStreet_4 4 rfl rfl)
theorem dX7_readsStreet_95 : decode cX7_readsStreet 95 = .ok (.iadd, 1) := dk_96 (dk_at dksX7_readsStreet_4 5 rfl rfl)
theorem dX7_readsStreet_96 : decode cX7_readsStreet 96 = .ok (.aload_n 0, 1) := dk_42 (dk_at dksX7_readsStreet_4 6 rfl rfl)
theorem dX7_readsStreet_97 : decode cX7_readsStreet 97 = .ok (.getfield 229, 3) := dk_180 0 229 (dk_at dksX7_readsStreet_4 7 rfl rfl)
theorem dX7_readsStreet_100 : decode cX7_readsStreet 100 = .ok (.iastore, 1) := dk_79 (dk_at dksX7_readsStreet_4 10 rfl rfl)
theorem dX7_readsStreet_101 : decode cX7_readsStreet 101 = .ok (.aload_n 0, 1) := dk_42 (dk_at dksX7_readsStreet_4 11 rfl rfl)
theorem dX7_readsStreet_102 : decode cX7_readsStreet 102 = .ok (.getfield 7, 3) := dk_180 0 7 (dk_at dksX7_readsStreet_4 12 rfl rfl)
theorem dX7_readsStreet_105 : decode cX7_readsStreet 105 = .ok (.iload_n 3, 1) := dk_29 (dk_at dksX7_readsStreet_4 15 rfl rfl)
theorem dX7_readsStreet_106 : decode cX7_readsStreet 106 = .ok (.iconst 1, 1) := dk_4 (dk_at dksX7_readsStreet_4 16 rfl rfl)
theorem dX7_readsStreet_107 : decode cX7_readsStreet 107 = .ok (.iadd, 1) := dk_96 (dk_at dksX7_readsStreet_4 17 rfl rfl)
theorem dX7_readsStreet_108 : decode cX7_readsStreet 108 = .ok (.aload_n 0, 1) := dk_42 (dk_at dksX7_readsStreet_4 18 rfl rfl)
theorem dX7_readsStreet_109 : decode cX7_readsStreet 109 = .ok (.getfield 241, 3) := dk_180 0 241 (dk_at dksX7_readsStreet_4 19 rfl rfl)
theorem dX7_readsStreet_112 : decode cX7_readsStreet 112 = .ok (.iastore, 1) := dk_79 (dk_at dksX7_readsStreet_4 22 rfl rfl)
theorem dX7_readsStreet_113 : decode cX7_readsStreet 113 = .ok (.aload_n 0, 1) := dk_42 (dk_at dksX7_readsStreet_4 23 rfl rfl)
theorem dX7_readsStreet_114 : decode cX7_readsStreet 114 = .ok (.getfield 7, 3) := dk_180 0 7 (dk_at dksX7_readsStreet_5 0 rfl rfl)
theorem dX7_readsStreet_117 : decode cX7_readsStreet 117 = .ok (.iload_n 3, 1) := dk_29 (dk_at dksX7_readsStreet_5 3 rfl rfl)
theorem dX7_readsStreet_118 : decode cX7_readsStreet 118 = .ok (.iconst 2, 1) := dk_5 (dk_at dksX7_readsStreet_5 4 rfl rfl)
theorem dX7_readsStreet_119 : decode cX7_readsStreet 119 = .ok (.iadd, 1) := dk_96 (dk_at dksX7_readsStreet_5 5 rfl rfl)
theorem dX7_readsStreet_120 : decode cX7_readsStreet 120 = .ok (.aload_n 0, 1) := dk_42 (dk_at dksX7_readsStreet_5 6 rfl rfl)
theorem dX7_readsStreet_121 : decode cX7_readsStreet 121 = .ok (.getfield 244, 3) := dk_180 0 244 (dk_at dksX7_readsStreet_5 7 rfl rfl)
theorem dX7_readsStreet_124 : decode cX7_readsStreet 124 = .ok (.iastore, 1) := dk_79 (dk_at dksX7_readsStreet_5 10 rfl rfl)
theorem dX7_readsStreet_125 : decode cX7_readsStreet 125 = .ok (.aload_n 0, 1) := dk_42 (dk_at dksX7_readsStreet_5 11 rfl rfl)
theorem dX7_readsStreet_126 : decode cX7_readsStreet 126 = .ok (.getfield 7, 3) := dk_180 0 7 (dk_at dksX7_readsStreet_5 12 rfl rfl)
theorem dX7_readsStreet_129 : decode cX7_readsStreet 129 = .ok (.iload_n 3, 1) := dk_29 (dk_at dksX7_readsStreet_5 15 rfl rfl)
theorem dX7_readsStreet_130 : decode cX7_readsStreet 130 = .ok (.iconst 3, 1) := dk_6 (dk_at dksX7_readsStreet_5 16 rfl rfl)
theorem dX7_readsStreet_131 : decode cX7_readsStreet 131 = .ok (.iadd, 1) := dk_96 (dk_at dksX7_readsStreet_5 17 rfl rfl)
theorem dX7_readsStreet_132 : decode cX7_readsStreet 132 = .ok (.iload_n 1, 1) := dk_27 (dk_at dksX7_readsStreet_5 18 rfl rfl)
theorem dX7_readsStreet_133 : decode cX7_readsStreet 133 = .ok (.iastore, 1) := dk_79 (dk_at dksX7_readsStreet_5 19 rfl rfl)
theorem dX7_readsStreet_134 : decode cX7_readsStreet 134 = .ok (.aload_n 0, 1) := dk_42 (dk_at dksX7_readsStreet_5 20 rfl rfl)
theorem dX7_readsStreet_135 : decode cX7_readsStreet 135 = .ok (.getfield 7, 3) := dk_180 0 7 (dk_at dksX7_readsStreet_5 21 rfl rfl)
theorem dX7_readsStreet_138 : decode cX7_readsStreet 138 = .ok (.iload_n 3, 1) := dk_29 (dk_at dksX7_readsStreet_6 0 rfl rfl)
theorem dX7_readsStreet_139 : decode cX7_readsStreet 139 = .ok (.iconst 4, 1) := dk_7 (dk_at dksX7_readsStreet_6 1 rfl rfl)
theorem dX7_readsStreet_140 : decode cX7_readsStreet 140 = .ok (.iadd, 1) := dk_96 (dk_at dksX7_readsStreet_6 2 rfl rfl)
theorem dX7_readsStreet_141 : decode cX7_readsStreet 141 = .ok (.iload_n 2, 1) := dk_28 (dk_at dksX7_readsStreet_6 3 rfl rfl)
theorem dX7_readsStreet_142 : decode cX7_readsStreet 142 = .ok (.iastore, 1) := dk_79 (dk_at dksX7_readsStreet_6 4 rfl rfl)
theorem dX7_readsStreet_143 : decode cX7_readsStreet 143 = .ok (.aload_n 0, 1) := dk_42 (dk_at dksX7_readsStreet_6 5 rfl rfl)
theorem dX7_readsStreet_144 : decode cX7_readsStreet 144 = .ok (.getfield 7, 3) := dk_180 0 7 (dk_at dksX7_readsStreet_6 6 rfl rfl)
theorem dX7_readsStreet_147 : decode cX7_readsStreet 147 = .ok (.bipush 6, 2) := dk_16 6 (dk_at dksX7_readsStreet_6 9 rfl rfl)
theorem dX7_readsStreet_149 : decode cX7_readsStreet 149 = .ok (.dup2, 1) := dk_92 (dk_at dksX7_readsStreet_6 11 rfl rfl)
theorem dX7_readsStreet_150 : decode cX7_readsStreet 150 = .ok (.iaload, 1) := dk_46 (dk_at dksX7_readsStreet_6 12 rfl rfl)
theorem dX7_readsStreet_151 : decode cX7_readsStreet 151 = .ok (.iconst 1, 1) := dk_4 (dk_at dksX7_readsStreet_6 13 rfl rfl)
theorem dX7_readsStreet_152 : decode cX7_readsStreet 152 = .ok (.iadd, 1) := dk_96 (dk_at dksX7_readsStreet_6 14 rfl rfl)
theorem dX7_readsStreet_153 : decode cX7_readsStreet 153 = .ok (.iastore, 1) := dk_79 (dk_at dksX7_readsStreet_6 15 rfl rfl)
theorem dX7_readsStreet_154 : decode cX7_readsStreet 154 = .ok (.return_, 1) := dk_177 (dk_at dksX7_readsStreet_6 16 rfl rfl)
abbrev cX7_readsPlace : ByteArray := prog_21_method_55_code
def yX7_readsPlace : MethodName := ⟨RX7, "readsPlace", "(Z)V"⟩
def dkwX7_readsPlace_5 : List UInt8 := [167, 0, 4, 3, 7, 182, 0, 210, 87, 42, 182, 0, 213, 177]
abbrev dktX7_readsPlace_5 : List UInt8 := dkwX7_readsPlace_5 ++ []
def dkwX7_readsPlace_4 : List UInt8 := [180, 0, 198, 154, 0, 18, 42, 42, 180, 0, 241, 42, 180, 0, 244, 182, 0, 247, 154, 0, 7, 4]
abbrev dktX7_readsPlace_4 : List UInt8 := dkwX7_readsPlace_4 ++ dktX7_readsPlace_5
def dkwX7_readsPlace_3 : List UInt8 := [42, 42, 3, 16, 9, 182, 0, 216, 153, 0, 10, 42, 180, 0, 195, 167, 0, 4, 3, 181, 0, 244, 42, 42]
abbrev dktX7_readsPlace_3 : List UInt8 := dkwX7_readsPlace_3 ++ dktX7_readsPlace_4
def dkwX7_readsPlace_2 : List UInt8 := [167, 0, 4, 3, 6, 182, 0, 210, 87, 42, 182, 0, 213, 42, 42, 3, 16, 9, 182, 0, 238, 181, 0, 241]
abbrev dktX7_readsPlace_2 : List UInt8 := dkwX7_readsPlace_2 ++ dktX7_readsPlace_3
def dkwX7_readsPlace_1 : List UInt8 := [180, 0, 229, 182, 0, 232, 167, 0, 11, 42, 42, 180, 0, 229, 182, 0, 235, 2, 160, 0, 7, 4]
abbrev dktX7_readsPlace_1 : List UInt8 := dkwX7_readsPlace_1 ++ dktX7_readsPlace_2
def dkwX7_readsPlace_0 : List UInt8 := [42, 42, 182, 0, 226, 181, 0, 229, 42, 42, 180, 0, 198, 154, 0, 30, 27, 153, 0, 14, 42, 42]
abbrev dktX7_readsPlace_0 : List UInt8 := dkwX7_readsPlace_0 ++ dktX7_readsPlace_1
theorem dksX7_readsPlace_0 : cX7_readsPlace.data.toList.drop 0 = dktX7_readsPlace_0 := by decide +kernel
theorem dksX7_readsPlace_1 : cX7_readsPlace.data.toList.drop 22 = dktX7_readsPlace_1 := dk_seg dksX7_readsPlace_0 22 rfl rfl
theorem dksX7_readsPlace_2 : cX7_readsPlace.data.toList.drop 44 = dktX7_readsPlace_2 := dk_seg dksX7_readsPlace_1 22 rfl rfl
theorem dksX7_readsPlace_3 : cX7_readsPlace.data.toList.drop 68 = dktX7_readsPlace_3 := dk_seg dksX7_readsPlace_2 24 rfl rfl
theorem dksX7_readsPlace_4 : cX7_readsPlace.data.toList.drop 92 = dktX7_readsPlace_4 := dk_seg dksX7_readsPlace_3 24 rfl rfl
theorem dksX7_readsPlace_5 : cX7_readsPlace.data.toList.drop 114 = dktX7_readsPlace_5 := dk_seg dksX7_readsPlace_4 22 rfl rfl
theorem dX7_readsPlace_0 : decode cX7_readsPlace 0 = .ok (.aload_n 0, 1) := dk_42 (dk_at dksX7_readsPlace_0 0 rfl rfl)
theorem dX7_readsPlace_1 : decode cX7_readsPlace 1 = .ok (.aload_n 0, 1) := dk_42 (dk_at dksX7_readsPlace_0 1 rfl rfl)
theorem dX7_readsPlace_2 : decode cX7_readsPlace 2 = .ok (.invokevirtual 226, 3) := dk_182 0 226 (dk_at dksX7_readsPlace_0 2 rfl rfl)
theorem dX7_readsPlace_5 : decode cX7_readsPlace 5 = .ok (.putfield 229, 3) := dk_181 0 229 (dk_at dksX7_readsPlace_0 5 rfl rfl)
theorem dX7_readsPlace_8 : decode cX7_readsPlace 8 = .ok (.aload_n 0, 1) := dk_42 (dk_at dksX7_readsPlace_0 8 rfl rfl)
theorem dX7_readsPlace_9 : decode cX7_readsPlace 9 = .ok (.aload_n 0, 1) := dk_42 (dk_at dksX7_readsPlace_0 9 rfl rfl)
theorem dX7_readsPlace_10 : decode cX7_readsPlace 10 = .ok (.getfield 198, 3) := dk_180 0 198 (dk_at dksX7_readsPlace_0 10 rfl rfl)
theorem dX7_readsPlace_13 : decode cX7_readsPlace 13 = .ok (.ifCond .ne 30, 3) := dk_154 0 30 (dk_at dksX7_readsPlace_0 13 rfl rfl)
theorem dX7_readsPlace_16 : decode cX7_readsPlace 16 = .ok (.iload_n 1, 1) := dk_27 (dk_at dksX7_readsPlace_0 16 rfl rfl)
theorem dX7_readsPlace_17 : decode cX7_readsPlace 17 = .ok (.ifCond .eq 14, 3) := dk_153 0 14 (dk_at dksX7_readsPlace_0 17 rfl rfl)
theorem dX7_readsPlace_20 : decode cX7_readsPlace 20 = .ok (.aload_n 0, 1) := dk_42 (dk_at dksX7_readsPlace_0 20 rfl rfl)
theorem dX7_readsPlace_21 : decode cX7_readsPlace 21 = .ok (.aload_n 0, 1) := dk_42 (dk_at dksX7_readsPlace_0 21 rfl rfl)
theorem dX7_readsPlace_22 : decode cX7_readsPlace 22 = .ok (.getfield 229, 3) := dk_180 0 229 (dk_at dksX7_readsPlace_1 0 rfl rfl)
theorem dX7_readsPlace_25 : decode cX7_readsPlace 25 = .ok (.invokevirtual 232, 3) := dk_182 0 232 (dk_at dksX7_readsPlace_1 3 rfl rfl)
theorem dX7_readsPlace_28 : decode cX7_readsPlace 28 = .ok (.goto 11, 3) := dk_167 0 11 (dk_at dksX7_readsPlace_1 6 rfl rfl)
theorem dX7_readsPlace_31 : decode cX7_readsPlace 31 = .ok (.aload_n 0, 1) := dk_42 (dk_at dksX7_readsPlace_1 9 rfl rfl)
theorem dX7_readsPlace_32 : decode cX7_readsPlace 32 = .ok (.aload_n 0, 1) := dk_42 (dk_at dksX7_readsPlace_1 10 rfl rfl)
theorem dX7_readsPlace_33 : decode cX7_readsPlace 33 = .ok (.getfield 229, 3) := dk_180 0 229 (dk_at dksX7_readsPlace_1 11 rfl rfl)
theorem dX7_readsPlace_36 : decode cX7_readsPlace 36 = .ok (.invokevirtual 235, 3) := dk_182 0 235 (dk_at dksX7_readsPlace_1 14 rfl rfl)
theorem dX7_readsPlace_39 : decode cX7_readsPlace 39 = .ok (.iconst (-1), 1) := dk_2 (dk_at dksX7_readsPlace_1 17 rfl rfl)
theorem dX7_readsPlace_40 : decode cX7_readsPlace 40 = .ok (.if_icmp .ne 7, 3) := dk_160 0 7 (dk_at dksX7_readsPlace_1 18 rfl rfl)
theorem dX7_readsPlace_43 : decode cX7_readsPlace 43 = .ok (.iconst 1, 1) := dk_4 (dk_at dksX7_readsPlace_1 21 rfl rfl)
theorem dX7_readsPlace_44 : decode cX7_readsPlace 44 = .ok (.goto 4, 3) := dk_167 0 4 (dk_at dksX7_readsPlace_2 0 rfl rfl)
theorem dX7_readsPlace_47 : decode cX7_readsPlace 47 = .ok (.iconst 0, 1) := dk_3 (dk_at dksX7_readsPlace_2 3 rfl rfl)
theorem dX7_readsPlace_48 : decode cX7_readsPlace 48 = .ok (.iconst 3, 1) := dk_6 (dk_at dksX7_readsPlace_2 4 rfl rfl)
theorem dX7_readsPlace_49 : decode cX7_readsPlace 49 = .ok (.invokevirtual 210, 3) := dk_182 0 210 (dk_at dksX7_readsPlace_2 5 rfl rfl)
theorem dX7_readsPlace_52 : decode cX7_readsPlace 52 = .ok (.pop, 1) := dk_87 (dk_at dksX7_readsPlace_2 8 rfl rfl)
theorem dX7_readsPlace_53 : decode cX7_readsPlace 53 = .ok (.aload_n 0, 1) := dk_42 (dk_at dksX7_readsPlace_2 9 rfl rfl)
theorem dX7_readsPlace_54 : decode cX7_readsPlace 54 = .ok (.invokevirtual 213, 3) := dk_182 0 213 (dk_at dksX7_readsPlace_2 10 rfl rfl)
theorem dX7_readsPlace_57 : decode cX7_readsPlace 57 = .ok (.aload_n 0, 1) := dk_42 (dk_at dksX7_readsPlace_2 13 rfl rfl)
theorem dX7_readsPlace_58 : decode cX7_readsPlace 58 = .ok (.aload_n 0, 1) := dk_42 (dk_at dksX7_readsPlace_2 14 rfl rfl)
theorem dX7_readsPlace_59 : decode cX7_readsPlace 59 = .ok (.iconst 0, 1) := dk_3 (dk_at dksX7_readsPlace_2 15 rfl rfl)
theorem dX7_readsPlace_60 : decode cX7_readsPlace 60 = .ok (.bipush 9, 2) := dk_16 9 (dk_at dksX7_readsPlace_2 16 rfl rfl)
theorem dX7_readsPlace_62 : decode cX7_readsPlace 62 = .ok (.invokevirtual 238, 3) := dk_182 0 238 (dk_at dksX7_readsPlace_2 18 rfl rfl)
theorem dX7_readsPlace_65 : decode cX7_readsPlace 65 = .ok (.putfield 241, 3) := dk_181 0 241 (dk_at dksX7_readsPlace_2 21 rfl rfl)
theorem dX7_readsPlace_68 : decode cX7_readsPlace 68 = .ok (.aload_n 0, 1) := dk_42 (dk_at dksX7_readsPlace_3 0 rfl rfl)
theorem dX7_readsPlace_69 : decode cX7_readsPlace 69 = .ok (.aload_n 0, 1) := dk_42 (dk_at dksX7_readsPlace_3 1 rfl rfl)
theorem dX7_readsPlace_70 : decode cX7_readsPlace 70 = .ok (.iconst 0, 1) := dk_3 (dk_at dksX7_readsPlace_3 2 rfl rfl)
theorem dX7_readsPlace_71 : decode cX7_readsPlace 71 = .ok (.bipush 9, 2) := dk_16 9 (dk_at dksX7_readsPlace_3 3 rfl rfl)
theorem dX7_readsPlace_73 : decode cX7_readsPlace 73 = .ok (.invokevirtual 216, 3) := dk_182 0 216 (dk_at dksX7_readsPlace_3 5 rfl rfl)
theorem dX7_readsPlace_76 : decode cX7_readsPlace 76 = .ok (.ifCond .eq 10, 3) := dk_153 0 10 (dk_at dksX7_readsPlace_3 8 rfl rfl)
theorem dX7_readsPlace_79 : decode cX7_readsPlace 79 = .ok (.aload_n 0, 1) := dk_42 (dk_at dksX7_readsPlace_3 11 rfl rfl)
theorem dX7_readsPlace_80 : decode cX7_readsPlace 80 = .ok (.getfield 195, 3) := dk_180 0 195 (dk_at dksX7_readsPlace_3 12 rfl rfl)
theorem dX7_readsPlace_83 : decode cX7_readsPlace 83 = .ok (.goto 4, 3) := dk_167 0 4 (dk_at dksX7_readsPlace_3 15 rfl rfl)
theorem dX7_readsPlace_86 : decode cX7_readsPlace 86 = .ok (.iconst 0, 1) := dk_3 (dk_at dksX7_readsPlace_3 18 rfl rfl)
theorem dX7_readsPlace_87 : decode cX7_readsPlace 87 = .ok (.putfield 244, 3) := dk_181 0 244 (dk_at dksX7_readsPlace_3 19 rfl rfl)
theorem dX7_readsPlace_90 : decode cX7_readsPlace 90 = .ok (.aload_n 0, 1) := dk_42 (dk_at dksX7_readsPlace_3 22 rfl rfl)
theorem dX7_readsPlace_91 : decode cX7_readsPlace 91 = .ok (.aload_n 0, 1) := dk_42 (dk_at dksX7_readsPlace_3 23 rfl rfl)
theorem dX7_readsPlace_92 : decode cX7_readsPlace 92 = .ok (.getfield 198, 3) := dk_180 0 198 (dk_at dksX7_readsPlace_4 0 rfl rfl)
theorem dX7_readsPlace_95 : decode cX7_readsPlace 95 = .ok (.ifCond .ne 18, 3) := dk_154 0 18 (dk_at dksX7_readsPlace_4 3 rfl rfl)
theorem dX7_readsPlace_98 : decode cX7_readsPlace 98 = .ok (.aload_n 0, 1) := dk_42 (dk_at dksX7_readsPlace_4 6 rfl rfl)
theorem dX7_readsPlace_99 : decode cX7_readsPlace 99 = .ok (.aload_n 0, 1) := dk_42 (dk_at dksX7_readsPlace_4 7 rfl rfl)
theorem dX7_readsPlace_100 : decode cX7_readsPlace 100 = .ok (.getfield 241, 3) := dk_180 0 241 (dk_at dksX7_readsPlace_4 8 rfl rfl)
theorem dX7_readsPlace_103 : decode cX7_readsPlace 103 = .ok (.aload_n 0, 1) := dk_42 (dk_at dksX7_readsPlace_4 11 rfl rfl)
theorem dX7_readsPlace_104 : decode cX7_readsPlace 104 = .ok (.getfield 244, 3) := dk_180 0 244 (dk_at dksX7_readsPlace_4 12 rfl rfl)
theorem dX7_readsPlace_107 : decode cX7_readsPlace 107 = .ok (.invokevirtual 247, 3) := dk_182 0 247 (dk_at dksX7_readsPlace_4 15 rfl rfl)
theorem dX7_readsPlace_110 : decode cX7_readsPlace 110 = .ok (.ifCond .ne 7, 3) := dk_154 0 7 (dk_at dksX7_readsPlace_4 18 rfl rfl)
theorem dX7_readsPlace_113 : decode cX7_readsPlace 113 = .ok (.iconst 1, 1) := dk_4 (dk_at dksX7_readsPlace_4 21 rfl rfl)
theorem dX7_readsPlace_114 : decode cX7_readsPlace 114 = .ok (.goto 4, 3) := dk_167 0 4 (dk_at dksX7_readsPlace_5 0 rfl rfl)
theorem dX7_readsPlace_117 : decode cX7_readsPlace 117 = .ok (.iconst 0, 1) := dk_3 (dk_at dksX7_readsPlace_5 3 rfl rfl)
theorem dX7_readsPlace_118 : decode cX7_readsPlace 118 = .ok (.iconst 4, 1) := dk_7 (dk_at dksX7_readsPlace_5 4 rfl rfl)
theorem dX7_readsPlace_119 : decode cX7_readsPlace 119 = .ok (.invokevirtual 210, 3) := dk_182 0 210 (dk_at dksX7_readsPlace_5 5 rfl rfl)
theorem dX7_readsPlace_122 : decode cX7_readsPlace 122 = .ok (.pop, 1) := dk_87 (dk_at dksX7_readsPlace_5 8 rfl rfl)
theorem dX7_readsPlace_123 : decode cX7_readsPlace 123 = .ok (.aload_n 0, 1) := dk_42 (dk_at dksX7_readsPlace_5 9 rfl rfl)
theorem dX7_readsPlace_124 : decode cX7_readsPlace 124 = .ok (.invokevirtual 213, 3) := dk_182 0 213 (dk_at dksX7_readsPlace_5 10 rfl rfl)
theorem dX7_readsPlace_127 : decode cX7_readsPlace 127 = .ok (.return_, 1) := dk_177 (dk_at dksX7_readsPlace_5 13 rfl rfl)
abbrev cX7_looksAtName : ByteArray := prog_21_method_51_code
def yX7_looksAtName : MethodName := ⟨RX7, "looksAtName", "()I"⟩
def dkwX7_looksAtName_3 : List UInt8 := [167, 0, 4, 3, 172]
abbrev dktX7_looksAtName_3 : List UInt8 := dkwX7_looksAtName_3 ++ []
def dkwX7_looksAtName_2 : List UInt8 := [180, 0, 198, 154, 0, 23, 42, 42, 180, 0, 189, 42, 180, 0, 183, 42, 180, 0, 189, 100, 182, 0, 220]
abbrev dktX7_looksAtName_2 : List UInt8 := dkwX7_looksAtName_2 ++ dktX7_looksAtName_3
def dkwX7_looksAtName_1 : List UInt8 := [180, 0, 183, 42, 180, 0, 189, 100, 16, 6, 163, 0, 7, 4, 167, 0, 4, 3, 5, 182, 0, 210, 87, 42]
abbrev dktX7_looksAtName_1 : List UInt8 := dkwX7_looksAtName_1 ++ dktX7_looksAtName_2
def dkwX7_looksAtName_0 : List UInt8 := [42, 42, 180, 0, 192, 4, 160, 0, 7, 4, 167, 0, 4, 3, 4, 182, 0, 210, 153, 0, 28, 42, 42]
abbrev dktX7_looksAtName_0 : List UInt8 := dkwX7_looksAtName_0 ++ dktX7_looksAtName_1
theorem dksX7_looksAtName_0 : cX7_looksAtName.data.toList.drop 0 = dktX7_looksAtName_0 := by decide +kernel
theorem dksX7_looksAtName_1 : cX7_looksAtName.data.toList.drop 23 = dktX7_looksAtName_1 := dk_seg dksX7_looksAtName_0 23 rfl rfl
theorem dksX7_looksAtName_2 : cX7_looksAtName.data.toList.drop 47 = dktX7_looksAtName_2 := dk_seg dksX7_looksAtName_1 24 rfl rfl
theorem dksX7_looksAtName_3 : cX7_looksAtName.data.toList.drop 70 = dktX7_looksAtName_3 := dk_seg dksX7_looksAtName_2 23 rfl rfl
theorem dX7_looksAtName_0 : decode cX7_looksAtName 0 = .ok (.aload_n 0, 1) := dk_42 (dk_at dksX7_looksAtName_0 0 rfl rfl)
theorem dX7_looksAtName_1 : decode cX7_looksAtName 1 = .ok (.aload_n 0, 1) := dk_42 (dk_at dksX7_looksAtName_0 1 rfl rfl)
theorem dX7_looksAtName_2 : decode cX7_looksAtName 2 = .ok (.getfield 192, 3) := dk_180 0 192 (dk_at dksX7_looksAtName_0 2 rfl rfl)
theorem dX7_looksAtName_5 : decode cX7_looksAtName 5 = .ok (.iconst 1, 1) := dk_4 (dk_at dksX7_looksAtName_0 5 rfl rfl)
theorem dX7_looksAtName_6 : decode cX7_looksAtName 6 = .ok (.if_icmp .ne 7, 3) := dk_160 0 7 (dk_at dksX7_looksAtName_0 6 rfl rfl)
theorem dX7_looksAtName_9 : decode cX7_looksAtName 9 = .ok (.iconst 1, 1) := dk_4 (dk_at dksX7_looksAtName_0 9 rfl rfl)
theorem dX7_looksAtName_10 : decode cX7_looksAtName 10 = .ok (.goto 4, 3) := dk_167 0 4 (dk_at dksX7_looksAtName_0 10 rfl rfl)
theorem dX7_looksAtName_13 : decode cX7_looksAtName 13 = .ok (.iconst 0, 1) := dk_3 (dk_at dksX7_looksAtName_0 13 rfl rfl)
theorem dX7_looksAtName_14 : decode cX7_looksAtName 14 = .ok (.iconst 1, 1) := dk_4 (dk_at dksX7_looksAtName_0 14 rfl rfl)
theorem dX7_looksAtName_15 : decode cX7_looksAtName 15 = .ok (.invokevirtual 210, 3) := dk_182 0 210 (dk_at dksX7_looksAtName_0 15 rfl rfl)
theorem dX7_looksAtName_18 : decode cX7_looksAtName 18 = .ok (.ifCond .eq 28, 3) := dk_153 0 28 (dk_at dksX7_looksAtName_0 18 rfl rfl)
theorem dX7_looksAtName_21 : decode cX7_looksAtName 21 = .ok (.aload_n 0, 1) := dk_42 (dk_at dksX7_looksAtName_0 21 rfl rfl)
theorem dX7_looksAtName_22 : decode cX7_looksAtName 22 = .ok (.aload_n 0, 1) := dk_42 (dk_at dksX7_looksAtName_0 22 rfl rfl)
theorem dX7_looksAtName_23 : decode cX7_looksAtName 23 = .ok (.getfield 183, 3) := dk_180 0 183 (dk_at dksX7_looksAtName_1 0 rfl rfl)
theorem dX7_looksAtName_26 : decode cX7_looksAtName 26 = .ok (.aload_n 0, 1) := dk_42 (dk_at dksX7_looksAtName_1 3 rfl rfl)
theorem dX7_looksAtName_27 : decode cX7_looksAtName 27 = .ok (.getfield 189, 3) := dk_180 0 189 (dk_at dksX7_looksAtName_1 4 rfl rfl)
theorem dX7_looksAtName_30 : decode cX7_looksAtName 30 = .ok (.isub, 1) := dk_100 (dk_at dksX7_looksAtName_1 7 rfl rfl)
theorem dX7_looksAtName_31 : decode cX7_looksAtName 31 = .ok (.bipush 6, 2) := dk_16 6 (dk_at dksX7_looksAtName_1 8 rfl rfl)
theorem dX7_looksAtName_33 : decode cX7_looksAtName 33 = .ok (.if_icmp .gt 7, 3) := dk_163 0 7 (dk_at dksX7_looksAtName_1 10 rfl rfl)
theorem dX7_looksAtName_36 : decode cX7_looksAtName 36 = .ok (.iconst 1, 1) := dk_4 (dk_at dksX7_looksAtName_1 13 rfl rfl)
theorem dX7_looksAtName_37 : decode cX7_looksAtName 37 = .ok (.goto 4, 3) := dk_167 0 4 (dk_at dksX7_looksAtName_1 14 rfl rfl)
theorem dX7_looksAtName_40 : decode cX7_looksAtName 40 = .ok (.iconst 0, 1) := dk_3 (dk_at dksX7_looksAtName_1 17 rfl rfl)
theorem dX7_looksAtName_41 : decode cX7_looksAtName 41 = .ok (.iconst 2, 1) := dk_5 (dk_at dksX7_looksAtName_1 18 rfl rfl)
theorem dX7_looksAtName_42 : decode cX7_looksAtName 42 = .ok (.invokevirtual 210, 3) := dk_182 0 210 (dk_at dksX7_looksAtName_1 19 rfl rfl)
theorem dX7_looksAtName_45 : decode cX7_looksAtName 45 = .ok (.pop, 1) := dk_87 (dk_at dksX7_looksAtName_1 22 rfl rfl)
theorem dX7_looksAtName_46 : decode cX7_looksAtName 46 = .ok (.aload_n 0, 1) := dk_42 (dk_at dksX7_looksAtName_1 23 rfl rfl)
theorem dX7_looksAtName_47 : decode cX7_looksAtName 47 = .ok (.getfield 198, 3) := dk_180 0 198 (dk_at dksX7_looksAtName_2 0 rfl rfl)
theorem dX7_looksAtName_50 : decode cX7_looksAtName 50 = .ok (.ifCond .ne 23, 3) := dk_154 0 23 (dk_at dksX7_looksAtName_2 3 rfl rfl)
theorem dX7_looksAtName_53 : decode cX7_looksAtName 53 = .ok (.aload_n 0, 1) := dk_42 (dk_at dksX7_looksAtName_2 6 rfl rfl)
theorem dX7_looksAtName_54 : decode cX7_looksAtName 54 = .ok (.aload_n 0, 1) := dk_42 (dk_at dksX7_looksAtName_2 7 rfl rfl)
theorem dX7_looksAtName_55 : decode cX7_looksAtName 55 = .ok (.getfield 189, 3) := dk_180 0 189 (dk_at dksX7_looksAtName_2 8 rfl rfl)
theorem dX7_looksAtName_58 : decode cX7_looksAtName 58 = .ok (.aload_n 0, 1) := dk_42 (dk_at dksX7_looksAtName_2 11 rfl rfl)
theorem dX7_looksAtName_59 : decode cX7_looksAtName 59 = .ok (.getfield 183, 3) := dk_180 0 183 (dk_at dksX7_looksAtName_2 12 rfl rfl)
theorem dX7_looksAtName_62 : decode cX7_looksAtName 62 = .ok (.aload_n 0, 1) := dk_42 (dk_at dksX7_looksAtName_2 15 rfl rfl)
theorem dX7_looksAtName_63 : decode cX7_looksAtName 63 = .ok (.getfield 189, 3) := dk_180 0 189 (dk_at dksX7_looksAtName_2 16 rfl rfl)
theorem dX7_looksAtName_66 : decode cX7_looksAtName 66 = .ok (.isub, 1) := dk_100 (dk_at dksX7_looksAtName_2 19 rfl rfl)
theorem dX7_looksAtName_67 : decode cX7_looksAtName 67 = .ok (.invokevirtual 220, 3) := dk_182 0 220 (dk_at dksX7_looksAtName_2 20 rfl rfl)
theorem dX7_looksAtName_70 : decode cX7_looksAtName 70 = .ok (.goto 4, 3) := dk_167 0 4 (dk_at dksX7_looksAtName_3 0 rfl rfl)
theorem dX7_looksAtName_73 : decode cX7_looksAtName 73 = .ok (.iconst 0, 1) := dk_3 (dk_at dksX7_looksAtName_3 3 rfl rfl)
theorem dX7_looksAtName_74 : decode cX7_looksAtName 74 = .ok (.ireturn, 1) := dk_172 (dk_at dksX7_looksAtName_3 4 rfl rfl)
abbrev cX7_packed : ByteArray := prog_21_method_48_code
def yX7_packed : MethodName := ⟨RX7, "packed", "(II)I"⟩
def dkwX7_packed_1 : List UInt8 := [96, 16, 96, 100, 62, 132, 4, 1, 167, 255, 229, 29, 172]
abbrev dktX7_packed_1 : List UInt8 := dkwX7_packed_1 ++ []
def dkwX7_packed_0 : List UInt8 := [3, 62, 3, 54, 4, 21, 4, 28, 162, 0, 27, 16, 27, 29, 104, 42, 180, 0, 33, 27, 21, 4, 96, 46]
abbrev dktX7_packed_0 : List UInt8 := dkwX7_packed_0 ++ dktX7_packed_1
theorem dksX7_packed_0 : cX7_packed.data.toList.drop 0 = dktX7_packed_0 := by decide +kernel
theorem dksX7_packed_1 : cX7_packed.data.toList.drop 24 = dktX7_packed_1 := dk_seg dksX7_packed_0 24 rfl rfl
theorem dX7_packed_0 : decode cX7_packed 0 = .ok (.iconst 0, 1) := dk_3 (dk_at dksX7_packed_0 0 rfl rfl)
theorem dX7_packed_1 : decode cX7_packed 1 = .ok (.istore_n 3, 1) := dk_62 (dk_at dksX7_packed_0 1 rfl rfl)
theorem dX7_packed_2 : decode cX7_packed 2 = .ok (.iconst 0, 1) := dk_3 (dk_at dksX7_packed_0 2 rfl rfl)
theorem dX7_packed_3 : decode cX7_packed 3 = .ok (.istore 4, 2) := dk_54 4 (dk_at dksX7_packed_0 3 rfl rfl)
theorem dX7_packed_5 : decode cX7_packed 5 = .ok (.iload 4, 2) := dk_21 4 (dk_at dksX7_packed_0 5 rfl rfl)
theorem dX7_packed_7 : decode cX7_packed 7 = .ok (.iload_n 2, 1) := dk_28 (dk_at dksX7_packed_0 7 rfl rfl)
theorem dX7_packed_8 : decode cX7_packed 8 = .ok (.if_icmp .ge 27, 3) := dk_162 0 27 (dk_at dksX7_packed_0 8 rfl rfl)
theorem dX7_packed_11 : decode cX7_packed 11 = .ok (.bipush 27, 2) := dk_16 27 (dk_at dksX7_packed_0 11 rfl rfl)
theorem dX7_packed_13 : decode cX7_packed 13 = .ok (.iload_n 3, 1) := dk_29 (dk_at dksX7_packed_0 13 rfl rfl)
theorem dX7_packed_14 : decode cX7_packed 14 = .ok (.imul, 1) := dk_104 (dk_at dksX7_packed_0 14 rfl rfl)
theorem dX7_packed_15 : decode cX7_packed 15 = .ok (.aload_n 0, 1) := dk_42 (dk_at dksX7_packed_0 15 rfl rfl)
theorem dX7_packed_16 : decode cX7_packed 16 = .ok (.getfield 33, 3) := dk_180 0 33 (dk_at dksX7_packed_0 16 rfl rfl)
theorem dX7_packed_19 : decode cX7_packed 19 = .ok (.iload_n 1, 1) := dk_27 (dk_at dksX7_packed_0 19 rfl rfl)
theorem dX7_packed_20 : decode cX7_packed 20 = .ok (.iload 4, 2) := dk_21 4 (dk_at dksX7_packed_0 20 rfl rfl)
theorem dX7_packed_22 : decode cX7_packed 22 = .ok (.iadd, 1) := dk_96 (dk_at dksX7_packed_0 22 rfl rfl)
theorem dX7_packed_23 : decode cX7_packed 23 = .ok (.iaload, 1) := dk_46 (dk_at dksX7_packed_0 23 rfl rfl)
theorem dX7_packed_24 : decode cX7_packed 24 = .ok (.iadd, 1) := dk_96 (dk_at dksX7_packed_1 0 rfl rfl)
theorem dX7_packed_25 : decode cX7_packed 25 = .ok (.bipush 96, 2) := dk_16 96 (dk_at dksX7_packed_1 1 rfl rfl)
theorem dX7_packed_27 : decode cX7_packed 27 = .ok (.isub, 1) := dk_100 (dk_at dksX7_packed_1 3 rfl rfl)
theorem dX7_packed_28 : decode cX7_packed 28 = .ok (.istore_n 3, 1) := dk_62 (dk_at dksX7_packed_1 4 rfl rfl)
theorem dX7_packed_29 : decode cX7_packed 29 = .ok (.iinc 4 1, 3) := dk_132 4 1 (dk_at dksX7_packed_1 5 rfl rfl)
theorem dX7_packed_32 : decode cX7_packed 32 = .ok (.goto (-27), 3) := dk_167 255 229 (dk_at dksX7_packed_1 8 rfl rfl)
theorem dX7_packed_35 : decode cX7_packed 35 = .ok (.iload_n 3, 1) := dk_29 (dk_at dksX7_packed_1 11 rfl rfl)
theorem dX7_packed_36 : decode cX7_packed 36 = .ok (.ireturn, 1) := dk_172 (dk_at dksX7_packed_1 12 rfl rfl)
abbrev cX7_streetNamed : ByteArray := prog_21_method_49_code
def yX7_streetNamed : MethodName := ⟨RX7, "streetNamed", "(I)I"⟩
def dkwX7_streetNamed_1 : List UInt8 := [172, 132, 2, 1, 167, 255, 230, 2, 172]
abbrev dktX7_streetNamed_1 : List UInt8 := dkwX7_streetNamed_1 ++ []
def dkwX7_streetNamed_0 : List UInt8 := [3, 61, 28, 42, 180, 0, 7, 16, 6, 46, 162, 0, 21, 42, 28, 3, 182, 0, 96, 27, 160, 0, 5, 28]
abbrev dktX7_streetNamed_0 : List UInt8 := dkwX7_streetNamed_0 ++ dktX7_streetNamed_1
theorem dksX7_streetNamed_0 : cX7_streetNamed.data.toList.drop 0 = dktX7_streetNamed_0 := by decide +kernel
theorem dksX7_streetNamed_1 : cX7_streetNamed.data.toList.drop 24 = dktX7_streetNamed_1 := dk_seg dksX7_streetNamed_0 24 rfl rfl
theorem dX7_streetNamed_0 : decode cX7_streetNamed 0 = .ok (.iconst 0, 1) := dk_3 (dk_at dksX7_streetNamed_0 0 rfl rfl)
theorem dX7_streetNamed_1 : decode cX7_streetNamed 1 = .ok (.istore_n 2, 1) := dk_61 (dk_at dksX7_streetNamed_0 1 rfl rfl)
theorem dX7_streetNamed_2 : decode cX7_streetNamed 2 = .ok (.iload_n 2, 1) := dk_28 (dk_at dksX7_streetNamed_0 2 rfl rfl)
theorem dX7_streetNamed_3 : decode cX7_streetNamed 3 = .ok (.aload_n 0, 1) := dk_42 (dk_at dksX7_streetNamed_0 3 rfl rfl)
theorem dX7_streetNamed_4 : decode cX7_streetNamed 4 = .ok (.getfield 7, 3) := dk_180 0 7 (dk_at dksX7_streetNamed_0 4 rfl rfl)
theorem dX7_streetNamed_7 : decode cX7_streetNamed 7 = .ok (.bipush 6, 2) := dk_16 6 (dk_at dksX7_streetNamed_0 7 rfl rfl)
theorem dX7_streetNamed_9 : decode cX7_streetNamed 9 = .ok (.iaload, 1) := dk_46 (dk_at dksX7_streetNamed_0 9 rfl rfl)
theorem dX7_streetNamed_10 : decode cX7_streetNamed 10 = .ok (.if_icmp .ge 21, 3) := dk_162 0 21 (dk_at dksX7_streetNamed_0 10 rfl rfl)
theorem dX7_streetNamed_13 : decode cX7_streetNamed 13 = .ok (.aload_n 0, 1) := dk_42 (dk_at dksX7_streetNamed_0 13 rfl rfl)
theorem dX7_streetNamed_14 : decode cX7_streetNamed 14 = .ok (.iload_n 2, 1) := dk_28 (dk_at dksX7_streetNamed_0 14 rfl rfl)
theorem dX7_streetNamed_15 : decode cX7_streetNamed 15 = .ok (.iconst 0, 1) := dk_3 (dk_at dksX7_streetNamed_0 15 rfl rfl)
theorem dX7_streetNamed_16 : decode cX7_streetNamed 16 = .ok (.invokevirtual 96, 3) := dk_182 0 96 (dk_at dksX7_streetNamed_0 16 rfl rfl)
theorem dX7_streetNamed_19 : decode cX7_streetNamed 19 = .ok (.iload_n 1, 1) := dk_27 (dk_at dksX7_streetNamed_0 19 rfl rfl)
theorem dX7_streetNamed_20 : decode cX7_streetNamed 20 = .ok (.if_icmp .ne 5, 3) := dk_160 0 5 (dk_at dksX7_streetNamed_0 20 rfl rfl)
theorem dX7_streetNamed_23 : decode cX7_streetNamed 23 = .ok (.iload_n 2, 1) := dk_28 (dk_at dksX7_streetNamed_0 23 rfl rfl)
theorem dX7_streetNamed_24 : decode cX7_streetNamed 24 = .ok (.ireturn, 1) := dk_172 (dk_at dksX7_streetNamed_1 0 rfl rfl)
theorem dX7_streetNamed_25 : decode cX7_streetNamed 25 = .ok (.iinc 2 1, 3) := dk_132 2 1 (dk_at dksX7_streetNamed_1 1 rfl rfl)
theorem dX7_streetNamed_28 : decode cX7_streetNamed 28 = .ok (.goto (-26), 3) := dk_167 255 230 (dk_at dksX7_streetNamed_1 4 rfl rfl)
theorem dX7_streetNamed_31 : decode cX7_streetNamed 31 = .ok (.iconst (-1), 1) := dk_2 (dk_at dksX7_streetNamed_1 7 rfl rfl)
theorem dX7_streetNamed_32 : decode cX7_streetNamed 32 = .ok (.ireturn, 1) := dk_172 (dk_at dksX7_streetNamed_1 8 rfl rfl)
abbrev cX7_ofS : ByteArray := prog_21_method_6_code
def yX7_ofS : MethodName := ⟨RX7, "ofS", "(II)I"⟩
def dkwX7_ofS_0 : List UInt8 := [42, 180, 0, 7, 16, 16, 16, 9, 27, 104, 96, 28, 96, 46, 172]
abbrev dktX7_ofS_0 : List UInt8 := dkwX7_ofS_0 ++ []
theorem dksX7_ofS_0 : cX7_ofS.data.toList.drop 0 = dktX7_ofS_0 := by decide +kernel
theorem dX7_ofS_0 : decode cX7_ofS 0 = .ok (.aload_n 0, 1) := dk_42 (dk_at dksX7_ofS_0 0 rfl rfl)
theorem dX7_ofS_1 : decode cX7_ofS 1 = .ok (.getfield 7, 3) := dk_180 0 7 (dk_at dksX7_ofS_0 1 rfl rfl)
theorem dX7_ofS_4 : decode cX7_ofS 4 = .ok (.bipush 16, 2) := dk_16 16 (dk_at dksX7_ofS_0 4 rfl rfl)
theorem dX7_ofS_6 : decode cX7_ofS 6 = .ok (.bipush 9, 2) := dk_16 9 (dk_at dksX7_ofS_0 6 rfl rfl)
theorem dX7_ofS_8 : decode cX7_ofS 8 = .ok (.iload_n 1, 1) := dk_27 (dk_at dksX7_ofS_0 8 rfl rfl)
theorem dX7_ofS_9 : decode cX7_ofS 9 = .ok (.imul, 1) := dk_104 (dk_at dksX7_ofS_0 9 rfl rfl)
theorem dX7_ofS_10 : decode cX7_ofS 10 = .ok (.iadd, 1) := dk_96 (dk_at dksX7_ofS_0 10 rfl rfl)
theorem dX7_ofS_11 : decode cX7_ofS 11 = .ok (.iload_n 2, 1) := dk_28 (dk_at dksX7_ofS_0 11 rfl rfl)
theorem dX7_ofS_12 : decode cX7_ofS 12 = .ok (.iadd, 1) := dk_96 (dk_at dksX7_ofS_0 12 rfl rfl)
theorem dX7_ofS_13 : decode cX7_ofS 13 = .ok (.iaload, 1) := dk_46 (dk_at dksX7_ofS_0 13 rfl rfl)
theorem dX7_ofS_14 : decode cX7_ofS 14 = .ok (.ireturn, 1) := dk_172 (dk_at dksX7_ofS_0 14 rfl rfl)
abbrev cX7_gardenNamed : ByteArray := prog_21_method_50_code
def yX7_gardenNamed : MethodName := ⟨RX7, "gardenNamed", "(I)I"⟩
def dkwX7_gardenNamed_1 : List UInt8 := [172, 132, 2, 1, 167, 255, 230, 2, 172]
abbrev dktX7_gardenNamed_1 : List UInt8 := dkwX7_gardenNamed_1 ++ []
def dkwX7_gardenNamed_0 : List UInt8 := [3, 61, 28, 42, 180, 0, 7, 16, 7, 46, 162, 0, 21, 42, 28, 3, 182, 0, 99, 27, 160, 0, 5, 28]
abbrev dktX7_gardenNamed_0 : List UInt8 := dkwX7_gardenNamed_0 ++ dktX7_gardenNamed_1
theorem dksX7_gardenNamed_0 : cX7_gardenNamed.data.toList.drop 0 = dktX7_gardenNamed_0 := by decide +kernel
theorem dksX7_gardenNamed_1 : cX7_gardenNamed.data.toList.drop 24 = dktX7_gardenNamed_1 := dk_seg dksX7_gardenNamed_0 24 rfl rfl
theorem dX7_gardenNamed_0 : decode cX7_gardenNamed 0 = .ok (.iconst 0, 1) := dk_3 (dk_at dksX7_gardenNamed_0 0 rfl rfl)
theorem dX7_gardenNamed_1 : decode cX7_gardenNamed 1 = .ok (.istore_n 2, 1) := dk_61 (dk_at dksX7_gardenNamed_0 1 rfl rfl)
theorem dX7_gardenNamed_2 : decode cX7_gardenNamed 2 = .ok (.iload_n 2, 1) := dk_28 (dk_at dksX7_gardenNamed_0 2 rfl rfl)
theorem dX7_gardenNamed_3 : decode cX7_gardenNamed 3 = .ok (.aload_n 0, 1) := dk_42 (dk_at dksX7_gardenNamed_0 3 rfl rfl)
theorem dX7_gardenNamed_4 : decode cX7_gardenNamed 4 = .ok (.getfield 7, 3) := dk_180 0 7 (dk_at dksX7_gardenNamed_0 4 rfl rfl)
theorem dX7_gardenNamed_7 : decode cX7_gardenNamed 7 = .ok (.bipush 7, 2) := dk_16 7 (dk_at dksX7_gardenNamed_0 7 rfl rfl)
theorem dX7_gardenNamed_9 : decode cX7_gardenNamed 9 = .ok (.iaload, 1) := dk_46 (dk_at dksX7_gardenNamed_0 9 rfl rfl)
theorem dX7_gardenNamed_10 : decode cX7_gardenNamed 10 = .ok (.if_icmp .ge 21, 3) := dk_162 0 21 (dk_at dksX7_gardenNamed_0 10 rfl rfl)
theorem dX7_gardenNamed_13 : decode cX7_gardenNamed 13 = .ok (.aload_n 0, 1) := dk_42 (dk_at dksX7_gardenNamed_0 13 rfl rfl)
theorem dX7_gardenNamed_14 : decode cX7_gardenNamed 14 = .ok (.iload_n 2, 1) := dk_28 (dk_at dksX7_gardenNamed_0 14 rfl rfl)
theorem dX7_gardenNamed_15 : decode cX7_gardenNamed 15 = .ok (.iconst 0, 1) := dk_3 (dk_at dksX7_gardenNamed_0 15 rfl rfl)
theorem dX7_gardenNamed_16 : decode cX7_gardenNamed 16 = .ok (.invokevirtual 99, 3) := dk_182 0 99 (dk_at dksX7_gardenNamed_0 16 rfl rfl)
theorem dX7_gardenNamed_19 : decode cX7_gardenNamed 19 = .ok (.iload_n 1, 1) := dk_27 (dk_at dksX7_gardenNamed_0 19 rfl rfl)
theorem dX7_gardenNamed_20 : decode cX7_gardenNamed 20 = .ok (.if_icmp .ne 5, 3) := dk_160 0 5 (dk_at dksX7_gardenNamed_0 20 rfl rfl)
theorem dX7_gardenNamed_23 : decode cX7_gardenNamed 23 = .ok (.iload_n 2, 1) := dk_28 (dk_at dksX7_gardenNamed_0 23 rfl rfl)
theorem dX7_gardenNamed_24 : decode cX7_gardenNamed 24 = .ok (.ireturn, 1) := dk_172 (dk_at dksX7_gardenNamed_1 0 rfl rfl)
theorem dX7_gardenNamed_25 : decode cX7_gardenNamed 25 = .ok (.iinc 2 1, 3) := dk_132 2 1 (dk_at dksX7_gardenNamed_1 1 rfl rfl)
theorem dX7_gardenNamed_28 : decode cX7_gardenNamed 28 = .ok (.goto (-26), 3) := dk_167 255 230 (dk_at dksX7_gardenNamed_1 4 rfl rfl)
theorem dX7_gardenNamed_31 : decode cX7_gardenNamed 31 = .ok (.iconst (-1), 1) := dk_2 (dk_at dksX7_gardenNamed_1 7 rfl rfl)
theorem dX7_gardenNamed_32 : decode cX7_gardenNamed 32 = .ok (.ireturn, 1) := dk_172 (dk_at dksX7_gardenNamed_1 8 rfl rfl)
abbrev cX7_ofG : ByteArray := prog_21_method_8_code
def yX7_ofG : MethodName := ⟨RX7, "ofG", "(II)I"⟩
def dkwX7_ofG_0 : List UInt8 := [42, 180, 0, 7, 16, 88, 16, 9, 27, 104, 96, 28, 96, 46, 172]
abbrev dktX7_ofG_0 : List UInt8 := dkwX7_ofG_0 ++ []
theorem dksX7_ofG_0 : cX7_ofG.data.toList.drop 0 = dktX7_ofG_0 := by decide +kernel
theorem dX7_ofG_0 : decode cX7_ofG 0 = .ok (.aload_n 0, 1) := dk_42 (dk_at dksX7_ofG_0 0 rfl rfl)
theorem dX7_ofG_1 : decode cX7_ofG 1 = .ok (.getfield 7, 3) := dk_180 0 7 (dk_at dksX7_ofG_0 1 rfl rfl)
theorem dX7_ofG_4 : decode cX7_ofG 4 = .ok (.bipush 88, 2) := dk_16 88 (dk_at dksX7_ofG_0 4 rfl rfl)
theorem dX7_ofG_6 : decode cX7_ofG 6 = .ok (.bipush 9, 2) := dk_16 9 (dk_at dksX7_ofG_0 6 rfl rfl)
theorem dX7_ofG_8 : decode cX7_ofG 8 = .ok (.iload_n 1, 1) := dk_27 (dk_at dksX7_ofG_0 8 rfl rfl)
theorem dX7_ofG_9 : decode cX7_ofG 9 = .ok (.imul, 1) := dk_104 (dk_at dksX7_ofG_0 9 rfl rfl)
theorem dX7_ofG_10 : decode cX7_ofG 10 = .ok (.iadd, 1) := dk_96 (dk_at dksX7_ofG_0 10 rfl rfl)
theorem dX7_ofG_11 : decode cX7_ofG 11 = .ok (.iload_n 2, 1) := dk_28 (dk_at dksX7_ofG_0 11 rfl rfl)
theorem dX7_ofG_12 : decode cX7_ofG 12 = .ok (.iadd, 1) := dk_96 (dk_at dksX7_ofG_0 12 rfl rfl)
theorem dX7_ofG_13 : decode cX7_ofG 13 = .ok (.iaload, 1) := dk_46 (dk_at dksX7_ofG_0 13 rfl rfl)
theorem dX7_ofG_14 : decode cX7_ofG 14 = .ok (.ireturn, 1) := dk_172 (dk_at dksX7_ofG_0 14 rfl rfl)
abbrev cX7_isTaken : ByteArray := prog_21_method_54_code
def yX7_isTaken : MethodName := ⟨RX7, "isTaken", "(II)Z"⟩
def dkwX7_isTaken_2 : List UInt8 := [159, 0, 7, 4, 167, 0, 4, 3, 172]
abbrev dktX7_isTaken_2 : List UInt8 := dkwX7_isTaken_2 ++ []
def dkwX7_isTaken_1 : List UInt8 := [29, 5, 182, 0, 99, 28, 160, 0, 5, 4, 172, 132, 3, 1, 167, 255, 220, 42, 27, 28, 182, 0, 223, 2]
abbrev dktX7_isTaken_1 : List UInt8 := dkwX7_isTaken_1 ++ dktX7_isTaken_2
def dkwX7_isTaken_0 : List UInt8 := [3, 62, 29, 42, 180, 0, 7, 16, 7, 46, 162, 0, 31, 42, 29, 4, 182, 0, 99, 27, 160, 0, 15, 42]
abbrev dktX7_isTaken_0 : List UInt8 := dkwX7_isTaken_0 ++ dktX7_isTaken_1
theorem dksX7_isTaken_0 : cX7_isTaken.data.toList.drop 0 = dktX7_isTaken_0 := by decide +kernel
theorem dksX7_isTaken_1 : cX7_isTaken.data.toList.drop 24 = dktX7_isTaken_1 := dk_seg dksX7_isTaken_0 24 rfl rfl
theorem dksX7_isTaken_2 : cX7_isTaken.data.toList.drop 48 = dktX7_isTaken_2 := dk_seg dksX7_isTaken_1 24 rfl rfl
theorem dX7_isTaken_0 : decode cX7_isTaken 0 = .ok (.iconst 0, 1) := dk_3 (dk_at dksX7_isTaken_0 0 rfl rfl)
theorem dX7_isTaken_1 : decode cX7_isTaken 1 = .ok (.istore_n 3, 1) := dk_62 (dk_at dksX7_isTaken_0 1 rfl rfl)
theorem dX7_isTaken_2 : decode cX7_isTaken 2 = .ok (.iload_n 3, 1) := dk_29 (dk_at dksX7_isTaken_0 2 rfl rfl)
theorem dX7_isTaken_3 : decode cX7_isTaken 3 = .ok (.aload_n 0, 1) := dk_42 (dk_at dksX7_isTaken_0 3 rfl rfl)
theorem dX7_isTaken_4 : decode cX7_isTaken 4 = .ok (.getfield 7, 3) := dk_180 0 7 (dk_at dksX7_isTaken_0 4 rfl rfl)
theorem dX7_isTaken_7 : decode cX7_isTaken 7 = .ok (.bipush 7, 2) := dk_16 7 (dk_at dksX7_isTaken_0 7 rfl rfl)
theorem dX7_isTaken_9 : decode cX7_isTaken 9 = .ok (.iaload, 1) := dk_46 (dk_at dksX7_isTaken_0 9 rfl rfl)
theorem dX7_isTaken_10 : decode cX7_isTaken 10 = .ok (.if_icmp .ge 31, 3) := dk_162 0 31 (dk_at dksX7_isTaken_0 10 rfl rfl)
theorem dX7_isTaken_13 : decode cX7_isTaken 13 = .ok (.aload_n 0, 1) := dk_42 (dk_at dksX7_isTaken_0 13 rfl rfl)
theorem dX7_isTaken_14 : decode cX7_isTaken 14 = .ok (.iload_n 3, 1) := dk_29 (dk_at dksX7_isTaken_0 14 rfl rfl)
theorem dX7_isTaken_15 : decode cX7_isTaken 15 = .ok (.iconst 1, 1) := dk_4 (dk_at dksX7_isTaken_0 15 rfl rfl)
theorem dX7_isTaken_16 : decode cX7_isTaken 16 = .ok (.invokevirtual 99, 3) := dk_182 0 99 (dk_at dksX7_isTaken_0 16 rfl rfl)
theorem dX7_isTaken_19 : decode cX7_isTaken 19 = .ok (.iload_n 1, 1) := dk_27 (dk_at dksX7_isTaken_0 19 rfl rfl)
theorem dX7_isTaken_20 : decode cX7_isTaken 20 = .ok (.if_icmp .ne 15, 3) := dk_160 0 15 (dk_at dksX7_isTaken_0 20 rfl rfl)
theorem dX7_isTaken_23 : decode cX7_isTaken 23 = .ok (.aload_n 0, 1) := dk_42 (dk_at dksX7_isTaken_0 23 rfl rfl)
theorem dX7_isTaken_24 : decode cX7_isTaken 24 = .ok (.iload_n 3, 1) := dk_29 (dk_at dksX7_isTaken_1 0 rfl rfl)
theorem dX7_isTaken_25 : decode cX7_isTaken 25 = .ok (.iconst 2, 1) := dk_5 (dk_at dksX7_isTaken_1 1 rfl rfl)
theorem dX7_isTaken_26 : decode cX7_isTaken 26 = .ok (.invokevirtual 99, 3) := dk_182 0 99 (dk_at dksX7_isTaken_1 2 rfl rfl)
theorem dX7_isTaken_29 : decode cX7_isTaken 29 = .ok (.iload_n 2, 1) := dk_28 (dk_at dksX7_isTaken_1 5 rfl rfl)
theorem dX7_isTaken_30 : decode cX7_isTaken 30 = .ok (.if_icmp .ne 5, 3) := dk_160 0 5 (dk_at dksX7_isTaken_1 6 rfl rfl)
theorem dX7_isTaken_33 : decode cX7_isTaken 33 = .ok (.iconst 1, 1) := dk_4 (dk_at dksX7_isTaken_1 9 rfl rfl)
theorem dX7_isTaken_34 : decode cX7_isTaken 34 = .ok (.ireturn, 1) := dk_172 (dk_at dksX7_isTaken_1 10 rfl rfl)
theorem dX7_isTaken_35 : decode cX7_isTaken 35 = .ok (.iinc 3 1, 3) := dk_132 3 1 (dk_at dksX7_isTaken_1 11 rfl rfl)
theorem dX7_isTaken_38 : decode cX7_isTaken 38 = .ok (.goto (-36), 3) := dk_167 255 220 (dk_at dksX7_isTaken_1 14 rfl rfl)
theorem dX7_isTaken_41 : decode cX7_isTaken 41 = .ok (.aload_n 0, 1) := dk_42 (dk_at dksX7_isTaken_1 17 rfl rfl)
theorem dX7_isTaken_42 : decode cX7_isTaken 42 = .ok (.iload_n 1, 1) := dk_27 (dk_at dksX7_isTaken_1 18 rfl rfl)
theorem dX7_isTaken_43 : decode cX7_isTaken 43 = .ok (.iload_n 2, 1) := dk_28 (dk_at dksX7_isTaken_1 19 rfl rfl)
theorem dX7_isTaken_44 : decode cX7_isTaken 44 = .ok (.invokevirtual 223, 3) := dk_182 0 223 (dk_at dksX7_isTaken_1 20 rfl rfl)
theorem dX7_isTaken_47 : decode cX7_isTaken 47 = .ok (.iconst (-1), 1) := dk_2 (dk_at dksX7_isTaken_1 23 rfl rfl)
theorem dX7_isTaken_48 : decode cX7_isTaken 48 = .ok (.if_icmp .eq 7, 3) := dk_159 0 7 (dk_at dksX7_isTaken_2 0 rfl rfl)
theorem dX7_isTaken_51 : decode cX7_isTaken 51 = .ok (.iconst 1, 1) := dk_4 (dk_at dksX7_isTaken_2 3 rfl rfl)
theorem dX7_isTaken_52 : decode cX7_isTaken 52 = .ok (.goto 4, 3) := dk_167 0 4 (dk_at dksX7_isTaken_2 4 rfl rfl)
theorem dX7_isTaken_55 : decode cX7_isTaken 55 = .ok (.iconst 0, 1) := dk_3 (dk_at dksX7_isTaken_2 7 rfl rfl)
theorem dX7_isTaken_56 : decode cX7_isTaken 56 = .ok (.ireturn, 1) := dk_172 (dk_at dksX7_isTaken_2 8 rfl rfl)
abbrev cX7_streetOn : ByteArray := prog_21_method_53_code
def yX7_streetOn : MethodName := ⟨RX7, "streetOn", "(II)I"⟩
def dkwX7_streetOn_1 : List UInt8 := [29, 5, 182, 0, 96, 28, 160, 0, 5, 29, 172, 132, 3, 1, 167, 255, 220, 2, 172]
abbrev dktX7_streetOn_1 : List UInt8 := dkwX7_streetOn_1 ++ []
def dkwX7_streetOn_0 : List UInt8 := [3, 62, 29, 42, 180, 0, 7, 16, 6, 46, 162, 0, 31, 42, 29, 4, 182, 0, 96, 27, 160, 0, 15, 42]
abbrev dktX7_streetOn_0 : List UInt8 := dkwX7_streetOn_0 ++ dktX7_streetOn_1
theorem dksX7_streetOn_0 : cX7_streetOn.data.toList.drop 0 = dktX7_streetOn_0 := by decide +kernel
theorem dksX7_streetOn_1 : cX7_streetOn.data.toList.drop 24 = dktX7_streetOn_1 := dk_seg dksX7_streetOn_0 24 rfl rfl
theorem dX7_streetOn_0 : decode cX7_streetOn 0 = .ok (.iconst 0, 1) := dk_3 (dk_at dksX7_streetOn_0 0 rfl rfl)
theorem dX7_streetOn_1 : decode cX7_streetOn 1 = .ok (.istore_n 3, 1) := dk_62 (dk_at dksX7_streetOn_0 1 rfl rfl)
theorem dX7_streetOn_2 : decode cX7_streetOn 2 = .ok (.iload_n 3, 1) := dk_29 (dk_at dksX7_streetOn_0 2 rfl rfl)
theorem dX7_streetOn_3 : decode cX7_streetOn 3 = .ok (.aload_n 0, 1) := dk_42 (dk_at dksX7_streetOn_0 3 rfl rfl)
theorem dX7_streetOn_4 : decode cX7_streetOn 4 = .ok (.getfield 7, 3) := dk_180 0 7 (dk_at dksX7_streetOn_0 4 rfl rfl)
theorem dX7_streetOn_7 : decode cX7_streetOn 7 = .ok (.bipush 6, 2) := dk_16 6 (dk_at dksX7_streetOn_0 7 rfl rfl)
theorem dX7_streetOn_9 : decode cX7_streetOn 9 = .ok (.iaload, 1) := dk_46 (dk_at dksX7_streetOn_0 9 rfl rfl)
theorem dX7_streetOn_10 : decode cX7_streetOn 10 = .ok (.if_icmp .ge 31, 3) := dk_162 0 31 (dk_at dksX7_streetOn_0 10 rfl rfl)
theorem dX7_streetOn_13 : decode cX7_streetOn 13 = .ok (.aload_n 0, 1) := dk_42 (dk_at dksX7_streetOn_0 13 rfl rfl)
theorem dX7_streetOn_14 : decode cX7_streetOn 14 = .ok (.iload_n 3, 1) := dk_29 (dk_at dksX7_streetOn_0 14 rfl rfl)
theorem dX7_streetOn_15 : decode cX7_streetOn 15 = .ok (.iconst 1, 1) := dk_4 (dk_at dksX7_streetOn_0 15 rfl rfl)
theorem dX7_streetOn_16 : decode cX7_streetOn 16 = .ok (.invokevirtual 96, 3) := dk_182 0 96 (dk_at dksX7_streetOn_0 16 rfl rfl)
theorem dX7_streetOn_19 : decode cX7_streetOn 19 = .ok (.iload_n 1, 1) := dk_27 (dk_at dksX7_streetOn_0 19 rfl rfl)
theorem dX7_streetOn_20 : decode cX7_streetOn 20 = .ok (.if_icmp .ne 15, 3) := dk_160 0 15 (dk_at dksX7_streetOn_0 20 rfl rfl)
theorem dX7_streetOn_23 : decode cX7_streetOn 23 = .ok (.aload_n 0, 1) := dk_42 (dk_at dksX7_streetOn_0 23 rfl rfl)
theorem dX7_streetOn_24 : decode cX7_streetOn 24 = .ok (.iload_n 3, 1) := dk_29 (dk_at dksX7_streetOn_1 0 rfl rfl)
theorem dX7_streetOn_25 : decode cX7_streetOn 25 = .ok (.iconst 2, 1) := dk_5 (dk_at dksX7_streetOn_1 1 rfl rfl)
theorem dX7_streetOn_26 : decode cX7_streetOn 26 = .ok (.invokevirtual 96, 3) := dk_182 0 96 (dk_at dksX7_streetOn_1 2 rfl rfl)
theorem dX7_streetOn_29 : decode cX7_streetOn 29 = .ok (.iload_n 2, 1) := dk_28 (dk_at dksX7_streetOn_1 5 rfl rfl)
theorem dX7_streetOn_30 : decode cX7_streetOn 30 = .ok (.if_icmp .ne 5, 3) := dk_160 0 5 (dk_at dksX7_streetOn_1 6 rfl rfl)
theorem dX7_streetOn_33 : decode cX7_streetOn 33 = .ok (.iload_n 3, 1) := dk_29 (dk_at dksX7_streetOn_1 9 rfl rfl)
theorem dX7_streetOn_34 : decode cX7_streetOn 34 = .ok (.ireturn, 1) := dk_172 (dk_at dksX7_streetOn_1 10 rfl rfl)
theorem dX7_streetOn_35 : decode cX7_streetOn 35 = .ok (.iinc 3 1, 3) := dk_132 3 1 (dk_at dksX7_streetOn_1 11 rfl rfl)
theorem dX7_streetOn_38 : decode cX7_streetOn 38 = .ok (.goto (-36), 3) := dk_167 255 220 (dk_at dksX7_streetOn_1 14 rfl rfl)
theorem dX7_streetOn_41 : decode cX7_streetOn 41 = .ok (.iconst (-1), 1) := dk_2 (dk_at dksX7_streetOn_1 17 rfl rfl)
theorem dX7_streetOn_42 : decode cX7_streetOn 42 = .ok (.ireturn, 1) := dk_172 (dk_at dksX7_streetOn_1 18 rfl rfl)
abbrev cX7_readsGarden : ByteArray := prog_21_method_57_code
def yX7_readsGarden : MethodName := ⟨RX7, "readsGarden", "()V"⟩
def dkwX7_readsGarden_5 : List UInt8 := [180, 0, 7, 28, 6, 96, 27, 79, 42, 180, 0, 7, 16, 7, 92, 46, 4, 96, 79, 177]
abbrev dktX7_readsGarden_5 : List UInt8 := dkwX7_readsGarden_5 ++ []
def dkwX7_readsGarden_4 : List UInt8 := [180, 0, 7, 28, 4, 96, 42, 180, 0, 241, 79, 42, 180, 0, 7, 28, 5, 96, 42, 180, 0, 244, 79, 42]
abbrev dktX7_readsGarden_4 : List UInt8 := dkwX7_readsGarden_4 ++ dktX7_readsGarden_5
def dkwX7_readsGarden_3 : List UInt8 := [42, 180, 0, 7, 16, 7, 46, 104, 96, 61, 42, 180, 0, 7, 28, 3, 96, 42, 180, 0, 229, 79, 42]
abbrev dktX7_readsGarden_3 : List UInt8 := dkwX7_readsGarden_3 ++ dktX7_readsGarden_4
def dkwX7_readsGarden_2 : List UInt8 := [16, 30, 182, 0, 238, 60, 42, 16, 59, 182, 1, 4, 42, 180, 0, 198, 153, 0, 4, 177, 16, 88, 16, 9]
abbrev dktX7_readsGarden_2 : List UInt8 := dkwX7_readsGarden_2 ++ dktX7_readsGarden_3
def dkwX7_readsGarden_1 : List UInt8 := [162, 0, 7, 4, 167, 0, 4, 3, 8, 182, 0, 210, 87, 42, 182, 0, 213, 42, 3, 182, 1, 0, 42, 4]
abbrev dktX7_readsGarden_1 : List UInt8 := dkwX7_readsGarden_1 ++ dktX7_readsGarden_2
def dkwX7_readsGarden_0 : List UInt8 := [42, 42, 19, 1, 7, 182, 0, 252, 4, 182, 0, 210, 87, 42, 42, 180, 0, 7, 16, 7, 46, 16, 6]
abbrev dktX7_readsGarden_0 : List UInt8 := dkwX7_readsGarden_0 ++ dktX7_readsGarden_1
theorem dksX7_readsGarden_0 : cX7_readsGarden.data.toList.drop 0 = dktX7_readsGarden_0 := by decide +kernel
theorem dksX7_readsGarden_1 : cX7_readsGarden.data.toList.drop 23 = dktX7_readsGarden_1 := dk_seg dksX7_readsGarden_0 23 rfl rfl
theorem dksX7_readsGarden_2 : cX7_readsGarden.data.toList.drop 47 = dktX7_readsGarden_2 := dk_seg dksX7_readsGarden_1 24 rfl rfl
theorem dksX7_readsGarden_3 : cX7_readsGarden.data.toList.drop 71 = dktX7_readsGarden_3 := dk_seg dksX7_readsGarden_2 24 rfl rfl
theorem dksX7_readsGarden_4 : cX7_readsGarden.data.toList.drop 94 = dktX7_readsGarden_4 := dk_seg dksX7_readsGarden_3 23 rfl rfl
theorem dksX7_readsGarden_5 : cX7_readsGarden.data.toList.drop 118 = dktX7_readsGarden_5 := dk_seg dksX7_readsGarden_4 24 rfl rfl
theorem dX7_readsGarden_0 : decode cX7_readsGarden 0 = .ok (.aload_n 0, 1) := dk_42 (dk_at dksX7_readsGarden_0 0 rfl rfl)
theorem dX7_readsGarden_1 : decode cX7_readsGarden 1 = .ok (.aload_n 0, 1) := dk_42 (dk_at dksX7_readsGarden_0 1 rfl rfl)
theorem dX7_readsGarden_2 : decode cX7_readsGarden 2 = .ok (.ldc_w 263, 3) := dk_19 1 7 (dk_at dksX7_readsGarden_0 2 rfl rfl)
theorem dX7_readsGarden_5 : decode cX7_readsGarden 5 = .ok (.invokevirtual 252, 3) := dk_182 0 252 (dk_at dksX7_readsGarden_0 5 rfl rfl)
theorem dX7_readsGarden_8 : decode cX7_readsGarden 8 = .ok (.iconst 1, 1) := dk_4 (dk_at dksX7_readsGarden_0 8 rfl rfl)
theorem dX7_readsGarden_9 : decode cX7_readsGarden 9 = .ok (.invokevirtual 210, 3) := dk_182 0 210 (dk_at dksX7_readsGarden_0 9 rfl rfl)
theorem dX7_readsGarden_12 : decode cX7_readsGarden 12 = .ok (.pop, 1) := dk_87 (dk_at dksX7_readsGarden_0 12 rfl rfl)
theorem dX7_readsGarden_13 : decode cX7_readsGarden 13 = .ok (.aload_n 0, 1) := dk_42 (dk_at dksX7_readsGarden_0 13 rfl rfl)
theorem dX7_readsGarden_14 : decode cX7_readsGarden 14 = .ok (.aload_n 0, 1) := dk_42 (dk_at dksX7_readsGarden_0 14 rfl rfl)
theorem dX7_readsGarden_15 : decode cX7_readsGarden 15 = .ok (.getfield 7, 3) := dk_180 0 7 (dk_at dksX7_readsGarden_0 15 rfl rfl)
theorem dX7_readsGarden_18 : decode cX7_readsGarden 18 = .ok (.bipush 7, 2) := dk_16 7 (dk_at dksX7_readsGarden_0 18 rfl rfl)
theorem dX7_readsGarden_20 : decode cX7_readsGarden 20 = .ok (.iaload, 1) := dk_46 (dk_at dksX7_readsGarden_0 20 rfl rfl)
theorem dX7_readsGarden_21 : decode cX7_readsGarden 21 = .ok (.bipush 6, 2) := dk_16 6 (dk_at dksX7_readsGarden_0 21 rfl rfl)
theorem dX7_readsGarden_23 : decode cX7_readsGarden 23 = .ok (.if_icmp .ge 7, 3) := dk_162 0 7 (dk_at dksX7_readsGarden_1 0 rfl rfl)
theorem dX7_readsGarden_26 : decode cX7_readsGarden 26 = .ok (.iconst 1, 1) := dk_4 (dk_at dksX7_readsGarden_1 3 rfl rfl)
theorem dX7_readsGarden_27 : decode cX7_readsGarden 27 = .ok (.goto 4, 3) := dk_167 0 4 (dk_at dksX7_readsGarden_1 4 rfl rfl)
theorem dX7_readsGarden_30 : decode cX7_readsGarden 30 = .ok (.iconst 0, 1) := dk_3 (dk_at dksX7_readsGarden_1 7 rfl rfl)
theorem dX7_readsGarden_31 : decode cX7_readsGarden 31 = .ok (.iconst 5, 1) := dk_8 (dk_at dksX7_readsGarden_1 8 rfl rfl)
theorem dX7_readsGarden_32 : decode cX7_readsGarden 32 = .ok (.invokevirtual 210, 3) := dk_182 0 210 (dk_at dksX7_readsGarden_1 9 rfl rfl)
theorem dX7_readsGarden_35 : decode cX7_readsGarden 35 = .ok (.pop, 1) := dk_87 (dk_at dksX7_readsGarden_1 12 rfl rfl)
theorem dX7_readsGarden_36 : decode cX7_readsGarden 36 = .ok (.aload_n 0, 1) := dk_42 (dk_at dksX7_readsGarden_1 13 rfl rfl)
theorem dX7_readsGarden_37 : decode cX7_readsGarden 37 = .ok (.invokevirtual 213, 3) := dk_182 0 213 (dk_at dksX7_readsGarden_1 14 rfl rfl)
theorem dX7_readsGarden_40 : decode cX7_readsGarden 40 = .ok (.aload_n 0, 1) := dk_42 (dk_at dksX7_readsGarden_1 17 rfl rfl)
theorem dX7_readsGarden_41 : decode cX7_readsGarden 41 = .ok (.iconst 0, 1) := dk_3 (dk_at dksX7_readsGarden_1 18 rfl rfl)
theorem dX7_readsGarden_42 : decode cX7_readsGarden 42 = .ok (.invokevirtual 256, 3) := dk_182 1 0 (dk_at dksX7_readsGarden_1 19 rfl rfl)
theorem dX7_readsGarden_45 : decode cX7_readsGarden 45 = .ok (.aload_n 0, 1) := dk_42 (dk_at dksX7_readsGarden_1 22 rfl rfl)
theorem dX7_readsGarden_46 : decode cX7_readsGarden 46 = .ok (.iconst 1, 1) := dk_4 (dk_at dksX7_readsGarden_1 23 rfl rfl)
theorem dX7_readsGarden_47 : decode cX7_readsGarden 47 = .ok (.bipush 30, 2) := dk_16 30 (dk_at dksX7_readsGarden_2 0 rfl rfl)
theorem dX7_readsGarden_49 : decode cX7_readsGarden 49 = .ok (.invokevirtual 238, 3) := dk_182 0 238 (dk_at dksX7_readsGarden_2 2 rfl rfl)
theorem dX7_readsGarden_52 : decode cX7_readsGarden 52 = .ok (.istore_n 1, 1) := dk_60 (dk_at dksX7_readsGarden_2 5 rfl rfl)
theorem dX7_readsGarden_53 : decode cX7_readsGarden 53 = .ok (.aload_n 0, 1) := dk_42 (dk_at dksX7_readsGarden_2 6 rfl rfl)
theorem dX7_readsGarden_54 : decode cX7_readsGarden 54 = .ok (.bipush 59, 2) := dk_16 59 (dk_at dksX7_readsGarden_2 7 rfl rfl)
theorem dX7_readsGarden_56 : decode cX7_readsGarden 56 = .ok (.invokevirtual 260, 3) := dk_182 1 4 (dk_at dksX7_readsGarden_2 9 rfl rfl)
theorem dX7_readsGarden_59 : decode cX7_readsGarden 59 = .ok (.aload_n 0, 1) := dk_42 (dk_at dksX7_readsGarden_2 12 rfl rfl)
theorem dX7_readsGarden_60 : decode cX7_readsGarden 60 = .ok (.getfield 198, 3) := dk_180 0 198 (dk_at dksX7_readsGarden_2 13 rfl rfl)
theorem dX7_readsGarden_63 : decode cX7_readsGarden 63 = .ok (.ifCond .eq 4, 3) := dk_153 0 4 (dk_at dksX7_readsGarden_2 16 rfl rfl)
theorem dX7_readsGarden_66 : decode cX7_readsGarden 66 = .ok (.return_, 1) := dk_177 (dk_at dksX7_readsGarden_2 19 rfl rfl)
theorem dX7_readsGarden_67 : decode cX7_readsGarden 67 = .ok (.bipush 88, 2) := dk_16 88 (dk_at dksX7_readsGarden_2 20 rfl rfl)
theorem dX7_readsGarden_69 : decode cX7_readsGarden 69 = .ok (.bipush 9, 2) := dk_16 9 (dk_at dksX7_readsGarden_2 22 rfl rfl)
theorem dX7_readsGarden_71 : decode cX7_readsGarden 71 = .ok (.aload_n 0, 1) := dk_42 (dk_at dksX7_readsGarden_3 0 rfl rfl)
theorem dX7_readsGarden_72 : decode cX7_readsGarden 72 = .ok (.getfield 7, 3) := dk_180 0 7 (dk_at dksX7_readsGarden_3 1 rfl rfl)
theorem dX7_readsGarden_75 : decode cX7_readsGarden 75 = .ok (.bipush 7, 2) := dk_16 7 (dk_at dksX7_readsGarden_3 4 rfl rfl)
theorem dX7_readsGarden_77 : decode cX7_readsGarden 77 = .ok (.iaload, 1) := dk_46 (dk_at dksX7_readsGarden_3 6 rfl rfl)
theorem dX7_readsGarden_78 : decode cX7_readsGarden 78 = .ok (.imul, 1) := dk_104 (dk_at dksX7_readsGarden_3 7 rfl rfl)
theorem dX7_readsGarden_79 : decode cX7_readsGarden 79 = .ok (.iadd, 1) := dk_96 (dk_at dksX7_readsGarden_3 8 rfl rfl)
theorem dX7_readsGarden_80 : decode cX7_readsGarden 80 = .ok (.istore_n 2, 1) := dk_61 (dk_at dksX7_readsGarden_3 9 rfl rfl)
theorem dX7_readsGarden_81 : decode cX7_readsGarden 81 = .ok (.aload_n 0, 1) := dk_42 (dk_at dksX7_readsGarden_3 10 rfl rfl)
theorem dX7_readsGarden_82 : decode cX7_readsGarden 82 = .ok (.getfield 7, 3) := dk_180 0 7 (dk_at dksX7_readsGarden_3 11 rfl rfl)
theorem dX7_readsGarden_85 : decode cX7_readsGarden 85 = .ok (.iload_n 2, 1) := dk_28 (dk_at dksX7_readsGarden_3 14 rfl rfl)
theorem dX7_readsGarden_86 : decode cX7_readsGarden 86 = .ok (.iconst 0, 1) := dk_3 (dk_at dksX7_readsGarden_3 15 rfl rfl)
theorem dX7_readsGarden_87 : decode cX7_readsGarden 87 = .ok (.iadd, 1) := dk_96 (dk_at dksX7_readsGarden_3 16 rfl rfl)
theorem dX7_readsGarden_88 : decode cX7_readsGarden 88 = .ok (.aload_n 0, 1) := dk_42 (dk_at dksX7_readsGarden_3 17 rfl rfl)
theorem dX7_readsGarden_89 : decode cX7_readsGarden 89 = .ok (.getfield 229, 3) := dk_180 0 229 (dk_at dksX7_readsGarden_3 18 rfl rfl)
theorem dX7_readsGarden_92 : decode cX7_readsGarden 92 = .ok (.iastore, 1) := dk_79 (dk_at dksX7_readsGarden_3 21 rfl rfl)
theorem dX7_readsGarden_93 : decode cX7_readsGarden 93 = .ok (.aload_n 0, 1) := dk_42 (dk_at dksX7_readsGarden_3 22 rfl rfl)
theorem dX7_readsGarden_94 : decode cX7_readsGarden 94 = .ok (.getfield 7, 3) := dk_180 0 7 (dk_at dksX7_readsGarden_4 0 rfl rfl)
theorem dX7_readsGarden_97 : decode cX7_readsGarden 97 = .ok (.iload_n 2, 1) := dk_28 (dk_at dksX7_readsGarden_4 3 rfl rfl)
theorem dX7_readsGarden_98 : decode cX7_readsGarden 98 = .ok (.iconst 1, 1) := dk_4 (dk_at dksX7_readsGarden_4 4 rfl rfl)
theorem dX7_readsGarden_99 : decode cX7_readsGarden 99 = .ok (.iadd, 1) := dk_96 (dk_at dksX7_readsGarden_4 5 rfl rfl)
theorem dX7_readsGarden_100 : decode cX7_readsGarden 100 = .ok (.aload_n 0, 1) := dk_42 (dk_at dksX7_readsGarden_4 6 rfl rfl)
theorem dX7_readsGarden_101 : decode cX7_readsGarden 101 = .ok (.getfield 241, 3) := dk_180 0 241 (dk_at dksX7_readsGarden_4 7 rfl rfl)
theorem dX7_readsGarden_104 : decode cX7_readsGarden 104 = .ok (.iastore, 1) := dk_79 (dk_at dksX7_readsGarden_4 10 rfl rfl)
theorem dX7_readsGarden_105 : decode cX7_readsGarden 105 = .ok (.aload_n 0, 1) := dk_42 (dk_at dksX7_readsGarden_4 11 rfl rfl)
theorem dX7_readsGarden_106 : decode cX7_readsGarden 106 = .ok (.getfield 7, 3) := dk_180 0 7 (dk_at dksX7_readsGarden_4 12 rfl rfl)
theorem dX7_readsGarden_109 : decode cX7_readsGarden 109 = .ok (.iload_n 2, 1) := dk_28 (dk_at dksX7_readsGarden_4 15 rfl rfl)
theorem dX7_readsGarden_110 : decode cX7_readsGarden 110 = .ok (.iconst 2, 1) := dk_5 (dk_at dksX7_readsGarden_4 16 rfl rfl)
theorem dX7_readsGarden_111 : decode cX7_readsGarden 111 = .ok (.iadd, 1) := dk_96 (dk_at dksX7_readsGarden_4 17 rfl rfl)
theorem dX7_readsGarden_112 : decode cX7_readsGarden 112 = .ok (.aload_n 0, 1) := dk_42 (dk_at dksX7_readsGarden_4 18 rfl rfl)
theorem dX7_readsGarden_113 : decode cX7_readsGarden 113 = .ok (.getfield 244, 3) := dk_180 0 244 (dk_at dksX7_readsGarden_4 19 rfl rfl)
theorem dX7_readsGarden_116 : decode cX7_readsGarden 116 = .ok (.iastore, 1) := dk_79 (dk_at dksX7_readsGarden_4 22 rfl rfl)
theorem dX7_readsGarden_117 : decode cX7_readsGarden 117 = .ok (.aload_n 0, 1) := dk_42 (dk_at dksX7_readsGarden_4 23 rfl rfl)
theorem dX7_readsGarden_118 : decode cX7_readsGarden 118 = .ok (.getfield 7, 3) := dk_180 0 7 (dk_at dksX7_readsGarden_5 0 rfl rfl)
theorem dX7_readsGarden_121 : decode cX7_readsGarden 121 = .ok (.iload_n 2, 1) := dk_28 (dk_at dksX7_readsGarden_5 3 rfl rfl)
theorem dX7_readsGarden_122 : decode cX7_readsGarden 122 = .ok (.iconst 3, 1) := dk_6 (dk_at dksX7_readsGarden_5 4 rfl rfl)
theorem dX7_readsGarden_123 : decode cX7_readsGarden 123 = .ok (.iadd, 1) := dk_96 (dk_at dksX7_readsGarden_5 5 rfl rfl)
theorem dX7_readsGarden_124 : decode cX7_readsGarden 124 = .ok (.iload_n 1, 1) := dk_27 (dk_at dksX7_readsGarden_5 6 rfl rfl)
theorem dX7_readsGarden_125 : decode cX7_readsGarden 125 = .ok (.iastore, 1) := dk_79 (dk_at dksX7_readsGarden_5 7 rfl rfl)
theorem dX7_readsGarden_126 : decode cX7_readsGarden 126 = .ok (.aload_n 0, 1) := dk_42 (dk_at dksX7_readsGarden_5 8 rfl rfl)
theorem dX7_readsGarden_127 : decode cX7_readsGarden 127 = .ok (.getfield 7, 3) := dk_180 0 7 (dk_at dksX7_readsGarden_5 9 rfl rfl)
theorem dX7_readsGarden_130 : decode cX7_readsGarden 130 = .ok (.bipush 7, 2) := dk_16 7 (dk_at dksX7_readsGarden_5 12 rfl rfl)
theorem dX7_readsGarden_132 : decode cX7_readsGarden 132 = .ok (.dup2, 1) := dk_92 (dk_at dksX7_readsGarden_5 14 rfl rfl)
theorem dX7_readsGarden_133 : decode cX7_readsGarden 133 = .ok (.iaload, 1) := dk_46 (dk_at dksX7_readsGarden_5 15 rfl rfl)
theorem dX7_readsGarden_134 : decode cX7_readsGarden 134 = .ok (.iconst 1, 1) := dk_4 (dk_at dksX7_readsGarden_5 16 rfl rfl)
theorem dX7_readsGarden_135 : decode cX7_readsGarden 135 = .ok (.iadd, 1) := dk_96 (dk_at dksX7_readsGarden_5 17 rfl rfl)
theorem dX7_readsGarden_136 : decode cX7_readsGarden 136 = .ok (.iastore, 1) := dk_79 (dk_at dksX7_readsGarden_5 18 rfl rfl)
theorem dX7_readsGarden_137 : decode cX7_readsGarden 137 = .ok (.return_, 1) := dk_177 (dk_at dksX7_readsGarden_5 19 rfl rfl)
abbrev cX7_readsCart : ByteArray := prog_21_method_58_code
def yX7_readsCart : MethodName := ⟨RX7, "readsCart", "()V"⟩
def dkwX7_readsCart_4 : List UInt8 := [182, 0, 164, 42, 180, 0, 7, 16, 8, 92, 46, 4, 96, 79, 177]
abbrev dktX7_readsCart_4 : List UInt8 := dkwX7_readsCart_4 ++ []
def dkwX7_readsCart_3 : List UInt8 := [42, 180, 0, 7, 16, 8, 46, 3, 27, 182, 0, 164, 42, 42, 180, 0, 7, 16, 8, 46, 4, 28]
abbrev dktX7_readsCart_3 : List UInt8 := dkwX7_readsCart_3 ++ dktX7_readsCart_4
def dkwX7_readsCart_2 : List UInt8 := [60, 42, 4, 16, 9, 182, 0, 238, 61, 42, 16, 59, 182, 1, 4, 42, 180, 0, 198, 153, 0, 4, 177, 42]
abbrev dktX7_readsCart_2 : List UInt8 := dkwX7_readsCart_2 ++ dktX7_readsCart_3
def dkwX7_readsCart_1 : List UInt8 := [162, 0, 7, 4, 167, 0, 4, 3, 8, 182, 0, 210, 87, 42, 182, 0, 213, 42, 4, 16, 60, 182, 0, 238]
abbrev dktX7_readsCart_1 : List UInt8 := dkwX7_readsCart_1 ++ dktX7_readsCart_2
def dkwX7_readsCart_0 : List UInt8 := [42, 42, 19, 1, 9, 182, 0, 252, 4, 182, 0, 210, 87, 42, 42, 180, 0, 7, 16, 8, 46, 16, 6]
abbrev dktX7_readsCart_0 : List UInt8 := dkwX7_readsCart_0 ++ dktX7_readsCart_1
theorem dksX7_readsCart_0 : cX7_readsCart.data.toList.drop 0 = dktX7_readsCart_0 := by decide +kernel
theorem dksX7_readsCart_1 : cX7_readsCart.data.toList.drop 23 = dktX7_readsCart_1 := dk_seg dksX7_readsCart_0 23 rfl rfl
theorem dksX7_readsCart_2 : cX7_readsCart.data.toList.drop 47 = dktX7_readsCart_2 := dk_seg dksX7_readsCart_1 24 rfl rfl
theorem dksX7_readsCart_3 : cX7_readsCart.data.toList.drop 71 = dktX7_readsCart_3 := dk_seg dksX7_readsCart_2 24 rfl rfl
theorem dksX7_readsCart_4 : cX7_readsCart.data.toList.drop 93 = dktX7_readsCart_4 := dk_seg dksX7_readsCart_3 22 rfl rfl
theorem dX7_readsCart_0 : decode cX7_readsCart 0 = .ok (.aload_n 0, 1) := dk_42 (dk_at dksX7_readsCart_0 0 rfl rfl)
theorem dX7_readsCart_1 : decode cX7_readsCart 1 = .ok (.aload_n 0, 1) := dk_42 (dk_at dksX7_readsCart_0 1 rfl rfl)
theorem dX7_readsCart_2 : decode cX7_readsCart 2 = .ok (.ldc_w 265, 3) := dk_19 1 9 (dk_at dksX7_readsCart_0 2 rfl rfl)
theorem dX7_readsCart_5 : decode cX7_readsCart 5 = .ok (.invokevirtual 252, 3) := dk_182 0 252 (dk_at dksX7_readsCart_0 5 rfl rfl)
theorem dX7_readsCart_8 : decode cX7_readsCart 8 = .ok (.iconst 1, 1) := dk_4 (dk_at dksX7_readsCart_0 8 rfl rfl)
theorem dX7_readsCart_9 : decode cX7_readsCart 9 = .ok (.invokevirtual 210, 3) := dk_182 0 210 (dk_at dksX7_readsCart_0 9 rfl rfl)
theorem dX7_readsCart_12 : decode cX7_readsCart 12 = .ok (.pop, 1) := dk_87 (dk_at dksX7_readsCart_0 12 rfl rfl)
theorem dX7_readsCart_13 : decode cX7_readsCart 13 = .ok (.aload_n 0, 1) := dk_42 (dk_at dksX7_readsCart_0 13 rfl rfl)
theorem dX7_readsCart_14 : decode cX7_readsCart 14 = .ok (.aload_n 0, 1) := dk_42 (dk_at dksX7_readsCart_0 14 rfl rfl)
theorem dX7_readsCart_15 : decode cX7_readsCart 15 = .ok (.getfield 7, 3) := dk_180 0 7 (dk_at dksX7_readsCart_0 15 rfl rfl)
theorem dX7_readsCart_18 : decode cX7_readsCart 18 = .ok (.bipush 8, 2) := dk_16 8 (dk_at dksX7_readsCart_0 18 rfl rfl)
theorem dX7_readsCart_20 : decode cX7_readsCart 20 = .ok (.iaload, 1) := dk_46 (dk_at dksX7_readsCart_0 20 rfl rfl)
theorem dX7_readsCart_21 : decode cX7_readsCart 21 = .ok (.bipush 6, 2) := dk_16 6 (dk_at dksX7_readsCart_0 21 rfl rfl)
theorem dX7_readsCart_23 : decode cX7_readsCart 23 = .ok (.if_icmp .ge 7, 3) := dk_162 0 7 (dk_at dksX7_readsCart_1 0 rfl rfl)
theorem dX7_readsCart_26 : decode cX7_readsCart 26 = .ok (.iconst 1, 1) := dk_4 (dk_at dksX7_readsCart_1 3 rfl rfl)
theorem dX7_readsCart_27 : decode cX7_readsCart 27 = .ok (.goto 4, 3) := dk_167 0 4 (dk_at dksX7_readsCart_1 4 rfl rfl)
theorem dX7_readsCart_30 : decode cX7_readsCart 30 = .ok (.iconst 0, 1) := dk_3 (dk_at dksX7_readsCart_1 7 rfl rfl)
theorem dX7_readsCart_31 : decode cX7_readsCart 31 = .ok (.iconst 5, 1) := dk_8 (dk_at dksX7_readsCart_1 8 rfl rfl)
theorem dX7_readsCart_32 : decode cX7_readsCart 32 = .ok (.invokevirtual 210, 3) := dk_182 0 210 (dk_at dksX7_readsCart_1 9 rfl rfl)
theorem dX7_readsCart_35 : decode cX7_readsCart 35 = .ok (.pop, 1) := dk_87 (dk_at dksX7_readsCart_1 12 rfl rfl)
theorem dX7_readsCart_36 : decode cX7_readsCart 36 = .ok (.aload_n 0, 1) := dk_42 (dk_at dksX7_readsCart_1 13 rfl rfl)
theorem dX7_readsCart_37 : decode cX7_readsCart 37 = .ok (.invokevirtual 213, 3) := dk_182 0 213 (dk_at dksX7_readsCart_1 14 rfl rfl)
theorem dX7_readsCart_40 : decode cX7_readsCart 40 = .ok (.aload_n 0, 1) := dk_42 (dk_at dksX7_readsCart_1 17 rfl rfl)
theorem dX7_readsCart_41 : decode cX7_readsCart 41 = .ok (.iconst 1, 1) := dk_4 (dk_at dksX7_readsCart_1 18 rfl rfl)
theorem dX7_readsCart_42 : decode cX7_readsCart 42 = .ok (.bipush 60, 2) := dk_16 60 (dk_at dksX7_readsCart_1 19 rfl rfl)
theorem dX7_readsCart_44 : decode cX7_readsCart 44 = .ok (.invokevirtual 238, 3) := dk_182 0 238 (dk_at dksX7_readsCart_1 21 rfl rfl)
theorem dX7_readsCart_47 : decode cX7_readsCart 47 = .ok (.istore_n 1, 1) := dk_60 (dk_at dksX7_readsCart_2 0 rfl rfl)
theorem dX7_readsCart_48 : decode cX7_readsCart 48 = .ok (.aload_n 0, 1) := dk_42 (dk_at dksX7_readsCart_2 1 rfl rfl)
theorem dX7_readsCart_49 : decode cX7_readsCart 49 = .ok (.iconst 1, 1) := dk_4 (dk_at dksX7_readsCart_2 2 rfl rfl)
theorem dX7_readsCart_50 : decode cX7_readsCart 50 = .ok (.bipush 9, 2) := dk_16 9 (dk_at dksX7_readsCart_2 3 rfl rfl)
theorem dX7_readsCart_52 : decode cX7_readsCart 52 = .ok (.invokevirtual 238, 3) := dk_182 0 238 (dk_at dksX7_readsCart_2 5 rfl rfl)
theorem dX7_readsCart_55 : decode cX7_readsCart 55 = .ok (.istore_n 2, 1) := dk_61 (dk_at dksX7_readsCart_2 8 rfl rfl)
theorem dX7_readsCart_56 : decode cX7_readsCart 56 = .ok (.aload_n 0, 1) := dk_42 (dk_at dksX7_readsCart_2 9 rfl rfl)
theorem dX7_readsCart_57 : decode cX7_readsCart 57 = .ok (.bipush 59, 2) := dk_16 59 (dk_at dksX7_readsCart_2 10 rfl rfl)
theorem dX7_readsCart_59 : decode cX7_readsCart 59 = .ok (.invokevirtual 260, 3) := dk_182 1 4 (dk_at dksX7_readsCart_2 12 rfl rfl)
theorem dX7_readsCart_62 : decode cX7_readsCart 62 = .ok (.aload_n 0, 1) := dk_42 (dk_at dksX7_readsCart_2 15 rfl rfl)
theorem dX7_readsCart_63 : decode cX7_readsCart 63 = .ok (.getfield 198, 3) := dk_180 0 198 (dk_at dksX7_readsCart_2 16 rfl rfl)
theorem dX7_readsCart_66 : decode cX7_readsCart 66 = .ok (.ifCond .eq 4, 3) := dk_153 0 4 (dk_at dksX7_readsCart_2 19 rfl rfl)
theorem dX7_readsCart_69 : decode cX7_readsCart 69 = .ok (.return_, 1) := dk_177 (dk_at dksX7_readsCart_2 22 rfl rfl)
theorem dX7_readsCart_70 : decode cX7_readsCart 70 = .ok (.aload_n 0, 1) := dk_42 (dk_at dksX7_readsCart_2 23 rfl rfl)
theorem dX7_readsCart_71 : decode cX7_readsCart 71 = .ok (.aload_n 0, 1) := dk_42 (dk_at dksX7_readsCart_3 0 rfl rfl)
theorem dX7_readsCart_72 : decode cX7_readsCart 72 = .ok (.getfield 7, 3) := dk_180 0 7 (dk_at dksX7_readsCart_3 1 rfl rfl)
theorem dX7_readsCart_75 : decode cX7_readsCart 75 = .ok (.bipush 8, 2) := dk_16 8 (dk_at dksX7_readsCart_3 4 rfl rfl)
theorem dX7_readsCart_77 : decode cX7_readsCart 77 = .ok (.iaload, 1) := dk_46 (dk_at dksX7_readsCart_3 6 rfl rfl)
theorem dX7_readsCart_78 : decode cX7_readsCart 78 = .ok (.iconst 0, 1) := dk_3 (dk_at dksX7_readsCart_3 7 rfl rfl)
theorem dX7_readsCart_79 : decode cX7_readsCart 79 = .ok (.iload_n 1, 1) := dk_27 (dk_at dksX7_readsCart_3 8 rfl rfl)
theorem dX7_readsCart_80 : decode cX7_readsCart 80 = .ok (.invokevirtual 164, 3) := dk_182 0 164 (dk_at dksX7_readsCart_3 9 rfl rfl)
theorem dX7_readsCart_83 : decode cX7_readsCart 83 = .ok (.aload_n 0, 1) := dk_42 (dk_at dksX7_readsCart_3 12 rfl rfl)
theorem dX7_readsCart_84 : decode cX7_readsCart 84 = .ok (.aload_n 0, 1) := dk_42 (dk_at dksX7_readsCart_3 13 rfl rfl)
theorem dX7_readsCart_85 : decode cX7_readsCart 85 = .ok (.getfield 7, 3) := dk_180 0 7 (dk_at dksX7_readsCart_3 14 rfl rfl)
theorem dX7_readsCart_88 : decode cX7_readsCart 88 = .ok (.bipush 8, 2) := dk_16 8 (dk_at dksX7_readsCart_3 17 rfl rfl)
theorem dX7_readsCart_90 : decode cX7_readsCart 90 = .ok (.iaload, 1) := dk_46 (dk_at dksX7_readsCart_3 19 rfl rfl)
theorem dX7_readsCart_91 : decode cX7_readsCart 91 = .ok (.iconst 1, 1) := dk_4 (dk_at dksX7_readsCart_3 20 rfl rfl)
theorem dX7_readsCart_92 : decode cX7_readsCart 92 = .ok (.iload_n 2, 1) := dk_28 (dk_at dksX7_readsCart_3 21 rfl rfl)
theorem dX7_readsCart_93 : decode cX7_readsCart 93 = .ok (.invokevirtual 164, 3) := dk_182 0 164 (dk_at dksX7_readsCart_4 0 rfl rfl)
theorem dX7_readsCart_96 : decode cX7_readsCart 96 = .ok (.aload_n 0, 1) := dk_42 (dk_at dksX7_readsCart_4 3 rfl rfl)
theorem dX7_readsCart_97 : decode cX7_readsCart 97 = .ok (.getfield 7, 3) := dk_180 0 7 (dk_at dksX7_readsCart_4 4 rfl rfl)
theorem dX7_readsCart_100 : decode cX7_readsCart 100 = .ok (.bipush 8, 2) := dk_16 8 (dk_at dksX7_readsCart_4 7 rfl rfl)
theorem dX7_readsCart_102 : decode cX7_readsCart 102 = .ok (.dup2, 1) := dk_92 (dk_at dksX7_readsCart_4 9 rfl rfl)
theorem dX7_readsCart_103 : decode cX7_readsCart 103 = .ok (.iaload, 1) := dk_46 (dk_at dksX7_readsCart_4 10 rfl rfl)
theorem dX7_readsCart_104 : decode cX7_readsCart 104 = .ok (.iconst 1, 1) := dk_4 (dk_at dksX7_readsCart_4 11 rfl rfl)
theorem dX7_readsCart_105 : decode cX7_readsCart 105 = .ok (.iadd, 1) := dk_96 (dk_at dksX7_readsCart_4 12 rfl rfl)
theorem dX7_readsCart_106 : decode cX7_readsCart 106 = .ok (.iastore, 1) := dk_79 (dk_at dksX7_readsCart_4 13 rfl rfl)
theorem dX7_readsCart_107 : decode cX7_readsCart 107 = .ok (.return_, 1) := dk_177 (dk_at dksX7_readsCart_4 14 rfl rfl)
abbrev cX7_putC : ByteArray := prog_21_method_11_code
def yX7_putC : MethodName := ⟨RX7, "putC", "(III)V"⟩
def dkwX7_putC_0 : List UInt8 := [42, 180, 0, 7, 17, 0, 142, 8, 27, 104, 96, 28, 96, 29, 79, 177]
abbrev dktX7_putC_0 : List UInt8 := dkwX7_putC_0 ++ []
theorem dksX7_putC_0 : cX7_putC.data.toList.drop 0 = dktX7_putC_0 := by decide +kernel
theorem dX7_putC_0 : decode cX7_putC 0 = .ok (.aload_n 0, 1) := dk_42 (dk_at dksX7_putC_0 0 rfl rfl)
theorem dX7_putC_1 : decode cX7_putC 1 = .ok (.getfield 7, 3) := dk_180 0 7 (dk_at dksX7_putC_0 1 rfl rfl)
theorem dX7_putC_4 : decode cX7_putC 4 = .ok (.sipush 142, 3) := dk_17 0 142 (dk_at dksX7_putC_0 4 rfl rfl)
theorem dX7_putC_7 : decode cX7_putC 7 = .ok (.iconst 5, 1) := dk_8 (dk_at dksX7_putC_0 7 rfl rfl)
theorem dX7_putC_8 : decode cX7_putC 8 = .ok (.iload_n 1, 1) := dk_27 (dk_at dksX7_putC_0 8 rfl rfl)
theorem dX7_putC_9 : decode cX7_putC 9 = .ok (.imul, 1) := dk_104 (dk_at dksX7_putC_0 9 rfl rfl)
theorem dX7_putC_10 : decode cX7_putC 10 = .ok (.iadd, 1) := dk_96 (dk_at dksX7_putC_0 10 rfl rfl)
theorem dX7_putC_11 : decode cX7_putC 11 = .ok (.iload_n 2, 1) := dk_28 (dk_at dksX7_putC_0 11 rfl rfl)
theorem dX7_putC_12 : decode cX7_putC 12 = .ok (.iadd, 1) := dk_96 (dk_at dksX7_putC_0 12 rfl rfl)
theorem dX7_putC_13 : decode cX7_putC 13 = .ok (.iload_n 3, 1) := dk_29 (dk_at dksX7_putC_0 13 rfl rfl)
theorem dX7_putC_14 : decode cX7_putC 14 = .ok (.iastore, 1) := dk_79 (dk_at dksX7_putC_0 14 rfl rfl)
theorem dX7_putC_15 : decode cX7_putC 15 = .ok (.return_, 1) := dk_177 (dk_at dksX7_putC_0 15 rfl rfl)
abbrev cX7_thrown : ByteArray := prog_21_method_3_code
def yX7_thrown : MethodName := ⟨RX7, "thrown", "()I"⟩
theorem dX7_thrown_0 : decode cX7_thrown 0 = .ok (.aload_n 0, 1) := by decide +kernel
theorem dX7_thrown_1 : decode cX7_thrown 1 = .ok (.getfield 85, 3) := by decide +kernel
theorem dX7_thrown_4 : decode cX7_thrown 4 = .ok (.ireturn, 1) := by decide +kernel
abbrev cX7_append : ByteArray := prog_21_method_34_code
def yX7_append : MethodName := ⟨RX7, "append", "(IIIII)I"⟩
def dkwX7_append_3 : List UInt8 := [181, 0, 76, 3, 172]
abbrev dktX7_append_3 : List UInt8 := dkwX7_append_3 ++ []
def dkwX7_append_2 : List UInt8 := [163, 0, 7, 4, 167, 0, 4, 3, 4, 182, 0, 176, 153, 0, 8, 42, 180, 0, 76, 172, 42, 21, 6]
abbrev dktX7_append_2 : List UInt8 := dkwX7_append_2 ++ dktX7_append_3
def dkwX7_append_1 : List UInt8 := [182, 0, 173, 42, 21, 4, 182, 0, 173, 42, 21, 5, 182, 0, 173, 42, 42, 180, 0, 76, 17, 2, 188]
abbrev dktX7_append_1 : List UInt8 := dkwX7_append_1 ++ dktX7_append_2
def dkwX7_append_0 : List UInt8 := [42, 3, 181, 0, 85, 42, 180, 0, 76, 54, 6, 42, 27, 182, 0, 173, 42, 28, 182, 0, 173, 42, 29]
abbrev dktX7_append_0 : List UInt8 := dkwX7_append_0 ++ dktX7_append_1
theorem dksX7_append_0 : cX7_append.data.toList.drop 0 = dktX7_append_0 := by decide +kernel
theorem dksX7_append_1 : cX7_append.data.toList.drop 23 = dktX7_append_1 := dk_seg dksX7_append_0 23 rfl rfl
theorem dksX7_append_2 : cX7_append.data.toList.drop 46 = dktX7_append_2 := dk_seg dksX7_append_1 23 rfl rfl
theorem dksX7_append_3 : cX7_append.data.toList.drop 69 = dktX7_append_3 := dk_seg dksX7_append_2 23 rfl rfl
theorem dX7_append_0 : decode cX7_append 0 = .ok (.aload_n 0, 1) := dk_42 (dk_at dksX7_append_0 0 rfl rfl)
theorem dX7_append_1 : decode cX7_append 1 = .ok (.iconst 0, 1) := dk_3 (dk_at dksX7_append_0 1 rfl rfl)
theorem dX7_append_2 : decode cX7_append 2 = .ok (.putfield 85, 3) := dk_181 0 85 (dk_at dksX7_append_0 2 rfl rfl)
theorem dX7_append_5 : decode cX7_append 5 = .ok (.aload_n 0, 1) := dk_42 (dk_at dksX7_append_0 5 rfl rfl)
theorem dX7_append_6 : decode cX7_append 6 = .ok (.getfield 76, 3) := dk_180 0 76 (dk_at dksX7_append_0 6 rfl rfl)
theorem dX7_append_9 : decode cX7_append 9 = .ok (.istore 6, 2) := dk_54 6 (dk_at dksX7_append_0 9 rfl rfl)
theorem dX7_append_11 : decode cX7_append 11 = .ok (.aload_n 0, 1) := dk_42 (dk_at dksX7_append_0 11 rfl rfl)
theorem dX7_append_12 : decode cX7_append 12 = .ok (.iload_n 1, 1) := dk_27 (dk_at dksX7_append_0 12 rfl rfl)
theorem dX7_append_13 : decode cX7_append 13 = .ok (.invokevirtual 173, 3) := dk_182 0 173 (dk_at dksX7_append_0 13 rfl rfl)
theorem dX7_append_16 : decode cX7_append 16 = .ok (.aload_n 0, 1) := dk_42 (dk_at dksX7_append_0 16 rfl rfl)
theorem dX7_append_17 : decode cX7_append 17 = .ok (.iload_n 2, 1) := dk_28 (dk_at dksX7_append_0 17 rfl rfl)
theorem dX7_append_18 : decode cX7_append 18 = .ok (.invokevirtual 173, 3) := dk_182 0 173 (dk_at dksX7_append_0 18 rfl rfl)
theorem dX7_append_21 : decode cX7_append 21 = .ok (.aload_n 0, 1) := dk_42 (dk_at dksX7_append_0 21 rfl rfl)
theorem dX7_append_22 : decode cX7_append 22 = .ok (.iload_n 3, 1) := dk_29 (dk_at dksX7_append_0 22 rfl rfl)
theorem dX7_append_23 : decode cX7_append 23 = .ok (.invokevirtual 173, 3) := dk_182 0 173 (dk_at dksX7_append_1 0 rfl rfl)
theorem dX7_append_26 : decode cX7_append 26 = .ok (.aload_n 0, 1) := dk_42 (dk_at dksX7_append_1 3 rfl rfl)
theorem dX7_append_27 : decode cX7_append 27 = .ok (.iload 4, 2) := dk_21 4 (dk_at dksX7_append_1 4 rfl rfl)
theorem dX7_append_29 : decode cX7_append 29 = .ok (.invokevirtual 173, 3) := dk_182 0 173 (dk_at dksX7_append_1 6 rfl rfl)
theorem dX7_append_32 : decode cX7_append 32 = .ok (.aload_n 0, 1) := dk_42 (dk_at dksX7_append_1 9 rfl rfl)
theorem dX7_append_33 : decode cX7_append 33 = .ok (.iload 5, 2) := dk_21 5 (dk_at dksX7_append_1 10 rfl rfl)
theorem dX7_append_35 : decode cX7_append 35 = .ok (.invokevirtual 173, 3) := dk_182 0 173 (dk_at dksX7_append_1 12 rfl rfl)
theorem dX7_append_38 : decode cX7_append 38 = .ok (.aload_n 0, 1) := dk_42 (dk_at dksX7_append_1 15 rfl rfl)
theorem dX7_append_39 : decode cX7_append 39 = .ok (.aload_n 0, 1) := dk_42 (dk_at dksX7_append_1 16 rfl rfl)
theorem dX7_append_40 : decode cX7_append 40 = .ok (.getfield 76, 3) := dk_180 0 76 (dk_at dksX7_append_1 17 rfl rfl)
theorem dX7_append_43 : decode cX7_append 43 = .ok (.sipush 700, 3) := dk_17 2 188 (dk_at dksX7_append_1 20 rfl rfl)
theorem dX7_append_46 : decode cX7_append 46 = .ok (.if_icmp .gt 7, 3) := dk_163 0 7 (dk_at dksX7_append_2 0 rfl rfl)
theorem dX7_append_49 : decode cX7_append 49 = .ok (.iconst 1, 1) := dk_4 (dk_at dksX7_append_2 3 rfl rfl)
theorem dX7_append_50 : decode cX7_append 50 = .ok (.goto 4, 3) := dk_167 0 4 (dk_at dksX7_append_2 4 rfl rfl)
theorem dX7_append_53 : decode cX7_append 53 = .ok (.iconst 0, 1) := dk_3 (dk_at dksX7_append_2 7 rfl rfl)
theorem dX7_append_54 : decode cX7_append 54 = .ok (.iconst 1, 1) := dk_4 (dk_at dksX7_append_2 8 rfl rfl)
theorem dX7_append_55 : decode cX7_append 55 = .ok (.invokevirtual 176, 3) := dk_182 0 176 (dk_at dksX7_append_2 9 rfl rfl)
theorem dX7_append_58 : decode cX7_append 58 = .ok (.ifCond .eq 8, 3) := dk_153 0 8 (dk_at dksX7_append_2 12 rfl rfl)
theorem dX7_append_61 : decode cX7_append 61 = .ok (.aload_n 0, 1) := dk_42 (dk_at dksX7_append_2 15 rfl rfl)
theorem dX7_append_62 : decode cX7_append 62 = .ok (.getfield 76, 3) := dk_180 0 76 (dk_at dksX7_append_2 16 rfl rfl)
theorem dX7_append_65 : decode cX7_append 65 = .ok (.ireturn, 1) := dk_172 (dk_at dksX7_append_2 19 rfl rfl)
theorem dX7_append_66 : decode cX7_append 66 = .ok (.aload_n 0, 1) := dk_42 (dk_at dksX7_append_2 20 rfl rfl)
theorem dX7_append_67 : decode cX7_append 67 = .ok (.iload 6, 2) := dk_21 6 (dk_at dksX7_append_2 21 rfl rfl)
theorem dX7_append_69 : decode cX7_append 69 = .ok (.putfield 76, 3) := dk_181 0 76 (dk_at dksX7_append_3 0 rfl rfl)
theorem dX7_append_72 : decode cX7_append 72 = .ok (.iconst 0, 1) := dk_3 (dk_at dksX7_append_3 3 rfl rfl)
theorem dX7_append_73 : decode cX7_append 73 = .ok (.ireturn, 1) := dk_172 (dk_at dksX7_append_3 4 rfl rfl)
abbrev cX7_feeds : ByteArray := prog_21_method_33_code
def yX7_feeds : MethodName := ⟨RX7, "feeds", "(I)V"⟩
def dkwX7_feeds_2 : List UInt8 := [4, 96, 181, 0, 76, 132, 2, 248, 167, 255, 204, 177]
abbrev dktX7_feeds_2 : List UInt8 := dkwX7_feeds_2 ++ []
def dkwX7_feeds_1 : List UInt8 := [180, 0, 76, 17, 2, 188, 162, 0, 13, 42, 180, 0, 33, 42, 180, 0, 76, 29, 79, 42, 89, 180, 0, 76]
abbrev dktX7_feeds_1 : List UInt8 := dkwX7_feeds_1 ++ dktX7_feeds_2
def dkwX7_feeds_0 : List UInt8 := [16, 24, 61, 28, 155, 0, 54, 27, 28, 122, 17, 0, 255, 126, 62, 29, 154, 0, 6, 167, 0, 33, 42]
abbrev dktX7_feeds_0 : List UInt8 := dkwX7_feeds_0 ++ dktX7_feeds_1
theorem dksX7_feeds_0 : cX7_feeds.data.toList.drop 0 = dktX7_feeds_0 := by decide +kernel
theorem dksX7_feeds_1 : cX7_feeds.data.toList.drop 23 = dktX7_feeds_1 := dk_seg dksX7_feeds_0 23 rfl rfl
theorem dksX7_feeds_2 : cX7_feeds.data.toList.drop 47 = dktX7_feeds_2 := dk_seg dksX7_feeds_1 24 rfl rfl
theorem dX7_feeds_0 : decode cX7_feeds 0 = .ok (.bipush 24, 2) := dk_16 24 (dk_at dksX7_feeds_0 0 rfl rfl)
theorem dX7_feeds_2 : decode cX7_feeds 2 = .ok (.istore_n 2, 1) := dk_61 (dk_at dksX7_feeds_0 2 rfl rfl)
theorem dX7_feeds_3 : decode cX7_feeds 3 = .ok (.iload_n 2, 1) := dk_28 (dk_at dksX7_feeds_0 3 rfl rfl)
theorem dX7_feeds_4 : decode cX7_feeds 4 = .ok (.ifCond .lt 54, 3) := dk_155 0 54 (dk_at dksX7_feeds_0 4 rfl rfl)
theorem dX7_feeds_7 : decode cX7_feeds 7 = .ok (.iload_n 1, 1) := dk_27 (dk_at dksX7_feeds_0 7 rfl rfl)
theorem dX7_feeds_8 : decode cX7_feeds 8 = .ok (.iload_n 2, 1) := dk_28 (dk_at dksX7_feeds_0 8 rfl rfl)
theorem dX7_feeds_9 : decode cX7_feeds 9 = .ok (.ishr, 1) := dk_122 (dk_at dksX7_feeds_0 9 rfl rfl)
theorem dX7_feeds_10 : decode cX7_feeds 10 = .ok (.sipush 255, 3) := dk_17 0 255 (dk_at dksX7_feeds_0 10 rfl rfl)
theorem dX7_feeds_13 : decode cX7_feeds 13 = .ok (.iand, 1) := dk_126 (dk_at dksX7_feeds_0 13 rfl rfl)
theorem dX7_feeds_14 : decode cX7_feeds 14 = .ok (.istore_n 3, 1) := dk_62 (dk_at dksX7_feeds_0 14 rfl rfl)
theorem dX7_feeds_15 : decode cX7_feeds 15 = .ok (.iload_n 3, 1) := dk_29 (dk_at dksX7_feeds_0 15 rfl rfl)
theorem dX7_feeds_16 : decode cX7_feeds 16 = .ok (.ifCond .ne 6, 3) := dk_154 0 6 (dk_at dksX7_feeds_0 16 rfl rfl)
theorem dX7_feeds_19 : decode cX7_feeds 19 = .ok (.goto 33, 3) := dk_167 0 33 (dk_at dksX7_feeds_0 19 rfl rfl)
theorem dX7_feeds_22 : decode cX7_feeds 22 = .ok (.aload_n 0, 1) := dk_42 (dk_at dksX7_feeds_0 22 rfl rfl)
theorem dX7_feeds_23 : decode cX7_feeds 23 = .ok (.getfield 76, 3) := dk_180 0 76 (dk_at dksX7_feeds_1 0 rfl rfl)
theorem dX7_feeds_26 : decode cX7_feeds 26 = .ok (.sipush 700, 3) := dk_17 2 188 (dk_at dksX7_feeds_1 3 rfl rfl)
theorem dX7_feeds_29 : decode cX7_feeds 29 = .ok (.if_icmp .ge 13, 3) := dk_162 0 13 (dk_at dksX7_feeds_1 6 rfl rfl)
theorem dX7_feeds_32 : decode cX7_feeds 32 = .ok (.aload_n 0, 1) := dk_42 (dk_at dksX7_feeds_1 9 rfl rfl)
theorem dX7_feeds_33 : decode cX7_feeds 33 = .ok (.getfield 33, 3) := dk_180 0 33 (dk_at dksX7_feeds_1 10 rfl rfl)
theorem dX7_feeds_36 : decode cX7_feeds 36 = .ok (.aload_n 0, 1) := dk_42 (dk_at dksX7_feeds_1 13 rfl rfl)
theorem dX7_feeds_37 : decode cX7_feeds 37 = .ok (.getfield 76, 3) := dk_180 0 76 (dk_at dksX7_feeds_1 14 rfl rfl)
theorem dX7_feeds_40 : decode cX7_feeds 40 = .ok (.iload_n 3, 1) := dk_29 (dk_at dksX7_feeds_1 17 rfl rfl)
theorem dX7_feeds_41 : decode cX7_feeds 41 = .ok (.iastore, 1) := dk_79 (dk_at dksX7_feeds_1 18 rfl rfl)
theorem dX7_feeds_42 : decode cX7_feeds 42 = .ok (.aload_n 0, 1) := dk_42 (dk_at dksX7_feeds_1 19 rfl rfl)
theorem dX7_feeds_43 : decode cX7_feeds 43 = .ok (.dup, 1) := dk_89 (dk_at dksX7_feeds_1 20 rfl rfl)
theorem dX7_feeds_44 : decode cX7_feeds 44 = .ok (.getfield 76, 3) := dk_180 0 76 (dk_at dksX7_feeds_1 21 rfl rfl)
theorem dX7_feeds_47 : decode cX7_feeds 47 = .ok (.iconst 1, 1) := dk_4 (dk_at dksX7_feeds_2 0 rfl rfl)
theorem dX7_feeds_48 : decode cX7_feeds 48 = .ok (.iadd, 1) := dk_96 (dk_at dksX7_feeds_2 1 rfl rfl)
theorem dX7_feeds_49 : decode cX7_feeds 49 = .ok (.putfield 76, 3) := dk_181 0 76 (dk_at dksX7_feeds_2 2 rfl rfl)
theorem dX7_feeds_52 : decode cX7_feeds 52 = .ok (.iinc 2 (-8), 3) := dk_132 2 248 (dk_at dksX7_feeds_2 5 rfl rfl)
theorem dX7_feeds_55 : decode cX7_feeds 55 = .ok (.goto (-52), 3) := dk_167 255 204 (dk_at dksX7_feeds_2 8 rfl rfl)
theorem dX7_feeds_58 : decode cX7_feeds 58 = .ok (.return_, 1) := dk_177 (dk_at dksX7_feeds_2 11 rfl rfl)
abbrev cX7_right : ByteArray := prog_21_method_5_code
def yX7_right : MethodName := ⟨RX7, "right", "(ZI)Z"⟩
def dkwX7_right_1 : List UInt8 := [167, 0, 4, 3, 172]
abbrev dktX7_right_1 : List UInt8 := dkwX7_right_1 ++ []
def dkwX7_right_0 : List UInt8 := [42, 180, 0, 85, 154, 0, 12, 27, 154, 0, 8, 42, 28, 181, 0, 85, 42, 180, 0, 85, 154, 0, 7, 4]
abbrev dktX7_right_0 : List UInt8 := dkwX7_right_0 ++ dktX7_right_1
theorem dksX7_right_0 : cX7_right.data.toList.drop 0 = dktX7_right_0 := by decide +kernel
theorem dksX7_right_1 : cX7_right.data.toList.drop 24 = dktX7_right_1 := dk_seg dksX7_right_0 24 rfl rfl
theorem dX7_right_0 : decode cX7_right 0 = .ok (.aload_n 0, 1) := dk_42 (dk_at dksX7_right_0 0 rfl rfl)
theorem dX7_right_1 : decode cX7_right 1 = .ok (.getfield 85, 3) := dk_180 0 85 (dk_at dksX7_right_0 1 rfl rfl)
theorem dX7_right_4 : decode cX7_right 4 = .ok (.ifCond .ne 12, 3) := dk_154 0 12 (dk_at dksX7_right_0 4 rfl rfl)
theorem dX7_right_7 : decode cX7_right 7 = .ok (.iload_n 1, 1) := dk_27 (dk_at dksX7_right_0 7 rfl rfl)
theorem dX7_right_8 : decode cX7_right 8 = .ok (.ifCond .ne 8, 3) := dk_154 0 8 (dk_at dksX7_right_0 8 rfl rfl)
theorem dX7_right_11 : decode cX7_right 11 = .ok (.aload_n 0, 1) := dk_42 (dk_at dksX7_right_0 11 rfl rfl)
theorem dX7_right_12 : decode cX7_right 12 = .ok (.iload_n 2, 1) := dk_28 (dk_at dksX7_right_0 12 rfl rfl)
theorem dX7_right_13 : decode cX7_right 13 = .ok (.putfield 85, 3) := dk_181 0 85 (dk_at dksX7_right_0 13 rfl rfl)
theorem dX7_right_16 : decode cX7_right 16 = .ok (.aload_n 0, 1) := dk_42 (dk_at dksX7_right_0 16 rfl rfl)
theorem dX7_right_17 : decode cX7_right 17 = .ok (.getfield 85, 3) := dk_180 0 85 (dk_at dksX7_right_0 17 rfl rfl)
theorem dX7_right_20 : decode cX7_right 20 = .ok (.ifCond .ne 7, 3) := dk_154 0 7 (dk_at dksX7_right_0 20 rfl rfl)
theorem dX7_right_23 : decode cX7_right 23 = .ok (.iconst 1, 1) := dk_4 (dk_at dksX7_right_0 23 rfl rfl)
theorem dX7_right_24 : decode cX7_right 24 = .ok (.goto 4, 3) := dk_167 0 4 (dk_at dksX7_right_1 0 rfl rfl)
theorem dX7_right_27 : decode cX7_right 27 = .ok (.iconst 0, 1) := dk_3 (dk_at dksX7_right_1 3 rfl rfl)
theorem dX7_right_28 : decode cX7_right 28 = .ok (.ireturn, 1) := dk_172 (dk_at dksX7_right_1 4 rfl rfl)
abbrev cX7_truncate : ByteArray := prog_21_method_35_code
def yX7_truncate : MethodName := ⟨RX7, "truncate", "(I)I"⟩
def dkwX7_truncate_1 : List UInt8 := [42, 180, 0, 76, 27, 100, 61, 42, 27, 181, 0, 76, 28, 172]
abbrev dktX7_truncate_1 : List UInt8 := dkwX7_truncate_1 ++ []
def dkwX7_truncate_0 : List UInt8 := [42, 3, 181, 0, 85, 42, 27, 3, 42, 180, 0, 76, 184, 0, 88, 4, 182, 0, 176, 154, 0, 5, 3, 172]
abbrev dktX7_truncate_0 : List UInt8 := dkwX7_truncate_0 ++ dktX7_truncate_1
theorem dksX7_truncate_0 : cX7_truncate.data.toList.drop 0 = dktX7_truncate_0 := by decide +kernel
theorem dksX7_truncate_1 : cX7_truncate.data.toList.drop 24 = dktX7_truncate_1 := dk_seg dksX7_truncate_0 24 rfl rfl
theorem dX7_truncate_0 : decode cX7_truncate 0 = .ok (.aload_n 0, 1) := dk_42 (dk_at dksX7_truncate_0 0 rfl rfl)
theorem dX7_truncate_1 : decode cX7_truncate 1 = .ok (.iconst 0, 1) := dk_3 (dk_at dksX7_truncate_0 1 rfl rfl)
theorem dX7_truncate_2 : decode cX7_truncate 2 = .ok (.putfield 85, 3) := dk_181 0 85 (dk_at dksX7_truncate_0 2 rfl rfl)
theorem dX7_truncate_5 : decode cX7_truncate 5 = .ok (.aload_n 0, 1) := dk_42 (dk_at dksX7_truncate_0 5 rfl rfl)
theorem dX7_truncate_6 : decode cX7_truncate 6 = .ok (.iload_n 1, 1) := dk_27 (dk_at dksX7_truncate_0 6 rfl rfl)
theorem dX7_truncate_7 : decode cX7_truncate 7 = .ok (.iconst 0, 1) := dk_3 (dk_at dksX7_truncate_0 7 rfl rfl)
theorem dX7_truncate_8 : decode cX7_truncate 8 = .ok (.aload_n 0, 1) := dk_42 (dk_at dksX7_truncate_0 8 rfl rfl)
theorem dX7_truncate_9 : decode cX7_truncate 9 = .ok (.getfield 76, 3) := dk_180 0 76 (dk_at dksX7_truncate_0 9 rfl rfl)
theorem dX7_truncate_12 : decode cX7_truncate 12 = .ok (.invokestatic 88, 3) := dk_184 0 88 (dk_at dksX7_truncate_0 12 rfl rfl)
theorem dX7_truncate_15 : decode cX7_truncate 15 = .ok (.iconst 1, 1) := dk_4 (dk_at dksX7_truncate_0 15 rfl rfl)
theorem dX7_truncate_16 : decode cX7_truncate 16 = .ok (.invokevirtual 176, 3) := dk_182 0 176 (dk_at dksX7_truncate_0 16 rfl rfl)
theorem dX7_truncate_19 : decode cX7_truncate 19 = .ok (.ifCond .ne 5, 3) := dk_154 0 5 (dk_at dksX7_truncate_0 19 rfl rfl)
theorem dX7_truncate_22 : decode cX7_truncate 22 = .ok (.iconst 0, 1) := dk_3 (dk_at dksX7_truncate_0 22 rfl rfl)
theorem dX7_truncate_23 : decode cX7_truncate 23 = .ok (.ireturn, 1) := dk_172 (dk_at dksX7_truncate_0 23 rfl rfl)
theorem dX7_truncate_24 : decode cX7_truncate 24 = .ok (.aload_n 0, 1) := dk_42 (dk_at dksX7_truncate_1 0 rfl rfl)
theorem dX7_truncate_25 : decode cX7_truncate 25 = .ok (.getfield 76, 3) := dk_180 0 76 (dk_at dksX7_truncate_1 1 rfl rfl)
theorem dX7_truncate_28 : decode cX7_truncate 28 = .ok (.iload_n 1, 1) := dk_27 (dk_at dksX7_truncate_1 4 rfl rfl)
theorem dX7_truncate_29 : decode cX7_truncate 29 = .ok (.isub, 1) := dk_100 (dk_at dksX7_truncate_1 5 rfl rfl)
theorem dX7_truncate_30 : decode cX7_truncate 30 = .ok (.istore_n 2, 1) := dk_61 (dk_at dksX7_truncate_1 6 rfl rfl)
theorem dX7_truncate_31 : decode cX7_truncate 31 = .ok (.aload_n 0, 1) := dk_42 (dk_at dksX7_truncate_1 7 rfl rfl)
theorem dX7_truncate_32 : decode cX7_truncate 32 = .ok (.iload_n 1, 1) := dk_27 (dk_at dksX7_truncate_1 8 rfl rfl)
theorem dX7_truncate_33 : decode cX7_truncate 33 = .ok (.putfield 76, 3) := dk_181 0 76 (dk_at dksX7_truncate_1 9 rfl rfl)
theorem dX7_truncate_36 : decode cX7_truncate 36 = .ok (.iload_n 2, 1) := dk_28 (dk_at dksX7_truncate_1 12 rfl rfl)
theorem dX7_truncate_37 : decode cX7_truncate 37 = .ok (.ireturn, 1) := dk_172 (dk_at dksX7_truncate_1 13 rfl rfl)
abbrev cX7_errorCode : ByteArray := prog_21_method_36_code
def yX7_errorCode : MethodName := ⟨RX7, "errorCode", "()I"⟩
def dkwX7_errorCode_0 : List UInt8 := [42, 3, 181, 0, 85, 42, 180, 0, 180, 172]
abbrev dktX7_errorCode_0 : List UInt8 := dkwX7_errorCode_0 ++ []
theorem dksX7_errorCode_0 : cX7_errorCode.data.toList.drop 0 = dktX7_errorCode_0 := by decide +kernel
theorem dX7_errorCode_0 : decode cX7_errorCode 0 = .ok (.aload_n 0, 1) := dk_42 (dk_at dksX7_errorCode_0 0 rfl rfl)
theorem dX7_errorCode_1 : decode cX7_errorCode 1 = .ok (.iconst 0, 1) := dk_3 (dk_at dksX7_errorCode_0 1 rfl rfl)
theorem dX7_errorCode_2 : decode cX7_errorCode 2 = .ok (.putfield 85, 3) := dk_181 0 85 (dk_at dksX7_errorCode_0 2 rfl rfl)
theorem dX7_errorCode_5 : decode cX7_errorCode 5 = .ok (.aload_n 0, 1) := dk_42 (dk_at dksX7_errorCode_0 5 rfl rfl)
theorem dX7_errorCode_6 : decode cX7_errorCode 6 = .ok (.getfield 180, 3) := dk_180 0 180 (dk_at dksX7_errorCode_0 6 rfl rfl)
theorem dX7_errorCode_9 : decode cX7_errorCode 9 = .ok (.ireturn, 1) := dk_172 (dk_at dksX7_errorCode_0 9 rfl rfl)
abbrev cX7_errorPosition : ByteArray := prog_21_method_37_code
def yX7_errorPosition : MethodName := ⟨RX7, "errorPosition", "()I"⟩
def dkwX7_errorPosition_0 : List UInt8 := [42, 3, 181, 0, 85, 42, 180, 0, 36, 172]
abbrev dktX7_errorPosition_0 : List UInt8 := dkwX7_errorPosition_0 ++ []
theorem dksX7_errorPosition_0 : cX7_errorPosition.data.toList.drop 0 = dktX7_errorPosition_0 := by decide +kernel
theorem dX7_errorPosition_0 : decode cX7_errorPosition 0 = .ok (.aload_n 0, 1) := dk_42 (dk_at dksX7_errorPosition_0 0 rfl rfl)
theorem dX7_errorPosition_1 : decode cX7_errorPosition 1 = .ok (.iconst 0, 1) := dk_3 (dk_at dksX7_errorPosition_0 1 rfl rfl)
theorem dX7_errorPosition_2 : decode cX7_errorPosition 2 = .ok (.putfield 85, 3) := dk_181 0 85 (dk_at dksX7_errorPosition_0 2 rfl rfl)
theorem dX7_errorPosition_5 : decode cX7_errorPosition 5 = .ok (.aload_n 0, 1) := dk_42 (dk_at dksX7_errorPosition_0 5 rfl rfl)
theorem dX7_errorPosition_6 : decode cX7_errorPosition 6 = .ok (.getfield 36, 3) := dk_180 0 36 (dk_at dksX7_errorPosition_0 6 rfl rfl)
theorem dX7_errorPosition_9 : decode cX7_errorPosition 9 = .ok (.ireturn, 1) := dk_172 (dk_at dksX7_errorPosition_0 9 rfl rfl)
abbrev cX7_load : ByteArray := prog_21_method_60_code
def yX7_load : MethodName := ⟨RX7, "load", "()I"⟩
def dkwX7_load_4 : List UInt8 := [3, 84, 42, 180, 0, 25, 4, 3, 84, 3, 172]
abbrev dktX7_load_4 : List UInt8 := dkwX7_load_4 ++ []
def dkwX7_load_3 : List UInt8 := [27, 46, 79, 132, 1, 1, 167, 255, 234, 42, 180, 0, 180, 172, 42, 3, 181, 1, 26, 42, 180, 0, 25, 3]
abbrev dktX7_load_3 : List UInt8 := dkwX7_load_3 ++ dktX7_load_4
def dkwX7_load_2 : List UInt8 := [182, 1, 22, 154, 0, 35, 3, 60, 27, 17, 0, 212, 162, 0, 21, 42, 180, 0, 7, 27, 42, 180, 0, 16]
abbrev dktX7_load_2 : List UInt8 := dkwX7_load_2 ++ dktX7_load_3
def dkwX7_load_1 : List UInt8 := [46, 79, 42, 180, 0, 7, 27, 3, 79, 132, 1, 1, 167, 255, 227, 42, 182, 0, 79, 42, 182, 0, 82, 42]
abbrev dktX7_load_1 : List UInt8 := dkwX7_load_1 ++ dktX7_load_2
def dkwX7_load_0 : List UInt8 := [42, 3, 181, 0, 85, 3, 60, 27, 17, 0, 212, 162, 0, 28, 42, 180, 0, 16, 27, 42, 180, 0, 7, 27]
abbrev dktX7_load_0 : List UInt8 := dkwX7_load_0 ++ dktX7_load_1
theorem dksX7_load_0 : cX7_load.data.toList.drop 0 = dktX7_load_0 := by decide +kernel
theorem dksX7_load_1 : cX7_load.data.toList.drop 24 = dktX7_load_1 := dk_seg dksX7_load_0 24 rfl rfl
theorem dksX7_load_2 : cX7_load.data.toList.drop 48 = dktX7_load_2 := dk_seg dksX7_load_1 24 rfl rfl
theorem dksX7_load_3 : cX7_load.data.toList.drop 72 = dktX7_load_3 := dk_seg dksX7_load_2 24 rfl rfl
theorem dksX7_load_4 : cX7_load.data.toList.drop 96 = dktX7_load_4 := dk_seg dksX7_load_3 24 rfl rfl
theorem dX7_load_0 : decode cX7_load 0 = .ok (.aload_n 0, 1) := dk_42 (dk_at dksX7_load_0 0 rfl rfl)
theorem dX7_load_1 : decode cX7_load 1 = .ok (.iconst 0, 1) := dk_3 (dk_at dksX7_load_0 1 rfl rfl)
theorem dX7_load_2 : decode cX7_load 2 = .ok (.putfield 85, 3) := dk_181 0 85 (dk_at dksX7_load_0 2 rfl rfl)
theorem dX7_load_5 : decode cX7_load 5 = .ok (.iconst 0, 1) := dk_3 (dk_at dksX7_load_0 5 rfl rfl)
theorem dX7_load_6 : decode cX7_load 6 = .ok (.istore_n 1, 1) := dk_60 (dk_at dksX7_load_0 6 rfl rfl)
theorem dX7_load_7 : decode cX7_load 7 = .ok (.iload_n 1, 1) := dk_27 (dk_at dksX7_load_0 7 rfl rfl)
theorem dX7_load_8 : decode cX7_load 8 = .ok (.sipush 212, 3) := dk_17 0 212 (dk_at dksX7_load_0 8 rfl rfl)
theorem dX7_load_11 : decode cX7_load 11 = .ok (.if_icmp .ge 28, 3) := dk_162 0 28 (dk_at dksX7_load_0 11 rfl rfl)
theorem dX7_load_14 : decode cX7_load 14 = .ok (.aload_n 0, 1) := dk_42 (dk_at dksX7_load_0 14 rfl rfl)
theorem dX7_load_15 : decode cX7_load 15 = .ok (.getfield 16, 3) := dk_180 0 16 (dk_at dksX7_load_0 15 rfl rfl)
theorem dX7_load_18 : decode cX7_load 18 = .ok (.iload_n 1, 1) := dk_27 (dk_at dksX7_load_0 18 rfl rfl)
theorem dX7_load_19 : decode cX7_load 19 = .ok (.aload_n 0, 1) := dk_42 (dk_at dksX7_load_0 19 rfl rfl)
theorem dX7_load_20 : decode cX7_load 20 = .ok (.getfield 7, 3) := dk_180 0 7 (dk_at dksX7_load_0 20 rfl rfl)
theorem dX7_load_23 : decode cX7_load 23 = .ok (.iload_n 1, 1) := dk_27 (dk_at dksX7_load_0 23 rfl rfl)
theorem dX7_load_24 : decode cX7_load 24 = .ok (.iaload, 1) := dk_46 (dk_at dksX7_load_1 0 rfl rfl)
theorem dX7_load_25 : decode cX7_load 25 = .ok (.iastore, 1) := dk_79 (dk_at dksX7_load_1 1 rfl rfl)
theorem dX7_load_26 : decode cX7_load 26 = .ok (.aload_n 0, 1) := dk_42 (dk_at dksX7_load_1 2 rfl rfl)
theorem dX7_load_27 : decode cX7_load 27 = .ok (.getfield 7, 3) := dk_180 0 7 (dk_at dksX7_load_1 3 rfl rfl)
theorem dX7_load_30 : decode cX7_load 30 = .ok (.iload_n 1, 1) := dk_27 (dk_at dksX7_load_1 6 rfl rfl)
theorem dX7_load_31 : decode cX7_load 31 = .ok (.iconst 0, 1) := dk_3 (dk_at dksX7_load_1 7 rfl rfl)
theorem dX7_load_32 : decode cX7_load 32 = .ok (.iastore, 1) := dk_79 (dk_at dksX7_load_1 8 rfl rfl)
theorem dX7_load_33 : decode cX7_load 33 = .ok (.iinc 1 1, 3) := dk_132 1 1 (dk_at dksX7_load_1 9 rfl rfl)
theorem dX7_load_36 : decode cX7_load 36 = .ok (.goto (-29), 3) := dk_167 255 227 (dk_at dksX7_load_1 12 rfl rfl)
theorem dX7_load_39 : decode cX7_load 39 = .ok (.aload_n 0, 1) := dk_42 (dk_at dksX7_load_1 15 rfl rfl)
theorem dX7_load_40 : decode cX7_load 40 = .ok (.invokevirtual 79, 3) := dk_182 0 79 (dk_at dksX7_load_1 16 rfl rfl)
theorem dX7_load_43 : decode cX7_load 43 = .ok (.aload_n 0, 1) := dk_42 (dk_at dksX7_load_1 19 rfl rfl)
theorem dX7_load_44 : decode cX7_load 44 = .ok (.invokevirtual 82, 3) := dk_182 0 82 (dk_at dksX7_load_1 20 rfl rfl)
theorem dX7_load_47 : decode cX7_load 47 = .ok (.aload_n 0, 1) := dk_42 (dk_at dksX7_load_1 23 rfl rfl)
theorem dX7_load_48 : decode cX7_load 48 = .ok (.invokevirtual 278, 3) := dk_182 1 22 (dk_at dksX7_load_2 0 rfl rfl)
theorem dX7_load_51 : decode cX7_load 51 = .ok (.ifCond .ne 35, 3) := dk_154 0 35 (dk_at dksX7_load_2 3 rfl rfl)
theorem dX7_load_54 : decode cX7_load 54 = .ok (.iconst 0, 1) := dk_3 (dk_at dksX7_load_2 6 rfl rfl)
theorem dX7_load_55 : decode cX7_load 55 = .ok (.istore_n 1, 1) := dk_60 (dk_at dksX7_load_2 7 rfl rfl)
theorem dX7_load_56 : decode cX7_load 56 = .ok (.iload_n 1, 1) := dk_27 (dk_at dksX7_load_2 8 rfl rfl)
theorem dX7_load_57 : decode cX7_load 57 = .ok (.sipush 212, 3) := dk_17 0 212 (dk_at dksX7_load_2 9 rfl rfl)
theorem dX7_load_60 : decode cX7_load 60 = .ok (.if_icmp .ge 21, 3) := dk_162 0 21 (dk_at dksX7_load_2 12 rfl rfl)
theorem dX7_load_63 : decode cX7_load 63 = .ok (.aload_n 0, 1) := dk_42 (dk_at dksX7_load_2 15 rfl rfl)
theorem dX7_load_64 : decode cX7_load 64 = .ok (.getfield 7, 3) := dk_180 0 7 (dk_at dksX7_load_2 16 rfl rfl)
theorem dX7_load_67 : decode cX7_load 67 = .ok (.iload_n 1, 1) := dk_27 (dk_at dksX7_load_2 19 rfl rfl)
theorem dX7_load_68 : decode cX7_load 68 = .ok (.aload_n 0, 1) := dk_42 (dk_at dksX7_load_2 20 rfl rfl)
theorem dX7_load_69 : decode cX7_load 69 = .ok (.getfield 16, 3) := dk_180 0 16 (dk_at dksX7_load_2 21 rfl rfl)
theorem dX7_load_72 : decode cX7_load 72 = .ok (.iload_n 1, 1) := dk_27 (dk_at dksX7_load_3 0 rfl rfl)
theorem dX7_load_73 : decode cX7_load 73 = .ok (.iaload, 1) := dk_46 (dk_at dksX7_load_3 1 rfl rfl)
theorem dX7_load_74 : decode cX7_load 74 = .ok (.iastore, 1) := dk_79 (dk_at dksX7_load_3 2 rfl rfl)
theorem dX7_load_75 : decode cX7_load 75 = .ok (.iinc 1 1, 3) := dk_132 1 1 (dk_at dksX7_load_3 3 rfl rfl)
theorem dX7_load_78 : decode cX7_load 78 = .ok (.goto (-22), 3) := dk_167 255 234 (dk_at dksX7_load_3 6 rfl rfl)
theorem dX7_load_81 : decode cX7_load 81 = .ok (.aload_n 0, 1) := dk_42 (dk_at dksX7_load_3 9 rfl rfl)
theorem dX7_load_82 : decode cX7_load 82 = .ok (.getfield 180, 3) := dk_180 0 180 (dk_at dksX7_load_3 10 rfl rfl)
theorem dX7_load_85 : decode cX7_load 85 = .ok (.ireturn, 1) := dk_172 (dk_at dksX7_load_3 13 rfl rfl)
theorem dX7_load_86 : decode cX7_load 86 = .ok (.aload_n 0, 1) := dk_42 (dk_at dksX7_load_3 14 rfl rfl)
theorem dX7_load_87 : decode cX7_load 87 = .ok (.iconst 0, 1) := dk_3 (dk_at dksX7_load_3 15 rfl rfl)
theorem dX7_load_88 : decode cX7_load 88 = .ok (.putfield 282, 3) := dk_181 1 26 (dk_at dksX7_load_3 16 rfl rfl)
theorem dX7_load_91 : decode cX7_load 91 = .ok (.aload_n 0, 1) := dk_42 (dk_at dksX7_load_3 19 rfl rfl)
theorem dX7_load_92 : decode cX7_load 92 = .ok (.getfield 25, 3) := dk_180 0 25 (dk_at dksX7_load_3 20 rfl rfl)
theorem dX7_load_95 : decode cX7_load 95 = .ok (.iconst 0, 1) := dk_3 (dk_at dksX7_load_3 23 rfl rfl)
theorem dX7_load_96 : decode cX7_load 96 = .ok (.iconst 0, 1) := dk_3 (dk_at dksX7_load_4 0 rfl rfl)
theorem dX7_load_97 : decode cX7_load 97 = .ok (.bastore, 1) := dk_84 (dk_at dksX7_load_4 1 rfl rfl)
theorem dX7_load_98 : decode cX7_load 98 = .ok (.aload_n 0, 1) := dk_42 (dk_at dksX7_load_4 2 rfl rfl)
theorem dX7_load_99 : decode cX7_load 99 = .ok (.getfield 25, 3) := dk_180 0 25 (dk_at dksX7_load_4 3 rfl rfl)
theorem dX7_load_102 : decode cX7_load 102 = .ok (.iconst 1, 1) := dk_4 (dk_at dksX7_load_4 6 rfl rfl)
theorem dX7_load_103 : decode cX7_load 103 = .ok (.iconst 0, 1) := dk_3 (dk_at dksX7_load_4 7 rfl rfl)
theorem dX7_load_104 : decode cX7_load 104 = .ok (.bastore, 1) := dk_84 (dk_at dksX7_load_4 8 rfl rfl)
theorem dX7_load_105 : decode cX7_load 105 = .ok (.iconst 0, 1) := dk_3 (dk_at dksX7_load_4 9 rfl rfl)
theorem dX7_load_106 : decode cX7_load 106 = .ok (.ireturn, 1) := dk_172 (dk_at dksX7_load_4 10 rfl rfl)
abbrev cX7_isWhole : ByteArray := prog_21_method_52_code
def yX7_isWhole : MethodName := ⟨RX7, "isWhole", "()Z"⟩
def dkwX7_isWhole_1 : List UInt8 := [180, 0, 198, 154, 0, 7, 4, 167, 0, 4, 3, 172]
abbrev dktX7_isWhole_1 : List UInt8 := dkwX7_isWhole_1 ++ []
def dkwX7_isWhole_0 : List UInt8 := [42, 3, 181, 0, 76, 42, 42, 180, 0, 198, 181, 0, 180, 42, 42, 180, 0, 201, 181, 0, 36, 42]
abbrev dktX7_isWhole_0 : List UInt8 := dkwX7_isWhole_0 ++ dktX7_isWhole_1
theorem dksX7_isWhole_0 : cX7_isWhole.data.toList.drop 0 = dktX7_isWhole_0 := by decide +kernel
theorem dksX7_isWhole_1 : cX7_isWhole.data.toList.drop 22 = dktX7_isWhole_1 := dk_seg dksX7_isWhole_0 22 rfl rfl
theorem dX7_isWhole_0 : decode cX7_isWhole 0 = .ok (.aload_n 0, 1) := dk_42 (dk_at dksX7_isWhole_0 0 rfl rfl)
theorem dX7_isWhole_1 : decode cX7_isWhole 1 = .ok (.iconst 0, 1) := dk_3 (dk_at dksX7_isWhole_0 1 rfl rfl)
theorem dX7_isWhole_2 : decode cX7_isWhole 2 = .ok (.putfield 76, 3) := dk_181 0 76 (dk_at dksX7_isWhole_0 2 rfl rfl)
theorem dX7_isWhole_5 : decode cX7_isWhole 5 = .ok (.aload_n 0, 1) := dk_42 (dk_at dksX7_isWhole_0 5 rfl rfl)
theorem dX7_isWhole_6 : decode cX7_isWhole 6 = .ok (.aload_n 0, 1) := dk_42 (dk_at dksX7_isWhole_0 6 rfl rfl)
theorem dX7_isWhole_7 : decode cX7_isWhole 7 = .ok (.getfield 198, 3) := dk_180 0 198 (dk_at dksX7_isWhole_0 7 rfl rfl)
theorem dX7_isWhole_10 : decode cX7_isWhole 10 = .ok (.putfield 180, 3) := dk_181 0 180 (dk_at dksX7_isWhole_0 10 rfl rfl)
theorem dX7_isWhole_13 : decode cX7_isWhole 13 = .ok (.aload_n 0, 1) := dk_42 (dk_at dksX7_isWhole_0 13 rfl rfl)
theorem dX7_isWhole_14 : decode cX7_isWhole 14 = .ok (.aload_n 0, 1) := dk_42 (dk_at dksX7_isWhole_0 14 rfl rfl)
theorem dX7_isWhole_15 : decode cX7_isWhole 15 = .ok (.getfield 201, 3) := dk_180 0 201 (dk_at dksX7_isWhole_0 15 rfl rfl)
theorem dX7_isWhole_18 : decode cX7_isWhole 18 = .ok (.putfield 36, 3) := dk_181 0 36 (dk_at dksX7_isWhole_0 18 rfl rfl)
theorem dX7_isWhole_21 : decode cX7_isWhole 21 = .ok (.aload_n 0, 1) := dk_42 (dk_at dksX7_isWhole_0 21 rfl rfl)
theorem dX7_isWhole_22 : decode cX7_isWhole 22 = .ok (.getfield 198, 3) := dk_180 0 198 (dk_at dksX7_isWhole_1 0 rfl rfl)
theorem dX7_isWhole_25 : decode cX7_isWhole 25 = .ok (.ifCond .ne 7, 3) := dk_154 0 7 (dk_at dksX7_isWhole_1 3 rfl rfl)
theorem dX7_isWhole_28 : decode cX7_isWhole 28 = .ok (.iconst 1, 1) := dk_4 (dk_at dksX7_isWhole_1 6 rfl rfl)
theorem dX7_isWhole_29 : decode cX7_isWhole 29 = .ok (.goto 4, 3) := dk_167 0 4 (dk_at dksX7_isWhole_1 7 rfl rfl)
theorem dX7_isWhole_32 : decode cX7_isWhole 32 = .ok (.iconst 0, 1) := dk_3 (dk_at dksX7_isWhole_1 10 rfl rfl)
theorem dX7_isWhole_33 : decode cX7_isWhole 33 = .ok (.ireturn, 1) := dk_172 (dk_at dksX7_isWhole_1 11 rfl rfl)
abbrev cX7_runScript : ByteArray := prog_21_method_69_code
def yX7_runScript : MethodName := ⟨RX7, "runScript", "()I"⟩
def dkwX7_runScript_3 : List UInt8 := [3, 181, 1, 89, 42, 3, 181, 0, 85, 42, 180, 1, 80, 172]
abbrev dktX7_runScript_3 : List UInt8 := dkwX7_runScript_3 ++ []
def dkwX7_runScript_2 : List UInt8 := [182, 1, 86, 42, 4, 181, 1, 89, 42, 3, 181, 1, 80, 42, 3, 42, 180, 1, 44, 182, 1, 77, 60, 42]
abbrev dktX7_runScript_2 : List UInt8 := dkwX7_runScript_2 ++ dktX7_runScript_3
def dkwX7_runScript_1 : List UInt8 := [154, 0, 7, 4, 167, 0, 4, 3, 4, 182, 0, 210, 87, 42, 182, 1, 22, 154, 0, 5, 2, 172, 42]
abbrev dktX7_runScript_1 : List UInt8 := dkwX7_runScript_1 ++ dktX7_runScript_2
def dkwX7_runScript_0 : List UInt8 := [42, 3, 181, 0, 85, 42, 182, 0, 79, 42, 3, 181, 1, 44, 42, 3, 182, 1, 41, 42, 42, 180, 0, 192]
abbrev dktX7_runScript_0 : List UInt8 := dkwX7_runScript_0 ++ dktX7_runScript_1
theorem dksX7_runScript_0 : cX7_runScript.data.toList.drop 0 = dktX7_runScript_0 := by decide +kernel
theorem dksX7_runScript_1 : cX7_runScript.data.toList.drop 24 = dktX7_runScript_1 := dk_seg dksX7_runScript_0 24 rfl rfl
theorem dksX7_runScript_2 : cX7_runScript.data.toList.drop 47 = dktX7_runScript_2 := dk_seg dksX7_runScript_1 23 rfl rfl
theorem dksX7_runScript_3 : cX7_runScript.data.toList.drop 71 = dktX7_runScript_3 := dk_seg dksX7_runScript_2 24 rfl rfl
theorem dX7_runScript_0 : decode cX7_runScript 0 = .ok (.aload_n 0, 1) := dk_42 (dk_at dksX7_runScript_0 0 rfl rfl)
theorem dX7_runScript_1 : decode cX7_runScript 1 = .ok (.iconst 0, 1) := dk_3 (dk_at dksX7_runScript_0 1 rfl rfl)
theorem dX7_runScript_2 : decode cX7_runScript 2 = .ok (.putfield 85, 3) := dk_181 0 85 (dk_at dksX7_runScript_0 2 rfl rfl)
theorem dX7_runScript_5 : decode cX7_runScript 5 = .ok (.aload_n 0, 1) := dk_42 (dk_at dksX7_runScript_0 5 rfl rfl)
theorem dX7_runScript_6 : decode cX7_runScript 6 = .ok (.invokevirtual 79, 3) := dk_182 0 79 (dk_at dksX7_runScript_0 6 rfl rfl)
theorem dX7_runScript_9 : decode cX7_runScript 9 = .ok (.aload_n 0, 1) := dk_42 (dk_at dksX7_runScript_0 9 rfl rfl)
theorem dX7_runScript_10 : decode cX7_runScript 10 = .ok (.iconst 0, 1) := dk_3 (dk_at dksX7_runScript_0 10 rfl rfl)
theorem dX7_runScript_11 : decode cX7_runScript 11 = .ok (.putfield 300, 3) := dk_181 1 44 (dk_at dksX7_runScript_0 11 rfl rfl)
theorem dX7_runScript_14 : decode cX7_runScript 14 = .ok (.aload_n 0, 1) := dk_42 (dk_at dksX7_runScript_0 14 rfl rfl)
theorem dX7_runScript_15 : decode cX7_runScript 15 = .ok (.iconst 0, 1) := dk_3 (dk_at dksX7_runScript_0 15 rfl rfl)
theorem dX7_runScript_16 : decode cX7_runScript 16 = .ok (.invokevirtual 297, 3) := dk_182 1 41 (dk_at dksX7_runScript_0 16 rfl rfl)
theorem dX7_runScript_19 : decode cX7_runScript 19 = .ok (.aload_n 0, 1) := dk_42 (dk_at dksX7_runScript_0 19 rfl rfl)
theorem dX7_runScript_20 : decode cX7_runScript 20 = .ok (.aload_n 0, 1) := dk_42 (dk_at dksX7_runScript_0 20 rfl rfl)
theorem dX7_runScript_21 : decode cX7_runScript 21 = .ok (.getfield 192, 3) := dk_180 0 192 (dk_at dksX7_runScript_0 21 rfl rfl)
theorem dX7_runScript_24 : decode cX7_runScript 24 = .ok (.ifCond .ne 7, 3) := dk_154 0 7 (dk_at dksX7_runScript_1 0 rfl rfl)
theorem dX7_runScript_27 : decode cX7_runScript 27 = .ok (.iconst 1, 1) := dk_4 (dk_at dksX7_runScript_1 3 rfl rfl)
theorem dX7_runScript_28 : decode cX7_runScript 28 = .ok (.goto 4, 3) := dk_167 0 4 (dk_at dksX7_runScript_1 4 rfl rfl)
theorem dX7_runScript_31 : decode cX7_runScript 31 = .ok (.iconst 0, 1) := dk_3 (dk_at dksX7_runScript_1 7 rfl rfl)
theorem dX7_runScript_32 : decode cX7_runScript 32 = .ok (.iconst 1, 1) := dk_4 (dk_at dksX7_runScript_1 8 rfl rfl)
theorem dX7_runScript_33 : decode cX7_runScript 33 = .ok (.invokevirtual 210, 3) := dk_182 0 210 (dk_at dksX7_runScript_1 9 rfl rfl)
theorem dX7_runScript_36 : decode cX7_runScript 36 = .ok (.pop, 1) := dk_87 (dk_at dksX7_runScript_1 12 rfl rfl)
theorem dX7_runScript_37 : decode cX7_runScript 37 = .ok (.aload_n 0, 1) := dk_42 (dk_at dksX7_runScript_1 13 rfl rfl)
theorem dX7_runScript_38 : decode cX7_runScript 38 = .ok (.invokevirtual 278, 3) := dk_182 1 22 (dk_at dksX7_runScript_1 14 rfl rfl)
theorem dX7_runScript_41 : decode cX7_runScript 41 = .ok (.ifCond .ne 5, 3) := dk_154 0 5 (dk_at dksX7_runScript_1 17 rfl rfl)
theorem dX7_runScript_44 : decode cX7_runScript 44 = .ok (.iconst (-1), 1) := dk_2 (dk_at dksX7_runScript_1 20 rfl rfl)
theorem dX7_runScript_45 : decode cX7_runScript 45 = .ok (.ireturn, 1) := dk_172 (dk_at dksX7_runScript_1 21 rfl rfl)
theorem dX7_runScript_46 : decode cX7_runScript 46 = .ok (.aload_n 0, 1) := dk_42 (dk_at dksX7_runScript_1 22 rfl rfl)
theorem dX7_runScript_47 : decode cX7_runScript 47 = .ok (.invokevirtual 342, 3) := dk_182 1 86 (dk_at dksX7_runScript_2 0 rfl rfl)
theorem dX7_runScript_50 : decode cX7_runScript 50 = .ok (.aload_n 0, 1) := dk_42 (dk_at dksX7_runScript_2 3 rfl rfl)
theorem dX7_runScript_51 : decode cX7_runScript 51 = .ok (.iconst 1, 1) := dk_4 (dk_at dksX7_runScript_2 4 rfl rfl)
theorem dX7_runScript_52 : decode cX7_runScript 52 = .ok (.putfield 345, 3) := dk_181 1 89 (dk_at dksX7_runScript_2 5 rfl rfl)
theorem dX7_runScript_55 : decode cX7_runScript 55 = .ok (.aload_n 0, 1) := dk_42 (dk_at dksX7_runScript_2 8 rfl rfl)
theorem dX7_runScript_56 : decode cX7_runScript 56 = .ok (.iconst 0, 1) := dk_3 (dk_at dksX7_runScript_2 9 rfl rfl)
theorem dX7_runScript_57 : decode cX7_runScript 57 = .ok (.putfield 336, 3) := dk_181 1 80 (dk_at dksX7_runScript_2 10 rfl rfl)
theorem dX7_runScript_60 : decode cX7_runScript 60 = .ok (.aload_n 0, 1) := dk_42 (dk_at dksX7_runScript_2 13 rfl rfl)
theorem dX7_runScript_61 : decode cX7_runScript 61 = .ok (.iconst 0, 1) := dk_3 (dk_at dksX7_runScript_2 14 rfl rfl)
theorem dX7_runScript_62 : decode cX7_runScript 62 = .ok (.aload_n 0, 1) := dk_42 (dk_at dksX7_runScript_2 15 rfl rfl)
theorem dX7_runScript_63 : decode cX7_runScript 63 = .ok (.getfield 300, 3) := dk_180 1 44 (dk_at dksX7_runScript_2 16 rfl rfl)
theorem dX7_runScript_66 : decode cX7_runScript 66 = .ok (.invokevirtual 333, 3) := dk_182 1 77 (dk_at dksX7_runScript_2 19 rfl rfl)
theorem dX7_runScript_69 : decode cX7_runScript 69 = .ok (.istore_n 1, 1) := dk_60 (dk_at dksX7_runScript_2 22 rfl rfl)
theorem dX7_runScript_70 : decode cX7_runScript 70 = .ok (.aload_n 0, 1) := dk_42 (dk_at dksX7_runScript_2 23 rfl rfl)
theorem dX7_runScript_71 : decode cX7_runScript 71 = .ok (.iconst 0, 1) := dk_3 (dk_at dksX7_runScript_3 0 rfl rfl)
theorem dX7_runScript_72 : decode cX7_runScript 72 = .ok (.putfield 345, 3) := dk_181 1 89 (dk_at dksX7_runScript_3 1 rfl rfl)
theorem dX7_runScript_75 : decode cX7_runScript 75 = .ok (.aload_n 0, 1) := dk_42 (dk_at dksX7_runScript_3 4 rfl rfl)
theorem dX7_runScript_76 : decode cX7_runScript 76 = .ok (.iconst 0, 1) := dk_3 (dk_at dksX7_runScript_3 5 rfl rfl)
theorem dX7_runScript_77 : decode cX7_runScript 77 = .ok (.putfield 85, 3) := dk_181 0 85 (dk_at dksX7_runScript_3 6 rfl rfl)
theorem dX7_runScript_80 : decode cX7_runScript 80 = .ok (.aload_n 0, 1) := dk_42 (dk_at dksX7_runScript_3 9 rfl rfl)
theorem dX7_runScript_81 : decode cX7_runScript 81 = .ok (.getfield 336, 3) := dk_180 1 80 (dk_at dksX7_runScript_3 10 rfl rfl)
theorem dX7_runScript_84 : decode cX7_runScript 84 = .ok (.ireturn, 1) := dk_172 (dk_at dksX7_runScript_3 13 rfl rfl)
abbrev cX7_readsCommands : ByteArray := prog_21_method_66_code
def yX7_readsCommands : MethodName := ⟨RX7, "readsCommands", "(I)V"⟩
def dkwX7_readsCommands_1 : List UInt8 := [27, 182, 1, 61, 167, 255, 228, 177]
abbrev dktX7_readsCommands_1 : List UInt8 := dkwX7_readsCommands_1 ++ []
def dkwX7_readsCommands_0 : List UInt8 := [42, 180, 0, 198, 154, 0, 27, 42, 180, 0, 192, 153, 0, 20, 42, 16, 41, 182, 0, 207, 154, 0, 11, 42]
abbrev dktX7_readsCommands_0 : List UInt8 := dkwX7_readsCommands_0 ++ dktX7_readsCommands_1
theorem dksX7_readsCommands_0 : cX7_readsCommands.data.toList.drop 0 = dktX7_readsCommands_0 := by decide +kernel
theorem dksX7_readsCommands_1 : cX7_readsCommands.data.toList.drop 24 = dktX7_readsCommands_1 := dk_seg dksX7_readsCommands_0 24 rfl rfl
theorem dX7_readsCommands_0 : decode cX7_readsCommands 0 = .ok (.aload_n 0, 1) := dk_42 (dk_at dksX7_readsCommands_0 0 rfl rfl)
theorem dX7_readsCommands_1 : decode cX7_readsCommands 1 = .ok (.getfield 198, 3) := dk_180 0 198 (dk_at dksX7_readsCommands_0 1 rfl rfl)
theorem dX7_readsCommands_4 : decode cX7_readsCommands 4 = .ok (.ifCond .ne 27, 3) := dk_154 0 27 (dk_at dksX7_readsCommands_0 4 rfl rfl)
theorem dX7_readsCommands_7 : decode cX7_readsCommands 7 = .ok (.aload_n 0, 1) := dk_42 (dk_at dksX7_readsCommands_0 7 rfl rfl)
theorem dX7_readsCommands_8 : decode cX7_readsCommands 8 = .ok (.getfield 192, 3) := dk_180 0 192 (dk_at dksX7_readsCommands_0 8 rfl rfl)
theorem dX7_readsCommands_11 : decode cX7_readsCommands 11 = .ok (.ifCond .eq 20, 3) := dk_153 0 20 (dk_at dksX7_readsCommands_0 11 rfl rfl)
theorem dX7_readsCommands_14 : decode cX7_readsCommands 14 = .ok (.aload_n 0, 1) := dk_42 (dk_at dksX7_readsCommands_0 14 rfl rfl)
theorem dX7_readsCommands_15 : decode cX7_readsCommands 15 = .ok (.bipush 41, 2) := dk_16 41 (dk_at dksX7_readsCommands_0 15 rfl rfl)
theorem dX7_readsCommands_17 : decode cX7_readsCommands 17 = .ok (.invokevirtual 207, 3) := dk_182 0 207 (dk_at dksX7_readsCommands_0 17 rfl rfl)
theorem dX7_readsCommands_20 : decode cX7_readsCommands 20 = .ok (.ifCond .ne 11, 3) := dk_154 0 11 (dk_at dksX7_readsCommands_0 20 rfl rfl)
theorem dX7_readsCommands_23 : decode cX7_readsCommands 23 = .ok (.aload_n 0, 1) := dk_42 (dk_at dksX7_readsCommands_0 23 rfl rfl)
theorem dX7_readsCommands_24 : decode cX7_readsCommands 24 = .ok (.iload_n 1, 1) := dk_27 (dk_at dksX7_readsCommands_1 0 rfl rfl)
theorem dX7_readsCommands_25 : decode cX7_readsCommands 25 = .ok (.invokevirtual 317, 3) := dk_182 1 61 (dk_at dksX7_readsCommands_1 1 rfl rfl)
theorem dX7_readsCommands_28 : decode cX7_readsCommands 28 = .ok (.goto (-28), 3) := dk_167 255 228 (dk_at dksX7_readsCommands_1 4 rfl rfl)
theorem dX7_readsCommands_31 : decode cX7_readsCommands 31 = .ok (.return_, 1) := dk_177 (dk_at dksX7_readsCommands_1 7 rfl rfl)
abbrev cX7_readsCommand : ByteArray := prog_21_method_65_code
def yX7_readsCommand : MethodName := ⟨RX7, "readsCommand", "(I)V"⟩
def dkwX7_readsCommand_4 : List UInt8 := [16, 59, 182, 1, 4, 177]
abbrev dktX7_readsCommand_4 : List UInt8 := dkwX7_readsCommand_4 ++ []
def dkwX7_readsCommand_3 : List UInt8 := [182, 0, 204, 28, 8, 160, 0, 12, 42, 29, 27, 182, 1, 54, 167, 0, 8, 42, 29, 182, 1, 58, 42]
abbrev dktX7_readsCommand_3 : List UInt8 := dkwX7_readsCommand_3 ++ dktX7_readsCommand_4
def dkwX7_readsCommand_2 : List UInt8 := [180, 1, 44, 62, 42, 180, 0, 39, 29, 28, 79, 42, 89, 180, 1, 44, 4, 96, 181, 1, 44, 42]
abbrev dktX7_readsCommand_2 : List UInt8 := dkwX7_readsCommand_2 ++ dktX7_readsCommand_3
def dkwX7_readsCommand_1 : List UInt8 := [42, 180, 1, 44, 16, 30, 162, 0, 7, 4, 167, 0, 4, 3, 8, 182, 0, 210, 154, 0, 4, 177, 42]
abbrev dktX7_readsCommand_1 : List UInt8 := dkwX7_readsCommand_1 ++ dktX7_readsCommand_2
def dkwX7_readsCommand_0 : List UInt8 := [42, 182, 1, 51, 61, 42, 28, 2, 159, 0, 7, 4, 167, 0, 4, 3, 4, 182, 0, 210, 153, 0, 25, 42]
abbrev dktX7_readsCommand_0 : List UInt8 := dkwX7_readsCommand_0 ++ dktX7_readsCommand_1
theorem dksX7_readsCommand_0 : cX7_readsCommand.data.toList.drop 0 = dktX7_readsCommand_0 := by decide +kernel
theorem dksX7_readsCommand_1 : cX7_readsCommand.data.toList.drop 24 = dktX7_readsCommand_1 := dk_seg dksX7_readsCommand_0 24 rfl rfl
theorem dksX7_readsCommand_2 : cX7_readsCommand.data.toList.drop 47 = dktX7_readsCommand_2 := dk_seg dksX7_readsCommand_1 23 rfl rfl
theorem dksX7_readsCommand_3 : cX7_readsCommand.data.toList.drop 69 = dktX7_readsCommand_3 := dk_seg dksX7_readsCommand_2 22 rfl rfl
theorem dksX7_readsCommand_4 : cX7_readsCommand.data.toList.drop 92 = dktX7_readsCommand_4 := dk_seg dksX7_readsCommand_3 23 rfl rfl
theorem dX7_readsCommand_0 : decode cX7_readsCommand 0 = .ok (.aload_n 0, 1) := dk_42 (dk_at dksX7_readsCommand_0 0 rfl rfl)
theorem dX7_readsCommand_1 : decode cX7_readsCommand 1 = .ok (.invokevirtual 307, 3) := dk_182 1 51 (dk_at dksX7_readsCommand_0 1 rfl rfl)
theorem dX7_readsCommand_4 : decode cX7_readsCommand 4 = .ok (.istore_n 2, 1) := dk_61 (dk_at dksX7_readsCommand_0 4 rfl rfl)
theorem dX7_readsCommand_5 : decode cX7_readsCommand 5 = .ok (.aload_n 0, 1) := dk_42 (dk_at dksX7_readsCommand_0 5 rfl rfl)
theorem dX7_readsCommand_6 : decode cX7_readsCommand 6 = .ok (.iload_n 2, 1) := dk_28 (dk_at dksX7_readsCommand_0 6 rfl rfl)
theorem dX7_readsCommand_7 : decode cX7_readsCommand 7 = .ok (.iconst (-1), 1) := dk_2 (dk_at dksX7_readsCommand_0 7 rfl rfl)
theorem dX7_readsCommand_8 : decode cX7_readsCommand 8 = .ok (.if_icmp .eq 7, 3) := dk_159 0 7 (dk_at dksX7_readsCommand_0 8 rfl rfl)
theorem dX7_readsCommand_11 : decode cX7_readsCommand 11 = .ok (.iconst 1, 1) := dk_4 (dk_at dksX7_readsCommand_0 11 rfl rfl)
theorem dX7_readsCommand_12 : decode cX7_readsCommand 12 = .ok (.goto 4, 3) := dk_167 0 4 (dk_at dksX7_readsCommand_0 12 rfl rfl)
theorem dX7_readsCommand_15 : decode cX7_readsCommand 15 = .ok (.iconst 0, 1) := dk_3 (dk_at dksX7_readsCommand_0 15 rfl rfl)
theorem dX7_readsCommand_16 : decode cX7_readsCommand 16 = .ok (.iconst 1, 1) := dk_4 (dk_at dksX7_readsCommand_0 16 rfl rfl)
theorem dX7_readsCommand_17 : decode cX7_readsCommand 17 = .ok (.invokevirtual 210, 3) := dk_182 0 210 (dk_at dksX7_readsCommand_0 17 rfl rfl)
theorem dX7_readsCommand_20 : decode cX7_readsCommand 20 = .ok (.ifCond .eq 25, 3) := dk_153 0 25 (dk_at dksX7_readsCommand_0 20 rfl rfl)
theorem dX7_readsCommand_23 : decode cX7_readsCommand 23 = .ok (.aload_n 0, 1) := dk_42 (dk_at dksX7_readsCommand_0 23 rfl rfl)
theorem dX7_readsCommand_24 : decode cX7_readsCommand 24 = .ok (.aload_n 0, 1) := dk_42 (dk_at dksX7_readsCommand_1 0 rfl rfl)
theorem dX7_readsCommand_25 : decode cX7_readsCommand 25 = .ok (.getfield 300, 3) := dk_180 1 44 (dk_at dksX7_readsCommand_1 1 rfl rfl)
theorem dX7_readsCommand_28 : decode cX7_readsCommand 28 = .ok (.bipush 30, 2) := dk_16 30 (dk_at dksX7_readsCommand_1 4 rfl rfl)
theorem dX7_readsCommand_30 : decode cX7_readsCommand 30 = .ok (.if_icmp .ge 7, 3) := dk_162 0 7 (dk_at dksX7_readsCommand_1 6 rfl rfl)
theorem dX7_readsCommand_33 : decode cX7_readsCommand 33 = .ok (.iconst 1, 1) := dk_4 (dk_at dksX7_readsCommand_1 9 rfl rfl)
theorem dX7_readsCommand_34 : decode cX7_readsCommand 34 = .ok (.goto 4, 3) := dk_167 0 4 (dk_at dksX7_readsCommand_1 10 rfl rfl)
theorem dX7_readsCommand_37 : decode cX7_readsCommand 37 = .ok (.iconst 0, 1) := dk_3 (dk_at dksX7_readsCommand_1 13 rfl rfl)
theorem dX7_readsCommand_38 : decode cX7_readsCommand 38 = .ok (.iconst 5, 1) := dk_8 (dk_at dksX7_readsCommand_1 14 rfl rfl)
theorem dX7_readsCommand_39 : decode cX7_readsCommand 39 = .ok (.invokevirtual 210, 3) := dk_182 0 210 (dk_at dksX7_readsCommand_1 15 rfl rfl)
theorem dX7_readsCommand_42 : decode cX7_readsCommand 42 = .ok (.ifCond .ne 4, 3) := dk_154 0 4 (dk_at dksX7_readsCommand_1 18 rfl rfl)
theorem dX7_readsCommand_45 : decode cX7_readsCommand 45 = .ok (.return_, 1) := dk_177 (dk_at dksX7_readsCommand_1 21 rfl rfl)
theorem dX7_readsCommand_46 : decode cX7_readsCommand 46 = .ok (.aload_n 0, 1) := dk_42 (dk_at dksX7_readsCommand_1 22 rfl rfl)
theorem dX7_readsCommand_47 : decode cX7_readsCommand 47 = .ok (.getfield 300, 3) := dk_180 1 44 (dk_at dksX7_readsCommand_2 0 rfl rfl)
theorem dX7_readsCommand_50 : decode cX7_readsCommand 50 = .ok (.istore_n 3, 1) := dk_62 (dk_at dksX7_readsCommand_2 3 rfl rfl)
theorem dX7_readsCommand_51 : decode cX7_readsCommand 51 = .ok (.aload_n 0, 1) := dk_42 (dk_at dksX7_readsCommand_2 4 rfl rfl)
theorem dX7_readsCommand_52 : decode cX7_readsCommand 52 = .ok (.getfield 39, 3) := dk_180 0 39 (dk_at dksX7_readsCommand_2 5 rfl rfl)
theorem dX7_readsCommand_55 : decode cX7_readsCommand 55 = .ok (.iload_n 3, 1) := dk_29 (dk_at dksX7_readsCommand_2 8 rfl rfl)
theorem dX7_readsCommand_56 : decode cX7_readsCommand 56 = .ok (.iload_n 2, 1) := dk_28 (dk_at dksX7_readsCommand_2 9 rfl rfl)
theorem dX7_readsCommand_57 : decode cX7_readsCommand 57 = .ok (.iastore, 1) := dk_79 (dk_at dksX7_readsCommand_2 10 rfl rfl)
theorem dX7_readsCommand_58 : decode cX7_readsCommand 58 = .ok (.aload_n 0, 1) := dk_42 (dk_at dksX7_readsCommand_2 11 rfl rfl)
theorem dX7_readsCommand_59 : decode cX7_readsCommand 59 = .ok (.dup, 1) := dk_89 (dk_at dksX7_readsCommand_2 12 rfl rfl)
theorem dX7_readsCommand_60 : decode cX7_readsCommand 60 = .ok (.getfield 300, 3) := dk_180 1 44 (dk_at dksX7_readsCommand_2 13 rfl rfl)
theorem dX7_readsCommand_63 : decode cX7_readsCommand 63 = .ok (.iconst 1, 1) := dk_4 (dk_at dksX7_readsCommand_2 16 rfl rfl)
theorem dX7_readsCommand_64 : decode cX7_readsCommand 64 = .ok (.iadd, 1) := dk_96 (dk_at dksX7_readsCommand_2 17 rfl rfl)
theorem dX7_readsCommand_65 : decode cX7_readsCommand 65 = .ok (.putfield 300, 3) := dk_181 1 44 (dk_at dksX7_readsCommand_2 18 rfl rfl)
theorem dX7_readsCommand_68 : decode cX7_readsCommand 68 = .ok (.aload_n 0, 1) := dk_42 (dk_at dksX7_readsCommand_2 21 rfl rfl)
theorem dX7_readsCommand_69 : decode cX7_readsCommand 69 = .ok (.invokevirtual 204, 3) := dk_182 0 204 (dk_at dksX7_readsCommand_3 0 rfl rfl)
theorem dX7_readsCommand_72 : decode cX7_readsCommand 72 = .ok (.iload_n 2, 1) := dk_28 (dk_at dksX7_readsCommand_3 3 rfl rfl)
theorem dX7_readsCommand_73 : decode cX7_readsCommand 73 = .ok (.iconst 5, 1) := dk_8 (dk_at dksX7_readsCommand_3 4 rfl rfl)
theorem dX7_readsCommand_74 : decode cX7_readsCommand 74 = .ok (.if_icmp .ne 12, 3) := dk_160 0 12 (dk_at dksX7_readsCommand_3 5 rfl rfl)
theorem dX7_readsCommand_77 : decode cX7_readsCommand 77 = .ok (.aload_n 0, 1) := dk_42 (dk_at dksX7_readsCommand_3 8 rfl rfl)
theorem dX7_readsCommand_78 : decode cX7_readsCommand 78 = .ok (.iload_n 3, 1) := dk_29 (dk_at dksX7_readsCommand_3 9 rfl rfl)
theorem dX7_readsCommand_79 : decode cX7_readsCommand 79 = .ok (.iload_n 1, 1) := dk_27 (dk_at dksX7_readsCommand_3 10 rfl rfl)
theorem dX7_readsCommand_80 : decode cX7_readsCommand 80 = .ok (.invokevirtual 310, 3) := dk_182 1 54 (dk_at dksX7_readsCommand_3 11 rfl rfl)
theorem dX7_readsCommand_83 : decode cX7_readsCommand 83 = .ok (.goto 8, 3) := dk_167 0 8 (dk_at dksX7_readsCommand_3 14 rfl rfl)
theorem dX7_readsCommand_86 : decode cX7_readsCommand 86 = .ok (.aload_n 0, 1) := dk_42 (dk_at dksX7_readsCommand_3 17 rfl rfl)
theorem dX7_readsCommand_87 : decode cX7_readsCommand 87 = .ok (.iload_n 3, 1) := dk_29 (dk_at dksX7_readsCommand_3 18 rfl rfl)
theorem dX7_readsCommand_88 : decode cX7_readsCommand 88 = .ok (.invokevirtual 314, 3) := dk_182 1 58 (dk_at dksX7_readsCommand_3 19 rfl rfl)
theorem dX7_readsCommand_91 : decode cX7_readsCommand 91 = .ok (.aload_n 0, 1) := dk_42 (dk_at dksX7_readsCommand_3 22 rfl rfl)
theorem dX7_readsCommand_92 : decode cX7_readsCommand 92 = .ok (.bipush 59, 2) := dk_16 59 (dk_at dksX7_readsCommand_4 0 rfl rfl)
theorem dX7_readsCommand_94 : decode cX7_readsCommand 94 = .ok (.invokevirtual 260, 3) := dk_182 1 4 (dk_at dksX7_readsCommand_4 2 rfl rfl)
theorem dX7_readsCommand_97 : decode cX7_readsCommand 97 = .ok (.return_, 1) := dk_177 (dk_at dksX7_readsCommand_4 5 rfl rfl)
abbrev cX7_commandHere : ByteArray := prog_21_method_61_code
def yX7_commandHere : MethodName := ⟨RX7, "commandHere", "()I"⟩
def dkwX7_commandHere_3 : List UInt8 := [167, 0, 4, 2, 172]
abbrev dktX7_commandHere_3 : List UInt8 := dkwX7_commandHere_3 ++ []
def dkwX7_commandHere_2 : List UInt8 := [42, 19, 1, 37, 182, 0, 252, 153, 0, 5, 7, 172, 42, 19, 1, 39, 182, 0, 252, 153, 0, 7, 8]
abbrev dktX7_commandHere_2 : List UInt8 := dkwX7_commandHere_2 ++ dktX7_commandHere_3
def dkwX7_commandHere_1 : List UInt8 := [42, 19, 1, 33, 182, 0, 252, 153, 0, 5, 5, 172, 42, 19, 1, 35, 182, 0, 252, 153, 0, 5, 6, 172]
abbrev dktX7_commandHere_1 : List UInt8 := dkwX7_commandHere_1 ++ dktX7_commandHere_2
def dkwX7_commandHere_0 : List UInt8 := [42, 19, 1, 29, 182, 0, 252, 153, 0, 5, 3, 172, 42, 19, 1, 31, 182, 0, 252, 153, 0, 5, 4, 172]
abbrev dktX7_commandHere_0 : List UInt8 := dkwX7_commandHere_0 ++ dktX7_commandHere_1
theorem dksX7_commandHere_0 : cX7_commandHere.data.toList.drop 0 = dktX7_commandHere_0 := by decide +kernel
theorem dksX7_commandHere_1 : cX7_commandHere.data.toList.drop 24 = dktX7_commandHere_1 := dk_seg dksX7_commandHere_0 24 rfl rfl
theorem dksX7_commandHere_2 : cX7_commandHere.data.toList.drop 48 = dktX7_commandHere_2 := dk_seg dksX7_commandHere_1 24 rfl rfl
theorem dksX7_commandHere_3 : cX7_commandHere.data.toList.drop 71 = dktX7_commandHere_3 := dk_seg dksX7_commandHere_2 23 rfl rfl
theorem dX7_commandHere_0 : decode cX7_commandHere 0 = .ok (.aload_n 0, 1) := dk_42 (dk_at dksX7_commandHere_0 0 rfl rfl)
theorem dX7_commandHere_1 : decode cX7_commandHere 1 = .ok (.ldc_w 285, 3) := dk_19 1 29 (dk_at dksX7_commandHere_0 1 rfl rfl)
theorem dX7_commandHere_4 : decode cX7_commandHere 4 = .ok (.invokevirtual 252, 3) := dk_182 0 252 (dk_at dksX7_commandHere_0 4 rfl rfl)
theorem dX7_commandHere_7 : decode cX7_commandHere 7 = .ok (.ifCond .eq 5, 3) := dk_153 0 5 (dk_at dksX7_commandHere_0 7 rfl rfl)
theorem dX7_commandHere_10 : decode cX7_commandHere 10 = .ok (.iconst 0, 1) := dk_3 (dk_at dksX7_commandHere_0 10 rfl rfl)
theorem dX7_commandHere_11 : decode cX7_commandHere 11 = .ok (.ireturn, 1) := dk_172 (dk_at dksX7_commandHere_0 11 rfl rfl)
theorem dX7_commandHere_12 : decode cX7_commandHere 12 = .ok (.aload_n 0, 1) := dk_42 (dk_at dksX7_commandHere_0 12 rfl rfl)
theorem dX7_commandHere_13 : decode cX7_commandHere 13 = .ok (.ldc_w 287, 3) := dk_19 1 31 (dk_at dksX7_commandHere_0 13 rfl rfl)
theorem dX7_commandHere_16 : decode cX7_commandHere 16 = .ok (.invokevirtual 252, 3) := dk_182 0 252 (dk_at dksX7_commandHere_0 16 rfl rfl)
theorem dX7_commandHere_19 : decode cX7_commandHere 19 = .ok (.ifCond .eq 5, 3) := dk_153 0 5 (dk_at dksX7_commandHere_0 19 rfl rfl)
theorem dX7_commandHere_22 : decode cX7_commandHere 22 = .ok (.iconst 1, 1) := dk_4 (dk_at dksX7_commandHere_0 22 rfl rfl)
theorem dX7_commandHere_23 : decode cX7_commandHere 23 = .ok (.ireturn, 1) := dk_172 (dk_at dksX7_commandHere_0 23 rfl rfl)
theorem dX7_commandHere_24 : decode cX7_commandHere 24 = .ok (.aload_n 0, 1) := dk_42 (dk_at dksX7_commandHere_1 0 rfl rfl)
theorem dX7_commandHere_25 : decode cX7_commandHere 25 = .ok (.ldc_w 289, 3) := dk_19 1 33 (dk_at dksX7_commandHere_1 1 rfl rfl)
theorem dX7_commandHere_28 : decode cX7_commandHere 28 = .ok (.invokevirtual 252, 3) := dk_182 0 252 (dk_at dksX7_commandHere_1 4 rfl rfl)
theorem dX7_commandHere_31 : decode cX7_commandHere 31 = .ok (.ifCond .eq 5, 3) := dk_153 0 5 (dk_at dksX7_commandHere_1 7 rfl rfl)
theorem dX7_commandHere_34 : decode cX7_commandHere 34 = .ok (.iconst 2, 1) := dk_5 (dk_at dksX7_commandHere_1 10 rfl rfl)
theorem dX7_commandHere_35 : decode cX7_commandHere 35 = .ok (.ireturn, 1) := dk_172 (dk_at dksX7_commandHere_1 11 rfl rfl)
theorem dX7_commandHere_36 : decode cX7_commandHere 36 = .ok (.aload_n 0, 1) := dk_42 (dk_at dksX7_commandHere_1 12 rfl rfl)
theorem dX7_commandHere_37 : decode cX7_commandHere 37 = .ok (.ldc_w 291, 3) := dk_19 1 35 (dk_at dksX7_commandHere_1 13 rfl rfl)
theorem dX7_commandHere_40 : decode cX7_commandHere 40 = .ok (.invokevirtual 252, 3) := dk_182 0 252 (dk_at dksX7_commandHere_1 16 rfl rfl)
theorem dX7_commandHere_43 : decode cX7_commandHere 43 = .ok (.ifCond .eq 5, 3) := dk_153 0 5 (dk_at dksX7_commandHere_1 19 rfl rfl)
theorem dX7_commandHere_46 : decode cX7_commandHere 46 = .ok (.iconst 3, 1) := dk_6 (dk_at dksX7_commandHere_1 22 rfl rfl)
theorem dX7_commandHere_47 : decode cX7_commandHere 47 = .ok (.ireturn, 1) := dk_172 (dk_at dksX7_commandHere_1 23 rfl rfl)
theorem dX7_commandHere_48 : decode cX7_commandHere 48 = .ok (.aload_n 0, 1) := dk_42 (dk_at dksX7_commandHere_2 0 rfl rfl)
theorem dX7_commandHere_49 : decode cX7_commandHere 49 = .ok (.ldc_w 293, 3) := dk_19 1 37 (dk_at dksX7_commandHere_2 1 rfl rfl)
theorem dX7_commandHere_52 : decode cX7_commandHere 52 = .ok (.invokevirtual 252, 3) := dk_182 0 252 (dk_at dksX7_commandHere_2 4 rfl rfl)
theorem dX7_commandHere_55 : decode cX7_commandHere 55 = .ok (.ifCond .eq 5, 3) := dk_153 0 5 (dk_at dksX7_commandHere_2 7 rfl rfl)
theorem dX7_commandHere_58 : decode cX7_commandHere 58 = .ok (.iconst 4, 1) := dk_7 (dk_at dksX7_commandHere_2 10 rfl rfl)
theorem dX7_commandHere_59 : decode cX7_commandHere 59 = .ok (.ireturn, 1) := dk_172 (dk_at dksX7_commandHere_2 11 rfl rfl)
theorem dX7_commandHere_60 : decode cX7_commandHere 60 = .ok (.aload_n 0, 1) := dk_42 (dk_at dksX7_commandHere_2 12 rfl rfl)
theorem dX7_commandHere_61 : decode cX7_commandHere 61 = .ok (.ldc_w 295, 3) := dk_19 1 39 (dk_at dksX7_commandHere_2 13 rfl rfl)
theorem dX7_commandHere_64 : decode cX7_commandHere 64 = .ok (.invokevirtual 252, 3) := dk_182 0 252 (dk_at dksX7_commandHere_2 16 rfl rfl)
theorem dX7_commandHere_67 : decode cX7_commandHere 67 = .ok (.ifCond .eq 7, 3) := dk_153 0 7 (dk_at dksX7_commandHere_2 19 rfl rfl)
theorem dX7_commandHere_70 : decode cX7_commandHere 70 = .ok (.iconst 5, 1) := dk_8 (dk_at dksX7_commandHere_2 22 rfl rfl)
theorem dX7_commandHere_71 : decode cX7_commandHere 71 = .ok (.goto 4, 3) := dk_167 0 4 (dk_at dksX7_commandHere_3 0 rfl rfl)
theorem dX7_commandHere_74 : decode cX7_commandHere 74 = .ok (.iconst (-1), 1) := dk_2 (dk_at dksX7_commandHere_3 3 rfl rfl)
theorem dX7_commandHere_75 : decode cX7_commandHere 75 = .ok (.ireturn, 1) := dk_172 (dk_at dksX7_commandHere_3 4 rfl rfl)
abbrev cX7_readsRepeat : ByteArray := prog_21_method_62_code
def yX7_readsRepeat : MethodName := ⟨RX7, "readsRepeat", "(II)V"⟩
def dkwX7_readsRepeat_2 : List UInt8 := [28, 4, 96, 182, 1, 41, 42, 16, 41, 182, 1, 4, 42, 180, 0, 45, 27, 42, 180, 1, 44, 79, 177]
abbrev dktX7_readsRepeat_2 : List UInt8 := dkwX7_readsRepeat_2 ++ []
def dkwX7_readsRepeat_1 : List UInt8 := [153, 0, 19, 42, 28, 5, 162, 0, 7, 4, 167, 0, 4, 3, 8, 182, 0, 210, 87, 42, 182, 0, 213, 42]
abbrev dktX7_readsRepeat_1 : List UInt8 := dkwX7_readsRepeat_1 ++ dktX7_readsRepeat_2
def dkwX7_readsRepeat_0 : List UInt8 := [42, 180, 0, 42, 27, 42, 3, 16, 20, 182, 0, 238, 79, 42, 42, 16, 40, 182, 0, 207, 4, 182, 0, 210]
abbrev dktX7_readsRepeat_0 : List UInt8 := dkwX7_readsRepeat_0 ++ dktX7_readsRepeat_1
theorem dksX7_readsRepeat_0 : cX7_readsRepeat.data.toList.drop 0 = dktX7_readsRepeat_0 := by decide +kernel
theorem dksX7_readsRepeat_1 : cX7_readsRepeat.data.toList.drop 24 = dktX7_readsRepeat_1 := dk_seg dksX7_readsRepeat_0 24 rfl rfl
theorem dksX7_readsRepeat_2 : cX7_readsRepeat.data.toList.drop 48 = dktX7_readsRepeat_2 := dk_seg dksX7_readsRepeat_1 24 rfl rfl
theorem dX7_readsRepeat_0 : decode cX7_readsRepeat 0 = .ok (.aload_n 0, 1) := dk_42 (dk_at dksX7_readsRepeat_0 0 rfl rfl)
theorem dX7_readsRepeat_1 : decode cX7_readsRepeat 1 = .ok (.getfield 42, 3) := dk_180 0 42 (dk_at dksX7_readsRepeat_0 1 rfl rfl)
theorem dX7_readsRepeat_4 : decode cX7_readsRepeat 4 = .ok (.iload_n 1, 1) := dk_27 (dk_at dksX7_readsRepeat_0 4 rfl rfl)
theorem dX7_readsRepeat_5 : decode cX7_readsRepeat 5 = .ok (.aload_n 0, 1) := dk_42 (dk_at dksX7_readsRepeat_0 5 rfl rfl)
theorem dX7_readsRepeat_6 : decode cX7_readsRepeat 6 = .ok (.iconst 0, 1) := dk_3 (dk_at dksX7_readsRepeat_0 6 rfl rfl)
theorem dX7_readsRepeat_7 : decode cX7_readsRepeat 7 = .ok (.bipush 20, 2) := dk_16 20 (dk_at dksX7_readsRepeat_0 7 rfl rfl)
theorem dX7_readsRepeat_9 : decode cX7_readsRepeat 9 = .ok (.invokevirtual 238, 3) := dk_182 0 238 (dk_at dksX7_readsRepeat_0 9 rfl rfl)
theorem dX7_readsRepeat_12 : decode cX7_readsRepeat 12 = .ok (.iastore, 1) := dk_79 (dk_at dksX7_readsRepeat_0 12 rfl rfl)
theorem dX7_readsRepeat_13 : decode cX7_readsRepeat 13 = .ok (.aload_n 0, 1) := dk_42 (dk_at dksX7_readsRepeat_0 13 rfl rfl)
theorem dX7_readsRepeat_14 : decode cX7_readsRepeat 14 = .ok (.aload_n 0, 1) := dk_42 (dk_at dksX7_readsRepeat_0 14 rfl rfl)
theorem dX7_readsRepeat_15 : decode cX7_readsRepeat 15 = .ok (.bipush 40, 2) := dk_16 40 (dk_at dksX7_readsRepeat_0 15 rfl rfl)
theorem dX7_readsRepeat_17 : decode cX7_readsRepeat 17 = .ok (.invokevirtual 207, 3) := dk_182 0 207 (dk_at dksX7_readsRepeat_0 17 rfl rfl)
theorem dX7_readsRepeat_20 : decode cX7_readsRepeat 20 = .ok (.iconst 1, 1) := dk_4 (dk_at dksX7_readsRepeat_0 20 rfl rfl)
theorem dX7_readsRepeat_21 : decode cX7_readsRepeat 21 = .ok (.invokevirtual 210, 3) := dk_182 0 210 (dk_at dksX7_readsRepeat_0 21 rfl rfl)
theorem dX7_readsRepeat_24 : decode cX7_readsRepeat 24 = .ok (.ifCond .eq 19, 3) := dk_153 0 19 (dk_at dksX7_readsRepeat_1 0 rfl rfl)
theorem dX7_readsRepeat_27 : decode cX7_readsRepeat 27 = .ok (.aload_n 0, 1) := dk_42 (dk_at dksX7_readsRepeat_1 3 rfl rfl)
theorem dX7_readsRepeat_28 : decode cX7_readsRepeat 28 = .ok (.iload_n 2, 1) := dk_28 (dk_at dksX7_readsRepeat_1 4 rfl rfl)
theorem dX7_readsRepeat_29 : decode cX7_readsRepeat 29 = .ok (.iconst 2, 1) := dk_5 (dk_at dksX7_readsRepeat_1 5 rfl rfl)
theorem dX7_readsRepeat_30 : decode cX7_readsRepeat 30 = .ok (.if_icmp .ge 7, 3) := dk_162 0 7 (dk_at dksX7_readsRepeat_1 6 rfl rfl)
theorem dX7_readsRepeat_33 : decode cX7_readsRepeat 33 = .ok (.iconst 1, 1) := dk_4 (dk_at dksX7_readsRepeat_1 9 rfl rfl)
theorem dX7_readsRepeat_34 : decode cX7_readsRepeat 34 = .ok (.goto 4, 3) := dk_167 0 4 (dk_at dksX7_readsRepeat_1 10 rfl rfl)
theorem dX7_readsRepeat_37 : decode cX7_readsRepeat 37 = .ok (.iconst 0, 1) := dk_3 (dk_at dksX7_readsRepeat_1 13 rfl rfl)
theorem dX7_readsRepeat_38 : decode cX7_readsRepeat 38 = .ok (.iconst 5, 1) := dk_8 (dk_at dksX7_readsRepeat_1 14 rfl rfl)
theorem dX7_readsRepeat_39 : decode cX7_readsRepeat 39 = .ok (.invokevirtual 210, 3) := dk_182 0 210 (dk_at dksX7_readsRepeat_1 15 rfl rfl)
theorem dX7_readsRepeat_42 : decode cX7_readsRepeat 42 = .ok (.pop, 1) := dk_87 (dk_at dksX7_readsRepeat_1 18 rfl rfl)
theorem dX7_readsRepeat_43 : decode cX7_readsRepeat 43 = .ok (.aload_n 0, 1) := dk_42 (dk_at dksX7_readsRepeat_1 19 rfl rfl)
theorem dX7_readsRepeat_44 : decode cX7_readsRepeat 44 = .ok (.invokevirtual 213, 3) := dk_182 0 213 (dk_at dksX7_readsRepeat_1 20 rfl rfl)
theorem dX7_readsRepeat_47 : decode cX7_readsRepeat 47 = .ok (.aload_n 0, 1) := dk_42 (dk_at dksX7_readsRepeat_1 23 rfl rfl)
theorem dX7_readsRepeat_48 : decode cX7_readsRepeat 48 = .ok (.iload_n 2, 1) := dk_28 (dk_at dksX7_readsRepeat_2 0 rfl rfl)
theorem dX7_readsRepeat_49 : decode cX7_readsRepeat 49 = .ok (.iconst 1, 1) := dk_4 (dk_at dksX7_readsRepeat_2 1 rfl rfl)
theorem dX7_readsRepeat_50 : decode cX7_readsRepeat 50 = .ok (.iadd, 1) := dk_96 (dk_at dksX7_readsRepeat_2 2 rfl rfl)
theorem dX7_readsRepeat_51 : decode cX7_readsRepeat 51 = .ok (.invokevirtual 297, 3) := dk_182 1 41 (dk_at dksX7_readsRepeat_2 3 rfl rfl)
theorem dX7_readsRepeat_54 : decode cX7_readsRepeat 54 = .ok (.aload_n 0, 1) := dk_42 (dk_at dksX7_readsRepeat_2 6 rfl rfl)
theorem dX7_readsRepeat_55 : decode cX7_readsRepeat 55 = .ok (.bipush 41, 2) := dk_16 41 (dk_at dksX7_readsRepeat_2 7 rfl rfl)
theorem dX7_readsRepeat_57 : decode cX7_readsRepeat 57 = .ok (.invokevirtual 260, 3) := dk_182 1 4 (dk_at dksX7_readsRepeat_2 9 rfl rfl)
theorem dX7_readsRepeat_60 : decode cX7_readsRepeat 60 = .ok (.aload_n 0, 1) := dk_42 (dk_at dksX7_readsRepeat_2 12 rfl rfl)
theorem dX7_readsRepeat_61 : decode cX7_readsRepeat 61 = .ok (.getfield 45, 3) := dk_180 0 45 (dk_at dksX7_readsRepeat_2 13 rfl rfl)
theorem dX7_readsRepeat_64 : decode cX7_readsRepeat 64 = .ok (.iload_n 1, 1) := dk_27 (dk_at dksX7_readsRepeat_2 16 rfl rfl)
theorem dX7_readsRepeat_65 : decode cX7_readsRepeat 65 = .ok (.aload_n 0, 1) := dk_42 (dk_at dksX7_readsRepeat_2 17 rfl rfl)
theorem dX7_readsRepeat_66 : decode cX7_readsRepeat 66 = .ok (.getfield 300, 3) := dk_180 1 44 (dk_at dksX7_readsRepeat_2 18 rfl rfl)
theorem dX7_readsRepeat_69 : decode cX7_readsRepeat 69 = .ok (.iastore, 1) := dk_79 (dk_at dksX7_readsRepeat_2 21 rfl rfl)
theorem dX7_readsRepeat_70 : decode cX7_readsRepeat 70 = .ok (.return_, 1) := dk_177 (dk_at dksX7_readsRepeat_2 22 rfl rfl)
abbrev cX7_readsSingle : ByteArray := prog_21_method_64_code
def yX7_readsSingle : MethodName := ⟨RX7, "readsSingle", "(I)V"⟩
def dkwX7_readsSingle_6 : List UInt8 := [167, 0, 16, 42, 180, 0, 42, 27, 42, 3, 16, 9, 182, 0, 238, 79, 177]
abbrev dktX7_readsSingle_6 : List UInt8 := dkwX7_readsSingle_6 ++ []
def dkwX7_readsSingle_5 : List UInt8 := [4, 16, 30, 182, 0, 238, 79, 167, 0, 31, 42, 180, 0, 42, 27, 42, 3, 6, 182, 0, 238, 79]
abbrev dktX7_readsSingle_5 : List UInt8 := dkwX7_readsSingle_5 ++ dktX7_readsSingle_6
def dkwX7_readsSingle_4 : List UInt8 := [167, 0, 62, 42, 180, 0, 42, 27, 42, 3, 8, 182, 0, 238, 79, 167, 0, 47, 42, 180, 0, 42, 27, 42]
abbrev dktX7_readsSingle_4 : List UInt8 := dkwX7_readsSingle_4 ++ dktX7_readsSingle_5
def dkwX7_readsSingle_3 : List UInt8 := [180, 0, 48, 27, 42, 3, 182, 1, 47, 79, 42, 180, 0, 51, 27, 42, 4, 16, 30, 182, 0, 238, 79]
abbrev dktX7_readsSingle_3 : List UInt8 := dkwX7_readsSingle_3 ++ dktX7_readsSingle_4
def dkwX7_readsSingle_2 : List UInt8 := [42, 180, 0, 42, 27, 42, 3, 8, 182, 0, 238, 79, 42, 180, 0, 45, 27, 42, 4, 182, 1, 47, 79, 42]
abbrev dktX7_readsSingle_2 : List UInt8 := dkwX7_readsSingle_2 ++ dktX7_readsSingle_3
def dkwX7_readsSingle_1 : List UInt8 := [170, 0, 0, 0, 0, 126, 0, 0, 0, 0, 0, 0, 0, 3, 0, 0, 0, 30, 0, 0, 0, 80, 0, 0, 0, 95, 0, 0, 0, 111]
abbrev dktX7_readsSingle_1 : List UInt8 := dkwX7_readsSingle_1 ++ dktX7_readsSingle_2
def dkwX7_readsSingle_0 : List UInt8 := [42, 180, 0, 39, 27, 46]
abbrev dktX7_readsSingle_0 : List UInt8 := dkwX7_readsSingle_0 ++ dktX7_readsSingle_1
theorem dksX7_readsSingle_0 : cX7_readsSingle.data.toList.drop 0 = dktX7_readsSingle_0 := by decide +kernel
theorem dksX7_readsSingle_1 : cX7_readsSingle.data.toList.drop 6 = dktX7_readsSingle_1 := dk_seg dksX7_readsSingle_0 6 rfl rfl
theorem dksX7_readsSingle_2 : cX7_readsSingle.data.toList.drop 36 = dktX7_readsSingle_2 := dk_seg dksX7_readsSingle_1 30 rfl rfl
theorem dksX7_readsSingle_3 : cX7_readsSingle.data.toList.drop 60 = dktX7_readsSingle_3 := dk_seg dksX7_readsSingle_2 24 rfl rfl
theorem dksX7_readsSingle_4 : cX7_readsSingle.data.toList.drop 83 = dktX7_readsSingle_4 := dk_seg dksX7_readsSingle_3 23 rfl rfl
theorem dksX7_readsSingle_5 : cX7_readsSingle.data.toList.drop 107 = dktX7_readsSingle_5 := dk_seg dksX7_readsSingle_4 24 rfl rfl
theorem dksX7_readsSingle_6 : cX7_readsSingle.data.toList.drop 129 = dktX7_readsSingle_6 := dk_seg dksX7_readsSingle_5 22 rfl rfl
theorem dX7_readsSingle_0 : decode cX7_readsSingle 0 = .ok (.aload_n 0, 1) := dk_42 (dk_at dksX7_readsSingle_0 0 rfl rfl)
theorem dX7_readsSingle_1 : decode cX7_readsSingle 1 = .ok (.getfield 39, 3) := dk_180 0 39 (dk_at dksX7_readsSingle_0 1 rfl rfl)
theorem dX7_readsSingle_4 : decode cX7_readsSingle 4 = .ok (.iload_n 1, 1) := dk_27 (dk_at dksX7_readsSingle_0 4 rfl rfl)
theorem dX7_readsSingle_5 : decode cX7_readsSingle 5 = .ok (.iaload, 1) := dk_46 (dk_at dksX7_readsSingle_0 5 rfl rfl)
theorem dX7_readsSingle_6 : decode cX7_readsSingle 6 = .ok (.tableswitch 126 0 3 #[30, 80, 95, 111], 30) := by decide +kernel
theorem dX7_readsSingle_36 : decode cX7_readsSingle 36 = .ok (.aload_n 0, 1) := dk_42 (dk_at dksX7_readsSingle_2 0 rfl rfl)
theorem dX7_readsSingle_37 : decode cX7_readsSingle 37 = .ok (.getfield 42, 3) := dk_180 0 42 (dk_at dksX7_readsSingle_2 1 rfl rfl)
theorem dX7_readsSingle_40 : decode cX7_readsSingle 40 = .ok (.iload_n 1, 1) := dk_27 (dk_at dksX7_readsSingle_2 4 rfl rfl)
theorem dX7_readsSingle_41 : decode cX7_readsSingle 41 = .ok (.aload_n 0, 1) := dk_42 (dk_at dksX7_readsSingle_2 5 rfl rfl)
theorem dX7_readsSingle_42 : decode cX7_readsSingle 42 = .ok (.iconst 0, 1) := dk_3 (dk_at dksX7_readsSingle_2 6 rfl rfl)
theorem dX7_readsSingle_43 : decode cX7_readsSingle 43 = .ok (.iconst 5, 1) := dk_8 (dk_at dksX7_readsSingle_2 7 rfl rfl)
theorem dX7_readsSingle_44 : decode cX7_readsSingle 44 = .ok (.invokevirtual 238, 3) := dk_182 0 238 (dk_at dksX7_readsSingle_2 8 rfl rfl)
theorem dX7_readsSingle_47 : decode cX7_readsSingle 47 = .ok (.iastore, 1) := dk_79 (dk_at dksX7_readsSingle_2 11 rfl rfl)
theorem dX7_readsSingle_48 : decode cX7_readsSingle 48 = .ok (.aload_n 0, 1) := dk_42 (dk_at dksX7_readsSingle_2 12 rfl rfl)
theorem dX7_readsSingle_49 : decode cX7_readsSingle 49 = .ok (.getfield 45, 3) := dk_180 0 45 (dk_at dksX7_readsSingle_2 13 rfl rfl)
theorem dX7_readsSingle_52 : decode cX7_readsSingle 52 = .ok (.iload_n 1, 1) := dk_27 (dk_at dksX7_readsSingle_2 16 rfl rfl)
theorem dX7_readsSingle_53 : decode cX7_readsSingle 53 = .ok (.aload_n 0, 1) := dk_42 (dk_at dksX7_readsSingle_2 17 rfl rfl)
theorem dX7_readsSingle_54 : decode cX7_readsSingle 54 = .ok (.iconst 1, 1) := dk_4 (dk_at dksX7_readsSingle_2 18 rfl rfl)
theorem dX7_readsSingle_55 : decode cX7_readsSingle 55 = .ok (.invokevirtual 303, 3) := dk_182 1 47 (dk_at dksX7_readsSingle_2 19 rfl rfl)
theorem dX7_readsSingle_58 : decode cX7_readsSingle 58 = .ok (.iastore, 1) := dk_79 (dk_at dksX7_readsSingle_2 22 rfl rfl)
theorem dX7_readsSingle_59 : decode cX7_readsSingle 59 = .ok (.aload_n 0, 1) := dk_42 (dk_at dksX7_readsSingle_2 23 rfl rfl)
theorem dX7_readsSingle_60 : decode cX7_readsSingle 60 = .ok (.getfield 48, 3) := dk_180 0 48 (dk_at dksX7_readsSingle_3 0 rfl rfl)
theorem dX7_readsSingle_63 : decode cX7_readsSingle 63 = .ok (.iload_n 1, 1) := dk_27 (dk_at dksX7_readsSingle_3 3 rfl rfl)
theorem dX7_readsSingle_64 : decode cX7_readsSingle 64 = .ok (.aload_n 0, 1) := dk_42 (dk_at dksX7_readsSingle_3 4 rfl rfl)
theorem dX7_readsSingle_65 : decode cX7_readsSingle 65 = .ok (.iconst 0, 1) := dk_3 (dk_at dksX7_readsSingle_3 5 rfl rfl)
theorem dX7_readsSingle_66 : decode cX7_readsSingle 66 = .ok (.invokevirtual 303, 3) := dk_182 1 47 (dk_at dksX7_readsSingle_3 6 rfl rfl)
theorem dX7_readsSingle_69 : decode cX7_readsSingle 69 = .ok (.iastore, 1) := dk_79 (dk_at dksX7_readsSingle_3 9 rfl rfl)
theorem dX7_readsSingle_70 : decode cX7_readsSingle 70 = .ok (.aload_n 0, 1) := dk_42 (dk_at dksX7_readsSingle_3 10 rfl rfl)
theorem dX7_readsSingle_71 : decode cX7_readsSingle 71 = .ok (.getfield 51, 3) := dk_180 0 51 (dk_at dksX7_readsSingle_3 11 rfl rfl)
theorem dX7_readsSingle_74 : decode cX7_readsSingle 74 = .ok (.iload_n 1, 1) := dk_27 (dk_at dksX7_readsSingle_3 14 rfl rfl)
theorem dX7_readsSingle_75 : decode cX7_readsSingle 75 = .ok (.aload_n 0, 1) := dk_42 (dk_at dksX7_readsSingle_3 15 rfl rfl)
theorem dX7_readsSingle_76 : decode cX7_readsSingle 76 = .ok (.iconst 1, 1) := dk_4 (dk_at dksX7_readsSingle_3 16 rfl rfl)
theorem dX7_readsSingle_77 : decode cX7_readsSingle 77 = .ok (.bipush 30, 2) := dk_16 30 (dk_at dksX7_readsSingle_3 17 rfl rfl)
theorem dX7_readsSingle_79 : decode cX7_readsSingle 79 = .ok (.invokevirtual 238, 3) := dk_182 0 238 (dk_at dksX7_readsSingle_3 19 rfl rfl)
theorem dX7_readsSingle_82 : decode cX7_readsSingle 82 = .ok (.iastore, 1) := dk_79 (dk_at dksX7_readsSingle_3 22 rfl rfl)
theorem dX7_readsSingle_83 : decode cX7_readsSingle 83 = .ok (.goto 62, 3) := dk_167 0 62 (dk_at dksX7_readsSingle_4 0 rfl rfl)
theorem dX7_readsSingle_86 : decode cX7_readsSingle 86 = .ok (.aload_n 0, 1) := dk_42 (dk_at dksX7_readsSingle_4 3 rfl rfl)
theorem dX7_readsSingle_87 : decode cX7_readsSingle 87 = .ok (.getfield 42, 3) := dk_180 0 42 (dk_at dksX7_readsSingle_4 4 rfl rfl)
theorem dX7_readsSingle_90 : decode cX7_readsSingle 90 = .ok (.iload_n 1, 1) := dk_27 (dk_at dksX7_readsSingle_4 7 rfl rfl)
theorem dX7_readsSingle_91 : decode cX7_readsSingle 91 = .ok (.aload_n 0, 1) := dk_42 (dk_at dksX7_readsSingle_4 8 rfl rfl)
theorem dX7_readsSingle_92 : decode cX7_readsSingle 92 = .ok (.iconst 0, 1) := dk_3 (dk_at dksX7_readsSingle_4 9 rfl rfl)
theorem dX7_readsSingle_93 : decode cX7_readsSingle 93 = .ok (.iconst 5, 1) := dk_8 (dk_at dksX7_readsSingle_4 10 rfl rfl)
theorem dX7_readsSingle_94 : decode cX7_readsSingle 94 = .ok (.invokevirtual 238, 3) := dk_182 0 238 (dk_at dksX7_readsSingle_4 11 rfl rfl)
theorem dX7_readsSingle_97 : decode cX7_readsSingle 97 = .ok (.iastore, 1) := dk_79 (dk_at dksX7_readsSingle_4 14 rfl rfl)
theorem dX7_readsSingle_98 : decode cX7_readsSingle 98 = .ok (.goto 47, 3) := dk_167 0 47 (dk_at dksX7_readsSingle_4 15 rfl rfl)
theorem dX7_readsSingle_101 : decode cX7_readsSingle 101 = .ok (.aload_n 0, 1) := dk_42 (dk_at dksX7_readsSingle_4 18 rfl rfl)
theorem dX7_readsSingle_102 : decode cX7_readsSingle 102 = .ok (.getfield 42, 3) := dk_180 0 42 (dk_at dksX7_readsSingle_4 19 rfl rfl)
theorem dX7_readsSingle_105 : decode cX7_readsSingle 105 = .ok (.iload_n 1, 1) := dk_27 (dk_at dksX7_readsSingle_4 22 rfl rfl)
theorem dX7_readsSingle_106 : decode cX7_readsSingle 106 = .ok (.aload_n 0, 1) := dk_42 (dk_at dksX7_readsSingle_4 23 rfl rfl)
theorem dX7_readsSingle_107 : decode cX7_readsSingle 107 = .ok (.iconst 1, 1) := dk_4 (dk_at dksX7_readsSingle_5 0 rfl rfl)
theorem dX7_readsSingle_108 : decode cX7_readsSingle 108 = .ok (.bipush 30, 2) := dk_16 30 (dk_at dksX7_readsSingle_5 1 rfl rfl)
theorem dX7_readsSingle_110 : decode cX7_readsSingle 110 = .ok (.invokevirtual 238, 3) := dk_182 0 238 (dk_at dksX7_readsSingle_5 3 rfl rfl)
theorem dX7_readsSingle_113 : decode cX7_readsSingle 113 = .ok (.iastore, 1) := dk_79 (dk_at dksX7_readsSingle_5 6 rfl rfl)
theorem dX7_readsSingle_114 : decode cX7_readsSingle 114 = .ok (.goto 31, 3) := dk_167 0 31 (dk_at dksX7_readsSingle_5 7 rfl rfl)
theorem dX7_readsSingle_117 : decode cX7_readsSingle 117 = .ok (.aload_n 0, 1) := dk_42 (dk_at dksX7_readsSingle_5 10 rfl rfl)
theorem dX7_readsSingle_118 : decode cX7_readsSingle 118 = .ok (.getfield 42, 3) := dk_180 0 42 (dk_at dksX7_readsSingle_5 11 rfl rfl)
theorem dX7_readsSingle_121 : decode cX7_readsSingle 121 = .ok (.iload_n 1, 1) := dk_27 (dk_at dksX7_readsSingle_5 14 rfl rfl)
theorem dX7_readsSingle_122 : decode cX7_readsSingle 122 = .ok (.aload_n 0, 1) := dk_42 (dk_at dksX7_readsSingle_5 15 rfl rfl)
theorem dX7_readsSingle_123 : decode cX7_readsSingle 123 = .ok (.iconst 0, 1) := dk_3 (dk_at dksX7_readsSingle_5 16 rfl rfl)
theorem dX7_readsSingle_124 : decode cX7_readsSingle 124 = .ok (.iconst 3, 1) := dk_6 (dk_at dksX7_readsSingle_5 17 rfl rfl)
theorem dX7_readsSingle_125 : decode cX7_readsSingle 125 = .ok (.invokevirtual 238, 3) := dk_182 0 238 (dk_at dksX7_readsSingle_5 18 rfl rfl)
theorem dX7_readsSingle_128 : decode cX7_readsSingle 128 = .ok (.iastore, 1) := dk_79 (dk_at dksX7_readsSingle_5 21 rfl rfl)
theorem dX7_readsSingle_129 : decode cX7_readsSingle 129 = .ok (.goto 16, 3) := dk_167 0 16 (dk_at dksX7_readsSingle_6 0 rfl rfl)
theorem dX7_readsSingle_132 : decode cX7_readsSingle 132 = .ok (.aload_n 0, 1) := dk_42 (dk_at dksX7_readsSingle_6 3 rfl rfl)
theorem dX7_readsSingle_133 : decode cX7_readsSingle 133 = .ok (.getfield 42, 3) := dk_180 0 42 (dk_at dksX7_readsSingle_6 4 rfl rfl)
theorem dX7_readsSingle_136 : decode cX7_readsSingle 136 = .ok (.iload_n 1, 1) := dk_27 (dk_at dksX7_readsSingle_6 7 rfl rfl)
theorem dX7_readsSingle_137 : decode cX7_readsSingle 137 = .ok (.aload_n 0, 1) := dk_42 (dk_at dksX7_readsSingle_6 8 rfl rfl)
theorem dX7_readsSingle_138 : decode cX7_readsSingle 138 = .ok (.iconst 0, 1) := dk_3 (dk_at dksX7_readsSingle_6 9 rfl rfl)
theorem dX7_readsSingle_139 : decode cX7_readsSingle 139 = .ok (.bipush 9, 2) := dk_16 9 (dk_at dksX7_readsSingle_6 10 rfl rfl)
theorem dX7_readsSingle_141 : decode cX7_readsSingle 141 = .ok (.invokevirtual 238, 3) := dk_182 0 238 (dk_at dksX7_readsSingle_6 12 rfl rfl)
theorem dX7_readsSingle_144 : decode cX7_readsSingle 144 = .ok (.iastore, 1) := dk_79 (dk_at dksX7_readsSingle_6 15 rfl rfl)
theorem dX7_readsSingle_145 : decode cX7_readsSingle 145 = .ok (.return_, 1) := dk_177 (dk_at dksX7_readsSingle_6 16 rfl rfl)
abbrev cX7_takesNamed : ByteArray := prog_21_method_63_code
def yX7_takesNamed : MethodName := ⟨RX7, "takesNamed", "(Z)I"⟩
def dkwX7_takesNamed_2 : List UInt8 := [182, 0, 213, 29, 172]
abbrev dktX7_takesNamed_2 : List UInt8 := dkwX7_takesNamed_2 ++ []
def dkwX7_takesNamed_1 : List UInt8 := [42, 180, 0, 198, 154, 0, 8, 29, 2, 159, 0, 7, 4, 167, 0, 4, 3, 6, 182, 0, 210, 87, 42]
abbrev dktX7_takesNamed_1 : List UInt8 := dkwX7_takesNamed_1 ++ dktX7_takesNamed_2
def dkwX7_takesNamed_0 : List UInt8 := [42, 182, 0, 226, 61, 27, 153, 0, 11, 42, 28, 182, 0, 232, 167, 0, 8, 42, 28, 182, 0, 235, 62, 42]
abbrev dktX7_takesNamed_0 : List UInt8 := dkwX7_takesNamed_0 ++ dktX7_takesNamed_1
theorem dksX7_takesNamed_0 : cX7_takesNamed.data.toList.drop 0 = dktX7_takesNamed_0 := by decide +kernel
theorem dksX7_takesNamed_1 : cX7_takesNamed.data.toList.drop 24 = dktX7_takesNamed_1 := dk_seg dksX7_takesNamed_0 24 rfl rfl
theorem dksX7_takesNamed_2 : cX7_takesNamed.data.toList.drop 47 = dktX7_takesNamed_2 := dk_seg dksX7_takesNamed_1 23 rfl rfl
theorem dX7_takesNamed_0 : decode cX7_takesNamed 0 = .ok (.aload_n 0, 1) := dk_42 (dk_at dksX7_takesNamed_0 0 rfl rfl)
theorem dX7_takesNamed_1 : decode cX7_takesNamed 1 = .ok (.invokevirtual 226, 3) := dk_182 0 226 (dk_at dksX7_takesNamed_0 1 rfl rfl)
theorem dX7_takesNamed_4 : decode cX7_takesNamed 4 = .ok (.istore_n 2, 1) := dk_61 (dk_at dksX7_takesNamed_0 4 rfl rfl)
theorem dX7_takesNamed_5 : decode cX7_takesNamed 5 = .ok (.iload_n 1, 1) := dk_27 (dk_at dksX7_takesNamed_0 5 rfl rfl)
theorem dX7_takesNamed_6 : decode cX7_takesNamed 6 = .ok (.ifCond .eq 11, 3) := dk_153 0 11 (dk_at dksX7_takesNamed_0 6 rfl rfl)
theorem dX7_takesNamed_9 : decode cX7_takesNamed 9 = .ok (.aload_n 0, 1) := dk_42 (dk_at dksX7_takesNamed_0 9 rfl rfl)
theorem dX7_takesNamed_10 : decode cX7_takesNamed 10 = .ok (.iload_n 2, 1) := dk_28 (dk_at dksX7_takesNamed_0 10 rfl rfl)
theorem dX7_takesNamed_11 : decode cX7_takesNamed 11 = .ok (.invokevirtual 232, 3) := dk_182 0 232 (dk_at dksX7_takesNamed_0 11 rfl rfl)
theorem dX7_takesNamed_14 : decode cX7_takesNamed 14 = .ok (.goto 8, 3) := dk_167 0 8 (dk_at dksX7_takesNamed_0 14 rfl rfl)
theorem dX7_takesNamed_17 : decode cX7_takesNamed 17 = .ok (.aload_n 0, 1) := dk_42 (dk_at dksX7_takesNamed_0 17 rfl rfl)
theorem dX7_takesNamed_18 : decode cX7_takesNamed 18 = .ok (.iload_n 2, 1) := dk_28 (dk_at dksX7_takesNamed_0 18 rfl rfl)
theorem dX7_takesNamed_19 : decode cX7_takesNamed 19 = .ok (.invokevirtual 235, 3) := dk_182 0 235 (dk_at dksX7_takesNamed_0 19 rfl rfl)
theorem dX7_takesNamed_22 : decode cX7_takesNamed 22 = .ok (.istore_n 3, 1) := dk_62 (dk_at dksX7_takesNamed_0 22 rfl rfl)
theorem dX7_takesNamed_23 : decode cX7_takesNamed 23 = .ok (.aload_n 0, 1) := dk_42 (dk_at dksX7_takesNamed_0 23 rfl rfl)
theorem dX7_takesNamed_24 : decode cX7_takesNamed 24 = .ok (.aload_n 0, 1) := dk_42 (dk_at dksX7_takesNamed_1 0 rfl rfl)
theorem dX7_takesNamed_25 : decode cX7_takesNamed 25 = .ok (.getfield 198, 3) := dk_180 0 198 (dk_at dksX7_takesNamed_1 1 rfl rfl)
theorem dX7_takesNamed_28 : decode cX7_takesNamed 28 = .ok (.ifCond .ne 8, 3) := dk_154 0 8 (dk_at dksX7_takesNamed_1 4 rfl rfl)
theorem dX7_takesNamed_31 : decode cX7_takesNamed 31 = .ok (.iload_n 3, 1) := dk_29 (dk_at dksX7_takesNamed_1 7 rfl rfl)
theorem dX7_takesNamed_32 : decode cX7_takesNamed 32 = .ok (.iconst (-1), 1) := dk_2 (dk_at dksX7_takesNamed_1 8 rfl rfl)
theorem dX7_takesNamed_33 : decode cX7_takesNamed 33 = .ok (.if_icmp .eq 7, 3) := dk_159 0 7 (dk_at dksX7_takesNamed_1 9 rfl rfl)
theorem dX7_takesNamed_36 : decode cX7_takesNamed 36 = .ok (.iconst 1, 1) := dk_4 (dk_at dksX7_takesNamed_1 12 rfl rfl)
theorem dX7_takesNamed_37 : decode cX7_takesNamed 37 = .ok (.goto 4, 3) := dk_167 0 4 (dk_at dksX7_takesNamed_1 13 rfl rfl)
theorem dX7_takesNamed_40 : decode cX7_takesNamed 40 = .ok (.iconst 0, 1) := dk_3 (dk_at dksX7_takesNamed_1 16 rfl rfl)
theorem dX7_takesNamed_41 : decode cX7_takesNamed 41 = .ok (.iconst 3, 1) := dk_6 (dk_at dksX7_takesNamed_1 17 rfl rfl)
theorem dX7_takesNamed_42 : decode cX7_takesNamed 42 = .ok (.invokevirtual 210, 3) := dk_182 0 210 (dk_at dksX7_takesNamed_1 18 rfl rfl)
theorem dX7_takesNamed_45 : decode cX7_takesNamed 45 = .ok (.pop, 1) := dk_87 (dk_at dksX7_takesNamed_1 21 rfl rfl)
theorem dX7_takesNamed_46 : decode cX7_takesNamed 46 = .ok (.aload_n 0, 1) := dk_42 (dk_at dksX7_takesNamed_1 22 rfl rfl)
theorem dX7_takesNamed_47 : decode cX7_takesNamed 47 = .ok (.invokevirtual 213, 3) := dk_182 0 213 (dk_at dksX7_takesNamed_2 0 rfl rfl)
theorem dX7_takesNamed_50 : decode cX7_takesNamed 50 = .ok (.iload_n 3, 1) := dk_29 (dk_at dksX7_takesNamed_2 3 rfl rfl)
theorem dX7_takesNamed_51 : decode cX7_takesNamed 51 = .ok (.ireturn, 1) := dk_172 (dk_at dksX7_takesNamed_2 4 rfl rfl)
abbrev cX7_keeps : ByteArray := prog_21_method_112_code
def yX7_keeps : MethodName := ⟨RX7, "keeps", "()V"⟩
def dkwX7_keeps_4 : List UInt8 := [181, 1, 26, 177]
abbrev dktX7_keeps_4 : List UInt8 := dkwX7_keeps_4 ++ []
def dkwX7_keeps_3 : List UInt8 := [27, 96, 42, 180, 0, 7, 27, 46, 79, 132, 1, 1, 167, 255, 225, 42, 89, 180, 1, 26, 4, 96]
abbrev dktX7_keeps_3 : List UInt8 := dkwX7_keeps_3 ++ dktX7_keeps_4
def dkwX7_keeps_2 : List UInt8 := [181, 1, 26, 3, 60, 27, 17, 0, 212, 162, 0, 30, 42, 180, 0, 19, 17, 0, 212, 42, 180, 1, 26, 104]
abbrev dktX7_keeps_2 : List UInt8 := dkwX7_keeps_2 ++ dktX7_keeps_3
def dkwX7_keeps_1 : List UInt8 := [180, 0, 19, 27, 17, 0, 212, 96, 46, 79, 132, 1, 1, 167, 255, 230, 42, 89, 180, 1, 26, 4, 100]
abbrev dktX7_keeps_1 : List UInt8 := dkwX7_keeps_1 ++ dktX7_keeps_2
def dkwX7_keeps_0 : List UInt8 := [42, 180, 1, 26, 16, 8, 160, 0, 44, 3, 60, 27, 17, 5, 204, 162, 0, 25, 42, 180, 0, 19, 27, 42]
abbrev dktX7_keeps_0 : List UInt8 := dkwX7_keeps_0 ++ dktX7_keeps_1
theorem dksX7_keeps_0 : cX7_keeps.data.toList.drop 0 = dktX7_keeps_0 := by decide +kernel
theorem dksX7_keeps_1 : cX7_keeps.data.toList.drop 24 = dktX7_keeps_1 := dk_seg dksX7_keeps_0 24 rfl rfl
theorem dksX7_keeps_2 : cX7_keeps.data.toList.drop 47 = dktX7_keeps_2 := dk_seg dksX7_keeps_1 23 rfl rfl
theorem dksX7_keeps_3 : cX7_keeps.data.toList.drop 71 = dktX7_keeps_3 := dk_seg dksX7_keeps_2 24 rfl rfl
theorem dksX7_keeps_4 : cX7_keeps.data.toList.drop 93 = dktX7_keeps_4 := dk_seg dksX7_keeps_3 22 rfl rfl
theorem dX7_keeps_0 : decode cX7_keeps 0 = .ok (.aload_n 0, 1) := dk_42 (dk_at dksX7_keeps_0 0 rfl rfl)
theorem dX7_keeps_1 : decode cX7_keeps 1 = .ok (.getfield 282, 3) := dk_180 1 26 (dk_at dksX7_keeps_0 1 rfl rfl)
theorem dX7_keeps_4 : decode cX7_keeps 4 = .ok (.bipush 8, 2) := dk_16 8 (dk_at dksX7_keeps_0 4 rfl rfl)
theorem dX7_keeps_6 : decode cX7_keeps 6 = .ok (.if_icmp .ne 44, 3) := dk_160 0 44 (dk_at dksX7_keeps_0 6 rfl rfl)
theorem dX7_keeps_9 : decode cX7_keeps 9 = .ok (.iconst 0, 1) := dk_3 (dk_at dksX7_keeps_0 9 rfl rfl)
theorem dX7_keeps_10 : decode cX7_keeps 10 = .ok (.istore_n 1, 1) := dk_60 (dk_at dksX7_keeps_0 10 rfl rfl)
theorem dX7_keeps_11 : decode cX7_keeps 11 = .ok (.iload_n 1, 1) := dk_27 (dk_at dksX7_keeps_0 11 rfl rfl)
theorem dX7_keeps_12 : decode cX7_keeps 12 = .ok (.sipush 1484, 3) := dk_17 5 204 (dk_at dksX7_keeps_0 12 rfl rfl)
theorem dX7_keeps_15 : decode cX7_keeps 15 = .ok (.if_icmp .ge 25, 3) := dk_162 0 25 (dk_at dksX7_keeps_0 15 rfl rfl)
theorem dX7_keeps_18 : decode cX7_keeps 18 = .ok (.aload_n 0, 1) := dk_42 (dk_at dksX7_keeps_0 18 rfl rfl)
theorem dX7_keeps_19 : decode cX7_keeps 19 = .ok (.getfield 19, 3) := dk_180 0 19 (dk_at dksX7_keeps_0 19 rfl rfl)
theorem dX7_keeps_22 : decode cX7_keeps 22 = .ok (.iload_n 1, 1) := dk_27 (dk_at dksX7_keeps_0 22 rfl rfl)
theorem dX7_keeps_23 : decode cX7_keeps 23 = .ok (.aload_n 0, 1) := dk_42 (dk_at dksX7_keeps_0 23 rfl rfl)
theorem dX7_keeps_24 : decode cX7_keeps 24 = .ok (.getfield 19, 3) := dk_180 0 19 (dk_at dksX7_keeps_1 0 rfl rfl)
theorem dX7_keeps_27 : decode cX7_keeps 27 = .ok (.iload_n 1, 1) := dk_27 (dk_at dksX7_keeps_1 3 rfl rfl)
theorem dX7_keeps_28 : decode cX7_keeps 28 = .ok (.sipush 212, 3) := dk_17 0 212 (dk_at dksX7_keeps_1 4 rfl rfl)
theorem dX7_keeps_31 : decode cX7_keeps 31 = .ok (.iadd, 1) := dk_96 (dk_at dksX7_keeps_1 7 rfl rfl)
theorem dX7_keeps_32 : decode cX7_keeps 32 = .ok (.iaload, 1) := dk_46 (dk_at dksX7_keeps_1 8 rfl rfl)
theorem dX7_keeps_33 : decode cX7_keeps 33 = .ok (.iastore, 1) := dk_79 (dk_at dksX7_keeps_1 9 rfl rfl)
theorem dX7_keeps_34 : decode cX7_keeps 34 = .ok (.iinc 1 1, 3) := dk_132 1 1 (dk_at dksX7_keeps_1 10 rfl rfl)
theorem dX7_keeps_37 : decode cX7_keeps 37 = .ok (.goto (-26), 3) := dk_167 255 230 (dk_at dksX7_keeps_1 13 rfl rfl)
theorem dX7_keeps_40 : decode cX7_keeps 40 = .ok (.aload_n 0, 1) := dk_42 (dk_at dksX7_keeps_1 16 rfl rfl)
theorem dX7_keeps_41 : decode cX7_keeps 41 = .ok (.dup, 1) := dk_89 (dk_at dksX7_keeps_1 17 rfl rfl)
theorem dX7_keeps_42 : decode cX7_keeps 42 = .ok (.getfield 282, 3) := dk_180 1 26 (dk_at dksX7_keeps_1 18 rfl rfl)
theorem dX7_keeps_45 : decode cX7_keeps 45 = .ok (.iconst 1, 1) := dk_4 (dk_at dksX7_keeps_1 21 rfl rfl)
theorem dX7_keeps_46 : decode cX7_keeps 46 = .ok (.isub, 1) := dk_100 (dk_at dksX7_keeps_1 22 rfl rfl)
theorem dX7_keeps_47 : decode cX7_keeps 47 = .ok (.putfield 282, 3) := dk_181 1 26 (dk_at dksX7_keeps_2 0 rfl rfl)
theorem dX7_keeps_50 : decode cX7_keeps 50 = .ok (.iconst 0, 1) := dk_3 (dk_at dksX7_keeps_2 3 rfl rfl)
theorem dX7_keeps_51 : decode cX7_keeps 51 = .ok (.istore_n 1, 1) := dk_60 (dk_at dksX7_keeps_2 4 rfl rfl)
theorem dX7_keeps_52 : decode cX7_keeps 52 = .ok (.iload_n 1, 1) := dk_27 (dk_at dksX7_keeps_2 5 rfl rfl)
theorem dX7_keeps_53 : decode cX7_keeps 53 = .ok (.sipush 212, 3) := dk_17 0 212 (dk_at dksX7_keeps_2 6 rfl rfl)
theorem dX7_keeps_56 : decode cX7_keeps 56 = .ok (.if_icmp .ge 30, 3) := dk_162 0 30 (dk_at dksX7_keeps_2 9 rfl rfl)
theorem dX7_keeps_59 : decode cX7_keeps 59 = .ok (.aload_n 0, 1) := dk_42 (dk_at dksX7_keeps_2 12 rfl rfl)
theorem dX7_keeps_60 : decode cX7_keeps 60 = .ok (.getfield 19, 3) := dk_180 0 19 (dk_at dksX7_keeps_2 13 rfl rfl)
theorem dX7_keeps_63 : decode cX7_keeps 63 = .ok (.sipush 212, 3) := dk_17 0 212 (dk_at dksX7_keeps_2 16 rfl rfl)
theorem dX7_keeps_66 : decode cX7_keeps 66 = .ok (.aload_n 0, 1) := dk_42 (dk_at dksX7_keeps_2 19 rfl rfl)
theorem dX7_keeps_67 : decode cX7_keeps 67 = .ok (.getfield 282, 3) := dk_180 1 26 (dk_at dksX7_keeps_2 20 rfl rfl)
theorem dX7_keeps_70 : decode cX7_keeps 70 = .ok (.imul, 1) := dk_104 (dk_at dksX7_keeps_2 23 rfl rfl)
theorem dX7_keeps_71 : decode cX7_keeps 71 = .ok (.iload_n 1, 1) := dk_27 (dk_at dksX7_keeps_3 0 rfl rfl)
theorem dX7_keeps_72 : decode cX7_keeps 72 = .ok (.iadd, 1) := dk_96 (dk_at dksX7_keeps_3 1 rfl rfl)
theorem dX7_keeps_73 : decode cX7_keeps 73 = .ok (.aload_n 0, 1) := dk_42 (dk_at dksX7_keeps_3 2 rfl rfl)
theorem dX7_keeps_74 : decode cX7_keeps 74 = .ok (.getfield 7, 3) := dk_180 0 7 (dk_at dksX7_keeps_3 3 rfl rfl)
theorem dX7_keeps_77 : decode cX7_keeps 77 = .ok (.iload_n 1, 1) := dk_27 (dk_at dksX7_keeps_3 6 rfl rfl)
theorem dX7_keeps_78 : decode cX7_keeps 78 = .ok (.iaload, 1) := dk_46 (dk_at dksX7_keeps_3 7 rfl rfl)
theorem dX7_keeps_79 : decode cX7_keeps 79 = .ok (.iastore, 1) := dk_79 (dk_at dksX7_keeps_3 8 rfl rfl)
theorem dX7_keeps_80 : decode cX7_keeps 80 = .ok (.iinc 1 1, 3) := dk_132 1 1 (dk_at dksX7_keeps_3 9 rfl rfl)
theorem dX7_keeps_83 : decode cX7_keeps 83 = .ok (.goto (-31), 3) := dk_167 255 225 (dk_at dksX7_keeps_3 12 rfl rfl)
theorem dX7_keeps_86 : decode cX7_keeps 86 = .ok (.aload_n 0, 1) := dk_42 (dk_at dksX7_keeps_3 15 rfl rfl)
theorem dX7_keeps_87 : decode cX7_keeps 87 = .ok (.dup, 1) := dk_89 (dk_at dksX7_keeps_3 16 rfl rfl)
theorem dX7_keeps_88 : decode cX7_keeps 88 = .ok (.getfield 282, 3) := dk_180 1 26 (dk_at dksX7_keeps_3 17 rfl rfl)
theorem dX7_keeps_91 : decode cX7_keeps 91 = .ok (.iconst 1, 1) := dk_4 (dk_at dksX7_keeps_3 20 rfl rfl)
theorem dX7_keeps_92 : decode cX7_keeps 92 = .ok (.iadd, 1) := dk_96 (dk_at dksX7_keeps_3 21 rfl rfl)
theorem dX7_keeps_93 : decode cX7_keeps 93 = .ok (.putfield 282, 3) := dk_181 1 26 (dk_at dksX7_keeps_4 0 rfl rfl)
theorem dX7_keeps_96 : decode cX7_keeps 96 = .ok (.return_, 1) := dk_177 (dk_at dksX7_keeps_4 3 rfl rfl)
abbrev cX7_doesAll : ByteArray := prog_21_method_68_code
def yX7_doesAll : MethodName := ⟨RX7, "doesAll", "(II)Z"⟩
def dkwX7_doesAll_4 : List UInt8 := [180, 1, 80, 4, 96, 181, 1, 80, 132, 3, 1, 167, 255, 153, 4, 172]
abbrev dktX7_doesAll_4 : List UInt8 := dkwX7_doesAll_4 ++ []
def dkwX7_doesAll_3 : List UInt8 := [160, 0, 5, 3, 172, 42, 29, 182, 1, 83, 54, 4, 42, 180, 0, 85, 153, 0, 5, 3, 172, 42, 89]
abbrev dktX7_doesAll_3 : List UInt8 := dkwX7_doesAll_3 ++ dktX7_doesAll_4
def dkwX7_doesAll_2 : List UInt8 := [3, 172, 132, 4, 1, 167, 255, 224, 42, 180, 0, 45, 29, 46, 62, 167, 255, 196, 42, 180, 1, 80, 16, 40]
abbrev dktX7_doesAll_2 : List UInt8 := dkwX7_doesAll_2 ++ dktX7_doesAll_3
def dkwX7_doesAll_1 : List UInt8 := [180, 0, 42, 29, 46, 162, 0, 27, 42, 29, 4, 96, 42, 180, 0, 45, 29, 46, 182, 1, 77, 154, 0, 5]
abbrev dktX7_doesAll_1 : List UInt8 := dkwX7_doesAll_1 ++ dktX7_doesAll_2
def dkwX7_doesAll_0 : List UInt8 := [27, 62, 29, 28, 162, 0, 104, 42, 180, 0, 39, 29, 46, 8, 160, 0, 51, 3, 54, 4, 21, 4, 42]
abbrev dktX7_doesAll_0 : List UInt8 := dkwX7_doesAll_0 ++ dktX7_doesAll_1
theorem dksX7_doesAll_0 : cX7_doesAll.data.toList.drop 0 = dktX7_doesAll_0 := by decide +kernel
theorem dksX7_doesAll_1 : cX7_doesAll.data.toList.drop 23 = dktX7_doesAll_1 := dk_seg dksX7_doesAll_0 23 rfl rfl
theorem dksX7_doesAll_2 : cX7_doesAll.data.toList.drop 47 = dktX7_doesAll_2 := dk_seg dksX7_doesAll_1 24 rfl rfl
theorem dksX7_doesAll_3 : cX7_doesAll.data.toList.drop 71 = dktX7_doesAll_3 := dk_seg dksX7_doesAll_2 24 rfl rfl
theorem dksX7_doesAll_4 : cX7_doesAll.data.toList.drop 94 = dktX7_doesAll_4 := dk_seg dksX7_doesAll_3 23 rfl rfl
theorem dX7_doesAll_0 : decode cX7_doesAll 0 = .ok (.iload_n 1, 1) := dk_27 (dk_at dksX7_doesAll_0 0 rfl rfl)
theorem dX7_doesAll_1 : decode cX7_doesAll 1 = .ok (.istore_n 3, 1) := dk_62 (dk_at dksX7_doesAll_0 1 rfl rfl)
theorem dX7_doesAll_2 : decode cX7_doesAll 2 = .ok (.iload_n 3, 1) := dk_29 (dk_at dksX7_doesAll_0 2 rfl rfl)
theorem dX7_doesAll_3 : decode cX7_doesAll 3 = .ok (.iload_n 2, 1) := dk_28 (dk_at dksX7_doesAll_0 3 rfl rfl)
theorem dX7_doesAll_4 : decode cX7_doesAll 4 = .ok (.if_icmp .ge 104, 3) := dk_162 0 104 (dk_at dksX7_doesAll_0 4 rfl rfl)
theorem dX7_doesAll_7 : decode cX7_doesAll 7 = .ok (.aload_n 0, 1) := dk_42 (dk_at dksX7_doesAll_0 7 rfl rfl)
theorem dX7_doesAll_8 : decode cX7_doesAll 8 = .ok (.getfield 39, 3) := dk_180 0 39 (dk_at dksX7_doesAll_0 8 rfl rfl)
theorem dX7_doesAll_11 : decode cX7_doesAll 11 = .ok (.iload_n 3, 1) := dk_29 (dk_at dksX7_doesAll_0 11 rfl rfl)
theorem dX7_doesAll_12 : decode cX7_doesAll 12 = .ok (.iaload, 1) := dk_46 (dk_at dksX7_doesAll_0 12 rfl rfl)
theorem dX7_doesAll_13 : decode cX7_doesAll 13 = .ok (.iconst 5, 1) := dk_8 (dk_at dksX7_doesAll_0 13 rfl rfl)
theorem dX7_doesAll_14 : decode cX7_doesAll 14 = .ok (.if_icmp .ne 51, 3) := dk_160 0 51 (dk_at dksX7_doesAll_0 14 rfl rfl)
theorem dX7_doesAll_17 : decode cX7_doesAll 17 = .ok (.iconst 0, 1) := dk_3 (dk_at dksX7_doesAll_0 17 rfl rfl)
theorem dX7_doesAll_18 : decode cX7_doesAll 18 = .ok (.istore 4, 2) := dk_54 4 (dk_at dksX7_doesAll_0 18 rfl rfl)
theorem dX7_doesAll_20 : decode cX7_doesAll 20 = .ok (.iload 4, 2) := dk_21 4 (dk_at dksX7_doesAll_0 20 rfl rfl)
theorem dX7_doesAll_22 : decode cX7_doesAll 22 = .ok (.aload_n 0, 1) := dk_42 (dk_at dksX7_doesAll_0 22 rfl rfl)
theorem dX7_doesAll_23 : decode cX7_doesAll 23 = .ok (.getfield 42, 3) := dk_180 0 42 (dk_at dksX7_doesAll_1 0 rfl rfl)
theorem dX7_doesAll_26 : decode cX7_doesAll 26 = .ok (.iload_n 3, 1) := dk_29 (dk_at dksX7_doesAll_1 3 rfl rfl)
theorem dX7_doesAll_27 : decode cX7_doesAll 27 = .ok (.iaload, 1) := dk_46 (dk_at dksX7_doesAll_1 4 rfl rfl)
theorem dX7_doesAll_28 : decode cX7_doesAll 28 = .ok (.if_icmp .ge 27, 3) := dk_162 0 27 (dk_at dksX7_doesAll_1 5 rfl rfl)
theorem dX7_doesAll_31 : decode cX7_doesAll 31 = .ok (.aload_n 0, 1) := dk_42 (dk_at dksX7_doesAll_1 8 rfl rfl)
theorem dX7_doesAll_32 : decode cX7_doesAll 32 = .ok (.iload_n 3, 1) := dk_29 (dk_at dksX7_doesAll_1 9 rfl rfl)
theorem dX7_doesAll_33 : decode cX7_doesAll 33 = .ok (.iconst 1, 1) := dk_4 (dk_at dksX7_doesAll_1 10 rfl rfl)
theorem dX7_doesAll_34 : decode cX7_doesAll 34 = .ok (.iadd, 1) := dk_96 (dk_at dksX7_doesAll_1 11 rfl rfl)
theorem dX7_doesAll_35 : decode cX7_doesAll 35 = .ok (.aload_n 0, 1) := dk_42 (dk_at dksX7_doesAll_1 12 rfl rfl)
theorem dX7_doesAll_36 : decode cX7_doesAll 36 = .ok (.getfield 45, 3) := dk_180 0 45 (dk_at dksX7_doesAll_1 13 rfl rfl)
theorem dX7_doesAll_39 : decode cX7_doesAll 39 = .ok (.iload_n 3, 1) := dk_29 (dk_at dksX7_doesAll_1 16 rfl rfl)
theorem dX7_doesAll_40 : decode cX7_doesAll 40 = .ok (.iaload, 1) := dk_46 (dk_at dksX7_doesAll_1 17 rfl rfl)
theorem dX7_doesAll_41 : decode cX7_doesAll 41 = .ok (.invokevirtual 333, 3) := dk_182 1 77 (dk_at dksX7_doesAll_1 18 rfl rfl)
theorem dX7_doesAll_44 : decode cX7_doesAll 44 = .ok (.ifCond .ne 5, 3) := dk_154 0 5 (dk_at dksX7_doesAll_1 21 rfl rfl)
theorem dX7_doesAll_47 : decode cX7_doesAll 47 = .ok (.iconst 0, 1) := dk_3 (dk_at dksX7_doesAll_2 0 rfl rfl)
theorem dX7_doesAll_48 : decode cX7_doesAll 48 = .ok (.ireturn, 1) := dk_172 (dk_at dksX7_doesAll_2 1 rfl rfl)
theorem dX7_doesAll_49 : decode cX7_doesAll 49 = .ok (.iinc 4 1, 3) := dk_132 4 1 (dk_at dksX7_doesAll_2 2 rfl rfl)
theorem dX7_doesAll_52 : decode cX7_doesAll 52 = .ok (.goto (-32), 3) := dk_167 255 224 (dk_at dksX7_doesAll_2 5 rfl rfl)
theorem dX7_doesAll_55 : decode cX7_doesAll 55 = .ok (.aload_n 0, 1) := dk_42 (dk_at dksX7_doesAll_2 8 rfl rfl)
theorem dX7_doesAll_56 : decode cX7_doesAll 56 = .ok (.getfield 45, 3) := dk_180 0 45 (dk_at dksX7_doesAll_2 9 rfl rfl)
theorem dX7_doesAll_59 : decode cX7_doesAll 59 = .ok (.iload_n 3, 1) := dk_29 (dk_at dksX7_doesAll_2 12 rfl rfl)
theorem dX7_doesAll_60 : decode cX7_doesAll 60 = .ok (.iaload, 1) := dk_46 (dk_at dksX7_doesAll_2 13 rfl rfl)
theorem dX7_doesAll_61 : decode cX7_doesAll 61 = .ok (.istore_n 3, 1) := dk_62 (dk_at dksX7_doesAll_2 14 rfl rfl)
theorem dX7_doesAll_62 : decode cX7_doesAll 62 = .ok (.goto (-60), 3) := dk_167 255 196 (dk_at dksX7_doesAll_2 15 rfl rfl)
theorem dX7_doesAll_65 : decode cX7_doesAll 65 = .ok (.aload_n 0, 1) := dk_42 (dk_at dksX7_doesAll_2 18 rfl rfl)
theorem dX7_doesAll_66 : decode cX7_doesAll 66 = .ok (.getfield 336, 3) := dk_180 1 80 (dk_at dksX7_doesAll_2 19 rfl rfl)
theorem dX7_doesAll_69 : decode cX7_doesAll 69 = .ok (.bipush 40, 2) := dk_16 40 (dk_at dksX7_doesAll_2 22 rfl rfl)
theorem dX7_doesAll_71 : decode cX7_doesAll 71 = .ok (.if_icmp .ne 5, 3) := dk_160 0 5 (dk_at dksX7_doesAll_3 0 rfl rfl)
theorem dX7_doesAll_74 : decode cX7_doesAll 74 = .ok (.iconst 0, 1) := dk_3 (dk_at dksX7_doesAll_3 3 rfl rfl)
theorem dX7_doesAll_75 : decode cX7_doesAll 75 = .ok (.ireturn, 1) := dk_172 (dk_at dksX7_doesAll_3 4 rfl rfl)
theorem dX7_doesAll_76 : decode cX7_doesAll 76 = .ok (.aload_n 0, 1) := dk_42 (dk_at dksX7_doesAll_3 5 rfl rfl)
theorem dX7_doesAll_77 : decode cX7_doesAll 77 = .ok (.iload_n 3, 1) := dk_29 (dk_at dksX7_doesAll_3 6 rfl rfl)
theorem dX7_doesAll_78 : decode cX7_doesAll 78 = .ok (.invokevirtual 339, 3) := dk_182 1 83 (dk_at dksX7_doesAll_3 7 rfl rfl)
theorem dX7_doesAll_81 : decode cX7_doesAll 81 = .ok (.istore 4, 2) := dk_54 4 (dk_at dksX7_doesAll_3 10 rfl rfl)
theorem dX7_doesAll_83 : decode cX7_doesAll 83 = .ok (.aload_n 0, 1) := dk_42 (dk_at dksX7_doesAll_3 12 rfl rfl)
theorem dX7_doesAll_84 : decode cX7_doesAll 84 = .ok (.getfield 85, 3) := dk_180 0 85 (dk_at dksX7_doesAll_3 13 rfl rfl)
theorem dX7_doesAll_87 : decode cX7_doesAll 87 = .ok (.ifCond .eq 5, 3) := dk_153 0 5 (dk_at dksX7_doesAll_3 16 rfl rfl)
theorem dX7_doesAll_90 : decode cX7_doesAll 90 = .ok (.iconst 0, 1) := dk_3 (dk_at dksX7_doesAll_3 19 rfl rfl)
theorem dX7_doesAll_91 : decode cX7_doesAll 91 = .ok (.ireturn, 1) := dk_172 (dk_at dksX7_doesAll_3 20 rfl rfl)
theorem dX7_doesAll_92 : decode cX7_doesAll 92 = .ok (.aload_n 0, 1) := dk_42 (dk_at dksX7_doesAll_3 21 rfl rfl)
theorem dX7_doesAll_93 : decode cX7_doesAll 93 = .ok (.dup, 1) := dk_89 (dk_at dksX7_doesAll_3 22 rfl rfl)
theorem dX7_doesAll_94 : decode cX7_doesAll 94 = .ok (.getfield 336, 3) := dk_180 1 80 (dk_at dksX7_doesAll_4 0 rfl rfl)
theorem dX7_doesAll_97 : decode cX7_doesAll 97 = .ok (.iconst 1, 1) := dk_4 (dk_at dksX7_doesAll_4 3 rfl rfl)
theorem dX7_doesAll_98 : decode cX7_doesAll 98 = .ok (.iadd, 1) := dk_96 (dk_at dksX7_doesAll_4 4 rfl rfl)
theorem dX7_doesAll_99 : decode cX7_doesAll 99 = .ok (.putfield 336, 3) := dk_181 1 80 (dk_at dksX7_doesAll_4 5 rfl rfl)
theorem dX7_doesAll_102 : decode cX7_doesAll 102 = .ok (.iinc 3 1, 3) := dk_132 3 1 (dk_at dksX7_doesAll_4 8 rfl rfl)
theorem dX7_doesAll_105 : decode cX7_doesAll 105 = .ok (.goto (-103), 3) := dk_167 255 153 (dk_at dksX7_doesAll_4 11 rfl rfl)
theorem dX7_doesAll_108 : decode cX7_doesAll 108 = .ok (.iconst 1, 1) := dk_4 (dk_at dksX7_doesAll_4 14 rfl rfl)
theorem dX7_doesAll_109 : decode cX7_doesAll 109 = .ok (.ireturn, 1) := dk_172 (dk_at dksX7_doesAll_4 15 rfl rfl)
abbrev cX7_does : ByteArray := prog_21_method_67_code
def yX7_does : MethodName := ⟨RX7, "does", "(I)I"⟩
def dkwX7_does_4 : List UInt8 := [16, 9, 182, 1, 74, 172]
abbrev dktX7_does_4 : List UInt8 := dkwX7_does_4 ++ []
def dkwX7_does_3 : List UInt8 := [42, 28, 182, 1, 68, 172, 42, 28, 182, 1, 71, 172, 42, 7, 28, 6, 182, 1, 74, 172, 42, 4, 28]
abbrev dktX7_does_3 : List UInt8 := dkwX7_does_3 ++ dktX7_does_4
def dkwX7_does_2 : List UInt8 := [42, 28, 42, 180, 0, 45, 27, 46, 42, 180, 0, 48, 27, 46, 42, 180, 0, 51, 27, 46, 182, 1, 64, 172]
abbrev dktX7_does_2 : List UInt8 := dkwX7_does_2 ++ dktX7_does_3
def dkwX7_does_1 : List UInt8 := [170, 0, 0, 0, 0, 74, 0, 0, 0, 0, 0, 0, 0, 3, 0, 0, 0, 30, 0, 0, 0, 54, 0, 0, 0, 60, 0, 0, 0, 66]
abbrev dktX7_does_1 : List UInt8 := dkwX7_does_1 ++ dktX7_does_2
def dkwX7_does_0 : List UInt8 := [42, 3, 181, 0, 85, 42, 180, 0, 42, 27, 46, 61, 42, 180, 0, 39, 27, 46]
abbrev dktX7_does_0 : List UInt8 := dkwX7_does_0 ++ dktX7_does_1
theorem dksX7_does_0 : cX7_does.data.toList.drop 0 = dktX7_does_0 := by decide +kernel
theorem dksX7_does_1 : cX7_does.data.toList.drop 18 = dktX7_does_1 := dk_seg dksX7_does_0 18 rfl rfl
theorem dksX7_does_2 : cX7_does.data.toList.drop 48 = dktX7_does_2 := dk_seg dksX7_does_1 30 rfl rfl
theorem dksX7_does_3 : cX7_does.data.toList.drop 72 = dktX7_does_3 := dk_seg dksX7_does_2 24 rfl rfl
theorem dksX7_does_4 : cX7_does.data.toList.drop 95 = dktX7_does_4 := dk_seg dksX7_does_3 23 rfl rfl
theorem dX7_does_0 : decode cX7_does 0 = .ok (.aload_n 0, 1) := dk_42 (dk_at dksX7_does_0 0 rfl rfl)
theorem dX7_does_1 : decode cX7_does 1 = .ok (.iconst 0, 1) := dk_3 (dk_at dksX7_does_0 1 rfl rfl)
theorem dX7_does_2 : decode cX7_does 2 = .ok (.putfield 85, 3) := dk_181 0 85 (dk_at dksX7_does_0 2 rfl rfl)
theorem dX7_does_5 : decode cX7_does 5 = .ok (.aload_n 0, 1) := dk_42 (dk_at dksX7_does_0 5 rfl rfl)
theorem dX7_does_6 : decode cX7_does 6 = .ok (.getfield 42, 3) := dk_180 0 42 (dk_at dksX7_does_0 6 rfl rfl)
theorem dX7_does_9 : decode cX7_does 9 = .ok (.iload_n 1, 1) := dk_27 (dk_at dksX7_does_0 9 rfl rfl)
theorem dX7_does_10 : decode cX7_does 10 = .ok (.iaload, 1) := dk_46 (dk_at dksX7_does_0 10 rfl rfl)
theorem dX7_does_11 : decode cX7_does 11 = .ok (.istore_n 2, 1) := dk_61 (dk_at dksX7_does_0 11 rfl rfl)
theorem dX7_does_12 : decode cX7_does 12 = .ok (.aload_n 0, 1) := dk_42 (dk_at dksX7_does_0 12 rfl rfl)
theorem dX7_does_13 : decode cX7_does 13 = .ok (.getfield 39, 3) := dk_180 0 39 (dk_at dksX7_does_0 13 rfl rfl)
theorem dX7_does_16 : decode cX7_does 16 = .ok (.iload_n 1, 1) := dk_27 (dk_at dksX7_does_0 16 rfl rfl)
theorem dX7_does_17 : decode cX7_does 17 = .ok (.iaload, 1) := dk_46 (dk_at dksX7_does_0 17 rfl rfl)
theorem dX7_does_18 : decode cX7_does 18 = .ok (.tableswitch 74 0 3 #[30, 54, 60, 66], 30) := by decide +kernel
theorem dX7_does_48 : decode cX7_does 48 = .ok (.aload_n 0, 1) := dk_42 (dk_at dksX7_does_2 0 rfl rfl)
theorem dX7_does_49 : decode cX7_does 49 = .ok (.iload_n 2, 1) := dk_28 (dk_at dksX7_does_2 1 rfl rfl)
theorem dX7_does_50 : decode cX7_does 50 = .ok (.aload_n 0, 1) := dk_42 (dk_at dksX7_does_2 2 rfl rfl)
theorem dX7_does_51 : decode cX7_does 51 = .ok (.getfield 45, 3) := dk_180 0 45 (dk_at dksX7_does_2 3 rfl rfl)
theorem dX7_does_54 : decode cX7_does 54 = .ok (.iload_n 1, 1) := dk_27 (dk_at dksX7_does_2 6 rfl rfl)
theorem dX7_does_55 : decode cX7_does 55 = .ok (.iaload, 1) := dk_46 (dk_at dksX7_does_2 7 rfl rfl)
theorem dX7_does_56 : decode cX7_does 56 = .ok (.aload_n 0, 1) := dk_42 (dk_at dksX7_does_2 8 rfl rfl)
theorem dX7_does_57 : decode cX7_does 57 = .ok (.getfield 48, 3) := dk_180 0 48 (dk_at dksX7_does_2 9 rfl rfl)
theorem dX7_does_60 : decode cX7_does 60 = .ok (.iload_n 1, 1) := dk_27 (dk_at dksX7_does_2 12 rfl rfl)
theorem dX7_does_61 : decode cX7_does 61 = .ok (.iaload, 1) := dk_46 (dk_at dksX7_does_2 13 rfl rfl)
theorem dX7_does_62 : decode cX7_does 62 = .ok (.aload_n 0, 1) := dk_42 (dk_at dksX7_does_2 14 rfl rfl)
theorem dX7_does_63 : decode cX7_does 63 = .ok (.getfield 51, 3) := dk_180 0 51 (dk_at dksX7_does_2 15 rfl rfl)
theorem dX7_does_66 : decode cX7_does 66 = .ok (.iload_n 1, 1) := dk_27 (dk_at dksX7_does_2 18 rfl rfl)
theorem dX7_does_67 : decode cX7_does 67 = .ok (.iaload, 1) := dk_46 (dk_at dksX7_does_2 19 rfl rfl)
theorem dX7_does_68 : decode cX7_does 68 = .ok (.invokevirtual 320, 3) := dk_182 1 64 (dk_at dksX7_does_2 20 rfl rfl)
theorem dX7_does_71 : decode cX7_does 71 = .ok (.ireturn, 1) := dk_172 (dk_at dksX7_does_2 23 rfl rfl)
theorem dX7_does_72 : decode cX7_does 72 = .ok (.aload_n 0, 1) := dk_42 (dk_at dksX7_does_3 0 rfl rfl)
theorem dX7_does_73 : decode cX7_does 73 = .ok (.iload_n 2, 1) := dk_28 (dk_at dksX7_does_3 1 rfl rfl)
theorem dX7_does_74 : decode cX7_does 74 = .ok (.invokevirtual 324, 3) := dk_182 1 68 (dk_at dksX7_does_3 2 rfl rfl)
theorem dX7_does_77 : decode cX7_does 77 = .ok (.ireturn, 1) := dk_172 (dk_at dksX7_does_3 5 rfl rfl)
theorem dX7_does_78 : decode cX7_does 78 = .ok (.aload_n 0, 1) := dk_42 (dk_at dksX7_does_3 6 rfl rfl)
theorem dX7_does_79 : decode cX7_does 79 = .ok (.iload_n 2, 1) := dk_28 (dk_at dksX7_does_3 7 rfl rfl)
theorem dX7_does_80 : decode cX7_does 80 = .ok (.invokevirtual 327, 3) := dk_182 1 71 (dk_at dksX7_does_3 8 rfl rfl)
theorem dX7_does_83 : decode cX7_does 83 = .ok (.ireturn, 1) := dk_172 (dk_at dksX7_does_3 11 rfl rfl)
theorem dX7_does_84 : decode cX7_does 84 = .ok (.aload_n 0, 1) := dk_42 (dk_at dksX7_does_3 12 rfl rfl)
theorem dX7_does_85 : decode cX7_does 85 = .ok (.iconst 4, 1) := dk_7 (dk_at dksX7_does_3 13 rfl rfl)
theorem dX7_does_86 : decode cX7_does 86 = .ok (.iload_n 2, 1) := dk_28 (dk_at dksX7_does_3 14 rfl rfl)
theorem dX7_does_87 : decode cX7_does 87 = .ok (.iconst 3, 1) := dk_6 (dk_at dksX7_does_3 15 rfl rfl)
theorem dX7_does_88 : decode cX7_does 88 = .ok (.invokevirtual 330, 3) := dk_182 1 74 (dk_at dksX7_does_3 16 rfl rfl)
theorem dX7_does_91 : decode cX7_does 91 = .ok (.ireturn, 1) := dk_172 (dk_at dksX7_does_3 19 rfl rfl)
theorem dX7_does_92 : decode cX7_does 92 = .ok (.aload_n 0, 1) := dk_42 (dk_at dksX7_does_3 20 rfl rfl)
theorem dX7_does_93 : decode cX7_does 93 = .ok (.iconst 1, 1) := dk_4 (dk_at dksX7_does_3 21 rfl rfl)
theorem dX7_does_94 : decode cX7_does 94 = .ok (.iload_n 2, 1) := dk_28 (dk_at dksX7_does_3 22 rfl rfl)
theorem dX7_does_95 : decode cX7_does 95 = .ok (.bipush 9, 2) := dk_16 9 (dk_at dksX7_does_4 0 rfl rfl)
theorem dX7_does_97 : decode cX7_does 97 = .ok (.invokevirtual 330, 3) := dk_182 1 74 (dk_at dksX7_does_4 2 rfl rfl)
theorem dX7_does_100 : decode cX7_does 100 = .ok (.ireturn, 1) := dk_172 (dk_at dksX7_does_4 5 rfl rfl)
abbrev cX7_signing : ByteArray := prog_21_method_114_code
def yX7_signing : MethodName := ⟨RX7, "signing", "(IIII)I"⟩
def dkwX7_signing_4 : List UInt8 := [182, 0, 164, 42, 27, 7, 21, 4, 182, 0, 164, 42, 27, 28, 29, 182, 0, 118, 172]
abbrev dktX7_signing_4 : List UInt8 := dkwX7_signing_4 ++ []
def dkwX7_signing_3 : List UInt8 := [182, 0, 176, 154, 0, 5, 3, 172, 42, 182, 1, 126, 42, 27, 5, 28, 182, 0, 164, 42, 27, 6, 29]
abbrev dktX7_signing_3 : List UInt8 := dkwX7_signing_3 ++ dktX7_signing_4
def dkwX7_signing_2 : List UInt8 := [5, 182, 0, 176, 153, 0, 24, 42, 42, 27, 182, 0, 111, 154, 0, 7, 4, 167, 0, 4, 3, 6]
abbrev dktX7_signing_2 : List UInt8 := dkwX7_signing_2 ++ dktX7_signing_3
def dkwX7_signing_1 : List UInt8 := [153, 0, 7, 4, 167, 0, 4, 3, 4, 182, 0, 176, 153, 0, 40, 42, 21, 4, 4, 16, 30, 184, 0, 88]
abbrev dktX7_signing_1 : List UInt8 := dkwX7_signing_1 ++ dktX7_signing_2
def dkwX7_signing_0 : List UInt8 := [42, 42, 27, 182, 1, 108, 153, 0, 23, 42, 28, 182, 1, 96, 153, 0, 15, 42, 29, 182, 1, 102]
abbrev dktX7_signing_0 : List UInt8 := dkwX7_signing_0 ++ dktX7_signing_1
theorem dksX7_signing_0 : cX7_signing.data.toList.drop 0 = dktX7_signing_0 := by decide +kernel
theorem dksX7_signing_1 : cX7_signing.data.toList.drop 22 = dktX7_signing_1 := dk_seg dksX7_signing_0 22 rfl rfl
theorem dksX7_signing_2 : cX7_signing.data.toList.drop 46 = dktX7_signing_2 := dk_seg dksX7_signing_1 24 rfl rfl
theorem dksX7_signing_3 : cX7_signing.data.toList.drop 68 = dktX7_signing_3 := dk_seg dksX7_signing_2 22 rfl rfl
theorem dksX7_signing_4 : cX7_signing.data.toList.drop 91 = dktX7_signing_4 := dk_seg dksX7_signing_3 23 rfl rfl
theorem dX7_signing_0 : decode cX7_signing 0 = .ok (.aload_n 0, 1) := dk_42 (dk_at dksX7_signing_0 0 rfl rfl)
theorem dX7_signing_1 : decode cX7_signing 1 = .ok (.aload_n 0, 1) := dk_42 (dk_at dksX7_signing_0 1 rfl rfl)
theorem dX7_signing_2 : decode cX7_signing 2 = .ok (.iload_n 1, 1) := dk_27 (dk_at dksX7_signing_0 2 rfl rfl)
theorem dX7_signing_3 : decode cX7_signing 3 = .ok (.invokevirtual 364, 3) := dk_182 1 108 (dk_at dksX7_signing_0 3 rfl rfl)
theorem dX7_signing_6 : decode cX7_signing 6 = .ok (.ifCond .eq 23, 3) := dk_153 0 23 (dk_at dksX7_signing_0 6 rfl rfl)
theorem dX7_signing_9 : decode cX7_signing 9 = .ok (.aload_n 0, 1) := dk_42 (dk_at dksX7_signing_0 9 rfl rfl)
theorem dX7_signing_10 : decode cX7_signing 10 = .ok (.iload_n 2, 1) := dk_28 (dk_at dksX7_signing_0 10 rfl rfl)
theorem dX7_signing_11 : decode cX7_signing 11 = .ok (.invokevirtual 352, 3) := dk_182 1 96 (dk_at dksX7_signing_0 11 rfl rfl)
theorem dX7_signing_14 : decode cX7_signing 14 = .ok (.ifCond .eq 15, 3) := dk_153 0 15 (dk_at dksX7_signing_0 14 rfl rfl)
theorem dX7_signing_17 : decode cX7_signing 17 = .ok (.aload_n 0, 1) := dk_42 (dk_at dksX7_signing_0 17 rfl rfl)
theorem dX7_signing_18 : decode cX7_signing 18 = .ok (.iload_n 3, 1) := dk_29 (dk_at dksX7_signing_0 18 rfl rfl)
theorem dX7_signing_19 : decode cX7_signing 19 = .ok (.invokevirtual 358, 3) := dk_182 1 102 (dk_at dksX7_signing_0 19 rfl rfl)
theorem dX7_signing_22 : decode cX7_signing 22 = .ok (.ifCond .eq 7, 3) := dk_153 0 7 (dk_at dksX7_signing_1 0 rfl rfl)
theorem dX7_signing_25 : decode cX7_signing 25 = .ok (.iconst 1, 1) := dk_4 (dk_at dksX7_signing_1 3 rfl rfl)
theorem dX7_signing_26 : decode cX7_signing 26 = .ok (.goto 4, 3) := dk_167 0 4 (dk_at dksX7_signing_1 4 rfl rfl)
theorem dX7_signing_29 : decode cX7_signing 29 = .ok (.iconst 0, 1) := dk_3 (dk_at dksX7_signing_1 7 rfl rfl)
theorem dX7_signing_30 : decode cX7_signing 30 = .ok (.iconst 1, 1) := dk_4 (dk_at dksX7_signing_1 8 rfl rfl)
theorem dX7_signing_31 : decode cX7_signing 31 = .ok (.invokevirtual 176, 3) := dk_182 0 176 (dk_at dksX7_signing_1 9 rfl rfl)
theorem dX7_signing_34 : decode cX7_signing 34 = .ok (.ifCond .eq 40, 3) := dk_153 0 40 (dk_at dksX7_signing_1 12 rfl rfl)
theorem dX7_signing_37 : decode cX7_signing 37 = .ok (.aload_n 0, 1) := dk_42 (dk_at dksX7_signing_1 15 rfl rfl)
theorem dX7_signing_38 : decode cX7_signing 38 = .ok (.iload 4, 2) := dk_21 4 (dk_at dksX7_signing_1 16 rfl rfl)
theorem dX7_signing_40 : decode cX7_signing 40 = .ok (.iconst 1, 1) := dk_4 (dk_at dksX7_signing_1 18 rfl rfl)
theorem dX7_signing_41 : decode cX7_signing 41 = .ok (.bipush 30, 2) := dk_16 30 (dk_at dksX7_signing_1 19 rfl rfl)
theorem dX7_signing_43 : decode cX7_signing 43 = .ok (.invokestatic 88, 3) := dk_184 0 88 (dk_at dksX7_signing_1 21 rfl rfl)
theorem dX7_signing_46 : decode cX7_signing 46 = .ok (.iconst 2, 1) := dk_5 (dk_at dksX7_signing_2 0 rfl rfl)
theorem dX7_signing_47 : decode cX7_signing 47 = .ok (.invokevirtual 176, 3) := dk_182 0 176 (dk_at dksX7_signing_2 1 rfl rfl)
theorem dX7_signing_50 : decode cX7_signing 50 = .ok (.ifCond .eq 24, 3) := dk_153 0 24 (dk_at dksX7_signing_2 4 rfl rfl)
theorem dX7_signing_53 : decode cX7_signing 53 = .ok (.aload_n 0, 1) := dk_42 (dk_at dksX7_signing_2 7 rfl rfl)
theorem dX7_signing_54 : decode cX7_signing 54 = .ok (.aload_n 0, 1) := dk_42 (dk_at dksX7_signing_2 8 rfl rfl)
theorem dX7_signing_55 : decode cX7_signing 55 = .ok (.iload_n 1, 1) := dk_27 (dk_at dksX7_signing_2 9 rfl rfl)
theorem dX7_signing_56 : decode cX7_signing 56 = .ok (.invokevirtual 111, 3) := dk_182 0 111 (dk_at dksX7_signing_2 10 rfl rfl)
theorem dX7_signing_59 : decode cX7_signing 59 = .ok (.ifCond .ne 7, 3) := dk_154 0 7 (dk_at dksX7_signing_2 13 rfl rfl)
theorem dX7_signing_62 : decode cX7_signing 62 = .ok (.iconst 1, 1) := dk_4 (dk_at dksX7_signing_2 16 rfl rfl)
theorem dX7_signing_63 : decode cX7_signing 63 = .ok (.goto 4, 3) := dk_167 0 4 (dk_at dksX7_signing_2 17 rfl rfl)
theorem dX7_signing_66 : decode cX7_signing 66 = .ok (.iconst 0, 1) := dk_3 (dk_at dksX7_signing_2 20 rfl rfl)
theorem dX7_signing_67 : decode cX7_signing 67 = .ok (.iconst 3, 1) := dk_6 (dk_at dksX7_signing_2 21 rfl rfl)
theorem dX7_signing_68 : decode cX7_signing 68 = .ok (.invokevirtual 176, 3) := dk_182 0 176 (dk_at dksX7_signing_3 0 rfl rfl)
theorem dX7_signing_71 : decode cX7_signing 71 = .ok (.ifCond .ne 5, 3) := dk_154 0 5 (dk_at dksX7_signing_3 3 rfl rfl)
theorem dX7_signing_74 : decode cX7_signing 74 = .ok (.iconst 0, 1) := dk_3 (dk_at dksX7_signing_3 6 rfl rfl)
theorem dX7_signing_75 : decode cX7_signing 75 = .ok (.ireturn, 1) := dk_172 (dk_at dksX7_signing_3 7 rfl rfl)
theorem dX7_signing_76 : decode cX7_signing 76 = .ok (.aload_n 0, 1) := dk_42 (dk_at dksX7_signing_3 8 rfl rfl)
theorem dX7_signing_77 : decode cX7_signing 77 = .ok (.invokevirtual 382, 3) := dk_182 1 126 (dk_at dksX7_signing_3 9 rfl rfl)
theorem dX7_signing_80 : decode cX7_signing 80 = .ok (.aload_n 0, 1) := dk_42 (dk_at dksX7_signing_3 12 rfl rfl)
theorem dX7_signing_81 : decode cX7_signing 81 = .ok (.iload_n 1, 1) := dk_27 (dk_at dksX7_signing_3 13 rfl rfl)
theorem dX7_signing_82 : decode cX7_signing 82 = .ok (.iconst 2, 1) := dk_5 (dk_at dksX7_signing_3 14 rfl rfl)
theorem dX7_signing_83 : decode cX7_signing 83 = .ok (.iload_n 2, 1) := dk_28 (dk_at dksX7_signing_3 15 rfl rfl)
theorem dX7_signing_84 : decode cX7_signing 84 = .ok (.invokevirtual 164, 3) := dk_182 0 164 (dk_at dksX7_signing_3 16 rfl rfl)
theorem dX7_signing_87 : decode cX7_signing 87 = .ok (.aload_n 0, 1) := dk_42 (dk_at dksX7_signing_3 19 rfl rfl)
theorem dX7_signing_88 : decode cX7_signing 88 = .ok (.iload_n 1, 1) := dk_27 (dk_at dksX7_signing_3 20 rfl rfl)
theorem dX7_signing_89 : decode cX7_signing 89 = .ok (.iconst 3, 1) := dk_6 (dk_at dksX7_signing_3 21 rfl rfl)
theorem dX7_signing_90 : decode cX7_signing 90 = .ok (.iload_n 3, 1) := dk_29 (dk_at dksX7_signing_3 22 rfl rfl)
theorem dX7_signing_91 : decode cX7_signing 91 = .ok (.invokevirtual 164, 3) := dk_182 0 164 (dk_at dksX7_signing_4 0 rfl rfl)
theorem dX7_signing_94 : decode cX7_signing 94 = .ok (.aload_n 0, 1) := dk_42 (dk_at dksX7_signing_4 3 rfl rfl)
theorem dX7_signing_95 : decode cX7_signing 95 = .ok (.iload_n 1, 1) := dk_27 (dk_at dksX7_signing_4 4 rfl rfl)
theorem dX7_signing_96 : decode cX7_signing 96 = .ok (.iconst 4, 1) := dk_7 (dk_at dksX7_signing_4 5 rfl rfl)
theorem dX7_signing_97 : decode cX7_signing 97 = .ok (.iload 4, 2) := dk_21 4 (dk_at dksX7_signing_4 6 rfl rfl)
theorem dX7_signing_99 : decode cX7_signing 99 = .ok (.invokevirtual 164, 3) := dk_182 0 164 (dk_at dksX7_signing_4 8 rfl rfl)
theorem dX7_signing_102 : decode cX7_signing 102 = .ok (.aload_n 0, 1) := dk_42 (dk_at dksX7_signing_4 11 rfl rfl)
theorem dX7_signing_103 : decode cX7_signing 103 = .ok (.iload_n 1, 1) := dk_27 (dk_at dksX7_signing_4 12 rfl rfl)
theorem dX7_signing_104 : decode cX7_signing 104 = .ok (.iload_n 2, 1) := dk_28 (dk_at dksX7_signing_4 13 rfl rfl)
theorem dX7_signing_105 : decode cX7_signing 105 = .ok (.iload_n 3, 1) := dk_29 (dk_at dksX7_signing_4 14 rfl rfl)
theorem dX7_signing_106 : decode cX7_signing 106 = .ok (.invokevirtual 118, 3) := dk_182 0 118 (dk_at dksX7_signing_4 15 rfl rfl)
theorem dX7_signing_109 : decode cX7_signing 109 = .ok (.ireturn, 1) := dk_172 (dk_at dksX7_signing_4 18 rfl rfl)
abbrev cX7_isCart : ByteArray := prog_21_method_14_code
def yX7_isCart : MethodName := ⟨RX7, "isCart", "(I)Z"⟩
def dkwX7_isCart_0 : List UInt8 := [27, 3, 42, 180, 0, 7, 16, 8, 46, 4, 100, 184, 0, 88, 172]
abbrev dktX7_isCart_0 : List UInt8 := dkwX7_isCart_0 ++ []
theorem dksX7_isCart_0 : cX7_isCart.data.toList.drop 0 = dktX7_isCart_0 := by decide +kernel
theorem dX7_isCart_0 : decode cX7_isCart 0 = .ok (.iload_n 1, 1) := dk_27 (dk_at dksX7_isCart_0 0 rfl rfl)
theorem dX7_isCart_1 : decode cX7_isCart 1 = .ok (.iconst 0, 1) := dk_3 (dk_at dksX7_isCart_0 1 rfl rfl)
theorem dX7_isCart_2 : decode cX7_isCart 2 = .ok (.aload_n 0, 1) := dk_42 (dk_at dksX7_isCart_0 2 rfl rfl)
theorem dX7_isCart_3 : decode cX7_isCart 3 = .ok (.getfield 7, 3) := dk_180 0 7 (dk_at dksX7_isCart_0 3 rfl rfl)
theorem dX7_isCart_6 : decode cX7_isCart 6 = .ok (.bipush 8, 2) := dk_16 8 (dk_at dksX7_isCart_0 6 rfl rfl)
theorem dX7_isCart_8 : decode cX7_isCart 8 = .ok (.iaload, 1) := dk_46 (dk_at dksX7_isCart_0 8 rfl rfl)
theorem dX7_isCart_9 : decode cX7_isCart 9 = .ok (.iconst 1, 1) := dk_4 (dk_at dksX7_isCart_0 9 rfl rfl)
theorem dX7_isCart_10 : decode cX7_isCart 10 = .ok (.isub, 1) := dk_100 (dk_at dksX7_isCart_0 10 rfl rfl)
theorem dX7_isCart_11 : decode cX7_isCart 11 = .ok (.invokestatic 88, 3) := dk_184 0 88 (dk_at dksX7_isCart_0 11 rfl rfl)
theorem dX7_isCart_14 : decode cX7_isCart 14 = .ok (.ireturn, 1) := dk_172 (dk_at dksX7_isCart_0 14 rfl rfl)
abbrev cX7_isStreet : ByteArray := prog_21_method_12_code
def yX7_isStreet : MethodName := ⟨RX7, "isStreet", "(I)Z"⟩
def dkwX7_isStreet_0 : List UInt8 := [27, 3, 42, 180, 0, 7, 16, 6, 46, 4, 100, 184, 0, 88, 172]
abbrev dktX7_isStreet_0 : List UInt8 := dkwX7_isStreet_0 ++ []
theorem dksX7_isStreet_0 : cX7_isStreet.data.toList.drop 0 = dktX7_isStreet_0 := by decide +kernel
theorem dX7_isStreet_0 : decode cX7_isStreet 0 = .ok (.iload_n 1, 1) := dk_27 (dk_at dksX7_isStreet_0 0 rfl rfl)
theorem dX7_isStreet_1 : decode cX7_isStreet 1 = .ok (.iconst 0, 1) := dk_3 (dk_at dksX7_isStreet_0 1 rfl rfl)
theorem dX7_isStreet_2 : decode cX7_isStreet 2 = .ok (.aload_n 0, 1) := dk_42 (dk_at dksX7_isStreet_0 2 rfl rfl)
theorem dX7_isStreet_3 : decode cX7_isStreet 3 = .ok (.getfield 7, 3) := dk_180 0 7 (dk_at dksX7_isStreet_0 3 rfl rfl)
theorem dX7_isStreet_6 : decode cX7_isStreet 6 = .ok (.bipush 6, 2) := dk_16 6 (dk_at dksX7_isStreet_0 6 rfl rfl)
theorem dX7_isStreet_8 : decode cX7_isStreet 8 = .ok (.iaload, 1) := dk_46 (dk_at dksX7_isStreet_0 8 rfl rfl)
theorem dX7_isStreet_9 : decode cX7_isStreet 9 = .ok (.iconst 1, 1) := dk_4 (dk_at dksX7_isStreet_0 9 rfl rfl)
theorem dX7_isStreet_10 : decode cX7_isStreet 10 = .ok (.isub, 1) := dk_100 (dk_at dksX7_isStreet_0 10 rfl rfl)
theorem dX7_isStreet_11 : decode cX7_isStreet 11 = .ok (.invokestatic 88, 3) := dk_184 0 88 (dk_at dksX7_isStreet_0 11 rfl rfl)
theorem dX7_isStreet_14 : decode cX7_isStreet 14 = .ok (.ireturn, 1) := dk_172 (dk_at dksX7_isStreet_0 14 rfl rfl)
abbrev cX7_isGarden : ByteArray := prog_21_method_13_code
def yX7_isGarden : MethodName := ⟨RX7, "isGarden", "(I)Z"⟩
def dkwX7_isGarden_0 : List UInt8 := [27, 3, 42, 180, 0, 7, 16, 7, 46, 4, 100, 184, 0, 88, 172]
abbrev dktX7_isGarden_0 : List UInt8 := dkwX7_isGarden_0 ++ []
theorem dksX7_isGarden_0 : cX7_isGarden.data.toList.drop 0 = dktX7_isGarden_0 := by decide +kernel
theorem dX7_isGarden_0 : decode cX7_isGarden 0 = .ok (.iload_n 1, 1) := dk_27 (dk_at dksX7_isGarden_0 0 rfl rfl)
theorem dX7_isGarden_1 : decode cX7_isGarden 1 = .ok (.iconst 0, 1) := dk_3 (dk_at dksX7_isGarden_0 1 rfl rfl)
theorem dX7_isGarden_2 : decode cX7_isGarden 2 = .ok (.aload_n 0, 1) := dk_42 (dk_at dksX7_isGarden_0 2 rfl rfl)
theorem dX7_isGarden_3 : decode cX7_isGarden 3 = .ok (.getfield 7, 3) := dk_180 0 7 (dk_at dksX7_isGarden_0 3 rfl rfl)
theorem dX7_isGarden_6 : decode cX7_isGarden 6 = .ok (.bipush 7, 2) := dk_16 7 (dk_at dksX7_isGarden_0 6 rfl rfl)
theorem dX7_isGarden_8 : decode cX7_isGarden 8 = .ok (.iaload, 1) := dk_46 (dk_at dksX7_isGarden_0 8 rfl rfl)
theorem dX7_isGarden_9 : decode cX7_isGarden 9 = .ok (.iconst 1, 1) := dk_4 (dk_at dksX7_isGarden_0 9 rfl rfl)
theorem dX7_isGarden_10 : decode cX7_isGarden 10 = .ok (.isub, 1) := dk_100 (dk_at dksX7_isGarden_0 10 rfl rfl)
theorem dX7_isGarden_11 : decode cX7_isGarden 11 = .ok (.invokestatic 88, 3) := dk_184 0 88 (dk_at dksX7_isGarden_0 11 rfl rfl)
theorem dX7_isGarden_14 : decode cX7_isGarden 14 = .ok (.ireturn, 1) := dk_172 (dk_at dksX7_isGarden_0 14 rfl rfl)
abbrev cX7_isBound : ByteArray := prog_21_method_15_code
def yX7_isBound : MethodName := ⟨RX7, "isBound", "(I)Z"⟩
def dkwX7_isBound_0 : List UInt8 := [42, 27, 7, 182, 0, 92, 158, 0, 7, 4, 167, 0, 4, 3, 172]
abbrev dktX7_isBound_0 : List UInt8 := dkwX7_isBound_0 ++ []
theorem dksX7_isBound_0 : cX7_isBound.data.toList.drop 0 = dktX7_isBound_0 := by decide +kernel
theorem dX7_isBound_0 : decode cX7_isBound 0 = .ok (.aload_n 0, 1) := dk_42 (dk_at dksX7_isBound_0 0 rfl rfl)
theorem dX7_isBound_1 : decode cX7_isBound 1 = .ok (.iload_n 1, 1) := dk_27 (dk_at dksX7_isBound_0 1 rfl rfl)
theorem dX7_isBound_2 : decode cX7_isBound 2 = .ok (.iconst 4, 1) := dk_7 (dk_at dksX7_isBound_0 2 rfl rfl)
theorem dX7_isBound_3 : decode cX7_isBound 3 = .ok (.invokevirtual 92, 3) := dk_182 0 92 (dk_at dksX7_isBound_0 3 rfl rfl)
theorem dX7_isBound_6 : decode cX7_isBound 6 = .ok (.ifCond .le 7, 3) := dk_158 0 7 (dk_at dksX7_isBound_0 6 rfl rfl)
theorem dX7_isBound_9 : decode cX7_isBound 9 = .ok (.iconst 1, 1) := dk_4 (dk_at dksX7_isBound_0 9 rfl rfl)
theorem dX7_isBound_10 : decode cX7_isBound 10 = .ok (.goto 4, 3) := dk_167 0 4 (dk_at dksX7_isBound_0 10 rfl rfl)
theorem dX7_isBound_13 : decode cX7_isBound 13 = .ok (.iconst 0, 1) := dk_3 (dk_at dksX7_isBound_0 13 rfl rfl)
theorem dX7_isBound_14 : decode cX7_isBound 14 = .ok (.ireturn, 1) := dk_172 (dk_at dksX7_isBound_0 14 rfl rfl)
abbrev cX7_ofC : ByteArray := prog_21_method_10_code
def yX7_ofC : MethodName := ⟨RX7, "ofC", "(II)I"⟩
def dkwX7_ofC_0 : List UInt8 := [42, 180, 0, 7, 17, 0, 142, 8, 27, 104, 96, 28, 96, 46, 172]
abbrev dktX7_ofC_0 : List UInt8 := dkwX7_ofC_0 ++ []
theorem dksX7_ofC_0 : cX7_ofC.data.toList.drop 0 = dktX7_ofC_0 := by decide +kernel
theorem dX7_ofC_0 : decode cX7_ofC 0 = .ok (.aload_n 0, 1) := dk_42 (dk_at dksX7_ofC_0 0 rfl rfl)
theorem dX7_ofC_1 : decode cX7_ofC 1 = .ok (.getfield 7, 3) := dk_180 0 7 (dk_at dksX7_ofC_0 1 rfl rfl)
theorem dX7_ofC_4 : decode cX7_ofC 4 = .ok (.sipush 142, 3) := dk_17 0 142 (dk_at dksX7_ofC_0 4 rfl rfl)
theorem dX7_ofC_7 : decode cX7_ofC 7 = .ok (.iconst 5, 1) := dk_8 (dk_at dksX7_ofC_0 7 rfl rfl)
theorem dX7_ofC_8 : decode cX7_ofC 8 = .ok (.iload_n 1, 1) := dk_27 (dk_at dksX7_ofC_0 8 rfl rfl)
theorem dX7_ofC_9 : decode cX7_ofC 9 = .ok (.imul, 1) := dk_104 (dk_at dksX7_ofC_0 9 rfl rfl)
theorem dX7_ofC_10 : decode cX7_ofC 10 = .ok (.iadd, 1) := dk_96 (dk_at dksX7_ofC_0 10 rfl rfl)
theorem dX7_ofC_11 : decode cX7_ofC 11 = .ok (.iload_n 2, 1) := dk_28 (dk_at dksX7_ofC_0 11 rfl rfl)
theorem dX7_ofC_12 : decode cX7_ofC 12 = .ok (.iadd, 1) := dk_96 (dk_at dksX7_ofC_0 12 rfl rfl)
theorem dX7_ofC_13 : decode cX7_ofC 13 = .ok (.iaload, 1) := dk_46 (dk_at dksX7_ofC_0 13 rfl rfl)
theorem dX7_ofC_14 : decode cX7_ofC 14 = .ok (.ireturn, 1) := dk_172 (dk_at dksX7_ofC_0 14 rfl rfl)
abbrev cX7_changes : ByteArray := prog_21_method_113_code
def yX7_changes : MethodName := ⟨RX7, "changes", "()V"⟩
def dkwX7_changes_0 : List UInt8 := [42, 180, 1, 89, 154, 0, 7, 42, 182, 1, 86, 177]
abbrev dktX7_changes_0 : List UInt8 := dkwX7_changes_0 ++ []
theorem dksX7_changes_0 : cX7_changes.data.toList.drop 0 = dktX7_changes_0 := by decide +kernel
theorem dX7_changes_0 : decode cX7_changes 0 = .ok (.aload_n 0, 1) := dk_42 (dk_at dksX7_changes_0 0 rfl rfl)
theorem dX7_changes_1 : decode cX7_changes 1 = .ok (.getfield 345, 3) := dk_180 1 89 (dk_at dksX7_changes_0 1 rfl rfl)
theorem dX7_changes_4 : decode cX7_changes 4 = .ok (.ifCond .ne 7, 3) := dk_154 0 7 (dk_at dksX7_changes_0 4 rfl rfl)
theorem dX7_changes_7 : decode cX7_changes 7 = .ok (.aload_n 0, 1) := dk_42 (dk_at dksX7_changes_0 7 rfl rfl)
theorem dX7_changes_8 : decode cX7_changes 8 = .ok (.invokevirtual 342, 3) := dk_182 1 86 (dk_at dksX7_changes_0 8 rfl rfl)
theorem dX7_changes_11 : decode cX7_changes 11 = .ok (.return_, 1) := dk_177 (dk_at dksX7_changes_0 11 rfl rfl)
abbrev cX7_hours : ByteArray := prog_21_method_16_code
def yX7_hours : MethodName := ⟨RX7, "hours", "(III)I"⟩
def dkwX7_hours_2 : List UInt8 := [96, 54, 4, 21, 4, 42, 27, 4, 182, 0, 92, 96, 4, 100, 42, 27, 4, 182, 0, 92, 108, 172]
abbrev dktX7_hours_2 : List UInt8 := dkwX7_hours_2 ++ []
def dkwX7_hours_1 : List UInt8 := [182, 0, 99, 100, 184, 0, 102, 96, 42, 28, 5, 182, 0, 96, 42, 29, 5, 182, 0, 99, 100, 184, 0, 102]
abbrev dktX7_hours_1 : List UInt8 := dkwX7_hours_1 ++ dktX7_hours_2
def dkwX7_hours_0 : List UInt8 := [42, 28, 4, 182, 0, 96, 42, 28, 5, 182, 0, 96, 96, 42, 28, 4, 182, 0, 96, 42, 29, 4]
abbrev dktX7_hours_0 : List UInt8 := dkwX7_hours_0 ++ dktX7_hours_1
theorem dksX7_hours_0 : cX7_hours.data.toList.drop 0 = dktX7_hours_0 := by decide +kernel
theorem dksX7_hours_1 : cX7_hours.data.toList.drop 22 = dktX7_hours_1 := dk_seg dksX7_hours_0 22 rfl rfl
theorem dksX7_hours_2 : cX7_hours.data.toList.drop 46 = dktX7_hours_2 := dk_seg dksX7_hours_1 24 rfl rfl
theorem dX7_hours_0 : decode cX7_hours 0 = .ok (.aload_n 0, 1) := dk_42 (dk_at dksX7_hours_0 0 rfl rfl)
theorem dX7_hours_1 : decode cX7_hours 1 = .ok (.iload_n 2, 1) := dk_28 (dk_at dksX7_hours_0 1 rfl rfl)
theorem dX7_hours_2 : decode cX7_hours 2 = .ok (.iconst 1, 1) := dk_4 (dk_at dksX7_hours_0 2 rfl rfl)
theorem dX7_hours_3 : decode cX7_hours 3 = .ok (.invokevirtual 96, 3) := dk_182 0 96 (dk_at dksX7_hours_0 3 rfl rfl)
theorem dX7_hours_6 : decode cX7_hours 6 = .ok (.aload_n 0, 1) := dk_42 (dk_at dksX7_hours_0 6 rfl rfl)
theorem dX7_hours_7 : decode cX7_hours 7 = .ok (.iload_n 2, 1) := dk_28 (dk_at dksX7_hours_0 7 rfl rfl)
theorem dX7_hours_8 : decode cX7_hours 8 = .ok (.iconst 2, 1) := dk_5 (dk_at dksX7_hours_0 8 rfl rfl)
theorem dX7_hours_9 : decode cX7_hours 9 = .ok (.invokevirtual 96, 3) := dk_182 0 96 (dk_at dksX7_hours_0 9 rfl rfl)
theorem dX7_hours_12 : decode cX7_hours 12 = .ok (.iadd, 1) := dk_96 (dk_at dksX7_hours_0 12 rfl rfl)
theorem dX7_hours_13 : decode cX7_hours 13 = .ok (.aload_n 0, 1) := dk_42 (dk_at dksX7_hours_0 13 rfl rfl)
theorem dX7_hours_14 : decode cX7_hours 14 = .ok (.iload_n 2, 1) := dk_28 (dk_at dksX7_hours_0 14 rfl rfl)
theorem dX7_hours_15 : decode cX7_hours 15 = .ok (.iconst 1, 1) := dk_4 (dk_at dksX7_hours_0 15 rfl rfl)
theorem dX7_hours_16 : decode cX7_hours 16 = .ok (.invokevirtual 96, 3) := dk_182 0 96 (dk_at dksX7_hours_0 16 rfl rfl)
theorem dX7_hours_19 : decode cX7_hours 19 = .ok (.aload_n 0, 1) := dk_42 (dk_at dksX7_hours_0 19 rfl rfl)
theorem dX7_hours_20 : decode cX7_hours 20 = .ok (.iload_n 3, 1) := dk_29 (dk_at dksX7_hours_0 20 rfl rfl)
theorem dX7_hours_21 : decode cX7_hours 21 = .ok (.iconst 1, 1) := dk_4 (dk_at dksX7_hours_0 21 rfl rfl)
theorem dX7_hours_22 : decode cX7_hours 22 = .ok (.invokevirtual 99, 3) := dk_182 0 99 (dk_at dksX7_hours_1 0 rfl rfl)
theorem dX7_hours_25 : decode cX7_hours 25 = .ok (.isub, 1) := dk_100 (dk_at dksX7_hours_1 3 rfl rfl)
theorem dX7_hours_26 : decode cX7_hours 26 = .ok (.invokestatic 102, 3) := dk_184 0 102 (dk_at dksX7_hours_1 4 rfl rfl)
theorem dX7_hours_29 : decode cX7_hours 29 = .ok (.iadd, 1) := dk_96 (dk_at dksX7_hours_1 7 rfl rfl)
theorem dX7_hours_30 : decode cX7_hours 30 = .ok (.aload_n 0, 1) := dk_42 (dk_at dksX7_hours_1 8 rfl rfl)
theorem dX7_hours_31 : decode cX7_hours 31 = .ok (.iload_n 2, 1) := dk_28 (dk_at dksX7_hours_1 9 rfl rfl)
theorem dX7_hours_32 : decode cX7_hours 32 = .ok (.iconst 2, 1) := dk_5 (dk_at dksX7_hours_1 10 rfl rfl)
theorem dX7_hours_33 : decode cX7_hours 33 = .ok (.invokevirtual 96, 3) := dk_182 0 96 (dk_at dksX7_hours_1 11 rfl rfl)
theorem dX7_hours_36 : decode cX7_hours 36 = .ok (.aload_n 0, 1) := dk_42 (dk_at dksX7_hours_1 14 rfl rfl)
theorem dX7_hours_37 : decode cX7_hours 37 = .ok (.iload_n 3, 1) := dk_29 (dk_at dksX7_hours_1 15 rfl rfl)
theorem dX7_hours_38 : decode cX7_hours 38 = .ok (.iconst 2, 1) := dk_5 (dk_at dksX7_hours_1 16 rfl rfl)
theorem dX7_hours_39 : decode cX7_hours 39 = .ok (.invokevirtual 99, 3) := dk_182 0 99 (dk_at dksX7_hours_1 17 rfl rfl)
theorem dX7_hours_42 : decode cX7_hours 42 = .ok (.isub, 1) := dk_100 (dk_at dksX7_hours_1 20 rfl rfl)
theorem dX7_hours_43 : decode cX7_hours 43 = .ok (.invokestatic 102, 3) := dk_184 0 102 (dk_at dksX7_hours_1 21 rfl rfl)
theorem dX7_hours_46 : decode cX7_hours 46 = .ok (.iadd, 1) := dk_96 (dk_at dksX7_hours_2 0 rfl rfl)
theorem dX7_hours_47 : decode cX7_hours 47 = .ok (.istore 4, 2) := dk_54 4 (dk_at dksX7_hours_2 1 rfl rfl)
theorem dX7_hours_49 : decode cX7_hours 49 = .ok (.iload 4, 2) := dk_21 4 (dk_at dksX7_hours_2 3 rfl rfl)
theorem dX7_hours_51 : decode cX7_hours 51 = .ok (.aload_n 0, 1) := dk_42 (dk_at dksX7_hours_2 5 rfl rfl)
theorem dX7_hours_52 : decode cX7_hours 52 = .ok (.iload_n 1, 1) := dk_27 (dk_at dksX7_hours_2 6 rfl rfl)
theorem dX7_hours_53 : decode cX7_hours 53 = .ok (.iconst 1, 1) := dk_4 (dk_at dksX7_hours_2 7 rfl rfl)
theorem dX7_hours_54 : decode cX7_hours 54 = .ok (.invokevirtual 92, 3) := dk_182 0 92 (dk_at dksX7_hours_2 8 rfl rfl)
theorem dX7_hours_57 : decode cX7_hours 57 = .ok (.iadd, 1) := dk_96 (dk_at dksX7_hours_2 11 rfl rfl)
theorem dX7_hours_58 : decode cX7_hours 58 = .ok (.iconst 1, 1) := dk_4 (dk_at dksX7_hours_2 12 rfl rfl)
theorem dX7_hours_59 : decode cX7_hours 59 = .ok (.isub, 1) := dk_100 (dk_at dksX7_hours_2 13 rfl rfl)
theorem dX7_hours_60 : decode cX7_hours 60 = .ok (.aload_n 0, 1) := dk_42 (dk_at dksX7_hours_2 14 rfl rfl)
theorem dX7_hours_61 : decode cX7_hours 61 = .ok (.iload_n 1, 1) := dk_27 (dk_at dksX7_hours_2 15 rfl rfl)
theorem dX7_hours_62 : decode cX7_hours 62 = .ok (.iconst 1, 1) := dk_4 (dk_at dksX7_hours_2 16 rfl rfl)
theorem dX7_hours_63 : decode cX7_hours 63 = .ok (.invokevirtual 92, 3) := dk_182 0 92 (dk_at dksX7_hours_2 17 rfl rfl)
theorem dX7_hours_66 : decode cX7_hours 66 = .ok (.idiv, 1) := dk_108 (dk_at dksX7_hours_2 20 rfl rfl)
theorem dX7_hours_67 : decode cX7_hours 67 = .ok (.ireturn, 1) := dk_172 (dk_at dksX7_hours_2 21 rfl rfl)
abbrev cX7_cancelling : ByteArray := prog_21_method_116_code
def yX7_cancelling : MethodName := ⟨RX7, "cancelling", "(I)I"⟩
def dkwX7_cancelling_2 : List UInt8 := [172]
abbrev dktX7_cancelling_2 : List UInt8 := dkwX7_cancelling_2 ++ []
def dkwX7_cancelling_1 : List UInt8 := [154, 0, 5, 3, 172, 42, 182, 1, 126, 42, 27, 7, 182, 0, 92, 61, 42, 27, 7, 3, 182, 0, 164, 28]
abbrev dktX7_cancelling_1 : List UInt8 := dkwX7_cancelling_1 ++ dktX7_cancelling_2
def dkwX7_cancelling_0 : List UInt8 := [42, 42, 27, 182, 1, 108, 4, 182, 0, 176, 153, 0, 16, 42, 42, 27, 182, 0, 111, 5, 182, 0, 176]
abbrev dktX7_cancelling_0 : List UInt8 := dkwX7_cancelling_0 ++ dktX7_cancelling_1
theorem dksX7_cancelling_0 : cX7_cancelling.data.toList.drop 0 = dktX7_cancelling_0 := by decide +kernel
theorem dksX7_cancelling_1 : cX7_cancelling.data.toList.drop 23 = dktX7_cancelling_1 := dk_seg dksX7_cancelling_0 23 rfl rfl
theorem dksX7_cancelling_2 : cX7_cancelling.data.toList.drop 47 = dktX7_cancelling_2 := dk_seg dksX7_cancelling_1 24 rfl rfl
theorem dX7_cancelling_0 : decode cX7_cancelling 0 = .ok (.aload_n 0, 1) := dk_42 (dk_at dksX7_cancelling_0 0 rfl rfl)
theorem dX7_cancelling_1 : decode cX7_cancelling 1 = .ok (.aload_n 0, 1) := dk_42 (dk_at dksX7_cancelling_0 1 rfl rfl)
theorem dX7_cancelling_2 : decode cX7_cancelling 2 = .ok (.iload_n 1, 1) := dk_27 (dk_at dksX7_cancelling_0 2 rfl rfl)
theorem dX7_cancelling_3 : decode cX7_cancelling 3 = .ok (.invokevirtual 364, 3) := dk_182 1 108 (dk_at dksX7_cancelling_0 3 rfl rfl)
theorem dX7_cancelling_6 : decode cX7_cancelling 6 = .ok (.iconst 1, 1) := dk_4 (dk_at dksX7_cancelling_0 6 rfl rfl)
theorem dX7_cancelling_7 : decode cX7_cancelling 7 = .ok (.invokevirtual 176, 3) := dk_182 0 176 (dk_at dksX7_cancelling_0 7 rfl rfl)
theorem dX7_cancelling_10 : decode cX7_cancelling 10 = .ok (.ifCond .eq 16, 3) := dk_153 0 16 (dk_at dksX7_cancelling_0 10 rfl rfl)
theorem dX7_cancelling_13 : decode cX7_cancelling 13 = .ok (.aload_n 0, 1) := dk_42 (dk_at dksX7_cancelling_0 13 rfl rfl)
theorem dX7_cancelling_14 : decode cX7_cancelling 14 = .ok (.aload_n 0, 1) := dk_42 (dk_at dksX7_cancelling_0 14 rfl rfl)
theorem dX7_cancelling_15 : decode cX7_cancelling 15 = .ok (.iload_n 1, 1) := dk_27 (dk_at dksX7_cancelling_0 15 rfl rfl)
theorem dX7_cancelling_16 : decode cX7_cancelling 16 = .ok (.invokevirtual 111, 3) := dk_182 0 111 (dk_at dksX7_cancelling_0 16 rfl rfl)
theorem dX7_cancelling_19 : decode cX7_cancelling 19 = .ok (.iconst 2, 1) := dk_5 (dk_at dksX7_cancelling_0 19 rfl rfl)
theorem dX7_cancelling_20 : decode cX7_cancelling 20 = .ok (.invokevirtual 176, 3) := dk_182 0 176 (dk_at dksX7_cancelling_0 20 rfl rfl)
theorem dX7_cancelling_23 : decode cX7_cancelling 23 = .ok (.ifCond .ne 5, 3) := dk_154 0 5 (dk_at dksX7_cancelling_1 0 rfl rfl)
theorem dX7_cancelling_26 : decode cX7_cancelling 26 = .ok (.iconst 0, 1) := dk_3 (dk_at dksX7_cancelling_1 3 rfl rfl)
theorem dX7_cancelling_27 : decode cX7_cancelling 27 = .ok (.ireturn, 1) := dk_172 (dk_at dksX7_cancelling_1 4 rfl rfl)
theorem dX7_cancelling_28 : decode cX7_cancelling 28 = .ok (.aload_n 0, 1) := dk_42 (dk_at dksX7_cancelling_1 5 rfl rfl)
theorem dX7_cancelling_29 : decode cX7_cancelling 29 = .ok (.invokevirtual 382, 3) := dk_182 1 126 (dk_at dksX7_cancelling_1 6 rfl rfl)
theorem dX7_cancelling_32 : decode cX7_cancelling 32 = .ok (.aload_n 0, 1) := dk_42 (dk_at dksX7_cancelling_1 9 rfl rfl)
theorem dX7_cancelling_33 : decode cX7_cancelling 33 = .ok (.iload_n 1, 1) := dk_27 (dk_at dksX7_cancelling_1 10 rfl rfl)
theorem dX7_cancelling_34 : decode cX7_cancelling 34 = .ok (.iconst 4, 1) := dk_7 (dk_at dksX7_cancelling_1 11 rfl rfl)
theorem dX7_cancelling_35 : decode cX7_cancelling 35 = .ok (.invokevirtual 92, 3) := dk_182 0 92 (dk_at dksX7_cancelling_1 12 rfl rfl)
theorem dX7_cancelling_38 : decode cX7_cancelling 38 = .ok (.istore_n 2, 1) := dk_61 (dk_at dksX7_cancelling_1 15 rfl rfl)
theorem dX7_cancelling_39 : decode cX7_cancelling 39 = .ok (.aload_n 0, 1) := dk_42 (dk_at dksX7_cancelling_1 16 rfl rfl)
theorem dX7_cancelling_40 : decode cX7_cancelling 40 = .ok (.iload_n 1, 1) := dk_27 (dk_at dksX7_cancelling_1 17 rfl rfl)
theorem dX7_cancelling_41 : decode cX7_cancelling 41 = .ok (.iconst 4, 1) := dk_7 (dk_at dksX7_cancelling_1 18 rfl rfl)
theorem dX7_cancelling_42 : decode cX7_cancelling 42 = .ok (.iconst 0, 1) := dk_3 (dk_at dksX7_cancelling_1 19 rfl rfl)
theorem dX7_cancelling_43 : decode cX7_cancelling 43 = .ok (.invokevirtual 164, 3) := dk_182 0 164 (dk_at dksX7_cancelling_1 20 rfl rfl)
theorem dX7_cancelling_46 : decode cX7_cancelling 46 = .ok (.iload_n 2, 1) := dk_28 (dk_at dksX7_cancelling_1 23 rfl rfl)
theorem dX7_cancelling_47 : decode cX7_cancelling 47 = .ok (.ireturn, 1) := dk_172 (dk_at dksX7_cancelling_2 0 rfl rfl)
abbrev cX7_advancing : ByteArray := prog_21_method_118_code
def yX7_advancing : MethodName := ⟨RX7, "advancing", "(I)I"⟩
def dkwX7_advancing_2 : List UInt8 := [42, 180, 0, 7, 16, 11, 46, 61, 42, 27, 182, 1, 123, 42, 180, 0, 7, 16, 11, 46, 28, 100, 172]
abbrev dktX7_advancing_2 : List UInt8 := dkwX7_advancing_2 ++ []
def dkwX7_advancing_1 : List UInt8 := [17, 39, 15, 163, 0, 7, 4, 167, 0, 4, 3, 5, 182, 0, 176, 154, 0, 5, 3, 172, 42, 182, 1, 126]
abbrev dktX7_advancing_1 : List UInt8 := dkwX7_advancing_1 ++ dktX7_advancing_2
def dkwX7_advancing_0 : List UInt8 := [42, 27, 4, 16, 30, 184, 0, 88, 4, 182, 0, 176, 153, 0, 30, 42, 42, 180, 0, 7, 8, 46, 27, 96]
abbrev dktX7_advancing_0 : List UInt8 := dkwX7_advancing_0 ++ dktX7_advancing_1
theorem dksX7_advancing_0 : cX7_advancing.data.toList.drop 0 = dktX7_advancing_0 := by decide +kernel
theorem dksX7_advancing_1 : cX7_advancing.data.toList.drop 24 = dktX7_advancing_1 := dk_seg dksX7_advancing_0 24 rfl rfl
theorem dksX7_advancing_2 : cX7_advancing.data.toList.drop 48 = dktX7_advancing_2 := dk_seg dksX7_advancing_1 24 rfl rfl
theorem dX7_advancing_0 : decode cX7_advancing 0 = .ok (.aload_n 0, 1) := dk_42 (dk_at dksX7_advancing_0 0 rfl rfl)
theorem dX7_advancing_1 : decode cX7_advancing 1 = .ok (.iload_n 1, 1) := dk_27 (dk_at dksX7_advancing_0 1 rfl rfl)
theorem dX7_advancing_2 : decode cX7_advancing 2 = .ok (.iconst 1, 1) := dk_4 (dk_at dksX7_advancing_0 2 rfl rfl)
theorem dX7_advancing_3 : decode cX7_advancing 3 = .ok (.bipush 30, 2) := dk_16 30 (dk_at dksX7_advancing_0 3 rfl rfl)
theorem dX7_advancing_5 : decode cX7_advancing 5 = .ok (.invokestatic 88, 3) := dk_184 0 88 (dk_at dksX7_advancing_0 5 rfl rfl)
theorem dX7_advancing_8 : decode cX7_advancing 8 = .ok (.iconst 1, 1) := dk_4 (dk_at dksX7_advancing_0 8 rfl rfl)
theorem dX7_advancing_9 : decode cX7_advancing 9 = .ok (.invokevirtual 176, 3) := dk_182 0 176 (dk_at dksX7_advancing_0 9 rfl rfl)
theorem dX7_advancing_12 : decode cX7_advancing 12 = .ok (.ifCond .eq 30, 3) := dk_153 0 30 (dk_at dksX7_advancing_0 12 rfl rfl)
theorem dX7_advancing_15 : decode cX7_advancing 15 = .ok (.aload_n 0, 1) := dk_42 (dk_at dksX7_advancing_0 15 rfl rfl)
theorem dX7_advancing_16 : decode cX7_advancing 16 = .ok (.aload_n 0, 1) := dk_42 (dk_at dksX7_advancing_0 16 rfl rfl)
theorem dX7_advancing_17 : decode cX7_advancing 17 = .ok (.getfield 7, 3) := dk_180 0 7 (dk_at dksX7_advancing_0 17 rfl rfl)
theorem dX7_advancing_20 : decode cX7_advancing 20 = .ok (.iconst 5, 1) := dk_8 (dk_at dksX7_advancing_0 20 rfl rfl)
theorem dX7_advancing_21 : decode cX7_advancing 21 = .ok (.iaload, 1) := dk_46 (dk_at dksX7_advancing_0 21 rfl rfl)
theorem dX7_advancing_22 : decode cX7_advancing 22 = .ok (.iload_n 1, 1) := dk_27 (dk_at dksX7_advancing_0 22 rfl rfl)
theorem dX7_advancing_23 : decode cX7_advancing 23 = .ok (.iadd, 1) := dk_96 (dk_at dksX7_advancing_0 23 rfl rfl)
theorem dX7_advancing_24 : decode cX7_advancing 24 = .ok (.sipush 9999, 3) := dk_17 39 15 (dk_at dksX7_advancing_1 0 rfl rfl)
theorem dX7_advancing_27 : decode cX7_advancing 27 = .ok (.if_icmp .gt 7, 3) := dk_163 0 7 (dk_at dksX7_advancing_1 3 rfl rfl)
theorem dX7_advancing_30 : decode cX7_advancing 30 = .ok (.iconst 1, 1) := dk_4 (dk_at dksX7_advancing_1 6 rfl rfl)
theorem dX7_advancing_31 : decode cX7_advancing 31 = .ok (.goto 4, 3) := dk_167 0 4 (dk_at dksX7_advancing_1 7 rfl rfl)
theorem dX7_advancing_34 : decode cX7_advancing 34 = .ok (.iconst 0, 1) := dk_3 (dk_at dksX7_advancing_1 10 rfl rfl)
theorem dX7_advancing_35 : decode cX7_advancing 35 = .ok (.iconst 2, 1) := dk_5 (dk_at dksX7_advancing_1 11 rfl rfl)
theorem dX7_advancing_36 : decode cX7_advancing 36 = .ok (.invokevirtual 176, 3) := dk_182 0 176 (dk_at dksX7_advancing_1 12 rfl rfl)
theorem dX7_advancing_39 : decode cX7_advancing 39 = .ok (.ifCond .ne 5, 3) := dk_154 0 5 (dk_at dksX7_advancing_1 15 rfl rfl)
theorem dX7_advancing_42 : decode cX7_advancing 42 = .ok (.iconst 0, 1) := dk_3 (dk_at dksX7_advancing_1 18 rfl rfl)
theorem dX7_advancing_43 : decode cX7_advancing 43 = .ok (.ireturn, 1) := dk_172 (dk_at dksX7_advancing_1 19 rfl rfl)
theorem dX7_advancing_44 : decode cX7_advancing 44 = .ok (.aload_n 0, 1) := dk_42 (dk_at dksX7_advancing_1 20 rfl rfl)
theorem dX7_advancing_45 : decode cX7_advancing 45 = .ok (.invokevirtual 382, 3) := dk_182 1 126 (dk_at dksX7_advancing_1 21 rfl rfl)
theorem dX7_advancing_48 : decode cX7_advancing 48 = .ok (.aload_n 0, 1) := dk_42 (dk_at dksX7_advancing_2 0 rfl rfl)
theorem dX7_advancing_49 : decode cX7_advancing 49 = .ok (.getfield 7, 3) := dk_180 0 7 (dk_at dksX7_advancing_2 1 rfl rfl)
theorem dX7_advancing_52 : decode cX7_advancing 52 = .ok (.bipush 11, 2) := dk_16 11 (dk_at dksX7_advancing_2 4 rfl rfl)
theorem dX7_advancing_54 : decode cX7_advancing 54 = .ok (.iaload, 1) := dk_46 (dk_at dksX7_advancing_2 6 rfl rfl)
theorem dX7_advancing_55 : decode cX7_advancing 55 = .ok (.istore_n 2, 1) := dk_61 (dk_at dksX7_advancing_2 7 rfl rfl)
theorem dX7_advancing_56 : decode cX7_advancing 56 = .ok (.aload_n 0, 1) := dk_42 (dk_at dksX7_advancing_2 8 rfl rfl)
theorem dX7_advancing_57 : decode cX7_advancing 57 = .ok (.iload_n 1, 1) := dk_27 (dk_at dksX7_advancing_2 9 rfl rfl)
theorem dX7_advancing_58 : decode cX7_advancing 58 = .ok (.invokevirtual 379, 3) := dk_182 1 123 (dk_at dksX7_advancing_2 10 rfl rfl)
theorem dX7_advancing_61 : decode cX7_advancing 61 = .ok (.aload_n 0, 1) := dk_42 (dk_at dksX7_advancing_2 13 rfl rfl)
theorem dX7_advancing_62 : decode cX7_advancing 62 = .ok (.getfield 7, 3) := dk_180 0 7 (dk_at dksX7_advancing_2 14 rfl rfl)
theorem dX7_advancing_65 : decode cX7_advancing 65 = .ok (.bipush 11, 2) := dk_16 11 (dk_at dksX7_advancing_2 17 rfl rfl)
theorem dX7_advancing_67 : decode cX7_advancing 67 = .ok (.iaload, 1) := dk_46 (dk_at dksX7_advancing_2 19 rfl rfl)
theorem dX7_advancing_68 : decode cX7_advancing 68 = .ok (.iload_n 2, 1) := dk_28 (dk_at dksX7_advancing_2 20 rfl rfl)
theorem dX7_advancing_69 : decode cX7_advancing 69 = .ok (.isub, 1) := dk_100 (dk_at dksX7_advancing_2 21 rfl rfl)
theorem dX7_advancing_70 : decode cX7_advancing 70 = .ok (.ireturn, 1) := dk_172 (dk_at dksX7_advancing_2 22 rfl rfl)
abbrev cX7_runs : ByteArray := prog_21_method_32_code
def yX7_runs : MethodName := ⟨RX7, "runs", "(I)V"⟩
def dkwX7_runs_0 : List UInt8 := [3, 61, 28, 27, 162, 0, 13, 42, 182, 0, 170, 132, 2, 1, 167, 255, 244, 177]
abbrev dktX7_runs_0 : List UInt8 := dkwX7_runs_0 ++ []
theorem dksX7_runs_0 : cX7_runs.data.toList.drop 0 = dktX7_runs_0 := by decide +kernel
theorem dX7_runs_0 : decode cX7_runs 0 = .ok (.iconst 0, 1) := dk_3 (dk_at dksX7_runs_0 0 rfl rfl)
theorem dX7_runs_1 : decode cX7_runs 1 = .ok (.istore_n 2, 1) := dk_61 (dk_at dksX7_runs_0 1 rfl rfl)
theorem dX7_runs_2 : decode cX7_runs 2 = .ok (.iload_n 2, 1) := dk_28 (dk_at dksX7_runs_0 2 rfl rfl)
theorem dX7_runs_3 : decode cX7_runs 3 = .ok (.iload_n 1, 1) := dk_27 (dk_at dksX7_runs_0 3 rfl rfl)
theorem dX7_runs_4 : decode cX7_runs 4 = .ok (.if_icmp .ge 13, 3) := dk_162 0 13 (dk_at dksX7_runs_0 4 rfl rfl)
theorem dX7_runs_7 : decode cX7_runs 7 = .ok (.aload_n 0, 1) := dk_42 (dk_at dksX7_runs_0 7 rfl rfl)
theorem dX7_runs_8 : decode cX7_runs 8 = .ok (.invokevirtual 170, 3) := dk_182 0 170 (dk_at dksX7_runs_0 8 rfl rfl)
theorem dX7_runs_11 : decode cX7_runs 11 = .ok (.iinc 2 1, 3) := dk_132 2 1 (dk_at dksX7_runs_0 11 rfl rfl)
theorem dX7_runs_14 : decode cX7_runs 14 = .ok (.goto (-12), 3) := dk_167 255 244 (dk_at dksX7_runs_0 14 rfl rfl)
theorem dX7_runs_17 : decode cX7_runs 17 = .ok (.return_, 1) := dk_177 (dk_at dksX7_runs_0 17 rfl rfl)
abbrev cX7_nightPasses : ByteArray := prog_21_method_29_code
def yX7_nightPasses : MethodName := ⟨RX7, "nightPasses", "()V"⟩
def dkwX7_nightPasses_4 : List UInt8 := [180, 0, 7, 8, 46, 16, 7, 112, 154, 0, 7, 42, 182, 0, 167, 177]
abbrev dktX7_nightPasses_4 : List UInt8 := dkwX7_nightPasses_4 ++ []
def dkwX7_nightPasses_3 : List UInt8 := [153, 0, 17, 42, 27, 7, 42, 27, 7, 182, 0, 92, 4, 100, 182, 0, 164, 132, 1, 1, 167, 255, 220, 42]
abbrev dktX7_nightPasses_3 : List UInt8 := dkwX7_nightPasses_3 ++ dktX7_nightPasses_4
def dkwX7_nightPasses_2 : List UInt8 := [132, 1, 1, 167, 255, 237, 3, 60, 27, 42, 180, 0, 7, 16, 8, 46, 162, 0, 31, 42, 27, 182, 0, 111]
abbrev dktX7_nightPasses_2 : List UInt8 := dkwX7_nightPasses_2 ++ dktX7_nightPasses_3
def dkwX7_nightPasses_1 : List UInt8 := [132, 1, 1, 167, 255, 237, 3, 60, 27, 42, 180, 0, 7, 16, 7, 46, 162, 0, 14, 42, 27, 182, 0, 161]
abbrev dktX7_nightPasses_1 : List UInt8 := dkwX7_nightPasses_1 ++ dktX7_nightPasses_2
def dkwX7_nightPasses_0 : List UInt8 := [42, 182, 0, 155, 3, 60, 27, 42, 180, 0, 7, 16, 8, 46, 162, 0, 14, 42, 27, 182, 0, 158]
abbrev dktX7_nightPasses_0 : List UInt8 := dkwX7_nightPasses_0 ++ dktX7_nightPasses_1
theorem dksX7_nightPasses_0 : cX7_nightPasses.data.toList.drop 0 = dktX7_nightPasses_0 := by decide +kernel
theorem dksX7_nightPasses_1 : cX7_nightPasses.data.toList.drop 22 = dktX7_nightPasses_1 := dk_seg dksX7_nightPasses_0 22 rfl rfl
theorem dksX7_nightPasses_2 : cX7_nightPasses.data.toList.drop 46 = dktX7_nightPasses_2 := dk_seg dksX7_nightPasses_1 24 rfl rfl
theorem dksX7_nightPasses_3 : cX7_nightPasses.data.toList.drop 70 = dktX7_nightPasses_3 := dk_seg dksX7_nightPasses_2 24 rfl rfl
theorem dksX7_nightPasses_4 : cX7_nightPasses.data.toList.drop 94 = dktX7_nightPasses_4 := dk_seg dksX7_nightPasses_3 24 rfl rfl
theorem dX7_nightPasses_0 : decode cX7_nightPasses 0 = .ok (.aload_n 0, 1) := dk_42 (dk_at dksX7_nightPasses_0 0 rfl rfl)
theorem dX7_nightPasses_1 : decode cX7_nightPasses 1 = .ok (.invokevirtual 155, 3) := dk_182 0 155 (dk_at dksX7_nightPasses_0 1 rfl rfl)
theorem dX7_nightPasses_4 : decode cX7_nightPasses 4 = .ok (.iconst 0, 1) := dk_3 (dk_at dksX7_nightPasses_0 4 rfl rfl)
theorem dX7_nightPasses_5 : decode cX7_nightPasses 5 = .ok (.istore_n 1, 1) := dk_60 (dk_at dksX7_nightPasses_0 5 rfl rfl)
theorem dX7_nightPasses_6 : decode cX7_nightPasses 6 = .ok (.iload_n 1, 1) := dk_27 (dk_at dksX7_nightPasses_0 6 rfl rfl)
theorem dX7_nightPasses_7 : decode cX7_nightPasses 7 = .ok (.aload_n 0, 1) := dk_42 (dk_at dksX7_nightPasses_0 7 rfl rfl)
theorem dX7_nightPasses_8 : decode cX7_nightPasses 8 = .ok (.getfield 7, 3) := dk_180 0 7 (dk_at dksX7_nightPasses_0 8 rfl rfl)
theorem dX7_nightPasses_11 : decode cX7_nightPasses 11 = .ok (.bipush 8, 2) := dk_16 8 (dk_at dksX7_nightPasses_0 11 rfl rfl)
theorem dX7_nightPasses_13 : decode cX7_nightPasses 13 = .ok (.iaload, 1) := dk_46 (dk_at dksX7_nightPasses_0 13 rfl rfl)
theorem dX7_nightPasses_14 : decode cX7_nightPasses 14 = .ok (.if_icmp .ge 14, 3) := dk_162 0 14 (dk_at dksX7_nightPasses_0 14 rfl rfl)
theorem dX7_nightPasses_17 : decode cX7_nightPasses 17 = .ok (.aload_n 0, 1) := dk_42 (dk_at dksX7_nightPasses_0 17 rfl rfl)
theorem dX7_nightPasses_18 : decode cX7_nightPasses 18 = .ok (.iload_n 1, 1) := dk_27 (dk_at dksX7_nightPasses_0 18 rfl rfl)
theorem dX7_nightPasses_19 : decode cX7_nightPasses 19 = .ok (.invokevirtual 158, 3) := dk_182 0 158 (dk_at dksX7_nightPasses_0 19 rfl rfl)
theorem dX7_nightPasses_22 : decode cX7_nightPasses 22 = .ok (.iinc 1 1, 3) := dk_132 1 1 (dk_at dksX7_nightPasses_1 0 rfl rfl)
theorem dX7_nightPasses_25 : decode cX7_nightPasses 25 = .ok (.goto (-19), 3) := dk_167 255 237 (dk_at dksX7_nightPasses_1 3 rfl rfl)
theorem dX7_nightPasses_28 : decode cX7_nightPasses 28 = .ok (.iconst 0, 1) := dk_3 (dk_at dksX7_nightPasses_1 6 rfl rfl)
theorem dX7_nightPasses_29 : decode cX7_nightPasses 29 = .ok (.istore_n 1, 1) := dk_60 (dk_at dksX7_nightPasses_1 7 rfl rfl)
theorem dX7_nightPasses_30 : decode cX7_nightPasses 30 = .ok (.iload_n 1, 1) := dk_27 (dk_at dksX7_nightPasses_1 8 rfl rfl)
theorem dX7_nightPasses_31 : decode cX7_nightPasses 31 = .ok (.aload_n 0, 1) := dk_42 (dk_at dksX7_nightPasses_1 9 rfl rfl)
theorem dX7_nightPasses_32 : decode cX7_nightPasses 32 = .ok (.getfield 7, 3) := dk_180 0 7 (dk_at dksX7_nightPasses_1 10 rfl rfl)
theorem dX7_nightPasses_35 : decode cX7_nightPasses 35 = .ok (.bipush 7, 2) := dk_16 7 (dk_at dksX7_nightPasses_1 13 rfl rfl)
theorem dX7_nightPasses_37 : decode cX7_nightPasses 37 = .ok (.iaload, 1) := dk_46 (dk_at dksX7_nightPasses_1 15 rfl rfl)
theorem dX7_nightPasses_38 : decode cX7_nightPasses 38 = .ok (.if_icmp .ge 14, 3) := dk_162 0 14 (dk_at dksX7_nightPasses_1 16 rfl rfl)
theorem dX7_nightPasses_41 : decode cX7_nightPasses 41 = .ok (.aload_n 0, 1) := dk_42 (dk_at dksX7_nightPasses_1 19 rfl rfl)
theorem dX7_nightPasses_42 : decode cX7_nightPasses 42 = .ok (.iload_n 1, 1) := dk_27 (dk_at dksX7_nightPasses_1 20 rfl rfl)
theorem dX7_nightPasses_43 : decode cX7_nightPasses 43 = .ok (.invokevirtual 161, 3) := dk_182 0 161 (dk_at dksX7_nightPasses_1 21 rfl rfl)
theorem dX7_nightPasses_46 : decode cX7_nightPasses 46 = .ok (.iinc 1 1, 3) := dk_132 1 1 (dk_at dksX7_nightPasses_2 0 rfl rfl)
theorem dX7_nightPasses_49 : decode cX7_nightPasses 49 = .ok (.goto (-19), 3) := dk_167 255 237 (dk_at dksX7_nightPasses_2 3 rfl rfl)
theorem dX7_nightPasses_52 : decode cX7_nightPasses 52 = .ok (.iconst 0, 1) := dk_3 (dk_at dksX7_nightPasses_2 6 rfl rfl)
theorem dX7_nightPasses_53 : decode cX7_nightPasses 53 = .ok (.istore_n 1, 1) := dk_60 (dk_at dksX7_nightPasses_2 7 rfl rfl)
theorem dX7_nightPasses_54 : decode cX7_nightPasses 54 = .ok (.iload_n 1, 1) := dk_27 (dk_at dksX7_nightPasses_2 8 rfl rfl)
theorem dX7_nightPasses_55 : decode cX7_nightPasses 55 = .ok (.aload_n 0, 1) := dk_42 (dk_at dksX7_nightPasses_2 9 rfl rfl)
theorem dX7_nightPasses_56 : decode cX7_nightPasses 56 = .ok (.getfield 7, 3) := dk_180 0 7 (dk_at dksX7_nightPasses_2 10 rfl rfl)
theorem dX7_nightPasses_59 : decode cX7_nightPasses 59 = .ok (.bipush 8, 2) := dk_16 8 (dk_at dksX7_nightPasses_2 13 rfl rfl)
theorem dX7_nightPasses_61 : decode cX7_nightPasses 61 = .ok (.iaload, 1) := dk_46 (dk_at dksX7_nightPasses_2 15 rfl rfl)
theorem dX7_nightPasses_62 : decode cX7_nightPasses 62 = .ok (.if_icmp .ge 31, 3) := dk_162 0 31 (dk_at dksX7_nightPasses_2 16 rfl rfl)
theorem dX7_nightPasses_65 : decode cX7_nightPasses 65 = .ok (.aload_n 0, 1) := dk_42 (dk_at dksX7_nightPasses_2 19 rfl rfl)
theorem dX7_nightPasses_66 : decode cX7_nightPasses 66 = .ok (.iload_n 1, 1) := dk_27 (dk_at dksX7_nightPasses_2 20 rfl rfl)
theorem dX7_nightPasses_67 : decode cX7_nightPasses 67 = .ok (.invokevirtual 111, 3) := dk_182 0 111 (dk_at dksX7_nightPasses_2 21 rfl rfl)
theorem dX7_nightPasses_70 : decode cX7_nightPasses 70 = .ok (.ifCond .eq 17, 3) := dk_153 0 17 (dk_at dksX7_nightPasses_3 0 rfl rfl)
theorem dX7_nightPasses_73 : decode cX7_nightPasses 73 = .ok (.aload_n 0, 1) := dk_42 (dk_at dksX7_nightPasses_3 3 rfl rfl)
theorem dX7_nightPasses_74 : decode cX7_nightPasses 74 = .ok (.iload_n 1, 1) := dk_27 (dk_at dksX7_nightPasses_3 4 rfl rfl)
theorem dX7_nightPasses_75 : decode cX7_nightPasses 75 = .ok (.iconst 4, 1) := dk_7 (dk_at dksX7_nightPasses_3 5 rfl rfl)
theorem dX7_nightPasses_76 : decode cX7_nightPasses 76 = .ok (.aload_n 0, 1) := dk_42 (dk_at dksX7_nightPasses_3 6 rfl rfl)
theorem dX7_nightPasses_77 : decode cX7_nightPasses 77 = .ok (.iload_n 1, 1) := dk_27 (dk_at dksX7_nightPasses_3 7 rfl rfl)
theorem dX7_nightPasses_78 : decode cX7_nightPasses 78 = .ok (.iconst 4, 1) := dk_7 (dk_at dksX7_nightPasses_3 8 rfl rfl)
theorem dX7_nightPasses_79 : decode cX7_nightPasses 79 = .ok (.invokevirtual 92, 3) := dk_182 0 92 (dk_at dksX7_nightPasses_3 9 rfl rfl)
theorem dX7_nightPasses_82 : decode cX7_nightPasses 82 = .ok (.iconst 1, 1) := dk_4 (dk_at dksX7_nightPasses_3 12 rfl rfl)
theorem dX7_nightPasses_83 : decode cX7_nightPasses 83 = .ok (.isub, 1) := dk_100 (dk_at dksX7_nightPasses_3 13 rfl rfl)
theorem dX7_nightPasses_84 : decode cX7_nightPasses 84 = .ok (.invokevirtual 164, 3) := dk_182 0 164 (dk_at dksX7_nightPasses_3 14 rfl rfl)
theorem dX7_nightPasses_87 : decode cX7_nightPasses 87 = .ok (.iinc 1 1, 3) := dk_132 1 1 (dk_at dksX7_nightPasses_3 17 rfl rfl)
theorem dX7_nightPasses_90 : decode cX7_nightPasses 90 = .ok (.goto (-36), 3) := dk_167 255 220 (dk_at dksX7_nightPasses_3 20 rfl rfl)
theorem dX7_nightPasses_93 : decode cX7_nightPasses 93 = .ok (.aload_n 0, 1) := dk_42 (dk_at dksX7_nightPasses_3 23 rfl rfl)
theorem dX7_nightPasses_94 : decode cX7_nightPasses 94 = .ok (.getfield 7, 3) := dk_180 0 7 (dk_at dksX7_nightPasses_4 0 rfl rfl)
theorem dX7_nightPasses_97 : decode cX7_nightPasses 97 = .ok (.iconst 5, 1) := dk_8 (dk_at dksX7_nightPasses_4 3 rfl rfl)
theorem dX7_nightPasses_98 : decode cX7_nightPasses 98 = .ok (.iaload, 1) := dk_46 (dk_at dksX7_nightPasses_4 4 rfl rfl)
theorem dX7_nightPasses_99 : decode cX7_nightPasses 99 = .ok (.bipush 7, 2) := dk_16 7 (dk_at dksX7_nightPasses_4 5 rfl rfl)
theorem dX7_nightPasses_101 : decode cX7_nightPasses 101 = .ok (.irem, 1) := dk_112 (dk_at dksX7_nightPasses_4 7 rfl rfl)
theorem dX7_nightPasses_102 : decode cX7_nightPasses 102 = .ok (.ifCond .ne 7, 3) := dk_154 0 7 (dk_at dksX7_nightPasses_4 8 rfl rfl)
theorem dX7_nightPasses_105 : decode cX7_nightPasses 105 = .ok (.aload_n 0, 1) := dk_42 (dk_at dksX7_nightPasses_4 11 rfl rfl)
theorem dX7_nightPasses_106 : decode cX7_nightPasses 106 = .ok (.invokevirtual 167, 3) := dk_182 0 167 (dk_at dksX7_nightPasses_4 12 rfl rfl)
theorem dX7_nightPasses_109 : decode cX7_nightPasses 109 = .ok (.return_, 1) := dk_177 (dk_at dksX7_nightPasses_4 15 rfl rfl)
abbrev cX7_begins : ByteArray := prog_21_method_28_code
def yX7_begins : MethodName := ⟨RX7, "begins", "()V"⟩
def dkwX7_begins_1 : List UInt8 := [27, 182, 0, 152, 132, 1, 1, 167, 255, 237, 177]
abbrev dktX7_begins_1 : List UInt8 := dkwX7_begins_1 ++ []
def dkwX7_begins_0 : List UInt8 := [42, 180, 0, 7, 8, 92, 46, 4, 96, 79, 3, 60, 27, 42, 180, 0, 7, 16, 6, 46, 162, 0, 14, 42]
abbrev dktX7_begins_0 : List UInt8 := dkwX7_begins_0 ++ dktX7_begins_1
theorem dksX7_begins_0 : cX7_begins.data.toList.drop 0 = dktX7_begins_0 := by decide +kernel
theorem dksX7_begins_1 : cX7_begins.data.toList.drop 24 = dktX7_begins_1 := dk_seg dksX7_begins_0 24 rfl rfl
theorem dX7_begins_0 : decode cX7_begins 0 = .ok (.aload_n 0, 1) := dk_42 (dk_at dksX7_begins_0 0 rfl rfl)
theorem dX7_begins_1 : decode cX7_begins 1 = .ok (.getfield 7, 3) := dk_180 0 7 (dk_at dksX7_begins_0 1 rfl rfl)
theorem dX7_begins_4 : decode cX7_begins 4 = .ok (.iconst 5, 1) := dk_8 (dk_at dksX7_begins_0 4 rfl rfl)
theorem dX7_begins_5 : decode cX7_begins 5 = .ok (.dup2, 1) := dk_92 (dk_at dksX7_begins_0 5 rfl rfl)
theorem dX7_begins_6 : decode cX7_begins 6 = .ok (.iaload, 1) := dk_46 (dk_at dksX7_begins_0 6 rfl rfl)
theorem dX7_begins_7 : decode cX7_begins 7 = .ok (.iconst 1, 1) := dk_4 (dk_at dksX7_begins_0 7 rfl rfl)
theorem dX7_begins_8 : decode cX7_begins 8 = .ok (.iadd, 1) := dk_96 (dk_at dksX7_begins_0 8 rfl rfl)
theorem dX7_begins_9 : decode cX7_begins 9 = .ok (.iastore, 1) := dk_79 (dk_at dksX7_begins_0 9 rfl rfl)
theorem dX7_begins_10 : decode cX7_begins 10 = .ok (.iconst 0, 1) := dk_3 (dk_at dksX7_begins_0 10 rfl rfl)
theorem dX7_begins_11 : decode cX7_begins 11 = .ok (.istore_n 1, 1) := dk_60 (dk_at dksX7_begins_0 11 rfl rfl)
theorem dX7_begins_12 : decode cX7_begins 12 = .ok (.iload_n 1, 1) := dk_27 (dk_at dksX7_begins_0 12 rfl rfl)
theorem dX7_begins_13 : decode cX7_begins 13 = .ok (.aload_n 0, 1) := dk_42 (dk_at dksX7_begins_0 13 rfl rfl)
theorem dX7_begins_14 : decode cX7_begins 14 = .ok (.getfield 7, 3) := dk_180 0 7 (dk_at dksX7_begins_0 14 rfl rfl)
theorem dX7_begins_17 : decode cX7_begins 17 = .ok (.bipush 6, 2) := dk_16 6 (dk_at dksX7_begins_0 17 rfl rfl)
theorem dX7_begins_19 : decode cX7_begins 19 = .ok (.iaload, 1) := dk_46 (dk_at dksX7_begins_0 19 rfl rfl)
theorem dX7_begins_20 : decode cX7_begins 20 = .ok (.if_icmp .ge 14, 3) := dk_162 0 14 (dk_at dksX7_begins_0 20 rfl rfl)
theorem dX7_begins_23 : decode cX7_begins 23 = .ok (.aload_n 0, 1) := dk_42 (dk_at dksX7_begins_0 23 rfl rfl)
theorem dX7_begins_24 : decode cX7_begins 24 = .ok (.iload_n 1, 1) := dk_27 (dk_at dksX7_begins_1 0 rfl rfl)
theorem dX7_begins_25 : decode cX7_begins 25 = .ok (.invokevirtual 152, 3) := dk_182 0 152 (dk_at dksX7_begins_1 1 rfl rfl)
theorem dX7_begins_28 : decode cX7_begins 28 = .ok (.iinc 1 1, 3) := dk_132 1 1 (dk_at dksX7_begins_1 4 rfl rfl)
theorem dX7_begins_31 : decode cX7_begins 31 = .ok (.goto (-19), 3) := dk_167 255 237 (dk_at dksX7_begins_1 7 rfl rfl)
theorem dX7_begins_34 : decode cX7_begins 34 = .ok (.return_, 1) := dk_177 (dk_at dksX7_begins_1 10 rfl rfl)
abbrev cX7_gathers : ByteArray := prog_21_method_21_code
def yX7_gathers : MethodName := ⟨RX7, "gathers", "(I)V"⟩
def dkwX7_gathers_3 : List UInt8 := [3, 79, 177]
abbrev dktX7_gathers_3 : List UInt8 := dkwX7_gathers_3 ++ []
def dkwX7_gathers_2 : List UInt8 := [180, 0, 7, 16, 10, 92, 46, 28, 96, 79, 42, 180, 0, 7, 16, 16, 16, 9, 27, 104, 96, 16, 8, 96]
abbrev dktX7_gathers_2 : List UInt8 := dkwX7_gathers_2 ++ dktX7_gathers_3
def dkwX7_gathers_1 : List UInt8 := [184, 0, 122, 62, 42, 27, 8, 28, 29, 100, 182, 0, 125, 42, 27, 16, 6, 29, 182, 0, 125, 42]
abbrev dktX7_gathers_1 : List UInt8 := dkwX7_gathers_1 ++ dktX7_gathers_2
def dkwX7_gathers_0 : List UInt8 := [42, 27, 6, 182, 0, 96, 61, 3, 42, 27, 8, 182, 0, 96, 28, 96, 42, 27, 7, 182, 0, 96, 100]
abbrev dktX7_gathers_0 : List UInt8 := dkwX7_gathers_0 ++ dktX7_gathers_1
theorem dksX7_gathers_0 : cX7_gathers.data.toList.drop 0 = dktX7_gathers_0 := by decide +kernel
theorem dksX7_gathers_1 : cX7_gathers.data.toList.drop 23 = dktX7_gathers_1 := dk_seg dksX7_gathers_0 23 rfl rfl
theorem dksX7_gathers_2 : cX7_gathers.data.toList.drop 45 = dktX7_gathers_2 := dk_seg dksX7_gathers_1 22 rfl rfl
theorem dksX7_gathers_3 : cX7_gathers.data.toList.drop 69 = dktX7_gathers_3 := dk_seg dksX7_gathers_2 24 rfl rfl
theorem dX7_gathers_0 : decode cX7_gathers 0 = .ok (.aload_n 0, 1) := dk_42 (dk_at dksX7_gathers_0 0 rfl rfl)
theorem dX7_gathers_1 : decode cX7_gathers 1 = .ok (.iload_n 1, 1) := dk_27 (dk_at dksX7_gathers_0 1 rfl rfl)
theorem dX7_gathers_2 : decode cX7_gathers 2 = .ok (.iconst 3, 1) := dk_6 (dk_at dksX7_gathers_0 2 rfl rfl)
theorem dX7_gathers_3 : decode cX7_gathers 3 = .ok (.invokevirtual 96, 3) := dk_182 0 96 (dk_at dksX7_gathers_0 3 rfl rfl)
theorem dX7_gathers_6 : decode cX7_gathers 6 = .ok (.istore_n 2, 1) := dk_61 (dk_at dksX7_gathers_0 6 rfl rfl)
theorem dX7_gathers_7 : decode cX7_gathers 7 = .ok (.iconst 0, 1) := dk_3 (dk_at dksX7_gathers_0 7 rfl rfl)
theorem dX7_gathers_8 : decode cX7_gathers 8 = .ok (.aload_n 0, 1) := dk_42 (dk_at dksX7_gathers_0 8 rfl rfl)
theorem dX7_gathers_9 : decode cX7_gathers 9 = .ok (.iload_n 1, 1) := dk_27 (dk_at dksX7_gathers_0 9 rfl rfl)
theorem dX7_gathers_10 : decode cX7_gathers 10 = .ok (.iconst 5, 1) := dk_8 (dk_at dksX7_gathers_0 10 rfl rfl)
theorem dX7_gathers_11 : decode cX7_gathers 11 = .ok (.invokevirtual 96, 3) := dk_182 0 96 (dk_at dksX7_gathers_0 11 rfl rfl)
theorem dX7_gathers_14 : decode cX7_gathers 14 = .ok (.iload_n 2, 1) := dk_28 (dk_at dksX7_gathers_0 14 rfl rfl)
theorem dX7_gathers_15 : decode cX7_gathers 15 = .ok (.iadd, 1) := dk_96 (dk_at dksX7_gathers_0 15 rfl rfl)
theorem dX7_gathers_16 : decode cX7_gathers 16 = .ok (.aload_n 0, 1) := dk_42 (dk_at dksX7_gathers_0 16 rfl rfl)
theorem dX7_gathers_17 : decode cX7_gathers 17 = .ok (.iload_n 1, 1) := dk_27 (dk_at dksX7_gathers_0 17 rfl rfl)
theorem dX7_gathers_18 : decode cX7_gathers 18 = .ok (.iconst 4, 1) := dk_7 (dk_at dksX7_gathers_0 18 rfl rfl)
theorem dX7_gathers_19 : decode cX7_gathers 19 = .ok (.invokevirtual 96, 3) := dk_182 0 96 (dk_at dksX7_gathers_0 19 rfl rfl)
theorem dX7_gathers_22 : decode cX7_gathers 22 = .ok (.isub, 1) := dk_100 (dk_at dksX7_gathers_0 22 rfl rfl)
theorem dX7_gathers_23 : decode cX7_gathers 23 = .ok (.invokestatic 122, 3) := dk_184 0 122 (dk_at dksX7_gathers_1 0 rfl rfl)
theorem dX7_gathers_26 : decode cX7_gathers 26 = .ok (.istore_n 3, 1) := dk_62 (dk_at dksX7_gathers_1 3 rfl rfl)
theorem dX7_gathers_27 : decode cX7_gathers 27 = .ok (.aload_n 0, 1) := dk_42 (dk_at dksX7_gathers_1 4 rfl rfl)
theorem dX7_gathers_28 : decode cX7_gathers 28 = .ok (.iload_n 1, 1) := dk_27 (dk_at dksX7_gathers_1 5 rfl rfl)
theorem dX7_gathers_29 : decode cX7_gathers 29 = .ok (.iconst 5, 1) := dk_8 (dk_at dksX7_gathers_1 6 rfl rfl)
theorem dX7_gathers_30 : decode cX7_gathers 30 = .ok (.iload_n 2, 1) := dk_28 (dk_at dksX7_gathers_1 7 rfl rfl)
theorem dX7_gathers_31 : decode cX7_gathers 31 = .ok (.iload_n 3, 1) := dk_29 (dk_at dksX7_gathers_1 8 rfl rfl)
theorem dX7_gathers_32 : decode cX7_gathers 32 = .ok (.isub, 1) := dk_100 (dk_at dksX7_gathers_1 9 rfl rfl)
theorem dX7_gathers_33 : decode cX7_gathers 33 = .ok (.invokevirtual 125, 3) := dk_182 0 125 (dk_at dksX7_gathers_1 10 rfl rfl)
theorem dX7_gathers_36 : decode cX7_gathers 36 = .ok (.aload_n 0, 1) := dk_42 (dk_at dksX7_gathers_1 13 rfl rfl)
theorem dX7_gathers_37 : decode cX7_gathers 37 = .ok (.iload_n 1, 1) := dk_27 (dk_at dksX7_gathers_1 14 rfl rfl)
theorem dX7_gathers_38 : decode cX7_gathers 38 = .ok (.bipush 6, 2) := dk_16 6 (dk_at dksX7_gathers_1 15 rfl rfl)
theorem dX7_gathers_40 : decode cX7_gathers 40 = .ok (.iload_n 3, 1) := dk_29 (dk_at dksX7_gathers_1 17 rfl rfl)
theorem dX7_gathers_41 : decode cX7_gathers 41 = .ok (.invokevirtual 125, 3) := dk_182 0 125 (dk_at dksX7_gathers_1 18 rfl rfl)
theorem dX7_gathers_44 : decode cX7_gathers 44 = .ok (.aload_n 0, 1) := dk_42 (dk_at dksX7_gathers_1 21 rfl rfl)
theorem dX7_gathers_45 : decode cX7_gathers 45 = .ok (.getfield 7, 3) := dk_180 0 7 (dk_at dksX7_gathers_2 0 rfl rfl)
theorem dX7_gathers_48 : decode cX7_gathers 48 = .ok (.bipush 10, 2) := dk_16 10 (dk_at dksX7_gathers_2 3 rfl rfl)
theorem dX7_gathers_50 : decode cX7_gathers 50 = .ok (.dup2, 1) := dk_92 (dk_at dksX7_gathers_2 5 rfl rfl)
theorem dX7_gathers_51 : decode cX7_gathers 51 = .ok (.iaload, 1) := dk_46 (dk_at dksX7_gathers_2 6 rfl rfl)
theorem dX7_gathers_52 : decode cX7_gathers 52 = .ok (.iload_n 2, 1) := dk_28 (dk_at dksX7_gathers_2 7 rfl rfl)
theorem dX7_gathers_53 : decode cX7_gathers 53 = .ok (.iadd, 1) := dk_96 (dk_at dksX7_gathers_2 8 rfl rfl)
theorem dX7_gathers_54 : decode cX7_gathers 54 = .ok (.iastore, 1) := dk_79 (dk_at dksX7_gathers_2 9 rfl rfl)
theorem dX7_gathers_55 : decode cX7_gathers 55 = .ok (.aload_n 0, 1) := dk_42 (dk_at dksX7_gathers_2 10 rfl rfl)
theorem dX7_gathers_56 : decode cX7_gathers 56 = .ok (.getfield 7, 3) := dk_180 0 7 (dk_at dksX7_gathers_2 11 rfl rfl)
theorem dX7_gathers_59 : decode cX7_gathers 59 = .ok (.bipush 16, 2) := dk_16 16 (dk_at dksX7_gathers_2 14 rfl rfl)
theorem dX7_gathers_61 : decode cX7_gathers 61 = .ok (.bipush 9, 2) := dk_16 9 (dk_at dksX7_gathers_2 16 rfl rfl)
theorem dX7_gathers_63 : decode cX7_gathers 63 = .ok (.iload_n 1, 1) := dk_27 (dk_at dksX7_gathers_2 18 rfl rfl)
theorem dX7_gathers_64 : decode cX7_gathers 64 = .ok (.imul, 1) := dk_104 (dk_at dksX7_gathers_2 19 rfl rfl)
theorem dX7_gathers_65 : decode cX7_gathers 65 = .ok (.iadd, 1) := dk_96 (dk_at dksX7_gathers_2 20 rfl rfl)
theorem dX7_gathers_66 : decode cX7_gathers 66 = .ok (.bipush 8, 2) := dk_16 8 (dk_at dksX7_gathers_2 21 rfl rfl)
theorem dX7_gathers_68 : decode cX7_gathers 68 = .ok (.iadd, 1) := dk_96 (dk_at dksX7_gathers_2 23 rfl rfl)
theorem dX7_gathers_69 : decode cX7_gathers 69 = .ok (.iconst 0, 1) := dk_3 (dk_at dksX7_gathers_3 0 rfl rfl)
theorem dX7_gathers_70 : decode cX7_gathers 70 = .ok (.iastore, 1) := dk_79 (dk_at dksX7_gathers_3 1 rfl rfl)
theorem dX7_gathers_71 : decode cX7_gathers 71 = .ok (.return_, 1) := dk_177 (dk_at dksX7_gathers_3 2 rfl rfl)
abbrev cX7_addS : ByteArray := prog_21_method_7_code
def yX7_addS : MethodName := ⟨RX7, "addS", "(III)V"⟩
def dkwX7_addS_0 : List UInt8 := [42, 180, 0, 7, 16, 16, 16, 9, 27, 104, 96, 28, 96, 92, 46, 29, 96, 79, 177]
abbrev dktX7_addS_0 : List UInt8 := dkwX7_addS_0 ++ []
theorem dksX7_addS_0 : cX7_addS.data.toList.drop 0 = dktX7_addS_0 := by decide +kernel
theorem dX7_addS_0 : decode cX7_addS 0 = .ok (.aload_n 0, 1) := dk_42 (dk_at dksX7_addS_0 0 rfl rfl)
theorem dX7_addS_1 : decode cX7_addS 1 = .ok (.getfield 7, 3) := dk_180 0 7 (dk_at dksX7_addS_0 1 rfl rfl)
theorem dX7_addS_4 : decode cX7_addS 4 = .ok (.bipush 16, 2) := dk_16 16 (dk_at dksX7_addS_0 4 rfl rfl)
theorem dX7_addS_6 : decode cX7_addS 6 = .ok (.bipush 9, 2) := dk_16 9 (dk_at dksX7_addS_0 6 rfl rfl)
theorem dX7_addS_8 : decode cX7_addS 8 = .ok (.iload_n 1, 1) := dk_27 (dk_at dksX7_addS_0 8 rfl rfl)
theorem dX7_addS_9 : decode cX7_addS 9 = .ok (.imul, 1) := dk_104 (dk_at dksX7_addS_0 9 rfl rfl)
theorem dX7_addS_10 : decode cX7_addS 10 = .ok (.iadd, 1) := dk_96 (dk_at dksX7_addS_0 10 rfl rfl)
theorem dX7_addS_11 : decode cX7_addS 11 = .ok (.iload_n 2, 1) := dk_28 (dk_at dksX7_addS_0 11 rfl rfl)
theorem dX7_addS_12 : decode cX7_addS 12 = .ok (.iadd, 1) := dk_96 (dk_at dksX7_addS_0 12 rfl rfl)
theorem dX7_addS_13 : decode cX7_addS 13 = .ok (.dup2, 1) := dk_92 (dk_at dksX7_addS_0 13 rfl rfl)
theorem dX7_addS_14 : decode cX7_addS 14 = .ok (.iaload, 1) := dk_46 (dk_at dksX7_addS_0 14 rfl rfl)
theorem dX7_addS_15 : decode cX7_addS 15 = .ok (.iload_n 3, 1) := dk_29 (dk_at dksX7_addS_0 15 rfl rfl)
theorem dX7_addS_16 : decode cX7_addS 16 = .ok (.iadd, 1) := dk_96 (dk_at dksX7_addS_0 16 rfl rfl)
theorem dX7_addS_17 : decode cX7_addS 17 = .ok (.iastore, 1) := dk_79 (dk_at dksX7_addS_0 17 rfl rfl)
theorem dX7_addS_18 : decode cX7_addS 18 = .ok (.return_, 1) := dk_177 (dk_at dksX7_addS_0 18 rfl rfl)
abbrev cX7_delivers : ByteArray := prog_21_method_24_code
def yX7_delivers : MethodName := ⟨RX7, "delivers", "(I)V"⟩
def dkwX7_delivers_7 : List UInt8 := [132, 4, 1, 167, 255, 221, 177]
abbrev dktX7_delivers_7 : List UInt8 := dkwX7_delivers_7 ++ []
def dkwX7_delivers_6 : List UInt8 := [46, 162, 0, 29, 42, 29, 28, 21, 4, 182, 0, 146, 153, 0, 12, 42, 21, 4, 16, 7, 4, 182, 0, 125]
abbrev dktX7_delivers_6 : List UInt8 := dkwX7_delivers_6 ++ dktX7_delivers_7
def dkwX7_delivers_5 : List UInt8 := [96, 79, 42, 27, 28, 42, 27, 182, 0, 139, 182, 0, 142, 3, 54, 4, 21, 4, 42, 180, 0, 7, 16, 6]
abbrev dktX7_delivers_5 : List UInt8 := dkwX7_delivers_5 ++ dktX7_delivers_6
def dkwX7_delivers_4 : List UInt8 := [46, 4, 96, 79, 42, 180, 0, 7, 16, 11, 92, 46, 28, 96, 79, 42, 180, 0, 7, 16, 12, 92, 46, 4]
abbrev dktX7_delivers_4 : List UInt8 := dkwX7_delivers_4 ++ dktX7_delivers_5
def dkwX7_delivers_3 : List UInt8 := [182, 0, 139, 153, 0, 25, 42, 42, 180, 0, 7, 5, 46, 116, 182, 0, 135, 42, 180, 0, 7, 16, 13, 92]
abbrev dktX7_delivers_3 : List UInt8 := dkwX7_delivers_3 ++ dktX7_delivers_4
def dkwX7_delivers_2 : List UInt8 := [182, 0, 92, 7, 28, 182, 0, 132, 42, 28, 42, 180, 0, 7, 4, 46, 104, 182, 0, 135, 42, 27]
abbrev dktX7_delivers_2 : List UInt8 := dkwX7_delivers_2 ++ dktX7_delivers_3
def dkwX7_delivers_1 : List UInt8 := [182, 0, 125, 42, 180, 0, 7, 16, 16, 16, 9, 29, 104, 96, 16, 8, 96, 4, 79, 42, 42, 27, 6]
abbrev dktX7_delivers_1 : List UInt8 := dkwX7_delivers_1 ++ dktX7_delivers_2
def dkwX7_delivers_0 : List UInt8 := [42, 27, 182, 0, 129, 61, 28, 154, 0, 4, 177, 42, 27, 5, 182, 0, 92, 62, 42, 29, 8, 28, 116]
abbrev dktX7_delivers_0 : List UInt8 := dkwX7_delivers_0 ++ dktX7_delivers_1
theorem dksX7_delivers_0 : cX7_delivers.data.toList.drop 0 = dktX7_delivers_0 := by decide +kernel
theorem dksX7_delivers_1 : cX7_delivers.data.toList.drop 23 = dktX7_delivers_1 := dk_seg dksX7_delivers_0 23 rfl rfl
theorem dksX7_delivers_2 : cX7_delivers.data.toList.drop 46 = dktX7_delivers_2 := dk_seg dksX7_delivers_1 23 rfl rfl
theorem dksX7_delivers_3 : cX7_delivers.data.toList.drop 68 = dktX7_delivers_3 := dk_seg dksX7_delivers_2 22 rfl rfl
theorem dksX7_delivers_4 : cX7_delivers.data.toList.drop 92 = dktX7_delivers_4 := dk_seg dksX7_delivers_3 24 rfl rfl
theorem dksX7_delivers_5 : cX7_delivers.data.toList.drop 116 = dktX7_delivers_5 := dk_seg dksX7_delivers_4 24 rfl rfl
theorem dksX7_delivers_6 : cX7_delivers.data.toList.drop 140 = dktX7_delivers_6 := dk_seg dksX7_delivers_5 24 rfl rfl
theorem dksX7_delivers_7 : cX7_delivers.data.toList.drop 164 = dktX7_delivers_7 := dk_seg dksX7_delivers_6 24 rfl rfl
theorem dX7_delivers_0 : decode cX7_delivers 0 = .ok (.aload_n 0, 1) := dk_42 (dk_at dksX7_delivers_0 0 rfl rfl)
theorem dX7_delivers_1 : decode cX7_delivers 1 = .ok (.iload_n 1, 1) := dk_27 (dk_at dksX7_delivers_0 1 rfl rfl)
theorem dX7_delivers_2 : decode cX7_delivers 2 = .ok (.invokevirtual 129, 3) := dk_182 0 129 (dk_at dksX7_delivers_0 2 rfl rfl)
theorem dX7_delivers_5 : decode cX7_delivers 5 = .ok (.istore_n 2, 1) := dk_61 (dk_at dksX7_delivers_0 5 rfl rfl)
theorem dX7_delivers_6 : decode cX7_delivers 6 = .ok (.iload_n 2, 1) := dk_28 (dk_at dksX7_delivers_0 6 rfl rfl)
theorem dX7_delivers_7 : decode cX7_delivers 7 = .ok (.ifCond .ne 4, 3) := dk_154 0 4 (dk_at dksX7_delivers_0 7 rfl rfl)
theorem dX7_delivers_10 : decode cX7_delivers 10 = .ok (.return_, 1) := dk_177 (dk_at dksX7_delivers_0 10 rfl rfl)
theorem dX7_delivers_11 : decode cX7_delivers 11 = .ok (.aload_n 0, 1) := dk_42 (dk_at dksX7_delivers_0 11 rfl rfl)
theorem dX7_delivers_12 : decode cX7_delivers 12 = .ok (.iload_n 1, 1) := dk_27 (dk_at dksX7_delivers_0 12 rfl rfl)
theorem dX7_delivers_13 : decode cX7_delivers 13 = .ok (.iconst 2, 1) := dk_5 (dk_at dksX7_delivers_0 13 rfl rfl)
theorem dX7_delivers_14 : decode cX7_delivers 14 = .ok (.invokevirtual 92, 3) := dk_182 0 92 (dk_at dksX7_delivers_0 14 rfl rfl)
theorem dX7_delivers_17 : decode cX7_delivers 17 = .ok (.istore_n 3, 1) := dk_62 (dk_at dksX7_delivers_0 17 rfl rfl)
theorem dX7_delivers_18 : decode cX7_delivers 18 = .ok (.aload_n 0, 1) := dk_42 (dk_at dksX7_delivers_0 18 rfl rfl)
theorem dX7_delivers_19 : decode cX7_delivers 19 = .ok (.iload_n 3, 1) := dk_29 (dk_at dksX7_delivers_0 19 rfl rfl)
theorem dX7_delivers_20 : decode cX7_delivers 20 = .ok (.iconst 5, 1) := dk_8 (dk_at dksX7_delivers_0 20 rfl rfl)
theorem dX7_delivers_21 : decode cX7_delivers 21 = .ok (.iload_n 2, 1) := dk_28 (dk_at dksX7_delivers_0 21 rfl rfl)
theorem dX7_delivers_22 : decode cX7_delivers 22 = .ok (.ineg, 1) := dk_116 (dk_at dksX7_delivers_0 22 rfl rfl)
theorem dX7_delivers_23 : decode cX7_delivers 23 = .ok (.invokevirtual 125, 3) := dk_182 0 125 (dk_at dksX7_delivers_1 0 rfl rfl)
theorem dX7_delivers_26 : decode cX7_delivers 26 = .ok (.aload_n 0, 1) := dk_42 (dk_at dksX7_delivers_1 3 rfl rfl)
theorem dX7_delivers_27 : decode cX7_delivers 27 = .ok (.getfield 7, 3) := dk_180 0 7 (dk_at dksX7_delivers_1 4 rfl rfl)
theorem dX7_delivers_30 : decode cX7_delivers 30 = .ok (.bipush 16, 2) := dk_16 16 (dk_at dksX7_delivers_1 7 rfl rfl)
theorem dX7_delivers_32 : decode cX7_delivers 32 = .ok (.bipush 9, 2) := dk_16 9 (dk_at dksX7_delivers_1 9 rfl rfl)
theorem dX7_delivers_34 : decode cX7_delivers 34 = .ok (.iload_n 3, 1) := dk_29 (dk_at dksX7_delivers_1 11 rfl rfl)
theorem dX7_delivers_35 : decode cX7_delivers 35 = .ok (.imul, 1) := dk_104 (dk_at dksX7_delivers_1 12 rfl rfl)
theorem dX7_delivers_36 : decode cX7_delivers 36 = .ok (.iadd, 1) := dk_96 (dk_at dksX7_delivers_1 13 rfl rfl)
theorem dX7_delivers_37 : decode cX7_delivers 37 = .ok (.bipush 8, 2) := dk_16 8 (dk_at dksX7_delivers_1 14 rfl rfl)
theorem dX7_delivers_39 : decode cX7_delivers 39 = .ok (.iadd, 1) := dk_96 (dk_at dksX7_delivers_1 16 rfl rfl)
theorem dX7_delivers_40 : decode cX7_delivers 40 = .ok (.iconst 1, 1) := dk_4 (dk_at dksX7_delivers_1 17 rfl rfl)
theorem dX7_delivers_41 : decode cX7_delivers 41 = .ok (.iastore, 1) := dk_79 (dk_at dksX7_delivers_1 18 rfl rfl)
theorem dX7_delivers_42 : decode cX7_delivers 42 = .ok (.aload_n 0, 1) := dk_42 (dk_at dksX7_delivers_1 19 rfl rfl)
theorem dX7_delivers_43 : decode cX7_delivers 43 = .ok (.aload_n 0, 1) := dk_42 (dk_at dksX7_delivers_1 20 rfl rfl)
theorem dX7_delivers_44 : decode cX7_delivers 44 = .ok (.iload_n 1, 1) := dk_27 (dk_at dksX7_delivers_1 21 rfl rfl)
theorem dX7_delivers_45 : decode cX7_delivers 45 = .ok (.iconst 3, 1) := dk_6 (dk_at dksX7_delivers_1 22 rfl rfl)
theorem dX7_delivers_46 : decode cX7_delivers 46 = .ok (.invokevirtual 92, 3) := dk_182 0 92 (dk_at dksX7_delivers_2 0 rfl rfl)
theorem dX7_delivers_49 : decode cX7_delivers 49 = .ok (.iconst 4, 1) := dk_7 (dk_at dksX7_delivers_2 3 rfl rfl)
theorem dX7_delivers_50 : decode cX7_delivers 50 = .ok (.iload_n 2, 1) := dk_28 (dk_at dksX7_delivers_2 4 rfl rfl)
theorem dX7_delivers_51 : decode cX7_delivers 51 = .ok (.invokevirtual 132, 3) := dk_182 0 132 (dk_at dksX7_delivers_2 5 rfl rfl)
theorem dX7_delivers_54 : decode cX7_delivers 54 = .ok (.aload_n 0, 1) := dk_42 (dk_at dksX7_delivers_2 8 rfl rfl)
theorem dX7_delivers_55 : decode cX7_delivers 55 = .ok (.iload_n 2, 1) := dk_28 (dk_at dksX7_delivers_2 9 rfl rfl)
theorem dX7_delivers_56 : decode cX7_delivers 56 = .ok (.aload_n 0, 1) := dk_42 (dk_at dksX7_delivers_2 10 rfl rfl)
theorem dX7_delivers_57 : decode cX7_delivers 57 = .ok (.getfield 7, 3) := dk_180 0 7 (dk_at dksX7_delivers_2 11 rfl rfl)
theorem dX7_delivers_60 : decode cX7_delivers 60 = .ok (.iconst 1, 1) := dk_4 (dk_at dksX7_delivers_2 14 rfl rfl)
theorem dX7_delivers_61 : decode cX7_delivers 61 = .ok (.iaload, 1) := dk_46 (dk_at dksX7_delivers_2 15 rfl rfl)
theorem dX7_delivers_62 : decode cX7_delivers 62 = .ok (.imul, 1) := dk_104 (dk_at dksX7_delivers_2 16 rfl rfl)
theorem dX7_delivers_63 : decode cX7_delivers 63 = .ok (.invokevirtual 135, 3) := dk_182 0 135 (dk_at dksX7_delivers_2 17 rfl rfl)
theorem dX7_delivers_66 : decode cX7_delivers 66 = .ok (.aload_n 0, 1) := dk_42 (dk_at dksX7_delivers_2 20 rfl rfl)
theorem dX7_delivers_67 : decode cX7_delivers 67 = .ok (.iload_n 1, 1) := dk_27 (dk_at dksX7_delivers_2 21 rfl rfl)
theorem dX7_delivers_68 : decode cX7_delivers 68 = .ok (.invokevirtual 139, 3) := dk_182 0 139 (dk_at dksX7_delivers_3 0 rfl rfl)
theorem dX7_delivers_71 : decode cX7_delivers 71 = .ok (.ifCond .eq 25, 3) := dk_153 0 25 (dk_at dksX7_delivers_3 3 rfl rfl)
theorem dX7_delivers_74 : decode cX7_delivers 74 = .ok (.aload_n 0, 1) := dk_42 (dk_at dksX7_delivers_3 6 rfl rfl)
theorem dX7_delivers_75 : decode cX7_delivers 75 = .ok (.aload_n 0, 1) := dk_42 (dk_at dksX7_delivers_3 7 rfl rfl)
theorem dX7_delivers_76 : decode cX7_delivers 76 = .ok (.getfield 7, 3) := dk_180 0 7 (dk_at dksX7_delivers_3 8 rfl rfl)
theorem dX7_delivers_79 : decode cX7_delivers 79 = .ok (.iconst 2, 1) := dk_5 (dk_at dksX7_delivers_3 11 rfl rfl)
theorem dX7_delivers_80 : decode cX7_delivers 80 = .ok (.iaload, 1) := dk_46 (dk_at dksX7_delivers_3 12 rfl rfl)
theorem dX7_delivers_81 : decode cX7_delivers 81 = .ok (.ineg, 1) := dk_116 (dk_at dksX7_delivers_3 13 rfl rfl)
theorem dX7_delivers_82 : decode cX7_delivers 82 = .ok (.invokevirtual 135, 3) := dk_182 0 135 (dk_at dksX7_delivers_3 14 rfl rfl)
theorem dX7_delivers_85 : decode cX7_delivers 85 = .ok (.aload_n 0, 1) := dk_42 (dk_at dksX7_delivers_3 17 rfl rfl)
theorem dX7_delivers_86 : decode cX7_delivers 86 = .ok (.getfield 7, 3) := dk_180 0 7 (dk_at dksX7_delivers_3 18 rfl rfl)
theorem dX7_delivers_89 : decode cX7_delivers 89 = .ok (.bipush 13, 2) := dk_16 13 (dk_at dksX7_delivers_3 21 rfl rfl)
theorem dX7_delivers_91 : decode cX7_delivers 91 = .ok (.dup2, 1) := dk_92 (dk_at dksX7_delivers_3 23 rfl rfl)
theorem dX7_delivers_92 : decode cX7_delivers 92 = .ok (.iaload, 1) := dk_46 (dk_at dksX7_delivers_4 0 rfl rfl)
theorem dX7_delivers_93 : decode cX7_delivers 93 = .ok (.iconst 1, 1) := dk_4 (dk_at dksX7_delivers_4 1 rfl rfl)
theorem dX7_delivers_94 : decode cX7_delivers 94 = .ok (.iadd, 1) := dk_96 (dk_at dksX7_delivers_4 2 rfl rfl)
theorem dX7_delivers_95 : decode cX7_delivers 95 = .ok (.iastore, 1) := dk_79 (dk_at dksX7_delivers_4 3 rfl rfl)
theorem dX7_delivers_96 : decode cX7_delivers 96 = .ok (.aload_n 0, 1) := dk_42 (dk_at dksX7_delivers_4 4 rfl rfl)
theorem dX7_delivers_97 : decode cX7_delivers 97 = .ok (.getfield 7, 3) := dk_180 0 7 (dk_at dksX7_delivers_4 5 rfl rfl)
theorem dX7_delivers_100 : decode cX7_delivers 100 = .ok (.bipush 11, 2) := dk_16 11 (dk_at dksX7_delivers_4 8 rfl rfl)
theorem dX7_delivers_102 : decode cX7_delivers 102 = .ok (.dup2, 1) := dk_92 (dk_at dksX7_delivers_4 10 rfl rfl)
theorem dX7_delivers_103 : decode cX7_delivers 103 = .ok (.iaload, 1) := dk_46 (dk_at dksX7_delivers_4 11 rfl rfl)
theorem dX7_delivers_104 : decode cX7_delivers 104 = .ok (.iload_n 2, 1) := dk_28 (dk_at dksX7_delivers_4 12 rfl rfl)
theorem dX7_delivers_105 : decode cX7_delivers 105 = .ok (.iadd, 1) := dk_96 (dk_at dksX7_delivers_4 13 rfl rfl)
theorem dX7_delivers_106 : decode cX7_delivers 106 = .ok (.iastore, 1) := dk_79 (dk_at dksX7_delivers_4 14 rfl rfl)
theorem dX7_delivers_107 : decode cX7_delivers 107 = .ok (.aload_n 0, 1) := dk_42 (dk_at dksX7_delivers_4 15 rfl rfl)
theorem dX7_delivers_108 : decode cX7_delivers 108 = .ok (.getfield 7, 3) := dk_180 0 7 (dk_at dksX7_delivers_4 16 rfl rfl)
theorem dX7_delivers_111 : decode cX7_delivers 111 = .ok (.bipush 12, 2) := dk_16 12 (dk_at dksX7_delivers_4 19 rfl rfl)
theorem dX7_delivers_113 : decode cX7_delivers 113 = .ok (.dup2, 1) := dk_92 (dk_at dksX7_delivers_4 21 rfl rfl)
theorem dX7_delivers_114 : decode cX7_delivers 114 = .ok (.iaload, 1) := dk_46 (dk_at dksX7_delivers_4 22 rfl rfl)
theorem dX7_delivers_115 : decode cX7_delivers 115 = .ok (.iconst 1, 1) := dk_4 (dk_at dksX7_delivers_4 23 rfl rfl)
theorem dX7_delivers_116 : decode cX7_delivers 116 = .ok (.iadd, 1) := dk_96 (dk_at dksX7_delivers_5 0 rfl rfl)
theorem dX7_delivers_117 : decode cX7_delivers 117 = .ok (.iastore, 1) := dk_79 (dk_at dksX7_delivers_5 1 rfl rfl)
theorem dX7_delivers_118 : decode cX7_delivers 118 = .ok (.aload_n 0, 1) := dk_42 (dk_at dksX7_delivers_5 2 rfl rfl)
theorem dX7_delivers_119 : decode cX7_delivers 119 = .ok (.iload_n 1, 1) := dk_27 (dk_at dksX7_delivers_5 3 rfl rfl)
theorem dX7_delivers_120 : decode cX7_delivers 120 = .ok (.iload_n 2, 1) := dk_28 (dk_at dksX7_delivers_5 4 rfl rfl)
theorem dX7_delivers_121 : decode cX7_delivers 121 = .ok (.aload_n 0, 1) := dk_42 (dk_at dksX7_delivers_5 5 rfl rfl)
theorem dX7_delivers_122 : decode cX7_delivers 122 = .ok (.iload_n 1, 1) := dk_27 (dk_at dksX7_delivers_5 6 rfl rfl)
theorem dX7_delivers_123 : decode cX7_delivers 123 = .ok (.invokevirtual 139, 3) := dk_182 0 139 (dk_at dksX7_delivers_5 7 rfl rfl)
theorem dX7_delivers_126 : decode cX7_delivers 126 = .ok (.invokevirtual 142, 3) := dk_182 0 142 (dk_at dksX7_delivers_5 10 rfl rfl)
theorem dX7_delivers_129 : decode cX7_delivers 129 = .ok (.iconst 0, 1) := dk_3 (dk_at dksX7_delivers_5 13 rfl rfl)
theorem dX7_delivers_130 : decode cX7_delivers 130 = .ok (.istore 4, 2) := dk_54 4 (dk_at dksX7_delivers_5 14 rfl rfl)
theorem dX7_delivers_132 : decode cX7_delivers 132 = .ok (.iload 4, 2) := dk_21 4 (dk_at dksX7_delivers_5 16 rfl rfl)
theorem dX7_delivers_134 : decode cX7_delivers 134 = .ok (.aload_n 0, 1) := dk_42 (dk_at dksX7_delivers_5 18 rfl rfl)
theorem dX7_delivers_135 : decode cX7_delivers 135 = .ok (.getfield 7, 3) := dk_180 0 7 (dk_at dksX7_delivers_5 19 rfl rfl)
theorem dX7_delivers_138 : decode cX7_delivers 138 = .ok (.bipush 6, 2) := dk_16 6 (dk_at dksX7_delivers_5 22 rfl rfl)
theorem dX7_delivers_140 : decode cX7_delivers 140 = .ok (.iaload, 1) := dk_46 (dk_at dksX7_delivers_6 0 rfl rfl)
theorem dX7_delivers_141 : decode cX7_delivers 141 = .ok (.if_icmp .ge 29, 3) := dk_162 0 29 (dk_at dksX7_delivers_6 1 rfl rfl)
theorem dX7_delivers_144 : decode cX7_delivers 144 = .ok (.aload_n 0, 1) := dk_42 (dk_at dksX7_delivers_6 4 rfl rfl)
theorem dX7_delivers_145 : decode cX7_delivers 145 = .ok (.iload_n 3, 1) := dk_29 (dk_at dksX7_delivers_6 5 rfl rfl)
theorem dX7_delivers_146 : decode cX7_delivers 146 = .ok (.iload_n 2, 1) := dk_28 (dk_at dksX7_delivers_6 6 rfl rfl)
theorem dX7_delivers_147 : decode cX7_delivers 147 = .ok (.iload 4, 2) := dk_21 4 (dk_at dksX7_delivers_6 7 rfl rfl)
theorem dX7_delivers_149 : decode cX7_delivers 149 = .ok (.invokevirtual 146, 3) := dk_182 0 146 (dk_at dksX7_delivers_6 9 rfl rfl)
theorem dX7_delivers_152 : decode cX7_delivers 152 = .ok (.ifCond .eq 12, 3) := dk_153 0 12 (dk_at dksX7_delivers_6 12 rfl rfl)
theorem dX7_delivers_155 : decode cX7_delivers 155 = .ok (.aload_n 0, 1) := dk_42 (dk_at dksX7_delivers_6 15 rfl rfl)
theorem dX7_delivers_156 : decode cX7_delivers 156 = .ok (.iload 4, 2) := dk_21 4 (dk_at dksX7_delivers_6 16 rfl rfl)
theorem dX7_delivers_158 : decode cX7_delivers 158 = .ok (.bipush 7, 2) := dk_16 7 (dk_at dksX7_delivers_6 18 rfl rfl)
theorem dX7_delivers_160 : decode cX7_delivers 160 = .ok (.iconst 1, 1) := dk_4 (dk_at dksX7_delivers_6 20 rfl rfl)
theorem dX7_delivers_161 : decode cX7_delivers 161 = .ok (.invokevirtual 125, 3) := dk_182 0 125 (dk_at dksX7_delivers_6 21 rfl rfl)
theorem dX7_delivers_164 : decode cX7_delivers 164 = .ok (.iinc 4 1, 3) := dk_132 4 1 (dk_at dksX7_delivers_7 0 rfl rfl)
theorem dX7_delivers_167 : decode cX7_delivers 167 = .ok (.goto (-35), 3) := dk_167 255 221 (dk_at dksX7_delivers_7 3 rfl rfl)
theorem dX7_delivers_170 : decode cX7_delivers 170 = .ok (.return_, 1) := dk_177 (dk_at dksX7_delivers_7 6 rfl rfl)
abbrev cX7_loadOf : ByteArray := prog_21_method_19_code
def yX7_loadOf : MethodName := ⟨RX7, "loadOf", "(I)I"⟩
def dkwX7_loadOf_1 : List UInt8 := [182, 0, 96, 184, 0, 115, 167, 0, 4, 3, 172]
abbrev dktX7_loadOf_1 : List UInt8 := dkwX7_loadOf_1 ++ []
def dkwX7_loadOf_0 : List UInt8 := [42, 27, 182, 0, 111, 153, 0, 26, 42, 27, 3, 182, 0, 92, 42, 42, 27, 5, 182, 0, 92, 8]
abbrev dktX7_loadOf_0 : List UInt8 := dkwX7_loadOf_0 ++ dktX7_loadOf_1
theorem dksX7_loadOf_0 : cX7_loadOf.data.toList.drop 0 = dktX7_loadOf_0 := by decide +kernel
theorem dksX7_loadOf_1 : cX7_loadOf.data.toList.drop 22 = dktX7_loadOf_1 := dk_seg dksX7_loadOf_0 22 rfl rfl
theorem dX7_loadOf_0 : decode cX7_loadOf 0 = .ok (.aload_n 0, 1) := dk_42 (dk_at dksX7_loadOf_0 0 rfl rfl)
theorem dX7_loadOf_1 : decode cX7_loadOf 1 = .ok (.iload_n 1, 1) := dk_27 (dk_at dksX7_loadOf_0 1 rfl rfl)
theorem dX7_loadOf_2 : decode cX7_loadOf 2 = .ok (.invokevirtual 111, 3) := dk_182 0 111 (dk_at dksX7_loadOf_0 2 rfl rfl)
theorem dX7_loadOf_5 : decode cX7_loadOf 5 = .ok (.ifCond .eq 26, 3) := dk_153 0 26 (dk_at dksX7_loadOf_0 5 rfl rfl)
theorem dX7_loadOf_8 : decode cX7_loadOf 8 = .ok (.aload_n 0, 1) := dk_42 (dk_at dksX7_loadOf_0 8 rfl rfl)
theorem dX7_loadOf_9 : decode cX7_loadOf 9 = .ok (.iload_n 1, 1) := dk_27 (dk_at dksX7_loadOf_0 9 rfl rfl)
theorem dX7_loadOf_10 : decode cX7_loadOf 10 = .ok (.iconst 0, 1) := dk_3 (dk_at dksX7_loadOf_0 10 rfl rfl)
theorem dX7_loadOf_11 : decode cX7_loadOf 11 = .ok (.invokevirtual 92, 3) := dk_182 0 92 (dk_at dksX7_loadOf_0 11 rfl rfl)
theorem dX7_loadOf_14 : decode cX7_loadOf 14 = .ok (.aload_n 0, 1) := dk_42 (dk_at dksX7_loadOf_0 14 rfl rfl)
theorem dX7_loadOf_15 : decode cX7_loadOf 15 = .ok (.aload_n 0, 1) := dk_42 (dk_at dksX7_loadOf_0 15 rfl rfl)
theorem dX7_loadOf_16 : decode cX7_loadOf 16 = .ok (.iload_n 1, 1) := dk_27 (dk_at dksX7_loadOf_0 16 rfl rfl)
theorem dX7_loadOf_17 : decode cX7_loadOf 17 = .ok (.iconst 2, 1) := dk_5 (dk_at dksX7_loadOf_0 17 rfl rfl)
theorem dX7_loadOf_18 : decode cX7_loadOf 18 = .ok (.invokevirtual 92, 3) := dk_182 0 92 (dk_at dksX7_loadOf_0 18 rfl rfl)
theorem dX7_loadOf_21 : decode cX7_loadOf 21 = .ok (.iconst 5, 1) := dk_8 (dk_at dksX7_loadOf_0 21 rfl rfl)
theorem dX7_loadOf_22 : decode cX7_loadOf 22 = .ok (.invokevirtual 96, 3) := dk_182 0 96 (dk_at dksX7_loadOf_1 0 rfl rfl)
theorem dX7_loadOf_25 : decode cX7_loadOf 25 = .ok (.invokestatic 115, 3) := dk_184 0 115 (dk_at dksX7_loadOf_1 3 rfl rfl)
theorem dX7_loadOf_28 : decode cX7_loadOf 28 = .ok (.goto 4, 3) := dk_167 0 4 (dk_at dksX7_loadOf_1 6 rfl rfl)
theorem dX7_loadOf_31 : decode cX7_loadOf 31 = .ok (.iconst 0, 1) := dk_3 (dk_at dksX7_loadOf_1 9 rfl rfl)
theorem dX7_loadOf_32 : decode cX7_loadOf 32 = .ok (.ireturn, 1) := dk_172 (dk_at dksX7_loadOf_1 10 rfl rfl)
abbrev cX7_addG : ByteArray := prog_21_method_9_code
def yX7_addG : MethodName := ⟨RX7, "addG", "(III)V"⟩
def dkwX7_addG_0 : List UInt8 := [42, 180, 0, 7, 16, 88, 16, 9, 27, 104, 96, 28, 96, 92, 46, 29, 96, 79, 177]
abbrev dktX7_addG_0 : List UInt8 := dkwX7_addG_0 ++ []
theorem dksX7_addG_0 : cX7_addG.data.toList.drop 0 = dktX7_addG_0 := by decide +kernel
theorem dX7_addG_0 : decode cX7_addG 0 = .ok (.aload_n 0, 1) := dk_42 (dk_at dksX7_addG_0 0 rfl rfl)
theorem dX7_addG_1 : decode cX7_addG 1 = .ok (.getfield 7, 3) := dk_180 0 7 (dk_at dksX7_addG_0 1 rfl rfl)
theorem dX7_addG_4 : decode cX7_addG 4 = .ok (.bipush 88, 2) := dk_16 88 (dk_at dksX7_addG_0 4 rfl rfl)
theorem dX7_addG_6 : decode cX7_addG 6 = .ok (.bipush 9, 2) := dk_16 9 (dk_at dksX7_addG_0 6 rfl rfl)
theorem dX7_addG_8 : decode cX7_addG 8 = .ok (.iload_n 1, 1) := dk_27 (dk_at dksX7_addG_0 8 rfl rfl)
theorem dX7_addG_9 : decode cX7_addG 9 = .ok (.imul, 1) := dk_104 (dk_at dksX7_addG_0 9 rfl rfl)
theorem dX7_addG_10 : decode cX7_addG 10 = .ok (.iadd, 1) := dk_96 (dk_at dksX7_addG_0 10 rfl rfl)
theorem dX7_addG_11 : decode cX7_addG 11 = .ok (.iload_n 2, 1) := dk_28 (dk_at dksX7_addG_0 11 rfl rfl)
theorem dX7_addG_12 : decode cX7_addG 12 = .ok (.iadd, 1) := dk_96 (dk_at dksX7_addG_0 12 rfl rfl)
theorem dX7_addG_13 : decode cX7_addG 13 = .ok (.dup2, 1) := dk_92 (dk_at dksX7_addG_0 13 rfl rfl)
theorem dX7_addG_14 : decode cX7_addG 14 = .ok (.iaload, 1) := dk_46 (dk_at dksX7_addG_0 14 rfl rfl)
theorem dX7_addG_15 : decode cX7_addG 15 = .ok (.iload_n 3, 1) := dk_29 (dk_at dksX7_addG_0 15 rfl rfl)
theorem dX7_addG_16 : decode cX7_addG 16 = .ok (.iadd, 1) := dk_96 (dk_at dksX7_addG_0 16 rfl rfl)
theorem dX7_addG_17 : decode cX7_addG 17 = .ok (.iastore, 1) := dk_79 (dk_at dksX7_addG_0 17 rfl rfl)
theorem dX7_addG_18 : decode cX7_addG 18 = .ok (.return_, 1) := dk_177 (dk_at dksX7_addG_0 18 rfl rfl)
abbrev cX7_earns : ByteArray := prog_21_method_23_code
def yX7_earns : MethodName := ⟨RX7, "earns", "(I)V"⟩
def dkwX7_earns_0 : List UInt8 := [42, 180, 0, 7, 16, 9, 92, 46, 27, 96, 79, 42, 180, 0, 7, 16, 14, 92, 46, 27, 96, 79, 177]
abbrev dktX7_earns_0 : List UInt8 := dkwX7_earns_0 ++ []
theorem dksX7_earns_0 : cX7_earns.data.toList.drop 0 = dktX7_earns_0 := by decide +kernel
theorem dX7_earns_0 : decode cX7_earns 0 = .ok (.aload_n 0, 1) := dk_42 (dk_at dksX7_earns_0 0 rfl rfl)
theorem dX7_earns_1 : decode cX7_earns 1 = .ok (.getfield 7, 3) := dk_180 0 7 (dk_at dksX7_earns_0 1 rfl rfl)
theorem dX7_earns_4 : decode cX7_earns 4 = .ok (.bipush 9, 2) := dk_16 9 (dk_at dksX7_earns_0 4 rfl rfl)
theorem dX7_earns_6 : decode cX7_earns 6 = .ok (.dup2, 1) := dk_92 (dk_at dksX7_earns_0 6 rfl rfl)
theorem dX7_earns_7 : decode cX7_earns 7 = .ok (.iaload, 1) := dk_46 (dk_at dksX7_earns_0 7 rfl rfl)
theorem dX7_earns_8 : decode cX7_earns 8 = .ok (.iload_n 1, 1) := dk_27 (dk_at dksX7_earns_0 8 rfl rfl)
theorem dX7_earns_9 : decode cX7_earns 9 = .ok (.iadd, 1) := dk_96 (dk_at dksX7_earns_0 9 rfl rfl)
theorem dX7_earns_10 : decode cX7_earns 10 = .ok (.iastore, 1) := dk_79 (dk_at dksX7_earns_0 10 rfl rfl)
theorem dX7_earns_11 : decode cX7_earns 11 = .ok (.aload_n 0, 1) := dk_42 (dk_at dksX7_earns_0 11 rfl rfl)
theorem dX7_earns_12 : decode cX7_earns 12 = .ok (.getfield 7, 3) := dk_180 0 7 (dk_at dksX7_earns_0 12 rfl rfl)
theorem dX7_earns_15 : decode cX7_earns 15 = .ok (.bipush 14, 2) := dk_16 14 (dk_at dksX7_earns_0 15 rfl rfl)
theorem dX7_earns_17 : decode cX7_earns 17 = .ok (.dup2, 1) := dk_92 (dk_at dksX7_earns_0 17 rfl rfl)
theorem dX7_earns_18 : decode cX7_earns 18 = .ok (.iaload, 1) := dk_46 (dk_at dksX7_earns_0 18 rfl rfl)
theorem dX7_earns_19 : decode cX7_earns 19 = .ok (.iload_n 1, 1) := dk_27 (dk_at dksX7_earns_0 19 rfl rfl)
theorem dX7_earns_20 : decode cX7_earns 20 = .ok (.iadd, 1) := dk_96 (dk_at dksX7_earns_0 20 rfl rfl)
theorem dX7_earns_21 : decode cX7_earns 21 = .ok (.iastore, 1) := dk_79 (dk_at dksX7_earns_0 21 rfl rfl)
theorem dX7_earns_22 : decode cX7_earns 22 = .ok (.return_, 1) := dk_177 (dk_at dksX7_earns_0 22 rfl rfl)
abbrev cX7_isLate : ByteArray := prog_21_method_20_code
def yX7_isLate : MethodName := ⟨RX7, "isLate", "(I)Z"⟩
def dkwX7_isLate_1 : List UInt8 := [164, 0, 7, 4, 167, 0, 4, 3, 172]
abbrev dktX7_isLate_1 : List UInt8 := dkwX7_isLate_1 ++ []
def dkwX7_isLate_0 : List UInt8 := [42, 27, 42, 27, 5, 182, 0, 92, 42, 27, 6, 182, 0, 92, 182, 0, 118, 42, 180, 0, 7, 3, 46]
abbrev dktX7_isLate_0 : List UInt8 := dkwX7_isLate_0 ++ dktX7_isLate_1
theorem dksX7_isLate_0 : cX7_isLate.data.toList.drop 0 = dktX7_isLate_0 := by decide +kernel
theorem dksX7_isLate_1 : cX7_isLate.data.toList.drop 23 = dktX7_isLate_1 := dk_seg dksX7_isLate_0 23 rfl rfl
theorem dX7_isLate_0 : decode cX7_isLate 0 = .ok (.aload_n 0, 1) := dk_42 (dk_at dksX7_isLate_0 0 rfl rfl)
theorem dX7_isLate_1 : decode cX7_isLate 1 = .ok (.iload_n 1, 1) := dk_27 (dk_at dksX7_isLate_0 1 rfl rfl)
theorem dX7_isLate_2 : decode cX7_isLate 2 = .ok (.aload_n 0, 1) := dk_42 (dk_at dksX7_isLate_0 2 rfl rfl)
theorem dX7_isLate_3 : decode cX7_isLate 3 = .ok (.iload_n 1, 1) := dk_27 (dk_at dksX7_isLate_0 3 rfl rfl)
theorem dX7_isLate_4 : decode cX7_isLate 4 = .ok (.iconst 2, 1) := dk_5 (dk_at dksX7_isLate_0 4 rfl rfl)
theorem dX7_isLate_5 : decode cX7_isLate 5 = .ok (.invokevirtual 92, 3) := dk_182 0 92 (dk_at dksX7_isLate_0 5 rfl rfl)
theorem dX7_isLate_8 : decode cX7_isLate 8 = .ok (.aload_n 0, 1) := dk_42 (dk_at dksX7_isLate_0 8 rfl rfl)
theorem dX7_isLate_9 : decode cX7_isLate 9 = .ok (.iload_n 1, 1) := dk_27 (dk_at dksX7_isLate_0 9 rfl rfl)
theorem dX7_isLate_10 : decode cX7_isLate 10 = .ok (.iconst 3, 1) := dk_6 (dk_at dksX7_isLate_0 10 rfl rfl)
theorem dX7_isLate_11 : decode cX7_isLate 11 = .ok (.invokevirtual 92, 3) := dk_182 0 92 (dk_at dksX7_isLate_0 11 rfl rfl)
theorem dX7_isLate_14 : decode cX7_isLate 14 = .ok (.invokevirtual 118, 3) := dk_182 0 118 (dk_at dksX7_isLate_0 14 rfl rfl)
theorem dX7_isLate_17 : decode cX7_isLate 17 = .ok (.aload_n 0, 1) := dk_42 (dk_at dksX7_isLate_0 17 rfl rfl)
theorem dX7_isLate_18 : decode cX7_isLate 18 = .ok (.getfield 7, 3) := dk_180 0 7 (dk_at dksX7_isLate_0 18 rfl rfl)
theorem dX7_isLate_21 : decode cX7_isLate 21 = .ok (.iconst 0, 1) := dk_3 (dk_at dksX7_isLate_0 21 rfl rfl)
theorem dX7_isLate_22 : decode cX7_isLate 22 = .ok (.iaload, 1) := dk_46 (dk_at dksX7_isLate_0 22 rfl rfl)
theorem dX7_isLate_23 : decode cX7_isLate 23 = .ok (.if_icmp .le 7, 3) := dk_164 0 7 (dk_at dksX7_isLate_1 0 rfl rfl)
theorem dX7_isLate_26 : decode cX7_isLate 26 = .ok (.iconst 1, 1) := dk_4 (dk_at dksX7_isLate_1 3 rfl rfl)
theorem dX7_isLate_27 : decode cX7_isLate 27 = .ok (.goto 4, 3) := dk_167 0 4 (dk_at dksX7_isLate_1 4 rfl rfl)
theorem dX7_isLate_30 : decode cX7_isLate 30 = .ok (.iconst 0, 1) := dk_3 (dk_at dksX7_isLate_1 7 rfl rfl)
theorem dX7_isLate_31 : decode cX7_isLate 31 = .ok (.ireturn, 1) := dk_172 (dk_at dksX7_isLate_1 8 rfl rfl)
abbrev cX7_logs : ByteArray := prog_21_method_22_code
def yX7_logs : MethodName := ⟨RX7, "logs", "(IIZ)V"⟩
def dkwX7_logs_5 : List UInt8 := [153, 0, 7, 4, 167, 0, 4, 3, 79, 42, 180, 0, 7, 16, 15, 92, 46, 4, 96, 79, 177]
abbrev dktX7_logs_5 : List UInt8 := dkwX7_logs_5 ++ []
def dkwX7_logs_4 : List UInt8 := [4, 96, 27, 79, 42, 180, 0, 7, 21, 4, 5, 96, 28, 79, 42, 180, 0, 7, 21, 4, 6, 96, 29]
abbrev dktX7_logs_4 : List UInt8 := dkwX7_logs_4 ++ dktX7_logs_5
def dkwX7_logs_3 : List UInt8 := [46, 104, 96, 54, 4, 42, 180, 0, 7, 21, 4, 42, 180, 0, 7, 8, 46, 79, 42, 180, 0, 7, 21, 4]
abbrev dktX7_logs_3 : List UInt8 := dkwX7_logs_3 ++ dktX7_logs_4
def dkwX7_logs_2 : List UInt8 := [167, 255, 229, 42, 180, 0, 7, 16, 15, 92, 46, 4, 100, 79, 17, 0, 172, 7, 42, 180, 0, 7, 16, 15]
abbrev dktX7_logs_2 : List UInt8 := dkwX7_logs_2 ++ dktX7_logs_3
def dkwX7_logs_1 : List UInt8 := [162, 0, 25, 42, 180, 0, 7, 21, 4, 42, 180, 0, 7, 21, 4, 7, 96, 46, 79, 132, 4, 1]
abbrev dktX7_logs_1 : List UInt8 := dkwX7_logs_1 ++ dktX7_logs_2
def dkwX7_logs_0 : List UInt8 := [42, 180, 0, 7, 16, 15, 46, 16, 10, 160, 0, 49, 17, 0, 172, 54, 4, 21, 4, 17, 0, 208]
abbrev dktX7_logs_0 : List UInt8 := dkwX7_logs_0 ++ dktX7_logs_1
theorem dksX7_logs_0 : cX7_logs.data.toList.drop 0 = dktX7_logs_0 := by decide +kernel
theorem dksX7_logs_1 : cX7_logs.data.toList.drop 22 = dktX7_logs_1 := dk_seg dksX7_logs_0 22 rfl rfl
theorem dksX7_logs_2 : cX7_logs.data.toList.drop 44 = dktX7_logs_2 := dk_seg dksX7_logs_1 22 rfl rfl
theorem dksX7_logs_3 : cX7_logs.data.toList.drop 68 = dktX7_logs_3 := dk_seg dksX7_logs_2 24 rfl rfl
theorem dksX7_logs_4 : cX7_logs.data.toList.drop 92 = dktX7_logs_4 := dk_seg dksX7_logs_3 24 rfl rfl
theorem dksX7_logs_5 : cX7_logs.data.toList.drop 115 = dktX7_logs_5 := dk_seg dksX7_logs_4 23 rfl rfl
theorem dX7_logs_0 : decode cX7_logs 0 = .ok (.aload_n 0, 1) := dk_42 (dk_at dksX7_logs_0 0 rfl rfl)
theorem dX7_logs_1 : decode cX7_logs 1 = .ok (.getfield 7, 3) := dk_180 0 7 (dk_at dksX7_logs_0 1 rfl rfl)
theorem dX7_logs_4 : decode cX7_logs 4 = .ok (.bipush 15, 2) := dk_16 15 (dk_at dksX7_logs_0 4 rfl rfl)
theorem dX7_logs_6 : decode cX7_logs 6 = .ok (.iaload, 1) := dk_46 (dk_at dksX7_logs_0 6 rfl rfl)
theorem dX7_logs_7 : decode cX7_logs 7 = .ok (.bipush 10, 2) := dk_16 10 (dk_at dksX7_logs_0 7 rfl rfl)
theorem dX7_logs_9 : decode cX7_logs 9 = .ok (.if_icmp .ne 49, 3) := dk_160 0 49 (dk_at dksX7_logs_0 9 rfl rfl)
theorem dX7_logs_12 : decode cX7_logs 12 = .ok (.sipush 172, 3) := dk_17 0 172 (dk_at dksX7_logs_0 12 rfl rfl)
theorem dX7_logs_15 : decode cX7_logs 15 = .ok (.istore 4, 2) := dk_54 4 (dk_at dksX7_logs_0 15 rfl rfl)
theorem dX7_logs_17 : decode cX7_logs 17 = .ok (.iload 4, 2) := dk_21 4 (dk_at dksX7_logs_0 17 rfl rfl)
theorem dX7_logs_19 : decode cX7_logs 19 = .ok (.sipush 208, 3) := dk_17 0 208 (dk_at dksX7_logs_0 19 rfl rfl)
theorem dX7_logs_22 : decode cX7_logs 22 = .ok (.if_icmp .ge 25, 3) := dk_162 0 25 (dk_at dksX7_logs_1 0 rfl rfl)
theorem dX7_logs_25 : decode cX7_logs 25 = .ok (.aload_n 0, 1) := dk_42 (dk_at dksX7_logs_1 3 rfl rfl)
theorem dX7_logs_26 : decode cX7_logs 26 = .ok (.getfield 7, 3) := dk_180 0 7 (dk_at dksX7_logs_1 4 rfl rfl)
theorem dX7_logs_29 : decode cX7_logs 29 = .ok (.iload 4, 2) := dk_21 4 (dk_at dksX7_logs_1 7 rfl rfl)
theorem dX7_logs_31 : decode cX7_logs 31 = .ok (.aload_n 0, 1) := dk_42 (dk_at dksX7_logs_1 9 rfl rfl)
theorem dX7_logs_32 : decode cX7_logs 32 = .ok (.getfield 7, 3) := dk_180 0 7 (dk_at dksX7_logs_1 10 rfl rfl)
theorem dX7_logs_35 : decode cX7_logs 35 = .ok (.iload 4, 2) := dk_21 4 (dk_at dksX7_logs_1 13 rfl rfl)
theorem dX7_logs_37 : decode cX7_logs 37 = .ok (.iconst 4, 1) := dk_7 (dk_at dksX7_logs_1 15 rfl rfl)
theorem dX7_logs_38 : decode cX7_logs 38 = .ok (.iadd, 1) := dk_96 (dk_at dksX7_logs_1 16 rfl rfl)
theorem dX7_logs_39 : decode cX7_logs 39 = .ok (.iaload, 1) := dk_46 (dk_at dksX7_logs_1 17 rfl rfl)
theorem dX7_logs_40 : decode cX7_logs 40 = .ok (.iastore, 1) := dk_79 (dk_at dksX7_logs_1 18 rfl rfl)
theorem dX7_logs_41 : decode cX7_logs 41 = .ok (.iinc 4 1, 3) := dk_132 4 1 (dk_at dksX7_logs_1 19 rfl rfl)
theorem dX7_logs_44 : decode cX7_logs 44 = .ok (.goto (-27), 3) := dk_167 255 229 (dk_at dksX7_logs_2 0 rfl rfl)
theorem dX7_logs_47 : decode cX7_logs 47 = .ok (.aload_n 0, 1) := dk_42 (dk_at dksX7_logs_2 3 rfl rfl)
theorem dX7_logs_48 : decode cX7_logs 48 = .ok (.getfield 7, 3) := dk_180 0 7 (dk_at dksX7_logs_2 4 rfl rfl)
theorem dX7_logs_51 : decode cX7_logs 51 = .ok (.bipush 15, 2) := dk_16 15 (dk_at dksX7_logs_2 7 rfl rfl)
theorem dX7_logs_53 : decode cX7_logs 53 = .ok (.dup2, 1) := dk_92 (dk_at dksX7_logs_2 9 rfl rfl)
theorem dX7_logs_54 : decode cX7_logs 54 = .ok (.iaload, 1) := dk_46 (dk_at dksX7_logs_2 10 rfl rfl)
theorem dX7_logs_55 : decode cX7_logs 55 = .ok (.iconst 1, 1) := dk_4 (dk_at dksX7_logs_2 11 rfl rfl)
theorem dX7_logs_56 : decode cX7_logs 56 = .ok (.isub, 1) := dk_100 (dk_at dksX7_logs_2 12 rfl rfl)
theorem dX7_logs_57 : decode cX7_logs 57 = .ok (.iastore, 1) := dk_79 (dk_at dksX7_logs_2 13 rfl rfl)
theorem dX7_logs_58 : decode cX7_logs 58 = .ok (.sipush 172, 3) := dk_17 0 172 (dk_at dksX7_logs_2 14 rfl rfl)
theorem dX7_logs_61 : decode cX7_logs 61 = .ok (.iconst 4, 1) := dk_7 (dk_at dksX7_logs_2 17 rfl rfl)
theorem dX7_logs_62 : decode cX7_logs 62 = .ok (.aload_n 0, 1) := dk_42 (dk_at dksX7_logs_2 18 rfl rfl)
theorem dX7_logs_63 : decode cX7_logs 63 = .ok (.getfield 7, 3) := dk_180 0 7 (dk_at dksX7_logs_2 19 rfl rfl)
theorem dX7_logs_66 : decode cX7_logs 66 = .ok (.bipush 15, 2) := dk_16 15 (dk_at dksX7_logs_2 22 rfl rfl)
theorem dX7_logs_68 : decode cX7_logs 68 = .ok (.iaload, 1) := dk_46 (dk_at dksX7_logs_3 0 rfl rfl)
theorem dX7_logs_69 : decode cX7_logs 69 = .ok (.imul, 1) := dk_104 (dk_at dksX7_logs_3 1 rfl rfl)
theorem dX7_logs_70 : decode cX7_logs 70 = .ok (.iadd, 1) := dk_96 (dk_at dksX7_logs_3 2 rfl rfl)
theorem dX7_logs_71 : decode cX7_logs 71 = .ok (.istore 4, 2) := dk_54 4 (dk_at dksX7_logs_3 3 rfl rfl)
theorem dX7_logs_73 : decode cX7_logs 73 = .ok (.aload_n 0, 1) := dk_42 (dk_at dksX7_logs_3 5 rfl rfl)
theorem dX7_logs_74 : decode cX7_logs 74 = .ok (.getfield 7, 3) := dk_180 0 7 (dk_at dksX7_logs_3 6 rfl rfl)
theorem dX7_logs_77 : decode cX7_logs 77 = .ok (.iload 4, 2) := dk_21 4 (dk_at dksX7_logs_3 9 rfl rfl)
theorem dX7_logs_79 : decode cX7_logs 79 = .ok (.aload_n 0, 1) := dk_42 (dk_at dksX7_logs_3 11 rfl rfl)
theorem dX7_logs_80 : decode cX7_logs 80 = .ok (.getfield 7, 3) := dk_180 0 7 (dk_at dksX7_logs_3 12 rfl rfl)
theorem dX7_logs_83 : decode cX7_logs 83 = .ok (.iconst 5, 1) := dk_8 (dk_at dksX7_logs_3 15 rfl rfl)
theorem dX7_logs_84 : decode cX7_logs 84 = .ok (.iaload, 1) := dk_46 (dk_at dksX7_logs_3 16 rfl rfl)
theorem dX7_logs_85 : decode cX7_logs 85 = .ok (.iastore, 1) := dk_79 (dk_at dksX7_logs_3 17 rfl rfl)
theorem dX7_logs_86 : decode cX7_logs 86 = .ok (.aload_n 0, 1) := dk_42 (dk_at dksX7_logs_3 18 rfl rfl)
theorem dX7_logs_87 : decode cX7_logs 87 = .ok (.getfield 7, 3) := dk_180 0 7 (dk_at dksX7_logs_3 19 rfl rfl)
theorem dX7_logs_90 : decode cX7_logs 90 = .ok (.iload 4, 2) := dk_21 4 (dk_at dksX7_logs_3 22 rfl rfl)
theorem dX7_logs_92 : decode cX7_logs 92 = .ok (.iconst 1, 1) := dk_4 (dk_at dksX7_logs_4 0 rfl rfl)
theorem dX7_logs_93 : decode cX7_logs 93 = .ok (.iadd, 1) := dk_96 (dk_at dksX7_logs_4 1 rfl rfl)
theorem dX7_logs_94 : decode cX7_logs 94 = .ok (.iload_n 1, 1) := dk_27 (dk_at dksX7_logs_4 2 rfl rfl)
theorem dX7_logs_95 : decode cX7_logs 95 = .ok (.iastore, 1) := dk_79 (dk_at dksX7_logs_4 3 rfl rfl)
theorem dX7_logs_96 : decode cX7_logs 96 = .ok (.aload_n 0, 1) := dk_42 (dk_at dksX7_logs_4 4 rfl rfl)
theorem dX7_logs_97 : decode cX7_logs 97 = .ok (.getfield 7, 3) := dk_180 0 7 (dk_at dksX7_logs_4 5 rfl rfl)
theorem dX7_logs_100 : decode cX7_logs 100 = .ok (.iload 4, 2) := dk_21 4 (dk_at dksX7_logs_4 8 rfl rfl)
theorem dX7_logs_102 : decode cX7_logs 102 = .ok (.iconst 2, 1) := dk_5 (dk_at dksX7_logs_4 10 rfl rfl)
theorem dX7_logs_103 : decode cX7_logs 103 = .ok (.iadd, 1) := dk_96 (dk_at dksX7_logs_4 11 rfl rfl)
theorem dX7_logs_104 : decode cX7_logs 104 = .ok (.iload_n 2, 1) := dk_28 (dk_at dksX7_logs_4 12 rfl rfl)
theorem dX7_logs_105 : decode cX7_logs 105 = .ok (.iastore, 1) := dk_79 (dk_at dksX7_logs_4 13 rfl rfl)
theorem dX7_logs_106 : decode cX7_logs 106 = .ok (.aload_n 0, 1) := dk_42 (dk_at dksX7_logs_4 14 rfl rfl)
theorem dX7_logs_107 : decode cX7_logs 107 = .ok (.getfield 7, 3) := dk_180 0 7 (dk_at dksX7_logs_4 15 rfl rfl)
theorem dX7_logs_110 : decode cX7_logs 110 = .ok (.iload 4, 2) := dk_21 4 (dk_at dksX7_logs_4 18 rfl rfl)
theorem dX7_logs_112 : decode cX7_logs 112 = .ok (.iconst 3, 1) := dk_6 (dk_at dksX7_logs_4 20 rfl rfl)
theorem dX7_logs_113 : decode cX7_logs 113 = .ok (.iadd, 1) := dk_96 (dk_at dksX7_logs_4 21 rfl rfl)
theorem dX7_logs_114 : decode cX7_logs 114 = .ok (.iload_n 3, 1) := dk_29 (dk_at dksX7_logs_4 22 rfl rfl)
theorem dX7_logs_115 : decode cX7_logs 115 = .ok (.ifCond .eq 7, 3) := dk_153 0 7 (dk_at dksX7_logs_5 0 rfl rfl)
theorem dX7_logs_118 : decode cX7_logs 118 = .ok (.iconst 1, 1) := dk_4 (dk_at dksX7_logs_5 3 rfl rfl)
theorem dX7_logs_119 : decode cX7_logs 119 = .ok (.goto 4, 3) := dk_167 0 4 (dk_at dksX7_logs_5 4 rfl rfl)
theorem dX7_logs_122 : decode cX7_logs 122 = .ok (.iconst 0, 1) := dk_3 (dk_at dksX7_logs_5 7 rfl rfl)
theorem dX7_logs_123 : decode cX7_logs 123 = .ok (.iastore, 1) := dk_79 (dk_at dksX7_logs_5 8 rfl rfl)
theorem dX7_logs_124 : decode cX7_logs 124 = .ok (.aload_n 0, 1) := dk_42 (dk_at dksX7_logs_5 9 rfl rfl)
theorem dX7_logs_125 : decode cX7_logs 125 = .ok (.getfield 7, 3) := dk_180 0 7 (dk_at dksX7_logs_5 10 rfl rfl)
theorem dX7_logs_128 : decode cX7_logs 128 = .ok (.bipush 15, 2) := dk_16 15 (dk_at dksX7_logs_5 13 rfl rfl)
theorem dX7_logs_130 : decode cX7_logs 130 = .ok (.dup2, 1) := dk_92 (dk_at dksX7_logs_5 15 rfl rfl)
theorem dX7_logs_131 : decode cX7_logs 131 = .ok (.iaload, 1) := dk_46 (dk_at dksX7_logs_5 16 rfl rfl)
theorem dX7_logs_132 : decode cX7_logs 132 = .ok (.iconst 1, 1) := dk_4 (dk_at dksX7_logs_5 17 rfl rfl)
theorem dX7_logs_133 : decode cX7_logs 133 = .ok (.iadd, 1) := dk_96 (dk_at dksX7_logs_5 18 rfl rfl)
theorem dX7_logs_134 : decode cX7_logs 134 = .ok (.iastore, 1) := dk_79 (dk_at dksX7_logs_5 19 rfl rfl)
theorem dX7_logs_135 : decode cX7_logs 135 = .ok (.return_, 1) := dk_177 (dk_at dksX7_logs_5 20 rfl rfl)
abbrev cX7_smells : ByteArray := prog_21_method_18_code
def yX7_smells : MethodName := ⟨RX7, "smells", "(III)Z"⟩
def dkwX7_smells_4 : List UInt8 := [21, 7, 4, 28, 16, 10, 108, 184, 0, 88, 153, 0, 7, 4, 167, 0, 4, 3, 172]
abbrev dktX7_smells_4 : List UInt8 := dkwX7_smells_4 ++ []
def dkwX7_smells_3 : List UInt8 := [116, 54, 7, 21, 6, 5, 112, 154, 0, 8, 21, 4, 167, 0, 5, 21, 5, 54, 8, 21, 8, 154, 0, 20]
abbrev dktX7_smells_3 : List UInt8 := dkwX7_smells_3 ++ dktX7_smells_4
def dkwX7_smells_2 : List UInt8 := [21, 6, 4, 160, 0, 8, 21, 4, 167, 0, 17, 21, 6, 5, 160, 0, 8, 21, 5, 167, 0, 6, 21, 4]
abbrev dktX7_smells_2 : List UInt8 := dkwX7_smells_2 ++ dktX7_smells_3
def dkwX7_smells_1 : List UInt8 := [182, 0, 96, 100, 54, 5, 42, 182, 0, 108, 54, 6, 21, 6, 154, 0, 9, 21, 5, 116, 167, 0, 28]
abbrev dktX7_smells_1 : List UInt8 := dkwX7_smells_1 ++ dktX7_smells_2
def dkwX7_smells_0 : List UInt8 := [42, 29, 4, 182, 0, 96, 42, 27, 4, 182, 0, 96, 100, 54, 4, 42, 29, 5, 182, 0, 96, 42, 27, 5]
abbrev dktX7_smells_0 : List UInt8 := dkwX7_smells_0 ++ dktX7_smells_1
theorem dksX7_smells_0 : cX7_smells.data.toList.drop 0 = dktX7_smells_0 := by decide +kernel
theorem dksX7_smells_1 : cX7_smells.data.toList.drop 24 = dktX7_smells_1 := dk_seg dksX7_smells_0 24 rfl rfl
theorem dksX7_smells_2 : cX7_smells.data.toList.drop 47 = dktX7_smells_2 := dk_seg dksX7_smells_1 23 rfl rfl
theorem dksX7_smells_3 : cX7_smells.data.toList.drop 71 = dktX7_smells_3 := dk_seg dksX7_smells_2 24 rfl rfl
theorem dksX7_smells_4 : cX7_smells.data.toList.drop 95 = dktX7_smells_4 := dk_seg dksX7_smells_3 24 rfl rfl
theorem dX7_smells_0 : decode cX7_smells 0 = .ok (.aload_n 0, 1) := dk_42 (dk_at dksX7_smells_0 0 rfl rfl)
theorem dX7_smells_1 : decode cX7_smells 1 = .ok (.iload_n 3, 1) := dk_29 (dk_at dksX7_smells_0 1 rfl rfl)
theorem dX7_smells_2 : decode cX7_smells 2 = .ok (.iconst 1, 1) := dk_4 (dk_at dksX7_smells_0 2 rfl rfl)
theorem dX7_smells_3 : decode cX7_smells 3 = .ok (.invokevirtual 96, 3) := dk_182 0 96 (dk_at dksX7_smells_0 3 rfl rfl)
theorem dX7_smells_6 : decode cX7_smells 6 = .ok (.aload_n 0, 1) := dk_42 (dk_at dksX7_smells_0 6 rfl rfl)
theorem dX7_smells_7 : decode cX7_smells 7 = .ok (.iload_n 1, 1) := dk_27 (dk_at dksX7_smells_0 7 rfl rfl)
theorem dX7_smells_8 : decode cX7_smells 8 = .ok (.iconst 1, 1) := dk_4 (dk_at dksX7_smells_0 8 rfl rfl)
theorem dX7_smells_9 : decode cX7_smells 9 = .ok (.invokevirtual 96, 3) := dk_182 0 96 (dk_at dksX7_smells_0 9 rfl rfl)
theorem dX7_smells_12 : decode cX7_smells 12 = .ok (.isub, 1) := dk_100 (dk_at dksX7_smells_0 12 rfl rfl)
theorem dX7_smells_13 : decode cX7_smells 13 = .ok (.istore 4, 2) := dk_54 4 (dk_at dksX7_smells_0 13 rfl rfl)
theorem dX7_smells_15 : decode cX7_smells 15 = .ok (.aload_n 0, 1) := dk_42 (dk_at dksX7_smells_0 15 rfl rfl)
theorem dX7_smells_16 : decode cX7_smells 16 = .ok (.iload_n 3, 1) := dk_29 (dk_at dksX7_smells_0 16 rfl rfl)
theorem dX7_smells_17 : decode cX7_smells 17 = .ok (.iconst 2, 1) := dk_5 (dk_at dksX7_smells_0 17 rfl rfl)
theorem dX7_smells_18 : decode cX7_smells 18 = .ok (.invokevirtual 96, 3) := dk_182 0 96 (dk_at dksX7_smells_0 18 rfl rfl)
theorem dX7_smells_21 : decode cX7_smells 21 = .ok (.aload_n 0, 1) := dk_42 (dk_at dksX7_smells_0 21 rfl rfl)
theorem dX7_smells_22 : decode cX7_smells 22 = .ok (.iload_n 1, 1) := dk_27 (dk_at dksX7_smells_0 22 rfl rfl)
theorem dX7_smells_23 : decode cX7_smells 23 = .ok (.iconst 2, 1) := dk_5 (dk_at dksX7_smells_0 23 rfl rfl)
theorem dX7_smells_24 : decode cX7_smells 24 = .ok (.invokevirtual 96, 3) := dk_182 0 96 (dk_at dksX7_smells_1 0 rfl rfl)
theorem dX7_smells_27 : decode cX7_smells 27 = .ok (.isub, 1) := dk_100 (dk_at dksX7_smells_1 3 rfl rfl)
theorem dX7_smells_28 : decode cX7_smells 28 = .ok (.istore 5, 2) := dk_54 5 (dk_at dksX7_smells_1 4 rfl rfl)
theorem dX7_smells_30 : decode cX7_smells 30 = .ok (.aload_n 0, 1) := dk_42 (dk_at dksX7_smells_1 6 rfl rfl)
theorem dX7_smells_31 : decode cX7_smells 31 = .ok (.invokevirtual 108, 3) := dk_182 0 108 (dk_at dksX7_smells_1 7 rfl rfl)
theorem dX7_smells_34 : decode cX7_smells 34 = .ok (.istore 6, 2) := dk_54 6 (dk_at dksX7_smells_1 10 rfl rfl)
theorem dX7_smells_36 : decode cX7_smells 36 = .ok (.iload 6, 2) := dk_21 6 (dk_at dksX7_smells_1 12 rfl rfl)
theorem dX7_smells_38 : decode cX7_smells 38 = .ok (.ifCond .ne 9, 3) := dk_154 0 9 (dk_at dksX7_smells_1 14 rfl rfl)
theorem dX7_smells_41 : decode cX7_smells 41 = .ok (.iload 5, 2) := dk_21 5 (dk_at dksX7_smells_1 17 rfl rfl)
theorem dX7_smells_43 : decode cX7_smells 43 = .ok (.ineg, 1) := dk_116 (dk_at dksX7_smells_1 19 rfl rfl)
theorem dX7_smells_44 : decode cX7_smells 44 = .ok (.goto 28, 3) := dk_167 0 28 (dk_at dksX7_smells_1 20 rfl rfl)
theorem dX7_smells_47 : decode cX7_smells 47 = .ok (.iload 6, 2) := dk_21 6 (dk_at dksX7_smells_2 0 rfl rfl)
theorem dX7_smells_49 : decode cX7_smells 49 = .ok (.iconst 1, 1) := dk_4 (dk_at dksX7_smells_2 2 rfl rfl)
theorem dX7_smells_50 : decode cX7_smells 50 = .ok (.if_icmp .ne 8, 3) := dk_160 0 8 (dk_at dksX7_smells_2 3 rfl rfl)
theorem dX7_smells_53 : decode cX7_smells 53 = .ok (.iload 4, 2) := dk_21 4 (dk_at dksX7_smells_2 6 rfl rfl)
theorem dX7_smells_55 : decode cX7_smells 55 = .ok (.goto 17, 3) := dk_167 0 17 (dk_at dksX7_smells_2 8 rfl rfl)
theorem dX7_smells_58 : decode cX7_smells 58 = .ok (.iload 6, 2) := dk_21 6 (dk_at dksX7_smells_2 11 rfl rfl)
theorem dX7_smells_60 : decode cX7_smells 60 = .ok (.iconst 2, 1) := dk_5 (dk_at dksX7_smells_2 13 rfl rfl)
theorem dX7_smells_61 : decode cX7_smells 61 = .ok (.if_icmp .ne 8, 3) := dk_160 0 8 (dk_at dksX7_smells_2 14 rfl rfl)
theorem dX7_smells_64 : decode cX7_smells 64 = .ok (.iload 5, 2) := dk_21 5 (dk_at dksX7_smells_2 17 rfl rfl)
theorem dX7_smells_66 : decode cX7_smells 66 = .ok (.goto 6, 3) := dk_167 0 6 (dk_at dksX7_smells_2 19 rfl rfl)
theorem dX7_smells_69 : decode cX7_smells 69 = .ok (.iload 4, 2) := dk_21 4 (dk_at dksX7_smells_2 22 rfl rfl)
theorem dX7_smells_71 : decode cX7_smells 71 = .ok (.ineg, 1) := dk_116 (dk_at dksX7_smells_3 0 rfl rfl)
theorem dX7_smells_72 : decode cX7_smells 72 = .ok (.istore 7, 2) := dk_54 7 (dk_at dksX7_smells_3 1 rfl rfl)
theorem dX7_smells_74 : decode cX7_smells 74 = .ok (.iload 6, 2) := dk_21 6 (dk_at dksX7_smells_3 3 rfl rfl)
theorem dX7_smells_76 : decode cX7_smells 76 = .ok (.iconst 2, 1) := dk_5 (dk_at dksX7_smells_3 5 rfl rfl)
theorem dX7_smells_77 : decode cX7_smells 77 = .ok (.irem, 1) := dk_112 (dk_at dksX7_smells_3 6 rfl rfl)
theorem dX7_smells_78 : decode cX7_smells 78 = .ok (.ifCond .ne 8, 3) := dk_154 0 8 (dk_at dksX7_smells_3 7 rfl rfl)
theorem dX7_smells_81 : decode cX7_smells 81 = .ok (.iload 4, 2) := dk_21 4 (dk_at dksX7_smells_3 10 rfl rfl)
theorem dX7_smells_83 : decode cX7_smells 83 = .ok (.goto 5, 3) := dk_167 0 5 (dk_at dksX7_smells_3 12 rfl rfl)
theorem dX7_smells_86 : decode cX7_smells 86 = .ok (.iload 5, 2) := dk_21 5 (dk_at dksX7_smells_3 15 rfl rfl)
theorem dX7_smells_88 : decode cX7_smells 88 = .ok (.istore 8, 2) := dk_54 8 (dk_at dksX7_smells_3 17 rfl rfl)
theorem dX7_smells_90 : decode cX7_smells 90 = .ok (.iload 8, 2) := dk_21 8 (dk_at dksX7_smells_3 19 rfl rfl)
theorem dX7_smells_92 : decode cX7_smells 92 = .ok (.ifCond .ne 20, 3) := dk_154 0 20 (dk_at dksX7_smells_3 21 rfl rfl)
theorem dX7_smells_95 : decode cX7_smells 95 = .ok (.iload 7, 2) := dk_21 7 (dk_at dksX7_smells_4 0 rfl rfl)
theorem dX7_smells_97 : decode cX7_smells 97 = .ok (.iconst 1, 1) := dk_4 (dk_at dksX7_smells_4 2 rfl rfl)
theorem dX7_smells_98 : decode cX7_smells 98 = .ok (.iload_n 2, 1) := dk_28 (dk_at dksX7_smells_4 3 rfl rfl)
theorem dX7_smells_99 : decode cX7_smells 99 = .ok (.bipush 10, 2) := dk_16 10 (dk_at dksX7_smells_4 4 rfl rfl)
theorem dX7_smells_101 : decode cX7_smells 101 = .ok (.idiv, 1) := dk_108 (dk_at dksX7_smells_4 6 rfl rfl)
theorem dX7_smells_102 : decode cX7_smells 102 = .ok (.invokestatic 88, 3) := dk_184 0 88 (dk_at dksX7_smells_4 7 rfl rfl)
theorem dX7_smells_105 : decode cX7_smells 105 = .ok (.ifCond .eq 7, 3) := dk_153 0 7 (dk_at dksX7_smells_4 10 rfl rfl)
theorem dX7_smells_108 : decode cX7_smells 108 = .ok (.iconst 1, 1) := dk_4 (dk_at dksX7_smells_4 13 rfl rfl)
theorem dX7_smells_109 : decode cX7_smells 109 = .ok (.goto 4, 3) := dk_167 0 4 (dk_at dksX7_smells_4 14 rfl rfl)
theorem dX7_smells_112 : decode cX7_smells 112 = .ok (.iconst 0, 1) := dk_3 (dk_at dksX7_smells_4 17 rfl rfl)
theorem dX7_smells_113 : decode cX7_smells 113 = .ok (.ireturn, 1) := dk_172 (dk_at dksX7_smells_4 18 rfl rfl)
abbrev cX7_blows : ByteArray := prog_21_method_17_code
def yX7_blows : MethodName := ⟨RX7, "blows", "()I"⟩
def dkwX7_blows_0 : List UInt8 := [42, 180, 0, 7, 7, 46, 42, 180, 0, 7, 8, 46, 96, 7, 112, 172]
abbrev dktX7_blows_0 : List UInt8 := dkwX7_blows_0 ++ []
theorem dksX7_blows_0 : cX7_blows.data.toList.drop 0 = dktX7_blows_0 := by decide +kernel
theorem dX7_blows_0 : decode cX7_blows 0 = .ok (.aload_n 0, 1) := dk_42 (dk_at dksX7_blows_0 0 rfl rfl)
theorem dX7_blows_1 : decode cX7_blows 1 = .ok (.getfield 7, 3) := dk_180 0 7 (dk_at dksX7_blows_0 1 rfl rfl)
theorem dX7_blows_4 : decode cX7_blows 4 = .ok (.iconst 4, 1) := dk_7 (dk_at dksX7_blows_0 4 rfl rfl)
theorem dX7_blows_5 : decode cX7_blows 5 = .ok (.iaload, 1) := dk_46 (dk_at dksX7_blows_0 5 rfl rfl)
theorem dX7_blows_6 : decode cX7_blows 6 = .ok (.aload_n 0, 1) := dk_42 (dk_at dksX7_blows_0 6 rfl rfl)
theorem dX7_blows_7 : decode cX7_blows 7 = .ok (.getfield 7, 3) := dk_180 0 7 (dk_at dksX7_blows_0 7 rfl rfl)
theorem dX7_blows_10 : decode cX7_blows 10 = .ok (.iconst 5, 1) := dk_8 (dk_at dksX7_blows_0 10 rfl rfl)
theorem dX7_blows_11 : decode cX7_blows 11 = .ok (.iaload, 1) := dk_46 (dk_at dksX7_blows_0 11 rfl rfl)
theorem dX7_blows_12 : decode cX7_blows 12 = .ok (.iadd, 1) := dk_96 (dk_at dksX7_blows_0 12 rfl rfl)
theorem dX7_blows_13 : decode cX7_blows 13 = .ok (.iconst 4, 1) := dk_7 (dk_at dksX7_blows_0 13 rfl rfl)
theorem dX7_blows_14 : decode cX7_blows 14 = .ok (.irem, 1) := dk_112 (dk_at dksX7_blows_0 14 rfl rfl)
theorem dX7_blows_15 : decode cX7_blows 15 = .ok (.ireturn, 1) := dk_172 (dk_at dksX7_blows_0 15 rfl rfl)
abbrev cX7_blooms : ByteArray := prog_21_method_25_code
def yX7_blooms : MethodName := ⟨RX7, "blooms", "(I)V"⟩
def dkwX7_blooms_3 : List UInt8 := [182, 0, 132, 177]
abbrev dktX7_blooms_3 : List UInt8 := dkwX7_blooms_3 ++ []
def dkwX7_blooms_2 : List UInt8 := [27, 6, 182, 0, 99, 104, 100, 184, 0, 122, 62, 42, 27, 7, 29, 116, 182, 0, 132, 42, 27, 16, 7, 29]
abbrev dktX7_blooms_2 : List UInt8 := dkwX7_blooms_2 ++ dktX7_blooms_3
def dkwX7_blooms_1 : List UInt8 := [42, 27, 8, 28, 182, 0, 132, 42, 27, 16, 6, 28, 182, 0, 132, 3, 42, 27, 7, 182, 0, 99, 6, 42]
abbrev dktX7_blooms_1 : List UInt8 := dkwX7_blooms_1 ++ dktX7_blooms_2
def dkwX7_blooms_0 : List UInt8 := [42, 27, 6, 182, 0, 99, 42, 27, 7, 182, 0, 99, 184, 0, 115, 61, 42, 27, 7, 28, 116, 182, 0, 132]
abbrev dktX7_blooms_0 : List UInt8 := dkwX7_blooms_0 ++ dktX7_blooms_1
theorem dksX7_blooms_0 : cX7_blooms.data.toList.drop 0 = dktX7_blooms_0 := by decide +kernel
theorem dksX7_blooms_1 : cX7_blooms.data.toList.drop 24 = dktX7_blooms_1 := dk_seg dksX7_blooms_0 24 rfl rfl
theorem dksX7_blooms_2 : cX7_blooms.data.toList.drop 48 = dktX7_blooms_2 := dk_seg dksX7_blooms_1 24 rfl rfl
theorem dksX7_blooms_3 : cX7_blooms.data.toList.drop 72 = dktX7_blooms_3 := dk_seg dksX7_blooms_2 24 rfl rfl
theorem dX7_blooms_0 : decode cX7_blooms 0 = .ok (.aload_n 0, 1) := dk_42 (dk_at dksX7_blooms_0 0 rfl rfl)
theorem dX7_blooms_1 : decode cX7_blooms 1 = .ok (.iload_n 1, 1) := dk_27 (dk_at dksX7_blooms_0 1 rfl rfl)
theorem dX7_blooms_2 : decode cX7_blooms 2 = .ok (.iconst 3, 1) := dk_6 (dk_at dksX7_blooms_0 2 rfl rfl)
theorem dX7_blooms_3 : decode cX7_blooms 3 = .ok (.invokevirtual 99, 3) := dk_182 0 99 (dk_at dksX7_blooms_0 3 rfl rfl)
theorem dX7_blooms_6 : decode cX7_blooms 6 = .ok (.aload_n 0, 1) := dk_42 (dk_at dksX7_blooms_0 6 rfl rfl)
theorem dX7_blooms_7 : decode cX7_blooms 7 = .ok (.iload_n 1, 1) := dk_27 (dk_at dksX7_blooms_0 7 rfl rfl)
theorem dX7_blooms_8 : decode cX7_blooms 8 = .ok (.iconst 4, 1) := dk_7 (dk_at dksX7_blooms_0 8 rfl rfl)
theorem dX7_blooms_9 : decode cX7_blooms 9 = .ok (.invokevirtual 99, 3) := dk_182 0 99 (dk_at dksX7_blooms_0 9 rfl rfl)
theorem dX7_blooms_12 : decode cX7_blooms 12 = .ok (.invokestatic 115, 3) := dk_184 0 115 (dk_at dksX7_blooms_0 12 rfl rfl)
theorem dX7_blooms_15 : decode cX7_blooms 15 = .ok (.istore_n 2, 1) := dk_61 (dk_at dksX7_blooms_0 15 rfl rfl)
theorem dX7_blooms_16 : decode cX7_blooms 16 = .ok (.aload_n 0, 1) := dk_42 (dk_at dksX7_blooms_0 16 rfl rfl)
theorem dX7_blooms_17 : decode cX7_blooms 17 = .ok (.iload_n 1, 1) := dk_27 (dk_at dksX7_blooms_0 17 rfl rfl)
theorem dX7_blooms_18 : decode cX7_blooms 18 = .ok (.iconst 4, 1) := dk_7 (dk_at dksX7_blooms_0 18 rfl rfl)
theorem dX7_blooms_19 : decode cX7_blooms 19 = .ok (.iload_n 2, 1) := dk_28 (dk_at dksX7_blooms_0 19 rfl rfl)
theorem dX7_blooms_20 : decode cX7_blooms 20 = .ok (.ineg, 1) := dk_116 (dk_at dksX7_blooms_0 20 rfl rfl)
theorem dX7_blooms_21 : decode cX7_blooms 21 = .ok (.invokevirtual 132, 3) := dk_182 0 132 (dk_at dksX7_blooms_0 21 rfl rfl)
theorem dX7_blooms_24 : decode cX7_blooms 24 = .ok (.aload_n 0, 1) := dk_42 (dk_at dksX7_blooms_1 0 rfl rfl)
theorem dX7_blooms_25 : decode cX7_blooms 25 = .ok (.iload_n 1, 1) := dk_27 (dk_at dksX7_blooms_1 1 rfl rfl)
theorem dX7_blooms_26 : decode cX7_blooms 26 = .ok (.iconst 5, 1) := dk_8 (dk_at dksX7_blooms_1 2 rfl rfl)
theorem dX7_blooms_27 : decode cX7_blooms 27 = .ok (.iload_n 2, 1) := dk_28 (dk_at dksX7_blooms_1 3 rfl rfl)
theorem dX7_blooms_28 : decode cX7_blooms 28 = .ok (.invokevirtual 132, 3) := dk_182 0 132 (dk_at dksX7_blooms_1 4 rfl rfl)
theorem dX7_blooms_31 : decode cX7_blooms 31 = .ok (.aload_n 0, 1) := dk_42 (dk_at dksX7_blooms_1 7 rfl rfl)
theorem dX7_blooms_32 : decode cX7_blooms 32 = .ok (.iload_n 1, 1) := dk_27 (dk_at dksX7_blooms_1 8 rfl rfl)
theorem dX7_blooms_33 : decode cX7_blooms 33 = .ok (.bipush 6, 2) := dk_16 6 (dk_at dksX7_blooms_1 9 rfl rfl)
theorem dX7_blooms_35 : decode cX7_blooms 35 = .ok (.iload_n 2, 1) := dk_28 (dk_at dksX7_blooms_1 11 rfl rfl)
theorem dX7_blooms_36 : decode cX7_blooms 36 = .ok (.invokevirtual 132, 3) := dk_182 0 132 (dk_at dksX7_blooms_1 12 rfl rfl)
theorem dX7_blooms_39 : decode cX7_blooms 39 = .ok (.iconst 0, 1) := dk_3 (dk_at dksX7_blooms_1 15 rfl rfl)
theorem dX7_blooms_40 : decode cX7_blooms 40 = .ok (.aload_n 0, 1) := dk_42 (dk_at dksX7_blooms_1 16 rfl rfl)
theorem dX7_blooms_41 : decode cX7_blooms 41 = .ok (.iload_n 1, 1) := dk_27 (dk_at dksX7_blooms_1 17 rfl rfl)
theorem dX7_blooms_42 : decode cX7_blooms 42 = .ok (.iconst 4, 1) := dk_7 (dk_at dksX7_blooms_1 18 rfl rfl)
theorem dX7_blooms_43 : decode cX7_blooms 43 = .ok (.invokevirtual 99, 3) := dk_182 0 99 (dk_at dksX7_blooms_1 19 rfl rfl)
theorem dX7_blooms_46 : decode cX7_blooms 46 = .ok (.iconst 3, 1) := dk_6 (dk_at dksX7_blooms_1 22 rfl rfl)
theorem dX7_blooms_47 : decode cX7_blooms 47 = .ok (.aload_n 0, 1) := dk_42 (dk_at dksX7_blooms_1 23 rfl rfl)
theorem dX7_blooms_48 : decode cX7_blooms 48 = .ok (.iload_n 1, 1) := dk_27 (dk_at dksX7_blooms_2 0 rfl rfl)
theorem dX7_blooms_49 : decode cX7_blooms 49 = .ok (.iconst 3, 1) := dk_6 (dk_at dksX7_blooms_2 1 rfl rfl)
theorem dX7_blooms_50 : decode cX7_blooms 50 = .ok (.invokevirtual 99, 3) := dk_182 0 99 (dk_at dksX7_blooms_2 2 rfl rfl)
theorem dX7_blooms_53 : decode cX7_blooms 53 = .ok (.imul, 1) := dk_104 (dk_at dksX7_blooms_2 5 rfl rfl)
theorem dX7_blooms_54 : decode cX7_blooms 54 = .ok (.isub, 1) := dk_100 (dk_at dksX7_blooms_2 6 rfl rfl)
theorem dX7_blooms_55 : decode cX7_blooms 55 = .ok (.invokestatic 122, 3) := dk_184 0 122 (dk_at dksX7_blooms_2 7 rfl rfl)
theorem dX7_blooms_58 : decode cX7_blooms 58 = .ok (.istore_n 3, 1) := dk_62 (dk_at dksX7_blooms_2 10 rfl rfl)
theorem dX7_blooms_59 : decode cX7_blooms 59 = .ok (.aload_n 0, 1) := dk_42 (dk_at dksX7_blooms_2 11 rfl rfl)
theorem dX7_blooms_60 : decode cX7_blooms 60 = .ok (.iload_n 1, 1) := dk_27 (dk_at dksX7_blooms_2 12 rfl rfl)
theorem dX7_blooms_61 : decode cX7_blooms 61 = .ok (.iconst 4, 1) := dk_7 (dk_at dksX7_blooms_2 13 rfl rfl)
theorem dX7_blooms_62 : decode cX7_blooms 62 = .ok (.iload_n 3, 1) := dk_29 (dk_at dksX7_blooms_2 14 rfl rfl)
theorem dX7_blooms_63 : decode cX7_blooms 63 = .ok (.ineg, 1) := dk_116 (dk_at dksX7_blooms_2 15 rfl rfl)
theorem dX7_blooms_64 : decode cX7_blooms 64 = .ok (.invokevirtual 132, 3) := dk_182 0 132 (dk_at dksX7_blooms_2 16 rfl rfl)
theorem dX7_blooms_67 : decode cX7_blooms 67 = .ok (.aload_n 0, 1) := dk_42 (dk_at dksX7_blooms_2 19 rfl rfl)
theorem dX7_blooms_68 : decode cX7_blooms 68 = .ok (.iload_n 1, 1) := dk_27 (dk_at dksX7_blooms_2 20 rfl rfl)
theorem dX7_blooms_69 : decode cX7_blooms 69 = .ok (.bipush 7, 2) := dk_16 7 (dk_at dksX7_blooms_2 21 rfl rfl)
theorem dX7_blooms_71 : decode cX7_blooms 71 = .ok (.iload_n 3, 1) := dk_29 (dk_at dksX7_blooms_2 23 rfl rfl)
theorem dX7_blooms_72 : decode cX7_blooms 72 = .ok (.invokevirtual 132, 3) := dk_182 0 132 (dk_at dksX7_blooms_3 0 rfl rfl)
theorem dX7_blooms_75 : decode cX7_blooms 75 = .ok (.return_, 1) := dk_177 (dk_at dksX7_blooms_3 3 rfl rfl)
abbrev cX7_awards : ByteArray := prog_21_method_27_code
def yX7_awards : MethodName := ⟨RX7, "awards", "()V"⟩
def dkwX7_awards_3 : List UInt8 := [167, 255, 226, 177]
abbrev dktX7_awards_3 : List UInt8 := dkwX7_awards_3 ++ []
def dkwX7_awards_2 : List UInt8 := [162, 0, 25, 42, 180, 0, 7, 16, 88, 16, 9, 27, 104, 96, 16, 6, 96, 3, 79, 132, 1, 1]
abbrev dktX7_awards_2 : List UInt8 := dkwX7_awards_2 ++ dktX7_awards_3
def dkwX7_awards_1 : List UInt8 := [182, 0, 132, 42, 42, 180, 0, 7, 6, 46, 116, 182, 0, 135, 3, 60, 27, 42, 180, 0, 7, 16, 7, 46]
abbrev dktX7_awards_1 : List UInt8 := dkwX7_awards_1 ++ dktX7_awards_2
def dkwX7_awards_0 : List UInt8 := [42, 42, 182, 0, 149, 181, 0, 29, 42, 180, 0, 29, 2, 159, 0, 25, 42, 42, 180, 0, 29, 16, 8, 4]
abbrev dktX7_awards_0 : List UInt8 := dkwX7_awards_0 ++ dktX7_awards_1
theorem dksX7_awards_0 : cX7_awards.data.toList.drop 0 = dktX7_awards_0 := by decide +kernel
theorem dksX7_awards_1 : cX7_awards.data.toList.drop 24 = dktX7_awards_1 := dk_seg dksX7_awards_0 24 rfl rfl
theorem dksX7_awards_2 : cX7_awards.data.toList.drop 48 = dktX7_awards_2 := dk_seg dksX7_awards_1 24 rfl rfl
theorem dksX7_awards_3 : cX7_awards.data.toList.drop 70 = dktX7_awards_3 := dk_seg dksX7_awards_2 22 rfl rfl
theorem dX7_awards_0 : decode cX7_awards 0 = .ok (.aload_n 0, 1) := dk_42 (dk_at dksX7_awards_0 0 rfl rfl)
theorem dX7_awards_1 : decode cX7_awards 1 = .ok (.aload_n 0, 1) := dk_42 (dk_at dksX7_awards_0 1 rfl rfl)
theorem dX7_awards_2 : decode cX7_awards 2 = .ok (.invokevirtual 149, 3) := dk_182 0 149 (dk_at dksX7_awards_0 2 rfl rfl)
theorem dX7_awards_5 : decode cX7_awards 5 = .ok (.putfield 29, 3) := dk_181 0 29 (dk_at dksX7_awards_0 5 rfl rfl)
theorem dX7_awards_8 : decode cX7_awards 8 = .ok (.aload_n 0, 1) := dk_42 (dk_at dksX7_awards_0 8 rfl rfl)
theorem dX7_awards_9 : decode cX7_awards 9 = .ok (.getfield 29, 3) := dk_180 0 29 (dk_at dksX7_awards_0 9 rfl rfl)
theorem dX7_awards_12 : decode cX7_awards 12 = .ok (.iconst (-1), 1) := dk_2 (dk_at dksX7_awards_0 12 rfl rfl)
theorem dX7_awards_13 : decode cX7_awards 13 = .ok (.if_icmp .eq 25, 3) := dk_159 0 25 (dk_at dksX7_awards_0 13 rfl rfl)
theorem dX7_awards_16 : decode cX7_awards 16 = .ok (.aload_n 0, 1) := dk_42 (dk_at dksX7_awards_0 16 rfl rfl)
theorem dX7_awards_17 : decode cX7_awards 17 = .ok (.aload_n 0, 1) := dk_42 (dk_at dksX7_awards_0 17 rfl rfl)
theorem dX7_awards_18 : decode cX7_awards 18 = .ok (.getfield 29, 3) := dk_180 0 29 (dk_at dksX7_awards_0 18 rfl rfl)
theorem dX7_awards_21 : decode cX7_awards 21 = .ok (.bipush 8, 2) := dk_16 8 (dk_at dksX7_awards_0 21 rfl rfl)
theorem dX7_awards_23 : decode cX7_awards 23 = .ok (.iconst 1, 1) := dk_4 (dk_at dksX7_awards_0 23 rfl rfl)
theorem dX7_awards_24 : decode cX7_awards 24 = .ok (.invokevirtual 132, 3) := dk_182 0 132 (dk_at dksX7_awards_1 0 rfl rfl)
theorem dX7_awards_27 : decode cX7_awards 27 = .ok (.aload_n 0, 1) := dk_42 (dk_at dksX7_awards_1 3 rfl rfl)
theorem dX7_awards_28 : decode cX7_awards 28 = .ok (.aload_n 0, 1) := dk_42 (dk_at dksX7_awards_1 4 rfl rfl)
theorem dX7_awards_29 : decode cX7_awards 29 = .ok (.getfield 7, 3) := dk_180 0 7 (dk_at dksX7_awards_1 5 rfl rfl)
theorem dX7_awards_32 : decode cX7_awards 32 = .ok (.iconst 3, 1) := dk_6 (dk_at dksX7_awards_1 8 rfl rfl)
theorem dX7_awards_33 : decode cX7_awards 33 = .ok (.iaload, 1) := dk_46 (dk_at dksX7_awards_1 9 rfl rfl)
theorem dX7_awards_34 : decode cX7_awards 34 = .ok (.ineg, 1) := dk_116 (dk_at dksX7_awards_1 10 rfl rfl)
theorem dX7_awards_35 : decode cX7_awards 35 = .ok (.invokevirtual 135, 3) := dk_182 0 135 (dk_at dksX7_awards_1 11 rfl rfl)
theorem dX7_awards_38 : decode cX7_awards 38 = .ok (.iconst 0, 1) := dk_3 (dk_at dksX7_awards_1 14 rfl rfl)
theorem dX7_awards_39 : decode cX7_awards 39 = .ok (.istore_n 1, 1) := dk_60 (dk_at dksX7_awards_1 15 rfl rfl)
theorem dX7_awards_40 : decode cX7_awards 40 = .ok (.iload_n 1, 1) := dk_27 (dk_at dksX7_awards_1 16 rfl rfl)
theorem dX7_awards_41 : decode cX7_awards 41 = .ok (.aload_n 0, 1) := dk_42 (dk_at dksX7_awards_1 17 rfl rfl)
theorem dX7_awards_42 : decode cX7_awards 42 = .ok (.getfield 7, 3) := dk_180 0 7 (dk_at dksX7_awards_1 18 rfl rfl)
theorem dX7_awards_45 : decode cX7_awards 45 = .ok (.bipush 7, 2) := dk_16 7 (dk_at dksX7_awards_1 21 rfl rfl)
theorem dX7_awards_47 : decode cX7_awards 47 = .ok (.iaload, 1) := dk_46 (dk_at dksX7_awards_1 23 rfl rfl)
theorem dX7_awards_48 : decode cX7_awards 48 = .ok (.if_icmp .ge 25, 3) := dk_162 0 25 (dk_at dksX7_awards_2 0 rfl rfl)
theorem dX7_awards_51 : decode cX7_awards 51 = .ok (.aload_n 0, 1) := dk_42 (dk_at dksX7_awards_2 3 rfl rfl)
theorem dX7_awards_52 : decode cX7_awards 52 = .ok (.getfield 7, 3) := dk_180 0 7 (dk_at dksX7_awards_2 4 rfl rfl)
theorem dX7_awards_55 : decode cX7_awards 55 = .ok (.bipush 88, 2) := dk_16 88 (dk_at dksX7_awards_2 7 rfl rfl)
theorem dX7_awards_57 : decode cX7_awards 57 = .ok (.bipush 9, 2) := dk_16 9 (dk_at dksX7_awards_2 9 rfl rfl)
theorem dX7_awards_59 : decode cX7_awards 59 = .ok (.iload_n 1, 1) := dk_27 (dk_at dksX7_awards_2 11 rfl rfl)
theorem dX7_awards_60 : decode cX7_awards 60 = .ok (.imul, 1) := dk_104 (dk_at dksX7_awards_2 12 rfl rfl)
theorem dX7_awards_61 : decode cX7_awards 61 = .ok (.iadd, 1) := dk_96 (dk_at dksX7_awards_2 13 rfl rfl)
theorem dX7_awards_62 : decode cX7_awards 62 = .ok (.bipush 6, 2) := dk_16 6 (dk_at dksX7_awards_2 14 rfl rfl)
theorem dX7_awards_64 : decode cX7_awards 64 = .ok (.iadd, 1) := dk_96 (dk_at dksX7_awards_2 16 rfl rfl)
theorem dX7_awards_65 : decode cX7_awards 65 = .ok (.iconst 0, 1) := dk_3 (dk_at dksX7_awards_2 17 rfl rfl)
theorem dX7_awards_66 : decode cX7_awards 66 = .ok (.iastore, 1) := dk_79 (dk_at dksX7_awards_2 18 rfl rfl)
theorem dX7_awards_67 : decode cX7_awards 67 = .ok (.iinc 1 1, 3) := dk_132 1 1 (dk_at dksX7_awards_2 19 rfl rfl)
theorem dX7_awards_70 : decode cX7_awards 70 = .ok (.goto (-30), 3) := dk_167 255 226 (dk_at dksX7_awards_3 0 rfl rfl)
theorem dX7_awards_73 : decode cX7_awards 73 = .ok (.return_, 1) := dk_177 (dk_at dksX7_awards_3 3 rfl rfl)
abbrev cX7_leads : ByteArray := prog_21_method_26_code
def yX7_leads : MethodName := ⟨RX7, "leads", "()I"⟩
def dkwX7_leads_2 : List UInt8 := [167, 255, 214, 27, 172]
abbrev dktX7_leads_2 : List UInt8 := dkwX7_leads_2 ++ []
def dkwX7_leads_1 : List UInt8 := [160, 0, 7, 3, 167, 0, 10, 42, 27, 16, 6, 182, 0, 99, 164, 0, 5, 28, 60, 132, 2, 1]
abbrev dktX7_leads_1 : List UInt8 := dkwX7_leads_1 ++ dktX7_leads_2
def dkwX7_leads_0 : List UInt8 := [2, 60, 3, 61, 28, 42, 180, 0, 7, 16, 7, 46, 162, 0, 37, 42, 28, 16, 6, 182, 0, 99, 27, 2]
abbrev dktX7_leads_0 : List UInt8 := dkwX7_leads_0 ++ dktX7_leads_1
theorem dksX7_leads_0 : cX7_leads.data.toList.drop 0 = dktX7_leads_0 := by decide +kernel
theorem dksX7_leads_1 : cX7_leads.data.toList.drop 24 = dktX7_leads_1 := dk_seg dksX7_leads_0 24 rfl rfl
theorem dksX7_leads_2 : cX7_leads.data.toList.drop 46 = dktX7_leads_2 := dk_seg dksX7_leads_1 22 rfl rfl
theorem dX7_leads_0 : decode cX7_leads 0 = .ok (.iconst (-1), 1) := dk_2 (dk_at dksX7_leads_0 0 rfl rfl)
theorem dX7_leads_1 : decode cX7_leads 1 = .ok (.istore_n 1, 1) := dk_60 (dk_at dksX7_leads_0 1 rfl rfl)
theorem dX7_leads_2 : decode cX7_leads 2 = .ok (.iconst 0, 1) := dk_3 (dk_at dksX7_leads_0 2 rfl rfl)
theorem dX7_leads_3 : decode cX7_leads 3 = .ok (.istore_n 2, 1) := dk_61 (dk_at dksX7_leads_0 3 rfl rfl)
theorem dX7_leads_4 : decode cX7_leads 4 = .ok (.iload_n 2, 1) := dk_28 (dk_at dksX7_leads_0 4 rfl rfl)
theorem dX7_leads_5 : decode cX7_leads 5 = .ok (.aload_n 0, 1) := dk_42 (dk_at dksX7_leads_0 5 rfl rfl)
theorem dX7_leads_6 : decode cX7_leads 6 = .ok (.getfield 7, 3) := dk_180 0 7 (dk_at dksX7_leads_0 6 rfl rfl)
theorem dX7_leads_9 : decode cX7_leads 9 = .ok (.bipush 7, 2) := dk_16 7 (dk_at dksX7_leads_0 9 rfl rfl)
theorem dX7_leads_11 : decode cX7_leads 11 = .ok (.iaload, 1) := dk_46 (dk_at dksX7_leads_0 11 rfl rfl)
theorem dX7_leads_12 : decode cX7_leads 12 = .ok (.if_icmp .ge 37, 3) := dk_162 0 37 (dk_at dksX7_leads_0 12 rfl rfl)
theorem dX7_leads_15 : decode cX7_leads 15 = .ok (.aload_n 0, 1) := dk_42 (dk_at dksX7_leads_0 15 rfl rfl)
theorem dX7_leads_16 : decode cX7_leads 16 = .ok (.iload_n 2, 1) := dk_28 (dk_at dksX7_leads_0 16 rfl rfl)
theorem dX7_leads_17 : decode cX7_leads 17 = .ok (.bipush 6, 2) := dk_16 6 (dk_at dksX7_leads_0 17 rfl rfl)
theorem dX7_leads_19 : decode cX7_leads 19 = .ok (.invokevirtual 99, 3) := dk_182 0 99 (dk_at dksX7_leads_0 19 rfl rfl)
theorem dX7_leads_22 : decode cX7_leads 22 = .ok (.iload_n 1, 1) := dk_27 (dk_at dksX7_leads_0 22 rfl rfl)
theorem dX7_leads_23 : decode cX7_leads 23 = .ok (.iconst (-1), 1) := dk_2 (dk_at dksX7_leads_0 23 rfl rfl)
theorem dX7_leads_24 : decode cX7_leads 24 = .ok (.if_icmp .ne 7, 3) := dk_160 0 7 (dk_at dksX7_leads_1 0 rfl rfl)
theorem dX7_leads_27 : decode cX7_leads 27 = .ok (.iconst 0, 1) := dk_3 (dk_at dksX7_leads_1 3 rfl rfl)
theorem dX7_leads_28 : decode cX7_leads 28 = .ok (.goto 10, 3) := dk_167 0 10 (dk_at dksX7_leads_1 4 rfl rfl)
theorem dX7_leads_31 : decode cX7_leads 31 = .ok (.aload_n 0, 1) := dk_42 (dk_at dksX7_leads_1 7 rfl rfl)
theorem dX7_leads_32 : decode cX7_leads 32 = .ok (.iload_n 1, 1) := dk_27 (dk_at dksX7_leads_1 8 rfl rfl)
theorem dX7_leads_33 : decode cX7_leads 33 = .ok (.bipush 6, 2) := dk_16 6 (dk_at dksX7_leads_1 9 rfl rfl)
theorem dX7_leads_35 : decode cX7_leads 35 = .ok (.invokevirtual 99, 3) := dk_182 0 99 (dk_at dksX7_leads_1 11 rfl rfl)
theorem dX7_leads_38 : decode cX7_leads 38 = .ok (.if_icmp .le 5, 3) := dk_164 0 5 (dk_at dksX7_leads_1 14 rfl rfl)
theorem dX7_leads_41 : decode cX7_leads 41 = .ok (.iload_n 2, 1) := dk_28 (dk_at dksX7_leads_1 17 rfl rfl)
theorem dX7_leads_42 : decode cX7_leads 42 = .ok (.istore_n 1, 1) := dk_60 (dk_at dksX7_leads_1 18 rfl rfl)
theorem dX7_leads_43 : decode cX7_leads 43 = .ok (.iinc 2 1, 3) := dk_132 2 1 (dk_at dksX7_leads_1 19 rfl rfl)
theorem dX7_leads_46 : decode cX7_leads 46 = .ok (.goto (-42), 3) := dk_167 255 214 (dk_at dksX7_leads_2 0 rfl rfl)
theorem dX7_leads_49 : decode cX7_leads 49 = .ok (.iload_n 1, 1) := dk_27 (dk_at dksX7_leads_2 3 rfl rfl)
theorem dX7_leads_50 : decode cX7_leads 50 = .ok (.ireturn, 1) := dk_172 (dk_at dksX7_leads_2 4 rfl rfl)
abbrev cX7_setting : ByteArray := prog_21_method_120_code
def yX7_setting : MethodName := ⟨RX7, "setting", "(III)I"⟩
def dkwX7_setting_1 : List UInt8 := [27, 46, 54, 4, 42, 180, 0, 7, 27, 28, 79, 21, 4, 172]
abbrev dktX7_setting_1 : List UInt8 := dkwX7_setting_1 ++ []
def dkwX7_setting_0 : List UInt8 := [42, 28, 3, 29, 184, 0, 88, 4, 182, 0, 176, 154, 0, 5, 3, 172, 42, 182, 1, 126, 42, 180, 0, 7]
abbrev dktX7_setting_0 : List UInt8 := dkwX7_setting_0 ++ dktX7_setting_1
theorem dksX7_setting_0 : cX7_setting.data.toList.drop 0 = dktX7_setting_0 := by decide +kernel
theorem dksX7_setting_1 : cX7_setting.data.toList.drop 24 = dktX7_setting_1 := dk_seg dksX7_setting_0 24 rfl rfl
theorem dX7_setting_0 : decode cX7_setting 0 = .ok (.aload_n 0, 1) := dk_42 (dk_at dksX7_setting_0 0 rfl rfl)
theorem dX7_setting_1 : decode cX7_setting 1 = .ok (.iload_n 2, 1) := dk_28 (dk_at dksX7_setting_0 1 rfl rfl)
theorem dX7_setting_2 : decode cX7_setting 2 = .ok (.iconst 0, 1) := dk_3 (dk_at dksX7_setting_0 2 rfl rfl)
theorem dX7_setting_3 : decode cX7_setting 3 = .ok (.iload_n 3, 1) := dk_29 (dk_at dksX7_setting_0 3 rfl rfl)
theorem dX7_setting_4 : decode cX7_setting 4 = .ok (.invokestatic 88, 3) := dk_184 0 88 (dk_at dksX7_setting_0 4 rfl rfl)
theorem dX7_setting_7 : decode cX7_setting 7 = .ok (.iconst 1, 1) := dk_4 (dk_at dksX7_setting_0 7 rfl rfl)
theorem dX7_setting_8 : decode cX7_setting 8 = .ok (.invokevirtual 176, 3) := dk_182 0 176 (dk_at dksX7_setting_0 8 rfl rfl)
theorem dX7_setting_11 : decode cX7_setting 11 = .ok (.ifCond .ne 5, 3) := dk_154 0 5 (dk_at dksX7_setting_0 11 rfl rfl)
theorem dX7_setting_14 : decode cX7_setting 14 = .ok (.iconst 0, 1) := dk_3 (dk_at dksX7_setting_0 14 rfl rfl)
theorem dX7_setting_15 : decode cX7_setting 15 = .ok (.ireturn, 1) := dk_172 (dk_at dksX7_setting_0 15 rfl rfl)
theorem dX7_setting_16 : decode cX7_setting 16 = .ok (.aload_n 0, 1) := dk_42 (dk_at dksX7_setting_0 16 rfl rfl)
theorem dX7_setting_17 : decode cX7_setting 17 = .ok (.invokevirtual 382, 3) := dk_182 1 126 (dk_at dksX7_setting_0 17 rfl rfl)
theorem dX7_setting_20 : decode cX7_setting 20 = .ok (.aload_n 0, 1) := dk_42 (dk_at dksX7_setting_0 20 rfl rfl)
theorem dX7_setting_21 : decode cX7_setting 21 = .ok (.getfield 7, 3) := dk_180 0 7 (dk_at dksX7_setting_0 21 rfl rfl)
theorem dX7_setting_24 : decode cX7_setting 24 = .ok (.iload_n 1, 1) := dk_27 (dk_at dksX7_setting_1 0 rfl rfl)
theorem dX7_setting_25 : decode cX7_setting 25 = .ok (.iaload, 1) := dk_46 (dk_at dksX7_setting_1 1 rfl rfl)
theorem dX7_setting_26 : decode cX7_setting 26 = .ok (.istore 4, 2) := dk_54 4 (dk_at dksX7_setting_1 2 rfl rfl)
theorem dX7_setting_28 : decode cX7_setting 28 = .ok (.aload_n 0, 1) := dk_42 (dk_at dksX7_setting_1 4 rfl rfl)
theorem dX7_setting_29 : decode cX7_setting 29 = .ok (.getfield 7, 3) := dk_180 0 7 (dk_at dksX7_setting_1 5 rfl rfl)
theorem dX7_setting_32 : decode cX7_setting 32 = .ok (.iload_n 1, 1) := dk_27 (dk_at dksX7_setting_1 8 rfl rfl)
theorem dX7_setting_33 : decode cX7_setting 33 = .ok (.iload_n 2, 1) := dk_28 (dk_at dksX7_setting_1 9 rfl rfl)
theorem dX7_setting_34 : decode cX7_setting 34 = .ok (.iastore, 1) := dk_79 (dk_at dksX7_setting_1 10 rfl rfl)
theorem dX7_setting_35 : decode cX7_setting 35 = .ok (.iload 4, 2) := dk_21 4 (dk_at dksX7_setting_1 11 rfl rfl)
theorem dX7_setting_37 : decode cX7_setting 37 = .ok (.ireturn, 1) := dk_172 (dk_at dksX7_setting_1 13 rfl rfl)
abbrev cX7_streetCount : ByteArray := prog_21_method_70_code
def yX7_streetCount : MethodName := ⟨RX7, "streetCount", "()I"⟩
def dkwX7_streetCount_0 : List UInt8 := [42, 3, 181, 0, 85, 42, 180, 0, 7, 16, 6, 46, 172]
abbrev dktX7_streetCount_0 : List UInt8 := dkwX7_streetCount_0 ++ []
theorem dksX7_streetCount_0 : cX7_streetCount.data.toList.drop 0 = dktX7_streetCount_0 := by decide +kernel
theorem dX7_streetCount_0 : decode cX7_streetCount 0 = .ok (.aload_n 0, 1) := dk_42 (dk_at dksX7_streetCount_0 0 rfl rfl)
theorem dX7_streetCount_1 : decode cX7_streetCount 1 = .ok (.iconst 0, 1) := dk_3 (dk_at dksX7_streetCount_0 1 rfl rfl)
theorem dX7_streetCount_2 : decode cX7_streetCount 2 = .ok (.putfield 85, 3) := dk_181 0 85 (dk_at dksX7_streetCount_0 2 rfl rfl)
theorem dX7_streetCount_5 : decode cX7_streetCount 5 = .ok (.aload_n 0, 1) := dk_42 (dk_at dksX7_streetCount_0 5 rfl rfl)
theorem dX7_streetCount_6 : decode cX7_streetCount 6 = .ok (.getfield 7, 3) := dk_180 0 7 (dk_at dksX7_streetCount_0 6 rfl rfl)
theorem dX7_streetCount_9 : decode cX7_streetCount 9 = .ok (.bipush 6, 2) := dk_16 6 (dk_at dksX7_streetCount_0 9 rfl rfl)
theorem dX7_streetCount_11 : decode cX7_streetCount 11 = .ok (.iaload, 1) := dk_46 (dk_at dksX7_streetCount_0 11 rfl rfl)
theorem dX7_streetCount_12 : decode cX7_streetCount 12 = .ok (.ireturn, 1) := dk_172 (dk_at dksX7_streetCount_0 12 rfl rfl)
abbrev cX7_findStreet : ByteArray := prog_21_method_72_code
def yX7_findStreet : MethodName := ⟨RX7, "findStreet", "()I"⟩
def dkwX7_findStreet_1 : List UInt8 := [172]
abbrev dktX7_findStreet_1 : List UInt8 := dkwX7_findStreet_1 ++ []
def dkwX7_findStreet_0 : List UInt8 := [42, 3, 181, 0, 85, 42, 182, 1, 93, 154, 0, 7, 2, 167, 0, 11, 42, 42, 182, 1, 93, 182, 0, 232]
abbrev dktX7_findStreet_0 : List UInt8 := dkwX7_findStreet_0 ++ dktX7_findStreet_1
theorem dksX7_findStreet_0 : cX7_findStreet.data.toList.drop 0 = dktX7_findStreet_0 := by decide +kernel
theorem dksX7_findStreet_1 : cX7_findStreet.data.toList.drop 24 = dktX7_findStreet_1 := dk_seg dksX7_findStreet_0 24 rfl rfl
theorem dX7_findStreet_0 : decode cX7_findStreet 0 = .ok (.aload_n 0, 1) := dk_42 (dk_at dksX7_findStreet_0 0 rfl rfl)
theorem dX7_findStreet_1 : decode cX7_findStreet 1 = .ok (.iconst 0, 1) := dk_3 (dk_at dksX7_findStreet_0 1 rfl rfl)
theorem dX7_findStreet_2 : decode cX7_findStreet 2 = .ok (.putfield 85, 3) := dk_181 0 85 (dk_at dksX7_findStreet_0 2 rfl rfl)
theorem dX7_findStreet_5 : decode cX7_findStreet 5 = .ok (.aload_n 0, 1) := dk_42 (dk_at dksX7_findStreet_0 5 rfl rfl)
theorem dX7_findStreet_6 : decode cX7_findStreet 6 = .ok (.invokevirtual 349, 3) := dk_182 1 93 (dk_at dksX7_findStreet_0 6 rfl rfl)
theorem dX7_findStreet_9 : decode cX7_findStreet 9 = .ok (.ifCond .ne 7, 3) := dk_154 0 7 (dk_at dksX7_findStreet_0 9 rfl rfl)
theorem dX7_findStreet_12 : decode cX7_findStreet 12 = .ok (.iconst (-1), 1) := dk_2 (dk_at dksX7_findStreet_0 12 rfl rfl)
theorem dX7_findStreet_13 : decode cX7_findStreet 13 = .ok (.goto 11, 3) := dk_167 0 11 (dk_at dksX7_findStreet_0 13 rfl rfl)
theorem dX7_findStreet_16 : decode cX7_findStreet 16 = .ok (.aload_n 0, 1) := dk_42 (dk_at dksX7_findStreet_0 16 rfl rfl)
theorem dX7_findStreet_17 : decode cX7_findStreet 17 = .ok (.aload_n 0, 1) := dk_42 (dk_at dksX7_findStreet_0 17 rfl rfl)
theorem dX7_findStreet_18 : decode cX7_findStreet 18 = .ok (.invokevirtual 349, 3) := dk_182 1 93 (dk_at dksX7_findStreet_0 18 rfl rfl)
theorem dX7_findStreet_21 : decode cX7_findStreet 21 = .ok (.invokevirtual 232, 3) := dk_182 0 232 (dk_at dksX7_findStreet_0 21 rfl rfl)
theorem dX7_findStreet_24 : decode cX7_findStreet 24 = .ok (.ireturn, 1) := dk_172 (dk_at dksX7_findStreet_1 0 rfl rfl)
abbrev cX7_buffered : ByteArray := prog_21_method_71_code
def yX7_buffered : MethodName := ⟨RX7, "buffered", "()I"⟩
def dkwX7_buffered_2 : List UInt8 := [167, 255, 227, 42, 3, 42, 180, 0, 76, 182, 0, 220, 172]
abbrev dktX7_buffered_2 : List UInt8 := dkwX7_buffered_2 ++ []
def dkwX7_buffered_1 : List UInt8 := [162, 0, 27, 42, 180, 0, 33, 27, 46, 16, 97, 16, 122, 184, 0, 88, 154, 0, 5, 3, 172, 132, 1, 1]
abbrev dktX7_buffered_1 : List UInt8 := dkwX7_buffered_1 ++ dktX7_buffered_2
def dkwX7_buffered_0 : List UInt8 := [42, 180, 0, 76, 4, 16, 6, 184, 0, 88, 154, 0, 5, 3, 172, 3, 60, 27, 42, 180, 0, 76]
abbrev dktX7_buffered_0 : List UInt8 := dkwX7_buffered_0 ++ dktX7_buffered_1
theorem dksX7_buffered_0 : cX7_buffered.data.toList.drop 0 = dktX7_buffered_0 := by decide +kernel
theorem dksX7_buffered_1 : cX7_buffered.data.toList.drop 22 = dktX7_buffered_1 := dk_seg dksX7_buffered_0 22 rfl rfl
theorem dksX7_buffered_2 : cX7_buffered.data.toList.drop 46 = dktX7_buffered_2 := dk_seg dksX7_buffered_1 24 rfl rfl
theorem dX7_buffered_0 : decode cX7_buffered 0 = .ok (.aload_n 0, 1) := dk_42 (dk_at dksX7_buffered_0 0 rfl rfl)
theorem dX7_buffered_1 : decode cX7_buffered 1 = .ok (.getfield 76, 3) := dk_180 0 76 (dk_at dksX7_buffered_0 1 rfl rfl)
theorem dX7_buffered_4 : decode cX7_buffered 4 = .ok (.iconst 1, 1) := dk_4 (dk_at dksX7_buffered_0 4 rfl rfl)
theorem dX7_buffered_5 : decode cX7_buffered 5 = .ok (.bipush 6, 2) := dk_16 6 (dk_at dksX7_buffered_0 5 rfl rfl)
theorem dX7_buffered_7 : decode cX7_buffered 7 = .ok (.invokestatic 88, 3) := dk_184 0 88 (dk_at dksX7_buffered_0 7 rfl rfl)
theorem dX7_buffered_10 : decode cX7_buffered 10 = .ok (.ifCond .ne 5, 3) := dk_154 0 5 (dk_at dksX7_buffered_0 10 rfl rfl)
theorem dX7_buffered_13 : decode cX7_buffered 13 = .ok (.iconst 0, 1) := dk_3 (dk_at dksX7_buffered_0 13 rfl rfl)
theorem dX7_buffered_14 : decode cX7_buffered 14 = .ok (.ireturn, 1) := dk_172 (dk_at dksX7_buffered_0 14 rfl rfl)
theorem dX7_buffered_15 : decode cX7_buffered 15 = .ok (.iconst 0, 1) := dk_3 (dk_at dksX7_buffered_0 15 rfl rfl)
theorem dX7_buffered_16 : decode cX7_buffered 16 = .ok (.istore_n 1, 1) := dk_60 (dk_at dksX7_buffered_0 16 rfl rfl)
theorem dX7_buffered_17 : decode cX7_buffered 17 = .ok (.iload_n 1, 1) := dk_27 (dk_at dksX7_buffered_0 17 rfl rfl)
theorem dX7_buffered_18 : decode cX7_buffered 18 = .ok (.aload_n 0, 1) := dk_42 (dk_at dksX7_buffered_0 18 rfl rfl)
theorem dX7_buffered_19 : decode cX7_buffered 19 = .ok (.getfield 76, 3) := dk_180 0 76 (dk_at dksX7_buffered_0 19 rfl rfl)
theorem dX7_buffered_22 : decode cX7_buffered 22 = .ok (.if_icmp .ge 27, 3) := dk_162 0 27 (dk_at dksX7_buffered_1 0 rfl rfl)
theorem dX7_buffered_25 : decode cX7_buffered 25 = .ok (.aload_n 0, 1) := dk_42 (dk_at dksX7_buffered_1 3 rfl rfl)
theorem dX7_buffered_26 : decode cX7_buffered 26 = .ok (.getfield 33, 3) := dk_180 0 33 (dk_at dksX7_buffered_1 4 rfl rfl)
theorem dX7_buffered_29 : decode cX7_buffered 29 = .ok (.iload_n 1, 1) := dk_27 (dk_at dksX7_buffered_1 7 rfl rfl)
theorem dX7_buffered_30 : decode cX7_buffered 30 = .ok (.iaload, 1) := dk_46 (dk_at dksX7_buffered_1 8 rfl rfl)
theorem dX7_buffered_31 : decode cX7_buffered 31 = .ok (.bipush 97, 2) := dk_16 97 (dk_at dksX7_buffered_1 9 rfl rfl)
theorem dX7_buffered_33 : decode cX7_buffered 33 = .ok (.bipush 122, 2) := dk_16 122 (dk_at dksX7_buffered_1 11 rfl rfl)
theorem dX7_buffered_35 : decode cX7_buffered 35 = .ok (.invokestatic 88, 3) := dk_184 0 88 (dk_at dksX7_buffered_1 13 rfl rfl)
theorem dX7_buffered_38 : decode cX7_buffered 38 = .ok (.ifCond .ne 5, 3) := dk_154 0 5 (dk_at dksX7_buffered_1 16 rfl rfl)
theorem dX7_buffered_41 : decode cX7_buffered 41 = .ok (.iconst 0, 1) := dk_3 (dk_at dksX7_buffered_1 19 rfl rfl)
theorem dX7_buffered_42 : decode cX7_buffered 42 = .ok (.ireturn, 1) := dk_172 (dk_at dksX7_buffered_1 20 rfl rfl)
theorem dX7_buffered_43 : decode cX7_buffered 43 = .ok (.iinc 1 1, 3) := dk_132 1 1 (dk_at dksX7_buffered_1 21 rfl rfl)
theorem dX7_buffered_46 : decode cX7_buffered 46 = .ok (.goto (-29), 3) := dk_167 255 227 (dk_at dksX7_buffered_2 0 rfl rfl)
theorem dX7_buffered_49 : decode cX7_buffered 49 = .ok (.aload_n 0, 1) := dk_42 (dk_at dksX7_buffered_2 3 rfl rfl)
theorem dX7_buffered_50 : decode cX7_buffered 50 = .ok (.iconst 0, 1) := dk_3 (dk_at dksX7_buffered_2 4 rfl rfl)
theorem dX7_buffered_51 : decode cX7_buffered 51 = .ok (.aload_n 0, 1) := dk_42 (dk_at dksX7_buffered_2 5 rfl rfl)
theorem dX7_buffered_52 : decode cX7_buffered 52 = .ok (.getfield 76, 3) := dk_180 0 76 (dk_at dksX7_buffered_2 6 rfl rfl)
theorem dX7_buffered_55 : decode cX7_buffered 55 = .ok (.invokevirtual 220, 3) := dk_182 0 220 (dk_at dksX7_buffered_2 9 rfl rfl)
theorem dX7_buffered_58 : decode cX7_buffered 58 = .ok (.ireturn, 1) := dk_172 (dk_at dksX7_buffered_2 12 rfl rfl)
abbrev cX7_streetAt : ByteArray := prog_21_method_73_code
def yX7_streetAt : MethodName := ⟨RX7, "streetAt", "(II)I"⟩
def dkwX7_streetAt_0 : List UInt8 := [42, 3, 181, 0, 85, 42, 27, 28, 182, 0, 223, 172]
abbrev dktX7_streetAt_0 : List UInt8 := dkwX7_streetAt_0 ++ []
theorem dksX7_streetAt_0 : cX7_streetAt.data.toList.drop 0 = dktX7_streetAt_0 := by decide +kernel
theorem dX7_streetAt_0 : decode cX7_streetAt 0 = .ok (.aload_n 0, 1) := dk_42 (dk_at dksX7_streetAt_0 0 rfl rfl)
theorem dX7_streetAt_1 : decode cX7_streetAt 1 = .ok (.iconst 0, 1) := dk_3 (dk_at dksX7_streetAt_0 1 rfl rfl)
theorem dX7_streetAt_2 : decode cX7_streetAt 2 = .ok (.putfield 85, 3) := dk_181 0 85 (dk_at dksX7_streetAt_0 2 rfl rfl)
theorem dX7_streetAt_5 : decode cX7_streetAt 5 = .ok (.aload_n 0, 1) := dk_42 (dk_at dksX7_streetAt_0 5 rfl rfl)
theorem dX7_streetAt_6 : decode cX7_streetAt 6 = .ok (.iload_n 1, 1) := dk_27 (dk_at dksX7_streetAt_0 6 rfl rfl)
theorem dX7_streetAt_7 : decode cX7_streetAt 7 = .ok (.iload_n 2, 1) := dk_28 (dk_at dksX7_streetAt_0 7 rfl rfl)
theorem dX7_streetAt_8 : decode cX7_streetAt 8 = .ok (.invokevirtual 223, 3) := dk_182 0 223 (dk_at dksX7_streetAt_0 8 rfl rfl)
theorem dX7_streetAt_11 : decode cX7_streetAt 11 = .ok (.ireturn, 1) := dk_172 (dk_at dksX7_streetAt_0 11 rfl rfl)
abbrev cX7_bins : ByteArray := prog_21_method_75_code
def yX7_bins : MethodName := ⟨RX7, "bins", "(I)I"⟩
def dkwX7_bins_0 : List UInt8 := [42, 27, 8, 182, 1, 99, 172]
abbrev dktX7_bins_0 : List UInt8 := dkwX7_bins_0 ++ []
theorem dksX7_bins_0 : cX7_bins.data.toList.drop 0 = dktX7_bins_0 := by decide +kernel
theorem dX7_bins_0 : decode cX7_bins 0 = .ok (.aload_n 0, 1) := dk_42 (dk_at dksX7_bins_0 0 rfl rfl)
theorem dX7_bins_1 : decode cX7_bins 1 = .ok (.iload_n 1, 1) := dk_27 (dk_at dksX7_bins_0 1 rfl rfl)
theorem dX7_bins_2 : decode cX7_bins 2 = .ok (.iconst 5, 1) := dk_8 (dk_at dksX7_bins_0 2 rfl rfl)
theorem dX7_bins_3 : decode cX7_bins 3 = .ok (.invokevirtual 355, 3) := dk_182 1 99 (dk_at dksX7_bins_0 3 rfl rfl)
theorem dX7_bins_6 : decode cX7_bins 6 = .ok (.ireturn, 1) := dk_172 (dk_at dksX7_bins_0 6 rfl rfl)
abbrev cX7_askedS : ByteArray := prog_21_method_74_code
def yX7_askedS : MethodName := ⟨RX7, "askedS", "(II)I"⟩
def dkwX7_askedS_1 : List UInt8 := [167, 0, 4, 3, 172]
abbrev dktX7_askedS_1 : List UInt8 := dkwX7_askedS_1 ++ []
def dkwX7_askedS_0 : List UInt8 := [42, 3, 181, 0, 85, 42, 42, 27, 182, 1, 96, 4, 182, 0, 176, 153, 0, 12, 42, 27, 28, 182, 0, 96]
abbrev dktX7_askedS_0 : List UInt8 := dkwX7_askedS_0 ++ dktX7_askedS_1
theorem dksX7_askedS_0 : cX7_askedS.data.toList.drop 0 = dktX7_askedS_0 := by decide +kernel
theorem dksX7_askedS_1 : cX7_askedS.data.toList.drop 24 = dktX7_askedS_1 := dk_seg dksX7_askedS_0 24 rfl rfl
theorem dX7_askedS_0 : decode cX7_askedS 0 = .ok (.aload_n 0, 1) := dk_42 (dk_at dksX7_askedS_0 0 rfl rfl)
theorem dX7_askedS_1 : decode cX7_askedS 1 = .ok (.iconst 0, 1) := dk_3 (dk_at dksX7_askedS_0 1 rfl rfl)
theorem dX7_askedS_2 : decode cX7_askedS 2 = .ok (.putfield 85, 3) := dk_181 0 85 (dk_at dksX7_askedS_0 2 rfl rfl)
theorem dX7_askedS_5 : decode cX7_askedS 5 = .ok (.aload_n 0, 1) := dk_42 (dk_at dksX7_askedS_0 5 rfl rfl)
theorem dX7_askedS_6 : decode cX7_askedS 6 = .ok (.aload_n 0, 1) := dk_42 (dk_at dksX7_askedS_0 6 rfl rfl)
theorem dX7_askedS_7 : decode cX7_askedS 7 = .ok (.iload_n 1, 1) := dk_27 (dk_at dksX7_askedS_0 7 rfl rfl)
theorem dX7_askedS_8 : decode cX7_askedS 8 = .ok (.invokevirtual 352, 3) := dk_182 1 96 (dk_at dksX7_askedS_0 8 rfl rfl)
theorem dX7_askedS_11 : decode cX7_askedS 11 = .ok (.iconst 1, 1) := dk_4 (dk_at dksX7_askedS_0 11 rfl rfl)
theorem dX7_askedS_12 : decode cX7_askedS 12 = .ok (.invokevirtual 176, 3) := dk_182 0 176 (dk_at dksX7_askedS_0 12 rfl rfl)
theorem dX7_askedS_15 : decode cX7_askedS 15 = .ok (.ifCond .eq 12, 3) := dk_153 0 12 (dk_at dksX7_askedS_0 15 rfl rfl)
theorem dX7_askedS_18 : decode cX7_askedS 18 = .ok (.aload_n 0, 1) := dk_42 (dk_at dksX7_askedS_0 18 rfl rfl)
theorem dX7_askedS_19 : decode cX7_askedS 19 = .ok (.iload_n 1, 1) := dk_27 (dk_at dksX7_askedS_0 19 rfl rfl)
theorem dX7_askedS_20 : decode cX7_askedS 20 = .ok (.iload_n 2, 1) := dk_28 (dk_at dksX7_askedS_0 20 rfl rfl)
theorem dX7_askedS_21 : decode cX7_askedS 21 = .ok (.invokevirtual 96, 3) := dk_182 0 96 (dk_at dksX7_askedS_0 21 rfl rfl)
theorem dX7_askedS_24 : decode cX7_askedS 24 = .ok (.goto 4, 3) := dk_167 0 4 (dk_at dksX7_askedS_1 0 rfl rfl)
theorem dX7_askedS_27 : decode cX7_askedS 27 = .ok (.iconst 0, 1) := dk_3 (dk_at dksX7_askedS_1 3 rfl rfl)
theorem dX7_askedS_28 : decode cX7_askedS 28 = .ok (.ireturn, 1) := dk_172 (dk_at dksX7_askedS_1 4 rfl rfl)
abbrev cX7_spilled : ByteArray := prog_21_method_76_code
def yX7_spilled : MethodName := ⟨RX7, "spilled", "(I)I"⟩
def dkwX7_spilled_0 : List UInt8 := [42, 27, 16, 6, 182, 1, 99, 172]
abbrev dktX7_spilled_0 : List UInt8 := dkwX7_spilled_0 ++ []
theorem dksX7_spilled_0 : cX7_spilled.data.toList.drop 0 = dktX7_spilled_0 := by decide +kernel
theorem dX7_spilled_0 : decode cX7_spilled 0 = .ok (.aload_n 0, 1) := dk_42 (dk_at dksX7_spilled_0 0 rfl rfl)
theorem dX7_spilled_1 : decode cX7_spilled 1 = .ok (.iload_n 1, 1) := dk_27 (dk_at dksX7_spilled_0 1 rfl rfl)
theorem dX7_spilled_2 : decode cX7_spilled 2 = .ok (.bipush 6, 2) := dk_16 6 (dk_at dksX7_spilled_0 2 rfl rfl)
theorem dX7_spilled_4 : decode cX7_spilled 4 = .ok (.invokevirtual 355, 3) := dk_182 1 99 (dk_at dksX7_spilled_0 4 rfl rfl)
theorem dX7_spilled_7 : decode cX7_spilled 7 = .ok (.ireturn, 1) := dk_172 (dk_at dksX7_spilled_0 7 rfl rfl)
abbrev cX7_complaints : ByteArray := prog_21_method_77_code
def yX7_complaints : MethodName := ⟨RX7, "complaints", "(I)I"⟩
def dkwX7_complaints_0 : List UInt8 := [42, 27, 16, 7, 182, 1, 99, 172]
abbrev dktX7_complaints_0 : List UInt8 := dkwX7_complaints_0 ++ []
theorem dksX7_complaints_0 : cX7_complaints.data.toList.drop 0 = dktX7_complaints_0 := by decide +kernel
theorem dX7_complaints_0 : decode cX7_complaints 0 = .ok (.aload_n 0, 1) := dk_42 (dk_at dksX7_complaints_0 0 rfl rfl)
theorem dX7_complaints_1 : decode cX7_complaints 1 = .ok (.iload_n 1, 1) := dk_27 (dk_at dksX7_complaints_0 1 rfl rfl)
theorem dX7_complaints_2 : decode cX7_complaints 2 = .ok (.bipush 7, 2) := dk_16 7 (dk_at dksX7_complaints_0 2 rfl rfl)
theorem dX7_complaints_4 : decode cX7_complaints 4 = .ok (.invokevirtual 355, 3) := dk_182 1 99 (dk_at dksX7_complaints_0 4 rfl rfl)
theorem dX7_complaints_7 : decode cX7_complaints 7 = .ok (.ireturn, 1) := dk_172 (dk_at dksX7_complaints_0 7 rfl rfl)
abbrev cX7_wasServed : ByteArray := prog_21_method_78_code
def yX7_wasServed : MethodName := ⟨RX7, "wasServed", "(I)Z"⟩
def dkwX7_wasServed_0 : List UInt8 := [42, 27, 16, 8, 182, 1, 99, 4, 160, 0, 7, 4, 167, 0, 4, 3, 172]
abbrev dktX7_wasServed_0 : List UInt8 := dkwX7_wasServed_0 ++ []
theorem dksX7_wasServed_0 : cX7_wasServed.data.toList.drop 0 = dktX7_wasServed_0 := by decide +kernel
theorem dX7_wasServed_0 : decode cX7_wasServed 0 = .ok (.aload_n 0, 1) := dk_42 (dk_at dksX7_wasServed_0 0 rfl rfl)
theorem dX7_wasServed_1 : decode cX7_wasServed 1 = .ok (.iload_n 1, 1) := dk_27 (dk_at dksX7_wasServed_0 1 rfl rfl)
theorem dX7_wasServed_2 : decode cX7_wasServed 2 = .ok (.bipush 8, 2) := dk_16 8 (dk_at dksX7_wasServed_0 2 rfl rfl)
theorem dX7_wasServed_4 : decode cX7_wasServed 4 = .ok (.invokevirtual 355, 3) := dk_182 1 99 (dk_at dksX7_wasServed_0 4 rfl rfl)
theorem dX7_wasServed_7 : decode cX7_wasServed 7 = .ok (.iconst 1, 1) := dk_4 (dk_at dksX7_wasServed_0 7 rfl rfl)
theorem dX7_wasServed_8 : decode cX7_wasServed 8 = .ok (.if_icmp .ne 7, 3) := dk_160 0 7 (dk_at dksX7_wasServed_0 8 rfl rfl)
theorem dX7_wasServed_11 : decode cX7_wasServed 11 = .ok (.iconst 1, 1) := dk_4 (dk_at dksX7_wasServed_0 11 rfl rfl)
theorem dX7_wasServed_12 : decode cX7_wasServed 12 = .ok (.goto 4, 3) := dk_167 0 4 (dk_at dksX7_wasServed_0 12 rfl rfl)
theorem dX7_wasServed_15 : decode cX7_wasServed 15 = .ok (.iconst 0, 1) := dk_3 (dk_at dksX7_wasServed_0 15 rfl rfl)
theorem dX7_wasServed_16 : decode cX7_wasServed 16 = .ok (.ireturn, 1) := dk_172 (dk_at dksX7_wasServed_0 16 rfl rfl)
abbrev cX7_gardenCount : ByteArray := prog_21_method_79_code
def yX7_gardenCount : MethodName := ⟨RX7, "gardenCount", "()I"⟩
def dkwX7_gardenCount_0 : List UInt8 := [42, 3, 181, 0, 85, 42, 180, 0, 7, 16, 7, 46, 172]
abbrev dktX7_gardenCount_0 : List UInt8 := dkwX7_gardenCount_0 ++ []
theorem dksX7_gardenCount_0 : cX7_gardenCount.data.toList.drop 0 = dktX7_gardenCount_0 := by decide +kernel
theorem dX7_gardenCount_0 : decode cX7_gardenCount 0 = .ok (.aload_n 0, 1) := dk_42 (dk_at dksX7_gardenCount_0 0 rfl rfl)
theorem dX7_gardenCount_1 : decode cX7_gardenCount 1 = .ok (.iconst 0, 1) := dk_3 (dk_at dksX7_gardenCount_0 1 rfl rfl)
theorem dX7_gardenCount_2 : decode cX7_gardenCount 2 = .ok (.putfield 85, 3) := dk_181 0 85 (dk_at dksX7_gardenCount_0 2 rfl rfl)
theorem dX7_gardenCount_5 : decode cX7_gardenCount 5 = .ok (.aload_n 0, 1) := dk_42 (dk_at dksX7_gardenCount_0 5 rfl rfl)
theorem dX7_gardenCount_6 : decode cX7_gardenCount 6 = .ok (.getfield 7, 3) := dk_180 0 7 (dk_at dksX7_gardenCount_0 6 rfl rfl)
theorem dX7_gardenCount_9 : decode cX7_gardenCount 9 = .ok (.bipush 7, 2) := dk_16 7 (dk_at dksX7_gardenCount_0 9 rfl rfl)
theorem dX7_gardenCount_11 : decode cX7_gardenCount 11 = .ok (.iaload, 1) := dk_46 (dk_at dksX7_gardenCount_0 11 rfl rfl)
theorem dX7_gardenCount_12 : decode cX7_gardenCount 12 = .ok (.ireturn, 1) := dk_172 (dk_at dksX7_gardenCount_0 12 rfl rfl)
abbrev cX7_findGarden : ByteArray := prog_21_method_80_code
def yX7_findGarden : MethodName := ⟨RX7, "findGarden", "()I"⟩
def dkwX7_findGarden_1 : List UInt8 := [172]
abbrev dktX7_findGarden_1 : List UInt8 := dkwX7_findGarden_1 ++ []
def dkwX7_findGarden_0 : List UInt8 := [42, 3, 181, 0, 85, 42, 182, 1, 93, 154, 0, 7, 2, 167, 0, 11, 42, 42, 182, 1, 93, 182, 0, 235]
abbrev dktX7_findGarden_0 : List UInt8 := dkwX7_findGarden_0 ++ dktX7_findGarden_1
theorem dksX7_findGarden_0 : cX7_findGarden.data.toList.drop 0 = dktX7_findGarden_0 := by decide +kernel
theorem dksX7_findGarden_1 : cX7_findGarden.data.toList.drop 24 = dktX7_findGarden_1 := dk_seg dksX7_findGarden_0 24 rfl rfl
theorem dX7_findGarden_0 : decode cX7_findGarden 0 = .ok (.aload_n 0, 1) := dk_42 (dk_at dksX7_findGarden_0 0 rfl rfl)
theorem dX7_findGarden_1 : decode cX7_findGarden 1 = .ok (.iconst 0, 1) := dk_3 (dk_at dksX7_findGarden_0 1 rfl rfl)
theorem dX7_findGarden_2 : decode cX7_findGarden 2 = .ok (.putfield 85, 3) := dk_181 0 85 (dk_at dksX7_findGarden_0 2 rfl rfl)
theorem dX7_findGarden_5 : decode cX7_findGarden 5 = .ok (.aload_n 0, 1) := dk_42 (dk_at dksX7_findGarden_0 5 rfl rfl)
theorem dX7_findGarden_6 : decode cX7_findGarden 6 = .ok (.invokevirtual 349, 3) := dk_182 1 93 (dk_at dksX7_findGarden_0 6 rfl rfl)
theorem dX7_findGarden_9 : decode cX7_findGarden 9 = .ok (.ifCond .ne 7, 3) := dk_154 0 7 (dk_at dksX7_findGarden_0 9 rfl rfl)
theorem dX7_findGarden_12 : decode cX7_findGarden 12 = .ok (.iconst (-1), 1) := dk_2 (dk_at dksX7_findGarden_0 12 rfl rfl)
theorem dX7_findGarden_13 : decode cX7_findGarden 13 = .ok (.goto 11, 3) := dk_167 0 11 (dk_at dksX7_findGarden_0 13 rfl rfl)
theorem dX7_findGarden_16 : decode cX7_findGarden 16 = .ok (.aload_n 0, 1) := dk_42 (dk_at dksX7_findGarden_0 16 rfl rfl)
theorem dX7_findGarden_17 : decode cX7_findGarden 17 = .ok (.aload_n 0, 1) := dk_42 (dk_at dksX7_findGarden_0 17 rfl rfl)
theorem dX7_findGarden_18 : decode cX7_findGarden 18 = .ok (.invokevirtual 349, 3) := dk_182 1 93 (dk_at dksX7_findGarden_0 18 rfl rfl)
theorem dX7_findGarden_21 : decode cX7_findGarden 21 = .ok (.invokevirtual 235, 3) := dk_182 0 235 (dk_at dksX7_findGarden_0 21 rfl rfl)
theorem dX7_findGarden_24 : decode cX7_findGarden 24 = .ok (.ireturn, 1) := dk_172 (dk_at dksX7_findGarden_1 0 rfl rfl)
abbrev cX7_stock : ByteArray := prog_21_method_82_code
def yX7_stock : MethodName := ⟨RX7, "stock", "(I)I"⟩
def dkwX7_stock_0 : List UInt8 := [42, 27, 7, 182, 1, 105, 172]
abbrev dktX7_stock_0 : List UInt8 := dkwX7_stock_0 ++ []
theorem dksX7_stock_0 : cX7_stock.data.toList.drop 0 = dktX7_stock_0 := by decide +kernel
theorem dX7_stock_0 : decode cX7_stock 0 = .ok (.aload_n 0, 1) := dk_42 (dk_at dksX7_stock_0 0 rfl rfl)
theorem dX7_stock_1 : decode cX7_stock 1 = .ok (.iload_n 1, 1) := dk_27 (dk_at dksX7_stock_0 1 rfl rfl)
theorem dX7_stock_2 : decode cX7_stock 2 = .ok (.iconst 4, 1) := dk_7 (dk_at dksX7_stock_0 2 rfl rfl)
theorem dX7_stock_3 : decode cX7_stock 3 = .ok (.invokevirtual 361, 3) := dk_182 1 105 (dk_at dksX7_stock_0 3 rfl rfl)
theorem dX7_stock_6 : decode cX7_stock 6 = .ok (.ireturn, 1) := dk_172 (dk_at dksX7_stock_0 6 rfl rfl)
abbrev cX7_askedG : ByteArray := prog_21_method_81_code
def yX7_askedG : MethodName := ⟨RX7, "askedG", "(II)I"⟩
def dkwX7_askedG_1 : List UInt8 := [167, 0, 4, 3, 172]
abbrev dktX7_askedG_1 : List UInt8 := dkwX7_askedG_1 ++ []
def dkwX7_askedG_0 : List UInt8 := [42, 3, 181, 0, 85, 42, 42, 27, 182, 1, 102, 4, 182, 0, 176, 153, 0, 12, 42, 27, 28, 182, 0, 99]
abbrev dktX7_askedG_0 : List UInt8 := dkwX7_askedG_0 ++ dktX7_askedG_1
theorem dksX7_askedG_0 : cX7_askedG.data.toList.drop 0 = dktX7_askedG_0 := by decide +kernel
theorem dksX7_askedG_1 : cX7_askedG.data.toList.drop 24 = dktX7_askedG_1 := dk_seg dksX7_askedG_0 24 rfl rfl
theorem dX7_askedG_0 : decode cX7_askedG 0 = .ok (.aload_n 0, 1) := dk_42 (dk_at dksX7_askedG_0 0 rfl rfl)
theorem dX7_askedG_1 : decode cX7_askedG 1 = .ok (.iconst 0, 1) := dk_3 (dk_at dksX7_askedG_0 1 rfl rfl)
theorem dX7_askedG_2 : decode cX7_askedG 2 = .ok (.putfield 85, 3) := dk_181 0 85 (dk_at dksX7_askedG_0 2 rfl rfl)
theorem dX7_askedG_5 : decode cX7_askedG 5 = .ok (.aload_n 0, 1) := dk_42 (dk_at dksX7_askedG_0 5 rfl rfl)
theorem dX7_askedG_6 : decode cX7_askedG 6 = .ok (.aload_n 0, 1) := dk_42 (dk_at dksX7_askedG_0 6 rfl rfl)
theorem dX7_askedG_7 : decode cX7_askedG 7 = .ok (.iload_n 1, 1) := dk_27 (dk_at dksX7_askedG_0 7 rfl rfl)
theorem dX7_askedG_8 : decode cX7_askedG 8 = .ok (.invokevirtual 358, 3) := dk_182 1 102 (dk_at dksX7_askedG_0 8 rfl rfl)
theorem dX7_askedG_11 : decode cX7_askedG 11 = .ok (.iconst 1, 1) := dk_4 (dk_at dksX7_askedG_0 11 rfl rfl)
theorem dX7_askedG_12 : decode cX7_askedG 12 = .ok (.invokevirtual 176, 3) := dk_182 0 176 (dk_at dksX7_askedG_0 12 rfl rfl)
theorem dX7_askedG_15 : decode cX7_askedG 15 = .ok (.ifCond .eq 12, 3) := dk_153 0 12 (dk_at dksX7_askedG_0 15 rfl rfl)
theorem dX7_askedG_18 : decode cX7_askedG 18 = .ok (.aload_n 0, 1) := dk_42 (dk_at dksX7_askedG_0 18 rfl rfl)
theorem dX7_askedG_19 : decode cX7_askedG 19 = .ok (.iload_n 1, 1) := dk_27 (dk_at dksX7_askedG_0 19 rfl rfl)
theorem dX7_askedG_20 : decode cX7_askedG 20 = .ok (.iload_n 2, 1) := dk_28 (dk_at dksX7_askedG_0 20 rfl rfl)
theorem dX7_askedG_21 : decode cX7_askedG 21 = .ok (.invokevirtual 99, 3) := dk_182 0 99 (dk_at dksX7_askedG_0 21 rfl rfl)
theorem dX7_askedG_24 : decode cX7_askedG 24 = .ok (.goto 4, 3) := dk_167 0 4 (dk_at dksX7_askedG_1 0 rfl rfl)
theorem dX7_askedG_27 : decode cX7_askedG 27 = .ok (.iconst 0, 1) := dk_3 (dk_at dksX7_askedG_1 3 rfl rfl)
theorem dX7_askedG_28 : decode cX7_askedG 28 = .ok (.ireturn, 1) := dk_172 (dk_at dksX7_askedG_1 4 rfl rfl)
abbrev cX7_petals : ByteArray := prog_21_method_83_code
def yX7_petals : MethodName := ⟨RX7, "petals", "(I)I"⟩
def dkwX7_petals_0 : List UInt8 := [42, 27, 8, 182, 1, 105, 172]
abbrev dktX7_petals_0 : List UInt8 := dkwX7_petals_0 ++ []
theorem dksX7_petals_0 : cX7_petals.data.toList.drop 0 = dktX7_petals_0 := by decide +kernel
theorem dX7_petals_0 : decode cX7_petals 0 = .ok (.aload_n 0, 1) := dk_42 (dk_at dksX7_petals_0 0 rfl rfl)
theorem dX7_petals_1 : decode cX7_petals 1 = .ok (.iload_n 1, 1) := dk_27 (dk_at dksX7_petals_0 1 rfl rfl)
theorem dX7_petals_2 : decode cX7_petals 2 = .ok (.iconst 5, 1) := dk_8 (dk_at dksX7_petals_0 2 rfl rfl)
theorem dX7_petals_3 : decode cX7_petals 3 = .ok (.invokevirtual 361, 3) := dk_182 1 105 (dk_at dksX7_petals_0 3 rfl rfl)
theorem dX7_petals_6 : decode cX7_petals 6 = .ok (.ireturn, 1) := dk_172 (dk_at dksX7_petals_0 6 rfl rfl)
abbrev cX7_rotted : ByteArray := prog_21_method_84_code
def yX7_rotted : MethodName := ⟨RX7, "rotted", "(I)I"⟩
def dkwX7_rotted_0 : List UInt8 := [42, 27, 16, 7, 182, 1, 105, 172]
abbrev dktX7_rotted_0 : List UInt8 := dkwX7_rotted_0 ++ []
theorem dksX7_rotted_0 : cX7_rotted.data.toList.drop 0 = dktX7_rotted_0 := by decide +kernel
theorem dX7_rotted_0 : decode cX7_rotted 0 = .ok (.aload_n 0, 1) := dk_42 (dk_at dksX7_rotted_0 0 rfl rfl)
theorem dX7_rotted_1 : decode cX7_rotted 1 = .ok (.iload_n 1, 1) := dk_27 (dk_at dksX7_rotted_0 1 rfl rfl)
theorem dX7_rotted_2 : decode cX7_rotted 2 = .ok (.bipush 7, 2) := dk_16 7 (dk_at dksX7_rotted_0 2 rfl rfl)
theorem dX7_rotted_4 : decode cX7_rotted 4 = .ok (.invokevirtual 361, 3) := dk_182 1 105 (dk_at dksX7_rotted_0 4 rfl rfl)
theorem dX7_rotted_7 : decode cX7_rotted 7 = .ok (.ireturn, 1) := dk_172 (dk_at dksX7_rotted_0 7 rfl rfl)
abbrev cX7_prizes : ByteArray := prog_21_method_85_code
def yX7_prizes : MethodName := ⟨RX7, "prizes", "(I)I"⟩
def dkwX7_prizes_0 : List UInt8 := [42, 27, 16, 8, 182, 1, 105, 172]
abbrev dktX7_prizes_0 : List UInt8 := dkwX7_prizes_0 ++ []
theorem dksX7_prizes_0 : cX7_prizes.data.toList.drop 0 = dktX7_prizes_0 := by decide +kernel
theorem dX7_prizes_0 : decode cX7_prizes 0 = .ok (.aload_n 0, 1) := dk_42 (dk_at dksX7_prizes_0 0 rfl rfl)
theorem dX7_prizes_1 : decode cX7_prizes 1 = .ok (.iload_n 1, 1) := dk_27 (dk_at dksX7_prizes_0 1 rfl rfl)
theorem dX7_prizes_2 : decode cX7_prizes 2 = .ok (.bipush 8, 2) := dk_16 8 (dk_at dksX7_prizes_0 2 rfl rfl)
theorem dX7_prizes_4 : decode cX7_prizes 4 = .ok (.invokevirtual 361, 3) := dk_182 1 105 (dk_at dksX7_prizes_0 4 rfl rfl)
theorem dX7_prizes_7 : decode cX7_prizes 7 = .ok (.ireturn, 1) := dk_172 (dk_at dksX7_prizes_0 7 rfl rfl)
abbrev cX7_leadingGarden : ByteArray := prog_21_method_86_code
def yX7_leadingGarden : MethodName := ⟨RX7, "leadingGarden", "()I"⟩
def dkwX7_leadingGarden_0 : List UInt8 := [42, 3, 181, 0, 85, 42, 182, 0, 149, 172]
abbrev dktX7_leadingGarden_0 : List UInt8 := dkwX7_leadingGarden_0 ++ []
theorem dksX7_leadingGarden_0 : cX7_leadingGarden.data.toList.drop 0 = dktX7_leadingGarden_0 := by decide +kernel
theorem dX7_leadingGarden_0 : decode cX7_leadingGarden 0 = .ok (.aload_n 0, 1) := dk_42 (dk_at dksX7_leadingGarden_0 0 rfl rfl)
theorem dX7_leadingGarden_1 : decode cX7_leadingGarden 1 = .ok (.iconst 0, 1) := dk_3 (dk_at dksX7_leadingGarden_0 1 rfl rfl)
theorem dX7_leadingGarden_2 : decode cX7_leadingGarden 2 = .ok (.putfield 85, 3) := dk_181 0 85 (dk_at dksX7_leadingGarden_0 2 rfl rfl)
theorem dX7_leadingGarden_5 : decode cX7_leadingGarden 5 = .ok (.aload_n 0, 1) := dk_42 (dk_at dksX7_leadingGarden_0 5 rfl rfl)
theorem dX7_leadingGarden_6 : decode cX7_leadingGarden 6 = .ok (.invokevirtual 149, 3) := dk_182 0 149 (dk_at dksX7_leadingGarden_0 6 rfl rfl)
theorem dX7_leadingGarden_9 : decode cX7_leadingGarden 9 = .ok (.ireturn, 1) := dk_172 (dk_at dksX7_leadingGarden_0 9 rfl rfl)
abbrev cX7_cartCount : ByteArray := prog_21_method_87_code
def yX7_cartCount : MethodName := ⟨RX7, "cartCount", "()I"⟩
def dkwX7_cartCount_0 : List UInt8 := [42, 3, 181, 0, 85, 42, 180, 0, 7, 16, 8, 46, 172]
abbrev dktX7_cartCount_0 : List UInt8 := dkwX7_cartCount_0 ++ []
theorem dksX7_cartCount_0 : cX7_cartCount.data.toList.drop 0 = dktX7_cartCount_0 := by decide +kernel
theorem dX7_cartCount_0 : decode cX7_cartCount 0 = .ok (.aload_n 0, 1) := dk_42 (dk_at dksX7_cartCount_0 0 rfl rfl)
theorem dX7_cartCount_1 : decode cX7_cartCount 1 = .ok (.iconst 0, 1) := dk_3 (dk_at dksX7_cartCount_0 1 rfl rfl)
theorem dX7_cartCount_2 : decode cX7_cartCount 2 = .ok (.putfield 85, 3) := dk_181 0 85 (dk_at dksX7_cartCount_0 2 rfl rfl)
theorem dX7_cartCount_5 : decode cX7_cartCount 5 = .ok (.aload_n 0, 1) := dk_42 (dk_at dksX7_cartCount_0 5 rfl rfl)
theorem dX7_cartCount_6 : decode cX7_cartCount 6 = .ok (.getfield 7, 3) := dk_180 0 7 (dk_at dksX7_cartCount_0 6 rfl rfl)
theorem dX7_cartCount_9 : decode cX7_cartCount 9 = .ok (.bipush 8, 2) := dk_16 8 (dk_at dksX7_cartCount_0 9 rfl rfl)
theorem dX7_cartCount_11 : decode cX7_cartCount 11 = .ok (.iaload, 1) := dk_46 (dk_at dksX7_cartCount_0 11 rfl rfl)
theorem dX7_cartCount_12 : decode cX7_cartCount 12 = .ok (.ireturn, 1) := dk_172 (dk_at dksX7_cartCount_0 12 rfl rfl)
abbrev cX7_contractStreet : ByteArray := prog_21_method_89_code
def yX7_contractStreet : MethodName := ⟨RX7, "contractStreet", "(I)I"⟩
def dkwX7_contractStreet_1 : List UInt8 := [182, 0, 92, 167, 0, 4, 2, 172]
abbrev dktX7_contractStreet_1 : List UInt8 := dkwX7_contractStreet_1 ++ []
def dkwX7_contractStreet_0 : List UInt8 := [42, 27, 182, 1, 111, 154, 0, 7, 3, 167, 0, 21, 42, 27, 182, 0, 111, 153, 0, 12, 42, 27, 5]
abbrev dktX7_contractStreet_0 : List UInt8 := dkwX7_contractStreet_0 ++ dktX7_contractStreet_1
theorem dksX7_contractStreet_0 : cX7_contractStreet.data.toList.drop 0 = dktX7_contractStreet_0 := by decide +kernel
theorem dksX7_contractStreet_1 : cX7_contractStreet.data.toList.drop 23 = dktX7_contractStreet_1 := dk_seg dksX7_contractStreet_0 23 rfl rfl
theorem dX7_contractStreet_0 : decode cX7_contractStreet 0 = .ok (.aload_n 0, 1) := dk_42 (dk_at dksX7_contractStreet_0 0 rfl rfl)
theorem dX7_contractStreet_1 : decode cX7_contractStreet 1 = .ok (.iload_n 1, 1) := dk_27 (dk_at dksX7_contractStreet_0 1 rfl rfl)
theorem dX7_contractStreet_2 : decode cX7_contractStreet 2 = .ok (.invokevirtual 367, 3) := dk_182 1 111 (dk_at dksX7_contractStreet_0 2 rfl rfl)
theorem dX7_contractStreet_5 : decode cX7_contractStreet 5 = .ok (.ifCond .ne 7, 3) := dk_154 0 7 (dk_at dksX7_contractStreet_0 5 rfl rfl)
theorem dX7_contractStreet_8 : decode cX7_contractStreet 8 = .ok (.iconst 0, 1) := dk_3 (dk_at dksX7_contractStreet_0 8 rfl rfl)
theorem dX7_contractStreet_9 : decode cX7_contractStreet 9 = .ok (.goto 21, 3) := dk_167 0 21 (dk_at dksX7_contractStreet_0 9 rfl rfl)
theorem dX7_contractStreet_12 : decode cX7_contractStreet 12 = .ok (.aload_n 0, 1) := dk_42 (dk_at dksX7_contractStreet_0 12 rfl rfl)
theorem dX7_contractStreet_13 : decode cX7_contractStreet 13 = .ok (.iload_n 1, 1) := dk_27 (dk_at dksX7_contractStreet_0 13 rfl rfl)
theorem dX7_contractStreet_14 : decode cX7_contractStreet 14 = .ok (.invokevirtual 111, 3) := dk_182 0 111 (dk_at dksX7_contractStreet_0 14 rfl rfl)
theorem dX7_contractStreet_17 : decode cX7_contractStreet 17 = .ok (.ifCond .eq 12, 3) := dk_153 0 12 (dk_at dksX7_contractStreet_0 17 rfl rfl)
theorem dX7_contractStreet_20 : decode cX7_contractStreet 20 = .ok (.aload_n 0, 1) := dk_42 (dk_at dksX7_contractStreet_0 20 rfl rfl)
theorem dX7_contractStreet_21 : decode cX7_contractStreet 21 = .ok (.iload_n 1, 1) := dk_27 (dk_at dksX7_contractStreet_0 21 rfl rfl)
theorem dX7_contractStreet_22 : decode cX7_contractStreet 22 = .ok (.iconst 2, 1) := dk_5 (dk_at dksX7_contractStreet_0 22 rfl rfl)
theorem dX7_contractStreet_23 : decode cX7_contractStreet 23 = .ok (.invokevirtual 92, 3) := dk_182 0 92 (dk_at dksX7_contractStreet_1 0 rfl rfl)
theorem dX7_contractStreet_26 : decode cX7_contractStreet 26 = .ok (.goto 4, 3) := dk_167 0 4 (dk_at dksX7_contractStreet_1 3 rfl rfl)
theorem dX7_contractStreet_29 : decode cX7_contractStreet 29 = .ok (.iconst (-1), 1) := dk_2 (dk_at dksX7_contractStreet_1 6 rfl rfl)
theorem dX7_contractStreet_30 : decode cX7_contractStreet 30 = .ok (.ireturn, 1) := dk_172 (dk_at dksX7_contractStreet_1 7 rfl rfl)
abbrev cX7_finds : ByteArray := prog_21_method_88_code
def yX7_finds : MethodName := ⟨RX7, "finds", "(I)Z"⟩
def dkwX7_finds_0 : List UInt8 := [42, 3, 181, 0, 85, 42, 42, 27, 182, 1, 108, 4, 182, 0, 176, 172]
abbrev dktX7_finds_0 : List UInt8 := dkwX7_finds_0 ++ []
theorem dksX7_finds_0 : cX7_finds.data.toList.drop 0 = dktX7_finds_0 := by decide +kernel
theorem dX7_finds_0 : decode cX7_finds 0 = .ok (.aload_n 0, 1) := dk_42 (dk_at dksX7_finds_0 0 rfl rfl)
theorem dX7_finds_1 : decode cX7_finds 1 = .ok (.iconst 0, 1) := dk_3 (dk_at dksX7_finds_0 1 rfl rfl)
theorem dX7_finds_2 : decode cX7_finds 2 = .ok (.putfield 85, 3) := dk_181 0 85 (dk_at dksX7_finds_0 2 rfl rfl)
theorem dX7_finds_5 : decode cX7_finds 5 = .ok (.aload_n 0, 1) := dk_42 (dk_at dksX7_finds_0 5 rfl rfl)
theorem dX7_finds_6 : decode cX7_finds 6 = .ok (.aload_n 0, 1) := dk_42 (dk_at dksX7_finds_0 6 rfl rfl)
theorem dX7_finds_7 : decode cX7_finds 7 = .ok (.iload_n 1, 1) := dk_27 (dk_at dksX7_finds_0 7 rfl rfl)
theorem dX7_finds_8 : decode cX7_finds 8 = .ok (.invokevirtual 364, 3) := dk_182 1 108 (dk_at dksX7_finds_0 8 rfl rfl)
theorem dX7_finds_11 : decode cX7_finds 11 = .ok (.iconst 1, 1) := dk_4 (dk_at dksX7_finds_0 11 rfl rfl)
theorem dX7_finds_12 : decode cX7_finds 12 = .ok (.invokevirtual 176, 3) := dk_182 0 176 (dk_at dksX7_finds_0 12 rfl rfl)
theorem dX7_finds_15 : decode cX7_finds 15 = .ok (.ireturn, 1) := dk_172 (dk_at dksX7_finds_0 15 rfl rfl)
abbrev cX7_contractGarden : ByteArray := prog_21_method_90_code
def yX7_contractGarden : MethodName := ⟨RX7, "contractGarden", "(I)I"⟩
def dkwX7_contractGarden_1 : List UInt8 := [182, 0, 92, 167, 0, 4, 2, 172]
abbrev dktX7_contractGarden_1 : List UInt8 := dkwX7_contractGarden_1 ++ []
def dkwX7_contractGarden_0 : List UInt8 := [42, 27, 182, 1, 111, 154, 0, 7, 3, 167, 0, 21, 42, 27, 182, 0, 111, 153, 0, 12, 42, 27, 6]
abbrev dktX7_contractGarden_0 : List UInt8 := dkwX7_contractGarden_0 ++ dktX7_contractGarden_1
theorem dksX7_contractGarden_0 : cX7_contractGarden.data.toList.drop 0 = dktX7_contractGarden_0 := by decide +kernel
theorem dksX7_contractGarden_1 : cX7_contractGarden.data.toList.drop 23 = dktX7_contractGarden_1 := dk_seg dksX7_contractGarden_0 23 rfl rfl
theorem dX7_contractGarden_0 : decode cX7_contractGarden 0 = .ok (.aload_n 0, 1) := dk_42 (dk_at dksX7_contractGarden_0 0 rfl rfl)
theorem dX7_contractGarden_1 : decode cX7_contractGarden 1 = .ok (.iload_n 1, 1) := dk_27 (dk_at dksX7_contractGarden_0 1 rfl rfl)
theorem dX7_contractGarden_2 : decode cX7_contractGarden 2 = .ok (.invokevirtual 367, 3) := dk_182 1 111 (dk_at dksX7_contractGarden_0 2 rfl rfl)
theorem dX7_contractGarden_5 : decode cX7_contractGarden 5 = .ok (.ifCond .ne 7, 3) := dk_154 0 7 (dk_at dksX7_contractGarden_0 5 rfl rfl)
theorem dX7_contractGarden_8 : decode cX7_contractGarden 8 = .ok (.iconst 0, 1) := dk_3 (dk_at dksX7_contractGarden_0 8 rfl rfl)
theorem dX7_contractGarden_9 : decode cX7_contractGarden 9 = .ok (.goto 21, 3) := dk_167 0 21 (dk_at dksX7_contractGarden_0 9 rfl rfl)
theorem dX7_contractGarden_12 : decode cX7_contractGarden 12 = .ok (.aload_n 0, 1) := dk_42 (dk_at dksX7_contractGarden_0 12 rfl rfl)
theorem dX7_contractGarden_13 : decode cX7_contractGarden 13 = .ok (.iload_n 1, 1) := dk_27 (dk_at dksX7_contractGarden_0 13 rfl rfl)
theorem dX7_contractGarden_14 : decode cX7_contractGarden 14 = .ok (.invokevirtual 111, 3) := dk_182 0 111 (dk_at dksX7_contractGarden_0 14 rfl rfl)
theorem dX7_contractGarden_17 : decode cX7_contractGarden 17 = .ok (.ifCond .eq 12, 3) := dk_153 0 12 (dk_at dksX7_contractGarden_0 17 rfl rfl)
theorem dX7_contractGarden_20 : decode cX7_contractGarden 20 = .ok (.aload_n 0, 1) := dk_42 (dk_at dksX7_contractGarden_0 20 rfl rfl)
theorem dX7_contractGarden_21 : decode cX7_contractGarden 21 = .ok (.iload_n 1, 1) := dk_27 (dk_at dksX7_contractGarden_0 21 rfl rfl)
theorem dX7_contractGarden_22 : decode cX7_contractGarden 22 = .ok (.iconst 3, 1) := dk_6 (dk_at dksX7_contractGarden_0 22 rfl rfl)
theorem dX7_contractGarden_23 : decode cX7_contractGarden 23 = .ok (.invokevirtual 92, 3) := dk_182 0 92 (dk_at dksX7_contractGarden_1 0 rfl rfl)
theorem dX7_contractGarden_26 : decode cX7_contractGarden 26 = .ok (.goto 4, 3) := dk_167 0 4 (dk_at dksX7_contractGarden_1 3 rfl rfl)
theorem dX7_contractGarden_29 : decode cX7_contractGarden 29 = .ok (.iconst (-1), 1) := dk_2 (dk_at dksX7_contractGarden_1 6 rfl rfl)
theorem dX7_contractGarden_30 : decode cX7_contractGarden 30 = .ok (.ireturn, 1) := dk_172 (dk_at dksX7_contractGarden_1 7 rfl rfl)
abbrev cX7_nightsLeft : ByteArray := prog_21_method_91_code
def yX7_nightsLeft : MethodName := ⟨RX7, "nightsLeft", "(I)I"⟩
def dkwX7_nightsLeft_0 : List UInt8 := [42, 27, 182, 1, 111, 153, 0, 12, 42, 27, 7, 182, 0, 92, 167, 0, 4, 3, 172]
abbrev dktX7_nightsLeft_0 : List UInt8 := dkwX7_nightsLeft_0 ++ []
theorem dksX7_nightsLeft_0 : cX7_nightsLeft.data.toList.drop 0 = dktX7_nightsLeft_0 := by decide +kernel
theorem dX7_nightsLeft_0 : decode cX7_nightsLeft 0 = .ok (.aload_n 0, 1) := dk_42 (dk_at dksX7_nightsLeft_0 0 rfl rfl)
theorem dX7_nightsLeft_1 : decode cX7_nightsLeft 1 = .ok (.iload_n 1, 1) := dk_27 (dk_at dksX7_nightsLeft_0 1 rfl rfl)
theorem dX7_nightsLeft_2 : decode cX7_nightsLeft 2 = .ok (.invokevirtual 367, 3) := dk_182 1 111 (dk_at dksX7_nightsLeft_0 2 rfl rfl)
theorem dX7_nightsLeft_5 : decode cX7_nightsLeft 5 = .ok (.ifCond .eq 12, 3) := dk_153 0 12 (dk_at dksX7_nightsLeft_0 5 rfl rfl)
theorem dX7_nightsLeft_8 : decode cX7_nightsLeft 8 = .ok (.aload_n 0, 1) := dk_42 (dk_at dksX7_nightsLeft_0 8 rfl rfl)
theorem dX7_nightsLeft_9 : decode cX7_nightsLeft 9 = .ok (.iload_n 1, 1) := dk_27 (dk_at dksX7_nightsLeft_0 9 rfl rfl)
theorem dX7_nightsLeft_10 : decode cX7_nightsLeft 10 = .ok (.iconst 4, 1) := dk_7 (dk_at dksX7_nightsLeft_0 10 rfl rfl)
theorem dX7_nightsLeft_11 : decode cX7_nightsLeft 11 = .ok (.invokevirtual 92, 3) := dk_182 0 92 (dk_at dksX7_nightsLeft_0 11 rfl rfl)
theorem dX7_nightsLeft_14 : decode cX7_nightsLeft 14 = .ok (.goto 4, 3) := dk_167 0 4 (dk_at dksX7_nightsLeft_0 14 rfl rfl)
theorem dX7_nightsLeft_17 : decode cX7_nightsLeft 17 = .ok (.iconst 0, 1) := dk_3 (dk_at dksX7_nightsLeft_0 17 rfl rfl)
theorem dX7_nightsLeft_18 : decode cX7_nightsLeft 18 = .ok (.ireturn, 1) := dk_172 (dk_at dksX7_nightsLeft_0 18 rfl rfl)
abbrev cX7_hoursNeeded : ByteArray := prog_21_method_92_code
def yX7_hoursNeeded : MethodName := ⟨RX7, "hoursNeeded", "(III)I"⟩
def dkwX7_hoursNeeded_2 : List UInt8 := [182, 0, 118, 167, 0, 4, 3, 172]
abbrev dktX7_hoursNeeded_2 : List UInt8 := dkwX7_hoursNeeded_2 ++ []
def dkwX7_hoursNeeded_1 : List UInt8 := [182, 1, 102, 153, 0, 7, 4, 167, 0, 4, 3, 4, 182, 0, 176, 153, 0, 13, 42, 27, 28, 29]
abbrev dktX7_hoursNeeded_1 : List UInt8 := dkwX7_hoursNeeded_1 ++ dktX7_hoursNeeded_2
def dkwX7_hoursNeeded_0 : List UInt8 := [42, 3, 181, 0, 85, 42, 42, 27, 182, 1, 108, 153, 0, 23, 42, 28, 182, 1, 96, 153, 0, 15, 42, 29]
abbrev dktX7_hoursNeeded_0 : List UInt8 := dkwX7_hoursNeeded_0 ++ dktX7_hoursNeeded_1
theorem dksX7_hoursNeeded_0 : cX7_hoursNeeded.data.toList.drop 0 = dktX7_hoursNeeded_0 := by decide +kernel
theorem dksX7_hoursNeeded_1 : cX7_hoursNeeded.data.toList.drop 24 = dktX7_hoursNeeded_1 := dk_seg dksX7_hoursNeeded_0 24 rfl rfl
theorem dksX7_hoursNeeded_2 : cX7_hoursNeeded.data.toList.drop 46 = dktX7_hoursNeeded_2 := dk_seg dksX7_hoursNeeded_1 22 rfl rfl
theorem dX7_hoursNeeded_0 : decode cX7_hoursNeeded 0 = .ok (.aload_n 0, 1) := dk_42 (dk_at dksX7_hoursNeeded_0 0 rfl rfl)
theorem dX7_hoursNeeded_1 : decode cX7_hoursNeeded 1 = .ok (.iconst 0, 1) := dk_3 (dk_at dksX7_hoursNeeded_0 1 rfl rfl)
theorem dX7_hoursNeeded_2 : decode cX7_hoursNeeded 2 = .ok (.putfield 85, 3) := dk_181 0 85 (dk_at dksX7_hoursNeeded_0 2 rfl rfl)
theorem dX7_hoursNeeded_5 : decode cX7_hoursNeeded 5 = .ok (.aload_n 0, 1) := dk_42 (dk_at dksX7_hoursNeeded_0 5 rfl rfl)
theorem dX7_hoursNeeded_6 : decode cX7_hoursNeeded 6 = .ok (.aload_n 0, 1) := dk_42 (dk_at dksX7_hoursNeeded_0 6 rfl rfl)
theorem dX7_hoursNeeded_7 : decode cX7_hoursNeeded 7 = .ok (.iload_n 1, 1) := dk_27 (dk_at dksX7_hoursNeeded_0 7 rfl rfl)
theorem dX7_hoursNeeded_8 : decode cX7_hoursNeeded 8 = .ok (.invokevirtual 364, 3) := dk_182 1 108 (dk_at dksX7_hoursNeeded_0 8 rfl rfl)
theorem dX7_hoursNeeded_11 : decode cX7_hoursNeeded 11 = .ok (.ifCond .eq 23, 3) := dk_153 0 23 (dk_at dksX7_hoursNeeded_0 11 rfl rfl)
theorem dX7_hoursNeeded_14 : decode cX7_hoursNeeded 14 = .ok (.aload_n 0, 1) := dk_42 (dk_at dksX7_hoursNeeded_0 14 rfl rfl)
theorem dX7_hoursNeeded_15 : decode cX7_hoursNeeded 15 = .ok (.iload_n 2, 1) := dk_28 (dk_at dksX7_hoursNeeded_0 15 rfl rfl)
theorem dX7_hoursNeeded_16 : decode cX7_hoursNeeded 16 = .ok (.invokevirtual 352, 3) := dk_182 1 96 (dk_at dksX7_hoursNeeded_0 16 rfl rfl)
theorem dX7_hoursNeeded_19 : decode cX7_hoursNeeded 19 = .ok (.ifCond .eq 15, 3) := dk_153 0 15 (dk_at dksX7_hoursNeeded_0 19 rfl rfl)
theorem dX7_hoursNeeded_22 : decode cX7_hoursNeeded 22 = .ok (.aload_n 0, 1) := dk_42 (dk_at dksX7_hoursNeeded_0 22 rfl rfl)
theorem dX7_hoursNeeded_23 : decode cX7_hoursNeeded 23 = .ok (.iload_n 3, 1) := dk_29 (dk_at dksX7_hoursNeeded_0 23 rfl rfl)
theorem dX7_hoursNeeded_24 : decode cX7_hoursNeeded 24 = .ok (.invokevirtual 358, 3) := dk_182 1 102 (dk_at dksX7_hoursNeeded_1 0 rfl rfl)
theorem dX7_hoursNeeded_27 : decode cX7_hoursNeeded 27 = .ok (.ifCond .eq 7, 3) := dk_153 0 7 (dk_at dksX7_hoursNeeded_1 3 rfl rfl)
theorem dX7_hoursNeeded_30 : decode cX7_hoursNeeded 30 = .ok (.iconst 1, 1) := dk_4 (dk_at dksX7_hoursNeeded_1 6 rfl rfl)
theorem dX7_hoursNeeded_31 : decode cX7_hoursNeeded 31 = .ok (.goto 4, 3) := dk_167 0 4 (dk_at dksX7_hoursNeeded_1 7 rfl rfl)
theorem dX7_hoursNeeded_34 : decode cX7_hoursNeeded 34 = .ok (.iconst 0, 1) := dk_3 (dk_at dksX7_hoursNeeded_1 10 rfl rfl)
theorem dX7_hoursNeeded_35 : decode cX7_hoursNeeded 35 = .ok (.iconst 1, 1) := dk_4 (dk_at dksX7_hoursNeeded_1 11 rfl rfl)
theorem dX7_hoursNeeded_36 : decode cX7_hoursNeeded 36 = .ok (.invokevirtual 176, 3) := dk_182 0 176 (dk_at dksX7_hoursNeeded_1 12 rfl rfl)
theorem dX7_hoursNeeded_39 : decode cX7_hoursNeeded 39 = .ok (.ifCond .eq 13, 3) := dk_153 0 13 (dk_at dksX7_hoursNeeded_1 15 rfl rfl)
theorem dX7_hoursNeeded_42 : decode cX7_hoursNeeded 42 = .ok (.aload_n 0, 1) := dk_42 (dk_at dksX7_hoursNeeded_1 18 rfl rfl)
theorem dX7_hoursNeeded_43 : decode cX7_hoursNeeded 43 = .ok (.iload_n 1, 1) := dk_27 (dk_at dksX7_hoursNeeded_1 19 rfl rfl)
theorem dX7_hoursNeeded_44 : decode cX7_hoursNeeded 44 = .ok (.iload_n 2, 1) := dk_28 (dk_at dksX7_hoursNeeded_1 20 rfl rfl)
theorem dX7_hoursNeeded_45 : decode cX7_hoursNeeded 45 = .ok (.iload_n 3, 1) := dk_29 (dk_at dksX7_hoursNeeded_1 21 rfl rfl)
theorem dX7_hoursNeeded_46 : decode cX7_hoursNeeded 46 = .ok (.invokevirtual 118, 3) := dk_182 0 118 (dk_at dksX7_hoursNeeded_2 0 rfl rfl)
theorem dX7_hoursNeeded_49 : decode cX7_hoursNeeded 49 = .ok (.goto 4, 3) := dk_167 0 4 (dk_at dksX7_hoursNeeded_2 3 rfl rfl)
theorem dX7_hoursNeeded_52 : decode cX7_hoursNeeded 52 = .ok (.iconst 0, 1) := dk_3 (dk_at dksX7_hoursNeeded_2 6 rfl rfl)
theorem dX7_hoursNeeded_53 : decode cX7_hoursNeeded 53 = .ok (.ireturn, 1) := dk_172 (dk_at dksX7_hoursNeeded_2 7 rfl rfl)
abbrev cX7_nextLoad : ByteArray := prog_21_method_94_code
def yX7_nextLoad : MethodName := ⟨RX7, "nextLoad", "(I)I"⟩
def dkwX7_nextLoad_0 : List UInt8 := [42, 27, 182, 1, 111, 153, 0, 11, 42, 27, 182, 1, 120, 167, 0, 4, 3, 172]
abbrev dktX7_nextLoad_0 : List UInt8 := dkwX7_nextLoad_0 ++ []
theorem dksX7_nextLoad_0 : cX7_nextLoad.data.toList.drop 0 = dktX7_nextLoad_0 := by decide +kernel
theorem dX7_nextLoad_0 : decode cX7_nextLoad 0 = .ok (.aload_n 0, 1) := dk_42 (dk_at dksX7_nextLoad_0 0 rfl rfl)
theorem dX7_nextLoad_1 : decode cX7_nextLoad 1 = .ok (.iload_n 1, 1) := dk_27 (dk_at dksX7_nextLoad_0 1 rfl rfl)
theorem dX7_nextLoad_2 : decode cX7_nextLoad 2 = .ok (.invokevirtual 367, 3) := dk_182 1 111 (dk_at dksX7_nextLoad_0 2 rfl rfl)
theorem dX7_nextLoad_5 : decode cX7_nextLoad 5 = .ok (.ifCond .eq 11, 3) := dk_153 0 11 (dk_at dksX7_nextLoad_0 5 rfl rfl)
theorem dX7_nextLoad_8 : decode cX7_nextLoad 8 = .ok (.aload_n 0, 1) := dk_42 (dk_at dksX7_nextLoad_0 8 rfl rfl)
theorem dX7_nextLoad_9 : decode cX7_nextLoad 9 = .ok (.iload_n 1, 1) := dk_27 (dk_at dksX7_nextLoad_0 9 rfl rfl)
theorem dX7_nextLoad_10 : decode cX7_nextLoad 10 = .ok (.invokevirtual 376, 3) := dk_182 1 120 (dk_at dksX7_nextLoad_0 10 rfl rfl)
theorem dX7_nextLoad_13 : decode cX7_nextLoad 13 = .ok (.goto 4, 3) := dk_167 0 4 (dk_at dksX7_nextLoad_0 13 rfl rfl)
theorem dX7_nextLoad_16 : decode cX7_nextLoad 16 = .ok (.iconst 0, 1) := dk_3 (dk_at dksX7_nextLoad_0 16 rfl rfl)
theorem dX7_nextLoad_17 : decode cX7_nextLoad 17 = .ok (.ireturn, 1) := dk_172 (dk_at dksX7_nextLoad_0 17 rfl rfl)
abbrev cX7_loadNext : ByteArray := prog_21_method_93_code
def yX7_loadNext : MethodName := ⟨RX7, "loadNext", "(I)I"⟩
def dkwX7_loadNext_1 : List UInt8 := [167, 255, 243, 42, 42, 27, 182, 0, 129, 182, 1, 117, 172]
abbrev dktX7_loadNext_1 : List UInt8 := dkwX7_loadNext_1 ++ []
def dkwX7_loadNext_0 : List UInt8 := [42, 182, 1, 114, 42, 182, 0, 155, 3, 61, 28, 27, 162, 0, 14, 42, 28, 182, 0, 158, 132, 2, 1]
abbrev dktX7_loadNext_0 : List UInt8 := dkwX7_loadNext_0 ++ dktX7_loadNext_1
theorem dksX7_loadNext_0 : cX7_loadNext.data.toList.drop 0 = dktX7_loadNext_0 := by decide +kernel
theorem dksX7_loadNext_1 : cX7_loadNext.data.toList.drop 23 = dktX7_loadNext_1 := dk_seg dksX7_loadNext_0 23 rfl rfl
theorem dX7_loadNext_0 : decode cX7_loadNext 0 = .ok (.aload_n 0, 1) := dk_42 (dk_at dksX7_loadNext_0 0 rfl rfl)
theorem dX7_loadNext_1 : decode cX7_loadNext 1 = .ok (.invokevirtual 370, 3) := dk_182 1 114 (dk_at dksX7_loadNext_0 1 rfl rfl)
theorem dX7_loadNext_4 : decode cX7_loadNext 4 = .ok (.aload_n 0, 1) := dk_42 (dk_at dksX7_loadNext_0 4 rfl rfl)
theorem dX7_loadNext_5 : decode cX7_loadNext 5 = .ok (.invokevirtual 155, 3) := dk_182 0 155 (dk_at dksX7_loadNext_0 5 rfl rfl)
theorem dX7_loadNext_8 : decode cX7_loadNext 8 = .ok (.iconst 0, 1) := dk_3 (dk_at dksX7_loadNext_0 8 rfl rfl)
theorem dX7_loadNext_9 : decode cX7_loadNext 9 = .ok (.istore_n 2, 1) := dk_61 (dk_at dksX7_loadNext_0 9 rfl rfl)
theorem dX7_loadNext_10 : decode cX7_loadNext 10 = .ok (.iload_n 2, 1) := dk_28 (dk_at dksX7_loadNext_0 10 rfl rfl)
theorem dX7_loadNext_11 : decode cX7_loadNext 11 = .ok (.iload_n 1, 1) := dk_27 (dk_at dksX7_loadNext_0 11 rfl rfl)
theorem dX7_loadNext_12 : decode cX7_loadNext 12 = .ok (.if_icmp .ge 14, 3) := dk_162 0 14 (dk_at dksX7_loadNext_0 12 rfl rfl)
theorem dX7_loadNext_15 : decode cX7_loadNext 15 = .ok (.aload_n 0, 1) := dk_42 (dk_at dksX7_loadNext_0 15 rfl rfl)
theorem dX7_loadNext_16 : decode cX7_loadNext 16 = .ok (.iload_n 2, 1) := dk_28 (dk_at dksX7_loadNext_0 16 rfl rfl)
theorem dX7_loadNext_17 : decode cX7_loadNext 17 = .ok (.invokevirtual 158, 3) := dk_182 0 158 (dk_at dksX7_loadNext_0 17 rfl rfl)
theorem dX7_loadNext_20 : decode cX7_loadNext 20 = .ok (.iinc 2 1, 3) := dk_132 2 1 (dk_at dksX7_loadNext_0 20 rfl rfl)
theorem dX7_loadNext_23 : decode cX7_loadNext 23 = .ok (.goto (-13), 3) := dk_167 255 243 (dk_at dksX7_loadNext_1 0 rfl rfl)
theorem dX7_loadNext_26 : decode cX7_loadNext 26 = .ok (.aload_n 0, 1) := dk_42 (dk_at dksX7_loadNext_1 3 rfl rfl)
theorem dX7_loadNext_27 : decode cX7_loadNext 27 = .ok (.aload_n 0, 1) := dk_42 (dk_at dksX7_loadNext_1 4 rfl rfl)
theorem dX7_loadNext_28 : decode cX7_loadNext 28 = .ok (.iload_n 1, 1) := dk_27 (dk_at dksX7_loadNext_1 5 rfl rfl)
theorem dX7_loadNext_29 : decode cX7_loadNext 29 = .ok (.invokevirtual 129, 3) := dk_182 0 129 (dk_at dksX7_loadNext_1 6 rfl rfl)
theorem dX7_loadNext_32 : decode cX7_loadNext 32 = .ok (.invokevirtual 373, 3) := dk_182 1 117 (dk_at dksX7_loadNext_1 9 rfl rfl)
theorem dX7_loadNext_35 : decode cX7_loadNext 35 = .ok (.ireturn, 1) := dk_172 (dk_at dksX7_loadNext_1 12 rfl rfl)
abbrev cX7_tries : ByteArray := prog_21_method_30_code
def yX7_tries : MethodName := ⟨RX7, "tries", "()V"⟩
def dkwX7_tries_1 : List UInt8 := [167, 255, 234, 177]
abbrev dktX7_tries_1 : List UInt8 := dkwX7_tries_1 ++ []
def dkwX7_tries_0 : List UInt8 := [3, 60, 27, 17, 0, 212, 162, 0, 21, 42, 180, 0, 13, 27, 42, 180, 0, 7, 27, 46, 79, 132, 1, 1]
abbrev dktX7_tries_0 : List UInt8 := dkwX7_tries_0 ++ dktX7_tries_1
theorem dksX7_tries_0 : cX7_tries.data.toList.drop 0 = dktX7_tries_0 := by decide +kernel
theorem dksX7_tries_1 : cX7_tries.data.toList.drop 24 = dktX7_tries_1 := dk_seg dksX7_tries_0 24 rfl rfl
theorem dX7_tries_0 : decode cX7_tries 0 = .ok (.iconst 0, 1) := dk_3 (dk_at dksX7_tries_0 0 rfl rfl)
theorem dX7_tries_1 : decode cX7_tries 1 = .ok (.istore_n 1, 1) := dk_60 (dk_at dksX7_tries_0 1 rfl rfl)
theorem dX7_tries_2 : decode cX7_tries 2 = .ok (.iload_n 1, 1) := dk_27 (dk_at dksX7_tries_0 2 rfl rfl)
theorem dX7_tries_3 : decode cX7_tries 3 = .ok (.sipush 212, 3) := dk_17 0 212 (dk_at dksX7_tries_0 3 rfl rfl)
theorem dX7_tries_6 : decode cX7_tries 6 = .ok (.if_icmp .ge 21, 3) := dk_162 0 21 (dk_at dksX7_tries_0 6 rfl rfl)
theorem dX7_tries_9 : decode cX7_tries 9 = .ok (.aload_n 0, 1) := dk_42 (dk_at dksX7_tries_0 9 rfl rfl)
theorem dX7_tries_10 : decode cX7_tries 10 = .ok (.getfield 13, 3) := dk_180 0 13 (dk_at dksX7_tries_0 10 rfl rfl)
theorem dX7_tries_13 : decode cX7_tries 13 = .ok (.iload_n 1, 1) := dk_27 (dk_at dksX7_tries_0 13 rfl rfl)
theorem dX7_tries_14 : decode cX7_tries 14 = .ok (.aload_n 0, 1) := dk_42 (dk_at dksX7_tries_0 14 rfl rfl)
theorem dX7_tries_15 : decode cX7_tries 15 = .ok (.getfield 7, 3) := dk_180 0 7 (dk_at dksX7_tries_0 15 rfl rfl)
theorem dX7_tries_18 : decode cX7_tries 18 = .ok (.iload_n 1, 1) := dk_27 (dk_at dksX7_tries_0 18 rfl rfl)
theorem dX7_tries_19 : decode cX7_tries 19 = .ok (.iaload, 1) := dk_46 (dk_at dksX7_tries_0 19 rfl rfl)
theorem dX7_tries_20 : decode cX7_tries 20 = .ok (.iastore, 1) := dk_79 (dk_at dksX7_tries_0 20 rfl rfl)
theorem dX7_tries_21 : decode cX7_tries 21 = .ok (.iinc 1 1, 3) := dk_132 1 1 (dk_at dksX7_tries_0 21 rfl rfl)
theorem dX7_tries_24 : decode cX7_tries 24 = .ok (.goto (-22), 3) := dk_167 255 234 (dk_at dksX7_tries_1 0 rfl rfl)
theorem dX7_tries_27 : decode cX7_tries 27 = .ok (.return_, 1) := dk_177 (dk_at dksX7_tries_1 3 rfl rfl)
abbrev cX7_back : ByteArray := prog_21_method_31_code
def yX7_back : MethodName := ⟨RX7, "back", "(I)I"⟩
def dkwX7_back_1 : List UInt8 := [167, 255, 234, 27, 172]
abbrev dktX7_back_1 : List UInt8 := dkwX7_back_1 ++ []
def dkwX7_back_0 : List UInt8 := [3, 61, 28, 17, 0, 212, 162, 0, 21, 42, 180, 0, 7, 28, 42, 180, 0, 13, 28, 46, 79, 132, 2, 1]
abbrev dktX7_back_0 : List UInt8 := dkwX7_back_0 ++ dktX7_back_1
theorem dksX7_back_0 : cX7_back.data.toList.drop 0 = dktX7_back_0 := by decide +kernel
theorem dksX7_back_1 : cX7_back.data.toList.drop 24 = dktX7_back_1 := dk_seg dksX7_back_0 24 rfl rfl
theorem dX7_back_0 : decode cX7_back 0 = .ok (.iconst 0, 1) := dk_3 (dk_at dksX7_back_0 0 rfl rfl)
theorem dX7_back_1 : decode cX7_back 1 = .ok (.istore_n 2, 1) := dk_61 (dk_at dksX7_back_0 1 rfl rfl)
theorem dX7_back_2 : decode cX7_back 2 = .ok (.iload_n 2, 1) := dk_28 (dk_at dksX7_back_0 2 rfl rfl)
theorem dX7_back_3 : decode cX7_back 3 = .ok (.sipush 212, 3) := dk_17 0 212 (dk_at dksX7_back_0 3 rfl rfl)
theorem dX7_back_6 : decode cX7_back 6 = .ok (.if_icmp .ge 21, 3) := dk_162 0 21 (dk_at dksX7_back_0 6 rfl rfl)
theorem dX7_back_9 : decode cX7_back 9 = .ok (.aload_n 0, 1) := dk_42 (dk_at dksX7_back_0 9 rfl rfl)
theorem dX7_back_10 : decode cX7_back 10 = .ok (.getfield 7, 3) := dk_180 0 7 (dk_at dksX7_back_0 10 rfl rfl)
theorem dX7_back_13 : decode cX7_back 13 = .ok (.iload_n 2, 1) := dk_28 (dk_at dksX7_back_0 13 rfl rfl)
theorem dX7_back_14 : decode cX7_back 14 = .ok (.aload_n 0, 1) := dk_42 (dk_at dksX7_back_0 14 rfl rfl)
theorem dX7_back_15 : decode cX7_back 15 = .ok (.getfield 13, 3) := dk_180 0 13 (dk_at dksX7_back_0 15 rfl rfl)
theorem dX7_back_18 : decode cX7_back 18 = .ok (.iload_n 2, 1) := dk_28 (dk_at dksX7_back_0 18 rfl rfl)
theorem dX7_back_19 : decode cX7_back 19 = .ok (.iaload, 1) := dk_46 (dk_at dksX7_back_0 19 rfl rfl)
theorem dX7_back_20 : decode cX7_back 20 = .ok (.iastore, 1) := dk_79 (dk_at dksX7_back_0 20 rfl rfl)
theorem dX7_back_21 : decode cX7_back 21 = .ok (.iinc 2 1, 3) := dk_132 2 1 (dk_at dksX7_back_0 21 rfl rfl)
theorem dX7_back_24 : decode cX7_back 24 = .ok (.goto (-22), 3) := dk_167 255 234 (dk_at dksX7_back_1 0 rfl rfl)
theorem dX7_back_27 : decode cX7_back 27 = .ok (.iload_n 1, 1) := dk_27 (dk_at dksX7_back_1 3 rfl rfl)
theorem dX7_back_28 : decode cX7_back 28 = .ok (.ireturn, 1) := dk_172 (dk_at dksX7_back_1 4 rfl rfl)
abbrev cX7_outlook : ByteArray := prog_21_method_95_code
def yX7_outlook : MethodName := ⟨RX7, "outlook", "(I)I"⟩
def dkwX7_outlook_1 : List UInt8 := [154, 0, 5, 4, 172, 42, 27, 182, 0, 139, 153, 0, 7, 5, 167, 0, 4, 6, 172]
abbrev dktX7_outlook_1 : List UInt8 := dkwX7_outlook_1 ++ []
def dkwX7_outlook_0 : List UInt8 := [42, 27, 182, 1, 111, 153, 0, 11, 42, 27, 182, 0, 111, 154, 0, 5, 3, 172, 42, 27, 182, 1, 120]
abbrev dktX7_outlook_0 : List UInt8 := dkwX7_outlook_0 ++ dktX7_outlook_1
theorem dksX7_outlook_0 : cX7_outlook.data.toList.drop 0 = dktX7_outlook_0 := by decide +kernel
theorem dksX7_outlook_1 : cX7_outlook.data.toList.drop 23 = dktX7_outlook_1 := dk_seg dksX7_outlook_0 23 rfl rfl
theorem dX7_outlook_0 : decode cX7_outlook 0 = .ok (.aload_n 0, 1) := dk_42 (dk_at dksX7_outlook_0 0 rfl rfl)
theorem dX7_outlook_1 : decode cX7_outlook 1 = .ok (.iload_n 1, 1) := dk_27 (dk_at dksX7_outlook_0 1 rfl rfl)
theorem dX7_outlook_2 : decode cX7_outlook 2 = .ok (.invokevirtual 367, 3) := dk_182 1 111 (dk_at dksX7_outlook_0 2 rfl rfl)
theorem dX7_outlook_5 : decode cX7_outlook 5 = .ok (.ifCond .eq 11, 3) := dk_153 0 11 (dk_at dksX7_outlook_0 5 rfl rfl)
theorem dX7_outlook_8 : decode cX7_outlook 8 = .ok (.aload_n 0, 1) := dk_42 (dk_at dksX7_outlook_0 8 rfl rfl)
theorem dX7_outlook_9 : decode cX7_outlook 9 = .ok (.iload_n 1, 1) := dk_27 (dk_at dksX7_outlook_0 9 rfl rfl)
theorem dX7_outlook_10 : decode cX7_outlook 10 = .ok (.invokevirtual 111, 3) := dk_182 0 111 (dk_at dksX7_outlook_0 10 rfl rfl)
theorem dX7_outlook_13 : decode cX7_outlook 13 = .ok (.ifCond .ne 5, 3) := dk_154 0 5 (dk_at dksX7_outlook_0 13 rfl rfl)
theorem dX7_outlook_16 : decode cX7_outlook 16 = .ok (.iconst 0, 1) := dk_3 (dk_at dksX7_outlook_0 16 rfl rfl)
theorem dX7_outlook_17 : decode cX7_outlook 17 = .ok (.ireturn, 1) := dk_172 (dk_at dksX7_outlook_0 17 rfl rfl)
theorem dX7_outlook_18 : decode cX7_outlook 18 = .ok (.aload_n 0, 1) := dk_42 (dk_at dksX7_outlook_0 18 rfl rfl)
theorem dX7_outlook_19 : decode cX7_outlook 19 = .ok (.iload_n 1, 1) := dk_27 (dk_at dksX7_outlook_0 19 rfl rfl)
theorem dX7_outlook_20 : decode cX7_outlook 20 = .ok (.invokevirtual 376, 3) := dk_182 1 120 (dk_at dksX7_outlook_0 20 rfl rfl)
theorem dX7_outlook_23 : decode cX7_outlook 23 = .ok (.ifCond .ne 5, 3) := dk_154 0 5 (dk_at dksX7_outlook_1 0 rfl rfl)
theorem dX7_outlook_26 : decode cX7_outlook 26 = .ok (.iconst 1, 1) := dk_4 (dk_at dksX7_outlook_1 3 rfl rfl)
theorem dX7_outlook_27 : decode cX7_outlook 27 = .ok (.ireturn, 1) := dk_172 (dk_at dksX7_outlook_1 4 rfl rfl)
theorem dX7_outlook_28 : decode cX7_outlook 28 = .ok (.aload_n 0, 1) := dk_42 (dk_at dksX7_outlook_1 5 rfl rfl)
theorem dX7_outlook_29 : decode cX7_outlook 29 = .ok (.iload_n 1, 1) := dk_27 (dk_at dksX7_outlook_1 6 rfl rfl)
theorem dX7_outlook_30 : decode cX7_outlook 30 = .ok (.invokevirtual 139, 3) := dk_182 0 139 (dk_at dksX7_outlook_1 7 rfl rfl)
theorem dX7_outlook_33 : decode cX7_outlook 33 = .ok (.ifCond .eq 7, 3) := dk_153 0 7 (dk_at dksX7_outlook_1 10 rfl rfl)
theorem dX7_outlook_36 : decode cX7_outlook 36 = .ok (.iconst 2, 1) := dk_5 (dk_at dksX7_outlook_1 13 rfl rfl)
theorem dX7_outlook_37 : decode cX7_outlook 37 = .ok (.goto 4, 3) := dk_167 0 4 (dk_at dksX7_outlook_1 14 rfl rfl)
theorem dX7_outlook_40 : decode cX7_outlook 40 = .ok (.iconst 3, 1) := dk_6 (dk_at dksX7_outlook_1 17 rfl rfl)
theorem dX7_outlook_41 : decode cX7_outlook 41 = .ok (.ireturn, 1) := dk_172 (dk_at dksX7_outlook_1 18 rfl rfl)
abbrev cX7_quickestGarden : ByteArray := prog_21_method_96_code
def yX7_quickestGarden : MethodName := ⟨RX7, "quickestGarden", "(II)I"⟩
def dkwX7_quickestGarden_3 : List UInt8 := [21, 4, 62, 132, 4, 1, 167, 255, 220, 29, 172]
abbrev dktX7_quickestGarden_3 : List UInt8 := dkwX7_quickestGarden_3 ++ []
def dkwX7_quickestGarden_2 : List UInt8 := [16, 7, 46, 162, 0, 30, 42, 27, 28, 21, 4, 182, 0, 118, 42, 27, 28, 29, 182, 0, 118, 162, 0, 6]
abbrev dktX7_quickestGarden_2 : List UInt8 := dkwX7_quickestGarden_2 ++ dktX7_quickestGarden_3
def dkwX7_quickestGarden_1 : List UInt8 := [167, 0, 4, 3, 4, 182, 0, 176, 154, 0, 5, 3, 172, 3, 62, 4, 54, 4, 21, 4, 42, 180, 0, 7]
abbrev dktX7_quickestGarden_1 : List UInt8 := dkwX7_quickestGarden_1 ++ dktX7_quickestGarden_2
def dkwX7_quickestGarden_0 : List UInt8 := [42, 3, 181, 0, 85, 42, 42, 27, 182, 1, 108, 153, 0, 15, 42, 28, 182, 1, 96, 153, 0, 7, 4]
abbrev dktX7_quickestGarden_0 : List UInt8 := dkwX7_quickestGarden_0 ++ dktX7_quickestGarden_1
theorem dksX7_quickestGarden_0 : cX7_quickestGarden.data.toList.drop 0 = dktX7_quickestGarden_0 := by decide +kernel
theorem dksX7_quickestGarden_1 : cX7_quickestGarden.data.toList.drop 23 = dktX7_quickestGarden_1 := dk_seg dksX7_quickestGarden_0 23 rfl rfl
theorem dksX7_quickestGarden_2 : cX7_quickestGarden.data.toList.drop 47 = dktX7_quickestGarden_2 := dk_seg dksX7_quickestGarden_1 24 rfl rfl
theorem dksX7_quickestGarden_3 : cX7_quickestGarden.data.toList.drop 71 = dktX7_quickestGarden_3 := dk_seg dksX7_quickestGarden_2 24 rfl rfl
theorem dX7_quickestGarden_0 : decode cX7_quickestGarden 0 = .ok (.aload_n 0, 1) := dk_42 (dk_at dksX7_quickestGarden_0 0 rfl rfl)
theorem dX7_quickestGarden_1 : decode cX7_quickestGarden 1 = .ok (.iconst 0, 1) := dk_3 (dk_at dksX7_quickestGarden_0 1 rfl rfl)
theorem dX7_quickestGarden_2 : decode cX7_quickestGarden 2 = .ok (.putfield 85, 3) := dk_181 0 85 (dk_at dksX7_quickestGarden_0 2 rfl rfl)
theorem dX7_quickestGarden_5 : decode cX7_quickestGarden 5 = .ok (.aload_n 0, 1) := dk_42 (dk_at dksX7_quickestGarden_0 5 rfl rfl)
theorem dX7_quickestGarden_6 : decode cX7_quickestGarden 6 = .ok (.aload_n 0, 1) := dk_42 (dk_at dksX7_quickestGarden_0 6 rfl rfl)
theorem dX7_quickestGarden_7 : decode cX7_quickestGarden 7 = .ok (.iload_n 1, 1) := dk_27 (dk_at dksX7_quickestGarden_0 7 rfl rfl)
theorem dX7_quickestGarden_8 : decode cX7_quickestGarden 8 = .ok (.invokevirtual 364, 3) := dk_182 1 108 (dk_at dksX7_quickestGarden_0 8 rfl rfl)
theorem dX7_quickestGarden_11 : decode cX7_quickestGarden 11 = .ok (.ifCond .eq 15, 3) := dk_153 0 15 (dk_at dksX7_quickestGarden_0 11 rfl rfl)
theorem dX7_quickestGarden_14 : decode cX7_quickestGarden 14 = .ok (.aload_n 0, 1) := dk_42 (dk_at dksX7_quickestGarden_0 14 rfl rfl)
theorem dX7_quickestGarden_15 : decode cX7_quickestGarden 15 = .ok (.iload_n 2, 1) := dk_28 (dk_at dksX7_quickestGarden_0 15 rfl rfl)
theorem dX7_quickestGarden_16 : decode cX7_quickestGarden 16 = .ok (.invokevirtual 352, 3) := dk_182 1 96 (dk_at dksX7_quickestGarden_0 16 rfl rfl)
theorem dX7_quickestGarden_19 : decode cX7_quickestGarden 19 = .ok (.ifCond .eq 7, 3) := dk_153 0 7 (dk_at dksX7_quickestGarden_0 19 rfl rfl)
theorem dX7_quickestGarden_22 : decode cX7_quickestGarden 22 = .ok (.iconst 1, 1) := dk_4 (dk_at dksX7_quickestGarden_0 22 rfl rfl)
theorem dX7_quickestGarden_23 : decode cX7_quickestGarden 23 = .ok (.goto 4, 3) := dk_167 0 4 (dk_at dksX7_quickestGarden_1 0 rfl rfl)
theorem dX7_quickestGarden_26 : decode cX7_quickestGarden 26 = .ok (.iconst 0, 1) := dk_3 (dk_at dksX7_quickestGarden_1 3 rfl rfl)
theorem dX7_quickestGarden_27 : decode cX7_quickestGarden 27 = .ok (.iconst 1, 1) := dk_4 (dk_at dksX7_quickestGarden_1 4 rfl rfl)
theorem dX7_quickestGarden_28 : decode cX7_quickestGarden 28 = .ok (.invokevirtual 176, 3) := dk_182 0 176 (dk_at dksX7_quickestGarden_1 5 rfl rfl)
theorem dX7_quickestGarden_31 : decode cX7_quickestGarden 31 = .ok (.ifCond .ne 5, 3) := dk_154 0 5 (dk_at dksX7_quickestGarden_1 8 rfl rfl)
theorem dX7_quickestGarden_34 : decode cX7_quickestGarden 34 = .ok (.iconst 0, 1) := dk_3 (dk_at dksX7_quickestGarden_1 11 rfl rfl)
theorem dX7_quickestGarden_35 : decode cX7_quickestGarden 35 = .ok (.ireturn, 1) := dk_172 (dk_at dksX7_quickestGarden_1 12 rfl rfl)
theorem dX7_quickestGarden_36 : decode cX7_quickestGarden 36 = .ok (.iconst 0, 1) := dk_3 (dk_at dksX7_quickestGarden_1 13 rfl rfl)
theorem dX7_quickestGarden_37 : decode cX7_quickestGarden 37 = .ok (.istore_n 3, 1) := dk_62 (dk_at dksX7_quickestGarden_1 14 rfl rfl)
theorem dX7_quickestGarden_38 : decode cX7_quickestGarden 38 = .ok (.iconst 1, 1) := dk_4 (dk_at dksX7_quickestGarden_1 15 rfl rfl)
theorem dX7_quickestGarden_39 : decode cX7_quickestGarden 39 = .ok (.istore 4, 2) := dk_54 4 (dk_at dksX7_quickestGarden_1 16 rfl rfl)
theorem dX7_quickestGarden_41 : decode cX7_quickestGarden 41 = .ok (.iload 4, 2) := dk_21 4 (dk_at dksX7_quickestGarden_1 18 rfl rfl)
theorem dX7_quickestGarden_43 : decode cX7_quickestGarden 43 = .ok (.aload_n 0, 1) := dk_42 (dk_at dksX7_quickestGarden_1 20 rfl rfl)
theorem dX7_quickestGarden_44 : decode cX7_quickestGarden 44 = .ok (.getfield 7, 3) := dk_180 0 7 (dk_at dksX7_quickestGarden_1 21 rfl rfl)
theorem dX7_quickestGarden_47 : decode cX7_quickestGarden 47 = .ok (.bipush 7, 2) := dk_16 7 (dk_at dksX7_quickestGarden_2 0 rfl rfl)
theorem dX7_quickestGarden_49 : decode cX7_quickestGarden 49 = .ok (.iaload, 1) := dk_46 (dk_at dksX7_quickestGarden_2 2 rfl rfl)
theorem dX7_quickestGarden_50 : decode cX7_quickestGarden 50 = .ok (.if_icmp .ge 30, 3) := dk_162 0 30 (dk_at dksX7_quickestGarden_2 3 rfl rfl)
theorem dX7_quickestGarden_53 : decode cX7_quickestGarden 53 = .ok (.aload_n 0, 1) := dk_42 (dk_at dksX7_quickestGarden_2 6 rfl rfl)
theorem dX7_quickestGarden_54 : decode cX7_quickestGarden 54 = .ok (.iload_n 1, 1) := dk_27 (dk_at dksX7_quickestGarden_2 7 rfl rfl)
theorem dX7_quickestGarden_55 : decode cX7_quickestGarden 55 = .ok (.iload_n 2, 1) := dk_28 (dk_at dksX7_quickestGarden_2 8 rfl rfl)
theorem dX7_quickestGarden_56 : decode cX7_quickestGarden 56 = .ok (.iload 4, 2) := dk_21 4 (dk_at dksX7_quickestGarden_2 9 rfl rfl)
theorem dX7_quickestGarden_58 : decode cX7_quickestGarden 58 = .ok (.invokevirtual 118, 3) := dk_182 0 118 (dk_at dksX7_quickestGarden_2 11 rfl rfl)
theorem dX7_quickestGarden_61 : decode cX7_quickestGarden 61 = .ok (.aload_n 0, 1) := dk_42 (dk_at dksX7_quickestGarden_2 14 rfl rfl)
theorem dX7_quickestGarden_62 : decode cX7_quickestGarden 62 = .ok (.iload_n 1, 1) := dk_27 (dk_at dksX7_quickestGarden_2 15 rfl rfl)
theorem dX7_quickestGarden_63 : decode cX7_quickestGarden 63 = .ok (.iload_n 2, 1) := dk_28 (dk_at dksX7_quickestGarden_2 16 rfl rfl)
theorem dX7_quickestGarden_64 : decode cX7_quickestGarden 64 = .ok (.iload_n 3, 1) := dk_29 (dk_at dksX7_quickestGarden_2 17 rfl rfl)
theorem dX7_quickestGarden_65 : decode cX7_quickestGarden 65 = .ok (.invokevirtual 118, 3) := dk_182 0 118 (dk_at dksX7_quickestGarden_2 18 rfl rfl)
theorem dX7_quickestGarden_68 : decode cX7_quickestGarden 68 = .ok (.if_icmp .ge 6, 3) := dk_162 0 6 (dk_at dksX7_quickestGarden_2 21 rfl rfl)
theorem dX7_quickestGarden_71 : decode cX7_quickestGarden 71 = .ok (.iload 4, 2) := dk_21 4 (dk_at dksX7_quickestGarden_3 0 rfl rfl)
theorem dX7_quickestGarden_73 : decode cX7_quickestGarden 73 = .ok (.istore_n 3, 1) := dk_62 (dk_at dksX7_quickestGarden_3 2 rfl rfl)
theorem dX7_quickestGarden_74 : decode cX7_quickestGarden 74 = .ok (.iinc 4 1, 3) := dk_132 4 1 (dk_at dksX7_quickestGarden_3 3 rfl rfl)
theorem dX7_quickestGarden_77 : decode cX7_quickestGarden 77 = .ok (.goto (-36), 3) := dk_167 255 220 (dk_at dksX7_quickestGarden_3 6 rfl rfl)
theorem dX7_quickestGarden_80 : decode cX7_quickestGarden 80 = .ok (.iload_n 3, 1) := dk_29 (dk_at dksX7_quickestGarden_3 9 rfl rfl)
theorem dX7_quickestGarden_81 : decode cX7_quickestGarden 81 = .ok (.ireturn, 1) := dk_172 (dk_at dksX7_quickestGarden_3 10 rfl rfl)
abbrev cX7_night : ByteArray := prog_21_method_97_code
def yX7_night : MethodName := ⟨RX7, "night", "()I"⟩
def dkwX7_night_0 : List UInt8 := [42, 3, 181, 0, 85, 42, 180, 0, 7, 8, 46, 172]
abbrev dktX7_night_0 : List UInt8 := dkwX7_night_0 ++ []
theorem dksX7_night_0 : cX7_night.data.toList.drop 0 = dktX7_night_0 := by decide +kernel
theorem dX7_night_0 : decode cX7_night 0 = .ok (.aload_n 0, 1) := dk_42 (dk_at dksX7_night_0 0 rfl rfl)
theorem dX7_night_1 : decode cX7_night 1 = .ok (.iconst 0, 1) := dk_3 (dk_at dksX7_night_0 1 rfl rfl)
theorem dX7_night_2 : decode cX7_night 2 = .ok (.putfield 85, 3) := dk_181 0 85 (dk_at dksX7_night_0 2 rfl rfl)
theorem dX7_night_5 : decode cX7_night 5 = .ok (.aload_n 0, 1) := dk_42 (dk_at dksX7_night_0 5 rfl rfl)
theorem dX7_night_6 : decode cX7_night 6 = .ok (.getfield 7, 3) := dk_180 0 7 (dk_at dksX7_night_0 6 rfl rfl)
theorem dX7_night_9 : decode cX7_night 9 = .ok (.iconst 5, 1) := dk_8 (dk_at dksX7_night_0 9 rfl rfl)
theorem dX7_night_10 : decode cX7_night 10 = .ok (.iaload, 1) := dk_46 (dk_at dksX7_night_0 10 rfl rfl)
theorem dX7_night_11 : decode cX7_night 11 = .ok (.ireturn, 1) := dk_172 (dk_at dksX7_night_0 11 rfl rfl)
abbrev cX7_balance : ByteArray := prog_21_method_98_code
def yX7_balance : MethodName := ⟨RX7, "balance", "()I"⟩
def dkwX7_balance_0 : List UInt8 := [42, 3, 181, 0, 85, 42, 180, 0, 7, 16, 9, 46, 172]
abbrev dktX7_balance_0 : List UInt8 := dkwX7_balance_0 ++ []
theorem dksX7_balance_0 : cX7_balance.data.toList.drop 0 = dktX7_balance_0 := by decide +kernel
theorem dX7_balance_0 : decode cX7_balance 0 = .ok (.aload_n 0, 1) := dk_42 (dk_at dksX7_balance_0 0 rfl rfl)
theorem dX7_balance_1 : decode cX7_balance 1 = .ok (.iconst 0, 1) := dk_3 (dk_at dksX7_balance_0 1 rfl rfl)
theorem dX7_balance_2 : decode cX7_balance 2 = .ok (.putfield 85, 3) := dk_181 0 85 (dk_at dksX7_balance_0 2 rfl rfl)
theorem dX7_balance_5 : decode cX7_balance 5 = .ok (.aload_n 0, 1) := dk_42 (dk_at dksX7_balance_0 5 rfl rfl)
theorem dX7_balance_6 : decode cX7_balance 6 = .ok (.getfield 7, 3) := dk_180 0 7 (dk_at dksX7_balance_0 6 rfl rfl)
theorem dX7_balance_9 : decode cX7_balance 9 = .ok (.bipush 9, 2) := dk_16 9 (dk_at dksX7_balance_0 9 rfl rfl)
theorem dX7_balance_11 : decode cX7_balance 11 = .ok (.iaload, 1) := dk_46 (dk_at dksX7_balance_0 11 rfl rfl)
theorem dX7_balance_12 : decode cX7_balance 12 = .ok (.ireturn, 1) := dk_172 (dk_at dksX7_balance_0 12 rfl rfl)
abbrev cX7_price : ByteArray := prog_21_method_99_code
def yX7_price : MethodName := ⟨RX7, "price", "()I"⟩
def dkwX7_price_0 : List UInt8 := [42, 3, 181, 0, 85, 42, 180, 0, 7, 4, 46, 172]
abbrev dktX7_price_0 : List UInt8 := dkwX7_price_0 ++ []
theorem dksX7_price_0 : cX7_price.data.toList.drop 0 = dktX7_price_0 := by decide +kernel
theorem dX7_price_0 : decode cX7_price 0 = .ok (.aload_n 0, 1) := dk_42 (dk_at dksX7_price_0 0 rfl rfl)
theorem dX7_price_1 : decode cX7_price 1 = .ok (.iconst 0, 1) := dk_3 (dk_at dksX7_price_0 1 rfl rfl)
theorem dX7_price_2 : decode cX7_price 2 = .ok (.putfield 85, 3) := dk_181 0 85 (dk_at dksX7_price_0 2 rfl rfl)
theorem dX7_price_5 : decode cX7_price 5 = .ok (.aload_n 0, 1) := dk_42 (dk_at dksX7_price_0 5 rfl rfl)
theorem dX7_price_6 : decode cX7_price 6 = .ok (.getfield 7, 3) := dk_180 0 7 (dk_at dksX7_price_0 6 rfl rfl)
theorem dX7_price_9 : decode cX7_price 9 = .ok (.iconst 1, 1) := dk_4 (dk_at dksX7_price_0 9 rfl rfl)
theorem dX7_price_10 : decode cX7_price 10 = .ok (.iaload, 1) := dk_46 (dk_at dksX7_price_0 10 rfl rfl)
theorem dX7_price_11 : decode cX7_price 11 = .ok (.ireturn, 1) := dk_172 (dk_at dksX7_price_0 11 rfl rfl)
abbrev cX7_wind : ByteArray := prog_21_method_100_code
def yX7_wind : MethodName := ⟨RX7, "wind", "()I"⟩
def dkwX7_wind_0 : List UInt8 := [42, 3, 181, 0, 85, 42, 182, 0, 108, 172]
abbrev dktX7_wind_0 : List UInt8 := dkwX7_wind_0 ++ []
theorem dksX7_wind_0 : cX7_wind.data.toList.drop 0 = dktX7_wind_0 := by decide +kernel
theorem dX7_wind_0 : decode cX7_wind 0 = .ok (.aload_n 0, 1) := dk_42 (dk_at dksX7_wind_0 0 rfl rfl)
theorem dX7_wind_1 : decode cX7_wind 1 = .ok (.iconst 0, 1) := dk_3 (dk_at dksX7_wind_0 1 rfl rfl)
theorem dX7_wind_2 : decode cX7_wind 2 = .ok (.putfield 85, 3) := dk_181 0 85 (dk_at dksX7_wind_0 2 rfl rfl)
theorem dX7_wind_5 : decode cX7_wind 5 = .ok (.aload_n 0, 1) := dk_42 (dk_at dksX7_wind_0 5 rfl rfl)
theorem dX7_wind_6 : decode cX7_wind 6 = .ok (.invokevirtual 108, 3) := dk_182 0 108 (dk_at dksX7_wind_0 6 rfl rfl)
theorem dX7_wind_9 : decode cX7_wind 9 = .ok (.ireturn, 1) := dk_172 (dk_at dksX7_wind_0 9 rfl rfl)
abbrev cX7_smellReaches : ByteArray := prog_21_method_101_code
def yX7_smellReaches : MethodName := ⟨RX7, "smellReaches", "(III)Z"⟩
def dkwX7_smellReaches_2 : List UInt8 := [153, 0, 17, 42, 27, 28, 29, 182, 0, 146, 153, 0, 7, 4, 167, 0, 4, 3, 172]
abbrev dktX7_smellReaches_2 : List UInt8 := dkwX7_smellReaches_2 ++ []
def dkwX7_smellReaches_1 : List UInt8 := [167, 0, 4, 3, 4, 182, 0, 176, 153, 0, 32, 42, 28, 3, 16, 60, 184, 0, 88, 5, 182, 0, 176]
abbrev dktX7_smellReaches_1 : List UInt8 := dkwX7_smellReaches_1 ++ dktX7_smellReaches_2
def dkwX7_smellReaches_0 : List UInt8 := [42, 3, 181, 0, 85, 42, 42, 27, 182, 1, 96, 153, 0, 15, 42, 29, 182, 1, 96, 153, 0, 7, 4]
abbrev dktX7_smellReaches_0 : List UInt8 := dkwX7_smellReaches_0 ++ dktX7_smellReaches_1
theorem dksX7_smellReaches_0 : cX7_smellReaches.data.toList.drop 0 = dktX7_smellReaches_0 := by decide +kernel
theorem dksX7_smellReaches_1 : cX7_smellReaches.data.toList.drop 23 = dktX7_smellReaches_1 := dk_seg dksX7_smellReaches_0 23 rfl rfl
theorem dksX7_smellReaches_2 : cX7_smellReaches.data.toList.drop 46 = dktX7_smellReaches_2 := dk_seg dksX7_smellReaches_1 23 rfl rfl
theorem dX7_smellReaches_0 : decode cX7_smellReaches 0 = .ok (.aload_n 0, 1) := dk_42 (dk_at dksX7_smellReaches_0 0 rfl rfl)
theorem dX7_smellReaches_1 : decode cX7_smellReaches 1 = .ok (.iconst 0, 1) := dk_3 (dk_at dksX7_smellReaches_0 1 rfl rfl)
theorem dX7_smellReaches_2 : decode cX7_smellReaches 2 = .ok (.putfield 85, 3) := dk_181 0 85 (dk_at dksX7_smellReaches_0 2 rfl rfl)
theorem dX7_smellReaches_5 : decode cX7_smellReaches 5 = .ok (.aload_n 0, 1) := dk_42 (dk_at dksX7_smellReaches_0 5 rfl rfl)
theorem dX7_smellReaches_6 : decode cX7_smellReaches 6 = .ok (.aload_n 0, 1) := dk_42 (dk_at dksX7_smellReaches_0 6 rfl rfl)
theorem dX7_smellReaches_7 : decode cX7_smellReaches 7 = .ok (.iload_n 1, 1) := dk_27 (dk_at dksX7_smellReaches_0 7 rfl rfl)
theorem dX7_smellReaches_8 : decode cX7_smellReaches 8 = .ok (.invokevirtual 352, 3) := dk_182 1 96 (dk_at dksX7_smellReaches_0 8 rfl rfl)
theorem dX7_smellReaches_11 : decode cX7_smellReaches 11 = .ok (.ifCond .eq 15, 3) := dk_153 0 15 (dk_at dksX7_smellReaches_0 11 rfl rfl)
theorem dX7_smellReaches_14 : decode cX7_smellReaches 14 = .ok (.aload_n 0, 1) := dk_42 (dk_at dksX7_smellReaches_0 14 rfl rfl)
theorem dX7_smellReaches_15 : decode cX7_smellReaches 15 = .ok (.iload_n 3, 1) := dk_29 (dk_at dksX7_smellReaches_0 15 rfl rfl)
theorem dX7_smellReaches_16 : decode cX7_smellReaches 16 = .ok (.invokevirtual 352, 3) := dk_182 1 96 (dk_at dksX7_smellReaches_0 16 rfl rfl)
theorem dX7_smellReaches_19 : decode cX7_smellReaches 19 = .ok (.ifCond .eq 7, 3) := dk_153 0 7 (dk_at dksX7_smellReaches_0 19 rfl rfl)
theorem dX7_smellReaches_22 : decode cX7_smellReaches 22 = .ok (.iconst 1, 1) := dk_4 (dk_at dksX7_smellReaches_0 22 rfl rfl)
theorem dX7_smellReaches_23 : decode cX7_smellReaches 23 = .ok (.goto 4, 3) := dk_167 0 4 (dk_at dksX7_smellReaches_1 0 rfl rfl)
theorem dX7_smellReaches_26 : decode cX7_smellReaches 26 = .ok (.iconst 0, 1) := dk_3 (dk_at dksX7_smellReaches_1 3 rfl rfl)
theorem dX7_smellReaches_27 : decode cX7_smellReaches 27 = .ok (.iconst 1, 1) := dk_4 (dk_at dksX7_smellReaches_1 4 rfl rfl)
theorem dX7_smellReaches_28 : decode cX7_smellReaches 28 = .ok (.invokevirtual 176, 3) := dk_182 0 176 (dk_at dksX7_smellReaches_1 5 rfl rfl)
theorem dX7_smellReaches_31 : decode cX7_smellReaches 31 = .ok (.ifCond .eq 32, 3) := dk_153 0 32 (dk_at dksX7_smellReaches_1 8 rfl rfl)
theorem dX7_smellReaches_34 : decode cX7_smellReaches 34 = .ok (.aload_n 0, 1) := dk_42 (dk_at dksX7_smellReaches_1 11 rfl rfl)
theorem dX7_smellReaches_35 : decode cX7_smellReaches 35 = .ok (.iload_n 2, 1) := dk_28 (dk_at dksX7_smellReaches_1 12 rfl rfl)
theorem dX7_smellReaches_36 : decode cX7_smellReaches 36 = .ok (.iconst 0, 1) := dk_3 (dk_at dksX7_smellReaches_1 13 rfl rfl)
theorem dX7_smellReaches_37 : decode cX7_smellReaches 37 = .ok (.bipush 60, 2) := dk_16 60 (dk_at dksX7_smellReaches_1 14 rfl rfl)
theorem dX7_smellReaches_39 : decode cX7_smellReaches 39 = .ok (.invokestatic 88, 3) := dk_184 0 88 (dk_at dksX7_smellReaches_1 16 rfl rfl)
theorem dX7_smellReaches_42 : decode cX7_smellReaches 42 = .ok (.iconst 2, 1) := dk_5 (dk_at dksX7_smellReaches_1 19 rfl rfl)
theorem dX7_smellReaches_43 : decode cX7_smellReaches 43 = .ok (.invokevirtual 176, 3) := dk_182 0 176 (dk_at dksX7_smellReaches_1 20 rfl rfl)
theorem dX7_smellReaches_46 : decode cX7_smellReaches 46 = .ok (.ifCond .eq 17, 3) := dk_153 0 17 (dk_at dksX7_smellReaches_2 0 rfl rfl)
theorem dX7_smellReaches_49 : decode cX7_smellReaches 49 = .ok (.aload_n 0, 1) := dk_42 (dk_at dksX7_smellReaches_2 3 rfl rfl)
theorem dX7_smellReaches_50 : decode cX7_smellReaches 50 = .ok (.iload_n 1, 1) := dk_27 (dk_at dksX7_smellReaches_2 4 rfl rfl)
theorem dX7_smellReaches_51 : decode cX7_smellReaches 51 = .ok (.iload_n 2, 1) := dk_28 (dk_at dksX7_smellReaches_2 5 rfl rfl)
theorem dX7_smellReaches_52 : decode cX7_smellReaches 52 = .ok (.iload_n 3, 1) := dk_29 (dk_at dksX7_smellReaches_2 6 rfl rfl)
theorem dX7_smellReaches_53 : decode cX7_smellReaches 53 = .ok (.invokevirtual 146, 3) := dk_182 0 146 (dk_at dksX7_smellReaches_2 7 rfl rfl)
theorem dX7_smellReaches_56 : decode cX7_smellReaches 56 = .ok (.ifCond .eq 7, 3) := dk_153 0 7 (dk_at dksX7_smellReaches_2 10 rfl rfl)
theorem dX7_smellReaches_59 : decode cX7_smellReaches 59 = .ok (.iconst 1, 1) := dk_4 (dk_at dksX7_smellReaches_2 13 rfl rfl)
theorem dX7_smellReaches_60 : decode cX7_smellReaches 60 = .ok (.goto 4, 3) := dk_167 0 4 (dk_at dksX7_smellReaches_2 14 rfl rfl)
theorem dX7_smellReaches_63 : decode cX7_smellReaches 63 = .ok (.iconst 0, 1) := dk_3 (dk_at dksX7_smellReaches_2 17 rfl rfl)
theorem dX7_smellReaches_64 : decode cX7_smellReaches 64 = .ok (.ireturn, 1) := dk_172 (dk_at dksX7_smellReaches_2 18 rfl rfl)
abbrev cX7_deliveryCount : ByteArray := prog_21_method_102_code
def yX7_deliveryCount : MethodName := ⟨RX7, "deliveryCount", "()I"⟩
def dkwX7_deliveryCount_0 : List UInt8 := [42, 3, 181, 0, 85, 42, 180, 0, 7, 16, 12, 46, 172]
abbrev dktX7_deliveryCount_0 : List UInt8 := dkwX7_deliveryCount_0 ++ []
theorem dksX7_deliveryCount_0 : cX7_deliveryCount.data.toList.drop 0 = dktX7_deliveryCount_0 := by decide +kernel
theorem dX7_deliveryCount_0 : decode cX7_deliveryCount 0 = .ok (.aload_n 0, 1) := dk_42 (dk_at dksX7_deliveryCount_0 0 rfl rfl)
theorem dX7_deliveryCount_1 : decode cX7_deliveryCount 1 = .ok (.iconst 0, 1) := dk_3 (dk_at dksX7_deliveryCount_0 1 rfl rfl)
theorem dX7_deliveryCount_2 : decode cX7_deliveryCount 2 = .ok (.putfield 85, 3) := dk_181 0 85 (dk_at dksX7_deliveryCount_0 2 rfl rfl)
theorem dX7_deliveryCount_5 : decode cX7_deliveryCount 5 = .ok (.aload_n 0, 1) := dk_42 (dk_at dksX7_deliveryCount_0 5 rfl rfl)
theorem dX7_deliveryCount_6 : decode cX7_deliveryCount 6 = .ok (.getfield 7, 3) := dk_180 0 7 (dk_at dksX7_deliveryCount_0 6 rfl rfl)
theorem dX7_deliveryCount_9 : decode cX7_deliveryCount 9 = .ok (.bipush 12, 2) := dk_16 12 (dk_at dksX7_deliveryCount_0 9 rfl rfl)
theorem dX7_deliveryCount_11 : decode cX7_deliveryCount 11 = .ok (.iaload, 1) := dk_46 (dk_at dksX7_deliveryCount_0 11 rfl rfl)
theorem dX7_deliveryCount_12 : decode cX7_deliveryCount 12 = .ok (.ireturn, 1) := dk_172 (dk_at dksX7_deliveryCount_0 12 rfl rfl)
abbrev cX7_lateCount : ByteArray := prog_21_method_103_code
def yX7_lateCount : MethodName := ⟨RX7, "lateCount", "()I"⟩
def dkwX7_lateCount_0 : List UInt8 := [42, 3, 181, 0, 85, 42, 180, 0, 7, 16, 13, 46, 172]
abbrev dktX7_lateCount_0 : List UInt8 := dkwX7_lateCount_0 ++ []
theorem dksX7_lateCount_0 : cX7_lateCount.data.toList.drop 0 = dktX7_lateCount_0 := by decide +kernel
theorem dX7_lateCount_0 : decode cX7_lateCount 0 = .ok (.aload_n 0, 1) := dk_42 (dk_at dksX7_lateCount_0 0 rfl rfl)
theorem dX7_lateCount_1 : decode cX7_lateCount 1 = .ok (.iconst 0, 1) := dk_3 (dk_at dksX7_lateCount_0 1 rfl rfl)
theorem dX7_lateCount_2 : decode cX7_lateCount 2 = .ok (.putfield 85, 3) := dk_181 0 85 (dk_at dksX7_lateCount_0 2 rfl rfl)
theorem dX7_lateCount_5 : decode cX7_lateCount 5 = .ok (.aload_n 0, 1) := dk_42 (dk_at dksX7_lateCount_0 5 rfl rfl)
theorem dX7_lateCount_6 : decode cX7_lateCount 6 = .ok (.getfield 7, 3) := dk_180 0 7 (dk_at dksX7_lateCount_0 6 rfl rfl)
theorem dX7_lateCount_9 : decode cX7_lateCount 9 = .ok (.bipush 13, 2) := dk_16 13 (dk_at dksX7_lateCount_0 9 rfl rfl)
theorem dX7_lateCount_11 : decode cX7_lateCount 11 = .ok (.iaload, 1) := dk_46 (dk_at dksX7_lateCount_0 11 rfl rfl)
theorem dX7_lateCount_12 : decode cX7_lateCount 12 = .ok (.ireturn, 1) := dk_172 (dk_at dksX7_lateCount_0 12 rfl rfl)
abbrev cX7_meanLoad : ByteArray := prog_21_method_104_code
def yX7_meanLoad : MethodName := ⟨RX7, "meanLoad", "()D"⟩
def dkwX7_meanLoad_1 : List UInt8 := [16, 11, 46, 135, 42, 180, 0, 7, 16, 12, 46, 135, 111, 175]
abbrev dktX7_meanLoad_1 : List UInt8 := dkwX7_meanLoad_1 ++ []
def dkwX7_meanLoad_0 : List UInt8 := [42, 3, 181, 0, 85, 42, 180, 0, 7, 16, 12, 46, 154, 0, 7, 14, 167, 0, 20, 42, 180, 0, 7]
abbrev dktX7_meanLoad_0 : List UInt8 := dkwX7_meanLoad_0 ++ dktX7_meanLoad_1
theorem dksX7_meanLoad_0 : cX7_meanLoad.data.toList.drop 0 = dktX7_meanLoad_0 := by decide +kernel
theorem dksX7_meanLoad_1 : cX7_meanLoad.data.toList.drop 23 = dktX7_meanLoad_1 := dk_seg dksX7_meanLoad_0 23 rfl rfl
theorem dX7_meanLoad_0 : decode cX7_meanLoad 0 = .ok (.aload_n 0, 1) := dk_42 (dk_at dksX7_meanLoad_0 0 rfl rfl)
theorem dX7_meanLoad_1 : decode cX7_meanLoad 1 = .ok (.iconst 0, 1) := dk_3 (dk_at dksX7_meanLoad_0 1 rfl rfl)
theorem dX7_meanLoad_2 : decode cX7_meanLoad 2 = .ok (.putfield 85, 3) := dk_181 0 85 (dk_at dksX7_meanLoad_0 2 rfl rfl)
theorem dX7_meanLoad_5 : decode cX7_meanLoad 5 = .ok (.aload_n 0, 1) := dk_42 (dk_at dksX7_meanLoad_0 5 rfl rfl)
theorem dX7_meanLoad_6 : decode cX7_meanLoad 6 = .ok (.getfield 7, 3) := dk_180 0 7 (dk_at dksX7_meanLoad_0 6 rfl rfl)
theorem dX7_meanLoad_9 : decode cX7_meanLoad 9 = .ok (.bipush 12, 2) := dk_16 12 (dk_at dksX7_meanLoad_0 9 rfl rfl)
theorem dX7_meanLoad_11 : decode cX7_meanLoad 11 = .ok (.iaload, 1) := dk_46 (dk_at dksX7_meanLoad_0 11 rfl rfl)
theorem dX7_meanLoad_12 : decode cX7_meanLoad 12 = .ok (.ifCond .ne 7, 3) := dk_154 0 7 (dk_at dksX7_meanLoad_0 12 rfl rfl)
theorem dX7_meanLoad_15 : decode cX7_meanLoad 15 = .ok (.dconst 0, 1) := dk_14 (dk_at dksX7_meanLoad_0 15 rfl rfl)
theorem dX7_meanLoad_16 : decode cX7_meanLoad 16 = .ok (.goto 20, 3) := dk_167 0 20 (dk_at dksX7_meanLoad_0 16 rfl rfl)
theorem dX7_meanLoad_19 : decode cX7_meanLoad 19 = .ok (.aload_n 0, 1) := dk_42 (dk_at dksX7_meanLoad_0 19 rfl rfl)
theorem dX7_meanLoad_20 : decode cX7_meanLoad 20 = .ok (.getfield 7, 3) := dk_180 0 7 (dk_at dksX7_meanLoad_0 20 rfl rfl)
theorem dX7_meanLoad_23 : decode cX7_meanLoad 23 = .ok (.bipush 11, 2) := dk_16 11 (dk_at dksX7_meanLoad_1 0 rfl rfl)
theorem dX7_meanLoad_25 : decode cX7_meanLoad 25 = .ok (.iaload, 1) := dk_46 (dk_at dksX7_meanLoad_1 2 rfl rfl)
theorem dX7_meanLoad_26 : decode cX7_meanLoad 26 = .ok (.i2d, 1) := dk_135 (dk_at dksX7_meanLoad_1 3 rfl rfl)
theorem dX7_meanLoad_27 : decode cX7_meanLoad 27 = .ok (.aload_n 0, 1) := dk_42 (dk_at dksX7_meanLoad_1 4 rfl rfl)
theorem dX7_meanLoad_28 : decode cX7_meanLoad 28 = .ok (.getfield 7, 3) := dk_180 0 7 (dk_at dksX7_meanLoad_1 5 rfl rfl)
theorem dX7_meanLoad_31 : decode cX7_meanLoad 31 = .ok (.bipush 12, 2) := dk_16 12 (dk_at dksX7_meanLoad_1 8 rfl rfl)
theorem dX7_meanLoad_33 : decode cX7_meanLoad 33 = .ok (.iaload, 1) := dk_46 (dk_at dksX7_meanLoad_1 10 rfl rfl)
theorem dX7_meanLoad_34 : decode cX7_meanLoad 34 = .ok (.i2d, 1) := dk_135 (dk_at dksX7_meanLoad_1 11 rfl rfl)
theorem dX7_meanLoad_35 : decode cX7_meanLoad 35 = .ok (.ddiv, 1) := dk_111 (dk_at dksX7_meanLoad_1 12 rfl rfl)
theorem dX7_meanLoad_36 : decode cX7_meanLoad 36 = .ok (.dreturn, 1) := dk_175 (dk_at dksX7_meanLoad_1 13 rfl rfl)
abbrev cX7_petalShare : ByteArray := prog_21_method_105_code
def yX7_petalShare : MethodName := ⟨RX7, "petalShare", "(I)F"⟩
def dkwX7_petalShare_2 : List UInt8 := [154, 0, 7, 11, 167, 0, 8, 28, 134, 29, 134, 110, 174]
abbrev dktX7_petalShare_2 : List UInt8 := dkwX7_petalShare_2 ++ []
def dkwX7_petalShare_1 : List UInt8 := [29, 42, 21, 4, 8, 182, 0, 99, 96, 62, 132, 4, 1, 167, 255, 231, 42, 180, 0, 85, 154, 0, 7, 29]
abbrev dktX7_petalShare_1 : List UInt8 := dkwX7_petalShare_1 ++ dktX7_petalShare_2
def dkwX7_petalShare_0 : List UInt8 := [42, 27, 8, 182, 1, 105, 61, 3, 62, 3, 54, 4, 21, 4, 42, 180, 0, 7, 16, 7, 46, 162, 0, 19]
abbrev dktX7_petalShare_0 : List UInt8 := dkwX7_petalShare_0 ++ dktX7_petalShare_1
theorem dksX7_petalShare_0 : cX7_petalShare.data.toList.drop 0 = dktX7_petalShare_0 := by decide +kernel
theorem dksX7_petalShare_1 : cX7_petalShare.data.toList.drop 24 = dktX7_petalShare_1 := dk_seg dksX7_petalShare_0 24 rfl rfl
theorem dksX7_petalShare_2 : cX7_petalShare.data.toList.drop 48 = dktX7_petalShare_2 := dk_seg dksX7_petalShare_1 24 rfl rfl
theorem dX7_petalShare_0 : decode cX7_petalShare 0 = .ok (.aload_n 0, 1) := dk_42 (dk_at dksX7_petalShare_0 0 rfl rfl)
theorem dX7_petalShare_1 : decode cX7_petalShare 1 = .ok (.iload_n 1, 1) := dk_27 (dk_at dksX7_petalShare_0 1 rfl rfl)
theorem dX7_petalShare_2 : decode cX7_petalShare 2 = .ok (.iconst 5, 1) := dk_8 (dk_at dksX7_petalShare_0 2 rfl rfl)
theorem dX7_petalShare_3 : decode cX7_petalShare 3 = .ok (.invokevirtual 361, 3) := dk_182 1 105 (dk_at dksX7_petalShare_0 3 rfl rfl)
theorem dX7_petalShare_6 : decode cX7_petalShare 6 = .ok (.istore_n 2, 1) := dk_61 (dk_at dksX7_petalShare_0 6 rfl rfl)
theorem dX7_petalShare_7 : decode cX7_petalShare 7 = .ok (.iconst 0, 1) := dk_3 (dk_at dksX7_petalShare_0 7 rfl rfl)
theorem dX7_petalShare_8 : decode cX7_petalShare 8 = .ok (.istore_n 3, 1) := dk_62 (dk_at dksX7_petalShare_0 8 rfl rfl)
theorem dX7_petalShare_9 : decode cX7_petalShare 9 = .ok (.iconst 0, 1) := dk_3 (dk_at dksX7_petalShare_0 9 rfl rfl)
theorem dX7_petalShare_10 : decode cX7_petalShare 10 = .ok (.istore 4, 2) := dk_54 4 (dk_at dksX7_petalShare_0 10 rfl rfl)
theorem dX7_petalShare_12 : decode cX7_petalShare 12 = .ok (.iload 4, 2) := dk_21 4 (dk_at dksX7_petalShare_0 12 rfl rfl)
theorem dX7_petalShare_14 : decode cX7_petalShare 14 = .ok (.aload_n 0, 1) := dk_42 (dk_at dksX7_petalShare_0 14 rfl rfl)
theorem dX7_petalShare_15 : decode cX7_petalShare 15 = .ok (.getfield 7, 3) := dk_180 0 7 (dk_at dksX7_petalShare_0 15 rfl rfl)
theorem dX7_petalShare_18 : decode cX7_petalShare 18 = .ok (.bipush 7, 2) := dk_16 7 (dk_at dksX7_petalShare_0 18 rfl rfl)
theorem dX7_petalShare_20 : decode cX7_petalShare 20 = .ok (.iaload, 1) := dk_46 (dk_at dksX7_petalShare_0 20 rfl rfl)
theorem dX7_petalShare_21 : decode cX7_petalShare 21 = .ok (.if_icmp .ge 19, 3) := dk_162 0 19 (dk_at dksX7_petalShare_0 21 rfl rfl)
theorem dX7_petalShare_24 : decode cX7_petalShare 24 = .ok (.iload_n 3, 1) := dk_29 (dk_at dksX7_petalShare_1 0 rfl rfl)
theorem dX7_petalShare_25 : decode cX7_petalShare 25 = .ok (.aload_n 0, 1) := dk_42 (dk_at dksX7_petalShare_1 1 rfl rfl)
theorem dX7_petalShare_26 : decode cX7_petalShare 26 = .ok (.iload 4, 2) := dk_21 4 (dk_at dksX7_petalShare_1 2 rfl rfl)
theorem dX7_petalShare_28 : decode cX7_petalShare 28 = .ok (.iconst 5, 1) := dk_8 (dk_at dksX7_petalShare_1 4 rfl rfl)
theorem dX7_petalShare_29 : decode cX7_petalShare 29 = .ok (.invokevirtual 99, 3) := dk_182 0 99 (dk_at dksX7_petalShare_1 5 rfl rfl)
theorem dX7_petalShare_32 : decode cX7_petalShare 32 = .ok (.iadd, 1) := dk_96 (dk_at dksX7_petalShare_1 8 rfl rfl)
theorem dX7_petalShare_33 : decode cX7_petalShare 33 = .ok (.istore_n 3, 1) := dk_62 (dk_at dksX7_petalShare_1 9 rfl rfl)
theorem dX7_petalShare_34 : decode cX7_petalShare 34 = .ok (.iinc 4 1, 3) := dk_132 4 1 (dk_at dksX7_petalShare_1 10 rfl rfl)
theorem dX7_petalShare_37 : decode cX7_petalShare 37 = .ok (.goto (-25), 3) := dk_167 255 231 (dk_at dksX7_petalShare_1 13 rfl rfl)
theorem dX7_petalShare_40 : decode cX7_petalShare 40 = .ok (.aload_n 0, 1) := dk_42 (dk_at dksX7_petalShare_1 16 rfl rfl)
theorem dX7_petalShare_41 : decode cX7_petalShare 41 = .ok (.getfield 85, 3) := dk_180 0 85 (dk_at dksX7_petalShare_1 17 rfl rfl)
theorem dX7_petalShare_44 : decode cX7_petalShare 44 = .ok (.ifCond .ne 7, 3) := dk_154 0 7 (dk_at dksX7_petalShare_1 20 rfl rfl)
theorem dX7_petalShare_47 : decode cX7_petalShare 47 = .ok (.iload_n 3, 1) := dk_29 (dk_at dksX7_petalShare_1 23 rfl rfl)
theorem dX7_petalShare_48 : decode cX7_petalShare 48 = .ok (.ifCond .ne 7, 3) := dk_154 0 7 (dk_at dksX7_petalShare_2 0 rfl rfl)
theorem dX7_petalShare_51 : decode cX7_petalShare 51 = .ok (.fconst 0, 1) := dk_11 (dk_at dksX7_petalShare_2 3 rfl rfl)
theorem dX7_petalShare_52 : decode cX7_petalShare 52 = .ok (.goto 8, 3) := dk_167 0 8 (dk_at dksX7_petalShare_2 4 rfl rfl)
theorem dX7_petalShare_55 : decode cX7_petalShare 55 = .ok (.iload_n 2, 1) := dk_28 (dk_at dksX7_petalShare_2 7 rfl rfl)
theorem dX7_petalShare_56 : decode cX7_petalShare 56 = .ok (.i2f, 1) := dk_134 (dk_at dksX7_petalShare_2 8 rfl rfl)
theorem dX7_petalShare_57 : decode cX7_petalShare 57 = .ok (.iload_n 3, 1) := dk_29 (dk_at dksX7_petalShare_2 9 rfl rfl)
theorem dX7_petalShare_58 : decode cX7_petalShare 58 = .ok (.i2f, 1) := dk_134 (dk_at dksX7_petalShare_2 10 rfl rfl)
theorem dX7_petalShare_59 : decode cX7_petalShare 59 = .ok (.fdiv, 1) := dk_110 (dk_at dksX7_petalShare_2 11 rfl rfl)
theorem dX7_petalShare_60 : decode cX7_petalShare 60 = .ok (.freturn, 1) := dk_174 (dk_at dksX7_petalShare_2 12 rfl rfl)
abbrev cX7_contradictions : ByteArray := prog_21_method_106_code
def yX7_contradictions : MethodName := ⟨RX7, "contradictions", "()I"⟩
def dkwX7_contradictions_5 : List UInt8 := [42, 180, 0, 7, 16, 9, 46, 42, 180, 0, 7, 16, 14, 46, 100, 184, 0, 102, 96, 172]
abbrev dktX7_contradictions_5 : List UInt8 := dkwX7_contradictions_5 ++ []
def dkwX7_contradictions_4 : List UInt8 := [180, 0, 7, 16, 10, 46, 27, 100, 184, 0, 102, 42, 180, 0, 7, 16, 11, 46, 28, 100, 184, 0, 102, 96]
abbrev dktX7_contradictions_4 : List UInt8 := dkwX7_contradictions_4 ++ dktX7_contradictions_5
def dkwX7_contradictions_3 : List UInt8 := [29, 8, 182, 0, 99, 96, 42, 29, 16, 7, 182, 0, 99, 96, 96, 61, 132, 3, 1, 167, 255, 218, 42]
abbrev dktX7_contradictions_3 : List UInt8 := dkwX7_contradictions_3 ++ dktX7_contradictions_4
def dkwX7_contradictions_2 : List UInt8 := [167, 255, 225, 3, 62, 29, 42, 180, 0, 7, 16, 7, 46, 162, 0, 33, 28, 42, 29, 7, 182, 0, 99, 42]
abbrev dktX7_contradictions_2 : List UInt8 := dkwX7_contradictions_2 ++ dktX7_contradictions_3
def dkwX7_contradictions_1 : List UInt8 := [46, 162, 0, 26, 27, 42, 29, 8, 182, 0, 96, 42, 29, 16, 6, 182, 0, 96, 96, 96, 60, 132, 3, 1]
abbrev dktX7_contradictions_1 : List UInt8 := dkwX7_contradictions_1 ++ dktX7_contradictions_2
def dkwX7_contradictions_0 : List UInt8 := [42, 3, 181, 0, 85, 42, 180, 0, 7, 16, 11, 46, 60, 3, 61, 3, 62, 29, 42, 180, 0, 7, 16, 6]
abbrev dktX7_contradictions_0 : List UInt8 := dkwX7_contradictions_0 ++ dktX7_contradictions_1
theorem dksX7_contradictions_0 : cX7_contradictions.data.toList.drop 0 = dktX7_contradictions_0 := by decide +kernel
theorem dksX7_contradictions_1 : cX7_contradictions.data.toList.drop 24 = dktX7_contradictions_1 := dk_seg dksX7_contradictions_0 24 rfl rfl
theorem dksX7_contradictions_2 : cX7_contradictions.data.toList.drop 48 = dktX7_contradictions_2 := dk_seg dksX7_contradictions_1 24 rfl rfl
theorem dksX7_contradictions_3 : cX7_contradictions.data.toList.drop 72 = dktX7_contradictions_3 := dk_seg dksX7_contradictions_2 24 rfl rfl
theorem dksX7_contradictions_4 : cX7_contradictions.data.toList.drop 95 = dktX7_contradictions_4 := dk_seg dksX7_contradictions_3 23 rfl rfl
theorem dksX7_contradictions_5 : cX7_contradictions.data.toList.drop 119 = dktX7_contradictions_5 := dk_seg dksX7_contradictions_4 24 rfl rfl
theorem dX7_contradictions_0 : decode cX7_contradictions 0 = .ok (.aload_n 0, 1) := dk_42 (dk_at dksX7_contradictions_0 0 rfl rfl)
theorem dX7_contradictions_1 : decode cX7_contradictions 1 = .ok (.iconst 0, 1) := dk_3 (dk_at dksX7_contradictions_0 1 rfl rfl)
theorem dX7_contradictions_2 : decode cX7_contradictions 2 = .ok (.putfield 85, 3) := dk_181 0 85 (dk_at dksX7_contradictions_0 2 rfl rfl)
theorem dX7_contradictions_5 : decode cX7_contradictions 5 = .ok (.aload_n 0, 1) := dk_42 (dk_at dksX7_contradictions_0 5 rfl rfl)
theorem dX7_contradictions_6 : decode cX7_contradictions 6 = .ok (.getfield 7, 3) := dk_180 0 7 (dk_at dksX7_contradictions_0 6 rfl rfl)
theorem dX7_contradictions_9 : decode cX7_contradictions 9 = .ok (.bipush 11, 2) := dk_16 11 (dk_at dksX7_contradictions_0 9 rfl rfl)
theorem dX7_contradictions_11 : decode cX7_contradictions 11 = .ok (.iaload, 1) := dk_46 (dk_at dksX7_contradictions_0 11 rfl rfl)
theorem dX7_contradictions_12 : decode cX7_contradictions 12 = .ok (.istore_n 1, 1) := dk_60 (dk_at dksX7_contradictions_0 12 rfl rfl)
theorem dX7_contradictions_13 : decode cX7_contradictions 13 = .ok (.iconst 0, 1) := dk_3 (dk_at dksX7_contradictions_0 13 rfl rfl)
theorem dX7_contradictions_14 : decode cX7_contradictions 14 = .ok (.istore_n 2, 1) := dk_61 (dk_at dksX7_contradictions_0 14 rfl rfl)
theorem dX7_contradictions_15 : decode cX7_contradictions 15 = .ok (.iconst 0, 1) := dk_3 (dk_at dksX7_contradictions_0 15 rfl rfl)
theorem dX7_contradictions_16 : decode cX7_contradictions 16 = .ok (.istore_n 3, 1) := dk_62 (dk_at dksX7_contradictions_0 16 rfl rfl)
theorem dX7_contradictions_17 : decode cX7_contradictions 17 = .ok (.iload_n 3, 1) := dk_29 (dk_at dksX7_contradictions_0 17 rfl rfl)
theorem dX7_contradictions_18 : decode cX7_contradictions 18 = .ok (.aload_n 0, 1) := dk_42 (dk_at dksX7_contradictions_0 18 rfl rfl)
theorem dX7_contradictions_19 : decode cX7_contradictions 19 = .ok (.getfield 7, 3) := dk_180 0 7 (dk_at dksX7_contradictions_0 19 rfl rfl)
theorem dX7_contradictions_22 : decode cX7_contradictions 22 = .ok (.bipush 6, 2) := dk_16 6 (dk_at dksX7_contradictions_0 22 rfl rfl)
theorem dX7_contradictions_24 : decode cX7_contradictions 24 = .ok (.iaload, 1) := dk_46 (dk_at dksX7_contradictions_1 0 rfl rfl)
theorem dX7_contradictions_25 : decode cX7_contradictions 25 = .ok (.if_icmp .ge 26, 3) := dk_162 0 26 (dk_at dksX7_contradictions_1 1 rfl rfl)
theorem dX7_contradictions_28 : decode cX7_contradictions 28 = .ok (.iload_n 1, 1) := dk_27 (dk_at dksX7_contradictions_1 4 rfl rfl)
theorem dX7_contradictions_29 : decode cX7_contradictions 29 = .ok (.aload_n 0, 1) := dk_42 (dk_at dksX7_contradictions_1 5 rfl rfl)
theorem dX7_contradictions_30 : decode cX7_contradictions 30 = .ok (.iload_n 3, 1) := dk_29 (dk_at dksX7_contradictions_1 6 rfl rfl)
theorem dX7_contradictions_31 : decode cX7_contradictions 31 = .ok (.iconst 5, 1) := dk_8 (dk_at dksX7_contradictions_1 7 rfl rfl)
theorem dX7_contradictions_32 : decode cX7_contradictions 32 = .ok (.invokevirtual 96, 3) := dk_182 0 96 (dk_at dksX7_contradictions_1 8 rfl rfl)
theorem dX7_contradictions_35 : decode cX7_contradictions 35 = .ok (.aload_n 0, 1) := dk_42 (dk_at dksX7_contradictions_1 11 rfl rfl)
theorem dX7_contradictions_36 : decode cX7_contradictions 36 = .ok (.iload_n 3, 1) := dk_29 (dk_at dksX7_contradictions_1 12 rfl rfl)
theorem dX7_contradictions_37 : decode cX7_contradictions 37 = .ok (.bipush 6, 2) := dk_16 6 (dk_at dksX7_contradictions_1 13 rfl rfl)
theorem dX7_contradictions_39 : decode cX7_contradictions 39 = .ok (.invokevirtual 96, 3) := dk_182 0 96 (dk_at dksX7_contradictions_1 15 rfl rfl)
theorem dX7_contradictions_42 : decode cX7_contradictions 42 = .ok (.iadd, 1) := dk_96 (dk_at dksX7_contradictions_1 18 rfl rfl)
theorem dX7_contradictions_43 : decode cX7_contradictions 43 = .ok (.iadd, 1) := dk_96 (dk_at dksX7_contradictions_1 19 rfl rfl)
theorem dX7_contradictions_44 : decode cX7_contradictions 44 = .ok (.istore_n 1, 1) := dk_60 (dk_at dksX7_contradictions_1 20 rfl rfl)
theorem dX7_contradictions_45 : decode cX7_contradictions 45 = .ok (.iinc 3 1, 3) := dk_132 3 1 (dk_at dksX7_contradictions_1 21 rfl rfl)
theorem dX7_contradictions_48 : decode cX7_contradictions 48 = .ok (.goto (-31), 3) := dk_167 255 225 (dk_at dksX7_contradictions_2 0 rfl rfl)
theorem dX7_contradictions_51 : decode cX7_contradictions 51 = .ok (.iconst 0, 1) := dk_3 (dk_at dksX7_contradictions_2 3 rfl rfl)
theorem dX7_contradictions_52 : decode cX7_contradictions 52 = .ok (.istore_n 3, 1) := dk_62 (dk_at dksX7_contradictions_2 4 rfl rfl)
theorem dX7_contradictions_53 : decode cX7_contradictions 53 = .ok (.iload_n 3, 1) := dk_29 (dk_at dksX7_contradictions_2 5 rfl rfl)
theorem dX7_contradictions_54 : decode cX7_contradictions 54 = .ok (.aload_n 0, 1) := dk_42 (dk_at dksX7_contradictions_2 6 rfl rfl)
theorem dX7_contradictions_55 : decode cX7_contradictions 55 = .ok (.getfield 7, 3) := dk_180 0 7 (dk_at dksX7_contradictions_2 7 rfl rfl)
theorem dX7_contradictions_58 : decode cX7_contradictions 58 = .ok (.bipush 7, 2) := dk_16 7 (dk_at dksX7_contradictions_2 10 rfl rfl)
theorem dX7_contradictions_60 : decode cX7_contradictions 60 = .ok (.iaload, 1) := dk_46 (dk_at dksX7_contradictions_2 12 rfl rfl)
theorem dX7_contradictions_61 : decode cX7_contradictions 61 = .ok (.if_icmp .ge 33, 3) := dk_162 0 33 (dk_at dksX7_contradictions_2 13 rfl rfl)
theorem dX7_contradictions_64 : decode cX7_contradictions 64 = .ok (.iload_n 2, 1) := dk_28 (dk_at dksX7_contradictions_2 16 rfl rfl)
theorem dX7_contradictions_65 : decode cX7_contradictions 65 = .ok (.aload_n 0, 1) := dk_42 (dk_at dksX7_contradictions_2 17 rfl rfl)
theorem dX7_contradictions_66 : decode cX7_contradictions 66 = .ok (.iload_n 3, 1) := dk_29 (dk_at dksX7_contradictions_2 18 rfl rfl)
theorem dX7_contradictions_67 : decode cX7_contradictions 67 = .ok (.iconst 4, 1) := dk_7 (dk_at dksX7_contradictions_2 19 rfl rfl)
theorem dX7_contradictions_68 : decode cX7_contradictions 68 = .ok (.invokevirtual 99, 3) := dk_182 0 99 (dk_at dksX7_contradictions_2 20 rfl rfl)
theorem dX7_contradictions_71 : decode cX7_contradictions 71 = .ok (.aload_n 0, 1) := dk_42 (dk_at dksX7_contradictions_2 23 rfl rfl)
theorem dX7_contradictions_72 : decode cX7_contradictions 72 = .ok (.iload_n 3, 1) := dk_29 (dk_at dksX7_contradictions_3 0 rfl rfl)
theorem dX7_contradictions_73 : decode cX7_contradictions 73 = .ok (.iconst 5, 1) := dk_8 (dk_at dksX7_contradictions_3 1 rfl rfl)
theorem dX7_contradictions_74 : decode cX7_contradictions 74 = .ok (.invokevirtual 99, 3) := dk_182 0 99 (dk_at dksX7_contradictions_3 2 rfl rfl)
theorem dX7_contradictions_77 : decode cX7_contradictions 77 = .ok (.iadd, 1) := dk_96 (dk_at dksX7_contradictions_3 5 rfl rfl)
theorem dX7_contradictions_78 : decode cX7_contradictions 78 = .ok (.aload_n 0, 1) := dk_42 (dk_at dksX7_contradictions_3 6 rfl rfl)
theorem dX7_contradictions_79 : decode cX7_contradictions 79 = .ok (.iload_n 3, 1) := dk_29 (dk_at dksX7_contradictions_3 7 rfl rfl)
theorem dX7_contradictions_80 : decode cX7_contradictions 80 = .ok (.bipush 7, 2) := dk_16 7 (dk_at dksX7_contradictions_3 8 rfl rfl)
theorem dX7_contradictions_82 : decode cX7_contradictions 82 = .ok (.invokevirtual 99, 3) := dk_182 0 99 (dk_at dksX7_contradictions_3 10 rfl rfl)
theorem dX7_contradictions_85 : decode cX7_contradictions 85 = .ok (.iadd, 1) := dk_96 (dk_at dksX7_contradictions_3 13 rfl rfl)
theorem dX7_contradictions_86 : decode cX7_contradictions 86 = .ok (.iadd, 1) := dk_96 (dk_at dksX7_contradictions_3 14 rfl rfl)
theorem dX7_contradictions_87 : decode cX7_contradictions 87 = .ok (.istore_n 2, 1) := dk_61 (dk_at dksX7_contradictions_3 15 rfl rfl)
theorem dX7_contradictions_88 : decode cX7_contradictions 88 = .ok (.iinc 3 1, 3) := dk_132 3 1 (dk_at dksX7_contradictions_3 16 rfl rfl)
theorem dX7_contradictions_91 : decode cX7_contradictions 91 = .ok (.goto (-38), 3) := dk_167 255 218 (dk_at dksX7_contradictions_3 19 rfl rfl)
theorem dX7_contradictions_94 : decode cX7_contradictions 94 = .ok (.aload_n 0, 1) := dk_42 (dk_at dksX7_contradictions_3 22 rfl rfl)
theorem dX7_contradictions_95 : decode cX7_contradictions 95 = .ok (.getfield 7, 3) := dk_180 0 7 (dk_at dksX7_contradictions_4 0 rfl rfl)
theorem dX7_contradictions_98 : decode cX7_contradictions 98 = .ok (.bipush 10, 2) := dk_16 10 (dk_at dksX7_contradictions_4 3 rfl rfl)
theorem dX7_contradictions_100 : decode cX7_contradictions 100 = .ok (.iaload, 1) := dk_46 (dk_at dksX7_contradictions_4 5 rfl rfl)
theorem dX7_contradictions_101 : decode cX7_contradictions 101 = .ok (.iload_n 1, 1) := dk_27 (dk_at dksX7_contradictions_4 6 rfl rfl)
theorem dX7_contradictions_102 : decode cX7_contradictions 102 = .ok (.isub, 1) := dk_100 (dk_at dksX7_contradictions_4 7 rfl rfl)
theorem dX7_contradictions_103 : decode cX7_contradictions 103 = .ok (.invokestatic 102, 3) := dk_184 0 102 (dk_at dksX7_contradictions_4 8 rfl rfl)
theorem dX7_contradictions_106 : decode cX7_contradictions 106 = .ok (.aload_n 0, 1) := dk_42 (dk_at dksX7_contradictions_4 11 rfl rfl)
theorem dX7_contradictions_107 : decode cX7_contradictions 107 = .ok (.getfield 7, 3) := dk_180 0 7 (dk_at dksX7_contradictions_4 12 rfl rfl)
theorem dX7_contradictions_110 : decode cX7_contradictions 110 = .ok (.bipush 11, 2) := dk_16 11 (dk_at dksX7_contradictions_4 15 rfl rfl)
theorem dX7_contradictions_112 : decode cX7_contradictions 112 = .ok (.iaload, 1) := dk_46 (dk_at dksX7_contradictions_4 17 rfl rfl)
theorem dX7_contradictions_113 : decode cX7_contradictions 113 = .ok (.iload_n 2, 1) := dk_28 (dk_at dksX7_contradictions_4 18 rfl rfl)
theorem dX7_contradictions_114 : decode cX7_contradictions 114 = .ok (.isub, 1) := dk_100 (dk_at dksX7_contradictions_4 19 rfl rfl)
theorem dX7_contradictions_115 : decode cX7_contradictions 115 = .ok (.invokestatic 102, 3) := dk_184 0 102 (dk_at dksX7_contradictions_4 20 rfl rfl)
theorem dX7_contradictions_118 : decode cX7_contradictions 118 = .ok (.iadd, 1) := dk_96 (dk_at dksX7_contradictions_4 23 rfl rfl)
theorem dX7_contradictions_119 : decode cX7_contradictions 119 = .ok (.aload_n 0, 1) := dk_42 (dk_at dksX7_contradictions_5 0 rfl rfl)
theorem dX7_contradictions_120 : decode cX7_contradictions 120 = .ok (.getfield 7, 3) := dk_180 0 7 (dk_at dksX7_contradictions_5 1 rfl rfl)
theorem dX7_contradictions_123 : decode cX7_contradictions 123 = .ok (.bipush 9, 2) := dk_16 9 (dk_at dksX7_contradictions_5 4 rfl rfl)
theorem dX7_contradictions_125 : decode cX7_contradictions 125 = .ok (.iaload, 1) := dk_46 (dk_at dksX7_contradictions_5 6 rfl rfl)
theorem dX7_contradictions_126 : decode cX7_contradictions 126 = .ok (.aload_n 0, 1) := dk_42 (dk_at dksX7_contradictions_5 7 rfl rfl)
theorem dX7_contradictions_127 : decode cX7_contradictions 127 = .ok (.getfield 7, 3) := dk_180 0 7 (dk_at dksX7_contradictions_5 8 rfl rfl)
theorem dX7_contradictions_130 : decode cX7_contradictions 130 = .ok (.bipush 14, 2) := dk_16 14 (dk_at dksX7_contradictions_5 11 rfl rfl)
theorem dX7_contradictions_132 : decode cX7_contradictions 132 = .ok (.iaload, 1) := dk_46 (dk_at dksX7_contradictions_5 13 rfl rfl)
theorem dX7_contradictions_133 : decode cX7_contradictions 133 = .ok (.isub, 1) := dk_100 (dk_at dksX7_contradictions_5 14 rfl rfl)
theorem dX7_contradictions_134 : decode cX7_contradictions 134 = .ok (.invokestatic 102, 3) := dk_184 0 102 (dk_at dksX7_contradictions_5 15 rfl rfl)
theorem dX7_contradictions_137 : decode cX7_contradictions 137 = .ok (.iadd, 1) := dk_96 (dk_at dksX7_contradictions_5 18 rfl rfl)
theorem dX7_contradictions_138 : decode cX7_contradictions 138 = .ok (.ireturn, 1) := dk_172 (dk_at dksX7_contradictions_5 19 rfl rfl)
abbrev cX7_binsAfter : ByteArray := prog_21_method_107_code
def yX7_binsAfter : MethodName := ⟨RX7, "binsAfter", "(II)I"⟩
def dkwX7_binsAfter_2 : List UInt8 := [8, 182, 0, 96, 182, 1, 117, 172]
abbrev dktX7_binsAfter_2 : List UInt8 := dkwX7_binsAfter_2 ++ []
def dkwX7_binsAfter_1 : List UInt8 := [184, 0, 88, 5, 182, 0, 176, 154, 0, 5, 3, 172, 42, 182, 1, 114, 42, 28, 182, 1, 123, 42, 42, 27]
abbrev dktX7_binsAfter_1 : List UInt8 := dkwX7_binsAfter_1 ++ dktX7_binsAfter_2
def dkwX7_binsAfter_0 : List UInt8 := [42, 3, 181, 0, 85, 42, 42, 27, 182, 1, 96, 4, 182, 0, 176, 153, 0, 18, 42, 28, 3, 16, 100]
abbrev dktX7_binsAfter_0 : List UInt8 := dkwX7_binsAfter_0 ++ dktX7_binsAfter_1
theorem dksX7_binsAfter_0 : cX7_binsAfter.data.toList.drop 0 = dktX7_binsAfter_0 := by decide +kernel
theorem dksX7_binsAfter_1 : cX7_binsAfter.data.toList.drop 23 = dktX7_binsAfter_1 := dk_seg dksX7_binsAfter_0 23 rfl rfl
theorem dksX7_binsAfter_2 : cX7_binsAfter.data.toList.drop 47 = dktX7_binsAfter_2 := dk_seg dksX7_binsAfter_1 24 rfl rfl
theorem dX7_binsAfter_0 : decode cX7_binsAfter 0 = .ok (.aload_n 0, 1) := dk_42 (dk_at dksX7_binsAfter_0 0 rfl rfl)
theorem dX7_binsAfter_1 : decode cX7_binsAfter 1 = .ok (.iconst 0, 1) := dk_3 (dk_at dksX7_binsAfter_0 1 rfl rfl)
theorem dX7_binsAfter_2 : decode cX7_binsAfter 2 = .ok (.putfield 85, 3) := dk_181 0 85 (dk_at dksX7_binsAfter_0 2 rfl rfl)
theorem dX7_binsAfter_5 : decode cX7_binsAfter 5 = .ok (.aload_n 0, 1) := dk_42 (dk_at dksX7_binsAfter_0 5 rfl rfl)
theorem dX7_binsAfter_6 : decode cX7_binsAfter 6 = .ok (.aload_n 0, 1) := dk_42 (dk_at dksX7_binsAfter_0 6 rfl rfl)
theorem dX7_binsAfter_7 : decode cX7_binsAfter 7 = .ok (.iload_n 1, 1) := dk_27 (dk_at dksX7_binsAfter_0 7 rfl rfl)
theorem dX7_binsAfter_8 : decode cX7_binsAfter 8 = .ok (.invokevirtual 352, 3) := dk_182 1 96 (dk_at dksX7_binsAfter_0 8 rfl rfl)
theorem dX7_binsAfter_11 : decode cX7_binsAfter 11 = .ok (.iconst 1, 1) := dk_4 (dk_at dksX7_binsAfter_0 11 rfl rfl)
theorem dX7_binsAfter_12 : decode cX7_binsAfter 12 = .ok (.invokevirtual 176, 3) := dk_182 0 176 (dk_at dksX7_binsAfter_0 12 rfl rfl)
theorem dX7_binsAfter_15 : decode cX7_binsAfter 15 = .ok (.ifCond .eq 18, 3) := dk_153 0 18 (dk_at dksX7_binsAfter_0 15 rfl rfl)
theorem dX7_binsAfter_18 : decode cX7_binsAfter 18 = .ok (.aload_n 0, 1) := dk_42 (dk_at dksX7_binsAfter_0 18 rfl rfl)
theorem dX7_binsAfter_19 : decode cX7_binsAfter 19 = .ok (.iload_n 2, 1) := dk_28 (dk_at dksX7_binsAfter_0 19 rfl rfl)
theorem dX7_binsAfter_20 : decode cX7_binsAfter 20 = .ok (.iconst 0, 1) := dk_3 (dk_at dksX7_binsAfter_0 20 rfl rfl)
theorem dX7_binsAfter_21 : decode cX7_binsAfter 21 = .ok (.bipush 100, 2) := dk_16 100 (dk_at dksX7_binsAfter_0 21 rfl rfl)
theorem dX7_binsAfter_23 : decode cX7_binsAfter 23 = .ok (.invokestatic 88, 3) := dk_184 0 88 (dk_at dksX7_binsAfter_1 0 rfl rfl)
theorem dX7_binsAfter_26 : decode cX7_binsAfter 26 = .ok (.iconst 2, 1) := dk_5 (dk_at dksX7_binsAfter_1 3 rfl rfl)
theorem dX7_binsAfter_27 : decode cX7_binsAfter 27 = .ok (.invokevirtual 176, 3) := dk_182 0 176 (dk_at dksX7_binsAfter_1 4 rfl rfl)
theorem dX7_binsAfter_30 : decode cX7_binsAfter 30 = .ok (.ifCond .ne 5, 3) := dk_154 0 5 (dk_at dksX7_binsAfter_1 7 rfl rfl)
theorem dX7_binsAfter_33 : decode cX7_binsAfter 33 = .ok (.iconst 0, 1) := dk_3 (dk_at dksX7_binsAfter_1 10 rfl rfl)
theorem dX7_binsAfter_34 : decode cX7_binsAfter 34 = .ok (.ireturn, 1) := dk_172 (dk_at dksX7_binsAfter_1 11 rfl rfl)
theorem dX7_binsAfter_35 : decode cX7_binsAfter 35 = .ok (.aload_n 0, 1) := dk_42 (dk_at dksX7_binsAfter_1 12 rfl rfl)
theorem dX7_binsAfter_36 : decode cX7_binsAfter 36 = .ok (.invokevirtual 370, 3) := dk_182 1 114 (dk_at dksX7_binsAfter_1 13 rfl rfl)
theorem dX7_binsAfter_39 : decode cX7_binsAfter 39 = .ok (.aload_n 0, 1) := dk_42 (dk_at dksX7_binsAfter_1 16 rfl rfl)
theorem dX7_binsAfter_40 : decode cX7_binsAfter 40 = .ok (.iload_n 2, 1) := dk_28 (dk_at dksX7_binsAfter_1 17 rfl rfl)
theorem dX7_binsAfter_41 : decode cX7_binsAfter 41 = .ok (.invokevirtual 379, 3) := dk_182 1 123 (dk_at dksX7_binsAfter_1 18 rfl rfl)
theorem dX7_binsAfter_44 : decode cX7_binsAfter 44 = .ok (.aload_n 0, 1) := dk_42 (dk_at dksX7_binsAfter_1 21 rfl rfl)
theorem dX7_binsAfter_45 : decode cX7_binsAfter 45 = .ok (.aload_n 0, 1) := dk_42 (dk_at dksX7_binsAfter_1 22 rfl rfl)
theorem dX7_binsAfter_46 : decode cX7_binsAfter 46 = .ok (.iload_n 1, 1) := dk_27 (dk_at dksX7_binsAfter_1 23 rfl rfl)
theorem dX7_binsAfter_47 : decode cX7_binsAfter 47 = .ok (.iconst 5, 1) := dk_8 (dk_at dksX7_binsAfter_2 0 rfl rfl)
theorem dX7_binsAfter_48 : decode cX7_binsAfter 48 = .ok (.invokevirtual 96, 3) := dk_182 0 96 (dk_at dksX7_binsAfter_2 1 rfl rfl)
theorem dX7_binsAfter_51 : decode cX7_binsAfter 51 = .ok (.invokevirtual 373, 3) := dk_182 1 117 (dk_at dksX7_binsAfter_2 4 rfl rfl)
theorem dX7_binsAfter_54 : decode cX7_binsAfter 54 = .ok (.ireturn, 1) := dk_172 (dk_at dksX7_binsAfter_2 7 rfl rfl)
abbrev cX7_nightsUntilSpill : ByteArray := prog_21_method_108_code
def yX7_nightsUntilSpill : MethodName := ⟨RX7, "nightsUntilSpill", "(I)I"⟩
def dkwX7_nightsUntilSpill_3 : List UInt8 := [172]
abbrev dktX7_nightsUntilSpill_3 : List UInt8 := dkwX7_nightsUntilSpill_3 ++ []
def dkwX7_nightsUntilSpill_2 : List UInt8 := [182, 0, 96, 28, 164, 0, 9, 42, 29, 182, 1, 117, 172, 132, 3, 1, 167, 255, 226, 42, 2, 182, 1, 117]
abbrev dktX7_nightsUntilSpill_2 : List UInt8 := dkwX7_nightsUntilSpill_2 ++ dktX7_nightsUntilSpill_3
def dkwX7_nightsUntilSpill_1 : List UInt8 := [42, 27, 16, 6, 182, 0, 96, 61, 4, 62, 29, 16, 100, 163, 0, 30, 42, 182, 0, 170, 42, 27, 16, 6]
abbrev dktX7_nightsUntilSpill_1 : List UInt8 := dkwX7_nightsUntilSpill_1 ++ dktX7_nightsUntilSpill_2
def dkwX7_nightsUntilSpill_0 : List UInt8 := [42, 3, 181, 0, 85, 42, 42, 27, 182, 1, 96, 4, 182, 0, 176, 154, 0, 5, 3, 172, 42, 182, 1, 114]
abbrev dktX7_nightsUntilSpill_0 : List UInt8 := dkwX7_nightsUntilSpill_0 ++ dktX7_nightsUntilSpill_1
theorem dksX7_nightsUntilSpill_0 : cX7_nightsUntilSpill.data.toList.drop 0 = dktX7_nightsUntilSpill_0 := by decide +kernel
theorem dksX7_nightsUntilSpill_1 : cX7_nightsUntilSpill.data.toList.drop 24 = dktX7_nightsUntilSpill_1 := dk_seg dksX7_nightsUntilSpill_0 24 rfl rfl
theorem dksX7_nightsUntilSpill_2 : cX7_nightsUntilSpill.data.toList.drop 48 = dktX7_nightsUntilSpill_2 := dk_seg dksX7_nightsUntilSpill_1 24 rfl rfl
theorem dksX7_nightsUntilSpill_3 : cX7_nightsUntilSpill.data.toList.drop 72 = dktX7_nightsUntilSpill_3 := dk_seg dksX7_nightsUntilSpill_2 24 rfl rfl
theorem dX7_nightsUntilSpill_0 : decode cX7_nightsUntilSpill 0 = .ok (.aload_n 0, 1) := dk_42 (dk_at dksX7_nightsUntilSpill_0 0 rfl rfl)
theorem dX7_nightsUntilSpill_1 : decode cX7_nightsUntilSpill 1 = .ok (.iconst 0, 1) := dk_3 (dk_at dksX7_nightsUntilSpill_0 1 rfl rfl)
theorem dX7_nightsUntilSpill_2 : decode cX7_nightsUntilSpill 2 = .ok (.putfield 85, 3) := dk_181 0 85 (dk_at dksX7_nightsUntilSpill_0 2 rfl rfl)
theorem dX7_nightsUntilSpill_5 : decode cX7_nightsUntilSpill 5 = .ok (.aload_n 0, 1) := dk_42 (dk_at dksX7_nightsUntilSpill_0 5 rfl rfl)
theorem dX7_nightsUntilSpill_6 : decode cX7_nightsUntilSpill 6 = .ok (.aload_n 0, 1) := dk_42 (dk_at dksX7_nightsUntilSpill_0 6 rfl rfl)
theorem dX7_nightsUntilSpill_7 : decode cX7_nightsUntilSpill 7 = .ok (.iload_n 1, 1) := dk_27 (dk_at dksX7_nightsUntilSpill_0 7 rfl rfl)
theorem dX7_nightsUntilSpill_8 : decode cX7_nightsUntilSpill 8 = .ok (.invokevirtual 352, 3) := dk_182 1 96 (dk_at dksX7_nightsUntilSpill_0 8 rfl rfl)
theorem dX7_nightsUntilSpill_11 : decode cX7_nightsUntilSpill 11 = .ok (.iconst 1, 1) := dk_4 (dk_at dksX7_nightsUntilSpill_0 11 rfl rfl)
theorem dX7_nightsUntilSpill_12 : decode cX7_nightsUntilSpill 12 = .ok (.invokevirtual 176, 3) := dk_182 0 176 (dk_at dksX7_nightsUntilSpill_0 12 rfl rfl)
theorem dX7_nightsUntilSpill_15 : decode cX7_nightsUntilSpill 15 = .ok (.ifCond .ne 5, 3) := dk_154 0 5 (dk_at dksX7_nightsUntilSpill_0 15 rfl rfl)
theorem dX7_nightsUntilSpill_18 : decode cX7_nightsUntilSpill 18 = .ok (.iconst 0, 1) := dk_3 (dk_at dksX7_nightsUntilSpill_0 18 rfl rfl)
theorem dX7_nightsUntilSpill_19 : decode cX7_nightsUntilSpill 19 = .ok (.ireturn, 1) := dk_172 (dk_at dksX7_nightsUntilSpill_0 19 rfl rfl)
theorem dX7_nightsUntilSpill_20 : decode cX7_nightsUntilSpill 20 = .ok (.aload_n 0, 1) := dk_42 (dk_at dksX7_nightsUntilSpill_0 20 rfl rfl)
theorem dX7_nightsUntilSpill_21 : decode cX7_nightsUntilSpill 21 = .ok (.invokevirtual 370, 3) := dk_182 1 114 (dk_at dksX7_nightsUntilSpill_0 21 rfl rfl)
theorem dX7_nightsUntilSpill_24 : decode cX7_nightsUntilSpill 24 = .ok (.aload_n 0, 1) := dk_42 (dk_at dksX7_nightsUntilSpill_1 0 rfl rfl)
theorem dX7_nightsUntilSpill_25 : decode cX7_nightsUntilSpill 25 = .ok (.iload_n 1, 1) := dk_27 (dk_at dksX7_nightsUntilSpill_1 1 rfl rfl)
theorem dX7_nightsUntilSpill_26 : decode cX7_nightsUntilSpill 26 = .ok (.bipush 6, 2) := dk_16 6 (dk_at dksX7_nightsUntilSpill_1 2 rfl rfl)
theorem dX7_nightsUntilSpill_28 : decode cX7_nightsUntilSpill 28 = .ok (.invokevirtual 96, 3) := dk_182 0 96 (dk_at dksX7_nightsUntilSpill_1 4 rfl rfl)
theorem dX7_nightsUntilSpill_31 : decode cX7_nightsUntilSpill 31 = .ok (.istore_n 2, 1) := dk_61 (dk_at dksX7_nightsUntilSpill_1 7 rfl rfl)
theorem dX7_nightsUntilSpill_32 : decode cX7_nightsUntilSpill 32 = .ok (.iconst 1, 1) := dk_4 (dk_at dksX7_nightsUntilSpill_1 8 rfl rfl)
theorem dX7_nightsUntilSpill_33 : decode cX7_nightsUntilSpill 33 = .ok (.istore_n 3, 1) := dk_62 (dk_at dksX7_nightsUntilSpill_1 9 rfl rfl)
theorem dX7_nightsUntilSpill_34 : decode cX7_nightsUntilSpill 34 = .ok (.iload_n 3, 1) := dk_29 (dk_at dksX7_nightsUntilSpill_1 10 rfl rfl)
theorem dX7_nightsUntilSpill_35 : decode cX7_nightsUntilSpill 35 = .ok (.bipush 100, 2) := dk_16 100 (dk_at dksX7_nightsUntilSpill_1 11 rfl rfl)
theorem dX7_nightsUntilSpill_37 : decode cX7_nightsUntilSpill 37 = .ok (.if_icmp .gt 30, 3) := dk_163 0 30 (dk_at dksX7_nightsUntilSpill_1 13 rfl rfl)
theorem dX7_nightsUntilSpill_40 : decode cX7_nightsUntilSpill 40 = .ok (.aload_n 0, 1) := dk_42 (dk_at dksX7_nightsUntilSpill_1 16 rfl rfl)
theorem dX7_nightsUntilSpill_41 : decode cX7_nightsUntilSpill 41 = .ok (.invokevirtual 170, 3) := dk_182 0 170 (dk_at dksX7_nightsUntilSpill_1 17 rfl rfl)
theorem dX7_nightsUntilSpill_44 : decode cX7_nightsUntilSpill 44 = .ok (.aload_n 0, 1) := dk_42 (dk_at dksX7_nightsUntilSpill_1 20 rfl rfl)
theorem dX7_nightsUntilSpill_45 : decode cX7_nightsUntilSpill 45 = .ok (.iload_n 1, 1) := dk_27 (dk_at dksX7_nightsUntilSpill_1 21 rfl rfl)
theorem dX7_nightsUntilSpill_46 : decode cX7_nightsUntilSpill 46 = .ok (.bipush 6, 2) := dk_16 6 (dk_at dksX7_nightsUntilSpill_1 22 rfl rfl)
theorem dX7_nightsUntilSpill_48 : decode cX7_nightsUntilSpill 48 = .ok (.invokevirtual 96, 3) := dk_182 0 96 (dk_at dksX7_nightsUntilSpill_2 0 rfl rfl)
theorem dX7_nightsUntilSpill_51 : decode cX7_nightsUntilSpill 51 = .ok (.iload_n 2, 1) := dk_28 (dk_at dksX7_nightsUntilSpill_2 3 rfl rfl)
theorem dX7_nightsUntilSpill_52 : decode cX7_nightsUntilSpill 52 = .ok (.if_icmp .le 9, 3) := dk_164 0 9 (dk_at dksX7_nightsUntilSpill_2 4 rfl rfl)
theorem dX7_nightsUntilSpill_55 : decode cX7_nightsUntilSpill 55 = .ok (.aload_n 0, 1) := dk_42 (dk_at dksX7_nightsUntilSpill_2 7 rfl rfl)
theorem dX7_nightsUntilSpill_56 : decode cX7_nightsUntilSpill 56 = .ok (.iload_n 3, 1) := dk_29 (dk_at dksX7_nightsUntilSpill_2 8 rfl rfl)
theorem dX7_nightsUntilSpill_57 : decode cX7_nightsUntilSpill 57 = .ok (.invokevirtual 373, 3) := dk_182 1 117 (dk_at dksX7_nightsUntilSpill_2 9 rfl rfl)
theorem dX7_nightsUntilSpill_60 : decode cX7_nightsUntilSpill 60 = .ok (.ireturn, 1) := dk_172 (dk_at dksX7_nightsUntilSpill_2 12 rfl rfl)
theorem dX7_nightsUntilSpill_61 : decode cX7_nightsUntilSpill 61 = .ok (.iinc 3 1, 3) := dk_132 3 1 (dk_at dksX7_nightsUntilSpill_2 13 rfl rfl)
theorem dX7_nightsUntilSpill_64 : decode cX7_nightsUntilSpill 64 = .ok (.goto (-30), 3) := dk_167 255 226 (dk_at dksX7_nightsUntilSpill_2 16 rfl rfl)
theorem dX7_nightsUntilSpill_67 : decode cX7_nightsUntilSpill 67 = .ok (.aload_n 0, 1) := dk_42 (dk_at dksX7_nightsUntilSpill_2 19 rfl rfl)
theorem dX7_nightsUntilSpill_68 : decode cX7_nightsUntilSpill 68 = .ok (.iconst (-1), 1) := dk_2 (dk_at dksX7_nightsUntilSpill_2 20 rfl rfl)
theorem dX7_nightsUntilSpill_69 : decode cX7_nightsUntilSpill 69 = .ok (.invokevirtual 373, 3) := dk_182 1 117 (dk_at dksX7_nightsUntilSpill_2 21 rfl rfl)
theorem dX7_nightsUntilSpill_72 : decode cX7_nightsUntilSpill 72 = .ok (.ireturn, 1) := dk_172 (dk_at dksX7_nightsUntilSpill_3 0 rfl rfl)
abbrev cX7_petalsAfter : ByteArray := prog_21_method_109_code
def yX7_petalsAfter : MethodName := ⟨RX7, "petalsAfter", "(II)I"⟩
def dkwX7_petalsAfter_2 : List UInt8 := [8, 182, 0, 99, 182, 1, 117, 172]
abbrev dktX7_petalsAfter_2 : List UInt8 := dkwX7_petalsAfter_2 ++ []
def dkwX7_petalsAfter_1 : List UInt8 := [184, 0, 88, 5, 182, 0, 176, 154, 0, 5, 3, 172, 42, 182, 1, 114, 42, 28, 182, 1, 123, 42, 42, 27]
abbrev dktX7_petalsAfter_1 : List UInt8 := dkwX7_petalsAfter_1 ++ dktX7_petalsAfter_2
def dkwX7_petalsAfter_0 : List UInt8 := [42, 3, 181, 0, 85, 42, 42, 27, 182, 1, 102, 4, 182, 0, 176, 153, 0, 18, 42, 28, 3, 16, 100]
abbrev dktX7_petalsAfter_0 : List UInt8 := dkwX7_petalsAfter_0 ++ dktX7_petalsAfter_1
theorem dksX7_petalsAfter_0 : cX7_petalsAfter.data.toList.drop 0 = dktX7_petalsAfter_0 := by decide +kernel
theorem dksX7_petalsAfter_1 : cX7_petalsAfter.data.toList.drop 23 = dktX7_petalsAfter_1 := dk_seg dksX7_petalsAfter_0 23 rfl rfl
theorem dksX7_petalsAfter_2 : cX7_petalsAfter.data.toList.drop 47 = dktX7_petalsAfter_2 := dk_seg dksX7_petalsAfter_1 24 rfl rfl
theorem dX7_petalsAfter_0 : decode cX7_petalsAfter 0 = .ok (.aload_n 0, 1) := dk_42 (dk_at dksX7_petalsAfter_0 0 rfl rfl)
theorem dX7_petalsAfter_1 : decode cX7_petalsAfter 1 = .ok (.iconst 0, 1) := dk_3 (dk_at dksX7_petalsAfter_0 1 rfl rfl)
theorem dX7_petalsAfter_2 : decode cX7_petalsAfter 2 = .ok (.putfield 85, 3) := dk_181 0 85 (dk_at dksX7_petalsAfter_0 2 rfl rfl)
theorem dX7_petalsAfter_5 : decode cX7_petalsAfter 5 = .ok (.aload_n 0, 1) := dk_42 (dk_at dksX7_petalsAfter_0 5 rfl rfl)
theorem dX7_petalsAfter_6 : decode cX7_petalsAfter 6 = .ok (.aload_n 0, 1) := dk_42 (dk_at dksX7_petalsAfter_0 6 rfl rfl)
theorem dX7_petalsAfter_7 : decode cX7_petalsAfter 7 = .ok (.iload_n 1, 1) := dk_27 (dk_at dksX7_petalsAfter_0 7 rfl rfl)
theorem dX7_petalsAfter_8 : decode cX7_petalsAfter 8 = .ok (.invokevirtual 358, 3) := dk_182 1 102 (dk_at dksX7_petalsAfter_0 8 rfl rfl)
theorem dX7_petalsAfter_11 : decode cX7_petalsAfter 11 = .ok (.iconst 1, 1) := dk_4 (dk_at dksX7_petalsAfter_0 11 rfl rfl)
theorem dX7_petalsAfter_12 : decode cX7_petalsAfter 12 = .ok (.invokevirtual 176, 3) := dk_182 0 176 (dk_at dksX7_petalsAfter_0 12 rfl rfl)
theorem dX7_petalsAfter_15 : decode cX7_petalsAfter 15 = .ok (.ifCond .eq 18, 3) := dk_153 0 18 (dk_at dksX7_petalsAfter_0 15 rfl rfl)
theorem dX7_petalsAfter_18 : decode cX7_petalsAfter 18 = .ok (.aload_n 0, 1) := dk_42 (dk_at dksX7_petalsAfter_0 18 rfl rfl)
theorem dX7_petalsAfter_19 : decode cX7_petalsAfter 19 = .ok (.iload_n 2, 1) := dk_28 (dk_at dksX7_petalsAfter_0 19 rfl rfl)
theorem dX7_petalsAfter_20 : decode cX7_petalsAfter 20 = .ok (.iconst 0, 1) := dk_3 (dk_at dksX7_petalsAfter_0 20 rfl rfl)
theorem dX7_petalsAfter_21 : decode cX7_petalsAfter 21 = .ok (.bipush 100, 2) := dk_16 100 (dk_at dksX7_petalsAfter_0 21 rfl rfl)
theorem dX7_petalsAfter_23 : decode cX7_petalsAfter 23 = .ok (.invokestatic 88, 3) := dk_184 0 88 (dk_at dksX7_petalsAfter_1 0 rfl rfl)
theorem dX7_petalsAfter_26 : decode cX7_petalsAfter 26 = .ok (.iconst 2, 1) := dk_5 (dk_at dksX7_petalsAfter_1 3 rfl rfl)
theorem dX7_petalsAfter_27 : decode cX7_petalsAfter 27 = .ok (.invokevirtual 176, 3) := dk_182 0 176 (dk_at dksX7_petalsAfter_1 4 rfl rfl)
theorem dX7_petalsAfter_30 : decode cX7_petalsAfter 30 = .ok (.ifCond .ne 5, 3) := dk_154 0 5 (dk_at dksX7_petalsAfter_1 7 rfl rfl)
theorem dX7_petalsAfter_33 : decode cX7_petalsAfter 33 = .ok (.iconst 0, 1) := dk_3 (dk_at dksX7_petalsAfter_1 10 rfl rfl)
theorem dX7_petalsAfter_34 : decode cX7_petalsAfter 34 = .ok (.ireturn, 1) := dk_172 (dk_at dksX7_petalsAfter_1 11 rfl rfl)
theorem dX7_petalsAfter_35 : decode cX7_petalsAfter 35 = .ok (.aload_n 0, 1) := dk_42 (dk_at dksX7_petalsAfter_1 12 rfl rfl)
theorem dX7_petalsAfter_36 : decode cX7_petalsAfter 36 = .ok (.invokevirtual 370, 3) := dk_182 1 114 (dk_at dksX7_petalsAfter_1 13 rfl rfl)
theorem dX7_petalsAfter_39 : decode cX7_petalsAfter 39 = .ok (.aload_n 0, 1) := dk_42 (dk_at dksX7_petalsAfter_1 16 rfl rfl)
theorem dX7_petalsAfter_40 : decode cX7_petalsAfter 40 = .ok (.iload_n 2, 1) := dk_28 (dk_at dksX7_petalsAfter_1 17 rfl rfl)
theorem dX7_petalsAfter_41 : decode cX7_petalsAfter 41 = .ok (.invokevirtual 379, 3) := dk_182 1 123 (dk_at dksX7_petalsAfter_1 18 rfl rfl)
theorem dX7_petalsAfter_44 : decode cX7_petalsAfter 44 = .ok (.aload_n 0, 1) := dk_42 (dk_at dksX7_petalsAfter_1 21 rfl rfl)
theorem dX7_petalsAfter_45 : decode cX7_petalsAfter 45 = .ok (.aload_n 0, 1) := dk_42 (dk_at dksX7_petalsAfter_1 22 rfl rfl)
theorem dX7_petalsAfter_46 : decode cX7_petalsAfter 46 = .ok (.iload_n 1, 1) := dk_27 (dk_at dksX7_petalsAfter_1 23 rfl rfl)
theorem dX7_petalsAfter_47 : decode cX7_petalsAfter 47 = .ok (.iconst 5, 1) := dk_8 (dk_at dksX7_petalsAfter_2 0 rfl rfl)
theorem dX7_petalsAfter_48 : decode cX7_petalsAfter 48 = .ok (.invokevirtual 99, 3) := dk_182 0 99 (dk_at dksX7_petalsAfter_2 1 rfl rfl)
theorem dX7_petalsAfter_51 : decode cX7_petalsAfter 51 = .ok (.invokevirtual 373, 3) := dk_182 1 117 (dk_at dksX7_petalsAfter_2 4 rfl rfl)
theorem dX7_petalsAfter_54 : decode cX7_petalsAfter 54 = .ok (.ireturn, 1) := dk_172 (dk_at dksX7_petalsAfter_2 7 rfl rfl)
abbrev cX7_balanceAfter : ByteArray := prog_21_method_110_code
def yX7_balanceAfter : MethodName := ⟨RX7, "balanceAfter", "(I)I"⟩
def dkwX7_balanceAfter_1 : List UInt8 := [182, 1, 114, 42, 27, 182, 1, 123, 42, 42, 180, 0, 7, 16, 9, 46, 182, 1, 117, 172]
abbrev dktX7_balanceAfter_1 : List UInt8 := dkwX7_balanceAfter_1 ++ []
def dkwX7_balanceAfter_0 : List UInt8 := [42, 3, 181, 0, 85, 42, 27, 3, 16, 100, 184, 0, 88, 4, 182, 0, 176, 154, 0, 5, 3, 172, 42]
abbrev dktX7_balanceAfter_0 : List UInt8 := dkwX7_balanceAfter_0 ++ dktX7_balanceAfter_1
theorem dksX7_balanceAfter_0 : cX7_balanceAfter.data.toList.drop 0 = dktX7_balanceAfter_0 := by decide +kernel
theorem dksX7_balanceAfter_1 : cX7_balanceAfter.data.toList.drop 23 = dktX7_balanceAfter_1 := dk_seg dksX7_balanceAfter_0 23 rfl rfl
theorem dX7_balanceAfter_0 : decode cX7_balanceAfter 0 = .ok (.aload_n 0, 1) := dk_42 (dk_at dksX7_balanceAfter_0 0 rfl rfl)
theorem dX7_balanceAfter_1 : decode cX7_balanceAfter 1 = .ok (.iconst 0, 1) := dk_3 (dk_at dksX7_balanceAfter_0 1 rfl rfl)
theorem dX7_balanceAfter_2 : decode cX7_balanceAfter 2 = .ok (.putfield 85, 3) := dk_181 0 85 (dk_at dksX7_balanceAfter_0 2 rfl rfl)
theorem dX7_balanceAfter_5 : decode cX7_balanceAfter 5 = .ok (.aload_n 0, 1) := dk_42 (dk_at dksX7_balanceAfter_0 5 rfl rfl)
theorem dX7_balanceAfter_6 : decode cX7_balanceAfter 6 = .ok (.iload_n 1, 1) := dk_27 (dk_at dksX7_balanceAfter_0 6 rfl rfl)
theorem dX7_balanceAfter_7 : decode cX7_balanceAfter 7 = .ok (.iconst 0, 1) := dk_3 (dk_at dksX7_balanceAfter_0 7 rfl rfl)
theorem dX7_balanceAfter_8 : decode cX7_balanceAfter 8 = .ok (.bipush 100, 2) := dk_16 100 (dk_at dksX7_balanceAfter_0 8 rfl rfl)
theorem dX7_balanceAfter_10 : decode cX7_balanceAfter 10 = .ok (.invokestatic 88, 3) := dk_184 0 88 (dk_at dksX7_balanceAfter_0 10 rfl rfl)
theorem dX7_balanceAfter_13 : decode cX7_balanceAfter 13 = .ok (.iconst 1, 1) := dk_4 (dk_at dksX7_balanceAfter_0 13 rfl rfl)
theorem dX7_balanceAfter_14 : decode cX7_balanceAfter 14 = .ok (.invokevirtual 176, 3) := dk_182 0 176 (dk_at dksX7_balanceAfter_0 14 rfl rfl)
theorem dX7_balanceAfter_17 : decode cX7_balanceAfter 17 = .ok (.ifCond .ne 5, 3) := dk_154 0 5 (dk_at dksX7_balanceAfter_0 17 rfl rfl)
theorem dX7_balanceAfter_20 : decode cX7_balanceAfter 20 = .ok (.iconst 0, 1) := dk_3 (dk_at dksX7_balanceAfter_0 20 rfl rfl)
theorem dX7_balanceAfter_21 : decode cX7_balanceAfter 21 = .ok (.ireturn, 1) := dk_172 (dk_at dksX7_balanceAfter_0 21 rfl rfl)
theorem dX7_balanceAfter_22 : decode cX7_balanceAfter 22 = .ok (.aload_n 0, 1) := dk_42 (dk_at dksX7_balanceAfter_0 22 rfl rfl)
theorem dX7_balanceAfter_23 : decode cX7_balanceAfter 23 = .ok (.invokevirtual 370, 3) := dk_182 1 114 (dk_at dksX7_balanceAfter_1 0 rfl rfl)
theorem dX7_balanceAfter_26 : decode cX7_balanceAfter 26 = .ok (.aload_n 0, 1) := dk_42 (dk_at dksX7_balanceAfter_1 3 rfl rfl)
theorem dX7_balanceAfter_27 : decode cX7_balanceAfter 27 = .ok (.iload_n 1, 1) := dk_27 (dk_at dksX7_balanceAfter_1 4 rfl rfl)
theorem dX7_balanceAfter_28 : decode cX7_balanceAfter 28 = .ok (.invokevirtual 379, 3) := dk_182 1 123 (dk_at dksX7_balanceAfter_1 5 rfl rfl)
theorem dX7_balanceAfter_31 : decode cX7_balanceAfter 31 = .ok (.aload_n 0, 1) := dk_42 (dk_at dksX7_balanceAfter_1 8 rfl rfl)
theorem dX7_balanceAfter_32 : decode cX7_balanceAfter 32 = .ok (.aload_n 0, 1) := dk_42 (dk_at dksX7_balanceAfter_1 9 rfl rfl)
theorem dX7_balanceAfter_33 : decode cX7_balanceAfter 33 = .ok (.getfield 7, 3) := dk_180 0 7 (dk_at dksX7_balanceAfter_1 10 rfl rfl)
theorem dX7_balanceAfter_36 : decode cX7_balanceAfter 36 = .ok (.bipush 9, 2) := dk_16 9 (dk_at dksX7_balanceAfter_1 13 rfl rfl)
theorem dX7_balanceAfter_38 : decode cX7_balanceAfter 38 = .ok (.iaload, 1) := dk_46 (dk_at dksX7_balanceAfter_1 15 rfl rfl)
theorem dX7_balanceAfter_39 : decode cX7_balanceAfter 39 = .ok (.invokevirtual 373, 3) := dk_182 1 117 (dk_at dksX7_balanceAfter_1 16 rfl rfl)
theorem dX7_balanceAfter_42 : decode cX7_balanceAfter 42 = .ok (.ireturn, 1) := dk_172 (dk_at dksX7_balanceAfter_1 19 rfl rfl)
abbrev cX7_nextWinner : ByteArray := prog_21_method_111_code
def yX7_nextWinner : MethodName := ⟨RX7, "nextWinner", "()I"⟩
def dkwX7_nextWinner_1 : List UInt8 := [182, 1, 123, 42, 42, 180, 0, 29, 182, 1, 117, 172]
abbrev dktX7_nextWinner_1 : List UInt8 := dkwX7_nextWinner_1 ++ []
def dkwX7_nextWinner_0 : List UInt8 := [42, 3, 181, 0, 85, 42, 182, 1, 114, 42, 16, 7, 42, 180, 0, 7, 8, 46, 16, 7, 112, 100]
abbrev dktX7_nextWinner_0 : List UInt8 := dkwX7_nextWinner_0 ++ dktX7_nextWinner_1
theorem dksX7_nextWinner_0 : cX7_nextWinner.data.toList.drop 0 = dktX7_nextWinner_0 := by decide +kernel
theorem dksX7_nextWinner_1 : cX7_nextWinner.data.toList.drop 22 = dktX7_nextWinner_1 := dk_seg dksX7_nextWinner_0 22 rfl rfl
theorem dX7_nextWinner_0 : decode cX7_nextWinner 0 = .ok (.aload_n 0, 1) := dk_42 (dk_at dksX7_nextWinner_0 0 rfl rfl)
theorem dX7_nextWinner_1 : decode cX7_nextWinner 1 = .ok (.iconst 0, 1) := dk_3 (dk_at dksX7_nextWinner_0 1 rfl rfl)
theorem dX7_nextWinner_2 : decode cX7_nextWinner 2 = .ok (.putfield 85, 3) := dk_181 0 85 (dk_at dksX7_nextWinner_0 2 rfl rfl)
theorem dX7_nextWinner_5 : decode cX7_nextWinner 5 = .ok (.aload_n 0, 1) := dk_42 (dk_at dksX7_nextWinner_0 5 rfl rfl)
theorem dX7_nextWinner_6 : decode cX7_nextWinner 6 = .ok (.invokevirtual 370, 3) := dk_182 1 114 (dk_at dksX7_nextWinner_0 6 rfl rfl)
theorem dX7_nextWinner_9 : decode cX7_nextWinner 9 = .ok (.aload_n 0, 1) := dk_42 (dk_at dksX7_nextWinner_0 9 rfl rfl)
theorem dX7_nextWinner_10 : decode cX7_nextWinner 10 = .ok (.bipush 7, 2) := dk_16 7 (dk_at dksX7_nextWinner_0 10 rfl rfl)
theorem dX7_nextWinner_12 : decode cX7_nextWinner 12 = .ok (.aload_n 0, 1) := dk_42 (dk_at dksX7_nextWinner_0 12 rfl rfl)
theorem dX7_nextWinner_13 : decode cX7_nextWinner 13 = .ok (.getfield 7, 3) := dk_180 0 7 (dk_at dksX7_nextWinner_0 13 rfl rfl)
theorem dX7_nextWinner_16 : decode cX7_nextWinner 16 = .ok (.iconst 5, 1) := dk_8 (dk_at dksX7_nextWinner_0 16 rfl rfl)
theorem dX7_nextWinner_17 : decode cX7_nextWinner 17 = .ok (.iaload, 1) := dk_46 (dk_at dksX7_nextWinner_0 17 rfl rfl)
theorem dX7_nextWinner_18 : decode cX7_nextWinner 18 = .ok (.bipush 7, 2) := dk_16 7 (dk_at dksX7_nextWinner_0 18 rfl rfl)
theorem dX7_nextWinner_20 : decode cX7_nextWinner 20 = .ok (.irem, 1) := dk_112 (dk_at dksX7_nextWinner_0 20 rfl rfl)
theorem dX7_nextWinner_21 : decode cX7_nextWinner 21 = .ok (.isub, 1) := dk_100 (dk_at dksX7_nextWinner_0 21 rfl rfl)
theorem dX7_nextWinner_22 : decode cX7_nextWinner 22 = .ok (.invokevirtual 379, 3) := dk_182 1 123 (dk_at dksX7_nextWinner_1 0 rfl rfl)
theorem dX7_nextWinner_25 : decode cX7_nextWinner 25 = .ok (.aload_n 0, 1) := dk_42 (dk_at dksX7_nextWinner_1 3 rfl rfl)
theorem dX7_nextWinner_26 : decode cX7_nextWinner 26 = .ok (.aload_n 0, 1) := dk_42 (dk_at dksX7_nextWinner_1 4 rfl rfl)
theorem dX7_nextWinner_27 : decode cX7_nextWinner 27 = .ok (.getfield 29, 3) := dk_180 0 29 (dk_at dksX7_nextWinner_1 5 rfl rfl)
theorem dX7_nextWinner_30 : decode cX7_nextWinner 30 = .ok (.invokevirtual 373, 3) := dk_182 1 117 (dk_at dksX7_nextWinner_1 8 rfl rfl)
theorem dX7_nextWinner_33 : decode cX7_nextWinner 33 = .ok (.ireturn, 1) := dk_172 (dk_at dksX7_nextWinner_1 11 rfl rfl)
abbrev cX7_sign : ByteArray := prog_21_method_115_code
def yX7_sign : MethodName := ⟨RX7, "sign", "(IIII)I"⟩
def dkwX7_sign_0 : List UInt8 := [42, 3, 181, 0, 85, 42, 27, 28, 29, 21, 4, 182, 1, 64, 172]
abbrev dktX7_sign_0 : List UInt8 := dkwX7_sign_0 ++ []
theorem dksX7_sign_0 : cX7_sign.data.toList.drop 0 = dktX7_sign_0 := by decide +kernel
theorem dX7_sign_0 : decode cX7_sign 0 = .ok (.aload_n 0, 1) := dk_42 (dk_at dksX7_sign_0 0 rfl rfl)
theorem dX7_sign_1 : decode cX7_sign 1 = .ok (.iconst 0, 1) := dk_3 (dk_at dksX7_sign_0 1 rfl rfl)
theorem dX7_sign_2 : decode cX7_sign 2 = .ok (.putfield 85, 3) := dk_181 0 85 (dk_at dksX7_sign_0 2 rfl rfl)
theorem dX7_sign_5 : decode cX7_sign 5 = .ok (.aload_n 0, 1) := dk_42 (dk_at dksX7_sign_0 5 rfl rfl)
theorem dX7_sign_6 : decode cX7_sign 6 = .ok (.iload_n 1, 1) := dk_27 (dk_at dksX7_sign_0 6 rfl rfl)
theorem dX7_sign_7 : decode cX7_sign 7 = .ok (.iload_n 2, 1) := dk_28 (dk_at dksX7_sign_0 7 rfl rfl)
theorem dX7_sign_8 : decode cX7_sign 8 = .ok (.iload_n 3, 1) := dk_29 (dk_at dksX7_sign_0 8 rfl rfl)
theorem dX7_sign_9 : decode cX7_sign 9 = .ok (.iload 4, 2) := dk_21 4 (dk_at dksX7_sign_0 9 rfl rfl)
theorem dX7_sign_11 : decode cX7_sign 11 = .ok (.invokevirtual 320, 3) := dk_182 1 64 (dk_at dksX7_sign_0 11 rfl rfl)
theorem dX7_sign_14 : decode cX7_sign 14 = .ok (.ireturn, 1) := dk_172 (dk_at dksX7_sign_0 14 rfl rfl)
abbrev cX7_cancel : ByteArray := prog_21_method_117_code
def yX7_cancel : MethodName := ⟨RX7, "cancel", "(I)I"⟩
def dkwX7_cancel_0 : List UInt8 := [42, 3, 181, 0, 85, 42, 27, 182, 1, 68, 172]
abbrev dktX7_cancel_0 : List UInt8 := dkwX7_cancel_0 ++ []
theorem dksX7_cancel_0 : cX7_cancel.data.toList.drop 0 = dktX7_cancel_0 := by decide +kernel
theorem dX7_cancel_0 : decode cX7_cancel 0 = .ok (.aload_n 0, 1) := dk_42 (dk_at dksX7_cancel_0 0 rfl rfl)
theorem dX7_cancel_1 : decode cX7_cancel 1 = .ok (.iconst 0, 1) := dk_3 (dk_at dksX7_cancel_0 1 rfl rfl)
theorem dX7_cancel_2 : decode cX7_cancel 2 = .ok (.putfield 85, 3) := dk_181 0 85 (dk_at dksX7_cancel_0 2 rfl rfl)
theorem dX7_cancel_5 : decode cX7_cancel 5 = .ok (.aload_n 0, 1) := dk_42 (dk_at dksX7_cancel_0 5 rfl rfl)
theorem dX7_cancel_6 : decode cX7_cancel 6 = .ok (.iload_n 1, 1) := dk_27 (dk_at dksX7_cancel_0 6 rfl rfl)
theorem dX7_cancel_7 : decode cX7_cancel 7 = .ok (.invokevirtual 324, 3) := dk_182 1 68 (dk_at dksX7_cancel_0 7 rfl rfl)
theorem dX7_cancel_10 : decode cX7_cancel 10 = .ok (.ireturn, 1) := dk_172 (dk_at dksX7_cancel_0 10 rfl rfl)
abbrev cX7_advance : ByteArray := prog_21_method_119_code
def yX7_advance : MethodName := ⟨RX7, "advance", "(I)I"⟩
def dkwX7_advance_0 : List UInt8 := [42, 3, 181, 0, 85, 42, 27, 182, 1, 71, 172]
abbrev dktX7_advance_0 : List UInt8 := dkwX7_advance_0 ++ []
theorem dksX7_advance_0 : cX7_advance.data.toList.drop 0 = dktX7_advance_0 := by decide +kernel
theorem dX7_advance_0 : decode cX7_advance 0 = .ok (.aload_n 0, 1) := dk_42 (dk_at dksX7_advance_0 0 rfl rfl)
theorem dX7_advance_1 : decode cX7_advance 1 = .ok (.iconst 0, 1) := dk_3 (dk_at dksX7_advance_0 1 rfl rfl)
theorem dX7_advance_2 : decode cX7_advance 2 = .ok (.putfield 85, 3) := dk_181 0 85 (dk_at dksX7_advance_0 2 rfl rfl)
theorem dX7_advance_5 : decode cX7_advance 5 = .ok (.aload_n 0, 1) := dk_42 (dk_at dksX7_advance_0 5 rfl rfl)
theorem dX7_advance_6 : decode cX7_advance 6 = .ok (.iload_n 1, 1) := dk_27 (dk_at dksX7_advance_0 6 rfl rfl)
theorem dX7_advance_7 : decode cX7_advance 7 = .ok (.invokevirtual 327, 3) := dk_182 1 71 (dk_at dksX7_advance_0 7 rfl rfl)
theorem dX7_advance_10 : decode cX7_advance 10 = .ok (.ireturn, 1) := dk_172 (dk_at dksX7_advance_0 10 rfl rfl)
abbrev cX7_setWindOffset : ByteArray := prog_21_method_121_code
def yX7_setWindOffset : MethodName := ⟨RX7, "setWindOffset", "(I)I"⟩
def dkwX7_setWindOffset_0 : List UInt8 := [42, 3, 181, 0, 85, 42, 7, 27, 6, 182, 1, 74, 172]
abbrev dktX7_setWindOffset_0 : List UInt8 := dkwX7_setWindOffset_0 ++ []
theorem dksX7_setWindOffset_0 : cX7_setWindOffset.data.toList.drop 0 = dktX7_setWindOffset_0 := by decide +kernel
theorem dX7_setWindOffset_0 : decode cX7_setWindOffset 0 = .ok (.aload_n 0, 1) := dk_42 (dk_at dksX7_setWindOffset_0 0 rfl rfl)
theorem dX7_setWindOffset_1 : decode cX7_setWindOffset 1 = .ok (.iconst 0, 1) := dk_3 (dk_at dksX7_setWindOffset_0 1 rfl rfl)
theorem dX7_setWindOffset_2 : decode cX7_setWindOffset 2 = .ok (.putfield 85, 3) := dk_181 0 85 (dk_at dksX7_setWindOffset_0 2 rfl rfl)
theorem dX7_setWindOffset_5 : decode cX7_setWindOffset 5 = .ok (.aload_n 0, 1) := dk_42 (dk_at dksX7_setWindOffset_0 5 rfl rfl)
theorem dX7_setWindOffset_6 : decode cX7_setWindOffset 6 = .ok (.iconst 4, 1) := dk_7 (dk_at dksX7_setWindOffset_0 6 rfl rfl)
theorem dX7_setWindOffset_7 : decode cX7_setWindOffset 7 = .ok (.iload_n 1, 1) := dk_27 (dk_at dksX7_setWindOffset_0 7 rfl rfl)
theorem dX7_setWindOffset_8 : decode cX7_setWindOffset 8 = .ok (.iconst 3, 1) := dk_6 (dk_at dksX7_setWindOffset_0 8 rfl rfl)
theorem dX7_setWindOffset_9 : decode cX7_setWindOffset 9 = .ok (.invokevirtual 330, 3) := dk_182 1 74 (dk_at dksX7_setWindOffset_0 9 rfl rfl)
theorem dX7_setWindOffset_12 : decode cX7_setWindOffset 12 = .ok (.ireturn, 1) := dk_172 (dk_at dksX7_setWindOffset_0 12 rfl rfl)
abbrev cX7_setPrice : ByteArray := prog_21_method_122_code
def yX7_setPrice : MethodName := ⟨RX7, "setPrice", "(I)I"⟩
def dkwX7_setPrice_0 : List UInt8 := [42, 3, 181, 0, 85, 42, 4, 27, 16, 9, 182, 1, 74, 172]
abbrev dktX7_setPrice_0 : List UInt8 := dkwX7_setPrice_0 ++ []
theorem dksX7_setPrice_0 : cX7_setPrice.data.toList.drop 0 = dktX7_setPrice_0 := by decide +kernel
theorem dX7_setPrice_0 : decode cX7_setPrice 0 = .ok (.aload_n 0, 1) := dk_42 (dk_at dksX7_setPrice_0 0 rfl rfl)
theorem dX7_setPrice_1 : decode cX7_setPrice 1 = .ok (.iconst 0, 1) := dk_3 (dk_at dksX7_setPrice_0 1 rfl rfl)
theorem dX7_setPrice_2 : decode cX7_setPrice 2 = .ok (.putfield 85, 3) := dk_181 0 85 (dk_at dksX7_setPrice_0 2 rfl rfl)
theorem dX7_setPrice_5 : decode cX7_setPrice 5 = .ok (.aload_n 0, 1) := dk_42 (dk_at dksX7_setPrice_0 5 rfl rfl)
theorem dX7_setPrice_6 : decode cX7_setPrice 6 = .ok (.iconst 1, 1) := dk_4 (dk_at dksX7_setPrice_0 6 rfl rfl)
theorem dX7_setPrice_7 : decode cX7_setPrice 7 = .ok (.iload_n 1, 1) := dk_27 (dk_at dksX7_setPrice_0 7 rfl rfl)
theorem dX7_setPrice_8 : decode cX7_setPrice 8 = .ok (.bipush 9, 2) := dk_16 9 (dk_at dksX7_setPrice_0 8 rfl rfl)
theorem dX7_setPrice_10 : decode cX7_setPrice 10 = .ok (.invokevirtual 330, 3) := dk_182 1 74 (dk_at dksX7_setPrice_0 10 rfl rfl)
theorem dX7_setPrice_13 : decode cX7_setPrice 13 = .ok (.ireturn, 1) := dk_172 (dk_at dksX7_setPrice_0 13 rfl rfl)
abbrev cX7_writeContracts : ByteArray := prog_21_method_126_code
def yX7_writeContracts : MethodName := ⟨RX7, "writeContracts", "()I"⟩
def dkwX7_writeContracts_5 : List UInt8 := [180, 1, 129, 172]
abbrev dktX7_writeContracts_5 : List UInt8 := dkwX7_writeContracts_5 ++ []
def dkwX7_writeContracts_4 : List UInt8 := [42, 16, 42, 182, 1, 132, 42, 42, 27, 7, 182, 0, 92, 182, 1, 135, 132, 1, 1, 167, 255, 155, 42]
abbrev dktX7_writeContracts_4 : List UInt8 := dkwX7_writeContracts_4 ++ dktX7_writeContracts_5
def dkwX7_writeContracts_3 : List UInt8 := [182, 1, 138, 42, 16, 62, 182, 1, 132, 42, 42, 42, 27, 6, 182, 0, 92, 3, 182, 0, 99, 182, 1, 138]
abbrev dktX7_writeContracts_3 : List UInt8 := dkwX7_writeContracts_3 ++ dktX7_writeContracts_4
def dkwX7_writeContracts_2 : List UInt8 := [27, 182, 1, 135, 42, 16, 58, 182, 1, 132, 42, 42, 42, 27, 5, 182, 0, 92, 3, 182, 0, 96]
abbrev dktX7_writeContracts_2 : List UInt8 := dkwX7_writeContracts_2 ++ dktX7_writeContracts_3
def dkwX7_writeContracts_1 : List UInt8 := [27, 182, 0, 111, 154, 0, 6, 167, 0, 79, 42, 180, 1, 129, 158, 0, 9, 42, 16, 32, 182, 1, 132, 42]
abbrev dktX7_writeContracts_1 : List UInt8 := dkwX7_writeContracts_1 ++ dktX7_writeContracts_2
def dkwX7_writeContracts_0 : List UInt8 := [42, 3, 181, 0, 85, 42, 3, 181, 1, 129, 3, 60, 27, 42, 180, 0, 7, 16, 8, 46, 162, 0, 96, 42]
abbrev dktX7_writeContracts_0 : List UInt8 := dkwX7_writeContracts_0 ++ dktX7_writeContracts_1
theorem dksX7_writeContracts_0 : cX7_writeContracts.data.toList.drop 0 = dktX7_writeContracts_0 := by decide +kernel
theorem dksX7_writeContracts_1 : cX7_writeContracts.data.toList.drop 24 = dktX7_writeContracts_1 := dk_seg dksX7_writeContracts_0 24 rfl rfl
theorem dksX7_writeContracts_2 : cX7_writeContracts.data.toList.drop 48 = dktX7_writeContracts_2 := dk_seg dksX7_writeContracts_1 24 rfl rfl
theorem dksX7_writeContracts_3 : cX7_writeContracts.data.toList.drop 70 = dktX7_writeContracts_3 := dk_seg dksX7_writeContracts_2 22 rfl rfl
theorem dksX7_writeContracts_4 : cX7_writeContracts.data.toList.drop 94 = dktX7_writeContracts_4 := dk_seg dksX7_writeContracts_3 24 rfl rfl
theorem dksX7_writeContracts_5 : cX7_writeContracts.data.toList.drop 117 = dktX7_writeContracts_5 := dk_seg dksX7_writeContracts_4 23 rfl rfl
theorem dX7_writeContracts_0 : decode cX7_writeContracts 0 = .ok (.aload_n 0, 1) := dk_42 (dk_at dksX7_writeContracts_0 0 rfl rfl)
theorem dX7_writeContracts_1 : decode cX7_writeContracts 1 = .ok (.iconst 0, 1) := dk_3 (dk_at dksX7_writeContracts_0 1 rfl rfl)
theorem dX7_writeContracts_2 : decode cX7_writeContracts 2 = .ok (.putfield 85, 3) := dk_181 0 85 (dk_at dksX7_writeContracts_0 2 rfl rfl)
theorem dX7_writeContracts_5 : decode cX7_writeContracts 5 = .ok (.aload_n 0, 1) := dk_42 (dk_at dksX7_writeContracts_0 5 rfl rfl)
theorem dX7_writeContracts_6 : decode cX7_writeContracts 6 = .ok (.iconst 0, 1) := dk_3 (dk_at dksX7_writeContracts_0 6 rfl rfl)
theorem dX7_writeContracts_7 : decode cX7_writeContracts 7 = .ok (.putfield 385, 3) := dk_181 1 129 (dk_at dksX7_writeContracts_0 7 rfl rfl)
theorem dX7_writeContracts_10 : decode cX7_writeContracts 10 = .ok (.iconst 0, 1) := dk_3 (dk_at dksX7_writeContracts_0 10 rfl rfl)
theorem dX7_writeContracts_11 : decode cX7_writeContracts 11 = .ok (.istore_n 1, 1) := dk_60 (dk_at dksX7_writeContracts_0 11 rfl rfl)
theorem dX7_writeContracts_12 : decode cX7_writeContracts 12 = .ok (.iload_n 1, 1) := dk_27 (dk_at dksX7_writeContracts_0 12 rfl rfl)
theorem dX7_writeContracts_13 : decode cX7_writeContracts 13 = .ok (.aload_n 0, 1) := dk_42 (dk_at dksX7_writeContracts_0 13 rfl rfl)
theorem dX7_writeContracts_14 : decode cX7_writeContracts 14 = .ok (.getfield 7, 3) := dk_180 0 7 (dk_at dksX7_writeContracts_0 14 rfl rfl)
theorem dX7_writeContracts_17 : decode cX7_writeContracts 17 = .ok (.bipush 8, 2) := dk_16 8 (dk_at dksX7_writeContracts_0 17 rfl rfl)
theorem dX7_writeContracts_19 : decode cX7_writeContracts 19 = .ok (.iaload, 1) := dk_46 (dk_at dksX7_writeContracts_0 19 rfl rfl)
theorem dX7_writeContracts_20 : decode cX7_writeContracts 20 = .ok (.if_icmp .ge 96, 3) := dk_162 0 96 (dk_at dksX7_writeContracts_0 20 rfl rfl)
theorem dX7_writeContracts_23 : decode cX7_writeContracts 23 = .ok (.aload_n 0, 1) := dk_42 (dk_at dksX7_writeContracts_0 23 rfl rfl)
theorem dX7_writeContracts_24 : decode cX7_writeContracts 24 = .ok (.iload_n 1, 1) := dk_27 (dk_at dksX7_writeContracts_1 0 rfl rfl)
theorem dX7_writeContracts_25 : decode cX7_writeContracts 25 = .ok (.invokevirtual 111, 3) := dk_182 0 111 (dk_at dksX7_writeContracts_1 1 rfl rfl)
theorem dX7_writeContracts_28 : decode cX7_writeContracts 28 = .ok (.ifCond .ne 6, 3) := dk_154 0 6 (dk_at dksX7_writeContracts_1 4 rfl rfl)
theorem dX7_writeContracts_31 : decode cX7_writeContracts 31 = .ok (.goto 79, 3) := dk_167 0 79 (dk_at dksX7_writeContracts_1 7 rfl rfl)
theorem dX7_writeContracts_34 : decode cX7_writeContracts 34 = .ok (.aload_n 0, 1) := dk_42 (dk_at dksX7_writeContracts_1 10 rfl rfl)
theorem dX7_writeContracts_35 : decode cX7_writeContracts 35 = .ok (.getfield 385, 3) := dk_180 1 129 (dk_at dksX7_writeContracts_1 11 rfl rfl)
theorem dX7_writeContracts_38 : decode cX7_writeContracts 38 = .ok (.ifCond .le 9, 3) := dk_158 0 9 (dk_at dksX7_writeContracts_1 14 rfl rfl)
theorem dX7_writeContracts_41 : decode cX7_writeContracts 41 = .ok (.aload_n 0, 1) := dk_42 (dk_at dksX7_writeContracts_1 17 rfl rfl)
theorem dX7_writeContracts_42 : decode cX7_writeContracts 42 = .ok (.bipush 32, 2) := dk_16 32 (dk_at dksX7_writeContracts_1 18 rfl rfl)
theorem dX7_writeContracts_44 : decode cX7_writeContracts 44 = .ok (.invokevirtual 388, 3) := dk_182 1 132 (dk_at dksX7_writeContracts_1 20 rfl rfl)
theorem dX7_writeContracts_47 : decode cX7_writeContracts 47 = .ok (.aload_n 0, 1) := dk_42 (dk_at dksX7_writeContracts_1 23 rfl rfl)
theorem dX7_writeContracts_48 : decode cX7_writeContracts 48 = .ok (.iload_n 1, 1) := dk_27 (dk_at dksX7_writeContracts_2 0 rfl rfl)
theorem dX7_writeContracts_49 : decode cX7_writeContracts 49 = .ok (.invokevirtual 391, 3) := dk_182 1 135 (dk_at dksX7_writeContracts_2 1 rfl rfl)
theorem dX7_writeContracts_52 : decode cX7_writeContracts 52 = .ok (.aload_n 0, 1) := dk_42 (dk_at dksX7_writeContracts_2 4 rfl rfl)
theorem dX7_writeContracts_53 : decode cX7_writeContracts 53 = .ok (.bipush 58, 2) := dk_16 58 (dk_at dksX7_writeContracts_2 5 rfl rfl)
theorem dX7_writeContracts_55 : decode cX7_writeContracts 55 = .ok (.invokevirtual 388, 3) := dk_182 1 132 (dk_at dksX7_writeContracts_2 7 rfl rfl)
theorem dX7_writeContracts_58 : decode cX7_writeContracts 58 = .ok (.aload_n 0, 1) := dk_42 (dk_at dksX7_writeContracts_2 10 rfl rfl)
theorem dX7_writeContracts_59 : decode cX7_writeContracts 59 = .ok (.aload_n 0, 1) := dk_42 (dk_at dksX7_writeContracts_2 11 rfl rfl)
theorem dX7_writeContracts_60 : decode cX7_writeContracts 60 = .ok (.aload_n 0, 1) := dk_42 (dk_at dksX7_writeContracts_2 12 rfl rfl)
theorem dX7_writeContracts_61 : decode cX7_writeContracts 61 = .ok (.iload_n 1, 1) := dk_27 (dk_at dksX7_writeContracts_2 13 rfl rfl)
theorem dX7_writeContracts_62 : decode cX7_writeContracts 62 = .ok (.iconst 2, 1) := dk_5 (dk_at dksX7_writeContracts_2 14 rfl rfl)
theorem dX7_writeContracts_63 : decode cX7_writeContracts 63 = .ok (.invokevirtual 92, 3) := dk_182 0 92 (dk_at dksX7_writeContracts_2 15 rfl rfl)
theorem dX7_writeContracts_66 : decode cX7_writeContracts 66 = .ok (.iconst 0, 1) := dk_3 (dk_at dksX7_writeContracts_2 18 rfl rfl)
theorem dX7_writeContracts_67 : decode cX7_writeContracts 67 = .ok (.invokevirtual 96, 3) := dk_182 0 96 (dk_at dksX7_writeContracts_2 19 rfl rfl)
theorem dX7_writeContracts_70 : decode cX7_writeContracts 70 = .ok (.invokevirtual 394, 3) := dk_182 1 138 (dk_at dksX7_writeContracts_3 0 rfl rfl)
theorem dX7_writeContracts_73 : decode cX7_writeContracts 73 = .ok (.aload_n 0, 1) := dk_42 (dk_at dksX7_writeContracts_3 3 rfl rfl)
theorem dX7_writeContracts_74 : decode cX7_writeContracts 74 = .ok (.bipush 62, 2) := dk_16 62 (dk_at dksX7_writeContracts_3 4 rfl rfl)
theorem dX7_writeContracts_76 : decode cX7_writeContracts 76 = .ok (.invokevirtual 388, 3) := dk_182 1 132 (dk_at dksX7_writeContracts_3 6 rfl rfl)
theorem dX7_writeContracts_79 : decode cX7_writeContracts 79 = .ok (.aload_n 0, 1) := dk_42 (dk_at dksX7_writeContracts_3 9 rfl rfl)
theorem dX7_writeContracts_80 : decode cX7_writeContracts 80 = .ok (.aload_n 0, 1) := dk_42 (dk_at dksX7_writeContracts_3 10 rfl rfl)
theorem dX7_writeContracts_81 : decode cX7_writeContracts 81 = .ok (.aload_n 0, 1) := dk_42 (dk_at dksX7_writeContracts_3 11 rfl rfl)
theorem dX7_writeContracts_82 : decode cX7_writeContracts 82 = .ok (.iload_n 1, 1) := dk_27 (dk_at dksX7_writeContracts_3 12 rfl rfl)
theorem dX7_writeContracts_83 : decode cX7_writeContracts 83 = .ok (.iconst 3, 1) := dk_6 (dk_at dksX7_writeContracts_3 13 rfl rfl)
theorem dX7_writeContracts_84 : decode cX7_writeContracts 84 = .ok (.invokevirtual 92, 3) := dk_182 0 92 (dk_at dksX7_writeContracts_3 14 rfl rfl)
theorem dX7_writeContracts_87 : decode cX7_writeContracts 87 = .ok (.iconst 0, 1) := dk_3 (dk_at dksX7_writeContracts_3 17 rfl rfl)
theorem dX7_writeContracts_88 : decode cX7_writeContracts 88 = .ok (.invokevirtual 99, 3) := dk_182 0 99 (dk_at dksX7_writeContracts_3 18 rfl rfl)
theorem dX7_writeContracts_91 : decode cX7_writeContracts 91 = .ok (.invokevirtual 394, 3) := dk_182 1 138 (dk_at dksX7_writeContracts_3 21 rfl rfl)
theorem dX7_writeContracts_94 : decode cX7_writeContracts 94 = .ok (.aload_n 0, 1) := dk_42 (dk_at dksX7_writeContracts_4 0 rfl rfl)
theorem dX7_writeContracts_95 : decode cX7_writeContracts 95 = .ok (.bipush 42, 2) := dk_16 42 (dk_at dksX7_writeContracts_4 1 rfl rfl)
theorem dX7_writeContracts_97 : decode cX7_writeContracts 97 = .ok (.invokevirtual 388, 3) := dk_182 1 132 (dk_at dksX7_writeContracts_4 3 rfl rfl)
theorem dX7_writeContracts_100 : decode cX7_writeContracts 100 = .ok (.aload_n 0, 1) := dk_42 (dk_at dksX7_writeContracts_4 6 rfl rfl)
theorem dX7_writeContracts_101 : decode cX7_writeContracts 101 = .ok (.aload_n 0, 1) := dk_42 (dk_at dksX7_writeContracts_4 7 rfl rfl)
theorem dX7_writeContracts_102 : decode cX7_writeContracts 102 = .ok (.iload_n 1, 1) := dk_27 (dk_at dksX7_writeContracts_4 8 rfl rfl)
theorem dX7_writeContracts_103 : decode cX7_writeContracts 103 = .ok (.iconst 4, 1) := dk_7 (dk_at dksX7_writeContracts_4 9 rfl rfl)
theorem dX7_writeContracts_104 : decode cX7_writeContracts 104 = .ok (.invokevirtual 92, 3) := dk_182 0 92 (dk_at dksX7_writeContracts_4 10 rfl rfl)
theorem dX7_writeContracts_107 : decode cX7_writeContracts 107 = .ok (.invokevirtual 391, 3) := dk_182 1 135 (dk_at dksX7_writeContracts_4 13 rfl rfl)
theorem dX7_writeContracts_110 : decode cX7_writeContracts 110 = .ok (.iinc 1 1, 3) := dk_132 1 1 (dk_at dksX7_writeContracts_4 16 rfl rfl)
theorem dX7_writeContracts_113 : decode cX7_writeContracts 113 = .ok (.goto (-101), 3) := dk_167 255 155 (dk_at dksX7_writeContracts_4 19 rfl rfl)
theorem dX7_writeContracts_116 : decode cX7_writeContracts 116 = .ok (.aload_n 0, 1) := dk_42 (dk_at dksX7_writeContracts_4 22 rfl rfl)
theorem dX7_writeContracts_117 : decode cX7_writeContracts 117 = .ok (.getfield 385, 3) := dk_180 1 129 (dk_at dksX7_writeContracts_5 0 rfl rfl)
theorem dX7_writeContracts_120 : decode cX7_writeContracts 120 = .ok (.ireturn, 1) := dk_172 (dk_at dksX7_writeContracts_5 3 rfl rfl)
abbrev cX7_writes : ByteArray := prog_21_method_123_code
def yX7_writes : MethodName := ⟨RX7, "writes", "(I)V"⟩
def dkwX7_writes_0 : List UInt8 := [42, 180, 0, 54, 42, 180, 1, 129, 27, 79, 42, 89, 180, 1, 129, 4, 96, 181, 1, 129, 177]
abbrev dktX7_writes_0 : List UInt8 := dkwX7_writes_0 ++ []
theorem dksX7_writes_0 : cX7_writes.data.toList.drop 0 = dktX7_writes_0 := by decide +kernel
theorem dX7_writes_0 : decode cX7_writes 0 = .ok (.aload_n 0, 1) := dk_42 (dk_at dksX7_writes_0 0 rfl rfl)
theorem dX7_writes_1 : decode cX7_writes 1 = .ok (.getfield 54, 3) := dk_180 0 54 (dk_at dksX7_writes_0 1 rfl rfl)
theorem dX7_writes_4 : decode cX7_writes 4 = .ok (.aload_n 0, 1) := dk_42 (dk_at dksX7_writes_0 4 rfl rfl)
theorem dX7_writes_5 : decode cX7_writes 5 = .ok (.getfield 385, 3) := dk_180 1 129 (dk_at dksX7_writes_0 5 rfl rfl)
theorem dX7_writes_8 : decode cX7_writes 8 = .ok (.iload_n 1, 1) := dk_27 (dk_at dksX7_writes_0 8 rfl rfl)
theorem dX7_writes_9 : decode cX7_writes 9 = .ok (.iastore, 1) := dk_79 (dk_at dksX7_writes_0 9 rfl rfl)
theorem dX7_writes_10 : decode cX7_writes 10 = .ok (.aload_n 0, 1) := dk_42 (dk_at dksX7_writes_0 10 rfl rfl)
theorem dX7_writes_11 : decode cX7_writes 11 = .ok (.dup, 1) := dk_89 (dk_at dksX7_writes_0 11 rfl rfl)
theorem dX7_writes_12 : decode cX7_writes 12 = .ok (.getfield 385, 3) := dk_180 1 129 (dk_at dksX7_writes_0 12 rfl rfl)
theorem dX7_writes_15 : decode cX7_writes 15 = .ok (.iconst 1, 1) := dk_4 (dk_at dksX7_writes_0 15 rfl rfl)
theorem dX7_writes_16 : decode cX7_writes 16 = .ok (.iadd, 1) := dk_96 (dk_at dksX7_writes_0 16 rfl rfl)
theorem dX7_writes_17 : decode cX7_writes 17 = .ok (.putfield 385, 3) := dk_181 1 129 (dk_at dksX7_writes_0 17 rfl rfl)
theorem dX7_writes_20 : decode cX7_writes 20 = .ok (.return_, 1) := dk_177 (dk_at dksX7_writes_0 20 rfl rfl)
abbrev cX7_writesNumber : ByteArray := prog_21_method_124_code
def yX7_writesNumber : MethodName := ⟨RX7, "writesNumber", "(I)V"⟩
def dkwX7_writesNumber_2 : List UInt8 := [46, 182, 1, 132, 132, 4, 255, 167, 255, 237, 177]
abbrev dktX7_writesNumber_2 : List UInt8 := dkwX7_writesNumber_2 ++ []
def dkwX7_writesNumber_1 : List UInt8 := [132, 3, 1, 28, 157, 255, 234, 29, 4, 100, 54, 4, 21, 4, 155, 0, 20, 42, 42, 180, 0, 57, 21, 4]
abbrev dktX7_writesNumber_1 : List UInt8 := dkwX7_writesNumber_1 ++ dktX7_writesNumber_2
def dkwX7_writesNumber_0 : List UInt8 := [27, 61, 3, 62, 42, 180, 0, 57, 29, 16, 48, 28, 16, 10, 112, 96, 79, 28, 16, 10, 108, 61]
abbrev dktX7_writesNumber_0 : List UInt8 := dkwX7_writesNumber_0 ++ dktX7_writesNumber_1
theorem dksX7_writesNumber_0 : cX7_writesNumber.data.toList.drop 0 = dktX7_writesNumber_0 := by decide +kernel
theorem dksX7_writesNumber_1 : cX7_writesNumber.data.toList.drop 22 = dktX7_writesNumber_1 := dk_seg dksX7_writesNumber_0 22 rfl rfl
theorem dksX7_writesNumber_2 : cX7_writesNumber.data.toList.drop 46 = dktX7_writesNumber_2 := dk_seg dksX7_writesNumber_1 24 rfl rfl
theorem dX7_writesNumber_0 : decode cX7_writesNumber 0 = .ok (.iload_n 1, 1) := dk_27 (dk_at dksX7_writesNumber_0 0 rfl rfl)
theorem dX7_writesNumber_1 : decode cX7_writesNumber 1 = .ok (.istore_n 2, 1) := dk_61 (dk_at dksX7_writesNumber_0 1 rfl rfl)
theorem dX7_writesNumber_2 : decode cX7_writesNumber 2 = .ok (.iconst 0, 1) := dk_3 (dk_at dksX7_writesNumber_0 2 rfl rfl)
theorem dX7_writesNumber_3 : decode cX7_writesNumber 3 = .ok (.istore_n 3, 1) := dk_62 (dk_at dksX7_writesNumber_0 3 rfl rfl)
theorem dX7_writesNumber_4 : decode cX7_writesNumber 4 = .ok (.aload_n 0, 1) := dk_42 (dk_at dksX7_writesNumber_0 4 rfl rfl)
theorem dX7_writesNumber_5 : decode cX7_writesNumber 5 = .ok (.getfield 57, 3) := dk_180 0 57 (dk_at dksX7_writesNumber_0 5 rfl rfl)
theorem dX7_writesNumber_8 : decode cX7_writesNumber 8 = .ok (.iload_n 3, 1) := dk_29 (dk_at dksX7_writesNumber_0 8 rfl rfl)
theorem dX7_writesNumber_9 : decode cX7_writesNumber 9 = .ok (.bipush 48, 2) := dk_16 48 (dk_at dksX7_writesNumber_0 9 rfl rfl)
theorem dX7_writesNumber_11 : decode cX7_writesNumber 11 = .ok (.iload_n 2, 1) := dk_28 (dk_at dksX7_writesNumber_0 11 rfl rfl)
theorem dX7_writesNumber_12 : decode cX7_writesNumber 12 = .ok (.bipush 10, 2) := dk_16 10 (dk_at dksX7_writesNumber_0 12 rfl rfl)
theorem dX7_writesNumber_14 : decode cX7_writesNumber 14 = .ok (.irem, 1) := dk_112 (dk_at dksX7_writesNumber_0 14 rfl rfl)
theorem dX7_writesNumber_15 : decode cX7_writesNumber 15 = .ok (.iadd, 1) := dk_96 (dk_at dksX7_writesNumber_0 15 rfl rfl)
theorem dX7_writesNumber_16 : decode cX7_writesNumber 16 = .ok (.iastore, 1) := dk_79 (dk_at dksX7_writesNumber_0 16 rfl rfl)
theorem dX7_writesNumber_17 : decode cX7_writesNumber 17 = .ok (.iload_n 2, 1) := dk_28 (dk_at dksX7_writesNumber_0 17 rfl rfl)
theorem dX7_writesNumber_18 : decode cX7_writesNumber 18 = .ok (.bipush 10, 2) := dk_16 10 (dk_at dksX7_writesNumber_0 18 rfl rfl)
theorem dX7_writesNumber_20 : decode cX7_writesNumber 20 = .ok (.idiv, 1) := dk_108 (dk_at dksX7_writesNumber_0 20 rfl rfl)
theorem dX7_writesNumber_21 : decode cX7_writesNumber 21 = .ok (.istore_n 2, 1) := dk_61 (dk_at dksX7_writesNumber_0 21 rfl rfl)
theorem dX7_writesNumber_22 : decode cX7_writesNumber 22 = .ok (.iinc 3 1, 3) := dk_132 3 1 (dk_at dksX7_writesNumber_1 0 rfl rfl)
theorem dX7_writesNumber_25 : decode cX7_writesNumber 25 = .ok (.iload_n 2, 1) := dk_28 (dk_at dksX7_writesNumber_1 3 rfl rfl)
theorem dX7_writesNumber_26 : decode cX7_writesNumber 26 = .ok (.ifCond .gt (-22), 3) := dk_157 255 234 (dk_at dksX7_writesNumber_1 4 rfl rfl)
theorem dX7_writesNumber_29 : decode cX7_writesNumber 29 = .ok (.iload_n 3, 1) := dk_29 (dk_at dksX7_writesNumber_1 7 rfl rfl)
theorem dX7_writesNumber_30 : decode cX7_writesNumber 30 = .ok (.iconst 1, 1) := dk_4 (dk_at dksX7_writesNumber_1 8 rfl rfl)
theorem dX7_writesNumber_31 : decode cX7_writesNumber 31 = .ok (.isub, 1) := dk_100 (dk_at dksX7_writesNumber_1 9 rfl rfl)
theorem dX7_writesNumber_32 : decode cX7_writesNumber 32 = .ok (.istore 4, 2) := dk_54 4 (dk_at dksX7_writesNumber_1 10 rfl rfl)
theorem dX7_writesNumber_34 : decode cX7_writesNumber 34 = .ok (.iload 4, 2) := dk_21 4 (dk_at dksX7_writesNumber_1 12 rfl rfl)
theorem dX7_writesNumber_36 : decode cX7_writesNumber 36 = .ok (.ifCond .lt 20, 3) := dk_155 0 20 (dk_at dksX7_writesNumber_1 14 rfl rfl)
theorem dX7_writesNumber_39 : decode cX7_writesNumber 39 = .ok (.aload_n 0, 1) := dk_42 (dk_at dksX7_writesNumber_1 17 rfl rfl)
theorem dX7_writesNumber_40 : decode cX7_writesNumber 40 = .ok (.aload_n 0, 1) := dk_42 (dk_at dksX7_writesNumber_1 18 rfl rfl)
theorem dX7_writesNumber_41 : decode cX7_writesNumber 41 = .ok (.getfield 57, 3) := dk_180 0 57 (dk_at dksX7_writesNumber_1 19 rfl rfl)
theorem dX7_writesNumber_44 : decode cX7_writesNumber 44 = .ok (.iload 4, 2) := dk_21 4 (dk_at dksX7_writesNumber_1 22 rfl rfl)
theorem dX7_writesNumber_46 : decode cX7_writesNumber 46 = .ok (.iaload, 1) := dk_46 (dk_at dksX7_writesNumber_2 0 rfl rfl)
theorem dX7_writesNumber_47 : decode cX7_writesNumber 47 = .ok (.invokevirtual 388, 3) := dk_182 1 132 (dk_at dksX7_writesNumber_2 1 rfl rfl)
theorem dX7_writesNumber_50 : decode cX7_writesNumber 50 = .ok (.iinc 4 (-1), 3) := dk_132 4 255 (dk_at dksX7_writesNumber_2 4 rfl rfl)
theorem dX7_writesNumber_53 : decode cX7_writesNumber 53 = .ok (.goto (-19), 3) := dk_167 255 237 (dk_at dksX7_writesNumber_2 7 rfl rfl)
theorem dX7_writesNumber_56 : decode cX7_writesNumber 56 = .ok (.return_, 1) := dk_177 (dk_at dksX7_writesNumber_2 10 rfl rfl)
abbrev cX7_writesName : ByteArray := prog_21_method_125_code
def yX7_writesName : MethodName := ⟨RX7, "writesName", "(I)V"⟩
def dkwX7_writesName_1 : List UInt8 := [42, 16, 96, 27, 29, 108, 16, 27, 112, 96, 182, 1, 132, 29, 16, 27, 108, 62, 167, 255, 234, 177]
abbrev dktX7_writesName_1 : List UInt8 := dkwX7_writesName_1 ++ []
def dkwX7_writesName_0 : List UInt8 := [4, 61, 28, 27, 16, 27, 108, 163, 0, 11, 28, 16, 27, 104, 61, 167, 255, 243, 28, 62, 29, 158, 0, 24]
abbrev dktX7_writesName_0 : List UInt8 := dkwX7_writesName_0 ++ dktX7_writesName_1
theorem dksX7_writesName_0 : cX7_writesName.data.toList.drop 0 = dktX7_writesName_0 := by decide +kernel
theorem dksX7_writesName_1 : cX7_writesName.data.toList.drop 24 = dktX7_writesName_1 := dk_seg dksX7_writesName_0 24 rfl rfl
theorem dX7_writesName_0 : decode cX7_writesName 0 = .ok (.iconst 1, 1) := dk_4 (dk_at dksX7_writesName_0 0 rfl rfl)
theorem dX7_writesName_1 : decode cX7_writesName 1 = .ok (.istore_n 2, 1) := dk_61 (dk_at dksX7_writesName_0 1 rfl rfl)
theorem dX7_writesName_2 : decode cX7_writesName 2 = .ok (.iload_n 2, 1) := dk_28 (dk_at dksX7_writesName_0 2 rfl rfl)
theorem dX7_writesName_3 : decode cX7_writesName 3 = .ok (.iload_n 1, 1) := dk_27 (dk_at dksX7_writesName_0 3 rfl rfl)
theorem dX7_writesName_4 : decode cX7_writesName 4 = .ok (.bipush 27, 2) := dk_16 27 (dk_at dksX7_writesName_0 4 rfl rfl)
theorem dX7_writesName_6 : decode cX7_writesName 6 = .ok (.idiv, 1) := dk_108 (dk_at dksX7_writesName_0 6 rfl rfl)
theorem dX7_writesName_7 : decode cX7_writesName 7 = .ok (.if_icmp .gt 11, 3) := dk_163 0 11 (dk_at dksX7_writesName_0 7 rfl rfl)
theorem dX7_writesName_10 : decode cX7_writesName 10 = .ok (.iload_n 2, 1) := dk_28 (dk_at dksX7_writesName_0 10 rfl rfl)
theorem dX7_writesName_11 : decode cX7_writesName 11 = .ok (.bipush 27, 2) := dk_16 27 (dk_at dksX7_writesName_0 11 rfl rfl)
theorem dX7_writesName_13 : decode cX7_writesName 13 = .ok (.imul, 1) := dk_104 (dk_at dksX7_writesName_0 13 rfl rfl)
theorem dX7_writesName_14 : decode cX7_writesName 14 = .ok (.istore_n 2, 1) := dk_61 (dk_at dksX7_writesName_0 14 rfl rfl)
theorem dX7_writesName_15 : decode cX7_writesName 15 = .ok (.goto (-13), 3) := dk_167 255 243 (dk_at dksX7_writesName_0 15 rfl rfl)
theorem dX7_writesName_18 : decode cX7_writesName 18 = .ok (.iload_n 2, 1) := dk_28 (dk_at dksX7_writesName_0 18 rfl rfl)
theorem dX7_writesName_19 : decode cX7_writesName 19 = .ok (.istore_n 3, 1) := dk_62 (dk_at dksX7_writesName_0 19 rfl rfl)
theorem dX7_writesName_20 : decode cX7_writesName 20 = .ok (.iload_n 3, 1) := dk_29 (dk_at dksX7_writesName_0 20 rfl rfl)
theorem dX7_writesName_21 : decode cX7_writesName 21 = .ok (.ifCond .le 24, 3) := dk_158 0 24 (dk_at dksX7_writesName_0 21 rfl rfl)
theorem dX7_writesName_24 : decode cX7_writesName 24 = .ok (.aload_n 0, 1) := dk_42 (dk_at dksX7_writesName_1 0 rfl rfl)
theorem dX7_writesName_25 : decode cX7_writesName 25 = .ok (.bipush 96, 2) := dk_16 96 (dk_at dksX7_writesName_1 1 rfl rfl)
theorem dX7_writesName_27 : decode cX7_writesName 27 = .ok (.iload_n 1, 1) := dk_27 (dk_at dksX7_writesName_1 3 rfl rfl)
theorem dX7_writesName_28 : decode cX7_writesName 28 = .ok (.iload_n 3, 1) := dk_29 (dk_at dksX7_writesName_1 4 rfl rfl)
theorem dX7_writesName_29 : decode cX7_writesName 29 = .ok (.idiv, 1) := dk_108 (dk_at dksX7_writesName_1 5 rfl rfl)
theorem dX7_writesName_30 : decode cX7_writesName 30 = .ok (.bipush 27, 2) := dk_16 27 (dk_at dksX7_writesName_1 6 rfl rfl)
theorem dX7_writesName_32 : decode cX7_writesName 32 = .ok (.irem, 1) := dk_112 (dk_at dksX7_writesName_1 8 rfl rfl)
theorem dX7_writesName_33 : decode cX7_writesName 33 = .ok (.iadd, 1) := dk_96 (dk_at dksX7_writesName_1 9 rfl rfl)
theorem dX7_writesName_34 : decode cX7_writesName 34 = .ok (.invokevirtual 388, 3) := dk_182 1 132 (dk_at dksX7_writesName_1 10 rfl rfl)
theorem dX7_writesName_37 : decode cX7_writesName 37 = .ok (.iload_n 3, 1) := dk_29 (dk_at dksX7_writesName_1 13 rfl rfl)
theorem dX7_writesName_38 : decode cX7_writesName 38 = .ok (.bipush 27, 2) := dk_16 27 (dk_at dksX7_writesName_1 14 rfl rfl)
theorem dX7_writesName_40 : decode cX7_writesName 40 = .ok (.idiv, 1) := dk_108 (dk_at dksX7_writesName_1 16 rfl rfl)
theorem dX7_writesName_41 : decode cX7_writesName 41 = .ok (.istore_n 3, 1) := dk_62 (dk_at dksX7_writesName_1 17 rfl rfl)
theorem dX7_writesName_42 : decode cX7_writesName 42 = .ok (.goto (-22), 3) := dk_167 255 234 (dk_at dksX7_writesName_1 18 rfl rfl)
theorem dX7_writesName_45 : decode cX7_writesName 45 = .ok (.return_, 1) := dk_177 (dk_at dksX7_writesName_1 21 rfl rfl)
abbrev cX7_writeDeliveries : ByteArray := prog_21_method_127_code
def yX7_writeDeliveries : MethodName := ⟨RX7, "writeDeliveries", "()I"⟩
def dkwX7_writeDeliveries_5 : List UInt8 := [180, 1, 129, 172]
abbrev dktX7_writeDeliveries_5 : List UInt8 := dkwX7_writeDeliveries_5 ++ []
def dkwX7_writeDeliveries_4 : List UInt8 := [180, 0, 7, 27, 6, 96, 46, 4, 160, 0, 9, 42, 16, 33, 182, 1, 132, 132, 1, 4, 167, 255, 159, 42]
abbrev dktX7_writeDeliveries_4 : List UInt8 := dkwX7_writeDeliveries_4 ++ dktX7_writeDeliveries_5
def dkwX7_writeDeliveries_3 : List UInt8 := [182, 1, 135, 42, 16, 43, 182, 1, 132, 42, 42, 180, 0, 7, 27, 5, 96, 46, 182, 1, 135, 42]
abbrev dktX7_writeDeliveries_3 : List UInt8 := dkwX7_writeDeliveries_3 ++ dktX7_writeDeliveries_4
def dkwX7_writeDeliveries_2 : List UInt8 := [180, 0, 7, 27, 46, 182, 1, 135, 42, 16, 47, 182, 1, 132, 42, 42, 180, 0, 7, 27, 4, 96, 46]
abbrev dktX7_writeDeliveries_2 : List UInt8 := dkwX7_writeDeliveries_2 ++ dktX7_writeDeliveries_3
def dkwX7_writeDeliveries_1 : List UInt8 := [16, 15, 46, 104, 96, 162, 0, 86, 42, 180, 1, 129, 158, 0, 9, 42, 16, 32, 182, 1, 132, 42, 42]
abbrev dktX7_writeDeliveries_1 : List UInt8 := dkwX7_writeDeliveries_1 ++ dktX7_writeDeliveries_2
def dkwX7_writeDeliveries_0 : List UInt8 := [42, 3, 181, 0, 85, 42, 3, 181, 1, 129, 17, 0, 172, 60, 27, 17, 0, 172, 7, 42, 180, 0, 7]
abbrev dktX7_writeDeliveries_0 : List UInt8 := dkwX7_writeDeliveries_0 ++ dktX7_writeDeliveries_1
theorem dksX7_writeDeliveries_0 : cX7_writeDeliveries.data.toList.drop 0 = dktX7_writeDeliveries_0 := by decide +kernel
theorem dksX7_writeDeliveries_1 : cX7_writeDeliveries.data.toList.drop 23 = dktX7_writeDeliveries_1 := dk_seg dksX7_writeDeliveries_0 23 rfl rfl
theorem dksX7_writeDeliveries_2 : cX7_writeDeliveries.data.toList.drop 46 = dktX7_writeDeliveries_2 := dk_seg dksX7_writeDeliveries_1 23 rfl rfl
theorem dksX7_writeDeliveries_3 : cX7_writeDeliveries.data.toList.drop 69 = dktX7_writeDeliveries_3 := dk_seg dksX7_writeDeliveries_2 23 rfl rfl
theorem dksX7_writeDeliveries_4 : cX7_writeDeliveries.data.toList.drop 91 = dktX7_writeDeliveries_4 := dk_seg dksX7_writeDeliveries_3 22 rfl rfl
theorem dksX7_writeDeliveries_5 : cX7_writeDeliveries.data.toList.drop 115 = dktX7_writeDeliveries_5 := dk_seg dksX7_writeDeliveries_4 24 rfl rfl
theorem dX7_writeDeliveries_0 : decode cX7_writeDeliveries 0 = .ok (.aload_n 0, 1) := dk_42 (dk_at dksX7_writeDeliveries_0 0 rfl rfl)
theorem dX7_writeDeliveries_1 : decode cX7_writeDeliveries 1 = .ok (.iconst 0, 1) := dk_3 (dk_at dksX7_writeDeliveries_0 1 rfl rfl)
theorem dX7_writeDeliveries_2 : decode cX7_writeDeliveries 2 = .ok (.putfield 85, 3) := dk_181 0 85 (dk_at dksX7_writeDeliveries_0 2 rfl rfl)
theorem dX7_writeDeliveries_5 : decode cX7_writeDeliveries 5 = .ok (.aload_n 0, 1) := dk_42 (dk_at dksX7_writeDeliveries_0 5 rfl rfl)
theorem dX7_writeDeliveries_6 : decode cX7_writeDeliveries 6 = .ok (.iconst 0, 1) := dk_3 (dk_at dksX7_writeDeliveries_0 6 rfl rfl)
theorem dX7_writeDeliveries_7 : decode cX7_writeDeliveries 7 = .ok (.putfield 385, 3) := dk_181 1 129 (dk_at dksX7_writeDeliveries_0 7 rfl rfl)
theorem dX7_writeDeliveries_10 : decode cX7_writeDeliveries 10 = .ok (.sipush 172, 3) := dk_17 0 172 (dk_at dksX7_writeDeliveries_0 10 rfl rfl)
theorem dX7_writeDeliveries_13 : decode cX7_writeDeliveries 13 = .ok (.istore_n 1, 1) := dk_60 (dk_at dksX7_writeDeliveries_0 13 rfl rfl)
theorem dX7_writeDeliveries_14 : decode cX7_writeDeliveries 14 = .ok (.iload_n 1, 1) := dk_27 (dk_at dksX7_writeDeliveries_0 14 rfl rfl)
theorem dX7_writeDeliveries_15 : decode cX7_writeDeliveries 15 = .ok (.sipush 172, 3) := dk_17 0 172 (dk_at dksX7_writeDeliveries_0 15 rfl rfl)
theorem dX7_writeDeliveries_18 : decode cX7_writeDeliveries 18 = .ok (.iconst 4, 1) := dk_7 (dk_at dksX7_writeDeliveries_0 18 rfl rfl)
theorem dX7_writeDeliveries_19 : decode cX7_writeDeliveries 19 = .ok (.aload_n 0, 1) := dk_42 (dk_at dksX7_writeDeliveries_0 19 rfl rfl)
theorem dX7_writeDeliveries_20 : decode cX7_writeDeliveries 20 = .ok (.getfield 7, 3) := dk_180 0 7 (dk_at dksX7_writeDeliveries_0 20 rfl rfl)
theorem dX7_writeDeliveries_23 : decode cX7_writeDeliveries 23 = .ok (.bipush 15, 2) := dk_16 15 (dk_at dksX7_writeDeliveries_1 0 rfl rfl)
theorem dX7_writeDeliveries_25 : decode cX7_writeDeliveries 25 = .ok (.iaload, 1) := dk_46 (dk_at dksX7_writeDeliveries_1 2 rfl rfl)
theorem dX7_writeDeliveries_26 : decode cX7_writeDeliveries 26 = .ok (.imul, 1) := dk_104 (dk_at dksX7_writeDeliveries_1 3 rfl rfl)
theorem dX7_writeDeliveries_27 : decode cX7_writeDeliveries 27 = .ok (.iadd, 1) := dk_96 (dk_at dksX7_writeDeliveries_1 4 rfl rfl)
theorem dX7_writeDeliveries_28 : decode cX7_writeDeliveries 28 = .ok (.if_icmp .ge 86, 3) := dk_162 0 86 (dk_at dksX7_writeDeliveries_1 5 rfl rfl)
theorem dX7_writeDeliveries_31 : decode cX7_writeDeliveries 31 = .ok (.aload_n 0, 1) := dk_42 (dk_at dksX7_writeDeliveries_1 8 rfl rfl)
theorem dX7_writeDeliveries_32 : decode cX7_writeDeliveries 32 = .ok (.getfield 385, 3) := dk_180 1 129 (dk_at dksX7_writeDeliveries_1 9 rfl rfl)
theorem dX7_writeDeliveries_35 : decode cX7_writeDeliveries 35 = .ok (.ifCond .le 9, 3) := dk_158 0 9 (dk_at dksX7_writeDeliveries_1 12 rfl rfl)
theorem dX7_writeDeliveries_38 : decode cX7_writeDeliveries 38 = .ok (.aload_n 0, 1) := dk_42 (dk_at dksX7_writeDeliveries_1 15 rfl rfl)
theorem dX7_writeDeliveries_39 : decode cX7_writeDeliveries 39 = .ok (.bipush 32, 2) := dk_16 32 (dk_at dksX7_writeDeliveries_1 16 rfl rfl)
theorem dX7_writeDeliveries_41 : decode cX7_writeDeliveries 41 = .ok (.invokevirtual 388, 3) := dk_182 1 132 (dk_at dksX7_writeDeliveries_1 18 rfl rfl)
theorem dX7_writeDeliveries_44 : decode cX7_writeDeliveries 44 = .ok (.aload_n 0, 1) := dk_42 (dk_at dksX7_writeDeliveries_1 21 rfl rfl)
theorem dX7_writeDeliveries_45 : decode cX7_writeDeliveries 45 = .ok (.aload_n 0, 1) := dk_42 (dk_at dksX7_writeDeliveries_1 22 rfl rfl)
theorem dX7_writeDeliveries_46 : decode cX7_writeDeliveries 46 = .ok (.getfield 7, 3) := dk_180 0 7 (dk_at dksX7_writeDeliveries_2 0 rfl rfl)
theorem dX7_writeDeliveries_49 : decode cX7_writeDeliveries 49 = .ok (.iload_n 1, 1) := dk_27 (dk_at dksX7_writeDeliveries_2 3 rfl rfl)
theorem dX7_writeDeliveries_50 : decode cX7_writeDeliveries 50 = .ok (.iaload, 1) := dk_46 (dk_at dksX7_writeDeliveries_2 4 rfl rfl)
theorem dX7_writeDeliveries_51 : decode cX7_writeDeliveries 51 = .ok (.invokevirtual 391, 3) := dk_182 1 135 (dk_at dksX7_writeDeliveries_2 5 rfl rfl)
theorem dX7_writeDeliveries_54 : decode cX7_writeDeliveries 54 = .ok (.aload_n 0, 1) := dk_42 (dk_at dksX7_writeDeliveries_2 8 rfl rfl)
theorem dX7_writeDeliveries_55 : decode cX7_writeDeliveries 55 = .ok (.bipush 47, 2) := dk_16 47 (dk_at dksX7_writeDeliveries_2 9 rfl rfl)
theorem dX7_writeDeliveries_57 : decode cX7_writeDeliveries 57 = .ok (.invokevirtual 388, 3) := dk_182 1 132 (dk_at dksX7_writeDeliveries_2 11 rfl rfl)
theorem dX7_writeDeliveries_60 : decode cX7_writeDeliveries 60 = .ok (.aload_n 0, 1) := dk_42 (dk_at dksX7_writeDeliveries_2 14 rfl rfl)
theorem dX7_writeDeliveries_61 : decode cX7_writeDeliveries 61 = .ok (.aload_n 0, 1) := dk_42 (dk_at dksX7_writeDeliveries_2 15 rfl rfl)
theorem dX7_writeDeliveries_62 : decode cX7_writeDeliveries 62 = .ok (.getfield 7, 3) := dk_180 0 7 (dk_at dksX7_writeDeliveries_2 16 rfl rfl)
theorem dX7_writeDeliveries_65 : decode cX7_writeDeliveries 65 = .ok (.iload_n 1, 1) := dk_27 (dk_at dksX7_writeDeliveries_2 19 rfl rfl)
theorem dX7_writeDeliveries_66 : decode cX7_writeDeliveries 66 = .ok (.iconst 1, 1) := dk_4 (dk_at dksX7_writeDeliveries_2 20 rfl rfl)
theorem dX7_writeDeliveries_67 : decode cX7_writeDeliveries 67 = .ok (.iadd, 1) := dk_96 (dk_at dksX7_writeDeliveries_2 21 rfl rfl)
theorem dX7_writeDeliveries_68 : decode cX7_writeDeliveries 68 = .ok (.iaload, 1) := dk_46 (dk_at dksX7_writeDeliveries_2 22 rfl rfl)
theorem dX7_writeDeliveries_69 : decode cX7_writeDeliveries 69 = .ok (.invokevirtual 391, 3) := dk_182 1 135 (dk_at dksX7_writeDeliveries_3 0 rfl rfl)
theorem dX7_writeDeliveries_72 : decode cX7_writeDeliveries 72 = .ok (.aload_n 0, 1) := dk_42 (dk_at dksX7_writeDeliveries_3 3 rfl rfl)
theorem dX7_writeDeliveries_73 : decode cX7_writeDeliveries 73 = .ok (.bipush 43, 2) := dk_16 43 (dk_at dksX7_writeDeliveries_3 4 rfl rfl)
theorem dX7_writeDeliveries_75 : decode cX7_writeDeliveries 75 = .ok (.invokevirtual 388, 3) := dk_182 1 132 (dk_at dksX7_writeDeliveries_3 6 rfl rfl)
theorem dX7_writeDeliveries_78 : decode cX7_writeDeliveries 78 = .ok (.aload_n 0, 1) := dk_42 (dk_at dksX7_writeDeliveries_3 9 rfl rfl)
theorem dX7_writeDeliveries_79 : decode cX7_writeDeliveries 79 = .ok (.aload_n 0, 1) := dk_42 (dk_at dksX7_writeDeliveries_3 10 rfl rfl)
theorem dX7_writeDeliveries_80 : decode cX7_writeDeliveries 80 = .ok (.getfield 7, 3) := dk_180 0 7 (dk_at dksX7_writeDeliveries_3 11 rfl rfl)
theorem dX7_writeDeliveries_83 : decode cX7_writeDeliveries 83 = .ok (.iload_n 1, 1) := dk_27 (dk_at dksX7_writeDeliveries_3 14 rfl rfl)
theorem dX7_writeDeliveries_84 : decode cX7_writeDeliveries 84 = .ok (.iconst 2, 1) := dk_5 (dk_at dksX7_writeDeliveries_3 15 rfl rfl)
theorem dX7_writeDeliveries_85 : decode cX7_writeDeliveries 85 = .ok (.iadd, 1) := dk_96 (dk_at dksX7_writeDeliveries_3 16 rfl rfl)
theorem dX7_writeDeliveries_86 : decode cX7_writeDeliveries 86 = .ok (.iaload, 1) := dk_46 (dk_at dksX7_writeDeliveries_3 17 rfl rfl)
theorem dX7_writeDeliveries_87 : decode cX7_writeDeliveries 87 = .ok (.invokevirtual 391, 3) := dk_182 1 135 (dk_at dksX7_writeDeliveries_3 18 rfl rfl)
theorem dX7_writeDeliveries_90 : decode cX7_writeDeliveries 90 = .ok (.aload_n 0, 1) := dk_42 (dk_at dksX7_writeDeliveries_3 21 rfl rfl)
theorem dX7_writeDeliveries_91 : decode cX7_writeDeliveries 91 = .ok (.getfield 7, 3) := dk_180 0 7 (dk_at dksX7_writeDeliveries_4 0 rfl rfl)
theorem dX7_writeDeliveries_94 : decode cX7_writeDeliveries 94 = .ok (.iload_n 1, 1) := dk_27 (dk_at dksX7_writeDeliveries_4 3 rfl rfl)
theorem dX7_writeDeliveries_95 : decode cX7_writeDeliveries 95 = .ok (.iconst 3, 1) := dk_6 (dk_at dksX7_writeDeliveries_4 4 rfl rfl)
theorem dX7_writeDeliveries_96 : decode cX7_writeDeliveries 96 = .ok (.iadd, 1) := dk_96 (dk_at dksX7_writeDeliveries_4 5 rfl rfl)
theorem dX7_writeDeliveries_97 : decode cX7_writeDeliveries 97 = .ok (.iaload, 1) := dk_46 (dk_at dksX7_writeDeliveries_4 6 rfl rfl)
theorem dX7_writeDeliveries_98 : decode cX7_writeDeliveries 98 = .ok (.iconst 1, 1) := dk_4 (dk_at dksX7_writeDeliveries_4 7 rfl rfl)
theorem dX7_writeDeliveries_99 : decode cX7_writeDeliveries 99 = .ok (.if_icmp .ne 9, 3) := dk_160 0 9 (dk_at dksX7_writeDeliveries_4 8 rfl rfl)
theorem dX7_writeDeliveries_102 : decode cX7_writeDeliveries 102 = .ok (.aload_n 0, 1) := dk_42 (dk_at dksX7_writeDeliveries_4 11 rfl rfl)
theorem dX7_writeDeliveries_103 : decode cX7_writeDeliveries 103 = .ok (.bipush 33, 2) := dk_16 33 (dk_at dksX7_writeDeliveries_4 12 rfl rfl)
theorem dX7_writeDeliveries_105 : decode cX7_writeDeliveries 105 = .ok (.invokevirtual 388, 3) := dk_182 1 132 (dk_at dksX7_writeDeliveries_4 14 rfl rfl)
theorem dX7_writeDeliveries_108 : decode cX7_writeDeliveries 108 = .ok (.iinc 1 4, 3) := dk_132 1 4 (dk_at dksX7_writeDeliveries_4 17 rfl rfl)
theorem dX7_writeDeliveries_111 : decode cX7_writeDeliveries 111 = .ok (.goto (-97), 3) := dk_167 255 159 (dk_at dksX7_writeDeliveries_4 20 rfl rfl)
theorem dX7_writeDeliveries_114 : decode cX7_writeDeliveries 114 = .ok (.aload_n 0, 1) := dk_42 (dk_at dksX7_writeDeliveries_4 23 rfl rfl)
theorem dX7_writeDeliveries_115 : decode cX7_writeDeliveries 115 = .ok (.getfield 385, 3) := dk_180 1 129 (dk_at dksX7_writeDeliveries_5 0 rfl rfl)
theorem dX7_writeDeliveries_118 : decode cX7_writeDeliveries 118 = .ok (.ireturn, 1) := dk_172 (dk_at dksX7_writeDeliveries_5 3 rfl rfl)
abbrev cX7_outputByte : ByteArray := prog_21_method_128_code
def yX7_outputByte : MethodName := ⟨RX7, "outputByte", "(I)I"⟩
def dkwX7_outputByte_1 : List UInt8 := [46, 167, 0, 4, 2, 172]
abbrev dktX7_outputByte_1 : List UInt8 := dkwX7_outputByte_1 ++ []
def dkwX7_outputByte_0 : List UInt8 := [42, 3, 181, 0, 85, 27, 3, 42, 180, 1, 129, 4, 100, 184, 0, 88, 153, 0, 12, 42, 180, 0, 54, 27]
abbrev dktX7_outputByte_0 : List UInt8 := dkwX7_outputByte_0 ++ dktX7_outputByte_1
theorem dksX7_outputByte_0 : cX7_outputByte.data.toList.drop 0 = dktX7_outputByte_0 := by decide +kernel
theorem dksX7_outputByte_1 : cX7_outputByte.data.toList.drop 24 = dktX7_outputByte_1 := dk_seg dksX7_outputByte_0 24 rfl rfl
theorem dX7_outputByte_0 : decode cX7_outputByte 0 = .ok (.aload_n 0, 1) := dk_42 (dk_at dksX7_outputByte_0 0 rfl rfl)
theorem dX7_outputByte_1 : decode cX7_outputByte 1 = .ok (.iconst 0, 1) := dk_3 (dk_at dksX7_outputByte_0 1 rfl rfl)
theorem dX7_outputByte_2 : decode cX7_outputByte 2 = .ok (.putfield 85, 3) := dk_181 0 85 (dk_at dksX7_outputByte_0 2 rfl rfl)
theorem dX7_outputByte_5 : decode cX7_outputByte 5 = .ok (.iload_n 1, 1) := dk_27 (dk_at dksX7_outputByte_0 5 rfl rfl)
theorem dX7_outputByte_6 : decode cX7_outputByte 6 = .ok (.iconst 0, 1) := dk_3 (dk_at dksX7_outputByte_0 6 rfl rfl)
theorem dX7_outputByte_7 : decode cX7_outputByte 7 = .ok (.aload_n 0, 1) := dk_42 (dk_at dksX7_outputByte_0 7 rfl rfl)
theorem dX7_outputByte_8 : decode cX7_outputByte 8 = .ok (.getfield 385, 3) := dk_180 1 129 (dk_at dksX7_outputByte_0 8 rfl rfl)
theorem dX7_outputByte_11 : decode cX7_outputByte 11 = .ok (.iconst 1, 1) := dk_4 (dk_at dksX7_outputByte_0 11 rfl rfl)
theorem dX7_outputByte_12 : decode cX7_outputByte 12 = .ok (.isub, 1) := dk_100 (dk_at dksX7_outputByte_0 12 rfl rfl)
theorem dX7_outputByte_13 : decode cX7_outputByte 13 = .ok (.invokestatic 88, 3) := dk_184 0 88 (dk_at dksX7_outputByte_0 13 rfl rfl)
theorem dX7_outputByte_16 : decode cX7_outputByte 16 = .ok (.ifCond .eq 12, 3) := dk_153 0 12 (dk_at dksX7_outputByte_0 16 rfl rfl)
theorem dX7_outputByte_19 : decode cX7_outputByte 19 = .ok (.aload_n 0, 1) := dk_42 (dk_at dksX7_outputByte_0 19 rfl rfl)
theorem dX7_outputByte_20 : decode cX7_outputByte 20 = .ok (.getfield 54, 3) := dk_180 0 54 (dk_at dksX7_outputByte_0 20 rfl rfl)
theorem dX7_outputByte_23 : decode cX7_outputByte 23 = .ok (.iload_n 1, 1) := dk_27 (dk_at dksX7_outputByte_0 23 rfl rfl)
theorem dX7_outputByte_24 : decode cX7_outputByte 24 = .ok (.iaload, 1) := dk_46 (dk_at dksX7_outputByte_1 0 rfl rfl)
theorem dX7_outputByte_25 : decode cX7_outputByte 25 = .ok (.goto 4, 3) := dk_167 0 4 (dk_at dksX7_outputByte_1 1 rfl rfl)
theorem dX7_outputByte_28 : decode cX7_outputByte 28 = .ok (.iconst (-1), 1) := dk_2 (dk_at dksX7_outputByte_1 4 rfl rfl)
theorem dX7_outputByte_29 : decode cX7_outputByte 29 = .ok (.ireturn, 1) := dk_172 (dk_at dksX7_outputByte_1 5 rfl rfl)
abbrev cX7_undoCount : ByteArray := prog_21_method_129_code
def yX7_undoCount : MethodName := ⟨RX7, "undoCount", "()I"⟩
def dkwX7_undoCount_0 : List UInt8 := [42, 3, 181, 0, 85, 42, 180, 1, 26, 172]
abbrev dktX7_undoCount_0 : List UInt8 := dkwX7_undoCount_0 ++ []
theorem dksX7_undoCount_0 : cX7_undoCount.data.toList.drop 0 = dktX7_undoCount_0 := by decide +kernel
theorem dX7_undoCount_0 : decode cX7_undoCount 0 = .ok (.aload_n 0, 1) := dk_42 (dk_at dksX7_undoCount_0 0 rfl rfl)
theorem dX7_undoCount_1 : decode cX7_undoCount 1 = .ok (.iconst 0, 1) := dk_3 (dk_at dksX7_undoCount_0 1 rfl rfl)
theorem dX7_undoCount_2 : decode cX7_undoCount 2 = .ok (.putfield 85, 3) := dk_181 0 85 (dk_at dksX7_undoCount_0 2 rfl rfl)
theorem dX7_undoCount_5 : decode cX7_undoCount 5 = .ok (.aload_n 0, 1) := dk_42 (dk_at dksX7_undoCount_0 5 rfl rfl)
theorem dX7_undoCount_6 : decode cX7_undoCount 6 = .ok (.getfield 282, 3) := dk_180 1 26 (dk_at dksX7_undoCount_0 6 rfl rfl)
theorem dX7_undoCount_9 : decode cX7_undoCount 9 = .ok (.ireturn, 1) := dk_172 (dk_at dksX7_undoCount_0 9 rfl rfl)
abbrev cX7_undo : ByteArray := prog_21_method_130_code
def yX7_undo : MethodName := ⟨RX7, "undo", "()I"⟩
def dkwX7_undo_3 : List UInt8 := [167, 255, 225, 42, 180, 1, 26, 172]
abbrev dktX7_undo_3 : List UInt8 := dkwX7_undo_3 ++ []
def dkwX7_undo_2 : List UInt8 := [42, 180, 0, 7, 27, 42, 180, 0, 19, 17, 0, 212, 42, 180, 1, 26, 104, 27, 96, 46, 79, 132, 1, 1]
abbrev dktX7_undo_2 : List UInt8 := dkwX7_undo_2 ++ dktX7_undo_3
def dkwX7_undo_1 : List UInt8 := [154, 0, 5, 3, 172, 42, 89, 180, 1, 26, 4, 100, 181, 1, 26, 3, 60, 27, 17, 0, 212, 162, 0, 30]
abbrev dktX7_undo_1 : List UInt8 := dkwX7_undo_1 ++ dktX7_undo_2
def dkwX7_undo_0 : List UInt8 := [42, 3, 181, 0, 85, 42, 42, 180, 1, 26, 158, 0, 7, 4, 167, 0, 4, 3, 4, 182, 0, 176]
abbrev dktX7_undo_0 : List UInt8 := dkwX7_undo_0 ++ dktX7_undo_1
theorem dksX7_undo_0 : cX7_undo.data.toList.drop 0 = dktX7_undo_0 := by decide +kernel
theorem dksX7_undo_1 : cX7_undo.data.toList.drop 22 = dktX7_undo_1 := dk_seg dksX7_undo_0 22 rfl rfl
theorem dksX7_undo_2 : cX7_undo.data.toList.drop 46 = dktX7_undo_2 := dk_seg dksX7_undo_1 24 rfl rfl
theorem dksX7_undo_3 : cX7_undo.data.toList.drop 70 = dktX7_undo_3 := dk_seg dksX7_undo_2 24 rfl rfl
theorem dX7_undo_0 : decode cX7_undo 0 = .ok (.aload_n 0, 1) := dk_42 (dk_at dksX7_undo_0 0 rfl rfl)
theorem dX7_undo_1 : decode cX7_undo 1 = .ok (.iconst 0, 1) := dk_3 (dk_at dksX7_undo_0 1 rfl rfl)
theorem dX7_undo_2 : decode cX7_undo 2 = .ok (.putfield 85, 3) := dk_181 0 85 (dk_at dksX7_undo_0 2 rfl rfl)
theorem dX7_undo_5 : decode cX7_undo 5 = .ok (.aload_n 0, 1) := dk_42 (dk_at dksX7_undo_0 5 rfl rfl)
theorem dX7_undo_6 : decode cX7_undo 6 = .ok (.aload_n 0, 1) := dk_42 (dk_at dksX7_undo_0 6 rfl rfl)
theorem dX7_undo_7 : decode cX7_undo 7 = .ok (.getfield 282, 3) := dk_180 1 26 (dk_at dksX7_undo_0 7 rfl rfl)
theorem dX7_undo_10 : decode cX7_undo 10 = .ok (.ifCond .le 7, 3) := dk_158 0 7 (dk_at dksX7_undo_0 10 rfl rfl)
theorem dX7_undo_13 : decode cX7_undo 13 = .ok (.iconst 1, 1) := dk_4 (dk_at dksX7_undo_0 13 rfl rfl)
theorem dX7_undo_14 : decode cX7_undo 14 = .ok (.goto 4, 3) := dk_167 0 4 (dk_at dksX7_undo_0 14 rfl rfl)
theorem dX7_undo_17 : decode cX7_undo 17 = .ok (.iconst 0, 1) := dk_3 (dk_at dksX7_undo_0 17 rfl rfl)
theorem dX7_undo_18 : decode cX7_undo 18 = .ok (.iconst 1, 1) := dk_4 (dk_at dksX7_undo_0 18 rfl rfl)
theorem dX7_undo_19 : decode cX7_undo 19 = .ok (.invokevirtual 176, 3) := dk_182 0 176 (dk_at dksX7_undo_0 19 rfl rfl)
theorem dX7_undo_22 : decode cX7_undo 22 = .ok (.ifCond .ne 5, 3) := dk_154 0 5 (dk_at dksX7_undo_1 0 rfl rfl)
theorem dX7_undo_25 : decode cX7_undo 25 = .ok (.iconst 0, 1) := dk_3 (dk_at dksX7_undo_1 3 rfl rfl)
theorem dX7_undo_26 : decode cX7_undo 26 = .ok (.ireturn, 1) := dk_172 (dk_at dksX7_undo_1 4 rfl rfl)
theorem dX7_undo_27 : decode cX7_undo 27 = .ok (.aload_n 0, 1) := dk_42 (dk_at dksX7_undo_1 5 rfl rfl)
theorem dX7_undo_28 : decode cX7_undo 28 = .ok (.dup, 1) := dk_89 (dk_at dksX7_undo_1 6 rfl rfl)
theorem dX7_undo_29 : decode cX7_undo 29 = .ok (.getfield 282, 3) := dk_180 1 26 (dk_at dksX7_undo_1 7 rfl rfl)
theorem dX7_undo_32 : decode cX7_undo 32 = .ok (.iconst 1, 1) := dk_4 (dk_at dksX7_undo_1 10 rfl rfl)
theorem dX7_undo_33 : decode cX7_undo 33 = .ok (.isub, 1) := dk_100 (dk_at dksX7_undo_1 11 rfl rfl)
theorem dX7_undo_34 : decode cX7_undo 34 = .ok (.putfield 282, 3) := dk_181 1 26 (dk_at dksX7_undo_1 12 rfl rfl)
theorem dX7_undo_37 : decode cX7_undo 37 = .ok (.iconst 0, 1) := dk_3 (dk_at dksX7_undo_1 15 rfl rfl)
theorem dX7_undo_38 : decode cX7_undo 38 = .ok (.istore_n 1, 1) := dk_60 (dk_at dksX7_undo_1 16 rfl rfl)
theorem dX7_undo_39 : decode cX7_undo 39 = .ok (.iload_n 1, 1) := dk_27 (dk_at dksX7_undo_1 17 rfl rfl)
theorem dX7_undo_40 : decode cX7_undo 40 = .ok (.sipush 212, 3) := dk_17 0 212 (dk_at dksX7_undo_1 18 rfl rfl)
theorem dX7_undo_43 : decode cX7_undo 43 = .ok (.if_icmp .ge 30, 3) := dk_162 0 30 (dk_at dksX7_undo_1 21 rfl rfl)
theorem dX7_undo_46 : decode cX7_undo 46 = .ok (.aload_n 0, 1) := dk_42 (dk_at dksX7_undo_2 0 rfl rfl)
theorem dX7_undo_47 : decode cX7_undo 47 = .ok (.getfield 7, 3) := dk_180 0 7 (dk_at dksX7_undo_2 1 rfl rfl)
theorem dX7_undo_50 : decode cX7_undo 50 = .ok (.iload_n 1, 1) := dk_27 (dk_at dksX7_undo_2 4 rfl rfl)
theorem dX7_undo_51 : decode cX7_undo 51 = .ok (.aload_n 0, 1) := dk_42 (dk_at dksX7_undo_2 5 rfl rfl)
theorem dX7_undo_52 : decode cX7_undo 52 = .ok (.getfield 19, 3) := dk_180 0 19 (dk_at dksX7_undo_2 6 rfl rfl)
theorem dX7_undo_55 : decode cX7_undo 55 = .ok (.sipush 212, 3) := dk_17 0 212 (dk_at dksX7_undo_2 9 rfl rfl)
theorem dX7_undo_58 : decode cX7_undo 58 = .ok (.aload_n 0, 1) := dk_42 (dk_at dksX7_undo_2 12 rfl rfl)
theorem dX7_undo_59 : decode cX7_undo 59 = .ok (.getfield 282, 3) := dk_180 1 26 (dk_at dksX7_undo_2 13 rfl rfl)
theorem dX7_undo_62 : decode cX7_undo 62 = .ok (.imul, 1) := dk_104 (dk_at dksX7_undo_2 16 rfl rfl)
theorem dX7_undo_63 : decode cX7_undo 63 = .ok (.iload_n 1, 1) := dk_27 (dk_at dksX7_undo_2 17 rfl rfl)
theorem dX7_undo_64 : decode cX7_undo 64 = .ok (.iadd, 1) := dk_96 (dk_at dksX7_undo_2 18 rfl rfl)
theorem dX7_undo_65 : decode cX7_undo 65 = .ok (.iaload, 1) := dk_46 (dk_at dksX7_undo_2 19 rfl rfl)
theorem dX7_undo_66 : decode cX7_undo 66 = .ok (.iastore, 1) := dk_79 (dk_at dksX7_undo_2 20 rfl rfl)
theorem dX7_undo_67 : decode cX7_undo 67 = .ok (.iinc 1 1, 3) := dk_132 1 1 (dk_at dksX7_undo_2 21 rfl rfl)
theorem dX7_undo_70 : decode cX7_undo 70 = .ok (.goto (-31), 3) := dk_167 255 225 (dk_at dksX7_undo_3 0 rfl rfl)
theorem dX7_undo_73 : decode cX7_undo 73 = .ok (.aload_n 0, 1) := dk_42 (dk_at dksX7_undo_3 3 rfl rfl)
theorem dX7_undo_74 : decode cX7_undo 74 = .ok (.getfield 282, 3) := dk_180 1 26 (dk_at dksX7_undo_3 4 rfl rfl)
theorem dX7_undo_77 : decode cX7_undo 77 = .ok (.ireturn, 1) := dk_172 (dk_at dksX7_undo_3 7 rfl rfl)
abbrev cX7_save : ByteArray := prog_21_method_131_code
def yX7_save : MethodName := ⟨RX7, "save", "(I)I"⟩
def dkwX7_save_2 : List UInt8 := [132, 2, 1, 167, 255, 228, 42, 180, 0, 25, 27, 4, 84, 42, 180, 0, 7, 8, 46, 172]
abbrev dktX7_save_2 : List UInt8 := dkwX7_save_2 ++ []
def dkwX7_save_1 : List UInt8 := [17, 0, 212, 162, 0, 27, 42, 180, 0, 22, 17, 0, 212, 27, 104, 28, 96, 42, 180, 0, 7, 28, 46, 79]
abbrev dktX7_save_1 : List UInt8 := dkwX7_save_1 ++ dktX7_save_2
def dkwX7_save_0 : List UInt8 := [42, 3, 181, 0, 85, 42, 27, 3, 4, 184, 0, 88, 4, 182, 0, 176, 154, 0, 5, 3, 172, 3, 61, 28]
abbrev dktX7_save_0 : List UInt8 := dkwX7_save_0 ++ dktX7_save_1
theorem dksX7_save_0 : cX7_save.data.toList.drop 0 = dktX7_save_0 := by decide +kernel
theorem dksX7_save_1 : cX7_save.data.toList.drop 24 = dktX7_save_1 := dk_seg dksX7_save_0 24 rfl rfl
theorem dksX7_save_2 : cX7_save.data.toList.drop 48 = dktX7_save_2 := dk_seg dksX7_save_1 24 rfl rfl
theorem dX7_save_0 : decode cX7_save 0 = .ok (.aload_n 0, 1) := dk_42 (dk_at dksX7_save_0 0 rfl rfl)
theorem dX7_save_1 : decode cX7_save 1 = .ok (.iconst 0, 1) := dk_3 (dk_at dksX7_save_0 1 rfl rfl)
theorem dX7_save_2 : decode cX7_save 2 = .ok (.putfield 85, 3) := dk_181 0 85 (dk_at dksX7_save_0 2 rfl rfl)
theorem dX7_save_5 : decode cX7_save 5 = .ok (.aload_n 0, 1) := dk_42 (dk_at dksX7_save_0 5 rfl rfl)
theorem dX7_save_6 : decode cX7_save 6 = .ok (.iload_n 1, 1) := dk_27 (dk_at dksX7_save_0 6 rfl rfl)
theorem dX7_save_7 : decode cX7_save 7 = .ok (.iconst 0, 1) := dk_3 (dk_at dksX7_save_0 7 rfl rfl)
theorem dX7_save_8 : decode cX7_save 8 = .ok (.iconst 1, 1) := dk_4 (dk_at dksX7_save_0 8 rfl rfl)
theorem dX7_save_9 : decode cX7_save 9 = .ok (.invokestatic 88, 3) := dk_184 0 88 (dk_at dksX7_save_0 9 rfl rfl)
theorem dX7_save_12 : decode cX7_save 12 = .ok (.iconst 1, 1) := dk_4 (dk_at dksX7_save_0 12 rfl rfl)
theorem dX7_save_13 : decode cX7_save 13 = .ok (.invokevirtual 176, 3) := dk_182 0 176 (dk_at dksX7_save_0 13 rfl rfl)
theorem dX7_save_16 : decode cX7_save 16 = .ok (.ifCond .ne 5, 3) := dk_154 0 5 (dk_at dksX7_save_0 16 rfl rfl)
theorem dX7_save_19 : decode cX7_save 19 = .ok (.iconst 0, 1) := dk_3 (dk_at dksX7_save_0 19 rfl rfl)
theorem dX7_save_20 : decode cX7_save 20 = .ok (.ireturn, 1) := dk_172 (dk_at dksX7_save_0 20 rfl rfl)
theorem dX7_save_21 : decode cX7_save 21 = .ok (.iconst 0, 1) := dk_3 (dk_at dksX7_save_0 21 rfl rfl)
theorem dX7_save_22 : decode cX7_save 22 = .ok (.istore_n 2, 1) := dk_61 (dk_at dksX7_save_0 22 rfl rfl)
theorem dX7_save_23 : decode cX7_save 23 = .ok (.iload_n 2, 1) := dk_28 (dk_at dksX7_save_0 23 rfl rfl)
theorem dX7_save_24 : decode cX7_save 24 = .ok (.sipush 212, 3) := dk_17 0 212 (dk_at dksX7_save_1 0 rfl rfl)
theorem dX7_save_27 : decode cX7_save 27 = .ok (.if_icmp .ge 27, 3) := dk_162 0 27 (dk_at dksX7_save_1 3 rfl rfl)
theorem dX7_save_30 : decode cX7_save 30 = .ok (.aload_n 0, 1) := dk_42 (dk_at dksX7_save_1 6 rfl rfl)
theorem dX7_save_31 : decode cX7_save 31 = .ok (.getfield 22, 3) := dk_180 0 22 (dk_at dksX7_save_1 7 rfl rfl)
theorem dX7_save_34 : decode cX7_save 34 = .ok (.sipush 212, 3) := dk_17 0 212 (dk_at dksX7_save_1 10 rfl rfl)
theorem dX7_save_37 : decode cX7_save 37 = .ok (.iload_n 1, 1) := dk_27 (dk_at dksX7_save_1 13 rfl rfl)
theorem dX7_save_38 : decode cX7_save 38 = .ok (.imul, 1) := dk_104 (dk_at dksX7_save_1 14 rfl rfl)
theorem dX7_save_39 : decode cX7_save 39 = .ok (.iload_n 2, 1) := dk_28 (dk_at dksX7_save_1 15 rfl rfl)
theorem dX7_save_40 : decode cX7_save 40 = .ok (.iadd, 1) := dk_96 (dk_at dksX7_save_1 16 rfl rfl)
theorem dX7_save_41 : decode cX7_save 41 = .ok (.aload_n 0, 1) := dk_42 (dk_at dksX7_save_1 17 rfl rfl)
theorem dX7_save_42 : decode cX7_save 42 = .ok (.getfield 7, 3) := dk_180 0 7 (dk_at dksX7_save_1 18 rfl rfl)
theorem dX7_save_45 : decode cX7_save 45 = .ok (.iload_n 2, 1) := dk_28 (dk_at dksX7_save_1 21 rfl rfl)
theorem dX7_save_46 : decode cX7_save 46 = .ok (.iaload, 1) := dk_46 (dk_at dksX7_save_1 22 rfl rfl)
theorem dX7_save_47 : decode cX7_save 47 = .ok (.iastore, 1) := dk_79 (dk_at dksX7_save_1 23 rfl rfl)
theorem dX7_save_48 : decode cX7_save 48 = .ok (.iinc 2 1, 3) := dk_132 2 1 (dk_at dksX7_save_2 0 rfl rfl)
theorem dX7_save_51 : decode cX7_save 51 = .ok (.goto (-28), 3) := dk_167 255 228 (dk_at dksX7_save_2 3 rfl rfl)
theorem dX7_save_54 : decode cX7_save 54 = .ok (.aload_n 0, 1) := dk_42 (dk_at dksX7_save_2 6 rfl rfl)
theorem dX7_save_55 : decode cX7_save 55 = .ok (.getfield 25, 3) := dk_180 0 25 (dk_at dksX7_save_2 7 rfl rfl)
theorem dX7_save_58 : decode cX7_save 58 = .ok (.iload_n 1, 1) := dk_27 (dk_at dksX7_save_2 10 rfl rfl)
theorem dX7_save_59 : decode cX7_save 59 = .ok (.iconst 1, 1) := dk_4 (dk_at dksX7_save_2 11 rfl rfl)
theorem dX7_save_60 : decode cX7_save 60 = .ok (.bastore, 1) := dk_84 (dk_at dksX7_save_2 12 rfl rfl)
theorem dX7_save_61 : decode cX7_save 61 = .ok (.aload_n 0, 1) := dk_42 (dk_at dksX7_save_2 13 rfl rfl)
theorem dX7_save_62 : decode cX7_save 62 = .ok (.getfield 7, 3) := dk_180 0 7 (dk_at dksX7_save_2 14 rfl rfl)
theorem dX7_save_65 : decode cX7_save 65 = .ok (.iconst 5, 1) := dk_8 (dk_at dksX7_save_2 17 rfl rfl)
theorem dX7_save_66 : decode cX7_save 66 = .ok (.iaload, 1) := dk_46 (dk_at dksX7_save_2 18 rfl rfl)
theorem dX7_save_67 : decode cX7_save 67 = .ok (.ireturn, 1) := dk_172 (dk_at dksX7_save_2 19 rfl rfl)
abbrev cX7_restore : ByteArray := prog_21_method_132_code
def yX7_restore : MethodName := ⟨RX7, "restore", "(I)I"⟩
def dkwX7_restore_3 : List UInt8 := [181, 1, 26, 42, 180, 0, 7, 8, 46, 172]
abbrev dktX7_restore_3 : List UInt8 := dkwX7_restore_3 ++ []
def dkwX7_restore_2 : List UInt8 := [28, 42, 180, 0, 22, 17, 0, 212, 27, 104, 28, 96, 46, 79, 132, 2, 1, 167, 255, 228, 42, 3]
abbrev dktX7_restore_2 : List UInt8 := dkwX7_restore_2 ++ dktX7_restore_3
def dkwX7_restore_1 : List UInt8 := [27, 51, 5, 182, 0, 176, 154, 0, 5, 3, 172, 3, 61, 28, 17, 0, 212, 162, 0, 27, 42, 180, 0, 7]
abbrev dktX7_restore_1 : List UInt8 := dkwX7_restore_1 ++ dktX7_restore_2
def dkwX7_restore_0 : List UInt8 := [42, 3, 181, 0, 85, 42, 27, 3, 4, 184, 0, 88, 4, 182, 0, 176, 153, 0, 17, 42, 42, 180, 0, 25]
abbrev dktX7_restore_0 : List UInt8 := dkwX7_restore_0 ++ dktX7_restore_1
theorem dksX7_restore_0 : cX7_restore.data.toList.drop 0 = dktX7_restore_0 := by decide +kernel
theorem dksX7_restore_1 : cX7_restore.data.toList.drop 24 = dktX7_restore_1 := dk_seg dksX7_restore_0 24 rfl rfl
theorem dksX7_restore_2 : cX7_restore.data.toList.drop 48 = dktX7_restore_2 := dk_seg dksX7_restore_1 24 rfl rfl
theorem dksX7_restore_3 : cX7_restore.data.toList.drop 70 = dktX7_restore_3 := dk_seg dksX7_restore_2 22 rfl rfl
theorem dX7_restore_0 : decode cX7_restore 0 = .ok (.aload_n 0, 1) := dk_42 (dk_at dksX7_restore_0 0 rfl rfl)
theorem dX7_restore_1 : decode cX7_restore 1 = .ok (.iconst 0, 1) := dk_3 (dk_at dksX7_restore_0 1 rfl rfl)
theorem dX7_restore_2 : decode cX7_restore 2 = .ok (.putfield 85, 3) := dk_181 0 85 (dk_at dksX7_restore_0 2 rfl rfl)
theorem dX7_restore_5 : decode cX7_restore 5 = .ok (.aload_n 0, 1) := dk_42 (dk_at dksX7_restore_0 5 rfl rfl)
theorem dX7_restore_6 : decode cX7_restore 6 = .ok (.iload_n 1, 1) := dk_27 (dk_at dksX7_restore_0 6 rfl rfl)
theorem dX7_restore_7 : decode cX7_restore 7 = .ok (.iconst 0, 1) := dk_3 (dk_at dksX7_restore_0 7 rfl rfl)
theorem dX7_restore_8 : decode cX7_restore 8 = .ok (.iconst 1, 1) := dk_4 (dk_at dksX7_restore_0 8 rfl rfl)
theorem dX7_restore_9 : decode cX7_restore 9 = .ok (.invokestatic 88, 3) := dk_184 0 88 (dk_at dksX7_restore_0 9 rfl rfl)
theorem dX7_restore_12 : decode cX7_restore 12 = .ok (.iconst 1, 1) := dk_4 (dk_at dksX7_restore_0 12 rfl rfl)
theorem dX7_restore_13 : decode cX7_restore 13 = .ok (.invokevirtual 176, 3) := dk_182 0 176 (dk_at dksX7_restore_0 13 rfl rfl)
theorem dX7_restore_16 : decode cX7_restore 16 = .ok (.ifCond .eq 17, 3) := dk_153 0 17 (dk_at dksX7_restore_0 16 rfl rfl)
theorem dX7_restore_19 : decode cX7_restore 19 = .ok (.aload_n 0, 1) := dk_42 (dk_at dksX7_restore_0 19 rfl rfl)
theorem dX7_restore_20 : decode cX7_restore 20 = .ok (.aload_n 0, 1) := dk_42 (dk_at dksX7_restore_0 20 rfl rfl)
theorem dX7_restore_21 : decode cX7_restore 21 = .ok (.getfield 25, 3) := dk_180 0 25 (dk_at dksX7_restore_0 21 rfl rfl)
theorem dX7_restore_24 : decode cX7_restore 24 = .ok (.iload_n 1, 1) := dk_27 (dk_at dksX7_restore_1 0 rfl rfl)
theorem dX7_restore_25 : decode cX7_restore 25 = .ok (.baload, 1) := dk_51 (dk_at dksX7_restore_1 1 rfl rfl)
theorem dX7_restore_26 : decode cX7_restore 26 = .ok (.iconst 2, 1) := dk_5 (dk_at dksX7_restore_1 2 rfl rfl)
theorem dX7_restore_27 : decode cX7_restore 27 = .ok (.invokevirtual 176, 3) := dk_182 0 176 (dk_at dksX7_restore_1 3 rfl rfl)
theorem dX7_restore_30 : decode cX7_restore 30 = .ok (.ifCond .ne 5, 3) := dk_154 0 5 (dk_at dksX7_restore_1 6 rfl rfl)
theorem dX7_restore_33 : decode cX7_restore 33 = .ok (.iconst 0, 1) := dk_3 (dk_at dksX7_restore_1 9 rfl rfl)
theorem dX7_restore_34 : decode cX7_restore 34 = .ok (.ireturn, 1) := dk_172 (dk_at dksX7_restore_1 10 rfl rfl)
theorem dX7_restore_35 : decode cX7_restore 35 = .ok (.iconst 0, 1) := dk_3 (dk_at dksX7_restore_1 11 rfl rfl)
theorem dX7_restore_36 : decode cX7_restore 36 = .ok (.istore_n 2, 1) := dk_61 (dk_at dksX7_restore_1 12 rfl rfl)
theorem dX7_restore_37 : decode cX7_restore 37 = .ok (.iload_n 2, 1) := dk_28 (dk_at dksX7_restore_1 13 rfl rfl)
theorem dX7_restore_38 : decode cX7_restore 38 = .ok (.sipush 212, 3) := dk_17 0 212 (dk_at dksX7_restore_1 14 rfl rfl)
theorem dX7_restore_41 : decode cX7_restore 41 = .ok (.if_icmp .ge 27, 3) := dk_162 0 27 (dk_at dksX7_restore_1 17 rfl rfl)
theorem dX7_restore_44 : decode cX7_restore 44 = .ok (.aload_n 0, 1) := dk_42 (dk_at dksX7_restore_1 20 rfl rfl)
theorem dX7_restore_45 : decode cX7_restore 45 = .ok (.getfield 7, 3) := dk_180 0 7 (dk_at dksX7_restore_1 21 rfl rfl)
theorem dX7_restore_48 : decode cX7_restore 48 = .ok (.iload_n 2, 1) := dk_28 (dk_at dksX7_restore_2 0 rfl rfl)
theorem dX7_restore_49 : decode cX7_restore 49 = .ok (.aload_n 0, 1) := dk_42 (dk_at dksX7_restore_2 1 rfl rfl)
theorem dX7_restore_50 : decode cX7_restore 50 = .ok (.getfield 22, 3) := dk_180 0 22 (dk_at dksX7_restore_2 2 rfl rfl)
theorem dX7_restore_53 : decode cX7_restore 53 = .ok (.sipush 212, 3) := dk_17 0 212 (dk_at dksX7_restore_2 5 rfl rfl)
theorem dX7_restore_56 : decode cX7_restore 56 = .ok (.iload_n 1, 1) := dk_27 (dk_at dksX7_restore_2 8 rfl rfl)
theorem dX7_restore_57 : decode cX7_restore 57 = .ok (.imul, 1) := dk_104 (dk_at dksX7_restore_2 9 rfl rfl)
theorem dX7_restore_58 : decode cX7_restore 58 = .ok (.iload_n 2, 1) := dk_28 (dk_at dksX7_restore_2 10 rfl rfl)
theorem dX7_restore_59 : decode cX7_restore 59 = .ok (.iadd, 1) := dk_96 (dk_at dksX7_restore_2 11 rfl rfl)
theorem dX7_restore_60 : decode cX7_restore 60 = .ok (.iaload, 1) := dk_46 (dk_at dksX7_restore_2 12 rfl rfl)
theorem dX7_restore_61 : decode cX7_restore 61 = .ok (.iastore, 1) := dk_79 (dk_at dksX7_restore_2 13 rfl rfl)
theorem dX7_restore_62 : decode cX7_restore 62 = .ok (.iinc 2 1, 3) := dk_132 2 1 (dk_at dksX7_restore_2 14 rfl rfl)
theorem dX7_restore_65 : decode cX7_restore 65 = .ok (.goto (-28), 3) := dk_167 255 228 (dk_at dksX7_restore_2 17 rfl rfl)
theorem dX7_restore_68 : decode cX7_restore 68 = .ok (.aload_n 0, 1) := dk_42 (dk_at dksX7_restore_2 20 rfl rfl)
theorem dX7_restore_69 : decode cX7_restore 69 = .ok (.iconst 0, 1) := dk_3 (dk_at dksX7_restore_2 21 rfl rfl)
theorem dX7_restore_70 : decode cX7_restore 70 = .ok (.putfield 282, 3) := dk_181 1 26 (dk_at dksX7_restore_3 0 rfl rfl)
theorem dX7_restore_73 : decode cX7_restore 73 = .ok (.aload_n 0, 1) := dk_42 (dk_at dksX7_restore_3 3 rfl rfl)
theorem dX7_restore_74 : decode cX7_restore 74 = .ok (.getfield 7, 3) := dk_180 0 7 (dk_at dksX7_restore_3 4 rfl rfl)
theorem dX7_restore_77 : decode cX7_restore 77 = .ok (.iconst 5, 1) := dk_8 (dk_at dksX7_restore_3 7 rfl rfl)
theorem dX7_restore_78 : decode cX7_restore 78 = .ok (.iaload, 1) := dk_46 (dk_at dksX7_restore_3 8 rfl rfl)
theorem dX7_restore_79 : decode cX7_restore 79 = .ok (.ireturn, 1) := dk_172 (dk_at dksX7_restore_3 9 rfl rfl)
theorem q185 : (Jvm.Cond.initialized "RoseGuildModel") ∈ lw_all := lw_g (lw_at lw_m1 50 rfl) rfl
theorem q1000 : (Jvm.Cond.selects "RoseGuildModel" ({ cls := "java/lang/Object", name := "getClass", desc := "()Ljava/lang/Class;" } : Jvm.MethodName) ({ cls := "java/lang/Object", name := "getClass", desc := "()Ljava/lang/Class;" } : Jvm.MethodName)) ∈ lw_all := lw_g (lw_at lw_m4 145 rfl) rfl
theorem q1065 : (Jvm.Cond.selects "RoseGuildModel" ({ cls := "java/lang/Object", name := "toString", desc := "()Ljava/lang/String;" } : Jvm.MethodName) ({ cls := "java/lang/Object", name := "toString", desc := "()Ljava/lang/String;" } : Jvm.MethodName)) ∈ lw_all := lw_g (lw_at lw_m4 210 rfl) rfl
theorem q1464 : (Jvm.Cond.selects "RoseGuildModel" ({ cls := "java/lang/Object", name := "hashCode", desc := "()I" } : Jvm.MethodName) ({ cls := "java/lang/Object", name := "hashCode", desc := "()I" } : Jvm.MethodName)) ∈ lw_all := lw_g (lw_at lw_m6 129 rfl) rfl
theorem q1880 : (Jvm.Cond.selects "RoseGuildModel" ({ cls := "java/lang/Object", name := "equals", desc := "(Ljava/lang/Object;)Z" } : Jvm.MethodName) ({ cls := "java/lang/Object", name := "equals", desc := "(Ljava/lang/Object;)Z" } : Jvm.MethodName)) ∈ lw_all := lw_g (lw_at lw_m8 65 rfl) rfl
theorem q3672 : (Jvm.Cond.instantiable "RoseGuildModel" (33 : Nat)) ∈ lw_all := lw_g (lw_at lw_m15 177 rfl) rfl
theorem q3674 : (Jvm.Cond.instanceMethod ({ cls := "RoseGuildModel", name := "<init>", desc := "()V" } : Jvm.MethodName)) ∈ lw_all := lw_g (lw_at lw_m15 179 rfl) rfl
theorem q3675 : (Jvm.Cond.code ({ cls := "RoseGuildModel", name := "<init>", desc := "()V" } : Jvm.MethodName) prog_21_method_1_code (1 : Nat) (Option.none : Option Jvm.ClassFile.FieldType)) ∈ lw_all := lw_g (lw_at lw_m15 180 rfl) rfl
theorem q3676 : (Jvm.Cond.methodLink "RoseGuildModel" (1 : Nat) ({ cls := "java/lang/Object", name := "<init>", desc := "()V" } : Jvm.MethodName)) ∈ lw_all := lw_g (lw_at lw_m15 181 rfl) rfl
theorem q3677 : (Jvm.Cond.stringRef "RoseGuildModel" (60 : Nat) "guild 5 2 9 30 1; street bow 2 1 12 40; street elm 5 1 30 60; street oak 2 4 7 50; garden kew 4 3 9; garden ros 8 1 14; cart 20 3; cart 35 2; cart 10 5;") ∈ lw_tbl := lw_at lw_m15 182 rfl
theorem q3678 : (Jvm.Cond.methodLink "RoseGuildModel" (62 : Nat) ({ cls := "RoseGuildModel", name := "takesText", desc := "(Ljava/lang/String;)V" } : Jvm.MethodName)) ∈ lw_all := lw_g (lw_at lw_m15 183 rfl) rfl
theorem q3679 : (Jvm.Cond.privateMethod ({ cls := "RoseGuildModel", name := "takesText", desc := "(Ljava/lang/String;)V" } : Jvm.MethodName)) ∈ lw_tbl := lw_at lw_m15 184 rfl
theorem q3680 : (Jvm.Cond.instanceMethod ({ cls := "RoseGuildModel", name := "takesText", desc := "(Ljava/lang/String;)V" } : Jvm.MethodName)) ∈ lw_all := lw_g (lw_at lw_m15 185 rfl) rfl
theorem q3681 : (Jvm.Cond.code ({ cls := "RoseGuildModel", name := "takesText", desc := "(Ljava/lang/String;)V" } : Jvm.MethodName) prog_21_method_2_code (3 : Nat) (Option.none : Option Jvm.ClassFile.FieldType)) ∈ lw_all := lw_g (lw_at lw_m15 186 rfl) rfl
theorem q3682 : (Jvm.Cond.methodLink "RoseGuildModel" (66 : Nat) ({ cls := "java/lang/String", name := "length", desc := "()I" } : Jvm.MethodName)) ∈ lw_all := lw_g (lw_at lw_m15 187 rfl) rfl
theorem q3683 : (Jvm.Cond.methodLink "RoseGuildModel" (72 : Nat) ({ cls := "java/lang/String", name := "charAt", desc := "(I)C" } : Jvm.MethodName)) ∈ lw_all := lw_g (lw_at lw_m15 188 rfl) rfl
theorem q3684 : (Jvm.Cond.methodLink "RoseGuildModel" (79 : Nat) ({ cls := "RoseGuildModel", name := "starts", desc := "()V" } : Jvm.MethodName)) ∈ lw_all := lw_g (lw_at lw_m15 189 rfl) rfl
theorem q3685 : (Jvm.Cond.privateMethod ({ cls := "RoseGuildModel", name := "starts", desc := "()V" } : Jvm.MethodName)) ∈ lw_tbl := lw_at lw_m15 190 rfl
theorem q3686 : (Jvm.Cond.instanceMethod ({ cls := "RoseGuildModel", name := "starts", desc := "()V" } : Jvm.MethodName)) ∈ lw_all := lw_g (lw_at lw_m15 191 rfl) rfl
theorem q3687 : (Jvm.Cond.code ({ cls := "RoseGuildModel", name := "starts", desc := "()V" } : Jvm.MethodName) prog_21_method_40_code (1 : Nat) (Option.none : Option Jvm.ClassFile.FieldType)) ∈ lw_all := lw_g (lw_at lw_m15 192 rfl) rfl
theorem q3688 : (Jvm.Cond.methodLink "RoseGuildModel" (204 : Nat) ({ cls := "RoseGuildModel", name := "reads", desc := "()V" } : Jvm.MethodName)) ∈ lw_all := lw_g (lw_at lw_m15 193 rfl) rfl
theorem q3689 : (Jvm.Cond.privateMethod ({ cls := "RoseGuildModel", name := "reads", desc := "()V" } : Jvm.MethodName)) ∈ lw_tbl := lw_at lw_m15 194 rfl
theorem q3690 : (Jvm.Cond.instanceMethod ({ cls := "RoseGuildModel", name := "reads", desc := "()V" } : Jvm.MethodName)) ∈ lw_all := lw_g (lw_at lw_m15 195 rfl) rfl
theorem q3691 : (Jvm.Cond.code ({ cls := "RoseGuildModel", name := "reads", desc := "()V" } : Jvm.MethodName) prog_21_method_39_code (2 : Nat) (Option.none : Option Jvm.ClassFile.FieldType)) ∈ lw_all := lw_g (lw_at lw_m15 196 rfl) rfl
theorem q3692 : (Jvm.Cond.methodLink "RoseGuildModel" (186 : Nat) ({ cls := "RoseGuildModel", name := "seen", desc := "(I)I" } : Jvm.MethodName)) ∈ lw_all := lw_g (lw_at lw_m15 197 rfl) rfl
theorem q3693 : (Jvm.Cond.privateMethod ({ cls := "RoseGuildModel", name := "seen", desc := "(I)I" } : Jvm.MethodName)) ∈ lw_tbl := lw_at lw_m15 198 rfl
theorem q3694 : (Jvm.Cond.instanceMethod ({ cls := "RoseGuildModel", name := "seen", desc := "(I)I" } : Jvm.MethodName)) ∈ lw_all := lw_g (lw_at lw_m15 199 rfl) rfl
theorem q3695 : (Jvm.Cond.code ({ cls := "RoseGuildModel", name := "seen", desc := "(I)I" } : Jvm.MethodName) prog_21_method_38_code (2 : Nat) (Option.some Jvm.ClassFile.FieldType.int)) ∈ lw_all := lw_g (lw_at lw_m15 200 rfl) rfl
theorem q3696 : (Jvm.Cond.methodLink "RoseGuildModel" (88 : Nat) ({ cls := "RoseGuildModel", name := "in", desc := "(III)Z" } : Jvm.MethodName)) ∈ lw_all := lw_g (lw_at lw_m15 201 rfl) rfl
theorem q3697 : (Jvm.Cond.static ({ cls := "RoseGuildModel", name := "in", desc := "(III)Z" } : Jvm.MethodName)) ∈ lw_all := lw_g (lw_at lw_m15 202 rfl) rfl
theorem q3698 : (Jvm.Cond.code ({ cls := "RoseGuildModel", name := "in", desc := "(III)Z" } : Jvm.MethodName) prog_21_method_4_code (3 : Nat) (Option.some Jvm.ClassFile.FieldType.boolean)) ∈ lw_all := lw_g (lw_at lw_m15 203 rfl) rfl
theorem q3699 : (Jvm.Cond.methodLink "RoseGuildModel" (115 : Nat) ({ cls := "java/lang/Math", name := "min", desc := "(II)I" } : Jvm.MethodName)) ∈ lw_all := lw_g (lw_at lw_m15 204 rfl) rfl
theorem q3700 : (Jvm.Cond.methodLink "RoseGuildModel" (82 : Nat) ({ cls := "RoseGuildModel", name := "readsSetup", desc := "()V" } : Jvm.MethodName)) ∈ lw_all := lw_g (lw_at lw_m15 205 rfl) rfl
theorem q3701 : (Jvm.Cond.privateMethod ({ cls := "RoseGuildModel", name := "readsSetup", desc := "()V" } : Jvm.MethodName)) ∈ lw_tbl := lw_at lw_m15 206 rfl
theorem q3702 : (Jvm.Cond.instanceMethod ({ cls := "RoseGuildModel", name := "readsSetup", desc := "()V" } : Jvm.MethodName)) ∈ lw_all := lw_g (lw_at lw_m15 207 rfl) rfl
theorem q3703 : (Jvm.Cond.code ({ cls := "RoseGuildModel", name := "readsSetup", desc := "()V" } : Jvm.MethodName) prog_21_method_59_code (1 : Nat) (Option.none : Option Jvm.ClassFile.FieldType)) ∈ lw_all := lw_g (lw_at lw_m15 208 rfl) rfl
theorem q3704 : (Jvm.Cond.stringRef "RoseGuildModel" (267 : Nat) "guild") ∈ lw_tbl := lw_at lw_m15 209 rfl
theorem q3705 : (Jvm.Cond.methodLink "RoseGuildModel" (252 : Nat) ({ cls := "RoseGuildModel", name := "isWord", desc := "(Ljava/lang/String;)Z" } : Jvm.MethodName)) ∈ lw_all := lw_g (lw_at lw_m15 210 rfl) rfl
theorem q3706 : (Jvm.Cond.privateMethod ({ cls := "RoseGuildModel", name := "isWord", desc := "(Ljava/lang/String;)Z" } : Jvm.MethodName)) ∈ lw_tbl := lw_at lw_m15 211 rfl
theorem q3707 : (Jvm.Cond.instanceMethod ({ cls := "RoseGuildModel", name := "isWord", desc := "(Ljava/lang/String;)Z" } : Jvm.MethodName)) ∈ lw_all := lw_g (lw_at lw_m15 212 rfl) rfl
theorem q3708 : (Jvm.Cond.code ({ cls := "RoseGuildModel", name := "isWord", desc := "(Ljava/lang/String;)Z" } : Jvm.MethodName) prog_21_method_44_code (3 : Nat) (Option.some Jvm.ClassFile.FieldType.boolean)) ∈ lw_all := lw_g (lw_at lw_m15 213 rfl) rfl
theorem q3709 : (Jvm.Cond.methodLink "RoseGuildModel" (210 : Nat) ({ cls := "RoseGuildModel", name := "must", desc := "(ZI)Z" } : Jvm.MethodName)) ∈ lw_all := lw_g (lw_at lw_m15 214 rfl) rfl
theorem q3710 : (Jvm.Cond.privateMethod ({ cls := "RoseGuildModel", name := "must", desc := "(ZI)Z" } : Jvm.MethodName)) ∈ lw_tbl := lw_at lw_m15 215 rfl
theorem q3711 : (Jvm.Cond.instanceMethod ({ cls := "RoseGuildModel", name := "must", desc := "(ZI)Z" } : Jvm.MethodName)) ∈ lw_all := lw_g (lw_at lw_m15 216 rfl) rfl
theorem q3712 : (Jvm.Cond.code ({ cls := "RoseGuildModel", name := "must", desc := "(ZI)Z" } : Jvm.MethodName) prog_21_method_41_code (3 : Nat) (Option.some Jvm.ClassFile.FieldType.boolean)) ∈ lw_all := lw_g (lw_at lw_m15 217 rfl) rfl
theorem q3713 : (Jvm.Cond.methodLink "RoseGuildModel" (213 : Nat) ({ cls := "RoseGuildModel", name := "goesOn", desc := "()V" } : Jvm.MethodName)) ∈ lw_all := lw_g (lw_at lw_m15 218 rfl) rfl
theorem q3714 : (Jvm.Cond.privateMethod ({ cls := "RoseGuildModel", name := "goesOn", desc := "()V" } : Jvm.MethodName)) ∈ lw_tbl := lw_at lw_m15 219 rfl
theorem q3715 : (Jvm.Cond.instanceMethod ({ cls := "RoseGuildModel", name := "goesOn", desc := "()V" } : Jvm.MethodName)) ∈ lw_all := lw_g (lw_at lw_m15 220 rfl) rfl
theorem q3716 : (Jvm.Cond.code ({ cls := "RoseGuildModel", name := "goesOn", desc := "()V" } : Jvm.MethodName) prog_21_method_42_code (1 : Nat) (Option.none : Option Jvm.ClassFile.FieldType)) ∈ lw_all := lw_g (lw_at lw_m15 221 rfl) rfl
theorem q3717 : (Jvm.Cond.methodLink "RoseGuildModel" (238 : Nat) ({ cls := "RoseGuildModel", name := "number", desc := "(II)I" } : Jvm.MethodName)) ∈ lw_all := lw_g (lw_at lw_m15 222 rfl) rfl
theorem q3718 : (Jvm.Cond.privateMethod ({ cls := "RoseGuildModel", name := "number", desc := "(II)I" } : Jvm.MethodName)) ∈ lw_tbl := lw_at lw_m15 223 rfl
theorem q3719 : (Jvm.Cond.instanceMethod ({ cls := "RoseGuildModel", name := "number", desc := "(II)I" } : Jvm.MethodName)) ∈ lw_all := lw_g (lw_at lw_m15 224 rfl) rfl
theorem q3720 : (Jvm.Cond.code ({ cls := "RoseGuildModel", name := "number", desc := "(II)I" } : Jvm.MethodName) prog_21_method_47_code (5 : Nat) (Option.some Jvm.ClassFile.FieldType.int)) ∈ lw_all := lw_g (lw_at lw_m15 225 rfl) rfl
theorem q3721 : (Jvm.Cond.methodLink "RoseGuildModel" (216 : Nat) ({ cls := "RoseGuildModel", name := "looksAt", desc := "(II)Z" } : Jvm.MethodName)) ∈ lw_all := lw_g (lw_at lw_m15 226 rfl) rfl
theorem q3722 : (Jvm.Cond.privateMethod ({ cls := "RoseGuildModel", name := "looksAt", desc := "(II)Z" } : Jvm.MethodName)) ∈ lw_tbl := lw_at lw_m15 227 rfl
theorem q3723 : (Jvm.Cond.instanceMethod ({ cls := "RoseGuildModel", name := "looksAt", desc := "(II)Z" } : Jvm.MethodName)) ∈ lw_all := lw_g (lw_at lw_m15 228 rfl) rfl
theorem q3724 : (Jvm.Cond.code ({ cls := "RoseGuildModel", name := "looksAt", desc := "(II)Z" } : Jvm.MethodName) prog_21_method_46_code (3 : Nat) (Option.some Jvm.ClassFile.FieldType.boolean)) ∈ lw_all := lw_g (lw_at lw_m15 229 rfl) rfl
theorem q3725 : (Jvm.Cond.methodLink "RoseGuildModel" (260 : Nat) ({ cls := "RoseGuildModel", name := "takesSign", desc := "(I)V" } : Jvm.MethodName)) ∈ lw_all := lw_g (lw_at lw_m15 230 rfl) rfl
theorem q3726 : (Jvm.Cond.privateMethod ({ cls := "RoseGuildModel", name := "takesSign", desc := "(I)V" } : Jvm.MethodName)) ∈ lw_tbl := lw_at lw_m15 231 rfl
theorem q3727 : (Jvm.Cond.instanceMethod ({ cls := "RoseGuildModel", name := "takesSign", desc := "(I)V" } : Jvm.MethodName)) ∈ lw_all := lw_g (lw_at lw_m15 232 rfl) rfl
theorem q3728 : (Jvm.Cond.code ({ cls := "RoseGuildModel", name := "takesSign", desc := "(I)V" } : Jvm.MethodName) prog_21_method_45_code (2 : Nat) (Option.none : Option Jvm.ClassFile.FieldType)) ∈ lw_all := lw_g (lw_at lw_m15 233 rfl) rfl
theorem q3729 : (Jvm.Cond.methodLink "RoseGuildModel" (207 : Nat) ({ cls := "RoseGuildModel", name := "isSign", desc := "(I)Z" } : Jvm.MethodName)) ∈ lw_all := lw_g (lw_at lw_m15 234 rfl) rfl
theorem q3730 : (Jvm.Cond.privateMethod ({ cls := "RoseGuildModel", name := "isSign", desc := "(I)Z" } : Jvm.MethodName)) ∈ lw_tbl := lw_at lw_m15 235 rfl
theorem q3731 : (Jvm.Cond.instanceMethod ({ cls := "RoseGuildModel", name := "isSign", desc := "(I)Z" } : Jvm.MethodName)) ∈ lw_all := lw_g (lw_at lw_m15 236 rfl) rfl
theorem q3732 : (Jvm.Cond.code ({ cls := "RoseGuildModel", name := "isSign", desc := "(I)Z" } : Jvm.MethodName) prog_21_method_43_code (2 : Nat) (Option.some Jvm.ClassFile.FieldType.boolean)) ∈ lw_all := lw_g (lw_at lw_m15 237 rfl) rfl
theorem q3733 : (Jvm.Cond.methodLink "RoseGuildModel" (269 : Nat) ({ cls := "RoseGuildModel", name := "readsStreet", desc := "()V" } : Jvm.MethodName)) ∈ lw_all := lw_g (lw_at lw_m15 238 rfl) rfl
theorem q3734 : (Jvm.Cond.privateMethod ({ cls := "RoseGuildModel", name := "readsStreet", desc := "()V" } : Jvm.MethodName)) ∈ lw_tbl := lw_at lw_m15 239 rfl
theorem q3735 : (Jvm.Cond.instanceMethod ({ cls := "RoseGuildModel", name := "readsStreet", desc := "()V" } : Jvm.MethodName)) ∈ lw_all := lw_g (lw_at lw_m16 0 rfl) rfl
theorem q3736 : (Jvm.Cond.code ({ cls := "RoseGuildModel", name := "readsStreet", desc := "()V" } : Jvm.MethodName) prog_21_method_56_code (4 : Nat) (Option.none : Option Jvm.ClassFile.FieldType)) ∈ lw_all := lw_g (lw_at lw_m16 1 rfl) rfl
theorem q3737 : (Jvm.Cond.stringRef "RoseGuildModel" (250 : Nat) "street") ∈ lw_tbl := lw_at lw_m16 2 rfl
theorem q3738 : (Jvm.Cond.methodLink "RoseGuildModel" (256 : Nat) ({ cls := "RoseGuildModel", name := "readsPlace", desc := "(Z)V" } : Jvm.MethodName)) ∈ lw_all := lw_g (lw_at lw_m16 3 rfl) rfl
theorem q3739 : (Jvm.Cond.privateMethod ({ cls := "RoseGuildModel", name := "readsPlace", desc := "(Z)V" } : Jvm.MethodName)) ∈ lw_tbl := lw_at lw_m16 4 rfl
theorem q3740 : (Jvm.Cond.instanceMethod ({ cls := "RoseGuildModel", name := "readsPlace", desc := "(Z)V" } : Jvm.MethodName)) ∈ lw_all := lw_g (lw_at lw_m16 5 rfl) rfl
theorem q3741 : (Jvm.Cond.code ({ cls := "RoseGuildModel", name := "readsPlace", desc := "(Z)V" } : Jvm.MethodName) prog_21_method_55_code (2 : Nat) (Option.none : Option Jvm.ClassFile.FieldType)) ∈ lw_all := lw_g (lw_at lw_m16 6 rfl) rfl
theorem q3742 : (Jvm.Cond.methodLink "RoseGuildModel" (226 : Nat) ({ cls := "RoseGuildModel", name := "looksAtName", desc := "()I" } : Jvm.MethodName)) ∈ lw_all := lw_g (lw_at lw_m16 7 rfl) rfl
theorem q3743 : (Jvm.Cond.privateMethod ({ cls := "RoseGuildModel", name := "looksAtName", desc := "()I" } : Jvm.MethodName)) ∈ lw_tbl := lw_at lw_m16 8 rfl
theorem q3744 : (Jvm.Cond.instanceMethod ({ cls := "RoseGuildModel", name := "looksAtName", desc := "()I" } : Jvm.MethodName)) ∈ lw_all := lw_g (lw_at lw_m16 9 rfl) rfl
theorem q3745 : (Jvm.Cond.code ({ cls := "RoseGuildModel", name := "looksAtName", desc := "()I" } : Jvm.MethodName) prog_21_method_51_code (1 : Nat) (Option.some Jvm.ClassFile.FieldType.int)) ∈ lw_all := lw_g (lw_at lw_m16 10 rfl) rfl
theorem q3746 : (Jvm.Cond.methodLink "RoseGuildModel" (220 : Nat) ({ cls := "RoseGuildModel", name := "packed", desc := "(II)I" } : Jvm.MethodName)) ∈ lw_all := lw_g (lw_at lw_m16 11 rfl) rfl
theorem q3747 : (Jvm.Cond.privateMethod ({ cls := "RoseGuildModel", name := "packed", desc := "(II)I" } : Jvm.MethodName)) ∈ lw_tbl := lw_at lw_m16 12 rfl
theorem q3748 : (Jvm.Cond.instanceMethod ({ cls := "RoseGuildModel", name := "packed", desc := "(II)I" } : Jvm.MethodName)) ∈ lw_all := lw_g (lw_at lw_m16 13 rfl) rfl
theorem q3749 : (Jvm.Cond.code ({ cls := "RoseGuildModel", name := "packed", desc := "(II)I" } : Jvm.MethodName) prog_21_method_48_code (5 : Nat) (Option.some Jvm.ClassFile.FieldType.int)) ∈ lw_all := lw_g (lw_at lw_m16 14 rfl) rfl
theorem q3750 : (Jvm.Cond.methodLink "RoseGuildModel" (232 : Nat) ({ cls := "RoseGuildModel", name := "streetNamed", desc := "(I)I" } : Jvm.MethodName)) ∈ lw_all := lw_g (lw_at lw_m16 15 rfl) rfl
theorem q3751 : (Jvm.Cond.privateMethod ({ cls := "RoseGuildModel", name := "streetNamed", desc := "(I)I" } : Jvm.MethodName)) ∈ lw_tbl := lw_at lw_m16 16 rfl
theorem q3752 : (Jvm.Cond.instanceMethod ({ cls := "RoseGuildModel", name := "streetNamed", desc := "(I)I" } : Jvm.MethodName)) ∈ lw_all := lw_g (lw_at lw_m16 17 rfl) rfl
theorem q3753 : (Jvm.Cond.code ({ cls := "RoseGuildModel", name := "streetNamed", desc := "(I)I" } : Jvm.MethodName) prog_21_method_49_code (3 : Nat) (Option.some Jvm.ClassFile.FieldType.int)) ∈ lw_all := lw_g (lw_at lw_m16 18 rfl) rfl
theorem q3754 : (Jvm.Cond.methodLink "RoseGuildModel" (96 : Nat) ({ cls := "RoseGuildModel", name := "ofS", desc := "(II)I" } : Jvm.MethodName)) ∈ lw_all := lw_g (lw_at lw_m16 19 rfl) rfl
theorem q3755 : (Jvm.Cond.privateMethod ({ cls := "RoseGuildModel", name := "ofS", desc := "(II)I" } : Jvm.MethodName)) ∈ lw_tbl := lw_at lw_m16 20 rfl
theorem q3756 : (Jvm.Cond.instanceMethod ({ cls := "RoseGuildModel", name := "ofS", desc := "(II)I" } : Jvm.MethodName)) ∈ lw_all := lw_g (lw_at lw_m16 21 rfl) rfl
theorem q3757 : (Jvm.Cond.code ({ cls := "RoseGuildModel", name := "ofS", desc := "(II)I" } : Jvm.MethodName) prog_21_method_6_code (3 : Nat) (Option.some Jvm.ClassFile.FieldType.int)) ∈ lw_all := lw_g (lw_at lw_m16 22 rfl) rfl
theorem q3758 : (Jvm.Cond.methodLink "RoseGuildModel" (235 : Nat) ({ cls := "RoseGuildModel", name := "gardenNamed", desc := "(I)I" } : Jvm.MethodName)) ∈ lw_all := lw_g (lw_at lw_m16 23 rfl) rfl
theorem q3759 : (Jvm.Cond.privateMethod ({ cls := "RoseGuildModel", name := "gardenNamed", desc := "(I)I" } : Jvm.MethodName)) ∈ lw_tbl := lw_at lw_m16 24 rfl
theorem q3760 : (Jvm.Cond.instanceMethod ({ cls := "RoseGuildModel", name := "gardenNamed", desc := "(I)I" } : Jvm.MethodName)) ∈ lw_all := lw_g (lw_at lw_m16 25 rfl) rfl
theorem q3761 : (Jvm.Cond.code ({ cls := "RoseGuildModel", name := "gardenNamed", desc := "(I)I" } : Jvm.MethodName) prog_21_method_50_code (3 : Nat) (Option.some Jvm.ClassFile.FieldType.int)) ∈ lw_all := lw_g (lw_at lw_m16 26 rfl) rfl
theorem q3762 : (Jvm.Cond.methodLink "RoseGuildModel" (99 : Nat) ({ cls := "RoseGuildModel", name := "ofG", desc := "(II)I" } : Jvm.MethodName)) ∈ lw_all := lw_g (lw_at lw_m16 27 rfl) rfl
theorem q3763 : (Jvm.Cond.privateMethod ({ cls := "RoseGuildModel", name := "ofG", desc := "(II)I" } : Jvm.MethodName)) ∈ lw_tbl := lw_at lw_m16 28 rfl
theorem q3764 : (Jvm.Cond.instanceMethod ({ cls := "RoseGuildModel", name := "ofG", desc := "(II)I" } : Jvm.MethodName)) ∈ lw_all := lw_g (lw_at lw_m16 29 rfl) rfl
theorem q3765 : (Jvm.Cond.code ({ cls := "RoseGuildModel", name := "ofG", desc := "(II)I" } : Jvm.MethodName) prog_21_method_8_code (3 : Nat) (Option.some Jvm.ClassFile.FieldType.int)) ∈ lw_all := lw_g (lw_at lw_m16 30 rfl) rfl
theorem q3766 : (Jvm.Cond.methodLink "RoseGuildModel" (247 : Nat) ({ cls := "RoseGuildModel", name := "isTaken", desc := "(II)Z" } : Jvm.MethodName)) ∈ lw_all := lw_g (lw_at lw_m16 31 rfl) rfl
theorem q3767 : (Jvm.Cond.privateMethod ({ cls := "RoseGuildModel", name := "isTaken", desc := "(II)Z" } : Jvm.MethodName)) ∈ lw_tbl := lw_at lw_m16 32 rfl
theorem q3768 : (Jvm.Cond.instanceMethod ({ cls := "RoseGuildModel", name := "isTaken", desc := "(II)Z" } : Jvm.MethodName)) ∈ lw_all := lw_g (lw_at lw_m16 33 rfl) rfl
theorem q3769 : (Jvm.Cond.code ({ cls := "RoseGuildModel", name := "isTaken", desc := "(II)Z" } : Jvm.MethodName) prog_21_method_54_code (4 : Nat) (Option.some Jvm.ClassFile.FieldType.boolean)) ∈ lw_all := lw_g (lw_at lw_m16 34 rfl) rfl
theorem q3770 : (Jvm.Cond.methodLink "RoseGuildModel" (223 : Nat) ({ cls := "RoseGuildModel", name := "streetOn", desc := "(II)I" } : Jvm.MethodName)) ∈ lw_all := lw_g (lw_at lw_m16 35 rfl) rfl
theorem q3771 : (Jvm.Cond.privateMethod ({ cls := "RoseGuildModel", name := "streetOn", desc := "(II)I" } : Jvm.MethodName)) ∈ lw_tbl := lw_at lw_m16 36 rfl
theorem q3772 : (Jvm.Cond.instanceMethod ({ cls := "RoseGuildModel", name := "streetOn", desc := "(II)I" } : Jvm.MethodName)) ∈ lw_all := lw_g (lw_at lw_m16 37 rfl) rfl
theorem q3773 : (Jvm.Cond.code ({ cls := "RoseGuildModel", name := "streetOn", desc := "(II)I" } : Jvm.MethodName) prog_21_method_53_code (4 : Nat) (Option.some Jvm.ClassFile.FieldType.int)) ∈ lw_all := lw_g (lw_at lw_m16 38 rfl) rfl
theorem q3774 : (Jvm.Cond.methodLink "RoseGuildModel" (272 : Nat) ({ cls := "RoseGuildModel", name := "readsGarden", desc := "()V" } : Jvm.MethodName)) ∈ lw_all := lw_g (lw_at lw_m16 39 rfl) rfl
theorem q3775 : (Jvm.Cond.privateMethod ({ cls := "RoseGuildModel", name := "readsGarden", desc := "()V" } : Jvm.MethodName)) ∈ lw_tbl := lw_at lw_m16 40 rfl
theorem q3776 : (Jvm.Cond.instanceMethod ({ cls := "RoseGuildModel", name := "readsGarden", desc := "()V" } : Jvm.MethodName)) ∈ lw_all := lw_g (lw_at lw_m16 41 rfl) rfl
theorem q3777 : (Jvm.Cond.code ({ cls := "RoseGuildModel", name := "readsGarden", desc := "()V" } : Jvm.MethodName) prog_21_method_57_code (3 : Nat) (Option.none : Option Jvm.ClassFile.FieldType)) ∈ lw_all := lw_g (lw_at lw_m16 42 rfl) rfl
theorem q3778 : (Jvm.Cond.stringRef "RoseGuildModel" (263 : Nat) "garden") ∈ lw_tbl := lw_at lw_m16 43 rfl
theorem q3779 : (Jvm.Cond.methodLink "RoseGuildModel" (275 : Nat) ({ cls := "RoseGuildModel", name := "readsCart", desc := "()V" } : Jvm.MethodName)) ∈ lw_all := lw_g (lw_at lw_m16 44 rfl) rfl
theorem q3780 : (Jvm.Cond.privateMethod ({ cls := "RoseGuildModel", name := "readsCart", desc := "()V" } : Jvm.MethodName)) ∈ lw_tbl := lw_at lw_m16 45 rfl
theorem q3781 : (Jvm.Cond.instanceMethod ({ cls := "RoseGuildModel", name := "readsCart", desc := "()V" } : Jvm.MethodName)) ∈ lw_all := lw_g (lw_at lw_m16 46 rfl) rfl
theorem q3782 : (Jvm.Cond.code ({ cls := "RoseGuildModel", name := "readsCart", desc := "()V" } : Jvm.MethodName) prog_21_method_58_code (3 : Nat) (Option.none : Option Jvm.ClassFile.FieldType)) ∈ lw_all := lw_g (lw_at lw_m16 47 rfl) rfl
theorem q3783 : (Jvm.Cond.stringRef "RoseGuildModel" (265 : Nat) "cart") ∈ lw_tbl := lw_at lw_m16 48 rfl
theorem q3784 : (Jvm.Cond.methodLink "RoseGuildModel" (164 : Nat) ({ cls := "RoseGuildModel", name := "putC", desc := "(III)V" } : Jvm.MethodName)) ∈ lw_all := lw_g (lw_at lw_m16 49 rfl) rfl
theorem q3785 : (Jvm.Cond.privateMethod ({ cls := "RoseGuildModel", name := "putC", desc := "(III)V" } : Jvm.MethodName)) ∈ lw_tbl := lw_at lw_m16 50 rfl
theorem q3786 : (Jvm.Cond.instanceMethod ({ cls := "RoseGuildModel", name := "putC", desc := "(III)V" } : Jvm.MethodName)) ∈ lw_all := lw_g (lw_at lw_m16 51 rfl) rfl
theorem q3787 : (Jvm.Cond.code ({ cls := "RoseGuildModel", name := "putC", desc := "(III)V" } : Jvm.MethodName) prog_21_method_11_code (4 : Nat) (Option.none : Option Jvm.ClassFile.FieldType)) ∈ lw_all := lw_g (lw_at lw_m16 52 rfl) rfl
theorem q3788 : (Jvm.Cond.fieldLink "RoseGuildModel" (7 : Nat) "RoseGuildModel" "now" "[I") ∈ lw_all := lw_g (lw_at lw_m16 53 rfl) rfl
theorem q3789 : (Jvm.Cond.fieldLink "RoseGuildModel" (13 : Nat) "RoseGuildModel" "aside" "[I") ∈ lw_all := lw_g (lw_at lw_m16 54 rfl) rfl
theorem q3790 : (Jvm.Cond.fieldLink "RoseGuildModel" (16 : Nat) "RoseGuildModel" "reading" "[I") ∈ lw_all := lw_g (lw_at lw_m16 55 rfl) rfl
theorem q3791 : (Jvm.Cond.fieldLink "RoseGuildModel" (19 : Nat) "RoseGuildModel" "past" "[I") ∈ lw_all := lw_g (lw_at lw_m16 56 rfl) rfl
theorem q3792 : (Jvm.Cond.fieldLink "RoseGuildModel" (22 : Nat) "RoseGuildModel" "saved" "[I") ∈ lw_all := lw_g (lw_at lw_m16 57 rfl) rfl
theorem q3793 : (Jvm.Cond.fieldLink "RoseGuildModel" (25 : Nat) "RoseGuildModel" "isSaved" "[Z") ∈ lw_all := lw_g (lw_at lw_m16 58 rfl) rfl
theorem q3794 : (Jvm.Cond.fieldLink "RoseGuildModel" (282 : Nat) "RoseGuildModel" "undos" "I") ∈ lw_all := lw_g (lw_at lw_m16 59 rfl) rfl
theorem q3795 : (Jvm.Cond.fieldLink "RoseGuildModel" (85 : Nat) "RoseGuildModel" "thrown" "I") ∈ lw_all := lw_g (lw_at lw_m16 60 rfl) rfl
theorem q3796 : (Jvm.Cond.fieldLink "RoseGuildModel" (29 : Nat) "RoseGuildModel" "winner" "I") ∈ lw_all := lw_g (lw_at lw_m16 61 rfl) rfl
theorem q3797 : (Jvm.Cond.fieldLink "RoseGuildModel" (33 : Nat) "RoseGuildModel" "buffer" "[I") ∈ lw_all := lw_g (lw_at lw_m16 62 rfl) rfl
theorem q3798 : (Jvm.Cond.fieldLink "RoseGuildModel" (76 : Nat) "RoseGuildModel" "fed" "I") ∈ lw_all := lw_g (lw_at lw_m16 63 rfl) rfl
theorem q3799 : (Jvm.Cond.fieldLink "RoseGuildModel" (180 : Nat) "RoseGuildModel" "lastCode" "I") ∈ lw_all := lw_g (lw_at lw_m16 64 rfl) rfl
theorem q3800 : (Jvm.Cond.fieldLink "RoseGuildModel" (36 : Nat) "RoseGuildModel" "lastPlace" "I") ∈ lw_all := lw_g (lw_at lw_m16 65 rfl) rfl
theorem q3801 : (Jvm.Cond.fieldLink "RoseGuildModel" (183 : Nat) "RoseGuildModel" "spot" "I") ∈ lw_all := lw_g (lw_at lw_m16 66 rfl) rfl
theorem q3802 : (Jvm.Cond.fieldLink "RoseGuildModel" (189 : Nat) "RoseGuildModel" "begin" "I") ∈ lw_all := lw_g (lw_at lw_m16 67 rfl) rfl
theorem q3803 : (Jvm.Cond.fieldLink "RoseGuildModel" (192 : Nat) "RoseGuildModel" "token" "I") ∈ lw_all := lw_g (lw_at lw_m16 68 rfl) rfl
theorem q3804 : (Jvm.Cond.fieldLink "RoseGuildModel" (195 : Nat) "RoseGuildModel" "value" "I") ∈ lw_all := lw_g (lw_at lw_m16 69 rfl) rfl
theorem q3805 : (Jvm.Cond.fieldLink "RoseGuildModel" (198 : Nat) "RoseGuildModel" "code" "I") ∈ lw_all := lw_g (lw_at lw_m16 70 rfl) rfl
theorem q3806 : (Jvm.Cond.fieldLink "RoseGuildModel" (201 : Nat) "RoseGuildModel" "place" "I") ∈ lw_all := lw_g (lw_at lw_m16 71 rfl) rfl
theorem q3807 : (Jvm.Cond.fieldLink "RoseGuildModel" (229 : Nat) "RoseGuildModel" "itsName" "I") ∈ lw_all := lw_g (lw_at lw_m16 72 rfl) rfl
theorem q3808 : (Jvm.Cond.fieldLink "RoseGuildModel" (241 : Nat) "RoseGuildModel" "itsColumn" "I") ∈ lw_all := lw_g (lw_at lw_m16 73 rfl) rfl
theorem q3809 : (Jvm.Cond.fieldLink "RoseGuildModel" (244 : Nat) "RoseGuildModel" "itsRow" "I") ∈ lw_all := lw_g (lw_at lw_m16 74 rfl) rfl
theorem q3810 : (Jvm.Cond.fieldLink "RoseGuildModel" (39 : Nat) "RoseGuildModel" "kinds" "[I") ∈ lw_all := lw_g (lw_at lw_m16 75 rfl) rfl
theorem q3811 : (Jvm.Cond.fieldLink "RoseGuildModel" (42 : Nat) "RoseGuildModel" "ones" "[I") ∈ lw_all := lw_g (lw_at lw_m16 76 rfl) rfl
theorem q3812 : (Jvm.Cond.fieldLink "RoseGuildModel" (45 : Nat) "RoseGuildModel" "twos" "[I") ∈ lw_all := lw_g (lw_at lw_m16 77 rfl) rfl
theorem q3813 : (Jvm.Cond.fieldLink "RoseGuildModel" (48 : Nat) "RoseGuildModel" "threes" "[I") ∈ lw_all := lw_g (lw_at lw_m16 78 rfl) rfl
theorem q3814 : (Jvm.Cond.fieldLink "RoseGuildModel" (51 : Nat) "RoseGuildModel" "fours" "[I") ∈ lw_all := lw_g (lw_at lw_m16 79 rfl) rfl
theorem q3815 : (Jvm.Cond.fieldLink "RoseGuildModel" (300 : Nat) "RoseGuildModel" "commands" "I") ∈ lw_all := lw_g (lw_at lw_m16 80 rfl) rfl
theorem q3816 : (Jvm.Cond.fieldLink "RoseGuildModel" (336 : Nat) "RoseGuildModel" "done" "I") ∈ lw_all := lw_g (lw_at lw_m16 81 rfl) rfl
theorem q3817 : (Jvm.Cond.fieldLink "RoseGuildModel" (345 : Nat) "RoseGuildModel" "isScript" "Z") ∈ lw_all := lw_g (lw_at lw_m16 82 rfl) rfl
theorem q3818 : (Jvm.Cond.fieldLink "RoseGuildModel" (54 : Nat) "RoseGuildModel" "out" "[I") ∈ lw_all := lw_g (lw_at lw_m16 83 rfl) rfl
theorem q3819 : (Jvm.Cond.fieldLink "RoseGuildModel" (57 : Nat) "RoseGuildModel" "digits" "[I") ∈ lw_all := lw_g (lw_at lw_m16 84 rfl) rfl
theorem q3820 : (Jvm.Cond.fieldLink "RoseGuildModel" (385 : Nat) "RoseGuildModel" "written" "I") ∈ lw_all := lw_g (lw_at lw_m16 85 rfl) rfl
theorem q3821 : (Jvm.Cond.laysFinal "RoseGuildModel" "RoseGuildModel" "now" "[I") ∈ lw_all := lw_g (lw_at lw_m16 86 rfl) rfl
theorem q3822 : (Jvm.Cond.soleField "RoseGuildModel" "now") ∈ lw_all := lw_g (lw_at lw_m16 87 rfl) rfl
theorem q3823 : (Jvm.Cond.laysFinal "RoseGuildModel" "RoseGuildModel" "aside" "[I") ∈ lw_all := lw_g (lw_at lw_m16 88 rfl) rfl
theorem q3824 : (Jvm.Cond.soleField "RoseGuildModel" "aside") ∈ lw_all := lw_g (lw_at lw_m16 89 rfl) rfl
theorem q3825 : (Jvm.Cond.laysFinal "RoseGuildModel" "RoseGuildModel" "reading" "[I") ∈ lw_all := lw_g (lw_at lw_m16 90 rfl) rfl
theorem q3826 : (Jvm.Cond.soleField "RoseGuildModel" "reading") ∈ lw_all := lw_g (lw_at lw_m16 91 rfl) rfl
theorem q3827 : (Jvm.Cond.laysFinal "RoseGuildModel" "RoseGuildModel" "past" "[I") ∈ lw_all := lw_g (lw_at lw_m16 92 rfl) rfl
theorem q3828 : (Jvm.Cond.soleField "RoseGuildModel" "past") ∈ lw_all := lw_g (lw_at lw_m16 93 rfl) rfl
theorem q3829 : (Jvm.Cond.laysFinal "RoseGuildModel" "RoseGuildModel" "saved" "[I") ∈ lw_all := lw_g (lw_at lw_m16 94 rfl) rfl
theorem q3830 : (Jvm.Cond.soleField "RoseGuildModel" "saved") ∈ lw_all := lw_g (lw_at lw_m16 95 rfl) rfl
theorem q3831 : (Jvm.Cond.laysFinal "RoseGuildModel" "RoseGuildModel" "isSaved" "[Z") ∈ lw_all := lw_g (lw_at lw_m16 96 rfl) rfl
theorem q3832 : (Jvm.Cond.soleField "RoseGuildModel" "isSaved") ∈ lw_all := lw_g (lw_at lw_m16 97 rfl) rfl
theorem q3833 : (Jvm.Cond.lays "RoseGuildModel" "RoseGuildModel" "undos" "I") ∈ lw_all := lw_g (lw_at lw_m16 98 rfl) rfl
theorem q3834 : (Jvm.Cond.soleField "RoseGuildModel" "undos") ∈ lw_all := lw_g (lw_at lw_m16 99 rfl) rfl
theorem q3835 : (Jvm.Cond.lays "RoseGuildModel" "RoseGuildModel" "thrown" "I") ∈ lw_all := lw_g (lw_at lw_m16 100 rfl) rfl
theorem q3836 : (Jvm.Cond.soleField "RoseGuildModel" "thrown") ∈ lw_all := lw_g (lw_at lw_m16 101 rfl) rfl
theorem q3837 : (Jvm.Cond.lays "RoseGuildModel" "RoseGuildModel" "winner" "I") ∈ lw_all := lw_g (lw_at lw_m16 102 rfl) rfl
theorem q3838 : (Jvm.Cond.soleField "RoseGuildModel" "winner") ∈ lw_all := lw_g (lw_at lw_m16 103 rfl) rfl
theorem q3839 : (Jvm.Cond.laysFinal "RoseGuildModel" "RoseGuildModel" "buffer" "[I") ∈ lw_all := lw_g (lw_at lw_m16 104 rfl) rfl
theorem q3840 : (Jvm.Cond.soleField "RoseGuildModel" "buffer") ∈ lw_all := lw_g (lw_at lw_m16 105 rfl) rfl
theorem q3841 : (Jvm.Cond.lays "RoseGuildModel" "RoseGuildModel" "fed" "I") ∈ lw_all := lw_g (lw_at lw_m16 106 rfl) rfl
theorem q3842 : (Jvm.Cond.soleField "RoseGuildModel" "fed") ∈ lw_all := lw_g (lw_at lw_m16 107 rfl) rfl
theorem q3843 : (Jvm.Cond.lays "RoseGuildModel" "RoseGuildModel" "lastCode" "I") ∈ lw_all := lw_g (lw_at lw_m16 108 rfl) rfl
theorem q3844 : (Jvm.Cond.soleField "RoseGuildModel" "lastCode") ∈ lw_all := lw_g (lw_at lw_m16 109 rfl) rfl
theorem q3845 : (Jvm.Cond.lays "RoseGuildModel" "RoseGuildModel" "lastPlace" "I") ∈ lw_all := lw_g (lw_at lw_m16 110 rfl) rfl
theorem q3846 : (Jvm.Cond.soleField "RoseGuildModel" "lastPlace") ∈ lw_all := lw_g (lw_at lw_m16 111 rfl) rfl
theorem q3847 : (Jvm.Cond.lays "RoseGuildModel" "RoseGuildModel" "spot" "I") ∈ lw_all := lw_g (lw_at lw_m16 112 rfl) rfl
theorem q3848 : (Jvm.Cond.soleField "RoseGuildModel" "spot") ∈ lw_all := lw_g (lw_at lw_m16 113 rfl) rfl
theorem q3849 : (Jvm.Cond.lays "RoseGuildModel" "RoseGuildModel" "begin" "I") ∈ lw_all := lw_g (lw_at lw_m16 114 rfl) rfl
theorem q3850 : (Jvm.Cond.soleField "RoseGuildModel" "begin") ∈ lw_all := lw_g (lw_at lw_m16 115 rfl) rfl
theorem q3851 : (Jvm.Cond.lays "RoseGuildModel" "RoseGuildModel" "token" "I") ∈ lw_all := lw_g (lw_at lw_m16 116 rfl) rfl
theorem q3852 : (Jvm.Cond.soleField "RoseGuildModel" "token") ∈ lw_all := lw_g (lw_at lw_m16 117 rfl) rfl
theorem q3853 : (Jvm.Cond.lays "RoseGuildModel" "RoseGuildModel" "value" "I") ∈ lw_all := lw_g (lw_at lw_m16 118 rfl) rfl
theorem q3854 : (Jvm.Cond.soleField "RoseGuildModel" "value") ∈ lw_all := lw_g (lw_at lw_m16 119 rfl) rfl
theorem q3855 : (Jvm.Cond.lays "RoseGuildModel" "RoseGuildModel" "code" "I") ∈ lw_all := lw_g (lw_at lw_m16 120 rfl) rfl
theorem q3856 : (Jvm.Cond.soleField "RoseGuildModel" "code") ∈ lw_all := lw_g (lw_at lw_m16 121 rfl) rfl
theorem q3857 : (Jvm.Cond.lays "RoseGuildModel" "RoseGuildModel" "place" "I") ∈ lw_all := lw_g (lw_at lw_m16 122 rfl) rfl
theorem q3858 : (Jvm.Cond.soleField "RoseGuildModel" "place") ∈ lw_all := lw_g (lw_at lw_m16 123 rfl) rfl
theorem q3859 : (Jvm.Cond.lays "RoseGuildModel" "RoseGuildModel" "itsName" "I") ∈ lw_all := lw_g (lw_at lw_m16 124 rfl) rfl
theorem q3860 : (Jvm.Cond.soleField "RoseGuildModel" "itsName") ∈ lw_all := lw_g (lw_at lw_m16 125 rfl) rfl
theorem q3861 : (Jvm.Cond.lays "RoseGuildModel" "RoseGuildModel" "itsColumn" "I") ∈ lw_all := lw_g (lw_at lw_m16 126 rfl) rfl
theorem q3862 : (Jvm.Cond.soleField "RoseGuildModel" "itsColumn") ∈ lw_all := lw_g (lw_at lw_m16 127 rfl) rfl
theorem q3863 : (Jvm.Cond.lays "RoseGuildModel" "RoseGuildModel" "itsRow" "I") ∈ lw_all := lw_g (lw_at lw_m16 128 rfl) rfl
theorem q3864 : (Jvm.Cond.soleField "RoseGuildModel" "itsRow") ∈ lw_all := lw_g (lw_at lw_m16 129 rfl) rfl
theorem q3865 : (Jvm.Cond.laysFinal "RoseGuildModel" "RoseGuildModel" "kinds" "[I") ∈ lw_all := lw_g (lw_at lw_m16 130 rfl) rfl
theorem q3866 : (Jvm.Cond.soleField "RoseGuildModel" "kinds") ∈ lw_all := lw_g (lw_at lw_m16 131 rfl) rfl
theorem q3867 : (Jvm.Cond.laysFinal "RoseGuildModel" "RoseGuildModel" "ones" "[I") ∈ lw_all := lw_g (lw_at lw_m16 132 rfl) rfl
theorem q3868 : (Jvm.Cond.soleField "RoseGuildModel" "ones") ∈ lw_all := lw_g (lw_at lw_m16 133 rfl) rfl
theorem q3869 : (Jvm.Cond.laysFinal "RoseGuildModel" "RoseGuildModel" "twos" "[I") ∈ lw_all := lw_g (lw_at lw_m16 134 rfl) rfl
theorem q3870 : (Jvm.Cond.soleField "RoseGuildModel" "twos") ∈ lw_all := lw_g (lw_at lw_m16 135 rfl) rfl
theorem q3871 : (Jvm.Cond.laysFinal "RoseGuildModel" "RoseGuildModel" "threes" "[I") ∈ lw_all := lw_g (lw_at lw_m16 136 rfl) rfl
theorem q3872 : (Jvm.Cond.soleField "RoseGuildModel" "threes") ∈ lw_all := lw_g (lw_at lw_m16 137 rfl) rfl
theorem q3873 : (Jvm.Cond.laysFinal "RoseGuildModel" "RoseGuildModel" "fours" "[I") ∈ lw_all := lw_g (lw_at lw_m16 138 rfl) rfl
theorem q3874 : (Jvm.Cond.soleField "RoseGuildModel" "fours") ∈ lw_all := lw_g (lw_at lw_m16 139 rfl) rfl
theorem q3875 : (Jvm.Cond.lays "RoseGuildModel" "RoseGuildModel" "commands" "I") ∈ lw_all := lw_g (lw_at lw_m16 140 rfl) rfl
theorem q3876 : (Jvm.Cond.soleField "RoseGuildModel" "commands") ∈ lw_all := lw_g (lw_at lw_m16 141 rfl) rfl
theorem q3877 : (Jvm.Cond.lays "RoseGuildModel" "RoseGuildModel" "done" "I") ∈ lw_all := lw_g (lw_at lw_m16 142 rfl) rfl
theorem q3878 : (Jvm.Cond.soleField "RoseGuildModel" "done") ∈ lw_all := lw_g (lw_at lw_m16 143 rfl) rfl
theorem q3879 : (Jvm.Cond.lays "RoseGuildModel" "RoseGuildModel" "isScript" "Z") ∈ lw_all := lw_g (lw_at lw_m16 144 rfl) rfl
theorem q3880 : (Jvm.Cond.soleField "RoseGuildModel" "isScript") ∈ lw_all := lw_g (lw_at lw_m16 145 rfl) rfl
theorem q3881 : (Jvm.Cond.laysFinal "RoseGuildModel" "RoseGuildModel" "out" "[I") ∈ lw_all := lw_g (lw_at lw_m16 146 rfl) rfl
theorem q3882 : (Jvm.Cond.soleField "RoseGuildModel" "out") ∈ lw_all := lw_g (lw_at lw_m16 147 rfl) rfl
theorem q3883 : (Jvm.Cond.laysFinal "RoseGuildModel" "RoseGuildModel" "digits" "[I") ∈ lw_all := lw_g (lw_at lw_m16 148 rfl) rfl
theorem q3884 : (Jvm.Cond.soleField "RoseGuildModel" "digits") ∈ lw_all := lw_g (lw_at lw_m16 149 rfl) rfl
theorem q3885 : (Jvm.Cond.lays "RoseGuildModel" "RoseGuildModel" "written" "I") ∈ lw_all := lw_g (lw_at lw_m16 150 rfl) rfl
theorem q3886 : (Jvm.Cond.soleField "RoseGuildModel" "written") ∈ lw_all := lw_g (lw_at lw_m16 151 rfl) rfl
theorem q3887 : (Jvm.Cond.superclass "RoseGuildModel" "java/lang/Object") ∈ lw_all := lw_g (lw_at lw_m16 152 rfl) rfl
theorem q3890 : (Jvm.Cond.instanceMethod ({ cls := "RoseGuildModel", name := "thrown", desc := "()I" } : Jvm.MethodName)) ∈ lw_all := lw_g (lw_at lw_m16 155 rfl) rfl
theorem q3891 : (Jvm.Cond.selects "RoseGuildModel" ({ cls := "RoseGuildModel", name := "thrown", desc := "()I" } : Jvm.MethodName) ({ cls := "RoseGuildModel", name := "thrown", desc := "()I" } : Jvm.MethodName)) ∈ lw_all := lw_g (lw_at lw_m16 156 rfl) rfl
theorem q3892 : (Jvm.Cond.code ({ cls := "RoseGuildModel", name := "thrown", desc := "()I" } : Jvm.MethodName) prog_21_method_3_code (1 : Nat) (Option.some Jvm.ClassFile.FieldType.int)) ∈ lw_all := lw_g (lw_at lw_m16 157 rfl) rfl
theorem q3894 : (Jvm.Cond.instanceMethod ({ cls := "RoseGuildModel", name := "append", desc := "(IIIII)I" } : Jvm.MethodName)) ∈ lw_all := lw_g (lw_at lw_m16 159 rfl) rfl
theorem q3895 : (Jvm.Cond.selects "RoseGuildModel" ({ cls := "RoseGuildModel", name := "append", desc := "(IIIII)I" } : Jvm.MethodName) ({ cls := "RoseGuildModel", name := "append", desc := "(IIIII)I" } : Jvm.MethodName)) ∈ lw_all := lw_g (lw_at lw_m16 160 rfl) rfl
theorem q3896 : (Jvm.Cond.code ({ cls := "RoseGuildModel", name := "append", desc := "(IIIII)I" } : Jvm.MethodName) prog_21_method_34_code (7 : Nat) (Option.some Jvm.ClassFile.FieldType.int)) ∈ lw_all := lw_g (lw_at lw_m16 161 rfl) rfl
theorem q3897 : (Jvm.Cond.methodLink "RoseGuildModel" (173 : Nat) ({ cls := "RoseGuildModel", name := "feeds", desc := "(I)V" } : Jvm.MethodName)) ∈ lw_all := lw_g (lw_at lw_m16 162 rfl) rfl
theorem q3898 : (Jvm.Cond.privateMethod ({ cls := "RoseGuildModel", name := "feeds", desc := "(I)V" } : Jvm.MethodName)) ∈ lw_tbl := lw_at lw_m16 163 rfl
theorem q3899 : (Jvm.Cond.instanceMethod ({ cls := "RoseGuildModel", name := "feeds", desc := "(I)V" } : Jvm.MethodName)) ∈ lw_all := lw_g (lw_at lw_m16 164 rfl) rfl
theorem q3900 : (Jvm.Cond.code ({ cls := "RoseGuildModel", name := "feeds", desc := "(I)V" } : Jvm.MethodName) prog_21_method_33_code (4 : Nat) (Option.none : Option Jvm.ClassFile.FieldType)) ∈ lw_all := lw_g (lw_at lw_m16 165 rfl) rfl
theorem q3901 : (Jvm.Cond.methodLink "RoseGuildModel" (176 : Nat) ({ cls := "RoseGuildModel", name := "right", desc := "(ZI)Z" } : Jvm.MethodName)) ∈ lw_all := lw_g (lw_at lw_m16 166 rfl) rfl
theorem q3902 : (Jvm.Cond.privateMethod ({ cls := "RoseGuildModel", name := "right", desc := "(ZI)Z" } : Jvm.MethodName)) ∈ lw_tbl := lw_at lw_m16 167 rfl
theorem q3903 : (Jvm.Cond.instanceMethod ({ cls := "RoseGuildModel", name := "right", desc := "(ZI)Z" } : Jvm.MethodName)) ∈ lw_all := lw_g (lw_at lw_m16 168 rfl) rfl
theorem q3904 : (Jvm.Cond.code ({ cls := "RoseGuildModel", name := "right", desc := "(ZI)Z" } : Jvm.MethodName) prog_21_method_5_code (3 : Nat) (Option.some Jvm.ClassFile.FieldType.boolean)) ∈ lw_all := lw_g (lw_at lw_m16 169 rfl) rfl
theorem q3906 : (Jvm.Cond.instanceMethod ({ cls := "RoseGuildModel", name := "truncate", desc := "(I)I" } : Jvm.MethodName)) ∈ lw_all := lw_g (lw_at lw_m16 171 rfl) rfl
theorem q3907 : (Jvm.Cond.selects "RoseGuildModel" ({ cls := "RoseGuildModel", name := "truncate", desc := "(I)I" } : Jvm.MethodName) ({ cls := "RoseGuildModel", name := "truncate", desc := "(I)I" } : Jvm.MethodName)) ∈ lw_all := lw_g (lw_at lw_m16 172 rfl) rfl
theorem q3908 : (Jvm.Cond.code ({ cls := "RoseGuildModel", name := "truncate", desc := "(I)I" } : Jvm.MethodName) prog_21_method_35_code (3 : Nat) (Option.some Jvm.ClassFile.FieldType.int)) ∈ lw_all := lw_g (lw_at lw_m16 173 rfl) rfl
theorem q3910 : (Jvm.Cond.instanceMethod ({ cls := "RoseGuildModel", name := "errorCode", desc := "()I" } : Jvm.MethodName)) ∈ lw_all := lw_g (lw_at lw_m16 175 rfl) rfl
theorem q3911 : (Jvm.Cond.selects "RoseGuildModel" ({ cls := "RoseGuildModel", name := "errorCode", desc := "()I" } : Jvm.MethodName) ({ cls := "RoseGuildModel", name := "errorCode", desc := "()I" } : Jvm.MethodName)) ∈ lw_all := lw_g (lw_at lw_m16 176 rfl) rfl
theorem q3912 : (Jvm.Cond.code ({ cls := "RoseGuildModel", name := "errorCode", desc := "()I" } : Jvm.MethodName) prog_21_method_36_code (1 : Nat) (Option.some Jvm.ClassFile.FieldType.int)) ∈ lw_all := lw_g (lw_at lw_m16 177 rfl) rfl
theorem q3914 : (Jvm.Cond.instanceMethod ({ cls := "RoseGuildModel", name := "errorPosition", desc := "()I" } : Jvm.MethodName)) ∈ lw_all := lw_g (lw_at lw_m16 179 rfl) rfl
theorem q3915 : (Jvm.Cond.selects "RoseGuildModel" ({ cls := "RoseGuildModel", name := "errorPosition", desc := "()I" } : Jvm.MethodName) ({ cls := "RoseGuildModel", name := "errorPosition", desc := "()I" } : Jvm.MethodName)) ∈ lw_all := lw_g (lw_at lw_m16 180 rfl) rfl
theorem q3916 : (Jvm.Cond.code ({ cls := "RoseGuildModel", name := "errorPosition", desc := "()I" } : Jvm.MethodName) prog_21_method_37_code (1 : Nat) (Option.some Jvm.ClassFile.FieldType.int)) ∈ lw_all := lw_g (lw_at lw_m16 181 rfl) rfl
theorem q3918 : (Jvm.Cond.instanceMethod ({ cls := "RoseGuildModel", name := "load", desc := "()I" } : Jvm.MethodName)) ∈ lw_all := lw_g (lw_at lw_m16 183 rfl) rfl
theorem q3919 : (Jvm.Cond.selects "RoseGuildModel" ({ cls := "RoseGuildModel", name := "load", desc := "()I" } : Jvm.MethodName) ({ cls := "RoseGuildModel", name := "load", desc := "()I" } : Jvm.MethodName)) ∈ lw_all := lw_g (lw_at lw_m16 184 rfl) rfl
theorem q3920 : (Jvm.Cond.code ({ cls := "RoseGuildModel", name := "load", desc := "()I" } : Jvm.MethodName) prog_21_method_60_code (2 : Nat) (Option.some Jvm.ClassFile.FieldType.int)) ∈ lw_all := lw_g (lw_at lw_m16 185 rfl) rfl
theorem q3921 : (Jvm.Cond.methodLink "RoseGuildModel" (278 : Nat) ({ cls := "RoseGuildModel", name := "isWhole", desc := "()Z" } : Jvm.MethodName)) ∈ lw_all := lw_g (lw_at lw_m16 186 rfl) rfl
theorem q3922 : (Jvm.Cond.privateMethod ({ cls := "RoseGuildModel", name := "isWhole", desc := "()Z" } : Jvm.MethodName)) ∈ lw_tbl := lw_at lw_m16 187 rfl
theorem q3923 : (Jvm.Cond.instanceMethod ({ cls := "RoseGuildModel", name := "isWhole", desc := "()Z" } : Jvm.MethodName)) ∈ lw_all := lw_g (lw_at lw_m16 188 rfl) rfl
theorem q3924 : (Jvm.Cond.code ({ cls := "RoseGuildModel", name := "isWhole", desc := "()Z" } : Jvm.MethodName) prog_21_method_52_code (1 : Nat) (Option.some Jvm.ClassFile.FieldType.boolean)) ∈ lw_all := lw_g (lw_at lw_m16 189 rfl) rfl
theorem q3926 : (Jvm.Cond.instanceMethod ({ cls := "RoseGuildModel", name := "runScript", desc := "()I" } : Jvm.MethodName)) ∈ lw_all := lw_g (lw_at lw_m16 191 rfl) rfl
theorem q3927 : (Jvm.Cond.selects "RoseGuildModel" ({ cls := "RoseGuildModel", name := "runScript", desc := "()I" } : Jvm.MethodName) ({ cls := "RoseGuildModel", name := "runScript", desc := "()I" } : Jvm.MethodName)) ∈ lw_all := lw_g (lw_at lw_m16 192 rfl) rfl
theorem q3928 : (Jvm.Cond.code ({ cls := "RoseGuildModel", name := "runScript", desc := "()I" } : Jvm.MethodName) prog_21_method_69_code (2 : Nat) (Option.some Jvm.ClassFile.FieldType.int)) ∈ lw_all := lw_g (lw_at lw_m16 193 rfl) rfl
theorem q3929 : (Jvm.Cond.methodLink "RoseGuildModel" (297 : Nat) ({ cls := "RoseGuildModel", name := "readsCommands", desc := "(I)V" } : Jvm.MethodName)) ∈ lw_all := lw_g (lw_at lw_m16 194 rfl) rfl
theorem q3930 : (Jvm.Cond.privateMethod ({ cls := "RoseGuildModel", name := "readsCommands", desc := "(I)V" } : Jvm.MethodName)) ∈ lw_tbl := lw_at lw_m16 195 rfl
theorem q3931 : (Jvm.Cond.instanceMethod ({ cls := "RoseGuildModel", name := "readsCommands", desc := "(I)V" } : Jvm.MethodName)) ∈ lw_all := lw_g (lw_at lw_m16 196 rfl) rfl
theorem q3932 : (Jvm.Cond.code ({ cls := "RoseGuildModel", name := "readsCommands", desc := "(I)V" } : Jvm.MethodName) prog_21_method_66_code (2 : Nat) (Option.none : Option Jvm.ClassFile.FieldType)) ∈ lw_all := lw_g (lw_at lw_m16 197 rfl) rfl
theorem q3933 : (Jvm.Cond.methodLink "RoseGuildModel" (317 : Nat) ({ cls := "RoseGuildModel", name := "readsCommand", desc := "(I)V" } : Jvm.MethodName)) ∈ lw_all := lw_g (lw_at lw_m16 198 rfl) rfl
theorem q3934 : (Jvm.Cond.privateMethod ({ cls := "RoseGuildModel", name := "readsCommand", desc := "(I)V" } : Jvm.MethodName)) ∈ lw_tbl := lw_at lw_m16 199 rfl
theorem q3935 : (Jvm.Cond.instanceMethod ({ cls := "RoseGuildModel", name := "readsCommand", desc := "(I)V" } : Jvm.MethodName)) ∈ lw_all := lw_g (lw_at lw_m16 200 rfl) rfl
theorem q3936 : (Jvm.Cond.code ({ cls := "RoseGuildModel", name := "readsCommand", desc := "(I)V" } : Jvm.MethodName) prog_21_method_65_code (4 : Nat) (Option.none : Option Jvm.ClassFile.FieldType)) ∈ lw_all := lw_g (lw_at lw_m16 201 rfl) rfl
theorem q3937 : (Jvm.Cond.methodLink "RoseGuildModel" (307 : Nat) ({ cls := "RoseGuildModel", name := "commandHere", desc := "()I" } : Jvm.MethodName)) ∈ lw_all := lw_g (lw_at lw_m16 202 rfl) rfl
theorem q3938 : (Jvm.Cond.privateMethod ({ cls := "RoseGuildModel", name := "commandHere", desc := "()I" } : Jvm.MethodName)) ∈ lw_tbl := lw_at lw_m16 203 rfl
theorem q3939 : (Jvm.Cond.instanceMethod ({ cls := "RoseGuildModel", name := "commandHere", desc := "()I" } : Jvm.MethodName)) ∈ lw_all := lw_g (lw_at lw_m16 204 rfl) rfl
theorem q3940 : (Jvm.Cond.code ({ cls := "RoseGuildModel", name := "commandHere", desc := "()I" } : Jvm.MethodName) prog_21_method_61_code (1 : Nat) (Option.some Jvm.ClassFile.FieldType.int)) ∈ lw_all := lw_g (lw_at lw_m16 205 rfl) rfl
theorem q3941 : (Jvm.Cond.stringRef "RoseGuildModel" (285 : Nat) "sign") ∈ lw_tbl := lw_at lw_m16 206 rfl
theorem q3942 : (Jvm.Cond.stringRef "RoseGuildModel" (287 : Nat) "cancel") ∈ lw_tbl := lw_at lw_m16 207 rfl
theorem q3943 : (Jvm.Cond.stringRef "RoseGuildModel" (289 : Nat) "pass") ∈ lw_tbl := lw_at lw_m16 208 rfl
theorem q3944 : (Jvm.Cond.stringRef "RoseGuildModel" (291 : Nat) "wind") ∈ lw_tbl := lw_at lw_m16 209 rfl
theorem q3945 : (Jvm.Cond.stringRef "RoseGuildModel" (293 : Nat) "price") ∈ lw_tbl := lw_at lw_m16 210 rfl
theorem q3946 : (Jvm.Cond.stringRef "RoseGuildModel" (295 : Nat) "repeat") ∈ lw_tbl := lw_at lw_m16 211 rfl
theorem q3947 : (Jvm.Cond.methodLink "RoseGuildModel" (310 : Nat) ({ cls := "RoseGuildModel", name := "readsRepeat", desc := "(II)V" } : Jvm.MethodName)) ∈ lw_all := lw_g (lw_at lw_m16 212 rfl) rfl
theorem q3948 : (Jvm.Cond.privateMethod ({ cls := "RoseGuildModel", name := "readsRepeat", desc := "(II)V" } : Jvm.MethodName)) ∈ lw_tbl := lw_at lw_m16 213 rfl
theorem q3949 : (Jvm.Cond.instanceMethod ({ cls := "RoseGuildModel", name := "readsRepeat", desc := "(II)V" } : Jvm.MethodName)) ∈ lw_all := lw_g (lw_at lw_m16 214 rfl) rfl
theorem q3950 : (Jvm.Cond.code ({ cls := "RoseGuildModel", name := "readsRepeat", desc := "(II)V" } : Jvm.MethodName) prog_21_method_62_code (3 : Nat) (Option.none : Option Jvm.ClassFile.FieldType)) ∈ lw_all := lw_g (lw_at lw_m16 215 rfl) rfl
theorem q3951 : (Jvm.Cond.methodLink "RoseGuildModel" (314 : Nat) ({ cls := "RoseGuildModel", name := "readsSingle", desc := "(I)V" } : Jvm.MethodName)) ∈ lw_all := lw_g (lw_at lw_m16 216 rfl) rfl
theorem q3952 : (Jvm.Cond.privateMethod ({ cls := "RoseGuildModel", name := "readsSingle", desc := "(I)V" } : Jvm.MethodName)) ∈ lw_tbl := lw_at lw_m16 217 rfl
theorem q3953 : (Jvm.Cond.instanceMethod ({ cls := "RoseGuildModel", name := "readsSingle", desc := "(I)V" } : Jvm.MethodName)) ∈ lw_all := lw_g (lw_at lw_m16 218 rfl) rfl
theorem q3954 : (Jvm.Cond.code ({ cls := "RoseGuildModel", name := "readsSingle", desc := "(I)V" } : Jvm.MethodName) prog_21_method_64_code (2 : Nat) (Option.none : Option Jvm.ClassFile.FieldType)) ∈ lw_all := lw_g (lw_at lw_m16 219 rfl) rfl
theorem q3955 : (Jvm.Cond.methodLink "RoseGuildModel" (303 : Nat) ({ cls := "RoseGuildModel", name := "takesNamed", desc := "(Z)I" } : Jvm.MethodName)) ∈ lw_all := lw_g (lw_at lw_m16 220 rfl) rfl
theorem q3956 : (Jvm.Cond.privateMethod ({ cls := "RoseGuildModel", name := "takesNamed", desc := "(Z)I" } : Jvm.MethodName)) ∈ lw_tbl := lw_at lw_m16 221 rfl
theorem q3957 : (Jvm.Cond.instanceMethod ({ cls := "RoseGuildModel", name := "takesNamed", desc := "(Z)I" } : Jvm.MethodName)) ∈ lw_all := lw_g (lw_at lw_m16 222 rfl) rfl
theorem q3958 : (Jvm.Cond.code ({ cls := "RoseGuildModel", name := "takesNamed", desc := "(Z)I" } : Jvm.MethodName) prog_21_method_63_code (4 : Nat) (Option.some Jvm.ClassFile.FieldType.int)) ∈ lw_all := lw_g (lw_at lw_m16 223 rfl) rfl
theorem q3959 : (Jvm.Cond.methodLink "RoseGuildModel" (342 : Nat) ({ cls := "RoseGuildModel", name := "keeps", desc := "()V" } : Jvm.MethodName)) ∈ lw_all := lw_g (lw_at lw_m16 224 rfl) rfl
theorem q3960 : (Jvm.Cond.privateMethod ({ cls := "RoseGuildModel", name := "keeps", desc := "()V" } : Jvm.MethodName)) ∈ lw_tbl := lw_at lw_m16 225 rfl
theorem q3961 : (Jvm.Cond.instanceMethod ({ cls := "RoseGuildModel", name := "keeps", desc := "()V" } : Jvm.MethodName)) ∈ lw_all := lw_g (lw_at lw_m16 226 rfl) rfl
theorem q3962 : (Jvm.Cond.code ({ cls := "RoseGuildModel", name := "keeps", desc := "()V" } : Jvm.MethodName) prog_21_method_112_code (2 : Nat) (Option.none : Option Jvm.ClassFile.FieldType)) ∈ lw_all := lw_g (lw_at lw_m16 227 rfl) rfl
theorem q3963 : (Jvm.Cond.methodLink "RoseGuildModel" (333 : Nat) ({ cls := "RoseGuildModel", name := "doesAll", desc := "(II)Z" } : Jvm.MethodName)) ∈ lw_all := lw_g (lw_at lw_m16 228 rfl) rfl
theorem q3964 : (Jvm.Cond.privateMethod ({ cls := "RoseGuildModel", name := "doesAll", desc := "(II)Z" } : Jvm.MethodName)) ∈ lw_tbl := lw_at lw_m16 229 rfl
theorem q3965 : (Jvm.Cond.instanceMethod ({ cls := "RoseGuildModel", name := "doesAll", desc := "(II)Z" } : Jvm.MethodName)) ∈ lw_all := lw_g (lw_at lw_m16 230 rfl) rfl
theorem q3966 : (Jvm.Cond.code ({ cls := "RoseGuildModel", name := "doesAll", desc := "(II)Z" } : Jvm.MethodName) prog_21_method_68_code (5 : Nat) (Option.some Jvm.ClassFile.FieldType.boolean)) ∈ lw_all := lw_g (lw_at lw_m16 231 rfl) rfl
theorem q3967 : (Jvm.Cond.methodLink "RoseGuildModel" (339 : Nat) ({ cls := "RoseGuildModel", name := "does", desc := "(I)I" } : Jvm.MethodName)) ∈ lw_all := lw_g (lw_at lw_m16 232 rfl) rfl
theorem q3968 : (Jvm.Cond.privateMethod ({ cls := "RoseGuildModel", name := "does", desc := "(I)I" } : Jvm.MethodName)) ∈ lw_tbl := lw_at lw_m16 233 rfl
theorem q3969 : (Jvm.Cond.instanceMethod ({ cls := "RoseGuildModel", name := "does", desc := "(I)I" } : Jvm.MethodName)) ∈ lw_all := lw_g (lw_at lw_m16 234 rfl) rfl
theorem q3970 : (Jvm.Cond.code ({ cls := "RoseGuildModel", name := "does", desc := "(I)I" } : Jvm.MethodName) prog_21_method_67_code (3 : Nat) (Option.some Jvm.ClassFile.FieldType.int)) ∈ lw_all := lw_g (lw_at lw_m16 235 rfl) rfl
theorem q3971 : (Jvm.Cond.methodLink "RoseGuildModel" (320 : Nat) ({ cls := "RoseGuildModel", name := "signing", desc := "(IIII)I" } : Jvm.MethodName)) ∈ lw_all := lw_g (lw_at lw_m16 236 rfl) rfl
theorem q3972 : (Jvm.Cond.privateMethod ({ cls := "RoseGuildModel", name := "signing", desc := "(IIII)I" } : Jvm.MethodName)) ∈ lw_tbl := lw_at lw_m16 237 rfl
theorem q3973 : (Jvm.Cond.instanceMethod ({ cls := "RoseGuildModel", name := "signing", desc := "(IIII)I" } : Jvm.MethodName)) ∈ lw_all := lw_g (lw_at lw_m16 238 rfl) rfl
theorem q3974 : (Jvm.Cond.code ({ cls := "RoseGuildModel", name := "signing", desc := "(IIII)I" } : Jvm.MethodName) prog_21_method_114_code (5 : Nat) (Option.some Jvm.ClassFile.FieldType.int)) ∈ lw_all := lw_g (lw_at lw_m16 239 rfl) rfl
theorem q3975 : (Jvm.Cond.methodLink "RoseGuildModel" (364 : Nat) ({ cls := "RoseGuildModel", name := "isCart", desc := "(I)Z" } : Jvm.MethodName)) ∈ lw_all := lw_g (lw_at lw_m17 0 rfl) rfl
theorem q3976 : (Jvm.Cond.privateMethod ({ cls := "RoseGuildModel", name := "isCart", desc := "(I)Z" } : Jvm.MethodName)) ∈ lw_tbl := lw_at lw_m17 1 rfl
theorem q3977 : (Jvm.Cond.instanceMethod ({ cls := "RoseGuildModel", name := "isCart", desc := "(I)Z" } : Jvm.MethodName)) ∈ lw_all := lw_g (lw_at lw_m17 2 rfl) rfl
theorem q3978 : (Jvm.Cond.code ({ cls := "RoseGuildModel", name := "isCart", desc := "(I)Z" } : Jvm.MethodName) prog_21_method_14_code (2 : Nat) (Option.some Jvm.ClassFile.FieldType.boolean)) ∈ lw_all := lw_g (lw_at lw_m17 3 rfl) rfl
theorem q3979 : (Jvm.Cond.methodLink "RoseGuildModel" (352 : Nat) ({ cls := "RoseGuildModel", name := "isStreet", desc := "(I)Z" } : Jvm.MethodName)) ∈ lw_all := lw_g (lw_at lw_m17 4 rfl) rfl
theorem q3980 : (Jvm.Cond.privateMethod ({ cls := "RoseGuildModel", name := "isStreet", desc := "(I)Z" } : Jvm.MethodName)) ∈ lw_tbl := lw_at lw_m17 5 rfl
theorem q3981 : (Jvm.Cond.instanceMethod ({ cls := "RoseGuildModel", name := "isStreet", desc := "(I)Z" } : Jvm.MethodName)) ∈ lw_all := lw_g (lw_at lw_m17 6 rfl) rfl
theorem q3982 : (Jvm.Cond.code ({ cls := "RoseGuildModel", name := "isStreet", desc := "(I)Z" } : Jvm.MethodName) prog_21_method_12_code (2 : Nat) (Option.some Jvm.ClassFile.FieldType.boolean)) ∈ lw_all := lw_g (lw_at lw_m17 7 rfl) rfl
theorem q3983 : (Jvm.Cond.methodLink "RoseGuildModel" (358 : Nat) ({ cls := "RoseGuildModel", name := "isGarden", desc := "(I)Z" } : Jvm.MethodName)) ∈ lw_all := lw_g (lw_at lw_m17 8 rfl) rfl
theorem q3984 : (Jvm.Cond.privateMethod ({ cls := "RoseGuildModel", name := "isGarden", desc := "(I)Z" } : Jvm.MethodName)) ∈ lw_tbl := lw_at lw_m17 9 rfl
theorem q3985 : (Jvm.Cond.instanceMethod ({ cls := "RoseGuildModel", name := "isGarden", desc := "(I)Z" } : Jvm.MethodName)) ∈ lw_all := lw_g (lw_at lw_m17 10 rfl) rfl
theorem q3986 : (Jvm.Cond.code ({ cls := "RoseGuildModel", name := "isGarden", desc := "(I)Z" } : Jvm.MethodName) prog_21_method_13_code (2 : Nat) (Option.some Jvm.ClassFile.FieldType.boolean)) ∈ lw_all := lw_g (lw_at lw_m17 11 rfl) rfl
theorem q3987 : (Jvm.Cond.methodLink "RoseGuildModel" (111 : Nat) ({ cls := "RoseGuildModel", name := "isBound", desc := "(I)Z" } : Jvm.MethodName)) ∈ lw_all := lw_g (lw_at lw_m17 12 rfl) rfl
theorem q3988 : (Jvm.Cond.privateMethod ({ cls := "RoseGuildModel", name := "isBound", desc := "(I)Z" } : Jvm.MethodName)) ∈ lw_tbl := lw_at lw_m17 13 rfl
theorem q3989 : (Jvm.Cond.instanceMethod ({ cls := "RoseGuildModel", name := "isBound", desc := "(I)Z" } : Jvm.MethodName)) ∈ lw_all := lw_g (lw_at lw_m17 14 rfl) rfl
theorem q3990 : (Jvm.Cond.code ({ cls := "RoseGuildModel", name := "isBound", desc := "(I)Z" } : Jvm.MethodName) prog_21_method_15_code (2 : Nat) (Option.some Jvm.ClassFile.FieldType.boolean)) ∈ lw_all := lw_g (lw_at lw_m17 15 rfl) rfl
theorem q3991 : (Jvm.Cond.methodLink "RoseGuildModel" (92 : Nat) ({ cls := "RoseGuildModel", name := "ofC", desc := "(II)I" } : Jvm.MethodName)) ∈ lw_all := lw_g (lw_at lw_m17 16 rfl) rfl
theorem q3992 : (Jvm.Cond.privateMethod ({ cls := "RoseGuildModel", name := "ofC", desc := "(II)I" } : Jvm.MethodName)) ∈ lw_tbl := lw_at lw_m17 17 rfl
theorem q3993 : (Jvm.Cond.instanceMethod ({ cls := "RoseGuildModel", name := "ofC", desc := "(II)I" } : Jvm.MethodName)) ∈ lw_all := lw_g (lw_at lw_m17 18 rfl) rfl
theorem q3994 : (Jvm.Cond.code ({ cls := "RoseGuildModel", name := "ofC", desc := "(II)I" } : Jvm.MethodName) prog_21_method_10_code (3 : Nat) (Option.some Jvm.ClassFile.FieldType.int)) ∈ lw_all := lw_g (lw_at lw_m17 19 rfl) rfl
theorem q3995 : (Jvm.Cond.methodLink "RoseGuildModel" (382 : Nat) ({ cls := "RoseGuildModel", name := "changes", desc := "()V" } : Jvm.MethodName)) ∈ lw_all := lw_g (lw_at lw_m17 20 rfl) rfl
theorem q3996 : (Jvm.Cond.privateMethod ({ cls := "RoseGuildModel", name := "changes", desc := "()V" } : Jvm.MethodName)) ∈ lw_tbl := lw_at lw_m17 21 rfl
theorem q3997 : (Jvm.Cond.instanceMethod ({ cls := "RoseGuildModel", name := "changes", desc := "()V" } : Jvm.MethodName)) ∈ lw_all := lw_g (lw_at lw_m17 22 rfl) rfl
theorem q3998 : (Jvm.Cond.code ({ cls := "RoseGuildModel", name := "changes", desc := "()V" } : Jvm.MethodName) prog_21_method_113_code (1 : Nat) (Option.none : Option Jvm.ClassFile.FieldType)) ∈ lw_all := lw_g (lw_at lw_m17 23 rfl) rfl
theorem q3999 : (Jvm.Cond.methodLink "RoseGuildModel" (118 : Nat) ({ cls := "RoseGuildModel", name := "hours", desc := "(III)I" } : Jvm.MethodName)) ∈ lw_all := lw_g (lw_at lw_m17 24 rfl) rfl
theorem q4000 : (Jvm.Cond.privateMethod ({ cls := "RoseGuildModel", name := "hours", desc := "(III)I" } : Jvm.MethodName)) ∈ lw_tbl := lw_at lw_m17 25 rfl
theorem q4001 : (Jvm.Cond.instanceMethod ({ cls := "RoseGuildModel", name := "hours", desc := "(III)I" } : Jvm.MethodName)) ∈ lw_all := lw_g (lw_at lw_m17 26 rfl) rfl
theorem q4002 : (Jvm.Cond.code ({ cls := "RoseGuildModel", name := "hours", desc := "(III)I" } : Jvm.MethodName) prog_21_method_16_code (5 : Nat) (Option.some Jvm.ClassFile.FieldType.int)) ∈ lw_all := lw_g (lw_at lw_m17 27 rfl) rfl
theorem q4003 : (Jvm.Cond.methodLink "RoseGuildModel" (102 : Nat) ({ cls := "java/lang/Math", name := "abs", desc := "(I)I" } : Jvm.MethodName)) ∈ lw_all := lw_g (lw_at lw_m17 28 rfl) rfl
theorem q4004 : (Jvm.Cond.methodLink "RoseGuildModel" (324 : Nat) ({ cls := "RoseGuildModel", name := "cancelling", desc := "(I)I" } : Jvm.MethodName)) ∈ lw_all := lw_g (lw_at lw_m17 29 rfl) rfl
theorem q4005 : (Jvm.Cond.privateMethod ({ cls := "RoseGuildModel", name := "cancelling", desc := "(I)I" } : Jvm.MethodName)) ∈ lw_tbl := lw_at lw_m17 30 rfl
theorem q4006 : (Jvm.Cond.instanceMethod ({ cls := "RoseGuildModel", name := "cancelling", desc := "(I)I" } : Jvm.MethodName)) ∈ lw_all := lw_g (lw_at lw_m17 31 rfl) rfl
theorem q4007 : (Jvm.Cond.code ({ cls := "RoseGuildModel", name := "cancelling", desc := "(I)I" } : Jvm.MethodName) prog_21_method_116_code (3 : Nat) (Option.some Jvm.ClassFile.FieldType.int)) ∈ lw_all := lw_g (lw_at lw_m17 32 rfl) rfl
theorem q4008 : (Jvm.Cond.methodLink "RoseGuildModel" (327 : Nat) ({ cls := "RoseGuildModel", name := "advancing", desc := "(I)I" } : Jvm.MethodName)) ∈ lw_all := lw_g (lw_at lw_m17 33 rfl) rfl
theorem q4009 : (Jvm.Cond.privateMethod ({ cls := "RoseGuildModel", name := "advancing", desc := "(I)I" } : Jvm.MethodName)) ∈ lw_tbl := lw_at lw_m17 34 rfl
theorem q4010 : (Jvm.Cond.instanceMethod ({ cls := "RoseGuildModel", name := "advancing", desc := "(I)I" } : Jvm.MethodName)) ∈ lw_all := lw_g (lw_at lw_m17 35 rfl) rfl
theorem q4011 : (Jvm.Cond.code ({ cls := "RoseGuildModel", name := "advancing", desc := "(I)I" } : Jvm.MethodName) prog_21_method_118_code (3 : Nat) (Option.some Jvm.ClassFile.FieldType.int)) ∈ lw_all := lw_g (lw_at lw_m17 36 rfl) rfl
theorem q4012 : (Jvm.Cond.methodLink "RoseGuildModel" (379 : Nat) ({ cls := "RoseGuildModel", name := "runs", desc := "(I)V" } : Jvm.MethodName)) ∈ lw_all := lw_g (lw_at lw_m17 37 rfl) rfl
theorem q4013 : (Jvm.Cond.privateMethod ({ cls := "RoseGuildModel", name := "runs", desc := "(I)V" } : Jvm.MethodName)) ∈ lw_tbl := lw_at lw_m17 38 rfl
theorem q4014 : (Jvm.Cond.instanceMethod ({ cls := "RoseGuildModel", name := "runs", desc := "(I)V" } : Jvm.MethodName)) ∈ lw_all := lw_g (lw_at lw_m17 39 rfl) rfl
theorem q4015 : (Jvm.Cond.code ({ cls := "RoseGuildModel", name := "runs", desc := "(I)V" } : Jvm.MethodName) prog_21_method_32_code (3 : Nat) (Option.none : Option Jvm.ClassFile.FieldType)) ∈ lw_all := lw_g (lw_at lw_m17 40 rfl) rfl
theorem q4016 : (Jvm.Cond.methodLink "RoseGuildModel" (170 : Nat) ({ cls := "RoseGuildModel", name := "nightPasses", desc := "()V" } : Jvm.MethodName)) ∈ lw_all := lw_g (lw_at lw_m17 41 rfl) rfl
theorem q4017 : (Jvm.Cond.privateMethod ({ cls := "RoseGuildModel", name := "nightPasses", desc := "()V" } : Jvm.MethodName)) ∈ lw_tbl := lw_at lw_m17 42 rfl
theorem q4018 : (Jvm.Cond.instanceMethod ({ cls := "RoseGuildModel", name := "nightPasses", desc := "()V" } : Jvm.MethodName)) ∈ lw_all := lw_g (lw_at lw_m17 43 rfl) rfl
theorem q4019 : (Jvm.Cond.code ({ cls := "RoseGuildModel", name := "nightPasses", desc := "()V" } : Jvm.MethodName) prog_21_method_29_code (2 : Nat) (Option.none : Option Jvm.ClassFile.FieldType)) ∈ lw_all := lw_g (lw_at lw_m17 44 rfl) rfl
theorem q4020 : (Jvm.Cond.methodLink "RoseGuildModel" (155 : Nat) ({ cls := "RoseGuildModel", name := "begins", desc := "()V" } : Jvm.MethodName)) ∈ lw_all := lw_g (lw_at lw_m17 45 rfl) rfl
theorem q4021 : (Jvm.Cond.privateMethod ({ cls := "RoseGuildModel", name := "begins", desc := "()V" } : Jvm.MethodName)) ∈ lw_tbl := lw_at lw_m17 46 rfl
theorem q4022 : (Jvm.Cond.instanceMethod ({ cls := "RoseGuildModel", name := "begins", desc := "()V" } : Jvm.MethodName)) ∈ lw_all := lw_g (lw_at lw_m17 47 rfl) rfl
theorem q4023 : (Jvm.Cond.code ({ cls := "RoseGuildModel", name := "begins", desc := "()V" } : Jvm.MethodName) prog_21_method_28_code (2 : Nat) (Option.none : Option Jvm.ClassFile.FieldType)) ∈ lw_all := lw_g (lw_at lw_m17 48 rfl) rfl
theorem q4024 : (Jvm.Cond.methodLink "RoseGuildModel" (152 : Nat) ({ cls := "RoseGuildModel", name := "gathers", desc := "(I)V" } : Jvm.MethodName)) ∈ lw_all := lw_g (lw_at lw_m17 49 rfl) rfl
theorem q4025 : (Jvm.Cond.privateMethod ({ cls := "RoseGuildModel", name := "gathers", desc := "(I)V" } : Jvm.MethodName)) ∈ lw_tbl := lw_at lw_m17 50 rfl
theorem q4026 : (Jvm.Cond.instanceMethod ({ cls := "RoseGuildModel", name := "gathers", desc := "(I)V" } : Jvm.MethodName)) ∈ lw_all := lw_g (lw_at lw_m17 51 rfl) rfl
theorem q4027 : (Jvm.Cond.code ({ cls := "RoseGuildModel", name := "gathers", desc := "(I)V" } : Jvm.MethodName) prog_21_method_21_code (4 : Nat) (Option.none : Option Jvm.ClassFile.FieldType)) ∈ lw_all := lw_g (lw_at lw_m17 52 rfl) rfl
theorem q4028 : (Jvm.Cond.methodLink "RoseGuildModel" (122 : Nat) ({ cls := "java/lang/Math", name := "max", desc := "(II)I" } : Jvm.MethodName)) ∈ lw_all := lw_g (lw_at lw_m17 53 rfl) rfl
theorem q4029 : (Jvm.Cond.methodLink "RoseGuildModel" (125 : Nat) ({ cls := "RoseGuildModel", name := "addS", desc := "(III)V" } : Jvm.MethodName)) ∈ lw_all := lw_g (lw_at lw_m17 54 rfl) rfl
theorem q4030 : (Jvm.Cond.privateMethod ({ cls := "RoseGuildModel", name := "addS", desc := "(III)V" } : Jvm.MethodName)) ∈ lw_tbl := lw_at lw_m17 55 rfl
theorem q4031 : (Jvm.Cond.instanceMethod ({ cls := "RoseGuildModel", name := "addS", desc := "(III)V" } : Jvm.MethodName)) ∈ lw_all := lw_g (lw_at lw_m17 56 rfl) rfl
theorem q4032 : (Jvm.Cond.code ({ cls := "RoseGuildModel", name := "addS", desc := "(III)V" } : Jvm.MethodName) prog_21_method_7_code (4 : Nat) (Option.none : Option Jvm.ClassFile.FieldType)) ∈ lw_all := lw_g (lw_at lw_m17 57 rfl) rfl
theorem q4033 : (Jvm.Cond.methodLink "RoseGuildModel" (158 : Nat) ({ cls := "RoseGuildModel", name := "delivers", desc := "(I)V" } : Jvm.MethodName)) ∈ lw_all := lw_g (lw_at lw_m17 58 rfl) rfl
theorem q4034 : (Jvm.Cond.privateMethod ({ cls := "RoseGuildModel", name := "delivers", desc := "(I)V" } : Jvm.MethodName)) ∈ lw_tbl := lw_at lw_m17 59 rfl
theorem q4035 : (Jvm.Cond.instanceMethod ({ cls := "RoseGuildModel", name := "delivers", desc := "(I)V" } : Jvm.MethodName)) ∈ lw_all := lw_g (lw_at lw_m17 60 rfl) rfl
theorem q4036 : (Jvm.Cond.code ({ cls := "RoseGuildModel", name := "delivers", desc := "(I)V" } : Jvm.MethodName) prog_21_method_24_code (5 : Nat) (Option.none : Option Jvm.ClassFile.FieldType)) ∈ lw_all := lw_g (lw_at lw_m17 61 rfl) rfl
theorem q4037 : (Jvm.Cond.methodLink "RoseGuildModel" (129 : Nat) ({ cls := "RoseGuildModel", name := "loadOf", desc := "(I)I" } : Jvm.MethodName)) ∈ lw_all := lw_g (lw_at lw_m17 62 rfl) rfl
theorem q4038 : (Jvm.Cond.privateMethod ({ cls := "RoseGuildModel", name := "loadOf", desc := "(I)I" } : Jvm.MethodName)) ∈ lw_tbl := lw_at lw_m17 63 rfl
theorem q4039 : (Jvm.Cond.instanceMethod ({ cls := "RoseGuildModel", name := "loadOf", desc := "(I)I" } : Jvm.MethodName)) ∈ lw_all := lw_g (lw_at lw_m17 64 rfl) rfl
theorem q4040 : (Jvm.Cond.code ({ cls := "RoseGuildModel", name := "loadOf", desc := "(I)I" } : Jvm.MethodName) prog_21_method_19_code (2 : Nat) (Option.some Jvm.ClassFile.FieldType.int)) ∈ lw_all := lw_g (lw_at lw_m17 65 rfl) rfl
theorem q4041 : (Jvm.Cond.methodLink "RoseGuildModel" (132 : Nat) ({ cls := "RoseGuildModel", name := "addG", desc := "(III)V" } : Jvm.MethodName)) ∈ lw_all := lw_g (lw_at lw_m17 66 rfl) rfl
theorem q4042 : (Jvm.Cond.privateMethod ({ cls := "RoseGuildModel", name := "addG", desc := "(III)V" } : Jvm.MethodName)) ∈ lw_tbl := lw_at lw_m17 67 rfl
theorem q4043 : (Jvm.Cond.instanceMethod ({ cls := "RoseGuildModel", name := "addG", desc := "(III)V" } : Jvm.MethodName)) ∈ lw_all := lw_g (lw_at lw_m17 68 rfl) rfl
theorem q4044 : (Jvm.Cond.code ({ cls := "RoseGuildModel", name := "addG", desc := "(III)V" } : Jvm.MethodName) prog_21_method_9_code (4 : Nat) (Option.none : Option Jvm.ClassFile.FieldType)) ∈ lw_all := lw_g (lw_at lw_m17 69 rfl) rfl
theorem q4045 : (Jvm.Cond.methodLink "RoseGuildModel" (135 : Nat) ({ cls := "RoseGuildModel", name := "earns", desc := "(I)V" } : Jvm.MethodName)) ∈ lw_all := lw_g (lw_at lw_m17 70 rfl) rfl
theorem q4046 : (Jvm.Cond.privateMethod ({ cls := "RoseGuildModel", name := "earns", desc := "(I)V" } : Jvm.MethodName)) ∈ lw_tbl := lw_at lw_m17 71 rfl
theorem q4047 : (Jvm.Cond.instanceMethod ({ cls := "RoseGuildModel", name := "earns", desc := "(I)V" } : Jvm.MethodName)) ∈ lw_all := lw_g (lw_at lw_m17 72 rfl) rfl
theorem q4048 : (Jvm.Cond.code ({ cls := "RoseGuildModel", name := "earns", desc := "(I)V" } : Jvm.MethodName) prog_21_method_23_code (2 : Nat) (Option.none : Option Jvm.ClassFile.FieldType)) ∈ lw_all := lw_g (lw_at lw_m17 73 rfl) rfl
theorem q4049 : (Jvm.Cond.methodLink "RoseGuildModel" (139 : Nat) ({ cls := "RoseGuildModel", name := "isLate", desc := "(I)Z" } : Jvm.MethodName)) ∈ lw_all := lw_g (lw_at lw_m17 74 rfl) rfl
theorem q4050 : (Jvm.Cond.privateMethod ({ cls := "RoseGuildModel", name := "isLate", desc := "(I)Z" } : Jvm.MethodName)) ∈ lw_tbl := lw_at lw_m17 75 rfl
theorem q4051 : (Jvm.Cond.instanceMethod ({ cls := "RoseGuildModel", name := "isLate", desc := "(I)Z" } : Jvm.MethodName)) ∈ lw_all := lw_g (lw_at lw_m17 76 rfl) rfl
theorem q4052 : (Jvm.Cond.code ({ cls := "RoseGuildModel", name := "isLate", desc := "(I)Z" } : Jvm.MethodName) prog_21_method_20_code (2 : Nat) (Option.some Jvm.ClassFile.FieldType.boolean)) ∈ lw_all := lw_g (lw_at lw_m17 77 rfl) rfl
theorem q4053 : (Jvm.Cond.methodLink "RoseGuildModel" (142 : Nat) ({ cls := "RoseGuildModel", name := "logs", desc := "(IIZ)V" } : Jvm.MethodName)) ∈ lw_all := lw_g (lw_at lw_m17 78 rfl) rfl
theorem q4054 : (Jvm.Cond.privateMethod ({ cls := "RoseGuildModel", name := "logs", desc := "(IIZ)V" } : Jvm.MethodName)) ∈ lw_tbl := lw_at lw_m17 79 rfl
theorem q4055 : (Jvm.Cond.instanceMethod ({ cls := "RoseGuildModel", name := "logs", desc := "(IIZ)V" } : Jvm.MethodName)) ∈ lw_all := lw_g (lw_at lw_m17 80 rfl) rfl
theorem q4056 : (Jvm.Cond.code ({ cls := "RoseGuildModel", name := "logs", desc := "(IIZ)V" } : Jvm.MethodName) prog_21_method_22_code (5 : Nat) (Option.none : Option Jvm.ClassFile.FieldType)) ∈ lw_all := lw_g (lw_at lw_m17 81 rfl) rfl
theorem q4057 : (Jvm.Cond.methodLink "RoseGuildModel" (146 : Nat) ({ cls := "RoseGuildModel", name := "smells", desc := "(III)Z" } : Jvm.MethodName)) ∈ lw_all := lw_g (lw_at lw_m17 82 rfl) rfl
theorem q4058 : (Jvm.Cond.privateMethod ({ cls := "RoseGuildModel", name := "smells", desc := "(III)Z" } : Jvm.MethodName)) ∈ lw_tbl := lw_at lw_m17 83 rfl
theorem q4059 : (Jvm.Cond.instanceMethod ({ cls := "RoseGuildModel", name := "smells", desc := "(III)Z" } : Jvm.MethodName)) ∈ lw_all := lw_g (lw_at lw_m17 84 rfl) rfl
theorem q4060 : (Jvm.Cond.code ({ cls := "RoseGuildModel", name := "smells", desc := "(III)Z" } : Jvm.MethodName) prog_21_method_18_code (9 : Nat) (Option.some Jvm.ClassFile.FieldType.boolean)) ∈ lw_all := lw_g (lw_at lw_m17 85 rfl) rfl
theorem q4061 : (Jvm.Cond.methodLink "RoseGuildModel" (108 : Nat) ({ cls := "RoseGuildModel", name := "blows", desc := "()I" } : Jvm.MethodName)) ∈ lw_all := lw_g (lw_at lw_m17 86 rfl) rfl
theorem q4062 : (Jvm.Cond.privateMethod ({ cls := "RoseGuildModel", name := "blows", desc := "()I" } : Jvm.MethodName)) ∈ lw_tbl := lw_at lw_m17 87 rfl
theorem q4063 : (Jvm.Cond.instanceMethod ({ cls := "RoseGuildModel", name := "blows", desc := "()I" } : Jvm.MethodName)) ∈ lw_all := lw_g (lw_at lw_m17 88 rfl) rfl
theorem q4064 : (Jvm.Cond.code ({ cls := "RoseGuildModel", name := "blows", desc := "()I" } : Jvm.MethodName) prog_21_method_17_code (1 : Nat) (Option.some Jvm.ClassFile.FieldType.int)) ∈ lw_all := lw_g (lw_at lw_m17 89 rfl) rfl
theorem q4065 : (Jvm.Cond.methodLink "RoseGuildModel" (161 : Nat) ({ cls := "RoseGuildModel", name := "blooms", desc := "(I)V" } : Jvm.MethodName)) ∈ lw_all := lw_g (lw_at lw_m17 90 rfl) rfl
theorem q4066 : (Jvm.Cond.privateMethod ({ cls := "RoseGuildModel", name := "blooms", desc := "(I)V" } : Jvm.MethodName)) ∈ lw_tbl := lw_at lw_m17 91 rfl
theorem q4067 : (Jvm.Cond.instanceMethod ({ cls := "RoseGuildModel", name := "blooms", desc := "(I)V" } : Jvm.MethodName)) ∈ lw_all := lw_g (lw_at lw_m17 92 rfl) rfl
theorem q4068 : (Jvm.Cond.code ({ cls := "RoseGuildModel", name := "blooms", desc := "(I)V" } : Jvm.MethodName) prog_21_method_25_code (4 : Nat) (Option.none : Option Jvm.ClassFile.FieldType)) ∈ lw_all := lw_g (lw_at lw_m17 93 rfl) rfl
theorem q4069 : (Jvm.Cond.methodLink "RoseGuildModel" (167 : Nat) ({ cls := "RoseGuildModel", name := "awards", desc := "()V" } : Jvm.MethodName)) ∈ lw_all := lw_g (lw_at lw_m17 94 rfl) rfl
theorem q4070 : (Jvm.Cond.privateMethod ({ cls := "RoseGuildModel", name := "awards", desc := "()V" } : Jvm.MethodName)) ∈ lw_tbl := lw_at lw_m17 95 rfl
theorem q4071 : (Jvm.Cond.instanceMethod ({ cls := "RoseGuildModel", name := "awards", desc := "()V" } : Jvm.MethodName)) ∈ lw_all := lw_g (lw_at lw_m17 96 rfl) rfl
theorem q4072 : (Jvm.Cond.code ({ cls := "RoseGuildModel", name := "awards", desc := "()V" } : Jvm.MethodName) prog_21_method_27_code (2 : Nat) (Option.none : Option Jvm.ClassFile.FieldType)) ∈ lw_all := lw_g (lw_at lw_m17 97 rfl) rfl
theorem q4073 : (Jvm.Cond.methodLink "RoseGuildModel" (149 : Nat) ({ cls := "RoseGuildModel", name := "leads", desc := "()I" } : Jvm.MethodName)) ∈ lw_all := lw_g (lw_at lw_m17 98 rfl) rfl
theorem q4074 : (Jvm.Cond.privateMethod ({ cls := "RoseGuildModel", name := "leads", desc := "()I" } : Jvm.MethodName)) ∈ lw_tbl := lw_at lw_m17 99 rfl
theorem q4075 : (Jvm.Cond.instanceMethod ({ cls := "RoseGuildModel", name := "leads", desc := "()I" } : Jvm.MethodName)) ∈ lw_all := lw_g (lw_at lw_m17 100 rfl) rfl
theorem q4076 : (Jvm.Cond.code ({ cls := "RoseGuildModel", name := "leads", desc := "()I" } : Jvm.MethodName) prog_21_method_26_code (3 : Nat) (Option.some Jvm.ClassFile.FieldType.int)) ∈ lw_all := lw_g (lw_at lw_m17 101 rfl) rfl
theorem q4077 : (Jvm.Cond.methodLink "RoseGuildModel" (330 : Nat) ({ cls := "RoseGuildModel", name := "setting", desc := "(III)I" } : Jvm.MethodName)) ∈ lw_all := lw_g (lw_at lw_m17 102 rfl) rfl
theorem q4078 : (Jvm.Cond.privateMethod ({ cls := "RoseGuildModel", name := "setting", desc := "(III)I" } : Jvm.MethodName)) ∈ lw_tbl := lw_at lw_m17 103 rfl
theorem q4079 : (Jvm.Cond.instanceMethod ({ cls := "RoseGuildModel", name := "setting", desc := "(III)I" } : Jvm.MethodName)) ∈ lw_all := lw_g (lw_at lw_m17 104 rfl) rfl
theorem q4080 : (Jvm.Cond.code ({ cls := "RoseGuildModel", name := "setting", desc := "(III)I" } : Jvm.MethodName) prog_21_method_120_code (5 : Nat) (Option.some Jvm.ClassFile.FieldType.int)) ∈ lw_all := lw_g (lw_at lw_m17 105 rfl) rfl
theorem q4082 : (Jvm.Cond.instanceMethod ({ cls := "RoseGuildModel", name := "streetCount", desc := "()I" } : Jvm.MethodName)) ∈ lw_all := lw_g (lw_at lw_m17 107 rfl) rfl
theorem q4083 : (Jvm.Cond.selects "RoseGuildModel" ({ cls := "RoseGuildModel", name := "streetCount", desc := "()I" } : Jvm.MethodName) ({ cls := "RoseGuildModel", name := "streetCount", desc := "()I" } : Jvm.MethodName)) ∈ lw_all := lw_g (lw_at lw_m17 108 rfl) rfl
theorem q4084 : (Jvm.Cond.code ({ cls := "RoseGuildModel", name := "streetCount", desc := "()I" } : Jvm.MethodName) prog_21_method_70_code (1 : Nat) (Option.some Jvm.ClassFile.FieldType.int)) ∈ lw_all := lw_g (lw_at lw_m17 109 rfl) rfl
theorem q4086 : (Jvm.Cond.instanceMethod ({ cls := "RoseGuildModel", name := "findStreet", desc := "()I" } : Jvm.MethodName)) ∈ lw_all := lw_g (lw_at lw_m17 111 rfl) rfl
theorem q4087 : (Jvm.Cond.selects "RoseGuildModel" ({ cls := "RoseGuildModel", name := "findStreet", desc := "()I" } : Jvm.MethodName) ({ cls := "RoseGuildModel", name := "findStreet", desc := "()I" } : Jvm.MethodName)) ∈ lw_all := lw_g (lw_at lw_m17 112 rfl) rfl
theorem q4088 : (Jvm.Cond.code ({ cls := "RoseGuildModel", name := "findStreet", desc := "()I" } : Jvm.MethodName) prog_21_method_72_code (1 : Nat) (Option.some Jvm.ClassFile.FieldType.int)) ∈ lw_all := lw_g (lw_at lw_m17 113 rfl) rfl
theorem q4089 : (Jvm.Cond.methodLink "RoseGuildModel" (349 : Nat) ({ cls := "RoseGuildModel", name := "buffered", desc := "()I" } : Jvm.MethodName)) ∈ lw_all := lw_g (lw_at lw_m17 114 rfl) rfl
theorem q4090 : (Jvm.Cond.privateMethod ({ cls := "RoseGuildModel", name := "buffered", desc := "()I" } : Jvm.MethodName)) ∈ lw_tbl := lw_at lw_m17 115 rfl
theorem q4091 : (Jvm.Cond.instanceMethod ({ cls := "RoseGuildModel", name := "buffered", desc := "()I" } : Jvm.MethodName)) ∈ lw_all := lw_g (lw_at lw_m17 116 rfl) rfl
theorem q4092 : (Jvm.Cond.code ({ cls := "RoseGuildModel", name := "buffered", desc := "()I" } : Jvm.MethodName) prog_21_method_71_code (2 : Nat) (Option.some Jvm.ClassFile.FieldType.int)) ∈ lw_all := lw_g (lw_at lw_m17 117 rfl) rfl
theorem q4094 : (Jvm.Cond.instanceMethod ({ cls := "RoseGuildModel", name := "streetAt", desc := "(II)I" } : Jvm.MethodName)) ∈ lw_all := lw_g (lw_at lw_m17 119 rfl) rfl
theorem q4095 : (Jvm.Cond.selects "RoseGuildModel" ({ cls := "RoseGuildModel", name := "streetAt", desc := "(II)I" } : Jvm.MethodName) ({ cls := "RoseGuildModel", name := "streetAt", desc := "(II)I" } : Jvm.MethodName)) ∈ lw_all := lw_g (lw_at lw_m17 120 rfl) rfl
theorem q4096 : (Jvm.Cond.code ({ cls := "RoseGuildModel", name := "streetAt", desc := "(II)I" } : Jvm.MethodName) prog_21_method_73_code (3 : Nat) (Option.some Jvm.ClassFile.FieldType.int)) ∈ lw_all := lw_g (lw_at lw_m17 121 rfl) rfl
theorem q4098 : (Jvm.Cond.instanceMethod ({ cls := "RoseGuildModel", name := "bins", desc := "(I)I" } : Jvm.MethodName)) ∈ lw_all := lw_g (lw_at lw_m17 123 rfl) rfl
theorem q4099 : (Jvm.Cond.selects "RoseGuildModel" ({ cls := "RoseGuildModel", name := "bins", desc := "(I)I" } : Jvm.MethodName) ({ cls := "RoseGuildModel", name := "bins", desc := "(I)I" } : Jvm.MethodName)) ∈ lw_all := lw_g (lw_at lw_m17 124 rfl) rfl
theorem q4100 : (Jvm.Cond.code ({ cls := "RoseGuildModel", name := "bins", desc := "(I)I" } : Jvm.MethodName) prog_21_method_75_code (2 : Nat) (Option.some Jvm.ClassFile.FieldType.int)) ∈ lw_all := lw_g (lw_at lw_m17 125 rfl) rfl
theorem q4101 : (Jvm.Cond.methodLink "RoseGuildModel" (355 : Nat) ({ cls := "RoseGuildModel", name := "askedS", desc := "(II)I" } : Jvm.MethodName)) ∈ lw_all := lw_g (lw_at lw_m17 126 rfl) rfl
theorem q4102 : (Jvm.Cond.privateMethod ({ cls := "RoseGuildModel", name := "askedS", desc := "(II)I" } : Jvm.MethodName)) ∈ lw_tbl := lw_at lw_m17 127 rfl
theorem q4103 : (Jvm.Cond.instanceMethod ({ cls := "RoseGuildModel", name := "askedS", desc := "(II)I" } : Jvm.MethodName)) ∈ lw_all := lw_g (lw_at lw_m17 128 rfl) rfl
theorem q4104 : (Jvm.Cond.code ({ cls := "RoseGuildModel", name := "askedS", desc := "(II)I" } : Jvm.MethodName) prog_21_method_74_code (3 : Nat) (Option.some Jvm.ClassFile.FieldType.int)) ∈ lw_all := lw_g (lw_at lw_m17 129 rfl) rfl
theorem q4106 : (Jvm.Cond.instanceMethod ({ cls := "RoseGuildModel", name := "spilled", desc := "(I)I" } : Jvm.MethodName)) ∈ lw_all := lw_g (lw_at lw_m17 131 rfl) rfl
theorem q4107 : (Jvm.Cond.selects "RoseGuildModel" ({ cls := "RoseGuildModel", name := "spilled", desc := "(I)I" } : Jvm.MethodName) ({ cls := "RoseGuildModel", name := "spilled", desc := "(I)I" } : Jvm.MethodName)) ∈ lw_all := lw_g (lw_at lw_m17 132 rfl) rfl
theorem q4108 : (Jvm.Cond.code ({ cls := "RoseGuildModel", name := "spilled", desc := "(I)I" } : Jvm.MethodName) prog_21_method_76_code (2 : Nat) (Option.some Jvm.ClassFile.FieldType.int)) ∈ lw_all := lw_g (lw_at lw_m17 133 rfl) rfl
theorem q4110 : (Jvm.Cond.instanceMethod ({ cls := "RoseGuildModel", name := "complaints", desc := "(I)I" } : Jvm.MethodName)) ∈ lw_all := lw_g (lw_at lw_m17 135 rfl) rfl
theorem q4111 : (Jvm.Cond.selects "RoseGuildModel" ({ cls := "RoseGuildModel", name := "complaints", desc := "(I)I" } : Jvm.MethodName) ({ cls := "RoseGuildModel", name := "complaints", desc := "(I)I" } : Jvm.MethodName)) ∈ lw_all := lw_g (lw_at lw_m17 136 rfl) rfl
theorem q4112 : (Jvm.Cond.code ({ cls := "RoseGuildModel", name := "complaints", desc := "(I)I" } : Jvm.MethodName) prog_21_method_77_code (2 : Nat) (Option.some Jvm.ClassFile.FieldType.int)) ∈ lw_all := lw_g (lw_at lw_m17 137 rfl) rfl
theorem q4114 : (Jvm.Cond.instanceMethod ({ cls := "RoseGuildModel", name := "wasServed", desc := "(I)Z" } : Jvm.MethodName)) ∈ lw_all := lw_g (lw_at lw_m17 139 rfl) rfl
theorem q4115 : (Jvm.Cond.selects "RoseGuildModel" ({ cls := "RoseGuildModel", name := "wasServed", desc := "(I)Z" } : Jvm.MethodName) ({ cls := "RoseGuildModel", name := "wasServed", desc := "(I)Z" } : Jvm.MethodName)) ∈ lw_all := lw_g (lw_at lw_m17 140 rfl) rfl
theorem q4116 : (Jvm.Cond.code ({ cls := "RoseGuildModel", name := "wasServed", desc := "(I)Z" } : Jvm.MethodName) prog_21_method_78_code (2 : Nat) (Option.some Jvm.ClassFile.FieldType.boolean)) ∈ lw_all := lw_g (lw_at lw_m17 141 rfl) rfl
theorem q4118 : (Jvm.Cond.instanceMethod ({ cls := "RoseGuildModel", name := "gardenCount", desc := "()I" } : Jvm.MethodName)) ∈ lw_all := lw_g (lw_at lw_m17 143 rfl) rfl
theorem q4119 : (Jvm.Cond.selects "RoseGuildModel" ({ cls := "RoseGuildModel", name := "gardenCount", desc := "()I" } : Jvm.MethodName) ({ cls := "RoseGuildModel", name := "gardenCount", desc := "()I" } : Jvm.MethodName)) ∈ lw_all := lw_g (lw_at lw_m17 144 rfl) rfl
theorem q4120 : (Jvm.Cond.code ({ cls := "RoseGuildModel", name := "gardenCount", desc := "()I" } : Jvm.MethodName) prog_21_method_79_code (1 : Nat) (Option.some Jvm.ClassFile.FieldType.int)) ∈ lw_all := lw_g (lw_at lw_m17 145 rfl) rfl
theorem q4122 : (Jvm.Cond.instanceMethod ({ cls := "RoseGuildModel", name := "findGarden", desc := "()I" } : Jvm.MethodName)) ∈ lw_all := lw_g (lw_at lw_m17 147 rfl) rfl
theorem q4123 : (Jvm.Cond.selects "RoseGuildModel" ({ cls := "RoseGuildModel", name := "findGarden", desc := "()I" } : Jvm.MethodName) ({ cls := "RoseGuildModel", name := "findGarden", desc := "()I" } : Jvm.MethodName)) ∈ lw_all := lw_g (lw_at lw_m17 148 rfl) rfl
theorem q4124 : (Jvm.Cond.code ({ cls := "RoseGuildModel", name := "findGarden", desc := "()I" } : Jvm.MethodName) prog_21_method_80_code (1 : Nat) (Option.some Jvm.ClassFile.FieldType.int)) ∈ lw_all := lw_g (lw_at lw_m17 149 rfl) rfl
theorem q4126 : (Jvm.Cond.instanceMethod ({ cls := "RoseGuildModel", name := "stock", desc := "(I)I" } : Jvm.MethodName)) ∈ lw_all := lw_g (lw_at lw_m17 151 rfl) rfl
theorem q4127 : (Jvm.Cond.selects "RoseGuildModel" ({ cls := "RoseGuildModel", name := "stock", desc := "(I)I" } : Jvm.MethodName) ({ cls := "RoseGuildModel", name := "stock", desc := "(I)I" } : Jvm.MethodName)) ∈ lw_all := lw_g (lw_at lw_m17 152 rfl) rfl
theorem q4128 : (Jvm.Cond.code ({ cls := "RoseGuildModel", name := "stock", desc := "(I)I" } : Jvm.MethodName) prog_21_method_82_code (2 : Nat) (Option.some Jvm.ClassFile.FieldType.int)) ∈ lw_all := lw_g (lw_at lw_m17 153 rfl) rfl
theorem q4129 : (Jvm.Cond.methodLink "RoseGuildModel" (361 : Nat) ({ cls := "RoseGuildModel", name := "askedG", desc := "(II)I" } : Jvm.MethodName)) ∈ lw_all := lw_g (lw_at lw_m17 154 rfl) rfl
theorem q4130 : (Jvm.Cond.privateMethod ({ cls := "RoseGuildModel", name := "askedG", desc := "(II)I" } : Jvm.MethodName)) ∈ lw_tbl := lw_at lw_m17 155 rfl
theorem q4131 : (Jvm.Cond.instanceMethod ({ cls := "RoseGuildModel", name := "askedG", desc := "(II)I" } : Jvm.MethodName)) ∈ lw_all := lw_g (lw_at lw_m17 156 rfl) rfl
theorem q4132 : (Jvm.Cond.code ({ cls := "RoseGuildModel", name := "askedG", desc := "(II)I" } : Jvm.MethodName) prog_21_method_81_code (3 : Nat) (Option.some Jvm.ClassFile.FieldType.int)) ∈ lw_all := lw_g (lw_at lw_m17 157 rfl) rfl
theorem q4134 : (Jvm.Cond.instanceMethod ({ cls := "RoseGuildModel", name := "petals", desc := "(I)I" } : Jvm.MethodName)) ∈ lw_all := lw_g (lw_at lw_m17 159 rfl) rfl
theorem q4135 : (Jvm.Cond.selects "RoseGuildModel" ({ cls := "RoseGuildModel", name := "petals", desc := "(I)I" } : Jvm.MethodName) ({ cls := "RoseGuildModel", name := "petals", desc := "(I)I" } : Jvm.MethodName)) ∈ lw_all := lw_g (lw_at lw_m17 160 rfl) rfl
theorem q4136 : (Jvm.Cond.code ({ cls := "RoseGuildModel", name := "petals", desc := "(I)I" } : Jvm.MethodName) prog_21_method_83_code (2 : Nat) (Option.some Jvm.ClassFile.FieldType.int)) ∈ lw_all := lw_g (lw_at lw_m17 161 rfl) rfl
theorem q4138 : (Jvm.Cond.instanceMethod ({ cls := "RoseGuildModel", name := "rotted", desc := "(I)I" } : Jvm.MethodName)) ∈ lw_all := lw_g (lw_at lw_m17 163 rfl) rfl
theorem q4139 : (Jvm.Cond.selects "RoseGuildModel" ({ cls := "RoseGuildModel", name := "rotted", desc := "(I)I" } : Jvm.MethodName) ({ cls := "RoseGuildModel", name := "rotted", desc := "(I)I" } : Jvm.MethodName)) ∈ lw_all := lw_g (lw_at lw_m17 164 rfl) rfl
theorem q4140 : (Jvm.Cond.code ({ cls := "RoseGuildModel", name := "rotted", desc := "(I)I" } : Jvm.MethodName) prog_21_method_84_code (2 : Nat) (Option.some Jvm.ClassFile.FieldType.int)) ∈ lw_all := lw_g (lw_at lw_m17 165 rfl) rfl
theorem q4142 : (Jvm.Cond.instanceMethod ({ cls := "RoseGuildModel", name := "prizes", desc := "(I)I" } : Jvm.MethodName)) ∈ lw_all := lw_g (lw_at lw_m17 167 rfl) rfl
theorem q4143 : (Jvm.Cond.selects "RoseGuildModel" ({ cls := "RoseGuildModel", name := "prizes", desc := "(I)I" } : Jvm.MethodName) ({ cls := "RoseGuildModel", name := "prizes", desc := "(I)I" } : Jvm.MethodName)) ∈ lw_all := lw_g (lw_at lw_m17 168 rfl) rfl
theorem q4144 : (Jvm.Cond.code ({ cls := "RoseGuildModel", name := "prizes", desc := "(I)I" } : Jvm.MethodName) prog_21_method_85_code (2 : Nat) (Option.some Jvm.ClassFile.FieldType.int)) ∈ lw_all := lw_g (lw_at lw_m17 169 rfl) rfl
theorem q4146 : (Jvm.Cond.instanceMethod ({ cls := "RoseGuildModel", name := "leadingGarden", desc := "()I" } : Jvm.MethodName)) ∈ lw_all := lw_g (lw_at lw_m17 171 rfl) rfl
theorem q4147 : (Jvm.Cond.selects "RoseGuildModel" ({ cls := "RoseGuildModel", name := "leadingGarden", desc := "()I" } : Jvm.MethodName) ({ cls := "RoseGuildModel", name := "leadingGarden", desc := "()I" } : Jvm.MethodName)) ∈ lw_all := lw_g (lw_at lw_m17 172 rfl) rfl
theorem q4148 : (Jvm.Cond.code ({ cls := "RoseGuildModel", name := "leadingGarden", desc := "()I" } : Jvm.MethodName) prog_21_method_86_code (1 : Nat) (Option.some Jvm.ClassFile.FieldType.int)) ∈ lw_all := lw_g (lw_at lw_m17 173 rfl) rfl
theorem q4150 : (Jvm.Cond.instanceMethod ({ cls := "RoseGuildModel", name := "cartCount", desc := "()I" } : Jvm.MethodName)) ∈ lw_all := lw_g (lw_at lw_m17 175 rfl) rfl
theorem q4151 : (Jvm.Cond.selects "RoseGuildModel" ({ cls := "RoseGuildModel", name := "cartCount", desc := "()I" } : Jvm.MethodName) ({ cls := "RoseGuildModel", name := "cartCount", desc := "()I" } : Jvm.MethodName)) ∈ lw_all := lw_g (lw_at lw_m17 176 rfl) rfl
theorem q4152 : (Jvm.Cond.code ({ cls := "RoseGuildModel", name := "cartCount", desc := "()I" } : Jvm.MethodName) prog_21_method_87_code (1 : Nat) (Option.some Jvm.ClassFile.FieldType.int)) ∈ lw_all := lw_g (lw_at lw_m17 177 rfl) rfl
theorem q4154 : (Jvm.Cond.instanceMethod ({ cls := "RoseGuildModel", name := "contractStreet", desc := "(I)I" } : Jvm.MethodName)) ∈ lw_all := lw_g (lw_at lw_m17 179 rfl) rfl
theorem q4155 : (Jvm.Cond.selects "RoseGuildModel" ({ cls := "RoseGuildModel", name := "contractStreet", desc := "(I)I" } : Jvm.MethodName) ({ cls := "RoseGuildModel", name := "contractStreet", desc := "(I)I" } : Jvm.MethodName)) ∈ lw_all := lw_g (lw_at lw_m17 180 rfl) rfl
theorem q4156 : (Jvm.Cond.code ({ cls := "RoseGuildModel", name := "contractStreet", desc := "(I)I" } : Jvm.MethodName) prog_21_method_89_code (2 : Nat) (Option.some Jvm.ClassFile.FieldType.int)) ∈ lw_all := lw_g (lw_at lw_m17 181 rfl) rfl
theorem q4157 : (Jvm.Cond.methodLink "RoseGuildModel" (367 : Nat) ({ cls := "RoseGuildModel", name := "finds", desc := "(I)Z" } : Jvm.MethodName)) ∈ lw_all := lw_g (lw_at lw_m17 182 rfl) rfl
theorem q4158 : (Jvm.Cond.privateMethod ({ cls := "RoseGuildModel", name := "finds", desc := "(I)Z" } : Jvm.MethodName)) ∈ lw_tbl := lw_at lw_m17 183 rfl
theorem q4159 : (Jvm.Cond.instanceMethod ({ cls := "RoseGuildModel", name := "finds", desc := "(I)Z" } : Jvm.MethodName)) ∈ lw_all := lw_g (lw_at lw_m17 184 rfl) rfl
theorem q4160 : (Jvm.Cond.code ({ cls := "RoseGuildModel", name := "finds", desc := "(I)Z" } : Jvm.MethodName) prog_21_method_88_code (2 : Nat) (Option.some Jvm.ClassFile.FieldType.boolean)) ∈ lw_all := lw_g (lw_at lw_m17 185 rfl) rfl
theorem q4162 : (Jvm.Cond.instanceMethod ({ cls := "RoseGuildModel", name := "contractGarden", desc := "(I)I" } : Jvm.MethodName)) ∈ lw_all := lw_g (lw_at lw_m17 187 rfl) rfl
theorem q4163 : (Jvm.Cond.selects "RoseGuildModel" ({ cls := "RoseGuildModel", name := "contractGarden", desc := "(I)I" } : Jvm.MethodName) ({ cls := "RoseGuildModel", name := "contractGarden", desc := "(I)I" } : Jvm.MethodName)) ∈ lw_all := lw_g (lw_at lw_m17 188 rfl) rfl
theorem q4164 : (Jvm.Cond.code ({ cls := "RoseGuildModel", name := "contractGarden", desc := "(I)I" } : Jvm.MethodName) prog_21_method_90_code (2 : Nat) (Option.some Jvm.ClassFile.FieldType.int)) ∈ lw_all := lw_g (lw_at lw_m17 189 rfl) rfl
theorem q4166 : (Jvm.Cond.instanceMethod ({ cls := "RoseGuildModel", name := "nightsLeft", desc := "(I)I" } : Jvm.MethodName)) ∈ lw_all := lw_g (lw_at lw_m17 191 rfl) rfl
theorem q4167 : (Jvm.Cond.selects "RoseGuildModel" ({ cls := "RoseGuildModel", name := "nightsLeft", desc := "(I)I" } : Jvm.MethodName) ({ cls := "RoseGuildModel", name := "nightsLeft", desc := "(I)I" } : Jvm.MethodName)) ∈ lw_all := lw_g (lw_at lw_m17 192 rfl) rfl
theorem q4168 : (Jvm.Cond.code ({ cls := "RoseGuildModel", name := "nightsLeft", desc := "(I)I" } : Jvm.MethodName) prog_21_method_91_code (2 : Nat) (Option.some Jvm.ClassFile.FieldType.int)) ∈ lw_all := lw_g (lw_at lw_m17 193 rfl) rfl
theorem q4170 : (Jvm.Cond.instanceMethod ({ cls := "RoseGuildModel", name := "hoursNeeded", desc := "(III)I" } : Jvm.MethodName)) ∈ lw_all := lw_g (lw_at lw_m17 195 rfl) rfl
theorem q4171 : (Jvm.Cond.selects "RoseGuildModel" ({ cls := "RoseGuildModel", name := "hoursNeeded", desc := "(III)I" } : Jvm.MethodName) ({ cls := "RoseGuildModel", name := "hoursNeeded", desc := "(III)I" } : Jvm.MethodName)) ∈ lw_all := lw_g (lw_at lw_m17 196 rfl) rfl
theorem q4172 : (Jvm.Cond.code ({ cls := "RoseGuildModel", name := "hoursNeeded", desc := "(III)I" } : Jvm.MethodName) prog_21_method_92_code (4 : Nat) (Option.some Jvm.ClassFile.FieldType.int)) ∈ lw_all := lw_g (lw_at lw_m17 197 rfl) rfl
theorem q4174 : (Jvm.Cond.instanceMethod ({ cls := "RoseGuildModel", name := "nextLoad", desc := "(I)I" } : Jvm.MethodName)) ∈ lw_all := lw_g (lw_at lw_m17 199 rfl) rfl
theorem q4175 : (Jvm.Cond.selects "RoseGuildModel" ({ cls := "RoseGuildModel", name := "nextLoad", desc := "(I)I" } : Jvm.MethodName) ({ cls := "RoseGuildModel", name := "nextLoad", desc := "(I)I" } : Jvm.MethodName)) ∈ lw_all := lw_g (lw_at lw_m17 200 rfl) rfl
theorem q4176 : (Jvm.Cond.code ({ cls := "RoseGuildModel", name := "nextLoad", desc := "(I)I" } : Jvm.MethodName) prog_21_method_94_code (2 : Nat) (Option.some Jvm.ClassFile.FieldType.int)) ∈ lw_all := lw_g (lw_at lw_m17 201 rfl) rfl
theorem q4177 : (Jvm.Cond.methodLink "RoseGuildModel" (376 : Nat) ({ cls := "RoseGuildModel", name := "loadNext", desc := "(I)I" } : Jvm.MethodName)) ∈ lw_all := lw_g (lw_at lw_m17 202 rfl) rfl
theorem q4178 : (Jvm.Cond.privateMethod ({ cls := "RoseGuildModel", name := "loadNext", desc := "(I)I" } : Jvm.MethodName)) ∈ lw_tbl := lw_at lw_m17 203 rfl
theorem q4179 : (Jvm.Cond.instanceMethod ({ cls := "RoseGuildModel", name := "loadNext", desc := "(I)I" } : Jvm.MethodName)) ∈ lw_all := lw_g (lw_at lw_m17 204 rfl) rfl
theorem q4180 : (Jvm.Cond.code ({ cls := "RoseGuildModel", name := "loadNext", desc := "(I)I" } : Jvm.MethodName) prog_21_method_93_code (3 : Nat) (Option.some Jvm.ClassFile.FieldType.int)) ∈ lw_all := lw_g (lw_at lw_m17 205 rfl) rfl
theorem q4181 : (Jvm.Cond.methodLink "RoseGuildModel" (370 : Nat) ({ cls := "RoseGuildModel", name := "tries", desc := "()V" } : Jvm.MethodName)) ∈ lw_all := lw_g (lw_at lw_m17 206 rfl) rfl
theorem q4182 : (Jvm.Cond.privateMethod ({ cls := "RoseGuildModel", name := "tries", desc := "()V" } : Jvm.MethodName)) ∈ lw_tbl := lw_at lw_m17 207 rfl
theorem q4183 : (Jvm.Cond.instanceMethod ({ cls := "RoseGuildModel", name := "tries", desc := "()V" } : Jvm.MethodName)) ∈ lw_all := lw_g (lw_at lw_m17 208 rfl) rfl
theorem q4184 : (Jvm.Cond.code ({ cls := "RoseGuildModel", name := "tries", desc := "()V" } : Jvm.MethodName) prog_21_method_30_code (2 : Nat) (Option.none : Option Jvm.ClassFile.FieldType)) ∈ lw_all := lw_g (lw_at lw_m17 209 rfl) rfl
theorem q4185 : (Jvm.Cond.methodLink "RoseGuildModel" (373 : Nat) ({ cls := "RoseGuildModel", name := "back", desc := "(I)I" } : Jvm.MethodName)) ∈ lw_all := lw_g (lw_at lw_m17 210 rfl) rfl
theorem q4186 : (Jvm.Cond.privateMethod ({ cls := "RoseGuildModel", name := "back", desc := "(I)I" } : Jvm.MethodName)) ∈ lw_tbl := lw_at lw_m17 211 rfl
theorem q4187 : (Jvm.Cond.instanceMethod ({ cls := "RoseGuildModel", name := "back", desc := "(I)I" } : Jvm.MethodName)) ∈ lw_all := lw_g (lw_at lw_m17 212 rfl) rfl
theorem q4188 : (Jvm.Cond.code ({ cls := "RoseGuildModel", name := "back", desc := "(I)I" } : Jvm.MethodName) prog_21_method_31_code (3 : Nat) (Option.some Jvm.ClassFile.FieldType.int)) ∈ lw_all := lw_g (lw_at lw_m17 213 rfl) rfl
theorem q4190 : (Jvm.Cond.instanceMethod ({ cls := "RoseGuildModel", name := "outlook", desc := "(I)I" } : Jvm.MethodName)) ∈ lw_all := lw_g (lw_at lw_m17 215 rfl) rfl
theorem q4191 : (Jvm.Cond.selects "RoseGuildModel" ({ cls := "RoseGuildModel", name := "outlook", desc := "(I)I" } : Jvm.MethodName) ({ cls := "RoseGuildModel", name := "outlook", desc := "(I)I" } : Jvm.MethodName)) ∈ lw_all := lw_g (lw_at lw_m17 216 rfl) rfl
theorem q4192 : (Jvm.Cond.code ({ cls := "RoseGuildModel", name := "outlook", desc := "(I)I" } : Jvm.MethodName) prog_21_method_95_code (2 : Nat) (Option.some Jvm.ClassFile.FieldType.int)) ∈ lw_all := lw_g (lw_at lw_m17 217 rfl) rfl
theorem q4194 : (Jvm.Cond.instanceMethod ({ cls := "RoseGuildModel", name := "quickestGarden", desc := "(II)I" } : Jvm.MethodName)) ∈ lw_all := lw_g (lw_at lw_m17 219 rfl) rfl
theorem q4195 : (Jvm.Cond.selects "RoseGuildModel" ({ cls := "RoseGuildModel", name := "quickestGarden", desc := "(II)I" } : Jvm.MethodName) ({ cls := "RoseGuildModel", name := "quickestGarden", desc := "(II)I" } : Jvm.MethodName)) ∈ lw_all := lw_g (lw_at lw_m17 220 rfl) rfl
theorem q4196 : (Jvm.Cond.code ({ cls := "RoseGuildModel", name := "quickestGarden", desc := "(II)I" } : Jvm.MethodName) prog_21_method_96_code (5 : Nat) (Option.some Jvm.ClassFile.FieldType.int)) ∈ lw_all := lw_g (lw_at lw_m17 221 rfl) rfl
theorem q4198 : (Jvm.Cond.instanceMethod ({ cls := "RoseGuildModel", name := "night", desc := "()I" } : Jvm.MethodName)) ∈ lw_all := lw_g (lw_at lw_m17 223 rfl) rfl
theorem q4199 : (Jvm.Cond.selects "RoseGuildModel" ({ cls := "RoseGuildModel", name := "night", desc := "()I" } : Jvm.MethodName) ({ cls := "RoseGuildModel", name := "night", desc := "()I" } : Jvm.MethodName)) ∈ lw_all := lw_g (lw_at lw_m17 224 rfl) rfl
theorem q4200 : (Jvm.Cond.code ({ cls := "RoseGuildModel", name := "night", desc := "()I" } : Jvm.MethodName) prog_21_method_97_code (1 : Nat) (Option.some Jvm.ClassFile.FieldType.int)) ∈ lw_all := lw_g (lw_at lw_m17 225 rfl) rfl
theorem q4202 : (Jvm.Cond.instanceMethod ({ cls := "RoseGuildModel", name := "balance", desc := "()I" } : Jvm.MethodName)) ∈ lw_all := lw_g (lw_at lw_m17 227 rfl) rfl
theorem q4203 : (Jvm.Cond.selects "RoseGuildModel" ({ cls := "RoseGuildModel", name := "balance", desc := "()I" } : Jvm.MethodName) ({ cls := "RoseGuildModel", name := "balance", desc := "()I" } : Jvm.MethodName)) ∈ lw_all := lw_g (lw_at lw_m17 228 rfl) rfl
theorem q4204 : (Jvm.Cond.code ({ cls := "RoseGuildModel", name := "balance", desc := "()I" } : Jvm.MethodName) prog_21_method_98_code (1 : Nat) (Option.some Jvm.ClassFile.FieldType.int)) ∈ lw_all := lw_g (lw_at lw_m17 229 rfl) rfl
theorem q4206 : (Jvm.Cond.instanceMethod ({ cls := "RoseGuildModel", name := "price", desc := "()I" } : Jvm.MethodName)) ∈ lw_all := lw_g (lw_at lw_m17 231 rfl) rfl
theorem q4207 : (Jvm.Cond.selects "RoseGuildModel" ({ cls := "RoseGuildModel", name := "price", desc := "()I" } : Jvm.MethodName) ({ cls := "RoseGuildModel", name := "price", desc := "()I" } : Jvm.MethodName)) ∈ lw_all := lw_g (lw_at lw_m17 232 rfl) rfl
theorem q4208 : (Jvm.Cond.code ({ cls := "RoseGuildModel", name := "price", desc := "()I" } : Jvm.MethodName) prog_21_method_99_code (1 : Nat) (Option.some Jvm.ClassFile.FieldType.int)) ∈ lw_all := lw_g (lw_at lw_m17 233 rfl) rfl
theorem q4210 : (Jvm.Cond.instanceMethod ({ cls := "RoseGuildModel", name := "wind", desc := "()I" } : Jvm.MethodName)) ∈ lw_all := lw_g (lw_at lw_m17 235 rfl) rfl
theorem q4211 : (Jvm.Cond.selects "RoseGuildModel" ({ cls := "RoseGuildModel", name := "wind", desc := "()I" } : Jvm.MethodName) ({ cls := "RoseGuildModel", name := "wind", desc := "()I" } : Jvm.MethodName)) ∈ lw_all := lw_g (lw_at lw_m17 236 rfl) rfl
theorem q4212 : (Jvm.Cond.code ({ cls := "RoseGuildModel", name := "wind", desc := "()I" } : Jvm.MethodName) prog_21_method_100_code (1 : Nat) (Option.some Jvm.ClassFile.FieldType.int)) ∈ lw_all := lw_g (lw_at lw_m17 237 rfl) rfl
theorem q4214 : (Jvm.Cond.instanceMethod ({ cls := "RoseGuildModel", name := "smellReaches", desc := "(III)Z" } : Jvm.MethodName)) ∈ lw_all := lw_g (lw_at lw_m17 239 rfl) rfl
theorem q4215 : (Jvm.Cond.selects "RoseGuildModel" ({ cls := "RoseGuildModel", name := "smellReaches", desc := "(III)Z" } : Jvm.MethodName) ({ cls := "RoseGuildModel", name := "smellReaches", desc := "(III)Z" } : Jvm.MethodName)) ∈ lw_all := lw_g (lw_at lw_m18 0 rfl) rfl
theorem q4216 : (Jvm.Cond.code ({ cls := "RoseGuildModel", name := "smellReaches", desc := "(III)Z" } : Jvm.MethodName) prog_21_method_101_code (4 : Nat) (Option.some Jvm.ClassFile.FieldType.boolean)) ∈ lw_all := lw_g (lw_at lw_m18 1 rfl) rfl
theorem q4218 : (Jvm.Cond.instanceMethod ({ cls := "RoseGuildModel", name := "deliveryCount", desc := "()I" } : Jvm.MethodName)) ∈ lw_all := lw_g (lw_at lw_m18 3 rfl) rfl
theorem q4219 : (Jvm.Cond.selects "RoseGuildModel" ({ cls := "RoseGuildModel", name := "deliveryCount", desc := "()I" } : Jvm.MethodName) ({ cls := "RoseGuildModel", name := "deliveryCount", desc := "()I" } : Jvm.MethodName)) ∈ lw_all := lw_g (lw_at lw_m18 4 rfl) rfl
theorem q4220 : (Jvm.Cond.code ({ cls := "RoseGuildModel", name := "deliveryCount", desc := "()I" } : Jvm.MethodName) prog_21_method_102_code (1 : Nat) (Option.some Jvm.ClassFile.FieldType.int)) ∈ lw_all := lw_g (lw_at lw_m18 5 rfl) rfl
theorem q4222 : (Jvm.Cond.instanceMethod ({ cls := "RoseGuildModel", name := "lateCount", desc := "()I" } : Jvm.MethodName)) ∈ lw_all := lw_g (lw_at lw_m18 7 rfl) rfl
theorem q4223 : (Jvm.Cond.selects "RoseGuildModel" ({ cls := "RoseGuildModel", name := "lateCount", desc := "()I" } : Jvm.MethodName) ({ cls := "RoseGuildModel", name := "lateCount", desc := "()I" } : Jvm.MethodName)) ∈ lw_all := lw_g (lw_at lw_m18 8 rfl) rfl
theorem q4224 : (Jvm.Cond.code ({ cls := "RoseGuildModel", name := "lateCount", desc := "()I" } : Jvm.MethodName) prog_21_method_103_code (1 : Nat) (Option.some Jvm.ClassFile.FieldType.int)) ∈ lw_all := lw_g (lw_at lw_m18 9 rfl) rfl
theorem q4226 : (Jvm.Cond.instanceMethod ({ cls := "RoseGuildModel", name := "meanLoad", desc := "()D" } : Jvm.MethodName)) ∈ lw_all := lw_g (lw_at lw_m18 11 rfl) rfl
theorem q4227 : (Jvm.Cond.selects "RoseGuildModel" ({ cls := "RoseGuildModel", name := "meanLoad", desc := "()D" } : Jvm.MethodName) ({ cls := "RoseGuildModel", name := "meanLoad", desc := "()D" } : Jvm.MethodName)) ∈ lw_all := lw_g (lw_at lw_m18 12 rfl) rfl
theorem q4228 : (Jvm.Cond.code ({ cls := "RoseGuildModel", name := "meanLoad", desc := "()D" } : Jvm.MethodName) prog_21_method_104_code (1 : Nat) (Option.some Jvm.ClassFile.FieldType.double)) ∈ lw_all := lw_g (lw_at lw_m18 13 rfl) rfl
theorem q4230 : (Jvm.Cond.instanceMethod ({ cls := "RoseGuildModel", name := "petalShare", desc := "(I)F" } : Jvm.MethodName)) ∈ lw_all := lw_g (lw_at lw_m18 15 rfl) rfl
theorem q4231 : (Jvm.Cond.selects "RoseGuildModel" ({ cls := "RoseGuildModel", name := "petalShare", desc := "(I)F" } : Jvm.MethodName) ({ cls := "RoseGuildModel", name := "petalShare", desc := "(I)F" } : Jvm.MethodName)) ∈ lw_all := lw_g (lw_at lw_m18 16 rfl) rfl
theorem q4232 : (Jvm.Cond.code ({ cls := "RoseGuildModel", name := "petalShare", desc := "(I)F" } : Jvm.MethodName) prog_21_method_105_code (5 : Nat) (Option.some Jvm.ClassFile.FieldType.float)) ∈ lw_all := lw_g (lw_at lw_m18 17 rfl) rfl
theorem q4234 : (Jvm.Cond.instanceMethod ({ cls := "RoseGuildModel", name := "contradictions", desc := "()I" } : Jvm.MethodName)) ∈ lw_all := lw_g (lw_at lw_m18 19 rfl) rfl
theorem q4235 : (Jvm.Cond.selects "RoseGuildModel" ({ cls := "RoseGuildModel", name := "contradictions", desc := "()I" } : Jvm.MethodName) ({ cls := "RoseGuildModel", name := "contradictions", desc := "()I" } : Jvm.MethodName)) ∈ lw_all := lw_g (lw_at lw_m18 20 rfl) rfl
theorem q4236 : (Jvm.Cond.code ({ cls := "RoseGuildModel", name := "contradictions", desc := "()I" } : Jvm.MethodName) prog_21_method_106_code (4 : Nat) (Option.some Jvm.ClassFile.FieldType.int)) ∈ lw_all := lw_g (lw_at lw_m18 21 rfl) rfl
theorem q4238 : (Jvm.Cond.instanceMethod ({ cls := "RoseGuildModel", name := "binsAfter", desc := "(II)I" } : Jvm.MethodName)) ∈ lw_all := lw_g (lw_at lw_m18 23 rfl) rfl
theorem q4239 : (Jvm.Cond.selects "RoseGuildModel" ({ cls := "RoseGuildModel", name := "binsAfter", desc := "(II)I" } : Jvm.MethodName) ({ cls := "RoseGuildModel", name := "binsAfter", desc := "(II)I" } : Jvm.MethodName)) ∈ lw_all := lw_g (lw_at lw_m18 24 rfl) rfl
theorem q4240 : (Jvm.Cond.code ({ cls := "RoseGuildModel", name := "binsAfter", desc := "(II)I" } : Jvm.MethodName) prog_21_method_107_code (3 : Nat) (Option.some Jvm.ClassFile.FieldType.int)) ∈ lw_all := lw_g (lw_at lw_m18 25 rfl) rfl
theorem q4242 : (Jvm.Cond.instanceMethod ({ cls := "RoseGuildModel", name := "nightsUntilSpill", desc := "(I)I" } : Jvm.MethodName)) ∈ lw_all := lw_g (lw_at lw_m18 27 rfl) rfl
theorem q4243 : (Jvm.Cond.selects "RoseGuildModel" ({ cls := "RoseGuildModel", name := "nightsUntilSpill", desc := "(I)I" } : Jvm.MethodName) ({ cls := "RoseGuildModel", name := "nightsUntilSpill", desc := "(I)I" } : Jvm.MethodName)) ∈ lw_all := lw_g (lw_at lw_m18 28 rfl) rfl
theorem q4244 : (Jvm.Cond.code ({ cls := "RoseGuildModel", name := "nightsUntilSpill", desc := "(I)I" } : Jvm.MethodName) prog_21_method_108_code (4 : Nat) (Option.some Jvm.ClassFile.FieldType.int)) ∈ lw_all := lw_g (lw_at lw_m18 29 rfl) rfl
theorem q4246 : (Jvm.Cond.instanceMethod ({ cls := "RoseGuildModel", name := "petalsAfter", desc := "(II)I" } : Jvm.MethodName)) ∈ lw_all := lw_g (lw_at lw_m18 31 rfl) rfl
theorem q4247 : (Jvm.Cond.selects "RoseGuildModel" ({ cls := "RoseGuildModel", name := "petalsAfter", desc := "(II)I" } : Jvm.MethodName) ({ cls := "RoseGuildModel", name := "petalsAfter", desc := "(II)I" } : Jvm.MethodName)) ∈ lw_all := lw_g (lw_at lw_m18 32 rfl) rfl
theorem q4248 : (Jvm.Cond.code ({ cls := "RoseGuildModel", name := "petalsAfter", desc := "(II)I" } : Jvm.MethodName) prog_21_method_109_code (3 : Nat) (Option.some Jvm.ClassFile.FieldType.int)) ∈ lw_all := lw_g (lw_at lw_m18 33 rfl) rfl
theorem q4250 : (Jvm.Cond.instanceMethod ({ cls := "RoseGuildModel", name := "balanceAfter", desc := "(I)I" } : Jvm.MethodName)) ∈ lw_all := lw_g (lw_at lw_m18 35 rfl) rfl
theorem q4251 : (Jvm.Cond.selects "RoseGuildModel" ({ cls := "RoseGuildModel", name := "balanceAfter", desc := "(I)I" } : Jvm.MethodName) ({ cls := "RoseGuildModel", name := "balanceAfter", desc := "(I)I" } : Jvm.MethodName)) ∈ lw_all := lw_g (lw_at lw_m18 36 rfl) rfl
theorem q4252 : (Jvm.Cond.code ({ cls := "RoseGuildModel", name := "balanceAfter", desc := "(I)I" } : Jvm.MethodName) prog_21_method_110_code (2 : Nat) (Option.some Jvm.ClassFile.FieldType.int)) ∈ lw_all := lw_g (lw_at lw_m18 37 rfl) rfl
theorem q4254 : (Jvm.Cond.instanceMethod ({ cls := "RoseGuildModel", name := "nextWinner", desc := "()I" } : Jvm.MethodName)) ∈ lw_all := lw_g (lw_at lw_m18 39 rfl) rfl
theorem q4255 : (Jvm.Cond.selects "RoseGuildModel" ({ cls := "RoseGuildModel", name := "nextWinner", desc := "()I" } : Jvm.MethodName) ({ cls := "RoseGuildModel", name := "nextWinner", desc := "()I" } : Jvm.MethodName)) ∈ lw_all := lw_g (lw_at lw_m18 40 rfl) rfl
theorem q4256 : (Jvm.Cond.code ({ cls := "RoseGuildModel", name := "nextWinner", desc := "()I" } : Jvm.MethodName) prog_21_method_111_code (1 : Nat) (Option.some Jvm.ClassFile.FieldType.int)) ∈ lw_all := lw_g (lw_at lw_m18 41 rfl) rfl
theorem q4258 : (Jvm.Cond.instanceMethod ({ cls := "RoseGuildModel", name := "sign", desc := "(IIII)I" } : Jvm.MethodName)) ∈ lw_all := lw_g (lw_at lw_m18 43 rfl) rfl
theorem q4259 : (Jvm.Cond.selects "RoseGuildModel" ({ cls := "RoseGuildModel", name := "sign", desc := "(IIII)I" } : Jvm.MethodName) ({ cls := "RoseGuildModel", name := "sign", desc := "(IIII)I" } : Jvm.MethodName)) ∈ lw_all := lw_g (lw_at lw_m18 44 rfl) rfl
theorem q4260 : (Jvm.Cond.code ({ cls := "RoseGuildModel", name := "sign", desc := "(IIII)I" } : Jvm.MethodName) prog_21_method_115_code (5 : Nat) (Option.some Jvm.ClassFile.FieldType.int)) ∈ lw_all := lw_g (lw_at lw_m18 45 rfl) rfl
theorem q4262 : (Jvm.Cond.instanceMethod ({ cls := "RoseGuildModel", name := "cancel", desc := "(I)I" } : Jvm.MethodName)) ∈ lw_all := lw_g (lw_at lw_m18 47 rfl) rfl
theorem q4263 : (Jvm.Cond.selects "RoseGuildModel" ({ cls := "RoseGuildModel", name := "cancel", desc := "(I)I" } : Jvm.MethodName) ({ cls := "RoseGuildModel", name := "cancel", desc := "(I)I" } : Jvm.MethodName)) ∈ lw_all := lw_g (lw_at lw_m18 48 rfl) rfl
theorem q4264 : (Jvm.Cond.code ({ cls := "RoseGuildModel", name := "cancel", desc := "(I)I" } : Jvm.MethodName) prog_21_method_117_code (2 : Nat) (Option.some Jvm.ClassFile.FieldType.int)) ∈ lw_all := lw_g (lw_at lw_m18 49 rfl) rfl
theorem q4266 : (Jvm.Cond.instanceMethod ({ cls := "RoseGuildModel", name := "advance", desc := "(I)I" } : Jvm.MethodName)) ∈ lw_all := lw_g (lw_at lw_m18 51 rfl) rfl
theorem q4267 : (Jvm.Cond.selects "RoseGuildModel" ({ cls := "RoseGuildModel", name := "advance", desc := "(I)I" } : Jvm.MethodName) ({ cls := "RoseGuildModel", name := "advance", desc := "(I)I" } : Jvm.MethodName)) ∈ lw_all := lw_g (lw_at lw_m18 52 rfl) rfl
theorem q4268 : (Jvm.Cond.code ({ cls := "RoseGuildModel", name := "advance", desc := "(I)I" } : Jvm.MethodName) prog_21_method_119_code (2 : Nat) (Option.some Jvm.ClassFile.FieldType.int)) ∈ lw_all := lw_g (lw_at lw_m18 53 rfl) rfl
theorem q4270 : (Jvm.Cond.instanceMethod ({ cls := "RoseGuildModel", name := "setWindOffset", desc := "(I)I" } : Jvm.MethodName)) ∈ lw_all := lw_g (lw_at lw_m18 55 rfl) rfl
theorem q4271 : (Jvm.Cond.selects "RoseGuildModel" ({ cls := "RoseGuildModel", name := "setWindOffset", desc := "(I)I" } : Jvm.MethodName) ({ cls := "RoseGuildModel", name := "setWindOffset", desc := "(I)I" } : Jvm.MethodName)) ∈ lw_all := lw_g (lw_at lw_m18 56 rfl) rfl
theorem q4272 : (Jvm.Cond.code ({ cls := "RoseGuildModel", name := "setWindOffset", desc := "(I)I" } : Jvm.MethodName) prog_21_method_121_code (2 : Nat) (Option.some Jvm.ClassFile.FieldType.int)) ∈ lw_all := lw_g (lw_at lw_m18 57 rfl) rfl
theorem q4274 : (Jvm.Cond.instanceMethod ({ cls := "RoseGuildModel", name := "setPrice", desc := "(I)I" } : Jvm.MethodName)) ∈ lw_all := lw_g (lw_at lw_m18 59 rfl) rfl
theorem q4275 : (Jvm.Cond.selects "RoseGuildModel" ({ cls := "RoseGuildModel", name := "setPrice", desc := "(I)I" } : Jvm.MethodName) ({ cls := "RoseGuildModel", name := "setPrice", desc := "(I)I" } : Jvm.MethodName)) ∈ lw_all := lw_g (lw_at lw_m18 60 rfl) rfl
theorem q4276 : (Jvm.Cond.code ({ cls := "RoseGuildModel", name := "setPrice", desc := "(I)I" } : Jvm.MethodName) prog_21_method_122_code (2 : Nat) (Option.some Jvm.ClassFile.FieldType.int)) ∈ lw_all := lw_g (lw_at lw_m18 61 rfl) rfl
theorem q4278 : (Jvm.Cond.instanceMethod ({ cls := "RoseGuildModel", name := "writeContracts", desc := "()I" } : Jvm.MethodName)) ∈ lw_all := lw_g (lw_at lw_m18 63 rfl) rfl
theorem q4279 : (Jvm.Cond.selects "RoseGuildModel" ({ cls := "RoseGuildModel", name := "writeContracts", desc := "()I" } : Jvm.MethodName) ({ cls := "RoseGuildModel", name := "writeContracts", desc := "()I" } : Jvm.MethodName)) ∈ lw_all := lw_g (lw_at lw_m18 64 rfl) rfl
theorem q4280 : (Jvm.Cond.code ({ cls := "RoseGuildModel", name := "writeContracts", desc := "()I" } : Jvm.MethodName) prog_21_method_126_code (2 : Nat) (Option.some Jvm.ClassFile.FieldType.int)) ∈ lw_all := lw_g (lw_at lw_m18 65 rfl) rfl
theorem q4281 : (Jvm.Cond.methodLink "RoseGuildModel" (388 : Nat) ({ cls := "RoseGuildModel", name := "writes", desc := "(I)V" } : Jvm.MethodName)) ∈ lw_all := lw_g (lw_at lw_m18 66 rfl) rfl
theorem q4282 : (Jvm.Cond.privateMethod ({ cls := "RoseGuildModel", name := "writes", desc := "(I)V" } : Jvm.MethodName)) ∈ lw_tbl := lw_at lw_m18 67 rfl
theorem q4283 : (Jvm.Cond.instanceMethod ({ cls := "RoseGuildModel", name := "writes", desc := "(I)V" } : Jvm.MethodName)) ∈ lw_all := lw_g (lw_at lw_m18 68 rfl) rfl
theorem q4284 : (Jvm.Cond.code ({ cls := "RoseGuildModel", name := "writes", desc := "(I)V" } : Jvm.MethodName) prog_21_method_123_code (2 : Nat) (Option.none : Option Jvm.ClassFile.FieldType)) ∈ lw_all := lw_g (lw_at lw_m18 69 rfl) rfl
theorem q4285 : (Jvm.Cond.methodLink "RoseGuildModel" (391 : Nat) ({ cls := "RoseGuildModel", name := "writesNumber", desc := "(I)V" } : Jvm.MethodName)) ∈ lw_all := lw_g (lw_at lw_m18 70 rfl) rfl
theorem q4286 : (Jvm.Cond.privateMethod ({ cls := "RoseGuildModel", name := "writesNumber", desc := "(I)V" } : Jvm.MethodName)) ∈ lw_tbl := lw_at lw_m18 71 rfl
theorem q4287 : (Jvm.Cond.instanceMethod ({ cls := "RoseGuildModel", name := "writesNumber", desc := "(I)V" } : Jvm.MethodName)) ∈ lw_all := lw_g (lw_at lw_m18 72 rfl) rfl
theorem q4288 : (Jvm.Cond.code ({ cls := "RoseGuildModel", name := "writesNumber", desc := "(I)V" } : Jvm.MethodName) prog_21_method_124_code (5 : Nat) (Option.none : Option Jvm.ClassFile.FieldType)) ∈ lw_all := lw_g (lw_at lw_m18 73 rfl) rfl
theorem q4289 : (Jvm.Cond.methodLink "RoseGuildModel" (394 : Nat) ({ cls := "RoseGuildModel", name := "writesName", desc := "(I)V" } : Jvm.MethodName)) ∈ lw_all := lw_g (lw_at lw_m18 74 rfl) rfl
theorem q4290 : (Jvm.Cond.privateMethod ({ cls := "RoseGuildModel", name := "writesName", desc := "(I)V" } : Jvm.MethodName)) ∈ lw_tbl := lw_at lw_m18 75 rfl
theorem q4291 : (Jvm.Cond.instanceMethod ({ cls := "RoseGuildModel", name := "writesName", desc := "(I)V" } : Jvm.MethodName)) ∈ lw_all := lw_g (lw_at lw_m18 76 rfl) rfl
theorem q4292 : (Jvm.Cond.code ({ cls := "RoseGuildModel", name := "writesName", desc := "(I)V" } : Jvm.MethodName) prog_21_method_125_code (4 : Nat) (Option.none : Option Jvm.ClassFile.FieldType)) ∈ lw_all := lw_g (lw_at lw_m18 77 rfl) rfl
theorem q4294 : (Jvm.Cond.instanceMethod ({ cls := "RoseGuildModel", name := "writeDeliveries", desc := "()I" } : Jvm.MethodName)) ∈ lw_all := lw_g (lw_at lw_m18 79 rfl) rfl
theorem q4295 : (Jvm.Cond.selects "RoseGuildModel" ({ cls := "RoseGuildModel", name := "writeDeliveries", desc := "()I" } : Jvm.MethodName) ({ cls := "RoseGuildModel", name := "writeDeliveries", desc := "()I" } : Jvm.MethodName)) ∈ lw_all := lw_g (lw_at lw_m18 80 rfl) rfl
theorem q4296 : (Jvm.Cond.code ({ cls := "RoseGuildModel", name := "writeDeliveries", desc := "()I" } : Jvm.MethodName) prog_21_method_127_code (2 : Nat) (Option.some Jvm.ClassFile.FieldType.int)) ∈ lw_all := lw_g (lw_at lw_m18 81 rfl) rfl
theorem q4298 : (Jvm.Cond.instanceMethod ({ cls := "RoseGuildModel", name := "outputByte", desc := "(I)I" } : Jvm.MethodName)) ∈ lw_all := lw_g (lw_at lw_m18 83 rfl) rfl
theorem q4299 : (Jvm.Cond.selects "RoseGuildModel" ({ cls := "RoseGuildModel", name := "outputByte", desc := "(I)I" } : Jvm.MethodName) ({ cls := "RoseGuildModel", name := "outputByte", desc := "(I)I" } : Jvm.MethodName)) ∈ lw_all := lw_g (lw_at lw_m18 84 rfl) rfl
theorem q4300 : (Jvm.Cond.code ({ cls := "RoseGuildModel", name := "outputByte", desc := "(I)I" } : Jvm.MethodName) prog_21_method_128_code (2 : Nat) (Option.some Jvm.ClassFile.FieldType.int)) ∈ lw_all := lw_g (lw_at lw_m18 85 rfl) rfl
theorem q4302 : (Jvm.Cond.instanceMethod ({ cls := "RoseGuildModel", name := "undoCount", desc := "()I" } : Jvm.MethodName)) ∈ lw_all := lw_g (lw_at lw_m18 87 rfl) rfl
theorem q4303 : (Jvm.Cond.selects "RoseGuildModel" ({ cls := "RoseGuildModel", name := "undoCount", desc := "()I" } : Jvm.MethodName) ({ cls := "RoseGuildModel", name := "undoCount", desc := "()I" } : Jvm.MethodName)) ∈ lw_all := lw_g (lw_at lw_m18 88 rfl) rfl
theorem q4304 : (Jvm.Cond.code ({ cls := "RoseGuildModel", name := "undoCount", desc := "()I" } : Jvm.MethodName) prog_21_method_129_code (1 : Nat) (Option.some Jvm.ClassFile.FieldType.int)) ∈ lw_all := lw_g (lw_at lw_m18 89 rfl) rfl
theorem q4306 : (Jvm.Cond.instanceMethod ({ cls := "RoseGuildModel", name := "undo", desc := "()I" } : Jvm.MethodName)) ∈ lw_all := lw_g (lw_at lw_m18 91 rfl) rfl
theorem q4307 : (Jvm.Cond.selects "RoseGuildModel" ({ cls := "RoseGuildModel", name := "undo", desc := "()I" } : Jvm.MethodName) ({ cls := "RoseGuildModel", name := "undo", desc := "()I" } : Jvm.MethodName)) ∈ lw_all := lw_g (lw_at lw_m18 92 rfl) rfl
theorem q4308 : (Jvm.Cond.code ({ cls := "RoseGuildModel", name := "undo", desc := "()I" } : Jvm.MethodName) prog_21_method_130_code (2 : Nat) (Option.some Jvm.ClassFile.FieldType.int)) ∈ lw_all := lw_g (lw_at lw_m18 93 rfl) rfl
theorem q4310 : (Jvm.Cond.instanceMethod ({ cls := "RoseGuildModel", name := "save", desc := "(I)I" } : Jvm.MethodName)) ∈ lw_all := lw_g (lw_at lw_m18 95 rfl) rfl
theorem q4311 : (Jvm.Cond.selects "RoseGuildModel" ({ cls := "RoseGuildModel", name := "save", desc := "(I)I" } : Jvm.MethodName) ({ cls := "RoseGuildModel", name := "save", desc := "(I)I" } : Jvm.MethodName)) ∈ lw_all := lw_g (lw_at lw_m18 96 rfl) rfl
theorem q4312 : (Jvm.Cond.code ({ cls := "RoseGuildModel", name := "save", desc := "(I)I" } : Jvm.MethodName) prog_21_method_131_code (3 : Nat) (Option.some Jvm.ClassFile.FieldType.int)) ∈ lw_all := lw_g (lw_at lw_m18 97 rfl) rfl
theorem q4314 : (Jvm.Cond.instanceMethod ({ cls := "RoseGuildModel", name := "restore", desc := "(I)I" } : Jvm.MethodName)) ∈ lw_all := lw_g (lw_at lw_m18 99 rfl) rfl
theorem q4315 : (Jvm.Cond.selects "RoseGuildModel" ({ cls := "RoseGuildModel", name := "restore", desc := "(I)I" } : Jvm.MethodName) ({ cls := "RoseGuildModel", name := "restore", desc := "(I)I" } : Jvm.MethodName)) ∈ lw_all := lw_g (lw_at lw_m18 100 rfl) rfl
theorem q4316 : (Jvm.Cond.code ({ cls := "RoseGuildModel", name := "restore", desc := "(I)I" } : Jvm.MethodName) prog_21_method_132_code (3 : Nat) (Option.some Jvm.ClassFile.FieldType.int)) ∈ lw_all := lw_g (lw_at lw_m18 101 rfl) rfl
theorem q4407 : (Jvm.Cond.castable "RoseGuildModel" "java/lang/Object") ∈ lw_tbl := lw_at lw_m18 192 rfl
theorem in_X7 : ∀ w ∈ wsX70, w ∈ lw_all := lw_in wsX70 [3821, 3823, 3825, 3827, 3829, 3831, 3833, 3835, 3837, 3839, 3841, 3843, 3845, 3847, 3849, 3851, 3853, 3855, 3857, 3859, 3861, 3863, 3865, 3867, 3869, 3871, 3873, 3875, 3877, 3879, 3881, 3883, 3885] (by decide +kernel) (by decide +kernel)

