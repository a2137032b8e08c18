/-! MeadowMilkModel -/
set_option maxRecDepth 100000
def RX6 : String := "MeadowMilkModel"
def TX6 : u_T := fun k => match k with
  | 0 => ("MeadowMilkModel", "row", "[I", true)
  | 1 => ("MeadowMilkModel", "kept", "[I", true)
  | 2 => ("MeadowMilkModel", "tried", "[I", true)
  | 3 => ("MeadowMilkModel", "before", "[I", true)
  | 4 => ("MeadowMilkModel", "isKept", "Z", false)
  | 5 => ("MeadowMilkModel", "images", "I", false)
  | 6 => ("MeadowMilkModel", "found", "[I", true)
  | 7 => ("MeadowMilkModel", "use", "I", false)
  | 8 => ("MeadowMilkModel", "at", "I", false)
  | 9 => ("MeadowMilkModel", "end", "I", false)
  | 10 => ("MeadowMilkModel", "open", "I", false)
  | 11 => ("MeadowMilkModel", "namedA", "I", false)
  | 12 => ("MeadowMilkModel", "namedB", "I", false)
  | 13 => ("MeadowMilkModel", "namedC", "I", false)
  | 14 => ("MeadowMilkModel", "good", "Z", false)
  | 15 => ("MeadowMilkModel", "bitsOf", "[I", true)
  | 16 => ("MeadowMilkModel", "sizeOf", "[I", true)
  | 17 => ("MeadowMilkModel", "sheets", "[I", true)
  | 18 => ("MeadowMilkModel", "moved", "[I", true)
  | 19 => ("MeadowMilkModel", "ended", "[I", true)
  | 20 => ("MeadowMilkModel", "endedThen", "[I", true)
  | 21 => ("MeadowMilkModel", "fewest", "[I", true)
  | 22 => ("MeadowMilkModel", "fewestThen", "[I", true)
  | 23 => ("MeadowMilkModel", "traced", "[I", true)
  | 24 => ("MeadowMilkModel", "tracedMany", "I", false)
  | 25 => ("MeadowMilkModel", "voiceKind", "I", false)
  | 26 => ("MeadowMilkModel", "voiceN", "I", false)
  | _ => ("MeadowMilkModel", "voiceM", "I", false)
def tyX6 : Nat → FieldType := fun k => match k with
  | 0 => .array .int
  | 1 => .array .int
  | 2 => .array .int
  | 3 => .array .int
  | 4 => .boolean
  | 5 => .int
  | 6 => .array .int
  | 7 => .int
  | 8 => .int
  | 9 => .int
  | 10 => .int
  | 11 => .int
  | 12 => .int
  | 13 => .int
  | 14 => .boolean
  | 15 => .array .int
  | 16 => .array .int
  | 17 => .array .int
  | 18 => .array .int
  | 19 => .array .int
  | 20 => .array .int
  | 21 => .array .int
  | 22 => .array .int
  | 23 => .array .int
  | 24 => .int
  | 25 => .int
  | 26 => .int
  | _ => .int
abbrev wsX60 : List Cond := u_ws RX6 TX6 28
set_option maxRecDepth 100000 in
theorem nmX6 : ∀ a, a < 28 → ∀ b, b < 28 → a ≠ b → (TX6 a).2.1 ≠ (TX6 b).2.1 := by decide +kernel
set_option maxRecDepth 100000 in
theorem tyX6_ok : ∀ k, k < 28 → parseFieldDescriptor (TX6 k).2.2.1 = some (tyX6 k) := by decide +kernel
abbrev cX6_init : ByteArray := prog_30_method_1_code
def yX6_init : MethodName := ⟨RX6, "<init>", "()V"⟩
def dkwX6_init_7 : List UInt8 := [96, 16, 50, 79, 132, 1, 1, 167, 255, 236, 177]
abbrev dktX6_init_7 : List UInt8 := dkwX6_init_7 ++ []
def dkwX6_init_6 : List UInt8 := [2, 79, 42, 180, 0, 7, 4, 4, 79, 3, 60, 27, 16, 25, 162, 0, 20, 42, 180, 0, 7, 16, 33, 27]
abbrev dktX6_init_6 : List UInt8 := dkwX6_init_6 ++ dktX6_init_7
def dkwX6_init_5 : List UInt8 := [181, 0, 49, 42, 180, 0, 7, 5, 4, 79, 42, 180, 0, 7, 16, 6, 2, 79, 42, 180, 0, 7, 16, 7]
abbrev dktX6_init_5 : List UInt8 := dkwX6_init_5 ++ dktX6_init_6
def dkwX6_init_4 : List UInt8 := [181, 0, 40, 42, 16, 25, 188, 10, 181, 0, 43, 42, 16, 25, 188, 10, 181, 0, 46, 42, 16, 40, 188, 10]
abbrev dktX6_init_4 : List UInt8 := dkwX6_init_4 ++ dktX6_init_5
def dkwX6_init_3 : List UInt8 := [181, 0, 31, 42, 16, 40, 188, 10, 181, 0, 34, 42, 16, 25, 188, 10, 181, 0, 37, 42, 16, 25, 188, 10]
abbrev dktX6_init_3 : List UInt8 := dkwX6_init_3 ++ dktX6_init_4
def dkwX6_init_2 : List UInt8 := [181, 0, 22, 42, 7, 188, 10, 181, 0, 25, 42, 7, 188, 10, 181, 0, 28, 42, 17, 0, 160, 188, 10]
abbrev dktX6_init_2 : List UInt8 := dkwX6_init_2 ++ dktX6_init_3
def dkwX6_init_1 : List UInt8 := [17, 1, 42, 188, 10, 181, 0, 16, 42, 17, 1, 42, 188, 10, 181, 0, 19, 42, 16, 6, 188, 10]
abbrev dktX6_init_1 : List UInt8 := dkwX6_init_1 ++ dktX6_init_2
def dkwX6_init_0 : List UInt8 := [42, 183, 0, 1, 42, 17, 1, 42, 188, 10, 181, 0, 7, 42, 17, 1, 42, 188, 10, 181, 0, 13, 42]
abbrev dktX6_init_0 : List UInt8 := dkwX6_init_0 ++ dktX6_init_1
theorem dksX6_init_0 : cX6_init.data.toList.drop 0 = dktX6_init_0 := by decide +kernel
theorem dksX6_init_1 : cX6_init.data.toList.drop 23 = dktX6_init_1 := dk_seg dksX6_init_0 23 rfl rfl
theorem dksX6_init_2 : cX6_init.data.toList.drop 45 = dktX6_init_2 := dk_seg dksX6_init_1 22 rfl rfl
theorem dksX6_init_3 : cX6_init.data.toList.drop 68 = dktX6_init_3 := dk_seg dksX6_init_2 23 rfl rfl
theorem dksX6_init_4 : cX6_init.data.toList.drop 92 = dktX6_init_4 := dk_seg dksX6_init_3 24 rfl rfl
theorem dksX6_init_5 : cX6_init.data.toList.drop 116 = dktX6_init_5 := dk_seg dksX6_init_4 24 rfl rfl
theorem dksX6_init_6 : cX6_init.data.toList.drop 140 = dktX6_init_6 := dk_seg dksX6_init_5 24 rfl rfl
theorem dksX6_init_7 : cX6_init.data.toList.drop 164 = dktX6_init_7 := dk_seg dksX6_init_6 24 rfl rfl
theorem dX6_init_0 : decode cX6_init 0 = .ok (.aload_n 0, 1) := dk_42 (dk_at dksX6_init_0 0 rfl rfl)
theorem dX6_init_1 : decode cX6_init 1 = .ok (.invokespecial 1, 3) := dk_183 0 1 (dk_at dksX6_init_0 1 rfl rfl)
theorem dX6_init_4 : decode cX6_init 4 = .ok (.aload_n 0, 1) := dk_42 (dk_at dksX6_init_0 4 rfl rfl)
theorem dX6_init_5 : decode cX6_init 5 = .ok (.sipush 298, 3) := dk_17 1 42 (dk_at dksX6_init_0 5 rfl rfl)
theorem dX6_init_8 : decode cX6_init 8 = .ok (.newarray .int, 2) := dk_188_10 (dk_at dksX6_init_0 8 rfl rfl)
theorem dX6_init_10 : decode cX6_init 10 = .ok (.putfield 7, 3) := dk_181 0 7 (dk_at dksX6_init_0 10 rfl rfl)
theorem dX6_init_13 : decode cX6_init 13 = .ok (.aload_n 0, 1) := dk_42 (dk_at dksX6_init_0 13 rfl rfl)
theorem dX6_init_14 : decode cX6_init 14 = .ok (.sipush 298, 3) := dk_17 1 42 (dk_at dksX6_init_0 14 rfl rfl)
theorem dX6_init_17 : decode cX6_init 17 = .ok (.newarray .int, 2) := dk_188_10 (dk_at dksX6_init_0 17 rfl rfl)
theorem dX6_init_19 : decode cX6_init 19 = .ok (.putfield 13, 3) := dk_181 0 13 (dk_at dksX6_init_0 19 rfl rfl)
theorem dX6_init_22 : decode cX6_init 22 = .ok (.aload_n 0, 1) := dk_42 (dk_at dksX6_init_0 22 rfl rfl)
theorem dX6_init_23 : decode cX6_init 23 = .ok (.sipush 298, 3) := dk_17 1 42 (dk_at dksX6_init_1 0 rfl rfl)
theorem dX6_init_26 : decode cX6_init 26 = .ok (.newarray .int, 2) := dk_188_10 (dk_at dksX6_init_1 3 rfl rfl)
theorem dX6_init_28 : decode cX6_init 28 = .ok (.putfield 16, 3) := dk_181 0 16 (dk_at dksX6_init_1 5 rfl rfl)
theorem dX6_init_31 : decode cX6_init 31 = .ok (.aload_n 0, 1) := dk_42 (dk_at dksX6_init_1 8 rfl rfl)
theorem dX6_init_32 : decode cX6_init 32 = .ok (.sipush 298, 3) := dk_17 1 42 (dk_at dksX6_init_1 9 rfl rfl)
theorem dX6_init_35 : decode cX6_init 35 = .ok (.newarray .int, 2) := dk_188_10 (dk_at dksX6_init_1 12 rfl rfl)
theorem dX6_init_37 : decode cX6_init 37 = .ok (.putfield 19, 3) := dk_181 0 19 (dk_at dksX6_init_1 14 rfl rfl)
theorem dX6_init_40 : decode cX6_init 40 = .ok (.aload_n 0, 1) := dk_42 (dk_at dksX6_init_1 17 rfl rfl)
theorem dX6_init_41 : decode cX6_init 41 = .ok (.bipush 6, 2) := dk_16 6 (dk_at dksX6_init_1 18 rfl rfl)
theorem dX6_init_43 : decode cX6_init 43 = .ok (.newarray .int, 2) := dk_188_10 (dk_at dksX6_init_1 20 rfl rfl)
theorem dX6_init_45 : decode cX6_init 45 = .ok (.putfield 22, 3) := dk_181 0 22 (dk_at dksX6_init_2 0 rfl rfl)
theorem dX6_init_48 : decode cX6_init 48 = .ok (.aload_n 0, 1) := dk_42 (dk_at dksX6_init_2 3 rfl rfl)
theorem dX6_init_49 : decode cX6_init 49 = .ok (.iconst 4, 1) := dk_7 (dk_at dksX6_init_2 4 rfl rfl)
theorem dX6_init_50 : decode cX6_init 50 = .ok (.newarray .int, 2) := dk_188_10 (dk_at dksX6_init_2 5 rfl rfl)
theorem dX6_init_52 : decode cX6_init 52 = .ok (.putfield 25, 3) := dk_181 0 25 (dk_at dksX6_init_2 7 rfl rfl)
theorem dX6_init_55 : decode cX6_init 55 = .ok (.aload_n 0, 1) := dk_42 (dk_at dksX6_init_2 10 rfl rfl)
theorem dX6_init_56 : decode cX6_init 56 = .ok (.iconst 4, 1) := dk_7 (dk_at dksX6_init_2 11 rfl rfl)
theorem dX6_init_57 : decode cX6_init 57 = .ok (.newarray .int, 2) := dk_188_10 (dk_at dksX6_init_2 12 rfl rfl)
theorem dX6_init_59 : decode cX6_init 59 = .ok (.putfield 28, 3) := dk_181 0 28 (dk_at dksX6_init_2 14 rfl rfl)
theorem dX6_init_62 : decode cX6_init 62 = .ok (.aload_n 0, 1) := dk_42 (dk_at dksX6_init_2 17 rfl rfl)
theorem dX6_init_63 : decode cX6_init 63 = .ok (.sipush 160, 3) := dk_17 0 160 (dk_at dksX6_init_2 18 rfl rfl)
theorem dX6_init_66 : decode cX6_init 66 = .ok (.newarray .int, 2) := dk_188_10 (dk_at dksX6_init_2 21 rfl rfl)
theorem dX6_init_68 : decode cX6_init 68 = .ok (.putfield 31, 3) := dk_181 0 31 (dk_at dksX6_init_3 0 rfl rfl)
theorem dX6_init_71 : decode cX6_init 71 = .ok (.aload_n 0, 1) := dk_42 (dk_at dksX6_init_3 3 rfl rfl)
theorem dX6_init_72 : decode cX6_init 72 = .ok (.bipush 40, 2) := dk_16 40 (dk_at dksX6_init_3 4 rfl rfl)
theorem dX6_init_74 : decode cX6_init 74 = .ok (.newarray .int, 2) := dk_188_10 (dk_at dksX6_init_3 6 rfl rfl)
theorem dX6_init_76 : decode cX6_init 76 = .ok (.putfield 34, 3) := dk_181 0 34 (dk_at dksX6_init_3 8 rfl rfl)
theorem dX6_init_79 : decode cX6_init 79 = .ok (.aload_n 0, 1) := dk_42 (dk_at dksX6_init_3 11 rfl rfl)
theorem dX6_init_80 : decode cX6_init 80 = .ok (.bipush 25, 2) := dk_16 25 (dk_at dksX6_init_3 12 rfl rfl)
theorem dX6_init_82 : decode cX6_init 82 = .ok (.newarray .int, 2) := dk_188_10 (dk_at dksX6_init_3 14 rfl rfl)
theorem dX6_init_84 : decode cX6_init 84 = .ok (.putfield 37, 3) := dk_181 0 37 (dk_at dksX6_init_3 16 rfl rfl)
theorem dX6_init_87 : decode cX6_init 87 = .ok (.aload_n 0, 1) := dk_42 (dk_at dksX6_init_3 19 rfl rfl)
theorem dX6_init_88 : decode cX6_init 88 = .ok (.bipush 25, 2) := dk_16 25 (dk_at dksX6_init_3 20 rfl rfl)
theorem dX6_init_90 : decode cX6_init 90 = .ok (.newarray .int, 2) := dk_188_10 (dk_at dksX6_init_3 22 rfl rfl)
theorem dX6_init_92 : decode cX6_init 92 = .ok (.putfield 40, 3) := dk_181 0 40 (dk_at dksX6_init_4 0 rfl rfl)
theorem dX6_init_95 : decode cX6_init 95 = .ok (.aload_n 0, 1) := dk_42 (dk_at dksX6_init_4 3 rfl rfl)
theorem dX6_init_96 : decode cX6_init 96 = .ok (.bipush 25, 2) := dk_16 25 (dk_at dksX6_init_4 4 rfl rfl)
theorem dX6_init_98 : decode cX6_init 98 = .ok (.newarray .int, 2) := dk_188_10 (dk_at dksX6_init_4 6 rfl rfl)
theorem dX6_init_100 : decode cX6_init 100 = .ok (.putfield 43, 3) := dk_181 0 43 (dk_at dksX6_init_4 8 rfl rfl)
theorem dX6_init_103 : decode cX6_init 103 = .ok (.aload_n 0, 1) := dk_42 (dk_at dksX6_init_4 11 rfl rfl)
theorem dX6_init_104 : decode cX6_init 104 = .ok (.bipush 25, 2) := dk_16 25 (dk_at dksX6_init_4 12 rfl rfl)
theorem dX6_init_106 : decode cX6_init 106 = .ok (.newarray .int, 2) := dk_188_10 (dk_at dksX6_init_4 14 rfl rfl)
theorem dX6_init_108 : decode cX6_init 108 = .ok (.putfield 46, 3) := dk_181 0 46 (dk_at dksX6_init_4 16 rfl rfl)
theorem dX6_init_111 : decode cX6_init 111 = .ok (.aload_n 0, 1) := dk_42 (dk_at dksX6_init_4 19 rfl rfl)
theorem dX6_init_112 : decode cX6_init 112 = .ok (.bipush 40, 2) := dk_16 40 (dk_at dksX6_init_4 20 rfl rfl)
theorem dX6_init_114 : decode cX6_init 114 = .ok (.newarray .int, 2) := dk_188_10 (dk_at dksX6_init_4 22 rfl rfl)
theorem dX6_init_116 : decode cX6_init 116 = .ok (.putfield 49, 3) := dk_181 0 49 (dk_at dksX6_init_5 0 rfl rfl)
theorem dX6_init_119 : decode cX6_init 119 = .ok (.aload_n 0, 1) := dk_42 (dk_at dksX6_init_5 3 rfl rfl)
theorem dX6_init_120 : decode cX6_init 120 = .ok (.getfield 7, 3) := dk_180 0 7 (dk_at dksX6_init_5 4 rfl rfl)
theorem dX6_init_123 : decode cX6_init 123 = .ok (.iconst 2, 1) := dk_5 (dk_at dksX6_init_5 7 rfl rfl)
theorem dX6_init_124 : decode cX6_init 124 = .ok (.iconst 1, 1) := dk_4 (dk_at dksX6_init_5 8 rfl rfl)
theorem dX6_init_125 : decode cX6_init 125 = .ok (.iastore, 1) := dk_79 (dk_at dksX6_init_5 9 rfl rfl)
theorem dX6_init_126 : decode cX6_init 126 = .ok (.aload_n 0, 1) := dk_42 (dk_at dksX6_init_5 10 rfl rfl)
theorem dX6_init_127 : decode cX6_init 127 = .ok (.getfield 7, 3) := dk_180 0 7 (dk_at dksX6_init_5 11 rfl rfl)
theorem dX6_init_130 : decode cX6_init 130 = .ok (.bipush 6, 2) := dk_16 6 (dk_at dksX6_init_5 14 rfl rfl)
theorem dX6_init_132 : decode cX6_init 132 = .ok (.iconst (-1), 1) := dk_2 (dk_at dksX6_init_5 16 rfl rfl)
theorem dX6_init_133 : decode cX6_init 133 = .ok (.iastore, 1) := dk_79 (dk_at dksX6_init_5 17 rfl rfl)
theorem dX6_init_134 : decode cX6_init 134 = .ok (.aload_n 0, 1) := dk_42 (dk_at dksX6_init_5 18 rfl rfl)
theorem dX6_init_135 : decode cX6_init 135 = .ok (.getfield 7, 3) := dk_180 0 7 (dk_at dksX6_init_5 19 rfl rfl)
theorem dX6_init_138 : decode cX6_init 138 = .ok (.bipush 7, 2) := dk_16 7 (dk_at dksX6_init_5 22 rfl rfl)
theorem dX6_init_140 : decode cX6_init 140 = .ok (.iconst (-1), 1) := dk_2 (dk_at dksX6_init_6 0 rfl rfl)
theorem dX6_init_141 : decode cX6_init 141 = .ok (.iastore, 1) := dk_79 (dk_at dksX6_init_6 1 rfl rfl)
theorem dX6_init_142 : decode cX6_init 142 = .ok (.aload_n 0, 1) := dk_42 (dk_at dksX6_init_6 2 rfl rfl)
theorem dX6_init_143 : decode cX6_init 143 = .ok (.getfield 7, 3) := dk_180 0 7 (dk_at dksX6_init_6 3 rfl rfl)
theorem dX6_init_146 : decode cX6_init 146 = .ok (.iconst 1, 1) := dk_4 (dk_at dksX6_init_6 6 rfl rfl)
theorem dX6_init_147 : decode cX6_init 147 = .ok (.iconst 1, 1) := dk_4 (dk_at dksX6_init_6 7 rfl rfl)
theorem dX6_init_148 : decode cX6_init 148 = .ok (.iastore, 1) := dk_79 (dk_at dksX6_init_6 8 rfl rfl)
theorem dX6_init_149 : decode cX6_init 149 = .ok (.iconst 0, 1) := dk_3 (dk_at dksX6_init_6 9 rfl rfl)
theorem dX6_init_150 : decode cX6_init 150 = .ok (.istore_n 1, 1) := dk_60 (dk_at dksX6_init_6 10 rfl rfl)
theorem dX6_init_151 : decode cX6_init 151 = .ok (.iload_n 1, 1) := dk_27 (dk_at dksX6_init_6 11 rfl rfl)
theorem dX6_init_152 : decode cX6_init 152 = .ok (.bipush 25, 2) := dk_16 25 (dk_at dksX6_init_6 12 rfl rfl)
theorem dX6_init_154 : decode cX6_init 154 = .ok (.if_icmp .ge 20, 3) := dk_162 0 20 (dk_at dksX6_init_6 14 rfl rfl)
theorem dX6_init_157 : decode cX6_init 157 = .ok (.aload_n 0, 1) := dk_42 (dk_at dksX6_init_6 17 rfl rfl)
theorem dX6_init_158 : decode cX6_init 158 = .ok (.getfield 7, 3) := dk_180 0 7 (dk_at dksX6_init_6 18 rfl rfl)
theorem dX6_init_161 : decode cX6_init 161 = .ok (.bipush 33, 2) := dk_16 33 (dk_at dksX6_init_6 21 rfl rfl)
theorem dX6_init_163 : decode cX6_init 163 = .ok (.iload_n 1, 1) := dk_27 (dk_at dksX6_init_6 23 rfl rfl)
theorem dX6_init_164 : decode cX6_init 164 = .ok (.iadd, 1) := dk_96 (dk_at dksX6_init_7 0 rfl rfl)
theorem dX6_init_165 : decode cX6_init 165 = .ok (.bipush 50, 2) := dk_16 50 (dk_at dksX6_init_7 1 rfl rfl)
theorem dX6_init_167 : decode cX6_init 167 = .ok (.iastore, 1) := dk_79 (dk_at dksX6_init_7 3 rfl rfl)
theorem dX6_init_168 : decode cX6_init 168 = .ok (.iinc 1 1, 3) := dk_132 1 1 (dk_at dksX6_init_7 4 rfl rfl)
theorem dX6_init_171 : decode cX6_init 171 = .ok (.goto (-20), 3) := dk_167 255 236 (dk_at dksX6_init_7 7 rfl rfl)
theorem dX6_init_174 : decode cX6_init 174 = .ok (.return_, 1) := dk_177 (dk_at dksX6_init_7 10 rfl rfl)
abbrev cX6_cell : ByteArray := prog_30_method_7_code
def yX6_cell : MethodName := ⟨RX6, "cell", "(III)I"⟩
def dkwX6_cell_3 : List UInt8 := [29, 79, 21, 5, 172]
abbrev dktX6_cell_3 : List UInt8 := dkwX6_cell_3 ++ []
def dkwX6_cell_2 : List UInt8 := [167, 0, 5, 16, 33, 27, 96, 54, 4, 42, 180, 0, 7, 21, 4, 46, 54, 5, 42, 180, 0, 7, 21, 4]
abbrev dktX6_cell_2 : List UInt8 := dkwX6_cell_2 ++ dktX6_cell_3
def dkwX6_cell_1 : List UInt8 := [167, 0, 5, 16, 99, 184, 0, 53, 154, 0, 10, 42, 18, 61, 182, 0, 62, 172, 28, 154, 0, 8, 16, 8]
abbrev dktX6_cell_1 : List UInt8 := dkwX6_cell_1 ++ dktX6_cell_2
def dkwX6_cell_0 : List UInt8 := [27, 184, 0, 57, 153, 0, 31, 28, 3, 4, 184, 0, 53, 153, 0, 22, 29, 3, 28, 154, 0, 8, 16, 9]
abbrev dktX6_cell_0 : List UInt8 := dkwX6_cell_0 ++ dktX6_cell_1
theorem dksX6_cell_0 : cX6_cell.data.toList.drop 0 = dktX6_cell_0 := by decide +kernel
theorem dksX6_cell_1 : cX6_cell.data.toList.drop 24 = dktX6_cell_1 := dk_seg dksX6_cell_0 24 rfl rfl
theorem dksX6_cell_2 : cX6_cell.data.toList.drop 48 = dktX6_cell_2 := dk_seg dksX6_cell_1 24 rfl rfl
theorem dksX6_cell_3 : cX6_cell.data.toList.drop 72 = dktX6_cell_3 := dk_seg dksX6_cell_2 24 rfl rfl
theorem dX6_cell_0 : decode cX6_cell 0 = .ok (.iload_n 1, 1) := dk_27 (dk_at dksX6_cell_0 0 rfl rfl)
theorem dX6_cell_1 : decode cX6_cell 1 = .ok (.invokestatic 57, 3) := dk_184 0 57 (dk_at dksX6_cell_0 1 rfl rfl)
theorem dX6_cell_4 : decode cX6_cell 4 = .ok (.ifCond .eq 31, 3) := dk_153 0 31 (dk_at dksX6_cell_0 4 rfl rfl)
theorem dX6_cell_7 : decode cX6_cell 7 = .ok (.iload_n 2, 1) := dk_28 (dk_at dksX6_cell_0 7 rfl rfl)
theorem dX6_cell_8 : decode cX6_cell 8 = .ok (.iconst 0, 1) := dk_3 (dk_at dksX6_cell_0 8 rfl rfl)
theorem dX6_cell_9 : decode cX6_cell 9 = .ok (.iconst 1, 1) := dk_4 (dk_at dksX6_cell_0 9 rfl rfl)
theorem dX6_cell_10 : decode cX6_cell 10 = .ok (.invokestatic 53, 3) := dk_184 0 53 (dk_at dksX6_cell_0 10 rfl rfl)
theorem dX6_cell_13 : decode cX6_cell 13 = .ok (.ifCond .eq 22, 3) := dk_153 0 22 (dk_at dksX6_cell_0 13 rfl rfl)
theorem dX6_cell_16 : decode cX6_cell 16 = .ok (.iload_n 3, 1) := dk_29 (dk_at dksX6_cell_0 16 rfl rfl)
theorem dX6_cell_17 : decode cX6_cell 17 = .ok (.iconst 0, 1) := dk_3 (dk_at dksX6_cell_0 17 rfl rfl)
theorem dX6_cell_18 : decode cX6_cell 18 = .ok (.iload_n 2, 1) := dk_28 (dk_at dksX6_cell_0 18 rfl rfl)
theorem dX6_cell_19 : decode cX6_cell 19 = .ok (.ifCond .ne 8, 3) := dk_154 0 8 (dk_at dksX6_cell_0 19 rfl rfl)
theorem dX6_cell_22 : decode cX6_cell 22 = .ok (.bipush 9, 2) := dk_16 9 (dk_at dksX6_cell_0 22 rfl rfl)
theorem dX6_cell_24 : decode cX6_cell 24 = .ok (.goto 5, 3) := dk_167 0 5 (dk_at dksX6_cell_1 0 rfl rfl)
theorem dX6_cell_27 : decode cX6_cell 27 = .ok (.bipush 99, 2) := dk_16 99 (dk_at dksX6_cell_1 3 rfl rfl)
theorem dX6_cell_29 : decode cX6_cell 29 = .ok (.invokestatic 53, 3) := dk_184 0 53 (dk_at dksX6_cell_1 5 rfl rfl)
theorem dX6_cell_32 : decode cX6_cell 32 = .ok (.ifCond .ne 10, 3) := dk_154 0 10 (dk_at dksX6_cell_1 8 rfl rfl)
theorem dX6_cell_35 : decode cX6_cell 35 = .ok (.aload_n 0, 1) := dk_42 (dk_at dksX6_cell_1 11 rfl rfl)
theorem dX6_cell_36 : decode cX6_cell 36 = .ok (.ldc 61, 2) := dk_18 61 (dk_at dksX6_cell_1 12 rfl rfl)
theorem dX6_cell_38 : decode cX6_cell 38 = .ok (.invokevirtual 62, 3) := dk_182 0 62 (dk_at dksX6_cell_1 14 rfl rfl)
theorem dX6_cell_41 : decode cX6_cell 41 = .ok (.ireturn, 1) := dk_172 (dk_at dksX6_cell_1 17 rfl rfl)
theorem dX6_cell_42 : decode cX6_cell 42 = .ok (.iload_n 2, 1) := dk_28 (dk_at dksX6_cell_1 18 rfl rfl)
theorem dX6_cell_43 : decode cX6_cell 43 = .ok (.ifCond .ne 8, 3) := dk_154 0 8 (dk_at dksX6_cell_1 19 rfl rfl)
theorem dX6_cell_46 : decode cX6_cell 46 = .ok (.bipush 8, 2) := dk_16 8 (dk_at dksX6_cell_1 22 rfl rfl)
theorem dX6_cell_48 : decode cX6_cell 48 = .ok (.goto 5, 3) := dk_167 0 5 (dk_at dksX6_cell_2 0 rfl rfl)
theorem dX6_cell_51 : decode cX6_cell 51 = .ok (.bipush 33, 2) := dk_16 33 (dk_at dksX6_cell_2 3 rfl rfl)
theorem dX6_cell_53 : decode cX6_cell 53 = .ok (.iload_n 1, 1) := dk_27 (dk_at dksX6_cell_2 5 rfl rfl)
theorem dX6_cell_54 : decode cX6_cell 54 = .ok (.iadd, 1) := dk_96 (dk_at dksX6_cell_2 6 rfl rfl)
theorem dX6_cell_55 : decode cX6_cell 55 = .ok (.istore 4, 2) := dk_54 4 (dk_at dksX6_cell_2 7 rfl rfl)
theorem dX6_cell_57 : decode cX6_cell 57 = .ok (.aload_n 0, 1) := dk_42 (dk_at dksX6_cell_2 9 rfl rfl)
theorem dX6_cell_58 : decode cX6_cell 58 = .ok (.getfield 7, 3) := dk_180 0 7 (dk_at dksX6_cell_2 10 rfl rfl)
theorem dX6_cell_61 : decode cX6_cell 61 = .ok (.iload 4, 2) := dk_21 4 (dk_at dksX6_cell_2 13 rfl rfl)
theorem dX6_cell_63 : decode cX6_cell 63 = .ok (.iaload, 1) := dk_46 (dk_at dksX6_cell_2 15 rfl rfl)
theorem dX6_cell_64 : decode cX6_cell 64 = .ok (.istore 5, 2) := dk_54 5 (dk_at dksX6_cell_2 16 rfl rfl)
theorem dX6_cell_66 : decode cX6_cell 66 = .ok (.aload_n 0, 1) := dk_42 (dk_at dksX6_cell_2 18 rfl rfl)
theorem dX6_cell_67 : decode cX6_cell 67 = .ok (.getfield 7, 3) := dk_180 0 7 (dk_at dksX6_cell_2 19 rfl rfl)
theorem dX6_cell_70 : decode cX6_cell 70 = .ok (.iload 4, 2) := dk_21 4 (dk_at dksX6_cell_2 22 rfl rfl)
theorem dX6_cell_72 : decode cX6_cell 72 = .ok (.iload_n 3, 1) := dk_29 (dk_at dksX6_cell_3 0 rfl rfl)
theorem dX6_cell_73 : decode cX6_cell 73 = .ok (.iastore, 1) := dk_79 (dk_at dksX6_cell_3 1 rfl rfl)
theorem dX6_cell_74 : decode cX6_cell 74 = .ok (.iload 5, 2) := dk_21 5 (dk_at dksX6_cell_3 2 rfl rfl)
theorem dX6_cell_76 : decode cX6_cell 76 = .ok (.ireturn, 1) := dk_172 (dk_at dksX6_cell_3 4 rfl rfl)
abbrev cX6_isCell : ByteArray := prog_30_method_6_code
def yX6_isCell : MethodName := ⟨RX6, "isCell", "(I)Z"⟩
def dkwX6_isCell_0 : List UInt8 := [26, 3, 16, 24, 184, 0, 53, 172]
abbrev dktX6_isCell_0 : List UInt8 := dkwX6_isCell_0 ++ []
theorem dksX6_isCell_0 : cX6_isCell.data.toList.drop 0 = dktX6_isCell_0 := by decide +kernel
theorem dX6_isCell_0 : decode cX6_isCell 0 = .ok (.iload_n 0, 1) := dk_26 (dk_at dksX6_isCell_0 0 rfl rfl)
theorem dX6_isCell_1 : decode cX6_isCell 1 = .ok (.iconst 0, 1) := dk_3 (dk_at dksX6_isCell_0 1 rfl rfl)
theorem dX6_isCell_2 : decode cX6_isCell 2 = .ok (.bipush 24, 2) := dk_16 24 (dk_at dksX6_isCell_0 2 rfl rfl)
theorem dX6_isCell_4 : decode cX6_isCell 4 = .ok (.invokestatic 53, 3) := dk_184 0 53 (dk_at dksX6_isCell_0 4 rfl rfl)
theorem dX6_isCell_7 : decode cX6_isCell 7 = .ok (.ireturn, 1) := dk_172 (dk_at dksX6_isCell_0 7 rfl rfl)
abbrev cX6_in : ByteArray := prog_30_method_2_code
def yX6_in : MethodName := ⟨RX6, "in", "(III)Z"⟩
def dkwX6_in_0 : List UInt8 := [26, 27, 161, 0, 12, 26, 28, 163, 0, 7, 4, 167, 0, 4, 3, 172]
abbrev dktX6_in_0 : List UInt8 := dkwX6_in_0 ++ []
theorem dksX6_in_0 : cX6_in.data.toList.drop 0 = dktX6_in_0 := by decide +kernel
theorem dX6_in_0 : decode cX6_in 0 = .ok (.iload_n 0, 1) := dk_26 (dk_at dksX6_in_0 0 rfl rfl)
theorem dX6_in_1 : decode cX6_in 1 = .ok (.iload_n 1, 1) := dk_27 (dk_at dksX6_in_0 1 rfl rfl)
theorem dX6_in_2 : decode cX6_in 2 = .ok (.if_icmp .lt 12, 3) := dk_161 0 12 (dk_at dksX6_in_0 2 rfl rfl)
theorem dX6_in_5 : decode cX6_in 5 = .ok (.iload_n 0, 1) := dk_26 (dk_at dksX6_in_0 5 rfl rfl)
theorem dX6_in_6 : decode cX6_in 6 = .ok (.iload_n 2, 1) := dk_28 (dk_at dksX6_in_0 6 rfl rfl)
theorem dX6_in_7 : decode cX6_in 7 = .ok (.if_icmp .gt 7, 3) := dk_163 0 7 (dk_at dksX6_in_0 7 rfl rfl)
theorem dX6_in_10 : decode cX6_in 10 = .ok (.iconst 1, 1) := dk_4 (dk_at dksX6_in_0 10 rfl rfl)
theorem dX6_in_11 : decode cX6_in 11 = .ok (.goto 4, 3) := dk_167 0 4 (dk_at dksX6_in_0 11 rfl rfl)
theorem dX6_in_14 : decode cX6_in 14 = .ok (.iconst 0, 1) := dk_3 (dk_at dksX6_in_0 14 rfl rfl)
theorem dX6_in_15 : decode cX6_in 15 = .ok (.ireturn, 1) := dk_172 (dk_at dksX6_in_0 15 rfl rfl)
abbrev cX6_errs : ByteArray := prog_30_method_3_code
def yX6_errs : MethodName := ⟨RX6, "errs", "(I)I"⟩
def dkwX6_errs_0 : List UInt8 := [42, 180, 0, 22, 18, 52, 27, 100, 92, 46, 4, 96, 79, 27, 172]
abbrev dktX6_errs_0 : List UInt8 := dkwX6_errs_0 ++ []
theorem dksX6_errs_0 : cX6_errs.data.toList.drop 0 = dktX6_errs_0 := by decide +kernel
theorem dX6_errs_0 : decode cX6_errs 0 = .ok (.aload_n 0, 1) := dk_42 (dk_at dksX6_errs_0 0 rfl rfl)
theorem dX6_errs_1 : decode cX6_errs 1 = .ok (.getfield 22, 3) := dk_180 0 22 (dk_at dksX6_errs_0 1 rfl rfl)
theorem dX6_errs_4 : decode cX6_errs 4 = .ok (.ldc 52, 2) := dk_18 52 (dk_at dksX6_errs_0 4 rfl rfl)
theorem dX6_errs_6 : decode cX6_errs 6 = .ok (.iload_n 1, 1) := dk_27 (dk_at dksX6_errs_0 6 rfl rfl)
theorem dX6_errs_7 : decode cX6_errs 7 = .ok (.isub, 1) := dk_100 (dk_at dksX6_errs_0 7 rfl rfl)
theorem dX6_errs_8 : decode cX6_errs 8 = .ok (.dup2, 1) := dk_92 (dk_at dksX6_errs_0 8 rfl rfl)
theorem dX6_errs_9 : decode cX6_errs 9 = .ok (.iaload, 1) := dk_46 (dk_at dksX6_errs_0 9 rfl rfl)
theorem dX6_errs_10 : decode cX6_errs 10 = .ok (.iconst 1, 1) := dk_4 (dk_at dksX6_errs_0 10 rfl rfl)
theorem dX6_errs_11 : decode cX6_errs 11 = .ok (.iadd, 1) := dk_96 (dk_at dksX6_errs_0 11 rfl rfl)
theorem dX6_errs_12 : decode cX6_errs 12 = .ok (.iastore, 1) := dk_79 (dk_at dksX6_errs_0 12 rfl rfl)
theorem dX6_errs_13 : decode cX6_errs 13 = .ok (.iload_n 1, 1) := dk_27 (dk_at dksX6_errs_0 13 rfl rfl)
theorem dX6_errs_14 : decode cX6_errs 14 = .ok (.ireturn, 1) := dk_172 (dk_at dksX6_errs_0 14 rfl rfl)
abbrev cX6_grows : ByteArray := prog_30_method_8_code
def yX6_grows : MethodName := ⟨RX6, "grows", "(I)I"⟩
def dkwX6_grows_1 : List UInt8 := [42, 180, 0, 7, 4, 27, 79, 28, 172]
abbrev dktX6_grows_1 : List UInt8 := dkwX6_grows_1 ++ []
def dkwX6_grows_0 : List UInt8 := [27, 3, 16, 9, 184, 0, 53, 154, 0, 10, 42, 18, 61, 182, 0, 62, 172, 42, 180, 0, 7, 4, 46, 61]
abbrev dktX6_grows_0 : List UInt8 := dkwX6_grows_0 ++ dktX6_grows_1
theorem dksX6_grows_0 : cX6_grows.data.toList.drop 0 = dktX6_grows_0 := by decide +kernel
theorem dksX6_grows_1 : cX6_grows.data.toList.drop 24 = dktX6_grows_1 := dk_seg dksX6_grows_0 24 rfl rfl
theorem dX6_grows_0 : decode cX6_grows 0 = .ok (.iload_n 1, 1) := dk_27 (dk_at dksX6_grows_0 0 rfl rfl)
theorem dX6_grows_1 : decode cX6_grows 1 = .ok (.iconst 0, 1) := dk_3 (dk_at dksX6_grows_0 1 rfl rfl)
theorem dX6_grows_2 : decode cX6_grows 2 = .ok (.bipush 9, 2) := dk_16 9 (dk_at dksX6_grows_0 2 rfl rfl)
theorem dX6_grows_4 : decode cX6_grows 4 = .ok (.invokestatic 53, 3) := dk_184 0 53 (dk_at dksX6_grows_0 4 rfl rfl)
theorem dX6_grows_7 : decode cX6_grows 7 = .ok (.ifCond .ne 10, 3) := dk_154 0 10 (dk_at dksX6_grows_0 7 rfl rfl)
theorem dX6_grows_10 : decode cX6_grows 10 = .ok (.aload_n 0, 1) := dk_42 (dk_at dksX6_grows_0 10 rfl rfl)
theorem dX6_grows_11 : decode cX6_grows 11 = .ok (.ldc 61, 2) := dk_18 61 (dk_at dksX6_grows_0 11 rfl rfl)
theorem dX6_grows_13 : decode cX6_grows 13 = .ok (.invokevirtual 62, 3) := dk_182 0 62 (dk_at dksX6_grows_0 13 rfl rfl)
theorem dX6_grows_16 : decode cX6_grows 16 = .ok (.ireturn, 1) := dk_172 (dk_at dksX6_grows_0 16 rfl rfl)
theorem dX6_grows_17 : decode cX6_grows 17 = .ok (.aload_n 0, 1) := dk_42 (dk_at dksX6_grows_0 17 rfl rfl)
theorem dX6_grows_18 : decode cX6_grows 18 = .ok (.getfield 7, 3) := dk_180 0 7 (dk_at dksX6_grows_0 18 rfl rfl)
theorem dX6_grows_21 : decode cX6_grows 21 = .ok (.iconst 1, 1) := dk_4 (dk_at dksX6_grows_0 21 rfl rfl)
theorem dX6_grows_22 : decode cX6_grows 22 = .ok (.iaload, 1) := dk_46 (dk_at dksX6_grows_0 22 rfl rfl)
theorem dX6_grows_23 : decode cX6_grows 23 = .ok (.istore_n 2, 1) := dk_61 (dk_at dksX6_grows_0 23 rfl rfl)
theorem dX6_grows_24 : decode cX6_grows 24 = .ok (.aload_n 0, 1) := dk_42 (dk_at dksX6_grows_1 0 rfl rfl)
theorem dX6_grows_25 : decode cX6_grows 25 = .ok (.getfield 7, 3) := dk_180 0 7 (dk_at dksX6_grows_1 1 rfl rfl)
theorem dX6_grows_28 : decode cX6_grows 28 = .ok (.iconst 1, 1) := dk_4 (dk_at dksX6_grows_1 4 rfl rfl)
theorem dX6_grows_29 : decode cX6_grows 29 = .ok (.iload_n 1, 1) := dk_27 (dk_at dksX6_grows_1 5 rfl rfl)
theorem dX6_grows_30 : decode cX6_grows 30 = .ok (.iastore, 1) := dk_79 (dk_at dksX6_grows_1 6 rfl rfl)
theorem dX6_grows_31 : decode cX6_grows 31 = .ok (.iload_n 2, 1) := dk_28 (dk_at dksX6_grows_1 7 rfl rfl)
theorem dX6_grows_32 : decode cX6_grows 32 = .ok (.ireturn, 1) := dk_172 (dk_at dksX6_grows_1 8 rfl rfl)
abbrev cX6_ofCell : ByteArray := prog_30_method_13_code
def yX6_ofCell : MethodName := ⟨RX6, "ofCell", "(II)I"⟩
def dkwX6_ofCell_4 : List UInt8 := [132, 4, 1, 167, 255, 223, 29, 172]
abbrev dktX6_ofCell_4 : List UInt8 := dkwX6_ofCell_4 ++ []
def dkwX6_ofCell_3 : List UInt8 := [162, 0, 28, 29, 42, 21, 4, 5, 182, 0, 69, 27, 160, 0, 7, 4, 167, 0, 4, 3, 96, 62]
abbrev dktX6_ofCell_3 : List UInt8 := dkwX6_ofCell_3 ++ dktX6_ofCell_4
def dkwX6_ofCell_2 : List UInt8 := [6, 160, 0, 9, 42, 27, 182, 0, 66, 172, 3, 62, 3, 54, 4, 21, 4, 42, 180, 0, 7, 6, 46]
abbrev dktX6_ofCell_2 : List UInt8 := dkwX6_ofCell_2 ++ dktX6_ofCell_3
def dkwX6_ofCell_1 : List UInt8 := [5, 162, 0, 22, 42, 180, 0, 7, 28, 154, 0, 8, 16, 8, 167, 0, 5, 16, 33, 27, 96, 46, 172, 28]
abbrev dktX6_ofCell_1 : List UInt8 := dkwX6_ofCell_1 ++ dktX6_ofCell_2
def dkwX6_ofCell_0 : List UInt8 := [27, 184, 0, 57, 153, 0, 12, 28, 3, 6, 184, 0, 53, 154, 0, 10, 42, 18, 61, 182, 0, 62, 172, 28]
abbrev dktX6_ofCell_0 : List UInt8 := dkwX6_ofCell_0 ++ dktX6_ofCell_1
theorem dksX6_ofCell_0 : cX6_ofCell.data.toList.drop 0 = dktX6_ofCell_0 := by decide +kernel
theorem dksX6_ofCell_1 : cX6_ofCell.data.toList.drop 24 = dktX6_ofCell_1 := dk_seg dksX6_ofCell_0 24 rfl rfl
theorem dksX6_ofCell_2 : cX6_ofCell.data.toList.drop 48 = dktX6_ofCell_2 := dk_seg dksX6_ofCell_1 24 rfl rfl
theorem dksX6_ofCell_3 : cX6_ofCell.data.toList.drop 71 = dktX6_ofCell_3 := dk_seg dksX6_ofCell_2 23 rfl rfl
theorem dksX6_ofCell_4 : cX6_ofCell.data.toList.drop 93 = dktX6_ofCell_4 := dk_seg dksX6_ofCell_3 22 rfl rfl
theorem dX6_ofCell_0 : decode cX6_ofCell 0 = .ok (.iload_n 1, 1) := dk_27 (dk_at dksX6_ofCell_0 0 rfl rfl)
theorem dX6_ofCell_1 : decode cX6_ofCell 1 = .ok (.invokestatic 57, 3) := dk_184 0 57 (dk_at dksX6_ofCell_0 1 rfl rfl)
theorem dX6_ofCell_4 : decode cX6_ofCell 4 = .ok (.ifCond .eq 12, 3) := dk_153 0 12 (dk_at dksX6_ofCell_0 4 rfl rfl)
theorem dX6_ofCell_7 : decode cX6_ofCell 7 = .ok (.iload_n 2, 1) := dk_28 (dk_at dksX6_ofCell_0 7 rfl rfl)
theorem dX6_ofCell_8 : decode cX6_ofCell 8 = .ok (.iconst 0, 1) := dk_3 (dk_at dksX6_ofCell_0 8 rfl rfl)
theorem dX6_ofCell_9 : decode cX6_ofCell 9 = .ok (.iconst 3, 1) := dk_6 (dk_at dksX6_ofCell_0 9 rfl rfl)
theorem dX6_ofCell_10 : decode cX6_ofCell 10 = .ok (.invokestatic 53, 3) := dk_184 0 53 (dk_at dksX6_ofCell_0 10 rfl rfl)
theorem dX6_ofCell_13 : decode cX6_ofCell 13 = .ok (.ifCond .ne 10, 3) := dk_154 0 10 (dk_at dksX6_ofCell_0 13 rfl rfl)
theorem dX6_ofCell_16 : decode cX6_ofCell 16 = .ok (.aload_n 0, 1) := dk_42 (dk_at dksX6_ofCell_0 16 rfl rfl)
theorem dX6_ofCell_17 : decode cX6_ofCell 17 = .ok (.ldc 61, 2) := dk_18 61 (dk_at dksX6_ofCell_0 17 rfl rfl)
theorem dX6_ofCell_19 : decode cX6_ofCell 19 = .ok (.invokevirtual 62, 3) := dk_182 0 62 (dk_at dksX6_ofCell_0 19 rfl rfl)
theorem dX6_ofCell_22 : decode cX6_ofCell 22 = .ok (.ireturn, 1) := dk_172 (dk_at dksX6_ofCell_0 22 rfl rfl)
theorem dX6_ofCell_23 : decode cX6_ofCell 23 = .ok (.iload_n 2, 1) := dk_28 (dk_at dksX6_ofCell_0 23 rfl rfl)
theorem dX6_ofCell_24 : decode cX6_ofCell 24 = .ok (.iconst 2, 1) := dk_5 (dk_at dksX6_ofCell_1 0 rfl rfl)
theorem dX6_ofCell_25 : decode cX6_ofCell 25 = .ok (.if_icmp .ge 22, 3) := dk_162 0 22 (dk_at dksX6_ofCell_1 1 rfl rfl)
theorem dX6_ofCell_28 : decode cX6_ofCell 28 = .ok (.aload_n 0, 1) := dk_42 (dk_at dksX6_ofCell_1 4 rfl rfl)
theorem dX6_ofCell_29 : decode cX6_ofCell 29 = .ok (.getfield 7, 3) := dk_180 0 7 (dk_at dksX6_ofCell_1 5 rfl rfl)
theorem dX6_ofCell_32 : decode cX6_ofCell 32 = .ok (.iload_n 2, 1) := dk_28 (dk_at dksX6_ofCell_1 8 rfl rfl)
theorem dX6_ofCell_33 : decode cX6_ofCell 33 = .ok (.ifCond .ne 8, 3) := dk_154 0 8 (dk_at dksX6_ofCell_1 9 rfl rfl)
theorem dX6_ofCell_36 : decode cX6_ofCell 36 = .ok (.bipush 8, 2) := dk_16 8 (dk_at dksX6_ofCell_1 12 rfl rfl)
theorem dX6_ofCell_38 : decode cX6_ofCell 38 = .ok (.goto 5, 3) := dk_167 0 5 (dk_at dksX6_ofCell_1 14 rfl rfl)
theorem dX6_ofCell_41 : decode cX6_ofCell 41 = .ok (.bipush 33, 2) := dk_16 33 (dk_at dksX6_ofCell_1 17 rfl rfl)
theorem dX6_ofCell_43 : decode cX6_ofCell 43 = .ok (.iload_n 1, 1) := dk_27 (dk_at dksX6_ofCell_1 19 rfl rfl)
theorem dX6_ofCell_44 : decode cX6_ofCell 44 = .ok (.iadd, 1) := dk_96 (dk_at dksX6_ofCell_1 20 rfl rfl)
theorem dX6_ofCell_45 : decode cX6_ofCell 45 = .ok (.iaload, 1) := dk_46 (dk_at dksX6_ofCell_1 21 rfl rfl)
theorem dX6_ofCell_46 : decode cX6_ofCell 46 = .ok (.ireturn, 1) := dk_172 (dk_at dksX6_ofCell_1 22 rfl rfl)
theorem dX6_ofCell_47 : decode cX6_ofCell 47 = .ok (.iload_n 2, 1) := dk_28 (dk_at dksX6_ofCell_1 23 rfl rfl)
theorem dX6_ofCell_48 : decode cX6_ofCell 48 = .ok (.iconst 3, 1) := dk_6 (dk_at dksX6_ofCell_2 0 rfl rfl)
theorem dX6_ofCell_49 : decode cX6_ofCell 49 = .ok (.if_icmp .ne 9, 3) := dk_160 0 9 (dk_at dksX6_ofCell_2 1 rfl rfl)
theorem dX6_ofCell_52 : decode cX6_ofCell 52 = .ok (.aload_n 0, 1) := dk_42 (dk_at dksX6_ofCell_2 4 rfl rfl)
theorem dX6_ofCell_53 : decode cX6_ofCell 53 = .ok (.iload_n 1, 1) := dk_27 (dk_at dksX6_ofCell_2 5 rfl rfl)
theorem dX6_ofCell_54 : decode cX6_ofCell 54 = .ok (.invokevirtual 66, 3) := dk_182 0 66 (dk_at dksX6_ofCell_2 6 rfl rfl)
theorem dX6_ofCell_57 : decode cX6_ofCell 57 = .ok (.ireturn, 1) := dk_172 (dk_at dksX6_ofCell_2 9 rfl rfl)
theorem dX6_ofCell_58 : decode cX6_ofCell 58 = .ok (.iconst 0, 1) := dk_3 (dk_at dksX6_ofCell_2 10 rfl rfl)
theorem dX6_ofCell_59 : decode cX6_ofCell 59 = .ok (.istore_n 3, 1) := dk_62 (dk_at dksX6_ofCell_2 11 rfl rfl)
theorem dX6_ofCell_60 : decode cX6_ofCell 60 = .ok (.iconst 0, 1) := dk_3 (dk_at dksX6_ofCell_2 12 rfl rfl)
theorem dX6_ofCell_61 : decode cX6_ofCell 61 = .ok (.istore 4, 2) := dk_54 4 (dk_at dksX6_ofCell_2 13 rfl rfl)
theorem dX6_ofCell_63 : decode cX6_ofCell 63 = .ok (.iload 4, 2) := dk_21 4 (dk_at dksX6_ofCell_2 15 rfl rfl)
theorem dX6_ofCell_65 : decode cX6_ofCell 65 = .ok (.aload_n 0, 1) := dk_42 (dk_at dksX6_ofCell_2 17 rfl rfl)
theorem dX6_ofCell_66 : decode cX6_ofCell 66 = .ok (.getfield 7, 3) := dk_180 0 7 (dk_at dksX6_ofCell_2 18 rfl rfl)
theorem dX6_ofCell_69 : decode cX6_ofCell 69 = .ok (.iconst 3, 1) := dk_6 (dk_at dksX6_ofCell_2 21 rfl rfl)
theorem dX6_ofCell_70 : decode cX6_ofCell 70 = .ok (.iaload, 1) := dk_46 (dk_at dksX6_ofCell_2 22 rfl rfl)
theorem dX6_ofCell_71 : decode cX6_ofCell 71 = .ok (.if_icmp .ge 28, 3) := dk_162 0 28 (dk_at dksX6_ofCell_3 0 rfl rfl)
theorem dX6_ofCell_74 : decode cX6_ofCell 74 = .ok (.iload_n 3, 1) := dk_29 (dk_at dksX6_ofCell_3 3 rfl rfl)
theorem dX6_ofCell_75 : decode cX6_ofCell 75 = .ok (.aload_n 0, 1) := dk_42 (dk_at dksX6_ofCell_3 4 rfl rfl)
theorem dX6_ofCell_76 : decode cX6_ofCell 76 = .ok (.iload 4, 2) := dk_21 4 (dk_at dksX6_ofCell_3 5 rfl rfl)
theorem dX6_ofCell_78 : decode cX6_ofCell 78 = .ok (.iconst 2, 1) := dk_5 (dk_at dksX6_ofCell_3 7 rfl rfl)
theorem dX6_ofCell_79 : decode cX6_ofCell 79 = .ok (.invokevirtual 69, 3) := dk_182 0 69 (dk_at dksX6_ofCell_3 8 rfl rfl)
theorem dX6_ofCell_82 : decode cX6_ofCell 82 = .ok (.iload_n 1, 1) := dk_27 (dk_at dksX6_ofCell_3 11 rfl rfl)
theorem dX6_ofCell_83 : decode cX6_ofCell 83 = .ok (.if_icmp .ne 7, 3) := dk_160 0 7 (dk_at dksX6_ofCell_3 12 rfl rfl)
theorem dX6_ofCell_86 : decode cX6_ofCell 86 = .ok (.iconst 1, 1) := dk_4 (dk_at dksX6_ofCell_3 15 rfl rfl)
theorem dX6_ofCell_87 : decode cX6_ofCell 87 = .ok (.goto 4, 3) := dk_167 0 4 (dk_at dksX6_ofCell_3 16 rfl rfl)
theorem dX6_ofCell_90 : decode cX6_ofCell 90 = .ok (.iconst 0, 1) := dk_3 (dk_at dksX6_ofCell_3 19 rfl rfl)
theorem dX6_ofCell_91 : decode cX6_ofCell 91 = .ok (.iadd, 1) := dk_96 (dk_at dksX6_ofCell_3 20 rfl rfl)
theorem dX6_ofCell_92 : decode cX6_ofCell 92 = .ok (.istore_n 3, 1) := dk_62 (dk_at dksX6_ofCell_3 21 rfl rfl)
theorem dX6_ofCell_93 : decode cX6_ofCell 93 = .ok (.iinc 4 1, 3) := dk_132 4 1 (dk_at dksX6_ofCell_4 0 rfl rfl)
theorem dX6_ofCell_96 : decode cX6_ofCell 96 = .ok (.goto (-33), 3) := dk_167 255 223 (dk_at dksX6_ofCell_4 3 rfl rfl)
theorem dX6_ofCell_99 : decode cX6_ofCell 99 = .ok (.iload_n 3, 1) := dk_29 (dk_at dksX6_ofCell_4 6 rfl rfl)
theorem dX6_ofCell_100 : decode cX6_ofCell 100 = .ok (.ireturn, 1) := dk_172 (dk_at dksX6_ofCell_4 7 rfl rfl)
abbrev cX6_drawnBy : ByteArray := prog_30_method_14_code
def yX6_drawnBy : MethodName := ⟨RX6, "drawnBy", "(I)I"⟩
def dkwX6_drawnBy_1 : List UInt8 := [3, 46, 182, 0, 73, 172]
abbrev dktX6_drawnBy_1 : List UInt8 := dkwX6_drawnBy_1 ++ []
def dkwX6_drawnBy_0 : List UInt8 := [42, 3, 42, 180, 0, 7, 16, 33, 27, 96, 46, 42, 180, 0, 7, 16, 8, 27, 96, 46, 42, 180, 0, 7]
abbrev dktX6_drawnBy_0 : List UInt8 := dkwX6_drawnBy_0 ++ dktX6_drawnBy_1
theorem dksX6_drawnBy_0 : cX6_drawnBy.data.toList.drop 0 = dktX6_drawnBy_0 := by decide +kernel
theorem dksX6_drawnBy_1 : cX6_drawnBy.data.toList.drop 24 = dktX6_drawnBy_1 := dk_seg dksX6_drawnBy_0 24 rfl rfl
theorem dX6_drawnBy_0 : decode cX6_drawnBy 0 = .ok (.aload_n 0, 1) := dk_42 (dk_at dksX6_drawnBy_0 0 rfl rfl)
theorem dX6_drawnBy_1 : decode cX6_drawnBy 1 = .ok (.iconst 0, 1) := dk_3 (dk_at dksX6_drawnBy_0 1 rfl rfl)
theorem dX6_drawnBy_2 : decode cX6_drawnBy 2 = .ok (.aload_n 0, 1) := dk_42 (dk_at dksX6_drawnBy_0 2 rfl rfl)
theorem dX6_drawnBy_3 : decode cX6_drawnBy 3 = .ok (.getfield 7, 3) := dk_180 0 7 (dk_at dksX6_drawnBy_0 3 rfl rfl)
theorem dX6_drawnBy_6 : decode cX6_drawnBy 6 = .ok (.bipush 33, 2) := dk_16 33 (dk_at dksX6_drawnBy_0 6 rfl rfl)
theorem dX6_drawnBy_8 : decode cX6_drawnBy 8 = .ok (.iload_n 1, 1) := dk_27 (dk_at dksX6_drawnBy_0 8 rfl rfl)
theorem dX6_drawnBy_9 : decode cX6_drawnBy 9 = .ok (.iadd, 1) := dk_96 (dk_at dksX6_drawnBy_0 9 rfl rfl)
theorem dX6_drawnBy_10 : decode cX6_drawnBy 10 = .ok (.iaload, 1) := dk_46 (dk_at dksX6_drawnBy_0 10 rfl rfl)
theorem dX6_drawnBy_11 : decode cX6_drawnBy 11 = .ok (.aload_n 0, 1) := dk_42 (dk_at dksX6_drawnBy_0 11 rfl rfl)
theorem dX6_drawnBy_12 : decode cX6_drawnBy 12 = .ok (.getfield 7, 3) := dk_180 0 7 (dk_at dksX6_drawnBy_0 12 rfl rfl)
theorem dX6_drawnBy_15 : decode cX6_drawnBy 15 = .ok (.bipush 8, 2) := dk_16 8 (dk_at dksX6_drawnBy_0 15 rfl rfl)
theorem dX6_drawnBy_17 : decode cX6_drawnBy 17 = .ok (.iload_n 1, 1) := dk_27 (dk_at dksX6_drawnBy_0 17 rfl rfl)
theorem dX6_drawnBy_18 : decode cX6_drawnBy 18 = .ok (.iadd, 1) := dk_96 (dk_at dksX6_drawnBy_0 18 rfl rfl)
theorem dX6_drawnBy_19 : decode cX6_drawnBy 19 = .ok (.iaload, 1) := dk_46 (dk_at dksX6_drawnBy_0 19 rfl rfl)
theorem dX6_drawnBy_20 : decode cX6_drawnBy 20 = .ok (.aload_n 0, 1) := dk_42 (dk_at dksX6_drawnBy_0 20 rfl rfl)
theorem dX6_drawnBy_21 : decode cX6_drawnBy 21 = .ok (.getfield 7, 3) := dk_180 0 7 (dk_at dksX6_drawnBy_0 21 rfl rfl)
theorem dX6_drawnBy_24 : decode cX6_drawnBy 24 = .ok (.iconst 0, 1) := dk_3 (dk_at dksX6_drawnBy_1 0 rfl rfl)
theorem dX6_drawnBy_25 : decode cX6_drawnBy 25 = .ok (.iaload, 1) := dk_46 (dk_at dksX6_drawnBy_1 1 rfl rfl)
theorem dX6_drawnBy_26 : decode cX6_drawnBy 26 = .ok (.invokevirtual 73, 3) := dk_182 0 73 (dk_at dksX6_drawnBy_1 2 rfl rfl)
theorem dX6_drawnBy_29 : decode cX6_drawnBy 29 = .ok (.ireturn, 1) := dk_172 (dk_at dksX6_drawnBy_1 5 rfl rfl)
abbrev cX6_lawOf : ByteArray := prog_30_method_40_code
def yX6_lawOf : MethodName := ⟨RX6, "lawOf", "(IIII)I"⟩
def dkwX6_lawOf_3 : List UInt8 := [21, 5, 21, 6, 184, 0, 170, 172]
abbrev dktX6_lawOf_3 : List UInt8 := dkwX6_lawOf_3 ++ []
def dkwX6_lawOf_2 : List UInt8 := [16, 10, 29, 5, 104, 100, 21, 5, 21, 6, 184, 0, 170, 172, 42, 27, 28, 29, 21, 4, 182, 0, 173]
abbrev dktX6_lawOf_2 : List UInt8 := dkwX6_lawOf_2 ++ dktX6_lawOf_3
def dkwX6_lawOf_1 : List UInt8 := [16, 99, 54, 6, 42, 180, 0, 7, 16, 6, 27, 96, 46, 156, 0, 25, 27, 154, 0, 7, 28, 167, 0, 9]
abbrev dktX6_lawOf_1 : List UInt8 := dkwX6_lawOf_1 ++ dktX6_lawOf_2
def dkwX6_lawOf_0 : List UInt8 := [27, 154, 0, 9, 17, 252, 25, 167, 0, 4, 3, 54, 5, 27, 154, 0, 9, 17, 3, 231, 167, 0, 5]
abbrev dktX6_lawOf_0 : List UInt8 := dkwX6_lawOf_0 ++ dktX6_lawOf_1
theorem dksX6_lawOf_0 : cX6_lawOf.data.toList.drop 0 = dktX6_lawOf_0 := by decide +kernel
theorem dksX6_lawOf_1 : cX6_lawOf.data.toList.drop 23 = dktX6_lawOf_1 := dk_seg dksX6_lawOf_0 23 rfl rfl
theorem dksX6_lawOf_2 : cX6_lawOf.data.toList.drop 47 = dktX6_lawOf_2 := dk_seg dksX6_lawOf_1 24 rfl rfl
theorem dksX6_lawOf_3 : cX6_lawOf.data.toList.drop 70 = dktX6_lawOf_3 := dk_seg dksX6_lawOf_2 23 rfl rfl
theorem dX6_lawOf_0 : decode cX6_lawOf 0 = .ok (.iload_n 1, 1) := dk_27 (dk_at dksX6_lawOf_0 0 rfl rfl)
theorem dX6_lawOf_1 : decode cX6_lawOf 1 = .ok (.ifCond .ne 9, 3) := dk_154 0 9 (dk_at dksX6_lawOf_0 1 rfl rfl)
theorem dX6_lawOf_4 : decode cX6_lawOf 4 = .ok (.sipush (-999), 3) := dk_17 252 25 (dk_at dksX6_lawOf_0 4 rfl rfl)
theorem dX6_lawOf_7 : decode cX6_lawOf 7 = .ok (.goto 4, 3) := dk_167 0 4 (dk_at dksX6_lawOf_0 7 rfl rfl)
theorem dX6_lawOf_10 : decode cX6_lawOf 10 = .ok (.iconst 0, 1) := dk_3 (dk_at dksX6_lawOf_0 10 rfl rfl)
theorem dX6_lawOf_11 : decode cX6_lawOf 11 = .ok (.istore 5, 2) := dk_54 5 (dk_at dksX6_lawOf_0 11 rfl rfl)
theorem dX6_lawOf_13 : decode cX6_lawOf 13 = .ok (.iload_n 1, 1) := dk_27 (dk_at dksX6_lawOf_0 13 rfl rfl)
theorem dX6_lawOf_14 : decode cX6_lawOf 14 = .ok (.ifCond .ne 9, 3) := dk_154 0 9 (dk_at dksX6_lawOf_0 14 rfl rfl)
theorem dX6_lawOf_17 : decode cX6_lawOf 17 = .ok (.sipush 999, 3) := dk_17 3 231 (dk_at dksX6_lawOf_0 17 rfl rfl)
theorem dX6_lawOf_20 : decode cX6_lawOf 20 = .ok (.goto 5, 3) := dk_167 0 5 (dk_at dksX6_lawOf_0 20 rfl rfl)
theorem dX6_lawOf_23 : decode cX6_lawOf 23 = .ok (.bipush 99, 2) := dk_16 99 (dk_at dksX6_lawOf_1 0 rfl rfl)
theorem dX6_lawOf_25 : decode cX6_lawOf 25 = .ok (.istore 6, 2) := dk_54 6 (dk_at dksX6_lawOf_1 2 rfl rfl)
theorem dX6_lawOf_27 : decode cX6_lawOf 27 = .ok (.aload_n 0, 1) := dk_42 (dk_at dksX6_lawOf_1 4 rfl rfl)
theorem dX6_lawOf_28 : decode cX6_lawOf 28 = .ok (.getfield 7, 3) := dk_180 0 7 (dk_at dksX6_lawOf_1 5 rfl rfl)
theorem dX6_lawOf_31 : decode cX6_lawOf 31 = .ok (.bipush 6, 2) := dk_16 6 (dk_at dksX6_lawOf_1 8 rfl rfl)
theorem dX6_lawOf_33 : decode cX6_lawOf 33 = .ok (.iload_n 1, 1) := dk_27 (dk_at dksX6_lawOf_1 10 rfl rfl)
theorem dX6_lawOf_34 : decode cX6_lawOf 34 = .ok (.iadd, 1) := dk_96 (dk_at dksX6_lawOf_1 11 rfl rfl)
theorem dX6_lawOf_35 : decode cX6_lawOf 35 = .ok (.iaload, 1) := dk_46 (dk_at dksX6_lawOf_1 12 rfl rfl)
theorem dX6_lawOf_36 : decode cX6_lawOf 36 = .ok (.ifCond .ge 25, 3) := dk_156 0 25 (dk_at dksX6_lawOf_1 13 rfl rfl)
theorem dX6_lawOf_39 : decode cX6_lawOf 39 = .ok (.iload_n 1, 1) := dk_27 (dk_at dksX6_lawOf_1 16 rfl rfl)
theorem dX6_lawOf_40 : decode cX6_lawOf 40 = .ok (.ifCond .ne 7, 3) := dk_154 0 7 (dk_at dksX6_lawOf_1 17 rfl rfl)
theorem dX6_lawOf_43 : decode cX6_lawOf 43 = .ok (.iload_n 2, 1) := dk_28 (dk_at dksX6_lawOf_1 20 rfl rfl)
theorem dX6_lawOf_44 : decode cX6_lawOf 44 = .ok (.goto 9, 3) := dk_167 0 9 (dk_at dksX6_lawOf_1 21 rfl rfl)
theorem dX6_lawOf_47 : decode cX6_lawOf 47 = .ok (.bipush 10, 2) := dk_16 10 (dk_at dksX6_lawOf_2 0 rfl rfl)
theorem dX6_lawOf_49 : decode cX6_lawOf 49 = .ok (.iload_n 3, 1) := dk_29 (dk_at dksX6_lawOf_2 2 rfl rfl)
theorem dX6_lawOf_50 : decode cX6_lawOf 50 = .ok (.iconst 2, 1) := dk_5 (dk_at dksX6_lawOf_2 3 rfl rfl)
theorem dX6_lawOf_51 : decode cX6_lawOf 51 = .ok (.imul, 1) := dk_104 (dk_at dksX6_lawOf_2 4 rfl rfl)
theorem dX6_lawOf_52 : decode cX6_lawOf 52 = .ok (.isub, 1) := dk_100 (dk_at dksX6_lawOf_2 5 rfl rfl)
theorem dX6_lawOf_53 : decode cX6_lawOf 53 = .ok (.iload 5, 2) := dk_21 5 (dk_at dksX6_lawOf_2 6 rfl rfl)
theorem dX6_lawOf_55 : decode cX6_lawOf 55 = .ok (.iload 6, 2) := dk_21 6 (dk_at dksX6_lawOf_2 8 rfl rfl)
theorem dX6_lawOf_57 : decode cX6_lawOf 57 = .ok (.invokestatic 170, 3) := dk_184 0 170 (dk_at dksX6_lawOf_2 10 rfl rfl)
theorem dX6_lawOf_60 : decode cX6_lawOf 60 = .ok (.ireturn, 1) := dk_172 (dk_at dksX6_lawOf_2 13 rfl rfl)
theorem dX6_lawOf_61 : decode cX6_lawOf 61 = .ok (.aload_n 0, 1) := dk_42 (dk_at dksX6_lawOf_2 14 rfl rfl)
theorem dX6_lawOf_62 : decode cX6_lawOf 62 = .ok (.iload_n 1, 1) := dk_27 (dk_at dksX6_lawOf_2 15 rfl rfl)
theorem dX6_lawOf_63 : decode cX6_lawOf 63 = .ok (.iload_n 2, 1) := dk_28 (dk_at dksX6_lawOf_2 16 rfl rfl)
theorem dX6_lawOf_64 : decode cX6_lawOf 64 = .ok (.iload_n 3, 1) := dk_29 (dk_at dksX6_lawOf_2 17 rfl rfl)
theorem dX6_lawOf_65 : decode cX6_lawOf 65 = .ok (.iload 4, 2) := dk_21 4 (dk_at dksX6_lawOf_2 18 rfl rfl)
theorem dX6_lawOf_67 : decode cX6_lawOf 67 = .ok (.invokevirtual 173, 3) := dk_182 0 173 (dk_at dksX6_lawOf_2 20 rfl rfl)
theorem dX6_lawOf_70 : decode cX6_lawOf 70 = .ok (.iload 5, 2) := dk_21 5 (dk_at dksX6_lawOf_3 0 rfl rfl)
theorem dX6_lawOf_72 : decode cX6_lawOf 72 = .ok (.iload 6, 2) := dk_21 6 (dk_at dksX6_lawOf_3 2 rfl rfl)
theorem dX6_lawOf_74 : decode cX6_lawOf 74 = .ok (.invokestatic 170, 3) := dk_184 0 170 (dk_at dksX6_lawOf_3 4 rfl rfl)
theorem dX6_lawOf_77 : decode cX6_lawOf 77 = .ok (.ireturn, 1) := dk_172 (dk_at dksX6_lawOf_3 7 rfl rfl)
abbrev cX6_held : ByteArray := prog_30_method_4_code
def yX6_held : MethodName := ⟨RX6, "held", "(III)I"⟩
def dkwX6_held_0 : List UInt8 := [26, 27, 162, 0, 7, 27, 167, 0, 13, 26, 28, 164, 0, 7, 28, 167, 0, 4, 26, 172]
abbrev dktX6_held_0 : List UInt8 := dkwX6_held_0 ++ []
theorem dksX6_held_0 : cX6_held.data.toList.drop 0 = dktX6_held_0 := by decide +kernel
theorem dX6_held_0 : decode cX6_held 0 = .ok (.iload_n 0, 1) := dk_26 (dk_at dksX6_held_0 0 rfl rfl)
theorem dX6_held_1 : decode cX6_held 1 = .ok (.iload_n 1, 1) := dk_27 (dk_at dksX6_held_0 1 rfl rfl)
theorem dX6_held_2 : decode cX6_held 2 = .ok (.if_icmp .ge 7, 3) := dk_162 0 7 (dk_at dksX6_held_0 2 rfl rfl)
theorem dX6_held_5 : decode cX6_held 5 = .ok (.iload_n 1, 1) := dk_27 (dk_at dksX6_held_0 5 rfl rfl)
theorem dX6_held_6 : decode cX6_held 6 = .ok (.goto 13, 3) := dk_167 0 13 (dk_at dksX6_held_0 6 rfl rfl)
theorem dX6_held_9 : decode cX6_held 9 = .ok (.iload_n 0, 1) := dk_26 (dk_at dksX6_held_0 9 rfl rfl)
theorem dX6_held_10 : decode cX6_held 10 = .ok (.iload_n 2, 1) := dk_28 (dk_at dksX6_held_0 10 rfl rfl)
theorem dX6_held_11 : decode cX6_held 11 = .ok (.if_icmp .le 7, 3) := dk_164 0 7 (dk_at dksX6_held_0 11 rfl rfl)
theorem dX6_held_14 : decode cX6_held 14 = .ok (.iload_n 2, 1) := dk_28 (dk_at dksX6_held_0 14 rfl rfl)
theorem dX6_held_15 : decode cX6_held 15 = .ok (.goto 4, 3) := dk_167 0 4 (dk_at dksX6_held_0 15 rfl rfl)
theorem dX6_held_18 : decode cX6_held 18 = .ok (.iload_n 0, 1) := dk_26 (dk_at dksX6_held_0 18 rfl rfl)
theorem dX6_held_19 : decode cX6_held 19 = .ok (.ireturn, 1) := dk_172 (dk_at dksX6_held_0 19 rfl rfl)
abbrev cX6_walks : ByteArray := prog_30_method_39_code
def yX6_walks : MethodName := ⟨RX6, "walks", "(IIII)I"⟩
def dkwX6_walks_3 : List UInt8 := [180, 0, 110, 160, 0, 7, 4, 167, 0, 4, 3, 181, 0, 117, 21, 5, 172]
abbrev dktX6_walks_3 : List UInt8 := dkwX6_walks_3 ++ []
def dkwX6_walks_2 : List UInt8 := [181, 0, 140, 42, 182, 0, 155, 54, 5, 42, 42, 180, 0, 117, 153, 0, 18, 42, 180, 0, 121, 42]
abbrev dktX6_walks_2 : List UInt8 := dkwX6_walks_2 ++ dktX6_walks_3
def dkwX6_walks_1 : List UInt8 := [3, 181, 0, 149, 42, 4, 181, 0, 117, 42, 28, 181, 0, 134, 42, 29, 181, 0, 137, 42, 21, 4]
abbrev dktX6_walks_1 : List UInt8 := dkwX6_walks_1 ++ dktX6_walks_2
def dkwX6_walks_0 : List UInt8 := [42, 27, 181, 0, 114, 42, 3, 181, 0, 121, 42, 42, 180, 0, 7, 16, 6, 27, 96, 46, 181, 0, 110, 42]
abbrev dktX6_walks_0 : List UInt8 := dkwX6_walks_0 ++ dktX6_walks_1
theorem dksX6_walks_0 : cX6_walks.data.toList.drop 0 = dktX6_walks_0 := by decide +kernel
theorem dksX6_walks_1 : cX6_walks.data.toList.drop 24 = dktX6_walks_1 := dk_seg dksX6_walks_0 24 rfl rfl
theorem dksX6_walks_2 : cX6_walks.data.toList.drop 46 = dktX6_walks_2 := dk_seg dksX6_walks_1 22 rfl rfl
theorem dksX6_walks_3 : cX6_walks.data.toList.drop 68 = dktX6_walks_3 := dk_seg dksX6_walks_2 22 rfl rfl
theorem dX6_walks_0 : decode cX6_walks 0 = .ok (.aload_n 0, 1) := dk_42 (dk_at dksX6_walks_0 0 rfl rfl)
theorem dX6_walks_1 : decode cX6_walks 1 = .ok (.iload_n 1, 1) := dk_27 (dk_at dksX6_walks_0 1 rfl rfl)
theorem dX6_walks_2 : decode cX6_walks 2 = .ok (.putfield 114, 3) := dk_181 0 114 (dk_at dksX6_walks_0 2 rfl rfl)
theorem dX6_walks_5 : decode cX6_walks 5 = .ok (.aload_n 0, 1) := dk_42 (dk_at dksX6_walks_0 5 rfl rfl)
theorem dX6_walks_6 : decode cX6_walks 6 = .ok (.iconst 0, 1) := dk_3 (dk_at dksX6_walks_0 6 rfl rfl)
theorem dX6_walks_7 : decode cX6_walks 7 = .ok (.putfield 121, 3) := dk_181 0 121 (dk_at dksX6_walks_0 7 rfl rfl)
theorem dX6_walks_10 : decode cX6_walks 10 = .ok (.aload_n 0, 1) := dk_42 (dk_at dksX6_walks_0 10 rfl rfl)
theorem dX6_walks_11 : decode cX6_walks 11 = .ok (.aload_n 0, 1) := dk_42 (dk_at dksX6_walks_0 11 rfl rfl)
theorem dX6_walks_12 : decode cX6_walks 12 = .ok (.getfield 7, 3) := dk_180 0 7 (dk_at dksX6_walks_0 12 rfl rfl)
theorem dX6_walks_15 : decode cX6_walks 15 = .ok (.bipush 6, 2) := dk_16 6 (dk_at dksX6_walks_0 15 rfl rfl)
theorem dX6_walks_17 : decode cX6_walks 17 = .ok (.iload_n 1, 1) := dk_27 (dk_at dksX6_walks_0 17 rfl rfl)
theorem dX6_walks_18 : decode cX6_walks 18 = .ok (.iadd, 1) := dk_96 (dk_at dksX6_walks_0 18 rfl rfl)
theorem dX6_walks_19 : decode cX6_walks 19 = .ok (.iaload, 1) := dk_46 (dk_at dksX6_walks_0 19 rfl rfl)
theorem dX6_walks_20 : decode cX6_walks 20 = .ok (.putfield 110, 3) := dk_181 0 110 (dk_at dksX6_walks_0 20 rfl rfl)
theorem dX6_walks_23 : decode cX6_walks 23 = .ok (.aload_n 0, 1) := dk_42 (dk_at dksX6_walks_0 23 rfl rfl)
theorem dX6_walks_24 : decode cX6_walks 24 = .ok (.iconst 0, 1) := dk_3 (dk_at dksX6_walks_1 0 rfl rfl)
theorem dX6_walks_25 : decode cX6_walks 25 = .ok (.putfield 149, 3) := dk_181 0 149 (dk_at dksX6_walks_1 1 rfl rfl)
theorem dX6_walks_28 : decode cX6_walks 28 = .ok (.aload_n 0, 1) := dk_42 (dk_at dksX6_walks_1 4 rfl rfl)
theorem dX6_walks_29 : decode cX6_walks 29 = .ok (.iconst 1, 1) := dk_4 (dk_at dksX6_walks_1 5 rfl rfl)
theorem dX6_walks_30 : decode cX6_walks 30 = .ok (.putfield 117, 3) := dk_181 0 117 (dk_at dksX6_walks_1 6 rfl rfl)
theorem dX6_walks_33 : decode cX6_walks 33 = .ok (.aload_n 0, 1) := dk_42 (dk_at dksX6_walks_1 9 rfl rfl)
theorem dX6_walks_34 : decode cX6_walks 34 = .ok (.iload_n 2, 1) := dk_28 (dk_at dksX6_walks_1 10 rfl rfl)
theorem dX6_walks_35 : decode cX6_walks 35 = .ok (.putfield 134, 3) := dk_181 0 134 (dk_at dksX6_walks_1 11 rfl rfl)
theorem dX6_walks_38 : decode cX6_walks 38 = .ok (.aload_n 0, 1) := dk_42 (dk_at dksX6_walks_1 14 rfl rfl)
theorem dX6_walks_39 : decode cX6_walks 39 = .ok (.iload_n 3, 1) := dk_29 (dk_at dksX6_walks_1 15 rfl rfl)
theorem dX6_walks_40 : decode cX6_walks 40 = .ok (.putfield 137, 3) := dk_181 0 137 (dk_at dksX6_walks_1 16 rfl rfl)
theorem dX6_walks_43 : decode cX6_walks 43 = .ok (.aload_n 0, 1) := dk_42 (dk_at dksX6_walks_1 19 rfl rfl)
theorem dX6_walks_44 : decode cX6_walks 44 = .ok (.iload 4, 2) := dk_21 4 (dk_at dksX6_walks_1 20 rfl rfl)
theorem dX6_walks_46 : decode cX6_walks 46 = .ok (.putfield 140, 3) := dk_181 0 140 (dk_at dksX6_walks_2 0 rfl rfl)
theorem dX6_walks_49 : decode cX6_walks 49 = .ok (.aload_n 0, 1) := dk_42 (dk_at dksX6_walks_2 3 rfl rfl)
theorem dX6_walks_50 : decode cX6_walks 50 = .ok (.invokevirtual 155, 3) := dk_182 0 155 (dk_at dksX6_walks_2 4 rfl rfl)
theorem dX6_walks_53 : decode cX6_walks 53 = .ok (.istore 5, 2) := dk_54 5 (dk_at dksX6_walks_2 7 rfl rfl)
theorem dX6_walks_55 : decode cX6_walks 55 = .ok (.aload_n 0, 1) := dk_42 (dk_at dksX6_walks_2 9 rfl rfl)
theorem dX6_walks_56 : decode cX6_walks 56 = .ok (.aload_n 0, 1) := dk_42 (dk_at dksX6_walks_2 10 rfl rfl)
theorem dX6_walks_57 : decode cX6_walks 57 = .ok (.getfield 117, 3) := dk_180 0 117 (dk_at dksX6_walks_2 11 rfl rfl)
theorem dX6_walks_60 : decode cX6_walks 60 = .ok (.ifCond .eq 18, 3) := dk_153 0 18 (dk_at dksX6_walks_2 14 rfl rfl)
theorem dX6_walks_63 : decode cX6_walks 63 = .ok (.aload_n 0, 1) := dk_42 (dk_at dksX6_walks_2 17 rfl rfl)
theorem dX6_walks_64 : decode cX6_walks 64 = .ok (.getfield 121, 3) := dk_180 0 121 (dk_at dksX6_walks_2 18 rfl rfl)
theorem dX6_walks_67 : decode cX6_walks 67 = .ok (.aload_n 0, 1) := dk_42 (dk_at dksX6_walks_2 21 rfl rfl)
theorem dX6_walks_68 : decode cX6_walks 68 = .ok (.getfield 110, 3) := dk_180 0 110 (dk_at dksX6_walks_3 0 rfl rfl)
theorem dX6_walks_71 : decode cX6_walks 71 = .ok (.if_icmp .ne 7, 3) := dk_160 0 7 (dk_at dksX6_walks_3 3 rfl rfl)
theorem dX6_walks_74 : decode cX6_walks 74 = .ok (.iconst 1, 1) := dk_4 (dk_at dksX6_walks_3 6 rfl rfl)
theorem dX6_walks_75 : decode cX6_walks 75 = .ok (.goto 4, 3) := dk_167 0 4 (dk_at dksX6_walks_3 7 rfl rfl)
theorem dX6_walks_78 : decode cX6_walks 78 = .ok (.iconst 0, 1) := dk_3 (dk_at dksX6_walks_3 10 rfl rfl)
theorem dX6_walks_79 : decode cX6_walks 79 = .ok (.putfield 117, 3) := dk_181 0 117 (dk_at dksX6_walks_3 11 rfl rfl)
theorem dX6_walks_82 : decode cX6_walks 82 = .ok (.iload 5, 2) := dk_21 5 (dk_at dksX6_walks_3 14 rfl rfl)
theorem dX6_walks_84 : decode cX6_walks 84 = .ok (.ireturn, 1) := dk_172 (dk_at dksX6_walks_3 16 rfl rfl)
abbrev cX6_whole : ByteArray := prog_30_method_38_code
def yX6_whole : MethodName := ⟨RX6, "whole", "()I"⟩
def dkwX6_whole_2 : List UInt8 := [153, 0, 7, 4, 167, 0, 4, 3, 60, 167, 255, 207, 27, 172]
abbrev dktX6_whole_2 : List UInt8 := dkwX6_whole_2 ++ []
def dkwX6_whole_1 : List UInt8 := [160, 0, 35, 42, 89, 180, 0, 121, 4, 96, 181, 0, 121, 42, 182, 0, 167, 61, 27, 154, 0, 7, 28]
abbrev dktX6_whole_1 : List UInt8 := dkwX6_whole_1 ++ dktX6_whole_2
def dkwX6_whole_0 : List UInt8 := [42, 182, 0, 167, 60, 42, 180, 0, 117, 153, 0, 48, 42, 42, 180, 0, 121, 182, 0, 124, 16, 124]
abbrev dktX6_whole_0 : List UInt8 := dkwX6_whole_0 ++ dktX6_whole_1
theorem dksX6_whole_0 : cX6_whole.data.toList.drop 0 = dktX6_whole_0 := by decide +kernel
theorem dksX6_whole_1 : cX6_whole.data.toList.drop 22 = dktX6_whole_1 := dk_seg dksX6_whole_0 22 rfl rfl
theorem dksX6_whole_2 : cX6_whole.data.toList.drop 45 = dktX6_whole_2 := dk_seg dksX6_whole_1 23 rfl rfl
theorem dX6_whole_0 : decode cX6_whole 0 = .ok (.aload_n 0, 1) := dk_42 (dk_at dksX6_whole_0 0 rfl rfl)
theorem dX6_whole_1 : decode cX6_whole 1 = .ok (.invokevirtual 167, 3) := dk_182 0 167 (dk_at dksX6_whole_0 1 rfl rfl)
theorem dX6_whole_4 : decode cX6_whole 4 = .ok (.istore_n 1, 1) := dk_60 (dk_at dksX6_whole_0 4 rfl rfl)
theorem dX6_whole_5 : decode cX6_whole 5 = .ok (.aload_n 0, 1) := dk_42 (dk_at dksX6_whole_0 5 rfl rfl)
theorem dX6_whole_6 : decode cX6_whole 6 = .ok (.getfield 117, 3) := dk_180 0 117 (dk_at dksX6_whole_0 6 rfl rfl)
theorem dX6_whole_9 : decode cX6_whole 9 = .ok (.ifCond .eq 48, 3) := dk_153 0 48 (dk_at dksX6_whole_0 9 rfl rfl)
theorem dX6_whole_12 : decode cX6_whole 12 = .ok (.aload_n 0, 1) := dk_42 (dk_at dksX6_whole_0 12 rfl rfl)
theorem dX6_whole_13 : decode cX6_whole 13 = .ok (.aload_n 0, 1) := dk_42 (dk_at dksX6_whole_0 13 rfl rfl)
theorem dX6_whole_14 : decode cX6_whole 14 = .ok (.getfield 121, 3) := dk_180 0 121 (dk_at dksX6_whole_0 14 rfl rfl)
theorem dX6_whole_17 : decode cX6_whole 17 = .ok (.invokevirtual 124, 3) := dk_182 0 124 (dk_at dksX6_whole_0 17 rfl rfl)
theorem dX6_whole_20 : decode cX6_whole 20 = .ok (.bipush 124, 2) := dk_16 124 (dk_at dksX6_whole_0 20 rfl rfl)
theorem dX6_whole_22 : decode cX6_whole 22 = .ok (.if_icmp .ne 35, 3) := dk_160 0 35 (dk_at dksX6_whole_1 0 rfl rfl)
theorem dX6_whole_25 : decode cX6_whole 25 = .ok (.aload_n 0, 1) := dk_42 (dk_at dksX6_whole_1 3 rfl rfl)
theorem dX6_whole_26 : decode cX6_whole 26 = .ok (.dup, 1) := dk_89 (dk_at dksX6_whole_1 4 rfl rfl)
theorem dX6_whole_27 : decode cX6_whole 27 = .ok (.getfield 121, 3) := dk_180 0 121 (dk_at dksX6_whole_1 5 rfl rfl)
theorem dX6_whole_30 : decode cX6_whole 30 = .ok (.iconst 1, 1) := dk_4 (dk_at dksX6_whole_1 8 rfl rfl)
theorem dX6_whole_31 : decode cX6_whole 31 = .ok (.iadd, 1) := dk_96 (dk_at dksX6_whole_1 9 rfl rfl)
theorem dX6_whole_32 : decode cX6_whole 32 = .ok (.putfield 121, 3) := dk_181 0 121 (dk_at dksX6_whole_1 10 rfl rfl)
theorem dX6_whole_35 : decode cX6_whole 35 = .ok (.aload_n 0, 1) := dk_42 (dk_at dksX6_whole_1 13 rfl rfl)
theorem dX6_whole_36 : decode cX6_whole 36 = .ok (.invokevirtual 167, 3) := dk_182 0 167 (dk_at dksX6_whole_1 14 rfl rfl)
theorem dX6_whole_39 : decode cX6_whole 39 = .ok (.istore_n 2, 1) := dk_61 (dk_at dksX6_whole_1 17 rfl rfl)
theorem dX6_whole_40 : decode cX6_whole 40 = .ok (.iload_n 1, 1) := dk_27 (dk_at dksX6_whole_1 18 rfl rfl)
theorem dX6_whole_41 : decode cX6_whole 41 = .ok (.ifCond .ne 7, 3) := dk_154 0 7 (dk_at dksX6_whole_1 19 rfl rfl)
theorem dX6_whole_44 : decode cX6_whole 44 = .ok (.iload_n 2, 1) := dk_28 (dk_at dksX6_whole_1 22 rfl rfl)
theorem dX6_whole_45 : decode cX6_whole 45 = .ok (.ifCond .eq 7, 3) := dk_153 0 7 (dk_at dksX6_whole_2 0 rfl rfl)
theorem dX6_whole_48 : decode cX6_whole 48 = .ok (.iconst 1, 1) := dk_4 (dk_at dksX6_whole_2 3 rfl rfl)
theorem dX6_whole_49 : decode cX6_whole 49 = .ok (.goto 4, 3) := dk_167 0 4 (dk_at dksX6_whole_2 4 rfl rfl)
theorem dX6_whole_52 : decode cX6_whole 52 = .ok (.iconst 0, 1) := dk_3 (dk_at dksX6_whole_2 7 rfl rfl)
theorem dX6_whole_53 : decode cX6_whole 53 = .ok (.istore_n 1, 1) := dk_60 (dk_at dksX6_whole_2 8 rfl rfl)
theorem dX6_whole_54 : decode cX6_whole 54 = .ok (.goto (-49), 3) := dk_167 255 207 (dk_at dksX6_whole_2 9 rfl rfl)
theorem dX6_whole_57 : decode cX6_whole 57 = .ok (.iload_n 1, 1) := dk_27 (dk_at dksX6_whole_2 12 rfl rfl)
theorem dX6_whole_58 : decode cX6_whole 58 = .ok (.ireturn, 1) := dk_172 (dk_at dksX6_whole_2 13 rfl rfl)
abbrev cX6_both : ByteArray := prog_30_method_37_code
def yX6_both : MethodName := ⟨RX6, "both", "()I"⟩
def dkwX6_both_2 : List UInt8 := [153, 0, 7, 4, 167, 0, 4, 3, 60, 167, 255, 207, 27, 172]
abbrev dktX6_both_2 : List UInt8 := dkwX6_both_2 ++ []
def dkwX6_both_1 : List UInt8 := [160, 0, 35, 42, 89, 180, 0, 121, 4, 96, 181, 0, 121, 42, 182, 0, 164, 61, 27, 153, 0, 11, 28]
abbrev dktX6_both_1 : List UInt8 := dkwX6_both_1 ++ dktX6_both_2
def dkwX6_both_0 : List UInt8 := [42, 182, 0, 164, 60, 42, 180, 0, 117, 153, 0, 48, 42, 42, 180, 0, 121, 182, 0, 124, 16, 38]
abbrev dktX6_both_0 : List UInt8 := dkwX6_both_0 ++ dktX6_both_1
theorem dksX6_both_0 : cX6_both.data.toList.drop 0 = dktX6_both_0 := by decide +kernel
theorem dksX6_both_1 : cX6_both.data.toList.drop 22 = dktX6_both_1 := dk_seg dksX6_both_0 22 rfl rfl
theorem dksX6_both_2 : cX6_both.data.toList.drop 45 = dktX6_both_2 := dk_seg dksX6_both_1 23 rfl rfl
theorem dX6_both_0 : decode cX6_both 0 = .ok (.aload_n 0, 1) := dk_42 (dk_at dksX6_both_0 0 rfl rfl)
theorem dX6_both_1 : decode cX6_both 1 = .ok (.invokevirtual 164, 3) := dk_182 0 164 (dk_at dksX6_both_0 1 rfl rfl)
theorem dX6_both_4 : decode cX6_both 4 = .ok (.istore_n 1, 1) := dk_60 (dk_at dksX6_both_0 4 rfl rfl)
theorem dX6_both_5 : decode cX6_both 5 = .ok (.aload_n 0, 1) := dk_42 (dk_at dksX6_both_0 5 rfl rfl)
theorem dX6_both_6 : decode cX6_both 6 = .ok (.getfield 117, 3) := dk_180 0 117 (dk_at dksX6_both_0 6 rfl rfl)
theorem dX6_both_9 : decode cX6_both 9 = .ok (.ifCond .eq 48, 3) := dk_153 0 48 (dk_at dksX6_both_0 9 rfl rfl)
theorem dX6_both_12 : decode cX6_both 12 = .ok (.aload_n 0, 1) := dk_42 (dk_at dksX6_both_0 12 rfl rfl)
theorem dX6_both_13 : decode cX6_both 13 = .ok (.aload_n 0, 1) := dk_42 (dk_at dksX6_both_0 13 rfl rfl)
theorem dX6_both_14 : decode cX6_both 14 = .ok (.getfield 121, 3) := dk_180 0 121 (dk_at dksX6_both_0 14 rfl rfl)
theorem dX6_both_17 : decode cX6_both 17 = .ok (.invokevirtual 124, 3) := dk_182 0 124 (dk_at dksX6_both_0 17 rfl rfl)
theorem dX6_both_20 : decode cX6_both 20 = .ok (.bipush 38, 2) := dk_16 38 (dk_at dksX6_both_0 20 rfl rfl)
theorem dX6_both_22 : decode cX6_both 22 = .ok (.if_icmp .ne 35, 3) := dk_160 0 35 (dk_at dksX6_both_1 0 rfl rfl)
theorem dX6_both_25 : decode cX6_both 25 = .ok (.aload_n 0, 1) := dk_42 (dk_at dksX6_both_1 3 rfl rfl)
theorem dX6_both_26 : decode cX6_both 26 = .ok (.dup, 1) := dk_89 (dk_at dksX6_both_1 4 rfl rfl)
theorem dX6_both_27 : decode cX6_both 27 = .ok (.getfield 121, 3) := dk_180 0 121 (dk_at dksX6_both_1 5 rfl rfl)
theorem dX6_both_30 : decode cX6_both 30 = .ok (.iconst 1, 1) := dk_4 (dk_at dksX6_both_1 8 rfl rfl)
theorem dX6_both_31 : decode cX6_both 31 = .ok (.iadd, 1) := dk_96 (dk_at dksX6_both_1 9 rfl rfl)
theorem dX6_both_32 : decode cX6_both 32 = .ok (.putfield 121, 3) := dk_181 0 121 (dk_at dksX6_both_1 10 rfl rfl)
theorem dX6_both_35 : decode cX6_both 35 = .ok (.aload_n 0, 1) := dk_42 (dk_at dksX6_both_1 13 rfl rfl)
theorem dX6_both_36 : decode cX6_both 36 = .ok (.invokevirtual 164, 3) := dk_182 0 164 (dk_at dksX6_both_1 14 rfl rfl)
theorem dX6_both_39 : decode cX6_both 39 = .ok (.istore_n 2, 1) := dk_61 (dk_at dksX6_both_1 17 rfl rfl)
theorem dX6_both_40 : decode cX6_both 40 = .ok (.iload_n 1, 1) := dk_27 (dk_at dksX6_both_1 18 rfl rfl)
theorem dX6_both_41 : decode cX6_both 41 = .ok (.ifCond .eq 11, 3) := dk_153 0 11 (dk_at dksX6_both_1 19 rfl rfl)
theorem dX6_both_44 : decode cX6_both 44 = .ok (.iload_n 2, 1) := dk_28 (dk_at dksX6_both_1 22 rfl rfl)
theorem dX6_both_45 : decode cX6_both 45 = .ok (.ifCond .eq 7, 3) := dk_153 0 7 (dk_at dksX6_both_2 0 rfl rfl)
theorem dX6_both_48 : decode cX6_both 48 = .ok (.iconst 1, 1) := dk_4 (dk_at dksX6_both_2 3 rfl rfl)
theorem dX6_both_49 : decode cX6_both 49 = .ok (.goto 4, 3) := dk_167 0 4 (dk_at dksX6_both_2 4 rfl rfl)
theorem dX6_both_52 : decode cX6_both 52 = .ok (.iconst 0, 1) := dk_3 (dk_at dksX6_both_2 7 rfl rfl)
theorem dX6_both_53 : decode cX6_both 53 = .ok (.istore_n 1, 1) := dk_60 (dk_at dksX6_both_2 8 rfl rfl)
theorem dX6_both_54 : decode cX6_both 54 = .ok (.goto (-49), 3) := dk_167 255 207 (dk_at dksX6_both_2 9 rfl rfl)
theorem dX6_both_57 : decode cX6_both 57 = .ok (.iload_n 1, 1) := dk_27 (dk_at dksX6_both_2 12 rfl rfl)
theorem dX6_both_58 : decode cX6_both 58 = .ok (.ireturn, 1) := dk_172 (dk_at dksX6_both_2 13 rfl rfl)
abbrev cX6_compared : ByteArray := prog_30_method_36_code
def yX6_compared : MethodName := ⟨RX6, "compared", "()I"⟩
def dkwX6_compared_5 : List UInt8 := [3, 172]
abbrev dktX6_compared_5 : List UInt8 := dkwX6_compared_5 ++ []
def dkwX6_compared_4 : List UInt8 := [167, 0, 13, 27, 29, 164, 0, 7, 4, 167, 0, 4, 3, 54, 4, 21, 4, 153, 0, 7, 4, 167, 0, 4]
abbrev dktX6_compared_4 : List UInt8 := dkwX6_compared_4 ++ dktX6_compared_5
def dkwX6_compared_3 : List UInt8 := [4, 167, 0, 36, 3, 167, 0, 32, 28, 16, 61, 160, 0, 16, 27, 29, 160, 0, 7, 4, 167, 0, 17, 3]
abbrev dktX6_compared_3 : List UInt8 := dkwX6_compared_3 ++ dktX6_compared_4
def dkwX6_compared_2 : List UInt8 := [180, 0, 121, 4, 96, 181, 0, 121, 42, 182, 0, 161, 62, 28, 16, 60, 160, 0, 16, 27, 29, 162, 0, 7]
abbrev dktX6_compared_2 : List UInt8 := dkwX6_compared_2 ++ dktX6_compared_3
def dkwX6_compared_1 : List UInt8 := [61, 28, 16, 60, 159, 0, 17, 28, 16, 61, 159, 0, 11, 28, 16, 62, 159, 0, 5, 27, 172, 42, 89]
abbrev dktX6_compared_1 : List UInt8 := dkwX6_compared_1 ++ dktX6_compared_2
def dkwX6_compared_0 : List UInt8 := [42, 182, 0, 161, 60, 42, 180, 0, 117, 153, 0, 14, 42, 42, 180, 0, 121, 182, 0, 124, 167, 0, 4, 2]
abbrev dktX6_compared_0 : List UInt8 := dkwX6_compared_0 ++ dktX6_compared_1
theorem dksX6_compared_0 : cX6_compared.data.toList.drop 0 = dktX6_compared_0 := by decide +kernel
theorem dksX6_compared_1 : cX6_compared.data.toList.drop 24 = dktX6_compared_1 := dk_seg dksX6_compared_0 24 rfl rfl
theorem dksX6_compared_2 : cX6_compared.data.toList.drop 47 = dktX6_compared_2 := dk_seg dksX6_compared_1 23 rfl rfl
theorem dksX6_compared_3 : cX6_compared.data.toList.drop 71 = dktX6_compared_3 := dk_seg dksX6_compared_2 24 rfl rfl
theorem dksX6_compared_4 : cX6_compared.data.toList.drop 95 = dktX6_compared_4 := dk_seg dksX6_compared_3 24 rfl rfl
theorem dksX6_compared_5 : cX6_compared.data.toList.drop 119 = dktX6_compared_5 := dk_seg dksX6_compared_4 24 rfl rfl
theorem dX6_compared_0 : decode cX6_compared 0 = .ok (.aload_n 0, 1) := dk_42 (dk_at dksX6_compared_0 0 rfl rfl)
theorem dX6_compared_1 : decode cX6_compared 1 = .ok (.invokevirtual 161, 3) := dk_182 0 161 (dk_at dksX6_compared_0 1 rfl rfl)
theorem dX6_compared_4 : decode cX6_compared 4 = .ok (.istore_n 1, 1) := dk_60 (dk_at dksX6_compared_0 4 rfl rfl)
theorem dX6_compared_5 : decode cX6_compared 5 = .ok (.aload_n 0, 1) := dk_42 (dk_at dksX6_compared_0 5 rfl rfl)
theorem dX6_compared_6 : decode cX6_compared 6 = .ok (.getfield 117, 3) := dk_180 0 117 (dk_at dksX6_compared_0 6 rfl rfl)
theorem dX6_compared_9 : decode cX6_compared 9 = .ok (.ifCond .eq 14, 3) := dk_153 0 14 (dk_at dksX6_compared_0 9 rfl rfl)
theorem dX6_compared_12 : decode cX6_compared 12 = .ok (.aload_n 0, 1) := dk_42 (dk_at dksX6_compared_0 12 rfl rfl)
theorem dX6_compared_13 : decode cX6_compared 13 = .ok (.aload_n 0, 1) := dk_42 (dk_at dksX6_compared_0 13 rfl rfl)
theorem dX6_compared_14 : decode cX6_compared 14 = .ok (.getfield 121, 3) := dk_180 0 121 (dk_at dksX6_compared_0 14 rfl rfl)
theorem dX6_compared_17 : decode cX6_compared 17 = .ok (.invokevirtual 124, 3) := dk_182 0 124 (dk_at dksX6_compared_0 17 rfl rfl)
theorem dX6_compared_20 : decode cX6_compared 20 = .ok (.goto 4, 3) := dk_167 0 4 (dk_at dksX6_compared_0 20 rfl rfl)
theorem dX6_compared_23 : decode cX6_compared 23 = .ok (.iconst (-1), 1) := dk_2 (dk_at dksX6_compared_0 23 rfl rfl)
theorem dX6_compared_24 : decode cX6_compared 24 = .ok (.istore_n 2, 1) := dk_61 (dk_at dksX6_compared_1 0 rfl rfl)
theorem dX6_compared_25 : decode cX6_compared 25 = .ok (.iload_n 2, 1) := dk_28 (dk_at dksX6_compared_1 1 rfl rfl)
theorem dX6_compared_26 : decode cX6_compared 26 = .ok (.bipush 60, 2) := dk_16 60 (dk_at dksX6_compared_1 2 rfl rfl)
theorem dX6_compared_28 : decode cX6_compared 28 = .ok (.if_icmp .eq 17, 3) := dk_159 0 17 (dk_at dksX6_compared_1 4 rfl rfl)
theorem dX6_compared_31 : decode cX6_compared 31 = .ok (.iload_n 2, 1) := dk_28 (dk_at dksX6_compared_1 7 rfl rfl)
theorem dX6_compared_32 : decode cX6_compared 32 = .ok (.bipush 61, 2) := dk_16 61 (dk_at dksX6_compared_1 8 rfl rfl)
theorem dX6_compared_34 : decode cX6_compared 34 = .ok (.if_icmp .eq 11, 3) := dk_159 0 11 (dk_at dksX6_compared_1 10 rfl rfl)
theorem dX6_compared_37 : decode cX6_compared 37 = .ok (.iload_n 2, 1) := dk_28 (dk_at dksX6_compared_1 13 rfl rfl)
theorem dX6_compared_38 : decode cX6_compared 38 = .ok (.bipush 62, 2) := dk_16 62 (dk_at dksX6_compared_1 14 rfl rfl)
theorem dX6_compared_40 : decode cX6_compared 40 = .ok (.if_icmp .eq 5, 3) := dk_159 0 5 (dk_at dksX6_compared_1 16 rfl rfl)
theorem dX6_compared_43 : decode cX6_compared 43 = .ok (.iload_n 1, 1) := dk_27 (dk_at dksX6_compared_1 19 rfl rfl)
theorem dX6_compared_44 : decode cX6_compared 44 = .ok (.ireturn, 1) := dk_172 (dk_at dksX6_compared_1 20 rfl rfl)
theorem dX6_compared_45 : decode cX6_compared 45 = .ok (.aload_n 0, 1) := dk_42 (dk_at dksX6_compared_1 21 rfl rfl)
theorem dX6_compared_46 : decode cX6_compared 46 = .ok (.dup, 1) := dk_89 (dk_at dksX6_compared_1 22 rfl rfl)
theorem dX6_compared_47 : decode cX6_compared 47 = .ok (.getfield 121, 3) := dk_180 0 121 (dk_at dksX6_compared_2 0 rfl rfl)
theorem dX6_compared_50 : decode cX6_compared 50 = .ok (.iconst 1, 1) := dk_4 (dk_at dksX6_compared_2 3 rfl rfl)
theorem dX6_compared_51 : decode cX6_compared 51 = .ok (.iadd, 1) := dk_96 (dk_at dksX6_compared_2 4 rfl rfl)
theorem dX6_compared_52 : decode cX6_compared 52 = .ok (.putfield 121, 3) := dk_181 0 121 (dk_at dksX6_compared_2 5 rfl rfl)
theorem dX6_compared_55 : decode cX6_compared 55 = .ok (.aload_n 0, 1) := dk_42 (dk_at dksX6_compared_2 8 rfl rfl)
theorem dX6_compared_56 : decode cX6_compared 56 = .ok (.invokevirtual 161, 3) := dk_182 0 161 (dk_at dksX6_compared_2 9 rfl rfl)
theorem dX6_compared_59 : decode cX6_compared 59 = .ok (.istore_n 3, 1) := dk_62 (dk_at dksX6_compared_2 12 rfl rfl)
theorem dX6_compared_60 : decode cX6_compared 60 = .ok (.iload_n 2, 1) := dk_28 (dk_at dksX6_compared_2 13 rfl rfl)
theorem dX6_compared_61 : decode cX6_compared 61 = .ok (.bipush 60, 2) := dk_16 60 (dk_at dksX6_compared_2 14 rfl rfl)
theorem dX6_compared_63 : decode cX6_compared 63 = .ok (.if_icmp .ne 16, 3) := dk_160 0 16 (dk_at dksX6_compared_2 16 rfl rfl)
theorem dX6_compared_66 : decode cX6_compared 66 = .ok (.iload_n 1, 1) := dk_27 (dk_at dksX6_compared_2 19 rfl rfl)
theorem dX6_compared_67 : decode cX6_compared 67 = .ok (.iload_n 3, 1) := dk_29 (dk_at dksX6_compared_2 20 rfl rfl)
theorem dX6_compared_68 : decode cX6_compared 68 = .ok (.if_icmp .ge 7, 3) := dk_162 0 7 (dk_at dksX6_compared_2 21 rfl rfl)
theorem dX6_compared_71 : decode cX6_compared 71 = .ok (.iconst 1, 1) := dk_4 (dk_at dksX6_compared_3 0 rfl rfl)
theorem dX6_compared_72 : decode cX6_compared 72 = .ok (.goto 36, 3) := dk_167 0 36 (dk_at dksX6_compared_3 1 rfl rfl)
theorem dX6_compared_75 : decode cX6_compared 75 = .ok (.iconst 0, 1) := dk_3 (dk_at dksX6_compared_3 4 rfl rfl)
theorem dX6_compared_76 : decode cX6_compared 76 = .ok (.goto 32, 3) := dk_167 0 32 (dk_at dksX6_compared_3 5 rfl rfl)
theorem dX6_compared_79 : decode cX6_compared 79 = .ok (.iload_n 2, 1) := dk_28 (dk_at dksX6_compared_3 8 rfl rfl)
theorem dX6_compared_80 : decode cX6_compared 80 = .ok (.bipush 61, 2) := dk_16 61 (dk_at dksX6_compared_3 9 rfl rfl)
theorem dX6_compared_82 : decode cX6_compared 82 = .ok (.if_icmp .ne 16, 3) := dk_160 0 16 (dk_at dksX6_compared_3 11 rfl rfl)
theorem dX6_compared_85 : decode cX6_compared 85 = .ok (.iload_n 1, 1) := dk_27 (dk_at dksX6_compared_3 14 rfl rfl)
theorem dX6_compared_86 : decode cX6_compared 86 = .ok (.iload_n 3, 1) := dk_29 (dk_at dksX6_compared_3 15 rfl rfl)
theorem dX6_compared_87 : decode cX6_compared 87 = .ok (.if_icmp .ne 7, 3) := dk_160 0 7 (dk_at dksX6_compared_3 16 rfl rfl)
theorem dX6_compared_90 : decode cX6_compared 90 = .ok (.iconst 1, 1) := dk_4 (dk_at dksX6_compared_3 19 rfl rfl)
theorem dX6_compared_91 : decode cX6_compared 91 = .ok (.goto 17, 3) := dk_167 0 17 (dk_at dksX6_compared_3 20 rfl rfl)
theorem dX6_compared_94 : decode cX6_compared 94 = .ok (.iconst 0, 1) := dk_3 (dk_at dksX6_compared_3 23 rfl rfl)
theorem dX6_compared_95 : decode cX6_compared 95 = .ok (.goto 13, 3) := dk_167 0 13 (dk_at dksX6_compared_4 0 rfl rfl)
theorem dX6_compared_98 : decode cX6_compared 98 = .ok (.iload_n 1, 1) := dk_27 (dk_at dksX6_compared_4 3 rfl rfl)
theorem dX6_compared_99 : decode cX6_compared 99 = .ok (.iload_n 3, 1) := dk_29 (dk_at dksX6_compared_4 4 rfl rfl)
theorem dX6_compared_100 : decode cX6_compared 100 = .ok (.if_icmp .le 7, 3) := dk_164 0 7 (dk_at dksX6_compared_4 5 rfl rfl)
theorem dX6_compared_103 : decode cX6_compared 103 = .ok (.iconst 1, 1) := dk_4 (dk_at dksX6_compared_4 8 rfl rfl)
theorem dX6_compared_104 : decode cX6_compared 104 = .ok (.goto 4, 3) := dk_167 0 4 (dk_at dksX6_compared_4 9 rfl rfl)
theorem dX6_compared_107 : decode cX6_compared 107 = .ok (.iconst 0, 1) := dk_3 (dk_at dksX6_compared_4 12 rfl rfl)
theorem dX6_compared_108 : decode cX6_compared 108 = .ok (.istore 4, 2) := dk_54 4 (dk_at dksX6_compared_4 13 rfl rfl)
theorem dX6_compared_110 : decode cX6_compared 110 = .ok (.iload 4, 2) := dk_21 4 (dk_at dksX6_compared_4 15 rfl rfl)
theorem dX6_compared_112 : decode cX6_compared 112 = .ok (.ifCond .eq 7, 3) := dk_153 0 7 (dk_at dksX6_compared_4 17 rfl rfl)
theorem dX6_compared_115 : decode cX6_compared 115 = .ok (.iconst 1, 1) := dk_4 (dk_at dksX6_compared_4 20 rfl rfl)
theorem dX6_compared_116 : decode cX6_compared 116 = .ok (.goto 4, 3) := dk_167 0 4 (dk_at dksX6_compared_4 21 rfl rfl)
theorem dX6_compared_119 : decode cX6_compared 119 = .ok (.iconst 0, 1) := dk_3 (dk_at dksX6_compared_5 0 rfl rfl)
theorem dX6_compared_120 : decode cX6_compared 120 = .ok (.ireturn, 1) := dk_172 (dk_at dksX6_compared_5 1 rfl rfl)
abbrev cX6_sum : ByteArray := prog_30_method_35_code
def yX6_sum : MethodName := ⟨RX6, "sum", "()I"⟩
def dkwX6_sum_3 : List UInt8 := [96, 167, 0, 6, 27, 29, 100, 60, 167, 255, 183, 27, 172]
abbrev dktX6_sum_3 : List UInt8 := dkwX6_sum_3 ++ []
def dkwX6_sum_2 : List UInt8 := [61, 42, 89, 180, 0, 121, 4, 96, 181, 0, 121, 42, 182, 0, 158, 62, 28, 16, 43, 160, 0, 9, 27, 29]
abbrev dktX6_sum_2 : List UInt8 := dkwX6_sum_2 ++ dktX6_sum_3
def dkwX6_sum_1 : List UInt8 := [159, 0, 16, 42, 42, 180, 0, 121, 182, 0, 124, 16, 45, 160, 0, 46, 42, 42, 180, 0, 121, 182, 0, 124]
abbrev dktX6_sum_1 : List UInt8 := dkwX6_sum_1 ++ dktX6_sum_2
def dkwX6_sum_0 : List UInt8 := [42, 182, 0, 158, 60, 42, 180, 0, 117, 153, 0, 72, 42, 42, 180, 0, 121, 182, 0, 124, 16, 43]
abbrev dktX6_sum_0 : List UInt8 := dkwX6_sum_0 ++ dktX6_sum_1
theorem dksX6_sum_0 : cX6_sum.data.toList.drop 0 = dktX6_sum_0 := by decide +kernel
theorem dksX6_sum_1 : cX6_sum.data.toList.drop 22 = dktX6_sum_1 := dk_seg dksX6_sum_0 22 rfl rfl
theorem dksX6_sum_2 : cX6_sum.data.toList.drop 46 = dktX6_sum_2 := dk_seg dksX6_sum_1 24 rfl rfl
theorem dksX6_sum_3 : cX6_sum.data.toList.drop 70 = dktX6_sum_3 := dk_seg dksX6_sum_2 24 rfl rfl
theorem dX6_sum_0 : decode cX6_sum 0 = .ok (.aload_n 0, 1) := dk_42 (dk_at dksX6_sum_0 0 rfl rfl)
theorem dX6_sum_1 : decode cX6_sum 1 = .ok (.invokevirtual 158, 3) := dk_182 0 158 (dk_at dksX6_sum_0 1 rfl rfl)
theorem dX6_sum_4 : decode cX6_sum 4 = .ok (.istore_n 1, 1) := dk_60 (dk_at dksX6_sum_0 4 rfl rfl)
theorem dX6_sum_5 : decode cX6_sum 5 = .ok (.aload_n 0, 1) := dk_42 (dk_at dksX6_sum_0 5 rfl rfl)
theorem dX6_sum_6 : decode cX6_sum 6 = .ok (.getfield 117, 3) := dk_180 0 117 (dk_at dksX6_sum_0 6 rfl rfl)
theorem dX6_sum_9 : decode cX6_sum 9 = .ok (.ifCond .eq 72, 3) := dk_153 0 72 (dk_at dksX6_sum_0 9 rfl rfl)
theorem dX6_sum_12 : decode cX6_sum 12 = .ok (.aload_n 0, 1) := dk_42 (dk_at dksX6_sum_0 12 rfl rfl)
theorem dX6_sum_13 : decode cX6_sum 13 = .ok (.aload_n 0, 1) := dk_42 (dk_at dksX6_sum_0 13 rfl rfl)
theorem dX6_sum_14 : decode cX6_sum 14 = .ok (.getfield 121, 3) := dk_180 0 121 (dk_at dksX6_sum_0 14 rfl rfl)
theorem dX6_sum_17 : decode cX6_sum 17 = .ok (.invokevirtual 124, 3) := dk_182 0 124 (dk_at dksX6_sum_0 17 rfl rfl)
theorem dX6_sum_20 : decode cX6_sum 20 = .ok (.bipush 43, 2) := dk_16 43 (dk_at dksX6_sum_0 20 rfl rfl)
theorem dX6_sum_22 : decode cX6_sum 22 = .ok (.if_icmp .eq 16, 3) := dk_159 0 16 (dk_at dksX6_sum_1 0 rfl rfl)
theorem dX6_sum_25 : decode cX6_sum 25 = .ok (.aload_n 0, 1) := dk_42 (dk_at dksX6_sum_1 3 rfl rfl)
theorem dX6_sum_26 : decode cX6_sum 26 = .ok (.aload_n 0, 1) := dk_42 (dk_at dksX6_sum_1 4 rfl rfl)
theorem dX6_sum_27 : decode cX6_sum 27 = .ok (.getfield 121, 3) := dk_180 0 121 (dk_at dksX6_sum_1 5 rfl rfl)
theorem dX6_sum_30 : decode cX6_sum 30 = .ok (.invokevirtual 124, 3) := dk_182 0 124 (dk_at dksX6_sum_1 8 rfl rfl)
theorem dX6_sum_33 : decode cX6_sum 33 = .ok (.bipush 45, 2) := dk_16 45 (dk_at dksX6_sum_1 11 rfl rfl)
theorem dX6_sum_35 : decode cX6_sum 35 = .ok (.if_icmp .ne 46, 3) := dk_160 0 46 (dk_at dksX6_sum_1 13 rfl rfl)
theorem dX6_sum_38 : decode cX6_sum 38 = .ok (.aload_n 0, 1) := dk_42 (dk_at dksX6_sum_1 16 rfl rfl)
theorem dX6_sum_39 : decode cX6_sum 39 = .ok (.aload_n 0, 1) := dk_42 (dk_at dksX6_sum_1 17 rfl rfl)
theorem dX6_sum_40 : decode cX6_sum 40 = .ok (.getfield 121, 3) := dk_180 0 121 (dk_at dksX6_sum_1 18 rfl rfl)
theorem dX6_sum_43 : decode cX6_sum 43 = .ok (.invokevirtual 124, 3) := dk_182 0 124 (dk_at dksX6_sum_1 21 rfl rfl)
theorem dX6_sum_46 : decode cX6_sum 46 = .ok (.istore_n 2, 1) := dk_61 (dk_at dksX6_sum_2 0 rfl rfl)
theorem dX6_sum_47 : decode cX6_sum 47 = .ok (.aload_n 0, 1) := dk_42 (dk_at dksX6_sum_2 1 rfl rfl)
theorem dX6_sum_48 : decode cX6_sum 48 = .ok (.dup, 1) := dk_89 (dk_at dksX6_sum_2 2 rfl rfl)
theorem dX6_sum_49 : decode cX6_sum 49 = .ok (.getfield 121, 3) := dk_180 0 121 (dk_at dksX6_sum_2 3 rfl rfl)
theorem dX6_sum_52 : decode cX6_sum 52 = .ok (.iconst 1, 1) := dk_4 (dk_at dksX6_sum_2 6 rfl rfl)
theorem dX6_sum_53 : decode cX6_sum 53 = .ok (.iadd, 1) := dk_96 (dk_at dksX6_sum_2 7 rfl rfl)
theorem dX6_sum_54 : decode cX6_sum 54 = .ok (.putfield 121, 3) := dk_181 0 121 (dk_at dksX6_sum_2 8 rfl rfl)
theorem dX6_sum_57 : decode cX6_sum 57 = .ok (.aload_n 0, 1) := dk_42 (dk_at dksX6_sum_2 11 rfl rfl)
theorem dX6_sum_58 : decode cX6_sum 58 = .ok (.invokevirtual 158, 3) := dk_182 0 158 (dk_at dksX6_sum_2 12 rfl rfl)
theorem dX6_sum_61 : decode cX6_sum 61 = .ok (.istore_n 3, 1) := dk_62 (dk_at dksX6_sum_2 15 rfl rfl)
theorem dX6_sum_62 : decode cX6_sum 62 = .ok (.iload_n 2, 1) := dk_28 (dk_at dksX6_sum_2 16 rfl rfl)
theorem dX6_sum_63 : decode cX6_sum 63 = .ok (.bipush 43, 2) := dk_16 43 (dk_at dksX6_sum_2 17 rfl rfl)
theorem dX6_sum_65 : decode cX6_sum 65 = .ok (.if_icmp .ne 9, 3) := dk_160 0 9 (dk_at dksX6_sum_2 19 rfl rfl)
theorem dX6_sum_68 : decode cX6_sum 68 = .ok (.iload_n 1, 1) := dk_27 (dk_at dksX6_sum_2 22 rfl rfl)
theorem dX6_sum_69 : decode cX6_sum 69 = .ok (.iload_n 3, 1) := dk_29 (dk_at dksX6_sum_2 23 rfl rfl)
theorem dX6_sum_70 : decode cX6_sum 70 = .ok (.iadd, 1) := dk_96 (dk_at dksX6_sum_3 0 rfl rfl)
theorem dX6_sum_71 : decode cX6_sum 71 = .ok (.goto 6, 3) := dk_167 0 6 (dk_at dksX6_sum_3 1 rfl rfl)
theorem dX6_sum_74 : decode cX6_sum 74 = .ok (.iload_n 1, 1) := dk_27 (dk_at dksX6_sum_3 4 rfl rfl)
theorem dX6_sum_75 : decode cX6_sum 75 = .ok (.iload_n 3, 1) := dk_29 (dk_at dksX6_sum_3 5 rfl rfl)
theorem dX6_sum_76 : decode cX6_sum 76 = .ok (.isub, 1) := dk_100 (dk_at dksX6_sum_3 6 rfl rfl)
theorem dX6_sum_77 : decode cX6_sum 77 = .ok (.istore_n 1, 1) := dk_60 (dk_at dksX6_sum_3 7 rfl rfl)
theorem dX6_sum_78 : decode cX6_sum 78 = .ok (.goto (-73), 3) := dk_167 255 183 (dk_at dksX6_sum_3 8 rfl rfl)
theorem dX6_sum_81 : decode cX6_sum 81 = .ok (.iload_n 1, 1) := dk_27 (dk_at dksX6_sum_3 11 rfl rfl)
theorem dX6_sum_82 : decode cX6_sum 82 = .ok (.ireturn, 1) := dk_172 (dk_at dksX6_sum_3 12 rfl rfl)
abbrev cX6_product : ByteArray := prog_30_method_34_code
def yX6_product : MethodName := ⟨RX6, "product", "()I"⟩
def dkwX6_product_4 : List UInt8 := [167, 0, 18, 28, 16, 47, 160, 0, 9, 27, 29, 108, 167, 0, 6, 27, 29, 112, 60, 167, 255, 150, 27, 172]
abbrev dktX6_product_4 : List UInt8 := dkwX6_product_4 ++ []
def dkwX6_product_3 : List UInt8 := [42, 182, 0, 152, 62, 28, 16, 42, 160, 0, 9, 27, 29, 104, 167, 0, 26, 29, 154, 0, 7, 3]
abbrev dktX6_product_3 : List UInt8 := dkwX6_product_3 ++ dktX6_product_4
def dkwX6_product_2 : List UInt8 := [16, 37, 160, 0, 66, 42, 42, 180, 0, 121, 182, 0, 124, 61, 42, 89, 180, 0, 121, 4, 96, 181, 0, 121]
abbrev dktX6_product_2 : List UInt8 := dkwX6_product_2 ++ dktX6_product_3
def dkwX6_product_1 : List UInt8 := [159, 0, 29, 42, 42, 180, 0, 121, 182, 0, 124, 16, 47, 159, 0, 16, 42, 42, 180, 0, 121, 182, 0, 124]
abbrev dktX6_product_1 : List UInt8 := dkwX6_product_1 ++ dktX6_product_2
def dkwX6_product_0 : List UInt8 := [42, 182, 0, 152, 60, 42, 180, 0, 117, 153, 0, 105, 42, 42, 180, 0, 121, 182, 0, 124, 16, 42]
abbrev dktX6_product_0 : List UInt8 := dkwX6_product_0 ++ dktX6_product_1
theorem dksX6_product_0 : cX6_product.data.toList.drop 0 = dktX6_product_0 := by decide +kernel
theorem dksX6_product_1 : cX6_product.data.toList.drop 22 = dktX6_product_1 := dk_seg dksX6_product_0 22 rfl rfl
theorem dksX6_product_2 : cX6_product.data.toList.drop 46 = dktX6_product_2 := dk_seg dksX6_product_1 24 rfl rfl
theorem dksX6_product_3 : cX6_product.data.toList.drop 70 = dktX6_product_3 := dk_seg dksX6_product_2 24 rfl rfl
theorem dksX6_product_4 : cX6_product.data.toList.drop 92 = dktX6_product_4 := dk_seg dksX6_product_3 22 rfl rfl
theorem dX6_product_0 : decode cX6_product 0 = .ok (.aload_n 0, 1) := dk_42 (dk_at dksX6_product_0 0 rfl rfl)
theorem dX6_product_1 : decode cX6_product 1 = .ok (.invokevirtual 152, 3) := dk_182 0 152 (dk_at dksX6_product_0 1 rfl rfl)
theorem dX6_product_4 : decode cX6_product 4 = .ok (.istore_n 1, 1) := dk_60 (dk_at dksX6_product_0 4 rfl rfl)
theorem dX6_product_5 : decode cX6_product 5 = .ok (.aload_n 0, 1) := dk_42 (dk_at dksX6_product_0 5 rfl rfl)
theorem dX6_product_6 : decode cX6_product 6 = .ok (.getfield 117, 3) := dk_180 0 117 (dk_at dksX6_product_0 6 rfl rfl)
theorem dX6_product_9 : decode cX6_product 9 = .ok (.ifCond .eq 105, 3) := dk_153 0 105 (dk_at dksX6_product_0 9 rfl rfl)
theorem dX6_product_12 : decode cX6_product 12 = .ok (.aload_n 0, 1) := dk_42 (dk_at dksX6_product_0 12 rfl rfl)
theorem dX6_product_13 : decode cX6_product 13 = .ok (.aload_n 0, 1) := dk_42 (dk_at dksX6_product_0 13 rfl rfl)
theorem dX6_product_14 : decode cX6_product 14 = .ok (.getfield 121, 3) := dk_180 0 121 (dk_at dksX6_product_0 14 rfl rfl)
theorem dX6_product_17 : decode cX6_product 17 = .ok (.invokevirtual 124, 3) := dk_182 0 124 (dk_at dksX6_product_0 17 rfl rfl)
theorem dX6_product_20 : decode cX6_product 20 = .ok (.bipush 42, 2) := dk_16 42 (dk_at dksX6_product_0 20 rfl rfl)
theorem dX6_product_22 : decode cX6_product 22 = .ok (.if_icmp .eq 29, 3) := dk_159 0 29 (dk_at dksX6_product_1 0 rfl rfl)
theorem dX6_product_25 : decode cX6_product 25 = .ok (.aload_n 0, 1) := dk_42 (dk_at dksX6_product_1 3 rfl rfl)
theorem dX6_product_26 : decode cX6_product 26 = .ok (.aload_n 0, 1) := dk_42 (dk_at dksX6_product_1 4 rfl rfl)
theorem dX6_product_27 : decode cX6_product 27 = .ok (.getfield 121, 3) := dk_180 0 121 (dk_at dksX6_product_1 5 rfl rfl)
theorem dX6_product_30 : decode cX6_product 30 = .ok (.invokevirtual 124, 3) := dk_182 0 124 (dk_at dksX6_product_1 8 rfl rfl)
theorem dX6_product_33 : decode cX6_product 33 = .ok (.bipush 47, 2) := dk_16 47 (dk_at dksX6_product_1 11 rfl rfl)
theorem dX6_product_35 : decode cX6_product 35 = .ok (.if_icmp .eq 16, 3) := dk_159 0 16 (dk_at dksX6_product_1 13 rfl rfl)
theorem dX6_product_38 : decode cX6_product 38 = .ok (.aload_n 0, 1) := dk_42 (dk_at dksX6_product_1 16 rfl rfl)
theorem dX6_product_39 : decode cX6_product 39 = .ok (.aload_n 0, 1) := dk_42 (dk_at dksX6_product_1 17 rfl rfl)
theorem dX6_product_40 : decode cX6_product 40 = .ok (.getfield 121, 3) := dk_180 0 121 (dk_at dksX6_product_1 18 rfl rfl)
theorem dX6_product_43 : decode cX6_product 43 = .ok (.invokevirtual 124, 3) := dk_182 0 124 (dk_at dksX6_product_1 21 rfl rfl)
theorem dX6_product_46 : decode cX6_product 46 = .ok (.bipush 37, 2) := dk_16 37 (dk_at dksX6_product_2 0 rfl rfl)
theorem dX6_product_48 : decode cX6_product 48 = .ok (.if_icmp .ne 66, 3) := dk_160 0 66 (dk_at dksX6_product_2 2 rfl rfl)
theorem dX6_product_51 : decode cX6_product 51 = .ok (.aload_n 0, 1) := dk_42 (dk_at dksX6_product_2 5 rfl rfl)
theorem dX6_product_52 : decode cX6_product 52 = .ok (.aload_n 0, 1) := dk_42 (dk_at dksX6_product_2 6 rfl rfl)
theorem dX6_product_53 : decode cX6_product 53 = .ok (.getfield 121, 3) := dk_180 0 121 (dk_at dksX6_product_2 7 rfl rfl)
theorem dX6_product_56 : decode cX6_product 56 = .ok (.invokevirtual 124, 3) := dk_182 0 124 (dk_at dksX6_product_2 10 rfl rfl)
theorem dX6_product_59 : decode cX6_product 59 = .ok (.istore_n 2, 1) := dk_61 (dk_at dksX6_product_2 13 rfl rfl)
theorem dX6_product_60 : decode cX6_product 60 = .ok (.aload_n 0, 1) := dk_42 (dk_at dksX6_product_2 14 rfl rfl)
theorem dX6_product_61 : decode cX6_product 61 = .ok (.dup, 1) := dk_89 (dk_at dksX6_product_2 15 rfl rfl)
theorem dX6_product_62 : decode cX6_product 62 = .ok (.getfield 121, 3) := dk_180 0 121 (dk_at dksX6_product_2 16 rfl rfl)
theorem dX6_product_65 : decode cX6_product 65 = .ok (.iconst 1, 1) := dk_4 (dk_at dksX6_product_2 19 rfl rfl)
theorem dX6_product_66 : decode cX6_product 66 = .ok (.iadd, 1) := dk_96 (dk_at dksX6_product_2 20 rfl rfl)
theorem dX6_product_67 : decode cX6_product 67 = .ok (.putfield 121, 3) := dk_181 0 121 (dk_at dksX6_product_2 21 rfl rfl)
theorem dX6_product_70 : decode cX6_product 70 = .ok (.aload_n 0, 1) := dk_42 (dk_at dksX6_product_3 0 rfl rfl)
theorem dX6_product_71 : decode cX6_product 71 = .ok (.invokevirtual 152, 3) := dk_182 0 152 (dk_at dksX6_product_3 1 rfl rfl)
theorem dX6_product_74 : decode cX6_product 74 = .ok (.istore_n 3, 1) := dk_62 (dk_at dksX6_product_3 4 rfl rfl)
theorem dX6_product_75 : decode cX6_product 75 = .ok (.iload_n 2, 1) := dk_28 (dk_at dksX6_product_3 5 rfl rfl)
theorem dX6_product_76 : decode cX6_product 76 = .ok (.bipush 42, 2) := dk_16 42 (dk_at dksX6_product_3 6 rfl rfl)
theorem dX6_product_78 : decode cX6_product 78 = .ok (.if_icmp .ne 9, 3) := dk_160 0 9 (dk_at dksX6_product_3 8 rfl rfl)
theorem dX6_product_81 : decode cX6_product 81 = .ok (.iload_n 1, 1) := dk_27 (dk_at dksX6_product_3 11 rfl rfl)
theorem dX6_product_82 : decode cX6_product 82 = .ok (.iload_n 3, 1) := dk_29 (dk_at dksX6_product_3 12 rfl rfl)
theorem dX6_product_83 : decode cX6_product 83 = .ok (.imul, 1) := dk_104 (dk_at dksX6_product_3 13 rfl rfl)
theorem dX6_product_84 : decode cX6_product 84 = .ok (.goto 26, 3) := dk_167 0 26 (dk_at dksX6_product_3 14 rfl rfl)
theorem dX6_product_87 : decode cX6_product 87 = .ok (.iload_n 3, 1) := dk_29 (dk_at dksX6_product_3 17 rfl rfl)
theorem dX6_product_88 : decode cX6_product 88 = .ok (.ifCond .ne 7, 3) := dk_154 0 7 (dk_at dksX6_product_3 18 rfl rfl)
theorem dX6_product_91 : decode cX6_product 91 = .ok (.iconst 0, 1) := dk_3 (dk_at dksX6_product_3 21 rfl rfl)
theorem dX6_product_92 : decode cX6_product 92 = .ok (.goto 18, 3) := dk_167 0 18 (dk_at dksX6_product_4 0 rfl rfl)
theorem dX6_product_95 : decode cX6_product 95 = .ok (.iload_n 2, 1) := dk_28 (dk_at dksX6_product_4 3 rfl rfl)
theorem dX6_product_96 : decode cX6_product 96 = .ok (.bipush 47, 2) := dk_16 47 (dk_at dksX6_product_4 4 rfl rfl)
theorem dX6_product_98 : decode cX6_product 98 = .ok (.if_icmp .ne 9, 3) := dk_160 0 9 (dk_at dksX6_product_4 6 rfl rfl)
theorem dX6_product_101 : decode cX6_product 101 = .ok (.iload_n 1, 1) := dk_27 (dk_at dksX6_product_4 9 rfl rfl)
theorem dX6_product_102 : decode cX6_product 102 = .ok (.iload_n 3, 1) := dk_29 (dk_at dksX6_product_4 10 rfl rfl)
theorem dX6_product_103 : decode cX6_product 103 = .ok (.idiv, 1) := dk_108 (dk_at dksX6_product_4 11 rfl rfl)
theorem dX6_product_104 : decode cX6_product 104 = .ok (.goto 6, 3) := dk_167 0 6 (dk_at dksX6_product_4 12 rfl rfl)
theorem dX6_product_107 : decode cX6_product 107 = .ok (.iload_n 1, 1) := dk_27 (dk_at dksX6_product_4 15 rfl rfl)
theorem dX6_product_108 : decode cX6_product 108 = .ok (.iload_n 3, 1) := dk_29 (dk_at dksX6_product_4 16 rfl rfl)
theorem dX6_product_109 : decode cX6_product 109 = .ok (.irem, 1) := dk_112 (dk_at dksX6_product_4 17 rfl rfl)
theorem dX6_product_110 : decode cX6_product 110 = .ok (.istore_n 1, 1) := dk_60 (dk_at dksX6_product_4 18 rfl rfl)
theorem dX6_product_111 : decode cX6_product 111 = .ok (.goto (-106), 3) := dk_167 255 150 (dk_at dksX6_product_4 19 rfl rfl)
theorem dX6_product_114 : decode cX6_product 114 = .ok (.iload_n 1, 1) := dk_27 (dk_at dksX6_product_4 22 rfl rfl)
theorem dX6_product_115 : decode cX6_product 115 = .ok (.ireturn, 1) := dk_172 (dk_at dksX6_product_4 23 rfl rfl)
abbrev cX6_factor : ByteArray := prog_30_method_33_code
def yX6_factor : MethodName := ⟨RX6, "factor", "()I"⟩
def dkwX6_factor_6 : List UInt8 := [181, 0, 121, 28, 172, 42, 182, 0, 130, 172]
abbrev dktX6_factor_6 : List UInt8 := dkwX6_factor_6 ++ []
def dkwX6_factor_5 : List UInt8 := [153, 0, 28, 42, 42, 180, 0, 121, 182, 0, 124, 16, 41, 160, 0, 15, 42, 89, 180, 0, 121, 4, 96]
abbrev dktX6_factor_5 : List UInt8 := dkwX6_factor_5 ++ dktX6_factor_6
def dkwX6_factor_4 : List UInt8 := [100, 181, 0, 149, 27, 16, 33, 160, 0, 13, 28, 154, 0, 7, 4, 167, 0, 4, 3, 172, 42, 180, 0, 117]
abbrev dktX6_factor_4 : List UInt8 := dkwX6_factor_4 ++ dktX6_factor_5
def dkwX6_factor_3 : List UInt8 := [27, 16, 33, 160, 0, 10, 42, 182, 0, 152, 167, 0, 7, 42, 182, 0, 155, 61, 42, 89, 180, 0, 149, 4]
abbrev dktX6_factor_3 : List UInt8 := dkwX6_factor_3 ++ dktX6_factor_4
def dkwX6_factor_2 : List UInt8 := [182, 0, 130, 172, 42, 89, 180, 0, 149, 4, 96, 181, 0, 149, 42, 89, 180, 0, 121, 4, 96, 181, 0, 121]
abbrev dktX6_factor_2 : List UInt8 := dkwX6_factor_2 ++ dktX6_factor_3
def dkwX6_factor_1 : List UInt8 := [159, 0, 15, 27, 16, 40, 159, 0, 9, 42, 27, 182, 0, 146, 172, 42, 180, 0, 149, 8, 160, 0, 8, 42]
abbrev dktX6_factor_1 : List UInt8 := dkwX6_factor_1 ++ dktX6_factor_2
def dkwX6_factor_0 : List UInt8 := [42, 42, 180, 0, 121, 182, 0, 124, 60, 27, 184, 0, 127, 153, 0, 8, 42, 182, 0, 143, 172, 27, 16, 33]
abbrev dktX6_factor_0 : List UInt8 := dkwX6_factor_0 ++ dktX6_factor_1
theorem dksX6_factor_0 : cX6_factor.data.toList.drop 0 = dktX6_factor_0 := by decide +kernel
theorem dksX6_factor_1 : cX6_factor.data.toList.drop 24 = dktX6_factor_1 := dk_seg dksX6_factor_0 24 rfl rfl
theorem dksX6_factor_2 : cX6_factor.data.toList.drop 48 = dktX6_factor_2 := dk_seg dksX6_factor_1 24 rfl rfl
theorem dksX6_factor_3 : cX6_factor.data.toList.drop 72 = dktX6_factor_3 := dk_seg dksX6_factor_2 24 rfl rfl
theorem dksX6_factor_4 : cX6_factor.data.toList.drop 96 = dktX6_factor_4 := dk_seg dksX6_factor_3 24 rfl rfl
theorem dksX6_factor_5 : cX6_factor.data.toList.drop 120 = dktX6_factor_5 := dk_seg dksX6_factor_4 24 rfl rfl
theorem dksX6_factor_6 : cX6_factor.data.toList.drop 143 = dktX6_factor_6 := dk_seg dksX6_factor_5 23 rfl rfl
theorem dX6_factor_0 : decode cX6_factor 0 = .ok (.aload_n 0, 1) := dk_42 (dk_at dksX6_factor_0 0 rfl rfl)
theorem dX6_factor_1 : decode cX6_factor 1 = .ok (.aload_n 0, 1) := dk_42 (dk_at dksX6_factor_0 1 rfl rfl)
theorem dX6_factor_2 : decode cX6_factor 2 = .ok (.getfield 121, 3) := dk_180 0 121 (dk_at dksX6_factor_0 2 rfl rfl)
theorem dX6_factor_5 : decode cX6_factor 5 = .ok (.invokevirtual 124, 3) := dk_182 0 124 (dk_at dksX6_factor_0 5 rfl rfl)
theorem dX6_factor_8 : decode cX6_factor 8 = .ok (.istore_n 1, 1) := dk_60 (dk_at dksX6_factor_0 8 rfl rfl)
theorem dX6_factor_9 : decode cX6_factor 9 = .ok (.iload_n 1, 1) := dk_27 (dk_at dksX6_factor_0 9 rfl rfl)
theorem dX6_factor_10 : decode cX6_factor 10 = .ok (.invokestatic 127, 3) := dk_184 0 127 (dk_at dksX6_factor_0 10 rfl rfl)
theorem dX6_factor_13 : decode cX6_factor 13 = .ok (.ifCond .eq 8, 3) := dk_153 0 8 (dk_at dksX6_factor_0 13 rfl rfl)
theorem dX6_factor_16 : decode cX6_factor 16 = .ok (.aload_n 0, 1) := dk_42 (dk_at dksX6_factor_0 16 rfl rfl)
theorem dX6_factor_17 : decode cX6_factor 17 = .ok (.invokevirtual 143, 3) := dk_182 0 143 (dk_at dksX6_factor_0 17 rfl rfl)
theorem dX6_factor_20 : decode cX6_factor 20 = .ok (.ireturn, 1) := dk_172 (dk_at dksX6_factor_0 20 rfl rfl)
theorem dX6_factor_21 : decode cX6_factor 21 = .ok (.iload_n 1, 1) := dk_27 (dk_at dksX6_factor_0 21 rfl rfl)
theorem dX6_factor_22 : decode cX6_factor 22 = .ok (.bipush 33, 2) := dk_16 33 (dk_at dksX6_factor_0 22 rfl rfl)
theorem dX6_factor_24 : decode cX6_factor 24 = .ok (.if_icmp .eq 15, 3) := dk_159 0 15 (dk_at dksX6_factor_1 0 rfl rfl)
theorem dX6_factor_27 : decode cX6_factor 27 = .ok (.iload_n 1, 1) := dk_27 (dk_at dksX6_factor_1 3 rfl rfl)
theorem dX6_factor_28 : decode cX6_factor 28 = .ok (.bipush 40, 2) := dk_16 40 (dk_at dksX6_factor_1 4 rfl rfl)
theorem dX6_factor_30 : decode cX6_factor 30 = .ok (.if_icmp .eq 9, 3) := dk_159 0 9 (dk_at dksX6_factor_1 6 rfl rfl)
theorem dX6_factor_33 : decode cX6_factor 33 = .ok (.aload_n 0, 1) := dk_42 (dk_at dksX6_factor_1 9 rfl rfl)
theorem dX6_factor_34 : decode cX6_factor 34 = .ok (.iload_n 1, 1) := dk_27 (dk_at dksX6_factor_1 10 rfl rfl)
theorem dX6_factor_35 : decode cX6_factor 35 = .ok (.invokevirtual 146, 3) := dk_182 0 146 (dk_at dksX6_factor_1 11 rfl rfl)
theorem dX6_factor_38 : decode cX6_factor 38 = .ok (.ireturn, 1) := dk_172 (dk_at dksX6_factor_1 14 rfl rfl)
theorem dX6_factor_39 : decode cX6_factor 39 = .ok (.aload_n 0, 1) := dk_42 (dk_at dksX6_factor_1 15 rfl rfl)
theorem dX6_factor_40 : decode cX6_factor 40 = .ok (.getfield 149, 3) := dk_180 0 149 (dk_at dksX6_factor_1 16 rfl rfl)
theorem dX6_factor_43 : decode cX6_factor 43 = .ok (.iconst 5, 1) := dk_8 (dk_at dksX6_factor_1 19 rfl rfl)
theorem dX6_factor_44 : decode cX6_factor 44 = .ok (.if_icmp .ne 8, 3) := dk_160 0 8 (dk_at dksX6_factor_1 20 rfl rfl)
theorem dX6_factor_47 : decode cX6_factor 47 = .ok (.aload_n 0, 1) := dk_42 (dk_at dksX6_factor_1 23 rfl rfl)
theorem dX6_factor_48 : decode cX6_factor 48 = .ok (.invokevirtual 130, 3) := dk_182 0 130 (dk_at dksX6_factor_2 0 rfl rfl)
theorem dX6_factor_51 : decode cX6_factor 51 = .ok (.ireturn, 1) := dk_172 (dk_at dksX6_factor_2 3 rfl rfl)
theorem dX6_factor_52 : decode cX6_factor 52 = .ok (.aload_n 0, 1) := dk_42 (dk_at dksX6_factor_2 4 rfl rfl)
theorem dX6_factor_53 : decode cX6_factor 53 = .ok (.dup, 1) := dk_89 (dk_at dksX6_factor_2 5 rfl rfl)
theorem dX6_factor_54 : decode cX6_factor 54 = .ok (.getfield 149, 3) := dk_180 0 149 (dk_at dksX6_factor_2 6 rfl rfl)
theorem dX6_factor_57 : decode cX6_factor 57 = .ok (.iconst 1, 1) := dk_4 (dk_at dksX6_factor_2 9 rfl rfl)
theorem dX6_factor_58 : decode cX6_factor 58 = .ok (.iadd, 1) := dk_96 (dk_at dksX6_factor_2 10 rfl rfl)
theorem dX6_factor_59 : decode cX6_factor 59 = .ok (.putfield 149, 3) := dk_181 0 149 (dk_at dksX6_factor_2 11 rfl rfl)
theorem dX6_factor_62 : decode cX6_factor 62 = .ok (.aload_n 0, 1) := dk_42 (dk_at dksX6_factor_2 14 rfl rfl)
theorem dX6_factor_63 : decode cX6_factor 63 = .ok (.dup, 1) := dk_89 (dk_at dksX6_factor_2 15 rfl rfl)
theorem dX6_factor_64 : decode cX6_factor 64 = .ok (.getfield 121, 3) := dk_180 0 121 (dk_at dksX6_factor_2 16 rfl rfl)
theorem dX6_factor_67 : decode cX6_factor 67 = .ok (.iconst 1, 1) := dk_4 (dk_at dksX6_factor_2 19 rfl rfl)
theorem dX6_factor_68 : decode cX6_factor 68 = .ok (.iadd, 1) := dk_96 (dk_at dksX6_factor_2 20 rfl rfl)
theorem dX6_factor_69 : decode cX6_factor 69 = .ok (.putfield 121, 3) := dk_181 0 121 (dk_at dksX6_factor_2 21 rfl rfl)
theorem dX6_factor_72 : decode cX6_factor 72 = .ok (.iload_n 1, 1) := dk_27 (dk_at dksX6_factor_3 0 rfl rfl)
theorem dX6_factor_73 : decode cX6_factor 73 = .ok (.bipush 33, 2) := dk_16 33 (dk_at dksX6_factor_3 1 rfl rfl)
theorem dX6_factor_75 : decode cX6_factor 75 = .ok (.if_icmp .ne 10, 3) := dk_160 0 10 (dk_at dksX6_factor_3 3 rfl rfl)
theorem dX6_factor_78 : decode cX6_factor 78 = .ok (.aload_n 0, 1) := dk_42 (dk_at dksX6_factor_3 6 rfl rfl)
theorem dX6_factor_79 : decode cX6_factor 79 = .ok (.invokevirtual 152, 3) := dk_182 0 152 (dk_at dksX6_factor_3 7 rfl rfl)
theorem dX6_factor_82 : decode cX6_factor 82 = .ok (.goto 7, 3) := dk_167 0 7 (dk_at dksX6_factor_3 10 rfl rfl)
theorem dX6_factor_85 : decode cX6_factor 85 = .ok (.aload_n 0, 1) := dk_42 (dk_at dksX6_factor_3 13 rfl rfl)
theorem dX6_factor_86 : decode cX6_factor 86 = .ok (.invokevirtual 155, 3) := dk_182 0 155 (dk_at dksX6_factor_3 14 rfl rfl)
theorem dX6_factor_89 : decode cX6_factor 89 = .ok (.istore_n 2, 1) := dk_61 (dk_at dksX6_factor_3 17 rfl rfl)
theorem dX6_factor_90 : decode cX6_factor 90 = .ok (.aload_n 0, 1) := dk_42 (dk_at dksX6_factor_3 18 rfl rfl)
theorem dX6_factor_91 : decode cX6_factor 91 = .ok (.dup, 1) := dk_89 (dk_at dksX6_factor_3 19 rfl rfl)
theorem dX6_factor_92 : decode cX6_factor 92 = .ok (.getfield 149, 3) := dk_180 0 149 (dk_at dksX6_factor_3 20 rfl rfl)
theorem dX6_factor_95 : decode cX6_factor 95 = .ok (.iconst 1, 1) := dk_4 (dk_at dksX6_factor_3 23 rfl rfl)
theorem dX6_factor_96 : decode cX6_factor 96 = .ok (.isub, 1) := dk_100 (dk_at dksX6_factor_4 0 rfl rfl)
theorem dX6_factor_97 : decode cX6_factor 97 = .ok (.putfield 149, 3) := dk_181 0 149 (dk_at dksX6_factor_4 1 rfl rfl)
theorem dX6_factor_100 : decode cX6_factor 100 = .ok (.iload_n 1, 1) := dk_27 (dk_at dksX6_factor_4 4 rfl rfl)
theorem dX6_factor_101 : decode cX6_factor 101 = .ok (.bipush 33, 2) := dk_16 33 (dk_at dksX6_factor_4 5 rfl rfl)
theorem dX6_factor_103 : decode cX6_factor 103 = .ok (.if_icmp .ne 13, 3) := dk_160 0 13 (dk_at dksX6_factor_4 7 rfl rfl)
theorem dX6_factor_106 : decode cX6_factor 106 = .ok (.iload_n 2, 1) := dk_28 (dk_at dksX6_factor_4 10 rfl rfl)
theorem dX6_factor_107 : decode cX6_factor 107 = .ok (.ifCond .ne 7, 3) := dk_154 0 7 (dk_at dksX6_factor_4 11 rfl rfl)
theorem dX6_factor_110 : decode cX6_factor 110 = .ok (.iconst 1, 1) := dk_4 (dk_at dksX6_factor_4 14 rfl rfl)
theorem dX6_factor_111 : decode cX6_factor 111 = .ok (.goto 4, 3) := dk_167 0 4 (dk_at dksX6_factor_4 15 rfl rfl)
theorem dX6_factor_114 : decode cX6_factor 114 = .ok (.iconst 0, 1) := dk_3 (dk_at dksX6_factor_4 18 rfl rfl)
theorem dX6_factor_115 : decode cX6_factor 115 = .ok (.ireturn, 1) := dk_172 (dk_at dksX6_factor_4 19 rfl rfl)
theorem dX6_factor_116 : decode cX6_factor 116 = .ok (.aload_n 0, 1) := dk_42 (dk_at dksX6_factor_4 20 rfl rfl)
theorem dX6_factor_117 : decode cX6_factor 117 = .ok (.getfield 117, 3) := dk_180 0 117 (dk_at dksX6_factor_4 21 rfl rfl)
theorem dX6_factor_120 : decode cX6_factor 120 = .ok (.ifCond .eq 28, 3) := dk_153 0 28 (dk_at dksX6_factor_5 0 rfl rfl)
theorem dX6_factor_123 : decode cX6_factor 123 = .ok (.aload_n 0, 1) := dk_42 (dk_at dksX6_factor_5 3 rfl rfl)
theorem dX6_factor_124 : decode cX6_factor 124 = .ok (.aload_n 0, 1) := dk_42 (dk_at dksX6_factor_5 4 rfl rfl)
theorem dX6_factor_125 : decode cX6_factor 125 = .ok (.getfield 121, 3) := dk_180 0 121 (dk_at dksX6_factor_5 5 rfl rfl)
theorem dX6_factor_128 : decode cX6_factor 128 = .ok (.invokevirtual 124, 3) := dk_182 0 124 (dk_at dksX6_factor_5 8 rfl rfl)
theorem dX6_factor_131 : decode cX6_factor 131 = .ok (.bipush 41, 2) := dk_16 41 (dk_at dksX6_factor_5 11 rfl rfl)
theorem dX6_factor_133 : decode cX6_factor 133 = .ok (.if_icmp .ne 15, 3) := dk_160 0 15 (dk_at dksX6_factor_5 13 rfl rfl)
theorem dX6_factor_136 : decode cX6_factor 136 = .ok (.aload_n 0, 1) := dk_42 (dk_at dksX6_factor_5 16 rfl rfl)
theorem dX6_factor_137 : decode cX6_factor 137 = .ok (.dup, 1) := dk_89 (dk_at dksX6_factor_5 17 rfl rfl)
theorem dX6_factor_138 : decode cX6_factor 138 = .ok (.getfield 121, 3) := dk_180 0 121 (dk_at dksX6_factor_5 18 rfl rfl)
theorem dX6_factor_141 : decode cX6_factor 141 = .ok (.iconst 1, 1) := dk_4 (dk_at dksX6_factor_5 21 rfl rfl)
theorem dX6_factor_142 : decode cX6_factor 142 = .ok (.iadd, 1) := dk_96 (dk_at dksX6_factor_5 22 rfl rfl)
theorem dX6_factor_143 : decode cX6_factor 143 = .ok (.putfield 121, 3) := dk_181 0 121 (dk_at dksX6_factor_6 0 rfl rfl)
theorem dX6_factor_146 : decode cX6_factor 146 = .ok (.iload_n 2, 1) := dk_28 (dk_at dksX6_factor_6 3 rfl rfl)
theorem dX6_factor_147 : decode cX6_factor 147 = .ok (.ireturn, 1) := dk_172 (dk_at dksX6_factor_6 4 rfl rfl)
theorem dX6_factor_148 : decode cX6_factor 148 = .ok (.aload_n 0, 1) := dk_42 (dk_at dksX6_factor_6 5 rfl rfl)
theorem dX6_factor_149 : decode cX6_factor 149 = .ok (.invokevirtual 130, 3) := dk_182 0 130 (dk_at dksX6_factor_6 6 rfl rfl)
theorem dX6_factor_152 : decode cX6_factor 152 = .ok (.ireturn, 1) := dk_172 (dk_at dksX6_factor_6 9 rfl rfl)
abbrev cX6_byteAt : ByteArray := prog_30_method_28_code
def yX6_byteAt : MethodName := ⟨RX6, "byteAt", "(I)I"⟩
def dkwX6_byteAt_1 : List UInt8 := [96, 46, 167, 0, 4, 2, 172]
abbrev dktX6_byteAt_1 : List UInt8 := dkwX6_byteAt_1 ++ []
def dkwX6_byteAt_0 : List UInt8 := [27, 42, 180, 0, 110, 162, 0, 24, 42, 180, 0, 7, 17, 0, 198, 16, 50, 42, 180, 0, 114, 104, 96, 27]
abbrev dktX6_byteAt_0 : List UInt8 := dkwX6_byteAt_0 ++ dktX6_byteAt_1
theorem dksX6_byteAt_0 : cX6_byteAt.data.toList.drop 0 = dktX6_byteAt_0 := by decide +kernel
theorem dksX6_byteAt_1 : cX6_byteAt.data.toList.drop 24 = dktX6_byteAt_1 := dk_seg dksX6_byteAt_0 24 rfl rfl
theorem dX6_byteAt_0 : decode cX6_byteAt 0 = .ok (.iload_n 1, 1) := dk_27 (dk_at dksX6_byteAt_0 0 rfl rfl)
theorem dX6_byteAt_1 : decode cX6_byteAt 1 = .ok (.aload_n 0, 1) := dk_42 (dk_at dksX6_byteAt_0 1 rfl rfl)
theorem dX6_byteAt_2 : decode cX6_byteAt 2 = .ok (.getfield 110, 3) := dk_180 0 110 (dk_at dksX6_byteAt_0 2 rfl rfl)
theorem dX6_byteAt_5 : decode cX6_byteAt 5 = .ok (.if_icmp .ge 24, 3) := dk_162 0 24 (dk_at dksX6_byteAt_0 5 rfl rfl)
theorem dX6_byteAt_8 : decode cX6_byteAt 8 = .ok (.aload_n 0, 1) := dk_42 (dk_at dksX6_byteAt_0 8 rfl rfl)
theorem dX6_byteAt_9 : decode cX6_byteAt 9 = .ok (.getfield 7, 3) := dk_180 0 7 (dk_at dksX6_byteAt_0 9 rfl rfl)
theorem dX6_byteAt_12 : decode cX6_byteAt 12 = .ok (.sipush 198, 3) := dk_17 0 198 (dk_at dksX6_byteAt_0 12 rfl rfl)
theorem dX6_byteAt_15 : decode cX6_byteAt 15 = .ok (.bipush 50, 2) := dk_16 50 (dk_at dksX6_byteAt_0 15 rfl rfl)
theorem dX6_byteAt_17 : decode cX6_byteAt 17 = .ok (.aload_n 0, 1) := dk_42 (dk_at dksX6_byteAt_0 17 rfl rfl)
theorem dX6_byteAt_18 : decode cX6_byteAt 18 = .ok (.getfield 114, 3) := dk_180 0 114 (dk_at dksX6_byteAt_0 18 rfl rfl)
theorem dX6_byteAt_21 : decode cX6_byteAt 21 = .ok (.imul, 1) := dk_104 (dk_at dksX6_byteAt_0 21 rfl rfl)
theorem dX6_byteAt_22 : decode cX6_byteAt 22 = .ok (.iadd, 1) := dk_96 (dk_at dksX6_byteAt_0 22 rfl rfl)
theorem dX6_byteAt_23 : decode cX6_byteAt 23 = .ok (.iload_n 1, 1) := dk_27 (dk_at dksX6_byteAt_0 23 rfl rfl)
theorem dX6_byteAt_24 : decode cX6_byteAt 24 = .ok (.iadd, 1) := dk_96 (dk_at dksX6_byteAt_1 0 rfl rfl)
theorem dX6_byteAt_25 : decode cX6_byteAt 25 = .ok (.iaload, 1) := dk_46 (dk_at dksX6_byteAt_1 1 rfl rfl)
theorem dX6_byteAt_26 : decode cX6_byteAt 26 = .ok (.goto 4, 3) := dk_167 0 4 (dk_at dksX6_byteAt_1 2 rfl rfl)
theorem dX6_byteAt_29 : decode cX6_byteAt 29 = .ok (.iconst (-1), 1) := dk_2 (dk_at dksX6_byteAt_1 5 rfl rfl)
theorem dX6_byteAt_30 : decode cX6_byteAt 30 = .ok (.ireturn, 1) := dk_172 (dk_at dksX6_byteAt_1 6 rfl rfl)
abbrev cX6_isDigit : ByteArray := prog_30_method_29_code
def yX6_isDigit : MethodName := ⟨RX6, "isDigit", "(I)Z"⟩
def dkwX6_isDigit_0 : List UInt8 := [26, 16, 48, 16, 57, 184, 0, 53, 172]
abbrev dktX6_isDigit_0 : List UInt8 := dkwX6_isDigit_0 ++ []
theorem dksX6_isDigit_0 : cX6_isDigit.data.toList.drop 0 = dktX6_isDigit_0 := by decide +kernel
theorem dX6_isDigit_0 : decode cX6_isDigit 0 = .ok (.iload_n 0, 1) := dk_26 (dk_at dksX6_isDigit_0 0 rfl rfl)
theorem dX6_isDigit_1 : decode cX6_isDigit 1 = .ok (.bipush 48, 2) := dk_16 48 (dk_at dksX6_isDigit_0 1 rfl rfl)
theorem dX6_isDigit_3 : decode cX6_isDigit 3 = .ok (.bipush 57, 2) := dk_16 57 (dk_at dksX6_isDigit_0 3 rfl rfl)
theorem dX6_isDigit_5 : decode cX6_isDigit 5 = .ok (.invokestatic 53, 3) := dk_184 0 53 (dk_at dksX6_isDigit_0 5 rfl rfl)
theorem dX6_isDigit_8 : decode cX6_isDigit 8 = .ok (.ireturn, 1) := dk_172 (dk_at dksX6_isDigit_0 8 rfl rfl)
abbrev cX6_number : ByteArray := prog_30_method_31_code
def yX6_number : MethodName := ⟨RX6, "number", "()I"⟩
def dkwX6_number_2 : List UInt8 := [181, 0, 121, 132, 2, 1, 167, 255, 207, 27, 172]
abbrev dktX6_number_2 : List UInt8 := dkwX6_number_2 ++ []
def dkwX6_number_1 : List UInt8 := [16, 10, 27, 104, 42, 42, 180, 0, 121, 182, 0, 124, 96, 16, 48, 100, 60, 42, 89, 180, 0, 121, 4, 96]
abbrev dktX6_number_1 : List UInt8 := dkwX6_number_1 ++ dktX6_number_2
def dkwX6_number_0 : List UInt8 := [3, 60, 3, 61, 28, 7, 162, 0, 50, 42, 42, 180, 0, 121, 182, 0, 124, 184, 0, 127, 153, 0, 36]
abbrev dktX6_number_0 : List UInt8 := dkwX6_number_0 ++ dktX6_number_1
theorem dksX6_number_0 : cX6_number.data.toList.drop 0 = dktX6_number_0 := by decide +kernel
theorem dksX6_number_1 : cX6_number.data.toList.drop 23 = dktX6_number_1 := dk_seg dksX6_number_0 23 rfl rfl
theorem dksX6_number_2 : cX6_number.data.toList.drop 47 = dktX6_number_2 := dk_seg dksX6_number_1 24 rfl rfl
theorem dX6_number_0 : decode cX6_number 0 = .ok (.iconst 0, 1) := dk_3 (dk_at dksX6_number_0 0 rfl rfl)
theorem dX6_number_1 : decode cX6_number 1 = .ok (.istore_n 1, 1) := dk_60 (dk_at dksX6_number_0 1 rfl rfl)
theorem dX6_number_2 : decode cX6_number 2 = .ok (.iconst 0, 1) := dk_3 (dk_at dksX6_number_0 2 rfl rfl)
theorem dX6_number_3 : decode cX6_number 3 = .ok (.istore_n 2, 1) := dk_61 (dk_at dksX6_number_0 3 rfl rfl)
theorem dX6_number_4 : decode cX6_number 4 = .ok (.iload_n 2, 1) := dk_28 (dk_at dksX6_number_0 4 rfl rfl)
theorem dX6_number_5 : decode cX6_number 5 = .ok (.iconst 4, 1) := dk_7 (dk_at dksX6_number_0 5 rfl rfl)
theorem dX6_number_6 : decode cX6_number 6 = .ok (.if_icmp .ge 50, 3) := dk_162 0 50 (dk_at dksX6_number_0 6 rfl rfl)
theorem dX6_number_9 : decode cX6_number 9 = .ok (.aload_n 0, 1) := dk_42 (dk_at dksX6_number_0 9 rfl rfl)
theorem dX6_number_10 : decode cX6_number 10 = .ok (.aload_n 0, 1) := dk_42 (dk_at dksX6_number_0 10 rfl rfl)
theorem dX6_number_11 : decode cX6_number 11 = .ok (.getfield 121, 3) := dk_180 0 121 (dk_at dksX6_number_0 11 rfl rfl)
theorem dX6_number_14 : decode cX6_number 14 = .ok (.invokevirtual 124, 3) := dk_182 0 124 (dk_at dksX6_number_0 14 rfl rfl)
theorem dX6_number_17 : decode cX6_number 17 = .ok (.invokestatic 127, 3) := dk_184 0 127 (dk_at dksX6_number_0 17 rfl rfl)
theorem dX6_number_20 : decode cX6_number 20 = .ok (.ifCond .eq 36, 3) := dk_153 0 36 (dk_at dksX6_number_0 20 rfl rfl)
theorem dX6_number_23 : decode cX6_number 23 = .ok (.bipush 10, 2) := dk_16 10 (dk_at dksX6_number_1 0 rfl rfl)
theorem dX6_number_25 : decode cX6_number 25 = .ok (.iload_n 1, 1) := dk_27 (dk_at dksX6_number_1 2 rfl rfl)
theorem dX6_number_26 : decode cX6_number 26 = .ok (.imul, 1) := dk_104 (dk_at dksX6_number_1 3 rfl rfl)
theorem dX6_number_27 : decode cX6_number 27 = .ok (.aload_n 0, 1) := dk_42 (dk_at dksX6_number_1 4 rfl rfl)
theorem dX6_number_28 : decode cX6_number 28 = .ok (.aload_n 0, 1) := dk_42 (dk_at dksX6_number_1 5 rfl rfl)
theorem dX6_number_29 : decode cX6_number 29 = .ok (.getfield 121, 3) := dk_180 0 121 (dk_at dksX6_number_1 6 rfl rfl)
theorem dX6_number_32 : decode cX6_number 32 = .ok (.invokevirtual 124, 3) := dk_182 0 124 (dk_at dksX6_number_1 9 rfl rfl)
theorem dX6_number_35 : decode cX6_number 35 = .ok (.iadd, 1) := dk_96 (dk_at dksX6_number_1 12 rfl rfl)
theorem dX6_number_36 : decode cX6_number 36 = .ok (.bipush 48, 2) := dk_16 48 (dk_at dksX6_number_1 13 rfl rfl)
theorem dX6_number_38 : decode cX6_number 38 = .ok (.isub, 1) := dk_100 (dk_at dksX6_number_1 15 rfl rfl)
theorem dX6_number_39 : decode cX6_number 39 = .ok (.istore_n 1, 1) := dk_60 (dk_at dksX6_number_1 16 rfl rfl)
theorem dX6_number_40 : decode cX6_number 40 = .ok (.aload_n 0, 1) := dk_42 (dk_at dksX6_number_1 17 rfl rfl)
theorem dX6_number_41 : decode cX6_number 41 = .ok (.dup, 1) := dk_89 (dk_at dksX6_number_1 18 rfl rfl)
theorem dX6_number_42 : decode cX6_number 42 = .ok (.getfield 121, 3) := dk_180 0 121 (dk_at dksX6_number_1 19 rfl rfl)
theorem dX6_number_45 : decode cX6_number 45 = .ok (.iconst 1, 1) := dk_4 (dk_at dksX6_number_1 22 rfl rfl)
theorem dX6_number_46 : decode cX6_number 46 = .ok (.iadd, 1) := dk_96 (dk_at dksX6_number_1 23 rfl rfl)
theorem dX6_number_47 : decode cX6_number 47 = .ok (.putfield 121, 3) := dk_181 0 121 (dk_at dksX6_number_2 0 rfl rfl)
theorem dX6_number_50 : decode cX6_number 50 = .ok (.iinc 2 1, 3) := dk_132 2 1 (dk_at dksX6_number_2 3 rfl rfl)
theorem dX6_number_53 : decode cX6_number 53 = .ok (.goto (-49), 3) := dk_167 255 207 (dk_at dksX6_number_2 6 rfl rfl)
theorem dX6_number_56 : decode cX6_number 56 = .ok (.iload_n 1, 1) := dk_27 (dk_at dksX6_number_2 9 rfl rfl)
theorem dX6_number_57 : decode cX6_number 57 = .ok (.ireturn, 1) := dk_172 (dk_at dksX6_number_2 10 rfl rfl)
abbrev cX6_named : ByteArray := prog_30_method_32_code
def yX6_named : MethodName := ⟨RX6, "named", "(I)I"⟩
def dkwX6_named_5 : List UInt8 := [180, 0, 137, 167, 0, 7, 42, 180, 0, 140, 172]
abbrev dktX6_named_5 : List UInt8 := dkwX6_named_5 ++ []
def dkwX6_named_4 : List UInt8 := [180, 0, 121, 4, 96, 181, 0, 121, 28, 153, 0, 10, 42, 180, 0, 134, 167, 0, 18, 29, 153, 0, 10, 42]
abbrev dktX6_named_4 : List UInt8 := dkwX6_named_4 ++ dktX6_named_5
def dkwX6_named_3 : List UInt8 := [54, 4, 28, 154, 0, 17, 29, 154, 0, 13, 21, 4, 154, 0, 8, 42, 182, 0, 130, 172, 42, 89]
abbrev dktX6_named_3 : List UInt8 := dkwX6_named_3 ++ dktX6_named_4
def dkwX6_named_2 : List UInt8 := [27, 42, 180, 0, 114, 154, 0, 8, 16, 100, 167, 0, 5, 16, 110, 160, 0, 7, 4, 167, 0, 4, 3]
abbrev dktX6_named_2 : List UInt8 := dkwX6_named_2 ++ dktX6_named_3
def dkwX6_named_1 : List UInt8 := [27, 42, 180, 0, 114, 154, 0, 8, 16, 107, 167, 0, 5, 16, 97, 160, 0, 7, 4, 167, 0, 4, 3, 62]
abbrev dktX6_named_1 : List UInt8 := dkwX6_named_1 ++ dktX6_named_2
def dkwX6_named_0 : List UInt8 := [27, 42, 180, 0, 114, 154, 0, 8, 16, 103, 167, 0, 5, 16, 107, 160, 0, 7, 4, 167, 0, 4, 3, 61]
abbrev dktX6_named_0 : List UInt8 := dkwX6_named_0 ++ dktX6_named_1
theorem dksX6_named_0 : cX6_named.data.toList.drop 0 = dktX6_named_0 := by decide +kernel
theorem dksX6_named_1 : cX6_named.data.toList.drop 24 = dktX6_named_1 := dk_seg dksX6_named_0 24 rfl rfl
theorem dksX6_named_2 : cX6_named.data.toList.drop 48 = dktX6_named_2 := dk_seg dksX6_named_1 24 rfl rfl
theorem dksX6_named_3 : cX6_named.data.toList.drop 71 = dktX6_named_3 := dk_seg dksX6_named_2 23 rfl rfl
theorem dksX6_named_4 : cX6_named.data.toList.drop 93 = dktX6_named_4 := dk_seg dksX6_named_3 22 rfl rfl
theorem dksX6_named_5 : cX6_named.data.toList.drop 117 = dktX6_named_5 := dk_seg dksX6_named_4 24 rfl rfl
theorem dX6_named_0 : decode cX6_named 0 = .ok (.iload_n 1, 1) := dk_27 (dk_at dksX6_named_0 0 rfl rfl)
theorem dX6_named_1 : decode cX6_named 1 = .ok (.aload_n 0, 1) := dk_42 (dk_at dksX6_named_0 1 rfl rfl)
theorem dX6_named_2 : decode cX6_named 2 = .ok (.getfield 114, 3) := dk_180 0 114 (dk_at dksX6_named_0 2 rfl rfl)
theorem dX6_named_5 : decode cX6_named 5 = .ok (.ifCond .ne 8, 3) := dk_154 0 8 (dk_at dksX6_named_0 5 rfl rfl)
theorem dX6_named_8 : decode cX6_named 8 = .ok (.bipush 103, 2) := dk_16 103 (dk_at dksX6_named_0 8 rfl rfl)
theorem dX6_named_10 : decode cX6_named 10 = .ok (.goto 5, 3) := dk_167 0 5 (dk_at dksX6_named_0 10 rfl rfl)
theorem dX6_named_13 : decode cX6_named 13 = .ok (.bipush 107, 2) := dk_16 107 (dk_at dksX6_named_0 13 rfl rfl)
theorem dX6_named_15 : decode cX6_named 15 = .ok (.if_icmp .ne 7, 3) := dk_160 0 7 (dk_at dksX6_named_0 15 rfl rfl)
theorem dX6_named_18 : decode cX6_named 18 = .ok (.iconst 1, 1) := dk_4 (dk_at dksX6_named_0 18 rfl rfl)
theorem dX6_named_19 : decode cX6_named 19 = .ok (.goto 4, 3) := dk_167 0 4 (dk_at dksX6_named_0 19 rfl rfl)
theorem dX6_named_22 : decode cX6_named 22 = .ok (.iconst 0, 1) := dk_3 (dk_at dksX6_named_0 22 rfl rfl)
theorem dX6_named_23 : decode cX6_named 23 = .ok (.istore_n 2, 1) := dk_61 (dk_at dksX6_named_0 23 rfl rfl)
theorem dX6_named_24 : decode cX6_named 24 = .ok (.iload_n 1, 1) := dk_27 (dk_at dksX6_named_1 0 rfl rfl)
theorem dX6_named_25 : decode cX6_named 25 = .ok (.aload_n 0, 1) := dk_42 (dk_at dksX6_named_1 1 rfl rfl)
theorem dX6_named_26 : decode cX6_named 26 = .ok (.getfield 114, 3) := dk_180 0 114 (dk_at dksX6_named_1 2 rfl rfl)
theorem dX6_named_29 : decode cX6_named 29 = .ok (.ifCond .ne 8, 3) := dk_154 0 8 (dk_at dksX6_named_1 5 rfl rfl)
theorem dX6_named_32 : decode cX6_named 32 = .ok (.bipush 107, 2) := dk_16 107 (dk_at dksX6_named_1 8 rfl rfl)
theorem dX6_named_34 : decode cX6_named 34 = .ok (.goto 5, 3) := dk_167 0 5 (dk_at dksX6_named_1 10 rfl rfl)
theorem dX6_named_37 : decode cX6_named 37 = .ok (.bipush 97, 2) := dk_16 97 (dk_at dksX6_named_1 13 rfl rfl)
theorem dX6_named_39 : decode cX6_named 39 = .ok (.if_icmp .ne 7, 3) := dk_160 0 7 (dk_at dksX6_named_1 15 rfl rfl)
theorem dX6_named_42 : decode cX6_named 42 = .ok (.iconst 1, 1) := dk_4 (dk_at dksX6_named_1 18 rfl rfl)
theorem dX6_named_43 : decode cX6_named 43 = .ok (.goto 4, 3) := dk_167 0 4 (dk_at dksX6_named_1 19 rfl rfl)
theorem dX6_named_46 : decode cX6_named 46 = .ok (.iconst 0, 1) := dk_3 (dk_at dksX6_named_1 22 rfl rfl)
theorem dX6_named_47 : decode cX6_named 47 = .ok (.istore_n 3, 1) := dk_62 (dk_at dksX6_named_1 23 rfl rfl)
theorem dX6_named_48 : decode cX6_named 48 = .ok (.iload_n 1, 1) := dk_27 (dk_at dksX6_named_2 0 rfl rfl)
theorem dX6_named_49 : decode cX6_named 49 = .ok (.aload_n 0, 1) := dk_42 (dk_at dksX6_named_2 1 rfl rfl)
theorem dX6_named_50 : decode cX6_named 50 = .ok (.getfield 114, 3) := dk_180 0 114 (dk_at dksX6_named_2 2 rfl rfl)
theorem dX6_named_53 : decode cX6_named 53 = .ok (.ifCond .ne 8, 3) := dk_154 0 8 (dk_at dksX6_named_2 5 rfl rfl)
theorem dX6_named_56 : decode cX6_named 56 = .ok (.bipush 100, 2) := dk_16 100 (dk_at dksX6_named_2 8 rfl rfl)
theorem dX6_named_58 : decode cX6_named 58 = .ok (.goto 5, 3) := dk_167 0 5 (dk_at dksX6_named_2 10 rfl rfl)
theorem dX6_named_61 : decode cX6_named 61 = .ok (.bipush 110, 2) := dk_16 110 (dk_at dksX6_named_2 13 rfl rfl)
theorem dX6_named_63 : decode cX6_named 63 = .ok (.if_icmp .ne 7, 3) := dk_160 0 7 (dk_at dksX6_named_2 15 rfl rfl)
theorem dX6_named_66 : decode cX6_named 66 = .ok (.iconst 1, 1) := dk_4 (dk_at dksX6_named_2 18 rfl rfl)
theorem dX6_named_67 : decode cX6_named 67 = .ok (.goto 4, 3) := dk_167 0 4 (dk_at dksX6_named_2 19 rfl rfl)
theorem dX6_named_70 : decode cX6_named 70 = .ok (.iconst 0, 1) := dk_3 (dk_at dksX6_named_2 22 rfl rfl)
theorem dX6_named_71 : decode cX6_named 71 = .ok (.istore 4, 2) := dk_54 4 (dk_at dksX6_named_3 0 rfl rfl)
theorem dX6_named_73 : decode cX6_named 73 = .ok (.iload_n 2, 1) := dk_28 (dk_at dksX6_named_3 2 rfl rfl)
theorem dX6_named_74 : decode cX6_named 74 = .ok (.ifCond .ne 17, 3) := dk_154 0 17 (dk_at dksX6_named_3 3 rfl rfl)
theorem dX6_named_77 : decode cX6_named 77 = .ok (.iload_n 3, 1) := dk_29 (dk_at dksX6_named_3 6 rfl rfl)
theorem dX6_named_78 : decode cX6_named 78 = .ok (.ifCond .ne 13, 3) := dk_154 0 13 (dk_at dksX6_named_3 7 rfl rfl)
theorem dX6_named_81 : decode cX6_named 81 = .ok (.iload 4, 2) := dk_21 4 (dk_at dksX6_named_3 10 rfl rfl)
theorem dX6_named_83 : decode cX6_named 83 = .ok (.ifCond .ne 8, 3) := dk_154 0 8 (dk_at dksX6_named_3 12 rfl rfl)
theorem dX6_named_86 : decode cX6_named 86 = .ok (.aload_n 0, 1) := dk_42 (dk_at dksX6_named_3 15 rfl rfl)
theorem dX6_named_87 : decode cX6_named 87 = .ok (.invokevirtual 130, 3) := dk_182 0 130 (dk_at dksX6_named_3 16 rfl rfl)
theorem dX6_named_90 : decode cX6_named 90 = .ok (.ireturn, 1) := dk_172 (dk_at dksX6_named_3 19 rfl rfl)
theorem dX6_named_91 : decode cX6_named 91 = .ok (.aload_n 0, 1) := dk_42 (dk_at dksX6_named_3 20 rfl rfl)
theorem dX6_named_92 : decode cX6_named 92 = .ok (.dup, 1) := dk_89 (dk_at dksX6_named_3 21 rfl rfl)
theorem dX6_named_93 : decode cX6_named 93 = .ok (.getfield 121, 3) := dk_180 0 121 (dk_at dksX6_named_4 0 rfl rfl)
theorem dX6_named_96 : decode cX6_named 96 = .ok (.iconst 1, 1) := dk_4 (dk_at dksX6_named_4 3 rfl rfl)
theorem dX6_named_97 : decode cX6_named 97 = .ok (.iadd, 1) := dk_96 (dk_at dksX6_named_4 4 rfl rfl)
theorem dX6_named_98 : decode cX6_named 98 = .ok (.putfield 121, 3) := dk_181 0 121 (dk_at dksX6_named_4 5 rfl rfl)
theorem dX6_named_101 : decode cX6_named 101 = .ok (.iload_n 2, 1) := dk_28 (dk_at dksX6_named_4 8 rfl rfl)
theorem dX6_named_102 : decode cX6_named 102 = .ok (.ifCond .eq 10, 3) := dk_153 0 10 (dk_at dksX6_named_4 9 rfl rfl)
theorem dX6_named_105 : decode cX6_named 105 = .ok (.aload_n 0, 1) := dk_42 (dk_at dksX6_named_4 12 rfl rfl)
theorem dX6_named_106 : decode cX6_named 106 = .ok (.getfield 134, 3) := dk_180 0 134 (dk_at dksX6_named_4 13 rfl rfl)
theorem dX6_named_109 : decode cX6_named 109 = .ok (.goto 18, 3) := dk_167 0 18 (dk_at dksX6_named_4 16 rfl rfl)
theorem dX6_named_112 : decode cX6_named 112 = .ok (.iload_n 3, 1) := dk_29 (dk_at dksX6_named_4 19 rfl rfl)
theorem dX6_named_113 : decode cX6_named 113 = .ok (.ifCond .eq 10, 3) := dk_153 0 10 (dk_at dksX6_named_4 20 rfl rfl)
theorem dX6_named_116 : decode cX6_named 116 = .ok (.aload_n 0, 1) := dk_42 (dk_at dksX6_named_4 23 rfl rfl)
theorem dX6_named_117 : decode cX6_named 117 = .ok (.getfield 137, 3) := dk_180 0 137 (dk_at dksX6_named_5 0 rfl rfl)
theorem dX6_named_120 : decode cX6_named 120 = .ok (.goto 7, 3) := dk_167 0 7 (dk_at dksX6_named_5 3 rfl rfl)
theorem dX6_named_123 : decode cX6_named 123 = .ok (.aload_n 0, 1) := dk_42 (dk_at dksX6_named_5 6 rfl rfl)
theorem dX6_named_124 : decode cX6_named 124 = .ok (.getfield 140, 3) := dk_180 0 140 (dk_at dksX6_named_5 7 rfl rfl)
theorem dX6_named_127 : decode cX6_named 127 = .ok (.ireturn, 1) := dk_172 (dk_at dksX6_named_5 10 rfl rfl)
abbrev cX6_fails : ByteArray := prog_30_method_30_code
def yX6_fails : MethodName := ⟨RX6, "fails", "()I"⟩
def dkwX6_fails_0 : List UInt8 := [42, 3, 181, 0, 117, 3, 172]
abbrev dktX6_fails_0 : List UInt8 := dkwX6_fails_0 ++ []
theorem dksX6_fails_0 : cX6_fails.data.toList.drop 0 = dktX6_fails_0 := by decide +kernel
theorem dX6_fails_0 : decode cX6_fails 0 = .ok (.aload_n 0, 1) := dk_42 (dk_at dksX6_fails_0 0 rfl rfl)
theorem dX6_fails_1 : decode cX6_fails 1 = .ok (.iconst 0, 1) := dk_3 (dk_at dksX6_fails_0 1 rfl rfl)
theorem dX6_fails_2 : decode cX6_fails 2 = .ok (.putfield 117, 3) := dk_181 0 117 (dk_at dksX6_fails_0 2 rfl rfl)
theorem dX6_fails_5 : decode cX6_fails 5 = .ok (.iconst 0, 1) := dk_3 (dk_at dksX6_fails_0 5 rfl rfl)
theorem dX6_fails_6 : decode cX6_fails 6 = .ok (.ireturn, 1) := dk_172 (dk_at dksX6_fails_0 6 rfl rfl)
abbrev cX6_its : ByteArray := prog_30_method_10_code
def yX6_its : MethodName := ⟨RX6, "its", "(II)I"⟩
def dkwX6_its_0 : List UInt8 := [42, 180, 0, 7, 16, 58, 16, 14, 27, 104, 96, 28, 96, 46, 172]
abbrev dktX6_its_0 : List UInt8 := dkwX6_its_0 ++ []
theorem dksX6_its_0 : cX6_its.data.toList.drop 0 = dktX6_its_0 := by decide +kernel
theorem dX6_its_0 : decode cX6_its 0 = .ok (.aload_n 0, 1) := dk_42 (dk_at dksX6_its_0 0 rfl rfl)
theorem dX6_its_1 : decode cX6_its 1 = .ok (.getfield 7, 3) := dk_180 0 7 (dk_at dksX6_its_0 1 rfl rfl)
theorem dX6_its_4 : decode cX6_its 4 = .ok (.bipush 58, 2) := dk_16 58 (dk_at dksX6_its_0 4 rfl rfl)
theorem dX6_its_6 : decode cX6_its 6 = .ok (.bipush 14, 2) := dk_16 14 (dk_at dksX6_its_0 6 rfl rfl)
theorem dX6_its_8 : decode cX6_its 8 = .ok (.iload_n 1, 1) := dk_27 (dk_at dksX6_its_0 8 rfl rfl)
theorem dX6_its_9 : decode cX6_its 9 = .ok (.imul, 1) := dk_104 (dk_at dksX6_its_0 9 rfl rfl)
theorem dX6_its_10 : decode cX6_its 10 = .ok (.iadd, 1) := dk_96 (dk_at dksX6_its_0 10 rfl rfl)
theorem dX6_its_11 : decode cX6_its 11 = .ok (.iload_n 2, 1) := dk_28 (dk_at dksX6_its_0 11 rfl rfl)
theorem dX6_its_12 : decode cX6_its 12 = .ok (.iadd, 1) := dk_96 (dk_at dksX6_its_0 12 rfl rfl)
theorem dX6_its_13 : decode cX6_its 13 = .ok (.iaload, 1) := dk_46 (dk_at dksX6_its_0 13 rfl rfl)
theorem dX6_its_14 : decode cX6_its 14 = .ok (.ireturn, 1) := dk_172 (dk_at dksX6_its_0 14 rfl rfl)
abbrev cX6_cow : ByteArray := prog_30_method_15_code
def yX6_cow : MethodName := ⟨RX6, "cow", "(II)I"⟩
def dkwX6_cow_3 : List UInt8 := [182, 0, 78, 42, 29, 6, 3, 182, 0, 78, 42, 180, 0, 7, 6, 92, 46, 4, 96, 79, 29, 172]
abbrev dktX6_cow_3 : List UInt8 := dkwX6_cow_3 ++ []
def dkwX6_cow_2 : List UInt8 := [42, 29, 3, 27, 16, 10, 108, 182, 0, 78, 42, 29, 4, 27, 16, 10, 112, 182, 0, 78, 42, 29, 5, 28]
abbrev dktX6_cow_2 : List UInt8 := dkwX6_cow_2 ++ dktX6_cow_3
def dkwX6_cow_1 : List UInt8 := [42, 180, 0, 7, 6, 46, 8, 160, 0, 10, 42, 18, 77, 182, 0, 62, 172, 42, 180, 0, 7, 6, 46, 62]
abbrev dktX6_cow_1 : List UInt8 := dkwX6_cow_1 ++ dktX6_cow_2
def dkwX6_cow_0 : List UInt8 := [27, 3, 16, 69, 184, 0, 53, 153, 0, 10, 28, 184, 0, 57, 154, 0, 10, 42, 18, 61, 182, 0, 62, 172]
abbrev dktX6_cow_0 : List UInt8 := dkwX6_cow_0 ++ dktX6_cow_1
theorem dksX6_cow_0 : cX6_cow.data.toList.drop 0 = dktX6_cow_0 := by decide +kernel
theorem dksX6_cow_1 : cX6_cow.data.toList.drop 24 = dktX6_cow_1 := dk_seg dksX6_cow_0 24 rfl rfl
theorem dksX6_cow_2 : cX6_cow.data.toList.drop 48 = dktX6_cow_2 := dk_seg dksX6_cow_1 24 rfl rfl
theorem dksX6_cow_3 : cX6_cow.data.toList.drop 72 = dktX6_cow_3 := dk_seg dksX6_cow_2 24 rfl rfl
theorem dX6_cow_0 : decode cX6_cow 0 = .ok (.iload_n 1, 1) := dk_27 (dk_at dksX6_cow_0 0 rfl rfl)
theorem dX6_cow_1 : decode cX6_cow 1 = .ok (.iconst 0, 1) := dk_3 (dk_at dksX6_cow_0 1 rfl rfl)
theorem dX6_cow_2 : decode cX6_cow 2 = .ok (.bipush 69, 2) := dk_16 69 (dk_at dksX6_cow_0 2 rfl rfl)
theorem dX6_cow_4 : decode cX6_cow 4 = .ok (.invokestatic 53, 3) := dk_184 0 53 (dk_at dksX6_cow_0 4 rfl rfl)
theorem dX6_cow_7 : decode cX6_cow 7 = .ok (.ifCond .eq 10, 3) := dk_153 0 10 (dk_at dksX6_cow_0 7 rfl rfl)
theorem dX6_cow_10 : decode cX6_cow 10 = .ok (.iload_n 2, 1) := dk_28 (dk_at dksX6_cow_0 10 rfl rfl)
theorem dX6_cow_11 : decode cX6_cow 11 = .ok (.invokestatic 57, 3) := dk_184 0 57 (dk_at dksX6_cow_0 11 rfl rfl)
theorem dX6_cow_14 : decode cX6_cow 14 = .ok (.ifCond .ne 10, 3) := dk_154 0 10 (dk_at dksX6_cow_0 14 rfl rfl)
theorem dX6_cow_17 : decode cX6_cow 17 = .ok (.aload_n 0, 1) := dk_42 (dk_at dksX6_cow_0 17 rfl rfl)
theorem dX6_cow_18 : decode cX6_cow 18 = .ok (.ldc 61, 2) := dk_18 61 (dk_at dksX6_cow_0 18 rfl rfl)
theorem dX6_cow_20 : decode cX6_cow 20 = .ok (.invokevirtual 62, 3) := dk_182 0 62 (dk_at dksX6_cow_0 20 rfl rfl)
theorem dX6_cow_23 : decode cX6_cow 23 = .ok (.ireturn, 1) := dk_172 (dk_at dksX6_cow_0 23 rfl rfl)
theorem dX6_cow_24 : decode cX6_cow 24 = .ok (.aload_n 0, 1) := dk_42 (dk_at dksX6_cow_1 0 rfl rfl)
theorem dX6_cow_25 : decode cX6_cow 25 = .ok (.getfield 7, 3) := dk_180 0 7 (dk_at dksX6_cow_1 1 rfl rfl)
theorem dX6_cow_28 : decode cX6_cow 28 = .ok (.iconst 3, 1) := dk_6 (dk_at dksX6_cow_1 4 rfl rfl)
theorem dX6_cow_29 : decode cX6_cow 29 = .ok (.iaload, 1) := dk_46 (dk_at dksX6_cow_1 5 rfl rfl)
theorem dX6_cow_30 : decode cX6_cow 30 = .ok (.iconst 5, 1) := dk_8 (dk_at dksX6_cow_1 6 rfl rfl)
theorem dX6_cow_31 : decode cX6_cow 31 = .ok (.if_icmp .ne 10, 3) := dk_160 0 10 (dk_at dksX6_cow_1 7 rfl rfl)
theorem dX6_cow_34 : decode cX6_cow 34 = .ok (.aload_n 0, 1) := dk_42 (dk_at dksX6_cow_1 10 rfl rfl)
theorem dX6_cow_35 : decode cX6_cow 35 = .ok (.ldc 77, 2) := dk_18 77 (dk_at dksX6_cow_1 11 rfl rfl)
theorem dX6_cow_37 : decode cX6_cow 37 = .ok (.invokevirtual 62, 3) := dk_182 0 62 (dk_at dksX6_cow_1 13 rfl rfl)
theorem dX6_cow_40 : decode cX6_cow 40 = .ok (.ireturn, 1) := dk_172 (dk_at dksX6_cow_1 16 rfl rfl)
theorem dX6_cow_41 : decode cX6_cow 41 = .ok (.aload_n 0, 1) := dk_42 (dk_at dksX6_cow_1 17 rfl rfl)
theorem dX6_cow_42 : decode cX6_cow 42 = .ok (.getfield 7, 3) := dk_180 0 7 (dk_at dksX6_cow_1 18 rfl rfl)
theorem dX6_cow_45 : decode cX6_cow 45 = .ok (.iconst 3, 1) := dk_6 (dk_at dksX6_cow_1 21 rfl rfl)
theorem dX6_cow_46 : decode cX6_cow 46 = .ok (.iaload, 1) := dk_46 (dk_at dksX6_cow_1 22 rfl rfl)
theorem dX6_cow_47 : decode cX6_cow 47 = .ok (.istore_n 3, 1) := dk_62 (dk_at dksX6_cow_1 23 rfl rfl)
theorem dX6_cow_48 : decode cX6_cow 48 = .ok (.aload_n 0, 1) := dk_42 (dk_at dksX6_cow_2 0 rfl rfl)
theorem dX6_cow_49 : decode cX6_cow 49 = .ok (.iload_n 3, 1) := dk_29 (dk_at dksX6_cow_2 1 rfl rfl)
theorem dX6_cow_50 : decode cX6_cow 50 = .ok (.iconst 0, 1) := dk_3 (dk_at dksX6_cow_2 2 rfl rfl)
theorem dX6_cow_51 : decode cX6_cow 51 = .ok (.iload_n 1, 1) := dk_27 (dk_at dksX6_cow_2 3 rfl rfl)
theorem dX6_cow_52 : decode cX6_cow 52 = .ok (.bipush 10, 2) := dk_16 10 (dk_at dksX6_cow_2 4 rfl rfl)
theorem dX6_cow_54 : decode cX6_cow 54 = .ok (.idiv, 1) := dk_108 (dk_at dksX6_cow_2 6 rfl rfl)
theorem dX6_cow_55 : decode cX6_cow 55 = .ok (.invokevirtual 78, 3) := dk_182 0 78 (dk_at dksX6_cow_2 7 rfl rfl)
theorem dX6_cow_58 : decode cX6_cow 58 = .ok (.aload_n 0, 1) := dk_42 (dk_at dksX6_cow_2 10 rfl rfl)
theorem dX6_cow_59 : decode cX6_cow 59 = .ok (.iload_n 3, 1) := dk_29 (dk_at dksX6_cow_2 11 rfl rfl)
theorem dX6_cow_60 : decode cX6_cow 60 = .ok (.iconst 1, 1) := dk_4 (dk_at dksX6_cow_2 12 rfl rfl)
theorem dX6_cow_61 : decode cX6_cow 61 = .ok (.iload_n 1, 1) := dk_27 (dk_at dksX6_cow_2 13 rfl rfl)
theorem dX6_cow_62 : decode cX6_cow 62 = .ok (.bipush 10, 2) := dk_16 10 (dk_at dksX6_cow_2 14 rfl rfl)
theorem dX6_cow_64 : decode cX6_cow 64 = .ok (.irem, 1) := dk_112 (dk_at dksX6_cow_2 16 rfl rfl)
theorem dX6_cow_65 : decode cX6_cow 65 = .ok (.invokevirtual 78, 3) := dk_182 0 78 (dk_at dksX6_cow_2 17 rfl rfl)
theorem dX6_cow_68 : decode cX6_cow 68 = .ok (.aload_n 0, 1) := dk_42 (dk_at dksX6_cow_2 20 rfl rfl)
theorem dX6_cow_69 : decode cX6_cow 69 = .ok (.iload_n 3, 1) := dk_29 (dk_at dksX6_cow_2 21 rfl rfl)
theorem dX6_cow_70 : decode cX6_cow 70 = .ok (.iconst 2, 1) := dk_5 (dk_at dksX6_cow_2 22 rfl rfl)
theorem dX6_cow_71 : decode cX6_cow 71 = .ok (.iload_n 2, 1) := dk_28 (dk_at dksX6_cow_2 23 rfl rfl)
theorem dX6_cow_72 : decode cX6_cow 72 = .ok (.invokevirtual 78, 3) := dk_182 0 78 (dk_at dksX6_cow_3 0 rfl rfl)
theorem dX6_cow_75 : decode cX6_cow 75 = .ok (.aload_n 0, 1) := dk_42 (dk_at dksX6_cow_3 3 rfl rfl)
theorem dX6_cow_76 : decode cX6_cow 76 = .ok (.iload_n 3, 1) := dk_29 (dk_at dksX6_cow_3 4 rfl rfl)
theorem dX6_cow_77 : decode cX6_cow 77 = .ok (.iconst 3, 1) := dk_6 (dk_at dksX6_cow_3 5 rfl rfl)
theorem dX6_cow_78 : decode cX6_cow 78 = .ok (.iconst 0, 1) := dk_3 (dk_at dksX6_cow_3 6 rfl rfl)
theorem dX6_cow_79 : decode cX6_cow 79 = .ok (.invokevirtual 78, 3) := dk_182 0 78 (dk_at dksX6_cow_3 7 rfl rfl)
theorem dX6_cow_82 : decode cX6_cow 82 = .ok (.aload_n 0, 1) := dk_42 (dk_at dksX6_cow_3 10 rfl rfl)
theorem dX6_cow_83 : decode cX6_cow 83 = .ok (.getfield 7, 3) := dk_180 0 7 (dk_at dksX6_cow_3 11 rfl rfl)
theorem dX6_cow_86 : decode cX6_cow 86 = .ok (.iconst 3, 1) := dk_6 (dk_at dksX6_cow_3 14 rfl rfl)
theorem dX6_cow_87 : decode cX6_cow 87 = .ok (.dup2, 1) := dk_92 (dk_at dksX6_cow_3 15 rfl rfl)
theorem dX6_cow_88 : decode cX6_cow 88 = .ok (.iaload, 1) := dk_46 (dk_at dksX6_cow_3 16 rfl rfl)
theorem dX6_cow_89 : decode cX6_cow 89 = .ok (.iconst 1, 1) := dk_4 (dk_at dksX6_cow_3 17 rfl rfl)
theorem dX6_cow_90 : decode cX6_cow 90 = .ok (.iadd, 1) := dk_96 (dk_at dksX6_cow_3 18 rfl rfl)
theorem dX6_cow_91 : decode cX6_cow 91 = .ok (.iastore, 1) := dk_79 (dk_at dksX6_cow_3 19 rfl rfl)
theorem dX6_cow_92 : decode cX6_cow 92 = .ok (.iload_n 3, 1) := dk_29 (dk_at dksX6_cow_3 20 rfl rfl)
theorem dX6_cow_93 : decode cX6_cow 93 = .ok (.ireturn, 1) := dk_172 (dk_at dksX6_cow_3 21 rfl rfl)
abbrev cX6_puts : ByteArray := prog_30_method_11_code
def yX6_puts : MethodName := ⟨RX6, "puts", "(III)V"⟩
def dkwX6_puts_0 : List UInt8 := [42, 180, 0, 7, 16, 58, 16, 14, 27, 104, 96, 28, 96, 29, 79, 177]
abbrev dktX6_puts_0 : List UInt8 := dkwX6_puts_0 ++ []
theorem dksX6_puts_0 : cX6_puts.data.toList.drop 0 = dktX6_puts_0 := by decide +kernel
theorem dX6_puts_0 : decode cX6_puts 0 = .ok (.aload_n 0, 1) := dk_42 (dk_at dksX6_puts_0 0 rfl rfl)
theorem dX6_puts_1 : decode cX6_puts 1 = .ok (.getfield 7, 3) := dk_180 0 7 (dk_at dksX6_puts_0 1 rfl rfl)
theorem dX6_puts_4 : decode cX6_puts 4 = .ok (.bipush 58, 2) := dk_16 58 (dk_at dksX6_puts_0 4 rfl rfl)
theorem dX6_puts_6 : decode cX6_puts 6 = .ok (.bipush 14, 2) := dk_16 14 (dk_at dksX6_puts_0 6 rfl rfl)
theorem dX6_puts_8 : decode cX6_puts 8 = .ok (.iload_n 1, 1) := dk_27 (dk_at dksX6_puts_0 8 rfl rfl)
theorem dX6_puts_9 : decode cX6_puts 9 = .ok (.imul, 1) := dk_104 (dk_at dksX6_puts_0 9 rfl rfl)
theorem dX6_puts_10 : decode cX6_puts 10 = .ok (.iadd, 1) := dk_96 (dk_at dksX6_puts_0 10 rfl rfl)
theorem dX6_puts_11 : decode cX6_puts 11 = .ok (.iload_n 2, 1) := dk_28 (dk_at dksX6_puts_0 11 rfl rfl)
theorem dX6_puts_12 : decode cX6_puts 12 = .ok (.iadd, 1) := dk_96 (dk_at dksX6_puts_0 12 rfl rfl)
theorem dX6_puts_13 : decode cX6_puts 13 = .ok (.iload_n 3, 1) := dk_29 (dk_at dksX6_puts_0 13 rfl rfl)
theorem dX6_puts_14 : decode cX6_puts 14 = .ok (.iastore, 1) := dk_79 (dk_at dksX6_puts_0 14 rfl rfl)
theorem dX6_puts_15 : decode cX6_puts 15 = .ok (.return_, 1) := dk_177 (dk_at dksX6_puts_0 15 rfl rfl)
abbrev cX6_ofCow : ByteArray := prog_30_method_21_code
def yX6_ofCow : MethodName := ⟨RX6, "ofCow", "(II)I"⟩
def dkwX6_ofCow_4 : List UInt8 := [42, 27, 28, 182, 0, 69, 172]
abbrev dktX6_ofCow_4 : List UInt8 := dkwX6_ofCow_4 ++ []
def dkwX6_ofCow_3 : List UInt8 := [42, 27, 182, 0, 96, 172, 42, 27, 182, 0, 99, 172, 42, 27, 42, 27, 5, 182, 0, 69, 182, 0, 102, 172]
abbrev dktX6_ofCow_3 : List UInt8 := dkwX6_ofCow_3 ++ dktX6_ofCow_4
def dkwX6_ofCow_2 : List UInt8 := [170, 0, 0, 0, 0, 50, 0, 0, 0, 4, 0, 0, 0, 6, 0, 0, 0, 26, 0, 0, 0, 32, 0, 0, 0, 38]
abbrev dktX6_ofCow_2 : List UInt8 := dkwX6_ofCow_2 ++ dktX6_ofCow_3
def dkwX6_ofCow_1 : List UInt8 := [172, 28]
abbrev dktX6_ofCow_1 : List UInt8 := dkwX6_ofCow_1 ++ dktX6_ofCow_2
def dkwX6_ofCow_0 : List UInt8 := [42, 27, 182, 0, 93, 153, 0, 13, 28, 3, 16, 6, 184, 0, 53, 154, 0, 10, 42, 18, 61, 182, 0, 62]
abbrev dktX6_ofCow_0 : List UInt8 := dkwX6_ofCow_0 ++ dktX6_ofCow_1
theorem dksX6_ofCow_0 : cX6_ofCow.data.toList.drop 0 = dktX6_ofCow_0 := by decide +kernel
theorem dksX6_ofCow_1 : cX6_ofCow.data.toList.drop 24 = dktX6_ofCow_1 := dk_seg dksX6_ofCow_0 24 rfl rfl
theorem dksX6_ofCow_2 : cX6_ofCow.data.toList.drop 26 = dktX6_ofCow_2 := dk_seg dksX6_ofCow_1 2 rfl rfl
theorem dksX6_ofCow_3 : cX6_ofCow.data.toList.drop 52 = dktX6_ofCow_3 := dk_seg dksX6_ofCow_2 26 rfl rfl
theorem dksX6_ofCow_4 : cX6_ofCow.data.toList.drop 76 = dktX6_ofCow_4 := dk_seg dksX6_ofCow_3 24 rfl rfl
theorem dX6_ofCow_0 : decode cX6_ofCow 0 = .ok (.aload_n 0, 1) := dk_42 (dk_at dksX6_ofCow_0 0 rfl rfl)
theorem dX6_ofCow_1 : decode cX6_ofCow 1 = .ok (.iload_n 1, 1) := dk_27 (dk_at dksX6_ofCow_0 1 rfl rfl)
theorem dX6_ofCow_2 : decode cX6_ofCow 2 = .ok (.invokevirtual 93, 3) := dk_182 0 93 (dk_at dksX6_ofCow_0 2 rfl rfl)
theorem dX6_ofCow_5 : decode cX6_ofCow 5 = .ok (.ifCond .eq 13, 3) := dk_153 0 13 (dk_at dksX6_ofCow_0 5 rfl rfl)
theorem dX6_ofCow_8 : decode cX6_ofCow 8 = .ok (.iload_n 2, 1) := dk_28 (dk_at dksX6_ofCow_0 8 rfl rfl)
theorem dX6_ofCow_9 : decode cX6_ofCow 9 = .ok (.iconst 0, 1) := dk_3 (dk_at dksX6_ofCow_0 9 rfl rfl)
theorem dX6_ofCow_10 : decode cX6_ofCow 10 = .ok (.bipush 6, 2) := dk_16 6 (dk_at dksX6_ofCow_0 10 rfl rfl)
theorem dX6_ofCow_12 : decode cX6_ofCow 12 = .ok (.invokestatic 53, 3) := dk_184 0 53 (dk_at dksX6_ofCow_0 12 rfl rfl)
theorem dX6_ofCow_15 : decode cX6_ofCow 15 = .ok (.ifCond .ne 10, 3) := dk_154 0 10 (dk_at dksX6_ofCow_0 15 rfl rfl)
theorem dX6_ofCow_18 : decode cX6_ofCow 18 = .ok (.aload_n 0, 1) := dk_42 (dk_at dksX6_ofCow_0 18 rfl rfl)
theorem dX6_ofCow_19 : decode cX6_ofCow 19 = .ok (.ldc 61, 2) := dk_18 61 (dk_at dksX6_ofCow_0 19 rfl rfl)
theorem dX6_ofCow_21 : decode cX6_ofCow 21 = .ok (.invokevirtual 62, 3) := dk_182 0 62 (dk_at dksX6_ofCow_0 21 rfl rfl)
theorem dX6_ofCow_24 : decode cX6_ofCow 24 = .ok (.ireturn, 1) := dk_172 (dk_at dksX6_ofCow_1 0 rfl rfl)
theorem dX6_ofCow_25 : decode cX6_ofCow 25 = .ok (.iload_n 2, 1) := dk_28 (dk_at dksX6_ofCow_1 1 rfl rfl)
theorem dX6_ofCow_26 : decode cX6_ofCow 26 = .ok (.tableswitch 50 4 6 #[26, 32, 38], 26) := by decide +kernel
theorem dX6_ofCow_52 : decode cX6_ofCow 52 = .ok (.aload_n 0, 1) := dk_42 (dk_at dksX6_ofCow_3 0 rfl rfl)
theorem dX6_ofCow_53 : decode cX6_ofCow 53 = .ok (.iload_n 1, 1) := dk_27 (dk_at dksX6_ofCow_3 1 rfl rfl)
theorem dX6_ofCow_54 : decode cX6_ofCow 54 = .ok (.invokevirtual 96, 3) := dk_182 0 96 (dk_at dksX6_ofCow_3 2 rfl rfl)
theorem dX6_ofCow_57 : decode cX6_ofCow 57 = .ok (.ireturn, 1) := dk_172 (dk_at dksX6_ofCow_3 5 rfl rfl)
theorem dX6_ofCow_58 : decode cX6_ofCow 58 = .ok (.aload_n 0, 1) := dk_42 (dk_at dksX6_ofCow_3 6 rfl rfl)
theorem dX6_ofCow_59 : decode cX6_ofCow 59 = .ok (.iload_n 1, 1) := dk_27 (dk_at dksX6_ofCow_3 7 rfl rfl)
theorem dX6_ofCow_60 : decode cX6_ofCow 60 = .ok (.invokevirtual 99, 3) := dk_182 0 99 (dk_at dksX6_ofCow_3 8 rfl rfl)
theorem dX6_ofCow_63 : decode cX6_ofCow 63 = .ok (.ireturn, 1) := dk_172 (dk_at dksX6_ofCow_3 11 rfl rfl)
theorem dX6_ofCow_64 : decode cX6_ofCow 64 = .ok (.aload_n 0, 1) := dk_42 (dk_at dksX6_ofCow_3 12 rfl rfl)
theorem dX6_ofCow_65 : decode cX6_ofCow 65 = .ok (.iload_n 1, 1) := dk_27 (dk_at dksX6_ofCow_3 13 rfl rfl)
theorem dX6_ofCow_66 : decode cX6_ofCow 66 = .ok (.aload_n 0, 1) := dk_42 (dk_at dksX6_ofCow_3 14 rfl rfl)
theorem dX6_ofCow_67 : decode cX6_ofCow 67 = .ok (.iload_n 1, 1) := dk_27 (dk_at dksX6_ofCow_3 15 rfl rfl)
theorem dX6_ofCow_68 : decode cX6_ofCow 68 = .ok (.iconst 2, 1) := dk_5 (dk_at dksX6_ofCow_3 16 rfl rfl)
theorem dX6_ofCow_69 : decode cX6_ofCow 69 = .ok (.invokevirtual 69, 3) := dk_182 0 69 (dk_at dksX6_ofCow_3 17 rfl rfl)
theorem dX6_ofCow_72 : decode cX6_ofCow 72 = .ok (.invokevirtual 102, 3) := dk_182 0 102 (dk_at dksX6_ofCow_3 20 rfl rfl)
theorem dX6_ofCow_75 : decode cX6_ofCow 75 = .ok (.ireturn, 1) := dk_172 (dk_at dksX6_ofCow_3 23 rfl rfl)
theorem dX6_ofCow_76 : decode cX6_ofCow 76 = .ok (.aload_n 0, 1) := dk_42 (dk_at dksX6_ofCow_4 0 rfl rfl)
theorem dX6_ofCow_77 : decode cX6_ofCow 77 = .ok (.iload_n 1, 1) := dk_27 (dk_at dksX6_ofCow_4 1 rfl rfl)
theorem dX6_ofCow_78 : decode cX6_ofCow 78 = .ok (.iload_n 2, 1) := dk_28 (dk_at dksX6_ofCow_4 2 rfl rfl)
theorem dX6_ofCow_79 : decode cX6_ofCow 79 = .ok (.invokevirtual 69, 3) := dk_182 0 69 (dk_at dksX6_ofCow_4 3 rfl rfl)
theorem dX6_ofCow_82 : decode cX6_ofCow 82 = .ok (.ireturn, 1) := dk_172 (dk_at dksX6_ofCow_4 6 rfl rfl)
abbrev cX6_isCow : ByteArray := prog_30_method_12_code
def yX6_isCow : MethodName := ⟨RX6, "isCow", "(I)Z"⟩
def dkwX6_isCow_0 : List UInt8 := [27, 3, 42, 180, 0, 7, 6, 46, 4, 100, 184, 0, 53, 172]
abbrev dktX6_isCow_0 : List UInt8 := dkwX6_isCow_0 ++ []
theorem dksX6_isCow_0 : cX6_isCow.data.toList.drop 0 = dktX6_isCow_0 := by decide +kernel
theorem dX6_isCow_0 : decode cX6_isCow 0 = .ok (.iload_n 1, 1) := dk_27 (dk_at dksX6_isCow_0 0 rfl rfl)
theorem dX6_isCow_1 : decode cX6_isCow 1 = .ok (.iconst 0, 1) := dk_3 (dk_at dksX6_isCow_0 1 rfl rfl)
theorem dX6_isCow_2 : decode cX6_isCow 2 = .ok (.aload_n 0, 1) := dk_42 (dk_at dksX6_isCow_0 2 rfl rfl)
theorem dX6_isCow_3 : decode cX6_isCow 3 = .ok (.getfield 7, 3) := dk_180 0 7 (dk_at dksX6_isCow_0 3 rfl rfl)
theorem dX6_isCow_6 : decode cX6_isCow 6 = .ok (.iconst 3, 1) := dk_6 (dk_at dksX6_isCow_0 6 rfl rfl)
theorem dX6_isCow_7 : decode cX6_isCow 7 = .ok (.iaload, 1) := dk_46 (dk_at dksX6_isCow_0 7 rfl rfl)
theorem dX6_isCow_8 : decode cX6_isCow 8 = .ok (.iconst 1, 1) := dk_4 (dk_at dksX6_isCow_0 8 rfl rfl)
theorem dX6_isCow_9 : decode cX6_isCow 9 = .ok (.isub, 1) := dk_100 (dk_at dksX6_isCow_0 9 rfl rfl)
theorem dX6_isCow_10 : decode cX6_isCow 10 = .ok (.invokestatic 53, 3) := dk_184 0 53 (dk_at dksX6_isCow_0 10 rfl rfl)
theorem dX6_isCow_13 : decode cX6_isCow 13 = .ok (.ireturn, 1) := dk_172 (dk_at dksX6_isCow_0 13 rfl rfl)
abbrev cX6_eatsOf : ByteArray := prog_30_method_16_code
def yX6_eatsOf : MethodName := ⟨RX6, "eatsOf", "(I)I"⟩
def dkwX6_eatsOf_2 : List UInt8 := [160, 0, 8, 16, 15, 167, 0, 5, 16, 10, 172]
abbrev dktX6_eatsOf_2 : List UInt8 := dkwX6_eatsOf_2 ++ []
def dkwX6_eatsOf_1 : List UInt8 := [167, 0, 32, 28, 7, 160, 0, 9, 29, 5, 108, 167, 0, 21, 28, 6, 159, 0, 9, 28, 16, 6]
abbrev dktX6_eatsOf_1 : List UInt8 := dkwX6_eatsOf_1 ++ dktX6_eatsOf_2
def dkwX6_eatsOf_0 : List UInt8 := [42, 27, 3, 182, 0, 69, 61, 8, 42, 27, 4, 182, 0, 69, 96, 62, 28, 4, 160, 0, 7, 29]
abbrev dktX6_eatsOf_0 : List UInt8 := dkwX6_eatsOf_0 ++ dktX6_eatsOf_1
theorem dksX6_eatsOf_0 : cX6_eatsOf.data.toList.drop 0 = dktX6_eatsOf_0 := by decide +kernel
theorem dksX6_eatsOf_1 : cX6_eatsOf.data.toList.drop 22 = dktX6_eatsOf_1 := dk_seg dksX6_eatsOf_0 22 rfl rfl
theorem dksX6_eatsOf_2 : cX6_eatsOf.data.toList.drop 44 = dktX6_eatsOf_2 := dk_seg dksX6_eatsOf_1 22 rfl rfl
theorem dX6_eatsOf_0 : decode cX6_eatsOf 0 = .ok (.aload_n 0, 1) := dk_42 (dk_at dksX6_eatsOf_0 0 rfl rfl)
theorem dX6_eatsOf_1 : decode cX6_eatsOf 1 = .ok (.iload_n 1, 1) := dk_27 (dk_at dksX6_eatsOf_0 1 rfl rfl)
theorem dX6_eatsOf_2 : decode cX6_eatsOf 2 = .ok (.iconst 0, 1) := dk_3 (dk_at dksX6_eatsOf_0 2 rfl rfl)
theorem dX6_eatsOf_3 : decode cX6_eatsOf 3 = .ok (.invokevirtual 69, 3) := dk_182 0 69 (dk_at dksX6_eatsOf_0 3 rfl rfl)
theorem dX6_eatsOf_6 : decode cX6_eatsOf 6 = .ok (.istore_n 2, 1) := dk_61 (dk_at dksX6_eatsOf_0 6 rfl rfl)
theorem dX6_eatsOf_7 : decode cX6_eatsOf 7 = .ok (.iconst 5, 1) := dk_8 (dk_at dksX6_eatsOf_0 7 rfl rfl)
theorem dX6_eatsOf_8 : decode cX6_eatsOf 8 = .ok (.aload_n 0, 1) := dk_42 (dk_at dksX6_eatsOf_0 8 rfl rfl)
theorem dX6_eatsOf_9 : decode cX6_eatsOf 9 = .ok (.iload_n 1, 1) := dk_27 (dk_at dksX6_eatsOf_0 9 rfl rfl)
theorem dX6_eatsOf_10 : decode cX6_eatsOf 10 = .ok (.iconst 1, 1) := dk_4 (dk_at dksX6_eatsOf_0 10 rfl rfl)
theorem dX6_eatsOf_11 : decode cX6_eatsOf 11 = .ok (.invokevirtual 69, 3) := dk_182 0 69 (dk_at dksX6_eatsOf_0 11 rfl rfl)
theorem dX6_eatsOf_14 : decode cX6_eatsOf 14 = .ok (.iadd, 1) := dk_96 (dk_at dksX6_eatsOf_0 14 rfl rfl)
theorem dX6_eatsOf_15 : decode cX6_eatsOf 15 = .ok (.istore_n 3, 1) := dk_62 (dk_at dksX6_eatsOf_0 15 rfl rfl)
theorem dX6_eatsOf_16 : decode cX6_eatsOf 16 = .ok (.iload_n 2, 1) := dk_28 (dk_at dksX6_eatsOf_0 16 rfl rfl)
theorem dX6_eatsOf_17 : decode cX6_eatsOf 17 = .ok (.iconst 1, 1) := dk_4 (dk_at dksX6_eatsOf_0 17 rfl rfl)
theorem dX6_eatsOf_18 : decode cX6_eatsOf 18 = .ok (.if_icmp .ne 7, 3) := dk_160 0 7 (dk_at dksX6_eatsOf_0 18 rfl rfl)
theorem dX6_eatsOf_21 : decode cX6_eatsOf 21 = .ok (.iload_n 3, 1) := dk_29 (dk_at dksX6_eatsOf_0 21 rfl rfl)
theorem dX6_eatsOf_22 : decode cX6_eatsOf 22 = .ok (.goto 32, 3) := dk_167 0 32 (dk_at dksX6_eatsOf_1 0 rfl rfl)
theorem dX6_eatsOf_25 : decode cX6_eatsOf 25 = .ok (.iload_n 2, 1) := dk_28 (dk_at dksX6_eatsOf_1 3 rfl rfl)
theorem dX6_eatsOf_26 : decode cX6_eatsOf 26 = .ok (.iconst 4, 1) := dk_7 (dk_at dksX6_eatsOf_1 4 rfl rfl)
theorem dX6_eatsOf_27 : decode cX6_eatsOf 27 = .ok (.if_icmp .ne 9, 3) := dk_160 0 9 (dk_at dksX6_eatsOf_1 5 rfl rfl)
theorem dX6_eatsOf_30 : decode cX6_eatsOf 30 = .ok (.iload_n 3, 1) := dk_29 (dk_at dksX6_eatsOf_1 8 rfl rfl)
theorem dX6_eatsOf_31 : decode cX6_eatsOf 31 = .ok (.iconst 2, 1) := dk_5 (dk_at dksX6_eatsOf_1 9 rfl rfl)
theorem dX6_eatsOf_32 : decode cX6_eatsOf 32 = .ok (.idiv, 1) := dk_108 (dk_at dksX6_eatsOf_1 10 rfl rfl)
theorem dX6_eatsOf_33 : decode cX6_eatsOf 33 = .ok (.goto 21, 3) := dk_167 0 21 (dk_at dksX6_eatsOf_1 11 rfl rfl)
theorem dX6_eatsOf_36 : decode cX6_eatsOf 36 = .ok (.iload_n 2, 1) := dk_28 (dk_at dksX6_eatsOf_1 14 rfl rfl)
theorem dX6_eatsOf_37 : decode cX6_eatsOf 37 = .ok (.iconst 3, 1) := dk_6 (dk_at dksX6_eatsOf_1 15 rfl rfl)
theorem dX6_eatsOf_38 : decode cX6_eatsOf 38 = .ok (.if_icmp .eq 9, 3) := dk_159 0 9 (dk_at dksX6_eatsOf_1 16 rfl rfl)
theorem dX6_eatsOf_41 : decode cX6_eatsOf 41 = .ok (.iload_n 2, 1) := dk_28 (dk_at dksX6_eatsOf_1 19 rfl rfl)
theorem dX6_eatsOf_42 : decode cX6_eatsOf 42 = .ok (.bipush 6, 2) := dk_16 6 (dk_at dksX6_eatsOf_1 20 rfl rfl)
theorem dX6_eatsOf_44 : decode cX6_eatsOf 44 = .ok (.if_icmp .ne 8, 3) := dk_160 0 8 (dk_at dksX6_eatsOf_2 0 rfl rfl)
theorem dX6_eatsOf_47 : decode cX6_eatsOf 47 = .ok (.bipush 15, 2) := dk_16 15 (dk_at dksX6_eatsOf_2 3 rfl rfl)
theorem dX6_eatsOf_49 : decode cX6_eatsOf 49 = .ok (.goto 5, 3) := dk_167 0 5 (dk_at dksX6_eatsOf_2 5 rfl rfl)
theorem dX6_eatsOf_52 : decode cX6_eatsOf 52 = .ok (.bipush 10, 2) := dk_16 10 (dk_at dksX6_eatsOf_2 8 rfl rfl)
theorem dX6_eatsOf_54 : decode cX6_eatsOf 54 = .ok (.ireturn, 1) := dk_172 (dk_at dksX6_eatsOf_2 10 rfl rfl)
abbrev cX6_spanOf : ByteArray := prog_30_method_17_code
def yX6_spanOf : MethodName := ⟨RX6, "spanOf", "(I)I"⟩
def dkwX6_spanOf_2 : List UInt8 := [167, 0, 5, 16, 6, 172]
abbrev dktX6_spanOf_2 : List UInt8 := dkwX6_spanOf_2 ++ []
def dkwX6_spanOf_1 : List UInt8 := [160, 0, 7, 7, 167, 0, 25, 28, 16, 6, 160, 0, 17, 16, 6, 42, 27, 4, 182, 0, 69, 5, 108, 96]
abbrev dktX6_spanOf_1 : List UInt8 := dkwX6_spanOf_1 ++ dktX6_spanOf_2
def dkwX6_spanOf_0 : List UInt8 := [42, 27, 3, 182, 0, 69, 61, 28, 5, 159, 0, 8, 28, 8, 160, 0, 8, 16, 8, 167, 0, 34, 28, 7]
abbrev dktX6_spanOf_0 : List UInt8 := dkwX6_spanOf_0 ++ dktX6_spanOf_1
theorem dksX6_spanOf_0 : cX6_spanOf.data.toList.drop 0 = dktX6_spanOf_0 := by decide +kernel
theorem dksX6_spanOf_1 : cX6_spanOf.data.toList.drop 24 = dktX6_spanOf_1 := dk_seg dksX6_spanOf_0 24 rfl rfl
theorem dksX6_spanOf_2 : cX6_spanOf.data.toList.drop 48 = dktX6_spanOf_2 := dk_seg dksX6_spanOf_1 24 rfl rfl
theorem dX6_spanOf_0 : decode cX6_spanOf 0 = .ok (.aload_n 0, 1) := dk_42 (dk_at dksX6_spanOf_0 0 rfl rfl)
theorem dX6_spanOf_1 : decode cX6_spanOf 1 = .ok (.iload_n 1, 1) := dk_27 (dk_at dksX6_spanOf_0 1 rfl rfl)
theorem dX6_spanOf_2 : decode cX6_spanOf 2 = .ok (.iconst 0, 1) := dk_3 (dk_at dksX6_spanOf_0 2 rfl rfl)
theorem dX6_spanOf_3 : decode cX6_spanOf 3 = .ok (.invokevirtual 69, 3) := dk_182 0 69 (dk_at dksX6_spanOf_0 3 rfl rfl)
theorem dX6_spanOf_6 : decode cX6_spanOf 6 = .ok (.istore_n 2, 1) := dk_61 (dk_at dksX6_spanOf_0 6 rfl rfl)
theorem dX6_spanOf_7 : decode cX6_spanOf 7 = .ok (.iload_n 2, 1) := dk_28 (dk_at dksX6_spanOf_0 7 rfl rfl)
theorem dX6_spanOf_8 : decode cX6_spanOf 8 = .ok (.iconst 2, 1) := dk_5 (dk_at dksX6_spanOf_0 8 rfl rfl)
theorem dX6_spanOf_9 : decode cX6_spanOf 9 = .ok (.if_icmp .eq 8, 3) := dk_159 0 8 (dk_at dksX6_spanOf_0 9 rfl rfl)
theorem dX6_spanOf_12 : decode cX6_spanOf 12 = .ok (.iload_n 2, 1) := dk_28 (dk_at dksX6_spanOf_0 12 rfl rfl)
theorem dX6_spanOf_13 : decode cX6_spanOf 13 = .ok (.iconst 5, 1) := dk_8 (dk_at dksX6_spanOf_0 13 rfl rfl)
theorem dX6_spanOf_14 : decode cX6_spanOf 14 = .ok (.if_icmp .ne 8, 3) := dk_160 0 8 (dk_at dksX6_spanOf_0 14 rfl rfl)
theorem dX6_spanOf_17 : decode cX6_spanOf 17 = .ok (.bipush 8, 2) := dk_16 8 (dk_at dksX6_spanOf_0 17 rfl rfl)
theorem dX6_spanOf_19 : decode cX6_spanOf 19 = .ok (.goto 34, 3) := dk_167 0 34 (dk_at dksX6_spanOf_0 19 rfl rfl)
theorem dX6_spanOf_22 : decode cX6_spanOf 22 = .ok (.iload_n 2, 1) := dk_28 (dk_at dksX6_spanOf_0 22 rfl rfl)
theorem dX6_spanOf_23 : decode cX6_spanOf 23 = .ok (.iconst 4, 1) := dk_7 (dk_at dksX6_spanOf_0 23 rfl rfl)
theorem dX6_spanOf_24 : decode cX6_spanOf 24 = .ok (.if_icmp .ne 7, 3) := dk_160 0 7 (dk_at dksX6_spanOf_1 0 rfl rfl)
theorem dX6_spanOf_27 : decode cX6_spanOf 27 = .ok (.iconst 4, 1) := dk_7 (dk_at dksX6_spanOf_1 3 rfl rfl)
theorem dX6_spanOf_28 : decode cX6_spanOf 28 = .ok (.goto 25, 3) := dk_167 0 25 (dk_at dksX6_spanOf_1 4 rfl rfl)
theorem dX6_spanOf_31 : decode cX6_spanOf 31 = .ok (.iload_n 2, 1) := dk_28 (dk_at dksX6_spanOf_1 7 rfl rfl)
theorem dX6_spanOf_32 : decode cX6_spanOf 32 = .ok (.bipush 6, 2) := dk_16 6 (dk_at dksX6_spanOf_1 8 rfl rfl)
theorem dX6_spanOf_34 : decode cX6_spanOf 34 = .ok (.if_icmp .ne 17, 3) := dk_160 0 17 (dk_at dksX6_spanOf_1 10 rfl rfl)
theorem dX6_spanOf_37 : decode cX6_spanOf 37 = .ok (.bipush 6, 2) := dk_16 6 (dk_at dksX6_spanOf_1 13 rfl rfl)
theorem dX6_spanOf_39 : decode cX6_spanOf 39 = .ok (.aload_n 0, 1) := dk_42 (dk_at dksX6_spanOf_1 15 rfl rfl)
theorem dX6_spanOf_40 : decode cX6_spanOf 40 = .ok (.iload_n 1, 1) := dk_27 (dk_at dksX6_spanOf_1 16 rfl rfl)
theorem dX6_spanOf_41 : decode cX6_spanOf 41 = .ok (.iconst 1, 1) := dk_4 (dk_at dksX6_spanOf_1 17 rfl rfl)
theorem dX6_spanOf_42 : decode cX6_spanOf 42 = .ok (.invokevirtual 69, 3) := dk_182 0 69 (dk_at dksX6_spanOf_1 18 rfl rfl)
theorem dX6_spanOf_45 : decode cX6_spanOf 45 = .ok (.iconst 2, 1) := dk_5 (dk_at dksX6_spanOf_1 21 rfl rfl)
theorem dX6_spanOf_46 : decode cX6_spanOf 46 = .ok (.idiv, 1) := dk_108 (dk_at dksX6_spanOf_1 22 rfl rfl)
theorem dX6_spanOf_47 : decode cX6_spanOf 47 = .ok (.iadd, 1) := dk_96 (dk_at dksX6_spanOf_1 23 rfl rfl)
theorem dX6_spanOf_48 : decode cX6_spanOf 48 = .ok (.goto 5, 3) := dk_167 0 5 (dk_at dksX6_spanOf_2 0 rfl rfl)
theorem dX6_spanOf_51 : decode cX6_spanOf 51 = .ok (.bipush 6, 2) := dk_16 6 (dk_at dksX6_spanOf_2 3 rfl rfl)
theorem dX6_spanOf_53 : decode cX6_spanOf 53 = .ok (.ireturn, 1) := dk_172 (dk_at dksX6_spanOf_2 5 rfl rfl)
abbrev cX6_wayFrom : ByteArray := prog_30_method_20_code
def yX6_wayFrom : MethodName := ⟨RX6, "wayFrom", "(II)I"⟩
def dkwX6_wayFrom_3 : List UInt8 := [21, 7, 167, 0, 5, 21, 4, 54, 4, 132, 5, 1, 167, 255, 189, 29, 172]
abbrev dktX6_wayFrom_3 : List UInt8 := dkwX6_wayFrom_3 ++ []
def dkwX6_wayFrom_2 : List UInt8 := [54, 7, 21, 7, 21, 4, 164, 0, 8, 21, 5, 167, 0, 4, 29, 62, 21, 7, 21, 4, 164, 0, 8]
abbrev dktX6_wayFrom_2 : List UInt8 := dkwX6_wayFrom_2 ++ dktX6_wayFrom_3
def dkwX6_wayFrom_1 : List UInt8 := [184, 0, 90, 54, 6, 21, 6, 156, 0, 8, 21, 4, 167, 0, 11, 42, 27, 21, 6, 3, 182, 0, 86]
abbrev dktX6_wayFrom_1 : List UInt8 := dkwX6_wayFrom_1 ++ dktX6_wayFrom_2
def dkwX6_wayFrom_0 : List UInt8 := [3, 62, 42, 27, 28, 4, 182, 0, 86, 54, 4, 4, 54, 5, 21, 5, 8, 162, 0, 67, 28, 21, 5]
abbrev dktX6_wayFrom_0 : List UInt8 := dkwX6_wayFrom_0 ++ dktX6_wayFrom_1
theorem dksX6_wayFrom_0 : cX6_wayFrom.data.toList.drop 0 = dktX6_wayFrom_0 := by decide +kernel
theorem dksX6_wayFrom_1 : cX6_wayFrom.data.toList.drop 23 = dktX6_wayFrom_1 := dk_seg dksX6_wayFrom_0 23 rfl rfl
theorem dksX6_wayFrom_2 : cX6_wayFrom.data.toList.drop 46 = dktX6_wayFrom_2 := dk_seg dksX6_wayFrom_1 23 rfl rfl
theorem dksX6_wayFrom_3 : cX6_wayFrom.data.toList.drop 69 = dktX6_wayFrom_3 := dk_seg dksX6_wayFrom_2 23 rfl rfl
theorem dX6_wayFrom_0 : decode cX6_wayFrom 0 = .ok (.iconst 0, 1) := dk_3 (dk_at dksX6_wayFrom_0 0 rfl rfl)
theorem dX6_wayFrom_1 : decode cX6_wayFrom 1 = .ok (.istore_n 3, 1) := dk_62 (dk_at dksX6_wayFrom_0 1 rfl rfl)
theorem dX6_wayFrom_2 : decode cX6_wayFrom 2 = .ok (.aload_n 0, 1) := dk_42 (dk_at dksX6_wayFrom_0 2 rfl rfl)
theorem dX6_wayFrom_3 : decode cX6_wayFrom 3 = .ok (.iload_n 1, 1) := dk_27 (dk_at dksX6_wayFrom_0 3 rfl rfl)
theorem dX6_wayFrom_4 : decode cX6_wayFrom 4 = .ok (.iload_n 2, 1) := dk_28 (dk_at dksX6_wayFrom_0 4 rfl rfl)
theorem dX6_wayFrom_5 : decode cX6_wayFrom 5 = .ok (.iconst 1, 1) := dk_4 (dk_at dksX6_wayFrom_0 5 rfl rfl)
theorem dX6_wayFrom_6 : decode cX6_wayFrom 6 = .ok (.invokevirtual 86, 3) := dk_182 0 86 (dk_at dksX6_wayFrom_0 6 rfl rfl)
theorem dX6_wayFrom_9 : decode cX6_wayFrom 9 = .ok (.istore 4, 2) := dk_54 4 (dk_at dksX6_wayFrom_0 9 rfl rfl)
theorem dX6_wayFrom_11 : decode cX6_wayFrom 11 = .ok (.iconst 1, 1) := dk_4 (dk_at dksX6_wayFrom_0 11 rfl rfl)
theorem dX6_wayFrom_12 : decode cX6_wayFrom 12 = .ok (.istore 5, 2) := dk_54 5 (dk_at dksX6_wayFrom_0 12 rfl rfl)
theorem dX6_wayFrom_14 : decode cX6_wayFrom 14 = .ok (.iload 5, 2) := dk_21 5 (dk_at dksX6_wayFrom_0 14 rfl rfl)
theorem dX6_wayFrom_16 : decode cX6_wayFrom 16 = .ok (.iconst 5, 1) := dk_8 (dk_at dksX6_wayFrom_0 16 rfl rfl)
theorem dX6_wayFrom_17 : decode cX6_wayFrom 17 = .ok (.if_icmp .ge 67, 3) := dk_162 0 67 (dk_at dksX6_wayFrom_0 17 rfl rfl)
theorem dX6_wayFrom_20 : decode cX6_wayFrom 20 = .ok (.iload_n 2, 1) := dk_28 (dk_at dksX6_wayFrom_0 20 rfl rfl)
theorem dX6_wayFrom_21 : decode cX6_wayFrom 21 = .ok (.iload 5, 2) := dk_21 5 (dk_at dksX6_wayFrom_0 21 rfl rfl)
theorem dX6_wayFrom_23 : decode cX6_wayFrom 23 = .ok (.invokestatic 90, 3) := dk_184 0 90 (dk_at dksX6_wayFrom_1 0 rfl rfl)
theorem dX6_wayFrom_26 : decode cX6_wayFrom 26 = .ok (.istore 6, 2) := dk_54 6 (dk_at dksX6_wayFrom_1 3 rfl rfl)
theorem dX6_wayFrom_28 : decode cX6_wayFrom 28 = .ok (.iload 6, 2) := dk_21 6 (dk_at dksX6_wayFrom_1 5 rfl rfl)
theorem dX6_wayFrom_30 : decode cX6_wayFrom 30 = .ok (.ifCond .ge 8, 3) := dk_156 0 8 (dk_at dksX6_wayFrom_1 7 rfl rfl)
theorem dX6_wayFrom_33 : decode cX6_wayFrom 33 = .ok (.iload 4, 2) := dk_21 4 (dk_at dksX6_wayFrom_1 10 rfl rfl)
theorem dX6_wayFrom_35 : decode cX6_wayFrom 35 = .ok (.goto 11, 3) := dk_167 0 11 (dk_at dksX6_wayFrom_1 12 rfl rfl)
theorem dX6_wayFrom_38 : decode cX6_wayFrom 38 = .ok (.aload_n 0, 1) := dk_42 (dk_at dksX6_wayFrom_1 15 rfl rfl)
theorem dX6_wayFrom_39 : decode cX6_wayFrom 39 = .ok (.iload_n 1, 1) := dk_27 (dk_at dksX6_wayFrom_1 16 rfl rfl)
theorem dX6_wayFrom_40 : decode cX6_wayFrom 40 = .ok (.iload 6, 2) := dk_21 6 (dk_at dksX6_wayFrom_1 17 rfl rfl)
theorem dX6_wayFrom_42 : decode cX6_wayFrom 42 = .ok (.iconst 0, 1) := dk_3 (dk_at dksX6_wayFrom_1 19 rfl rfl)
theorem dX6_wayFrom_43 : decode cX6_wayFrom 43 = .ok (.invokevirtual 86, 3) := dk_182 0 86 (dk_at dksX6_wayFrom_1 20 rfl rfl)
theorem dX6_wayFrom_46 : decode cX6_wayFrom 46 = .ok (.istore 7, 2) := dk_54 7 (dk_at dksX6_wayFrom_2 0 rfl rfl)
theorem dX6_wayFrom_48 : decode cX6_wayFrom 48 = .ok (.iload 7, 2) := dk_21 7 (dk_at dksX6_wayFrom_2 2 rfl rfl)
theorem dX6_wayFrom_50 : decode cX6_wayFrom 50 = .ok (.iload 4, 2) := dk_21 4 (dk_at dksX6_wayFrom_2 4 rfl rfl)
theorem dX6_wayFrom_52 : decode cX6_wayFrom 52 = .ok (.if_icmp .le 8, 3) := dk_164 0 8 (dk_at dksX6_wayFrom_2 6 rfl rfl)
theorem dX6_wayFrom_55 : decode cX6_wayFrom 55 = .ok (.iload 5, 2) := dk_21 5 (dk_at dksX6_wayFrom_2 9 rfl rfl)
theorem dX6_wayFrom_57 : decode cX6_wayFrom 57 = .ok (.goto 4, 3) := dk_167 0 4 (dk_at dksX6_wayFrom_2 11 rfl rfl)
theorem dX6_wayFrom_60 : decode cX6_wayFrom 60 = .ok (.iload_n 3, 1) := dk_29 (dk_at dksX6_wayFrom_2 14 rfl rfl)
theorem dX6_wayFrom_61 : decode cX6_wayFrom 61 = .ok (.istore_n 3, 1) := dk_62 (dk_at dksX6_wayFrom_2 15 rfl rfl)
theorem dX6_wayFrom_62 : decode cX6_wayFrom 62 = .ok (.iload 7, 2) := dk_21 7 (dk_at dksX6_wayFrom_2 16 rfl rfl)
theorem dX6_wayFrom_64 : decode cX6_wayFrom 64 = .ok (.iload 4, 2) := dk_21 4 (dk_at dksX6_wayFrom_2 18 rfl rfl)
theorem dX6_wayFrom_66 : decode cX6_wayFrom 66 = .ok (.if_icmp .le 8, 3) := dk_164 0 8 (dk_at dksX6_wayFrom_2 20 rfl rfl)
theorem dX6_wayFrom_69 : decode cX6_wayFrom 69 = .ok (.iload 7, 2) := dk_21 7 (dk_at dksX6_wayFrom_3 0 rfl rfl)
theorem dX6_wayFrom_71 : decode cX6_wayFrom 71 = .ok (.goto 5, 3) := dk_167 0 5 (dk_at dksX6_wayFrom_3 2 rfl rfl)
theorem dX6_wayFrom_74 : decode cX6_wayFrom 74 = .ok (.iload 4, 2) := dk_21 4 (dk_at dksX6_wayFrom_3 5 rfl rfl)
theorem dX6_wayFrom_76 : decode cX6_wayFrom 76 = .ok (.istore 4, 2) := dk_54 4 (dk_at dksX6_wayFrom_3 7 rfl rfl)
theorem dX6_wayFrom_78 : decode cX6_wayFrom 78 = .ok (.iinc 5 1, 3) := dk_132 5 1 (dk_at dksX6_wayFrom_3 9 rfl rfl)
theorem dX6_wayFrom_81 : decode cX6_wayFrom 81 = .ok (.goto (-67), 3) := dk_167 255 189 (dk_at dksX6_wayFrom_3 12 rfl rfl)
theorem dX6_wayFrom_84 : decode cX6_wayFrom 84 = .ok (.iload_n 3, 1) := dk_29 (dk_at dksX6_wayFrom_3 15 rfl rfl)
theorem dX6_wayFrom_85 : decode cX6_wayFrom 85 = .ok (.ireturn, 1) := dk_172 (dk_at dksX6_wayFrom_3 16 rfl rfl)
abbrev cX6_wantsOf : ByteArray := prog_30_method_19_code
def yX6_wantsOf : MethodName := ⟨RX6, "wantsOf", "(IIZ)I"⟩
def dkwX6_wantsOf_8 : List UInt8 := [96, 172, 21, 4, 172]
abbrev dktX6_wantsOf_8 : List UInt8 := dkwX6_wantsOf_8 ++ []
def dkwX6_wantsOf_7 : List UInt8 := [21, 4, 29, 153, 0, 8, 21, 5, 167, 0, 4, 3, 96, 21, 6, 153, 0, 8, 16, 20, 167, 0, 4, 3]
abbrev dktX6_wantsOf_7 : List UInt8 := dkwX6_wantsOf_7 ++ dktX6_wantsOf_8
def dkwX6_wantsOf_6 : List UInt8 := [21, 4, 8, 21, 5, 104, 96, 172, 29, 153, 0, 11, 21, 4, 21, 5, 96, 167, 0, 5, 21, 4, 172]
abbrev dktX6_wantsOf_6 : List UInt8 := dkwX6_wantsOf_6 ++ dktX6_wantsOf_7
def dkwX6_wantsOf_5 : List UInt8 := [21, 4, 16, 50, 100, 167, 0, 5, 21, 4, 172, 21, 6, 153, 0, 11, 21, 4, 16, 50, 100, 167, 0, 10]
abbrev dktX6_wantsOf_5 : List UInt8 := dkwX6_wantsOf_5 ++ dktX6_wantsOf_6
def dkwX6_wantsOf_4 : List UInt8 := [16, 8, 28, 96, 46, 104, 96, 29, 153, 0, 8, 16, 20, 167, 0, 4, 3, 100, 172, 21, 6, 153, 0, 11]
abbrev dktX6_wantsOf_4 : List UInt8 := dkwX6_wantsOf_4 ++ dktX6_wantsOf_5
def dkwX6_wantsOf_3 : List UInt8 := [21, 4, 16, 10, 42, 180, 0, 7, 16, 8, 28, 96, 46, 104, 96, 172, 21, 4, 16, 10, 42, 180, 0, 7]
abbrev dktX6_wantsOf_3 : List UInt8 := dkwX6_wantsOf_3 ++ dktX6_wantsOf_4
def dkwX6_wantsOf_2 : List UInt8 := [170, 0, 0, 0, 0, 159, 0, 0, 0, 1, 0, 0, 0, 6, 0, 0, 0, 38, 0, 0, 0, 81, 0, 0, 0, 118, 0, 0, 0, 54, 0, 0, 0, 97, 0, 0, 0, 133]
abbrev dktX6_wantsOf_2 : List UInt8 := dkwX6_wantsOf_2 ++ dktX6_wantsOf_3
def dkwX6_wantsOf_1 : List UInt8 := [155, 0, 7, 4, 167, 0, 4, 3, 54, 6, 42, 27, 3, 182, 0, 69]
abbrev dktX6_wantsOf_1 : List UInt8 := dkwX6_wantsOf_1 ++ dktX6_wantsOf_2
def dkwX6_wantsOf_0 : List UInt8 := [42, 28, 182, 0, 66, 54, 4, 42, 27, 4, 182, 0, 69, 54, 5, 42, 27, 28, 3, 182, 0, 82]
abbrev dktX6_wantsOf_0 : List UInt8 := dkwX6_wantsOf_0 ++ dktX6_wantsOf_1
theorem dksX6_wantsOf_0 : cX6_wantsOf.data.toList.drop 0 = dktX6_wantsOf_0 := by decide +kernel
theorem dksX6_wantsOf_1 : cX6_wantsOf.data.toList.drop 22 = dktX6_wantsOf_1 := dk_seg dksX6_wantsOf_0 22 rfl rfl
theorem dksX6_wantsOf_2 : cX6_wantsOf.data.toList.drop 38 = dktX6_wantsOf_2 := dk_seg dksX6_wantsOf_1 16 rfl rfl
theorem dksX6_wantsOf_3 : cX6_wantsOf.data.toList.drop 76 = dktX6_wantsOf_3 := dk_seg dksX6_wantsOf_2 38 rfl rfl
theorem dksX6_wantsOf_4 : cX6_wantsOf.data.toList.drop 100 = dktX6_wantsOf_4 := dk_seg dksX6_wantsOf_3 24 rfl rfl
theorem dksX6_wantsOf_5 : cX6_wantsOf.data.toList.drop 124 = dktX6_wantsOf_5 := dk_seg dksX6_wantsOf_4 24 rfl rfl
theorem dksX6_wantsOf_6 : cX6_wantsOf.data.toList.drop 148 = dktX6_wantsOf_6 := dk_seg dksX6_wantsOf_5 24 rfl rfl
theorem dksX6_wantsOf_7 : cX6_wantsOf.data.toList.drop 171 = dktX6_wantsOf_7 := dk_seg dksX6_wantsOf_6 23 rfl rfl
theorem dksX6_wantsOf_8 : cX6_wantsOf.data.toList.drop 195 = dktX6_wantsOf_8 := dk_seg dksX6_wantsOf_7 24 rfl rfl
theorem dX6_wantsOf_0 : decode cX6_wantsOf 0 = .ok (.aload_n 0, 1) := dk_42 (dk_at dksX6_wantsOf_0 0 rfl rfl)
theorem dX6_wantsOf_1 : decode cX6_wantsOf 1 = .ok (.iload_n 2, 1) := dk_28 (dk_at dksX6_wantsOf_0 1 rfl rfl)
theorem dX6_wantsOf_2 : decode cX6_wantsOf 2 = .ok (.invokevirtual 66, 3) := dk_182 0 66 (dk_at dksX6_wantsOf_0 2 rfl rfl)
theorem dX6_wantsOf_5 : decode cX6_wantsOf 5 = .ok (.istore 4, 2) := dk_54 4 (dk_at dksX6_wantsOf_0 5 rfl rfl)
theorem dX6_wantsOf_7 : decode cX6_wantsOf 7 = .ok (.aload_n 0, 1) := dk_42 (dk_at dksX6_wantsOf_0 7 rfl rfl)
theorem dX6_wantsOf_8 : decode cX6_wantsOf 8 = .ok (.iload_n 1, 1) := dk_27 (dk_at dksX6_wantsOf_0 8 rfl rfl)
theorem dX6_wantsOf_9 : decode cX6_wantsOf 9 = .ok (.iconst 1, 1) := dk_4 (dk_at dksX6_wantsOf_0 9 rfl rfl)
theorem dX6_wantsOf_10 : decode cX6_wantsOf 10 = .ok (.invokevirtual 69, 3) := dk_182 0 69 (dk_at dksX6_wantsOf_0 10 rfl rfl)
theorem dX6_wantsOf_13 : decode cX6_wantsOf 13 = .ok (.istore 5, 2) := dk_54 5 (dk_at dksX6_wantsOf_0 13 rfl rfl)
theorem dX6_wantsOf_15 : decode cX6_wantsOf 15 = .ok (.aload_n 0, 1) := dk_42 (dk_at dksX6_wantsOf_0 15 rfl rfl)
theorem dX6_wantsOf_16 : decode cX6_wantsOf 16 = .ok (.iload_n 1, 1) := dk_27 (dk_at dksX6_wantsOf_0 16 rfl rfl)
theorem dX6_wantsOf_17 : decode cX6_wantsOf 17 = .ok (.iload_n 2, 1) := dk_28 (dk_at dksX6_wantsOf_0 17 rfl rfl)
theorem dX6_wantsOf_18 : decode cX6_wantsOf 18 = .ok (.iconst 0, 1) := dk_3 (dk_at dksX6_wantsOf_0 18 rfl rfl)
theorem dX6_wantsOf_19 : decode cX6_wantsOf 19 = .ok (.invokevirtual 82, 3) := dk_182 0 82 (dk_at dksX6_wantsOf_0 19 rfl rfl)
theorem dX6_wantsOf_22 : decode cX6_wantsOf 22 = .ok (.ifCond .lt 7, 3) := dk_155 0 7 (dk_at dksX6_wantsOf_1 0 rfl rfl)
theorem dX6_wantsOf_25 : decode cX6_wantsOf 25 = .ok (.iconst 1, 1) := dk_4 (dk_at dksX6_wantsOf_1 3 rfl rfl)
theorem dX6_wantsOf_26 : decode cX6_wantsOf 26 = .ok (.goto 4, 3) := dk_167 0 4 (dk_at dksX6_wantsOf_1 4 rfl rfl)
theorem dX6_wantsOf_29 : decode cX6_wantsOf 29 = .ok (.iconst 0, 1) := dk_3 (dk_at dksX6_wantsOf_1 7 rfl rfl)
theorem dX6_wantsOf_30 : decode cX6_wantsOf 30 = .ok (.istore 6, 2) := dk_54 6 (dk_at dksX6_wantsOf_1 8 rfl rfl)
theorem dX6_wantsOf_32 : decode cX6_wantsOf 32 = .ok (.aload_n 0, 1) := dk_42 (dk_at dksX6_wantsOf_1 10 rfl rfl)
theorem dX6_wantsOf_33 : decode cX6_wantsOf 33 = .ok (.iload_n 1, 1) := dk_27 (dk_at dksX6_wantsOf_1 11 rfl rfl)
theorem dX6_wantsOf_34 : decode cX6_wantsOf 34 = .ok (.iconst 0, 1) := dk_3 (dk_at dksX6_wantsOf_1 12 rfl rfl)
theorem dX6_wantsOf_35 : decode cX6_wantsOf 35 = .ok (.invokevirtual 69, 3) := dk_182 0 69 (dk_at dksX6_wantsOf_1 13 rfl rfl)
theorem dX6_wantsOf_38 : decode cX6_wantsOf 38 = .ok (.tableswitch 159 1 6 #[38, 81, 118, 54, 97, 133], 38) := by decide +kernel
theorem dX6_wantsOf_76 : decode cX6_wantsOf 76 = .ok (.iload 4, 2) := dk_21 4 (dk_at dksX6_wantsOf_3 0 rfl rfl)
theorem dX6_wantsOf_78 : decode cX6_wantsOf 78 = .ok (.bipush 10, 2) := dk_16 10 (dk_at dksX6_wantsOf_3 2 rfl rfl)
theorem dX6_wantsOf_80 : decode cX6_wantsOf 80 = .ok (.aload_n 0, 1) := dk_42 (dk_at dksX6_wantsOf_3 4 rfl rfl)
theorem dX6_wantsOf_81 : decode cX6_wantsOf 81 = .ok (.getfield 7, 3) := dk_180 0 7 (dk_at dksX6_wantsOf_3 5 rfl rfl)
theorem dX6_wantsOf_84 : decode cX6_wantsOf 84 = .ok (.bipush 8, 2) := dk_16 8 (dk_at dksX6_wantsOf_3 8 rfl rfl)
theorem dX6_wantsOf_86 : decode cX6_wantsOf 86 = .ok (.iload_n 2, 1) := dk_28 (dk_at dksX6_wantsOf_3 10 rfl rfl)
theorem dX6_wantsOf_87 : decode cX6_wantsOf 87 = .ok (.iadd, 1) := dk_96 (dk_at dksX6_wantsOf_3 11 rfl rfl)
theorem dX6_wantsOf_88 : decode cX6_wantsOf 88 = .ok (.iaload, 1) := dk_46 (dk_at dksX6_wantsOf_3 12 rfl rfl)
theorem dX6_wantsOf_89 : decode cX6_wantsOf 89 = .ok (.imul, 1) := dk_104 (dk_at dksX6_wantsOf_3 13 rfl rfl)
theorem dX6_wantsOf_90 : decode cX6_wantsOf 90 = .ok (.iadd, 1) := dk_96 (dk_at dksX6_wantsOf_3 14 rfl rfl)
theorem dX6_wantsOf_91 : decode cX6_wantsOf 91 = .ok (.ireturn, 1) := dk_172 (dk_at dksX6_wantsOf_3 15 rfl rfl)
theorem dX6_wantsOf_92 : decode cX6_wantsOf 92 = .ok (.iload 4, 2) := dk_21 4 (dk_at dksX6_wantsOf_3 16 rfl rfl)
theorem dX6_wantsOf_94 : decode cX6_wantsOf 94 = .ok (.bipush 10, 2) := dk_16 10 (dk_at dksX6_wantsOf_3 18 rfl rfl)
theorem dX6_wantsOf_96 : decode cX6_wantsOf 96 = .ok (.aload_n 0, 1) := dk_42 (dk_at dksX6_wantsOf_3 20 rfl rfl)
theorem dX6_wantsOf_97 : decode cX6_wantsOf 97 = .ok (.getfield 7, 3) := dk_180 0 7 (dk_at dksX6_wantsOf_3 21 rfl rfl)
theorem dX6_wantsOf_100 : decode cX6_wantsOf 100 = .ok (.bipush 8, 2) := dk_16 8 (dk_at dksX6_wantsOf_4 0 rfl rfl)
theorem dX6_wantsOf_102 : decode cX6_wantsOf 102 = .ok (.iload_n 2, 1) := dk_28 (dk_at dksX6_wantsOf_4 2 rfl rfl)
theorem dX6_wantsOf_103 : decode cX6_wantsOf 103 = .ok (.iadd, 1) := dk_96 (dk_at dksX6_wantsOf_4 3 rfl rfl)
theorem dX6_wantsOf_104 : decode cX6_wantsOf 104 = .ok (.iaload, 1) := dk_46 (dk_at dksX6_wantsOf_4 4 rfl rfl)
theorem dX6_wantsOf_105 : decode cX6_wantsOf 105 = .ok (.imul, 1) := dk_104 (dk_at dksX6_wantsOf_4 5 rfl rfl)
theorem dX6_wantsOf_106 : decode cX6_wantsOf 106 = .ok (.iadd, 1) := dk_96 (dk_at dksX6_wantsOf_4 6 rfl rfl)
theorem dX6_wantsOf_107 : decode cX6_wantsOf 107 = .ok (.iload_n 3, 1) := dk_29 (dk_at dksX6_wantsOf_4 7 rfl rfl)
theorem dX6_wantsOf_108 : decode cX6_wantsOf 108 = .ok (.ifCond .eq 8, 3) := dk_153 0 8 (dk_at dksX6_wantsOf_4 8 rfl rfl)
theorem dX6_wantsOf_111 : decode cX6_wantsOf 111 = .ok (.bipush 20, 2) := dk_16 20 (dk_at dksX6_wantsOf_4 11 rfl rfl)
theorem dX6_wantsOf_113 : decode cX6_wantsOf 113 = .ok (.goto 4, 3) := dk_167 0 4 (dk_at dksX6_wantsOf_4 13 rfl rfl)
theorem dX6_wantsOf_116 : decode cX6_wantsOf 116 = .ok (.iconst 0, 1) := dk_3 (dk_at dksX6_wantsOf_4 16 rfl rfl)
theorem dX6_wantsOf_117 : decode cX6_wantsOf 117 = .ok (.isub, 1) := dk_100 (dk_at dksX6_wantsOf_4 17 rfl rfl)
theorem dX6_wantsOf_118 : decode cX6_wantsOf 118 = .ok (.ireturn, 1) := dk_172 (dk_at dksX6_wantsOf_4 18 rfl rfl)
theorem dX6_wantsOf_119 : decode cX6_wantsOf 119 = .ok (.iload 6, 2) := dk_21 6 (dk_at dksX6_wantsOf_4 19 rfl rfl)
theorem dX6_wantsOf_121 : decode cX6_wantsOf 121 = .ok (.ifCond .eq 11, 3) := dk_153 0 11 (dk_at dksX6_wantsOf_4 21 rfl rfl)
theorem dX6_wantsOf_124 : decode cX6_wantsOf 124 = .ok (.iload 4, 2) := dk_21 4 (dk_at dksX6_wantsOf_5 0 rfl rfl)
theorem dX6_wantsOf_126 : decode cX6_wantsOf 126 = .ok (.bipush 50, 2) := dk_16 50 (dk_at dksX6_wantsOf_5 2 rfl rfl)
theorem dX6_wantsOf_128 : decode cX6_wantsOf 128 = .ok (.isub, 1) := dk_100 (dk_at dksX6_wantsOf_5 4 rfl rfl)
theorem dX6_wantsOf_129 : decode cX6_wantsOf 129 = .ok (.goto 5, 3) := dk_167 0 5 (dk_at dksX6_wantsOf_5 5 rfl rfl)
theorem dX6_wantsOf_132 : decode cX6_wantsOf 132 = .ok (.iload 4, 2) := dk_21 4 (dk_at dksX6_wantsOf_5 8 rfl rfl)
theorem dX6_wantsOf_134 : decode cX6_wantsOf 134 = .ok (.ireturn, 1) := dk_172 (dk_at dksX6_wantsOf_5 10 rfl rfl)
theorem dX6_wantsOf_135 : decode cX6_wantsOf 135 = .ok (.iload 6, 2) := dk_21 6 (dk_at dksX6_wantsOf_5 11 rfl rfl)
theorem dX6_wantsOf_137 : decode cX6_wantsOf 137 = .ok (.ifCond .eq 11, 3) := dk_153 0 11 (dk_at dksX6_wantsOf_5 13 rfl rfl)
theorem dX6_wantsOf_140 : decode cX6_wantsOf 140 = .ok (.iload 4, 2) := dk_21 4 (dk_at dksX6_wantsOf_5 16 rfl rfl)
theorem dX6_wantsOf_142 : decode cX6_wantsOf 142 = .ok (.bipush 50, 2) := dk_16 50 (dk_at dksX6_wantsOf_5 18 rfl rfl)
theorem dX6_wantsOf_144 : decode cX6_wantsOf 144 = .ok (.isub, 1) := dk_100 (dk_at dksX6_wantsOf_5 20 rfl rfl)
theorem dX6_wantsOf_145 : decode cX6_wantsOf 145 = .ok (.goto 10, 3) := dk_167 0 10 (dk_at dksX6_wantsOf_5 21 rfl rfl)
theorem dX6_wantsOf_148 : decode cX6_wantsOf 148 = .ok (.iload 4, 2) := dk_21 4 (dk_at dksX6_wantsOf_6 0 rfl rfl)
theorem dX6_wantsOf_150 : decode cX6_wantsOf 150 = .ok (.iconst 5, 1) := dk_8 (dk_at dksX6_wantsOf_6 2 rfl rfl)
theorem dX6_wantsOf_151 : decode cX6_wantsOf 151 = .ok (.iload 5, 2) := dk_21 5 (dk_at dksX6_wantsOf_6 3 rfl rfl)
theorem dX6_wantsOf_153 : decode cX6_wantsOf 153 = .ok (.imul, 1) := dk_104 (dk_at dksX6_wantsOf_6 5 rfl rfl)
theorem dX6_wantsOf_154 : decode cX6_wantsOf 154 = .ok (.iadd, 1) := dk_96 (dk_at dksX6_wantsOf_6 6 rfl rfl)
theorem dX6_wantsOf_155 : decode cX6_wantsOf 155 = .ok (.ireturn, 1) := dk_172 (dk_at dksX6_wantsOf_6 7 rfl rfl)
theorem dX6_wantsOf_156 : decode cX6_wantsOf 156 = .ok (.iload_n 3, 1) := dk_29 (dk_at dksX6_wantsOf_6 8 rfl rfl)
theorem dX6_wantsOf_157 : decode cX6_wantsOf 157 = .ok (.ifCond .eq 11, 3) := dk_153 0 11 (dk_at dksX6_wantsOf_6 9 rfl rfl)
theorem dX6_wantsOf_160 : decode cX6_wantsOf 160 = .ok (.iload 4, 2) := dk_21 4 (dk_at dksX6_wantsOf_6 12 rfl rfl)
theorem dX6_wantsOf_162 : decode cX6_wantsOf 162 = .ok (.iload 5, 2) := dk_21 5 (dk_at dksX6_wantsOf_6 14 rfl rfl)
theorem dX6_wantsOf_164 : decode cX6_wantsOf 164 = .ok (.iadd, 1) := dk_96 (dk_at dksX6_wantsOf_6 16 rfl rfl)
theorem dX6_wantsOf_165 : decode cX6_wantsOf 165 = .ok (.goto 5, 3) := dk_167 0 5 (dk_at dksX6_wantsOf_6 17 rfl rfl)
theorem dX6_wantsOf_168 : decode cX6_wantsOf 168 = .ok (.iload 4, 2) := dk_21 4 (dk_at dksX6_wantsOf_6 20 rfl rfl)
theorem dX6_wantsOf_170 : decode cX6_wantsOf 170 = .ok (.ireturn, 1) := dk_172 (dk_at dksX6_wantsOf_6 22 rfl rfl)
theorem dX6_wantsOf_171 : decode cX6_wantsOf 171 = .ok (.iload 4, 2) := dk_21 4 (dk_at dksX6_wantsOf_7 0 rfl rfl)
theorem dX6_wantsOf_173 : decode cX6_wantsOf 173 = .ok (.iload_n 3, 1) := dk_29 (dk_at dksX6_wantsOf_7 2 rfl rfl)
theorem dX6_wantsOf_174 : decode cX6_wantsOf 174 = .ok (.ifCond .eq 8, 3) := dk_153 0 8 (dk_at dksX6_wantsOf_7 3 rfl rfl)
theorem dX6_wantsOf_177 : decode cX6_wantsOf 177 = .ok (.iload 5, 2) := dk_21 5 (dk_at dksX6_wantsOf_7 6 rfl rfl)
theorem dX6_wantsOf_179 : decode cX6_wantsOf 179 = .ok (.goto 4, 3) := dk_167 0 4 (dk_at dksX6_wantsOf_7 8 rfl rfl)
theorem dX6_wantsOf_182 : decode cX6_wantsOf 182 = .ok (.iconst 0, 1) := dk_3 (dk_at dksX6_wantsOf_7 11 rfl rfl)
theorem dX6_wantsOf_183 : decode cX6_wantsOf 183 = .ok (.iadd, 1) := dk_96 (dk_at dksX6_wantsOf_7 12 rfl rfl)
theorem dX6_wantsOf_184 : decode cX6_wantsOf 184 = .ok (.iload 6, 2) := dk_21 6 (dk_at dksX6_wantsOf_7 13 rfl rfl)
theorem dX6_wantsOf_186 : decode cX6_wantsOf 186 = .ok (.ifCond .eq 8, 3) := dk_153 0 8 (dk_at dksX6_wantsOf_7 15 rfl rfl)
theorem dX6_wantsOf_189 : decode cX6_wantsOf 189 = .ok (.bipush 20, 2) := dk_16 20 (dk_at dksX6_wantsOf_7 18 rfl rfl)
theorem dX6_wantsOf_191 : decode cX6_wantsOf 191 = .ok (.goto 4, 3) := dk_167 0 4 (dk_at dksX6_wantsOf_7 20 rfl rfl)
theorem dX6_wantsOf_194 : decode cX6_wantsOf 194 = .ok (.iconst 0, 1) := dk_3 (dk_at dksX6_wantsOf_7 23 rfl rfl)
theorem dX6_wantsOf_195 : decode cX6_wantsOf 195 = .ok (.iadd, 1) := dk_96 (dk_at dksX6_wantsOf_8 0 rfl rfl)
theorem dX6_wantsOf_196 : decode cX6_wantsOf 196 = .ok (.ireturn, 1) := dk_172 (dk_at dksX6_wantsOf_8 1 rfl rfl)
theorem dX6_wantsOf_197 : decode cX6_wantsOf 197 = .ok (.iload 4, 2) := dk_21 4 (dk_at dksX6_wantsOf_8 2 rfl rfl)
theorem dX6_wantsOf_199 : decode cX6_wantsOf 199 = .ok (.ireturn, 1) := dk_172 (dk_at dksX6_wantsOf_8 4 rfl rfl)
abbrev cX6_inMilk : ByteArray := prog_30_method_18_code
def yX6_inMilk : MethodName := ⟨RX6, "inMilk", "(III)I"⟩
def dkwX6_inMilk_1 : List UInt8 := [160, 0, 6, 21, 4, 172, 132, 4, 1, 167, 255, 226, 2, 172]
abbrev dktX6_inMilk_1 : List UInt8 := dkwX6_inMilk_1 ++ []
def dkwX6_inMilk_0 : List UInt8 := [29, 54, 4, 21, 4, 42, 27, 6, 182, 0, 69, 162, 0, 25, 42, 27, 7, 21, 4, 96, 182, 0, 69, 28]
abbrev dktX6_inMilk_0 : List UInt8 := dkwX6_inMilk_0 ++ dktX6_inMilk_1
theorem dksX6_inMilk_0 : cX6_inMilk.data.toList.drop 0 = dktX6_inMilk_0 := by decide +kernel
theorem dksX6_inMilk_1 : cX6_inMilk.data.toList.drop 24 = dktX6_inMilk_1 := dk_seg dksX6_inMilk_0 24 rfl rfl
theorem dX6_inMilk_0 : decode cX6_inMilk 0 = .ok (.iload_n 3, 1) := dk_29 (dk_at dksX6_inMilk_0 0 rfl rfl)
theorem dX6_inMilk_1 : decode cX6_inMilk 1 = .ok (.istore 4, 2) := dk_54 4 (dk_at dksX6_inMilk_0 1 rfl rfl)
theorem dX6_inMilk_3 : decode cX6_inMilk 3 = .ok (.iload 4, 2) := dk_21 4 (dk_at dksX6_inMilk_0 3 rfl rfl)
theorem dX6_inMilk_5 : decode cX6_inMilk 5 = .ok (.aload_n 0, 1) := dk_42 (dk_at dksX6_inMilk_0 5 rfl rfl)
theorem dX6_inMilk_6 : decode cX6_inMilk 6 = .ok (.iload_n 1, 1) := dk_27 (dk_at dksX6_inMilk_0 6 rfl rfl)
theorem dX6_inMilk_7 : decode cX6_inMilk 7 = .ok (.iconst 3, 1) := dk_6 (dk_at dksX6_inMilk_0 7 rfl rfl)
theorem dX6_inMilk_8 : decode cX6_inMilk 8 = .ok (.invokevirtual 69, 3) := dk_182 0 69 (dk_at dksX6_inMilk_0 8 rfl rfl)
theorem dX6_inMilk_11 : decode cX6_inMilk 11 = .ok (.if_icmp .ge 25, 3) := dk_162 0 25 (dk_at dksX6_inMilk_0 11 rfl rfl)
theorem dX6_inMilk_14 : decode cX6_inMilk 14 = .ok (.aload_n 0, 1) := dk_42 (dk_at dksX6_inMilk_0 14 rfl rfl)
theorem dX6_inMilk_15 : decode cX6_inMilk 15 = .ok (.iload_n 1, 1) := dk_27 (dk_at dksX6_inMilk_0 15 rfl rfl)
theorem dX6_inMilk_16 : decode cX6_inMilk 16 = .ok (.iconst 4, 1) := dk_7 (dk_at dksX6_inMilk_0 16 rfl rfl)
theorem dX6_inMilk_17 : decode cX6_inMilk 17 = .ok (.iload 4, 2) := dk_21 4 (dk_at dksX6_inMilk_0 17 rfl rfl)
theorem dX6_inMilk_19 : decode cX6_inMilk 19 = .ok (.iadd, 1) := dk_96 (dk_at dksX6_inMilk_0 19 rfl rfl)
theorem dX6_inMilk_20 : decode cX6_inMilk 20 = .ok (.invokevirtual 69, 3) := dk_182 0 69 (dk_at dksX6_inMilk_0 20 rfl rfl)
theorem dX6_inMilk_23 : decode cX6_inMilk 23 = .ok (.iload_n 2, 1) := dk_28 (dk_at dksX6_inMilk_0 23 rfl rfl)
theorem dX6_inMilk_24 : decode cX6_inMilk 24 = .ok (.if_icmp .ne 6, 3) := dk_160 0 6 (dk_at dksX6_inMilk_1 0 rfl rfl)
theorem dX6_inMilk_27 : decode cX6_inMilk 27 = .ok (.iload 4, 2) := dk_21 4 (dk_at dksX6_inMilk_1 3 rfl rfl)
theorem dX6_inMilk_29 : decode cX6_inMilk 29 = .ok (.ireturn, 1) := dk_172 (dk_at dksX6_inMilk_1 5 rfl rfl)
theorem dX6_inMilk_30 : decode cX6_inMilk 30 = .ok (.iinc 4 1, 3) := dk_132 4 1 (dk_at dksX6_inMilk_1 6 rfl rfl)
theorem dX6_inMilk_33 : decode cX6_inMilk 33 = .ok (.goto (-30), 3) := dk_167 255 226 (dk_at dksX6_inMilk_1 9 rfl rfl)
theorem dX6_inMilk_36 : decode cX6_inMilk 36 = .ok (.iconst (-1), 1) := dk_2 (dk_at dksX6_inMilk_1 12 rfl rfl)
theorem dX6_inMilk_37 : decode cX6_inMilk 37 = .ok (.ireturn, 1) := dk_172 (dk_at dksX6_inMilk_1 13 rfl rfl)
abbrev cX6_beside : ByteArray := prog_30_method_9_code
def yX6_beside : MethodName := ⟨RX6, "beside", "(II)I"⟩
def dkwX6_beside_4 : List UInt8 := [2, 167, 0, 6, 26, 4, 100, 172, 26, 172]
abbrev dktX6_beside_4 : List UInt8 := dkwX6_beside_4 ++ []
def dkwX6_beside_3 : List UInt8 := [26, 4, 96, 172, 26, 16, 20, 161, 0, 7, 2, 167, 0, 6, 26, 8, 96, 172, 26, 8, 112, 154, 0, 7]
abbrev dktX6_beside_3 : List UInt8 := dkwX6_beside_3 ++ dktX6_beside_4
def dkwX6_beside_2 : List UInt8 := [26, 8, 162, 0, 7, 2, 167, 0, 6, 26, 8, 100, 172, 26, 8, 112, 7, 160, 0, 7, 2, 167, 0, 6]
abbrev dktX6_beside_2 : List UInt8 := dkwX6_beside_2 ++ dktX6_beside_3
def dkwX6_beside_1 : List UInt8 := [170, 0, 0, 0, 0, 0, 87, 0, 0, 0, 1, 0, 0, 0, 4, 0, 0, 0, 31, 0, 0, 0, 44, 0, 0, 0, 59, 0, 0, 0, 73]
abbrev dktX6_beside_1 : List UInt8 := dkwX6_beside_1 ++ dktX6_beside_2
def dkwX6_beside_0 : List UInt8 := [27]
abbrev dktX6_beside_0 : List UInt8 := dkwX6_beside_0 ++ dktX6_beside_1
theorem dksX6_beside_0 : cX6_beside.data.toList.drop 0 = dktX6_beside_0 := by decide +kernel
theorem dksX6_beside_1 : cX6_beside.data.toList.drop 1 = dktX6_beside_1 := dk_seg dksX6_beside_0 1 rfl rfl
theorem dksX6_beside_2 : cX6_beside.data.toList.drop 32 = dktX6_beside_2 := dk_seg dksX6_beside_1 31 rfl rfl
theorem dksX6_beside_3 : cX6_beside.data.toList.drop 56 = dktX6_beside_3 := dk_seg dksX6_beside_2 24 rfl rfl
theorem dksX6_beside_4 : cX6_beside.data.toList.drop 80 = dktX6_beside_4 := dk_seg dksX6_beside_3 24 rfl rfl
theorem dX6_beside_0 : decode cX6_beside 0 = .ok (.iload_n 1, 1) := dk_27 (dk_at dksX6_beside_0 0 rfl rfl)
theorem dX6_beside_1 : decode cX6_beside 1 = .ok (.tableswitch 87 1 4 #[31, 44, 59, 73], 31) := by decide +kernel
theorem dX6_beside_32 : decode cX6_beside 32 = .ok (.iload_n 0, 1) := dk_26 (dk_at dksX6_beside_2 0 rfl rfl)
theorem dX6_beside_33 : decode cX6_beside 33 = .ok (.iconst 5, 1) := dk_8 (dk_at dksX6_beside_2 1 rfl rfl)
theorem dX6_beside_34 : decode cX6_beside 34 = .ok (.if_icmp .ge 7, 3) := dk_162 0 7 (dk_at dksX6_beside_2 2 rfl rfl)
theorem dX6_beside_37 : decode cX6_beside 37 = .ok (.iconst (-1), 1) := dk_2 (dk_at dksX6_beside_2 5 rfl rfl)
theorem dX6_beside_38 : decode cX6_beside 38 = .ok (.goto 6, 3) := dk_167 0 6 (dk_at dksX6_beside_2 6 rfl rfl)
theorem dX6_beside_41 : decode cX6_beside 41 = .ok (.iload_n 0, 1) := dk_26 (dk_at dksX6_beside_2 9 rfl rfl)
theorem dX6_beside_42 : decode cX6_beside 42 = .ok (.iconst 5, 1) := dk_8 (dk_at dksX6_beside_2 10 rfl rfl)
theorem dX6_beside_43 : decode cX6_beside 43 = .ok (.isub, 1) := dk_100 (dk_at dksX6_beside_2 11 rfl rfl)
theorem dX6_beside_44 : decode cX6_beside 44 = .ok (.ireturn, 1) := dk_172 (dk_at dksX6_beside_2 12 rfl rfl)
theorem dX6_beside_45 : decode cX6_beside 45 = .ok (.iload_n 0, 1) := dk_26 (dk_at dksX6_beside_2 13 rfl rfl)
theorem dX6_beside_46 : decode cX6_beside 46 = .ok (.iconst 5, 1) := dk_8 (dk_at dksX6_beside_2 14 rfl rfl)
theorem dX6_beside_47 : decode cX6_beside 47 = .ok (.irem, 1) := dk_112 (dk_at dksX6_beside_2 15 rfl rfl)
theorem dX6_beside_48 : decode cX6_beside 48 = .ok (.iconst 4, 1) := dk_7 (dk_at dksX6_beside_2 16 rfl rfl)
theorem dX6_beside_49 : decode cX6_beside 49 = .ok (.if_icmp .ne 7, 3) := dk_160 0 7 (dk_at dksX6_beside_2 17 rfl rfl)
theorem dX6_beside_52 : decode cX6_beside 52 = .ok (.iconst (-1), 1) := dk_2 (dk_at dksX6_beside_2 20 rfl rfl)
theorem dX6_beside_53 : decode cX6_beside 53 = .ok (.goto 6, 3) := dk_167 0 6 (dk_at dksX6_beside_2 21 rfl rfl)
theorem dX6_beside_56 : decode cX6_beside 56 = .ok (.iload_n 0, 1) := dk_26 (dk_at dksX6_beside_3 0 rfl rfl)
theorem dX6_beside_57 : decode cX6_beside 57 = .ok (.iconst 1, 1) := dk_4 (dk_at dksX6_beside_3 1 rfl rfl)
theorem dX6_beside_58 : decode cX6_beside 58 = .ok (.iadd, 1) := dk_96 (dk_at dksX6_beside_3 2 rfl rfl)
theorem dX6_beside_59 : decode cX6_beside 59 = .ok (.ireturn, 1) := dk_172 (dk_at dksX6_beside_3 3 rfl rfl)
theorem dX6_beside_60 : decode cX6_beside 60 = .ok (.iload_n 0, 1) := dk_26 (dk_at dksX6_beside_3 4 rfl rfl)
theorem dX6_beside_61 : decode cX6_beside 61 = .ok (.bipush 20, 2) := dk_16 20 (dk_at dksX6_beside_3 5 rfl rfl)
theorem dX6_beside_63 : decode cX6_beside 63 = .ok (.if_icmp .lt 7, 3) := dk_161 0 7 (dk_at dksX6_beside_3 7 rfl rfl)
theorem dX6_beside_66 : decode cX6_beside 66 = .ok (.iconst (-1), 1) := dk_2 (dk_at dksX6_beside_3 10 rfl rfl)
theorem dX6_beside_67 : decode cX6_beside 67 = .ok (.goto 6, 3) := dk_167 0 6 (dk_at dksX6_beside_3 11 rfl rfl)
theorem dX6_beside_70 : decode cX6_beside 70 = .ok (.iload_n 0, 1) := dk_26 (dk_at dksX6_beside_3 14 rfl rfl)
theorem dX6_beside_71 : decode cX6_beside 71 = .ok (.iconst 5, 1) := dk_8 (dk_at dksX6_beside_3 15 rfl rfl)
theorem dX6_beside_72 : decode cX6_beside 72 = .ok (.iadd, 1) := dk_96 (dk_at dksX6_beside_3 16 rfl rfl)
theorem dX6_beside_73 : decode cX6_beside 73 = .ok (.ireturn, 1) := dk_172 (dk_at dksX6_beside_3 17 rfl rfl)
theorem dX6_beside_74 : decode cX6_beside 74 = .ok (.iload_n 0, 1) := dk_26 (dk_at dksX6_beside_3 18 rfl rfl)
theorem dX6_beside_75 : decode cX6_beside 75 = .ok (.iconst 5, 1) := dk_8 (dk_at dksX6_beside_3 19 rfl rfl)
theorem dX6_beside_76 : decode cX6_beside 76 = .ok (.irem, 1) := dk_112 (dk_at dksX6_beside_3 20 rfl rfl)
theorem dX6_beside_77 : decode cX6_beside 77 = .ok (.ifCond .ne 7, 3) := dk_154 0 7 (dk_at dksX6_beside_3 21 rfl rfl)
theorem dX6_beside_80 : decode cX6_beside 80 = .ok (.iconst (-1), 1) := dk_2 (dk_at dksX6_beside_4 0 rfl rfl)
theorem dX6_beside_81 : decode cX6_beside 81 = .ok (.goto 6, 3) := dk_167 0 6 (dk_at dksX6_beside_4 1 rfl rfl)
theorem dX6_beside_84 : decode cX6_beside 84 = .ok (.iload_n 0, 1) := dk_26 (dk_at dksX6_beside_4 4 rfl rfl)
theorem dX6_beside_85 : decode cX6_beside 85 = .ok (.iconst 1, 1) := dk_4 (dk_at dksX6_beside_4 5 rfl rfl)
theorem dX6_beside_86 : decode cX6_beside 86 = .ok (.isub, 1) := dk_100 (dk_at dksX6_beside_4 6 rfl rfl)
theorem dX6_beside_87 : decode cX6_beside 87 = .ok (.ireturn, 1) := dk_172 (dk_at dksX6_beside_4 7 rfl rfl)
theorem dX6_beside_88 : decode cX6_beside 88 = .ok (.iload_n 0, 1) := dk_26 (dk_at dksX6_beside_4 8 rfl rfl)
theorem dX6_beside_89 : decode cX6_beside 89 = .ok (.ireturn, 1) := dk_172 (dk_at dksX6_beside_4 9 rfl rfl)
abbrev cX6_milk : ByteArray := prog_30_method_22_code
def yX6_milk : MethodName := ⟨RX6, "milk", "(II)I"⟩
def dkwX6_milk_1 : List UInt8 := [182, 0, 69, 162, 0, 14, 42, 27, 7, 28, 96, 182, 0, 69, 167, 0, 9, 42, 18, 105, 182, 0, 62, 172]
abbrev dktX6_milk_1 : List UInt8 := dkwX6_milk_1 ++ []
def dkwX6_milk_0 : List UInt8 := [42, 27, 182, 0, 93, 153, 0, 7, 28, 156, 0, 10, 42, 18, 61, 182, 0, 62, 172, 28, 42, 27, 6]
abbrev dktX6_milk_0 : List UInt8 := dkwX6_milk_0 ++ dktX6_milk_1
theorem dksX6_milk_0 : cX6_milk.data.toList.drop 0 = dktX6_milk_0 := by decide +kernel
theorem dksX6_milk_1 : cX6_milk.data.toList.drop 23 = dktX6_milk_1 := dk_seg dksX6_milk_0 23 rfl rfl
theorem dX6_milk_0 : decode cX6_milk 0 = .ok (.aload_n 0, 1) := dk_42 (dk_at dksX6_milk_0 0 rfl rfl)
theorem dX6_milk_1 : decode cX6_milk 1 = .ok (.iload_n 1, 1) := dk_27 (dk_at dksX6_milk_0 1 rfl rfl)
theorem dX6_milk_2 : decode cX6_milk 2 = .ok (.invokevirtual 93, 3) := dk_182 0 93 (dk_at dksX6_milk_0 2 rfl rfl)
theorem dX6_milk_5 : decode cX6_milk 5 = .ok (.ifCond .eq 7, 3) := dk_153 0 7 (dk_at dksX6_milk_0 5 rfl rfl)
theorem dX6_milk_8 : decode cX6_milk 8 = .ok (.iload_n 2, 1) := dk_28 (dk_at dksX6_milk_0 8 rfl rfl)
theorem dX6_milk_9 : decode cX6_milk 9 = .ok (.ifCond .ge 10, 3) := dk_156 0 10 (dk_at dksX6_milk_0 9 rfl rfl)
theorem dX6_milk_12 : decode cX6_milk 12 = .ok (.aload_n 0, 1) := dk_42 (dk_at dksX6_milk_0 12 rfl rfl)
theorem dX6_milk_13 : decode cX6_milk 13 = .ok (.ldc 61, 2) := dk_18 61 (dk_at dksX6_milk_0 13 rfl rfl)
theorem dX6_milk_15 : decode cX6_milk 15 = .ok (.invokevirtual 62, 3) := dk_182 0 62 (dk_at dksX6_milk_0 15 rfl rfl)
theorem dX6_milk_18 : decode cX6_milk 18 = .ok (.ireturn, 1) := dk_172 (dk_at dksX6_milk_0 18 rfl rfl)
theorem dX6_milk_19 : decode cX6_milk 19 = .ok (.iload_n 2, 1) := dk_28 (dk_at dksX6_milk_0 19 rfl rfl)
theorem dX6_milk_20 : decode cX6_milk 20 = .ok (.aload_n 0, 1) := dk_42 (dk_at dksX6_milk_0 20 rfl rfl)
theorem dX6_milk_21 : decode cX6_milk 21 = .ok (.iload_n 1, 1) := dk_27 (dk_at dksX6_milk_0 21 rfl rfl)
theorem dX6_milk_22 : decode cX6_milk 22 = .ok (.iconst 3, 1) := dk_6 (dk_at dksX6_milk_0 22 rfl rfl)
theorem dX6_milk_23 : decode cX6_milk 23 = .ok (.invokevirtual 69, 3) := dk_182 0 69 (dk_at dksX6_milk_1 0 rfl rfl)
theorem dX6_milk_26 : decode cX6_milk 26 = .ok (.if_icmp .ge 14, 3) := dk_162 0 14 (dk_at dksX6_milk_1 3 rfl rfl)
theorem dX6_milk_29 : decode cX6_milk 29 = .ok (.aload_n 0, 1) := dk_42 (dk_at dksX6_milk_1 6 rfl rfl)
theorem dX6_milk_30 : decode cX6_milk 30 = .ok (.iload_n 1, 1) := dk_27 (dk_at dksX6_milk_1 7 rfl rfl)
theorem dX6_milk_31 : decode cX6_milk 31 = .ok (.iconst 4, 1) := dk_7 (dk_at dksX6_milk_1 8 rfl rfl)
theorem dX6_milk_32 : decode cX6_milk 32 = .ok (.iload_n 2, 1) := dk_28 (dk_at dksX6_milk_1 9 rfl rfl)
theorem dX6_milk_33 : decode cX6_milk 33 = .ok (.iadd, 1) := dk_96 (dk_at dksX6_milk_1 10 rfl rfl)
theorem dX6_milk_34 : decode cX6_milk 34 = .ok (.invokevirtual 69, 3) := dk_182 0 69 (dk_at dksX6_milk_1 11 rfl rfl)
theorem dX6_milk_37 : decode cX6_milk 37 = .ok (.goto 9, 3) := dk_167 0 9 (dk_at dksX6_milk_1 14 rfl rfl)
theorem dX6_milk_40 : decode cX6_milk 40 = .ok (.aload_n 0, 1) := dk_42 (dk_at dksX6_milk_1 17 rfl rfl)
theorem dX6_milk_41 : decode cX6_milk 41 = .ok (.ldc 105, 2) := dk_18 105 (dk_at dksX6_milk_1 18 rfl rfl)
theorem dX6_milk_43 : decode cX6_milk 43 = .ok (.invokevirtual 62, 3) := dk_182 0 62 (dk_at dksX6_milk_1 20 rfl rfl)
theorem dX6_milk_46 : decode cX6_milk 46 = .ok (.ireturn, 1) := dk_172 (dk_at dksX6_milk_1 23 rfl rfl)
abbrev cX6_become : ByteArray := prog_30_method_23_code
def yX6_become : MethodName := ⟨RX6, "become", "(II)I"⟩
def dkwX6_become_2 : List UInt8 := [112, 182, 0, 78, 29, 172]
abbrev dktX6_become_2 : List UInt8 := dkwX6_become_2 ++ []
def dkwX6_become_1 : List UInt8 := [172, 42, 27, 3, 182, 0, 69, 62, 42, 27, 3, 28, 16, 10, 108, 182, 0, 78, 42, 27, 4, 28, 16, 10]
abbrev dktX6_become_1 : List UInt8 := dkwX6_become_1 ++ dktX6_become_2
def dkwX6_become_0 : List UInt8 := [42, 27, 182, 0, 93, 153, 0, 13, 28, 3, 16, 69, 184, 0, 53, 154, 0, 10, 42, 18, 61, 182, 0, 62]
abbrev dktX6_become_0 : List UInt8 := dkwX6_become_0 ++ dktX6_become_1
theorem dksX6_become_0 : cX6_become.data.toList.drop 0 = dktX6_become_0 := by decide +kernel
theorem dksX6_become_1 : cX6_become.data.toList.drop 24 = dktX6_become_1 := dk_seg dksX6_become_0 24 rfl rfl
theorem dksX6_become_2 : cX6_become.data.toList.drop 48 = dktX6_become_2 := dk_seg dksX6_become_1 24 rfl rfl
theorem dX6_become_0 : decode cX6_become 0 = .ok (.aload_n 0, 1) := dk_42 (dk_at dksX6_become_0 0 rfl rfl)
theorem dX6_become_1 : decode cX6_become 1 = .ok (.iload_n 1, 1) := dk_27 (dk_at dksX6_become_0 1 rfl rfl)
theorem dX6_become_2 : decode cX6_become 2 = .ok (.invokevirtual 93, 3) := dk_182 0 93 (dk_at dksX6_become_0 2 rfl rfl)
theorem dX6_become_5 : decode cX6_become 5 = .ok (.ifCond .eq 13, 3) := dk_153 0 13 (dk_at dksX6_become_0 5 rfl rfl)
theorem dX6_become_8 : decode cX6_become 8 = .ok (.iload_n 2, 1) := dk_28 (dk_at dksX6_become_0 8 rfl rfl)
theorem dX6_become_9 : decode cX6_become 9 = .ok (.iconst 0, 1) := dk_3 (dk_at dksX6_become_0 9 rfl rfl)
theorem dX6_become_10 : decode cX6_become 10 = .ok (.bipush 69, 2) := dk_16 69 (dk_at dksX6_become_0 10 rfl rfl)
theorem dX6_become_12 : decode cX6_become 12 = .ok (.invokestatic 53, 3) := dk_184 0 53 (dk_at dksX6_become_0 12 rfl rfl)
theorem dX6_become_15 : decode cX6_become 15 = .ok (.ifCond .ne 10, 3) := dk_154 0 10 (dk_at dksX6_become_0 15 rfl rfl)
theorem dX6_become_18 : decode cX6_become 18 = .ok (.aload_n 0, 1) := dk_42 (dk_at dksX6_become_0 18 rfl rfl)
theorem dX6_become_19 : decode cX6_become 19 = .ok (.ldc 61, 2) := dk_18 61 (dk_at dksX6_become_0 19 rfl rfl)
theorem dX6_become_21 : decode cX6_become 21 = .ok (.invokevirtual 62, 3) := dk_182 0 62 (dk_at dksX6_become_0 21 rfl rfl)
theorem dX6_become_24 : decode cX6_become 24 = .ok (.ireturn, 1) := dk_172 (dk_at dksX6_become_1 0 rfl rfl)
theorem dX6_become_25 : decode cX6_become 25 = .ok (.aload_n 0, 1) := dk_42 (dk_at dksX6_become_1 1 rfl rfl)
theorem dX6_become_26 : decode cX6_become 26 = .ok (.iload_n 1, 1) := dk_27 (dk_at dksX6_become_1 2 rfl rfl)
theorem dX6_become_27 : decode cX6_become 27 = .ok (.iconst 0, 1) := dk_3 (dk_at dksX6_become_1 3 rfl rfl)
theorem dX6_become_28 : decode cX6_become 28 = .ok (.invokevirtual 69, 3) := dk_182 0 69 (dk_at dksX6_become_1 4 rfl rfl)
theorem dX6_become_31 : decode cX6_become 31 = .ok (.istore_n 3, 1) := dk_62 (dk_at dksX6_become_1 7 rfl rfl)
theorem dX6_become_32 : decode cX6_become 32 = .ok (.aload_n 0, 1) := dk_42 (dk_at dksX6_become_1 8 rfl rfl)
theorem dX6_become_33 : decode cX6_become 33 = .ok (.iload_n 1, 1) := dk_27 (dk_at dksX6_become_1 9 rfl rfl)
theorem dX6_become_34 : decode cX6_become 34 = .ok (.iconst 0, 1) := dk_3 (dk_at dksX6_become_1 10 rfl rfl)
theorem dX6_become_35 : decode cX6_become 35 = .ok (.iload_n 2, 1) := dk_28 (dk_at dksX6_become_1 11 rfl rfl)
theorem dX6_become_36 : decode cX6_become 36 = .ok (.bipush 10, 2) := dk_16 10 (dk_at dksX6_become_1 12 rfl rfl)
theorem dX6_become_38 : decode cX6_become 38 = .ok (.idiv, 1) := dk_108 (dk_at dksX6_become_1 14 rfl rfl)
theorem dX6_become_39 : decode cX6_become 39 = .ok (.invokevirtual 78, 3) := dk_182 0 78 (dk_at dksX6_become_1 15 rfl rfl)
theorem dX6_become_42 : decode cX6_become 42 = .ok (.aload_n 0, 1) := dk_42 (dk_at dksX6_become_1 18 rfl rfl)
theorem dX6_become_43 : decode cX6_become 43 = .ok (.iload_n 1, 1) := dk_27 (dk_at dksX6_become_1 19 rfl rfl)
theorem dX6_become_44 : decode cX6_become 44 = .ok (.iconst 1, 1) := dk_4 (dk_at dksX6_become_1 20 rfl rfl)
theorem dX6_become_45 : decode cX6_become 45 = .ok (.iload_n 2, 1) := dk_28 (dk_at dksX6_become_1 21 rfl rfl)
theorem dX6_become_46 : decode cX6_become 46 = .ok (.bipush 10, 2) := dk_16 10 (dk_at dksX6_become_1 22 rfl rfl)
theorem dX6_become_48 : decode cX6_become 48 = .ok (.irem, 1) := dk_112 (dk_at dksX6_become_2 0 rfl rfl)
theorem dX6_become_49 : decode cX6_become 49 = .ok (.invokevirtual 78, 3) := dk_182 0 78 (dk_at dksX6_become_2 1 rfl rfl)
theorem dX6_become_52 : decode cX6_become 52 = .ok (.iload_n 3, 1) := dk_29 (dk_at dksX6_become_2 4 rfl rfl)
theorem dX6_become_53 : decode cX6_become 53 = .ok (.ireturn, 1) := dk_172 (dk_at dksX6_become_2 5 rfl rfl)
abbrev cX6_as : ByteArray := prog_30_method_25_code
def yX6_as : MethodName := ⟨RX6, "as", "(II)I"⟩
def dkwX6_as_2 : List UInt8 := [167, 255, 242, 29, 156, 0, 12, 42, 18, 109, 182, 0, 62, 167, 0, 9, 42, 27, 4, 182, 0, 69, 172]
abbrev dktX6_as_2 : List UInt8 := dkwX6_as_2 ++ []
def dkwX6_as_1 : List UInt8 := [172, 42, 27, 3, 182, 0, 69, 62, 29, 155, 0, 16, 29, 28, 159, 0, 11, 29, 184, 0, 106, 62]
abbrev dktX6_as_1 : List UInt8 := dkwX6_as_1 ++ dktX6_as_2
def dkwX6_as_0 : List UInt8 := [42, 27, 182, 0, 93, 153, 0, 13, 28, 3, 16, 6, 184, 0, 53, 154, 0, 10, 42, 18, 61, 182, 0, 62]
abbrev dktX6_as_0 : List UInt8 := dkwX6_as_0 ++ dktX6_as_1
theorem dksX6_as_0 : cX6_as.data.toList.drop 0 = dktX6_as_0 := by decide +kernel
theorem dksX6_as_1 : cX6_as.data.toList.drop 24 = dktX6_as_1 := dk_seg dksX6_as_0 24 rfl rfl
theorem dksX6_as_2 : cX6_as.data.toList.drop 46 = dktX6_as_2 := dk_seg dksX6_as_1 22 rfl rfl
theorem dX6_as_0 : decode cX6_as 0 = .ok (.aload_n 0, 1) := dk_42 (dk_at dksX6_as_0 0 rfl rfl)
theorem dX6_as_1 : decode cX6_as 1 = .ok (.iload_n 1, 1) := dk_27 (dk_at dksX6_as_0 1 rfl rfl)
theorem dX6_as_2 : decode cX6_as 2 = .ok (.invokevirtual 93, 3) := dk_182 0 93 (dk_at dksX6_as_0 2 rfl rfl)
theorem dX6_as_5 : decode cX6_as 5 = .ok (.ifCond .eq 13, 3) := dk_153 0 13 (dk_at dksX6_as_0 5 rfl rfl)
theorem dX6_as_8 : decode cX6_as 8 = .ok (.iload_n 2, 1) := dk_28 (dk_at dksX6_as_0 8 rfl rfl)
theorem dX6_as_9 : decode cX6_as 9 = .ok (.iconst 0, 1) := dk_3 (dk_at dksX6_as_0 9 rfl rfl)
theorem dX6_as_10 : decode cX6_as 10 = .ok (.bipush 6, 2) := dk_16 6 (dk_at dksX6_as_0 10 rfl rfl)
theorem dX6_as_12 : decode cX6_as 12 = .ok (.invokestatic 53, 3) := dk_184 0 53 (dk_at dksX6_as_0 12 rfl rfl)
theorem dX6_as_15 : decode cX6_as 15 = .ok (.ifCond .ne 10, 3) := dk_154 0 10 (dk_at dksX6_as_0 15 rfl rfl)
theorem dX6_as_18 : decode cX6_as 18 = .ok (.aload_n 0, 1) := dk_42 (dk_at dksX6_as_0 18 rfl rfl)
theorem dX6_as_19 : decode cX6_as 19 = .ok (.ldc 61, 2) := dk_18 61 (dk_at dksX6_as_0 19 rfl rfl)
theorem dX6_as_21 : decode cX6_as 21 = .ok (.invokevirtual 62, 3) := dk_182 0 62 (dk_at dksX6_as_0 21 rfl rfl)
theorem dX6_as_24 : decode cX6_as 24 = .ok (.ireturn, 1) := dk_172 (dk_at dksX6_as_1 0 rfl rfl)
theorem dX6_as_25 : decode cX6_as 25 = .ok (.aload_n 0, 1) := dk_42 (dk_at dksX6_as_1 1 rfl rfl)
theorem dX6_as_26 : decode cX6_as 26 = .ok (.iload_n 1, 1) := dk_27 (dk_at dksX6_as_1 2 rfl rfl)
theorem dX6_as_27 : decode cX6_as 27 = .ok (.iconst 0, 1) := dk_3 (dk_at dksX6_as_1 3 rfl rfl)
theorem dX6_as_28 : decode cX6_as 28 = .ok (.invokevirtual 69, 3) := dk_182 0 69 (dk_at dksX6_as_1 4 rfl rfl)
theorem dX6_as_31 : decode cX6_as 31 = .ok (.istore_n 3, 1) := dk_62 (dk_at dksX6_as_1 7 rfl rfl)
theorem dX6_as_32 : decode cX6_as 32 = .ok (.iload_n 3, 1) := dk_29 (dk_at dksX6_as_1 8 rfl rfl)
theorem dX6_as_33 : decode cX6_as 33 = .ok (.ifCond .lt 16, 3) := dk_155 0 16 (dk_at dksX6_as_1 9 rfl rfl)
theorem dX6_as_36 : decode cX6_as 36 = .ok (.iload_n 3, 1) := dk_29 (dk_at dksX6_as_1 12 rfl rfl)
theorem dX6_as_37 : decode cX6_as 37 = .ok (.iload_n 2, 1) := dk_28 (dk_at dksX6_as_1 13 rfl rfl)
theorem dX6_as_38 : decode cX6_as 38 = .ok (.if_icmp .eq 11, 3) := dk_159 0 11 (dk_at dksX6_as_1 14 rfl rfl)
theorem dX6_as_41 : decode cX6_as 41 = .ok (.iload_n 3, 1) := dk_29 (dk_at dksX6_as_1 17 rfl rfl)
theorem dX6_as_42 : decode cX6_as 42 = .ok (.invokestatic 106, 3) := dk_184 0 106 (dk_at dksX6_as_1 18 rfl rfl)
theorem dX6_as_45 : decode cX6_as 45 = .ok (.istore_n 3, 1) := dk_62 (dk_at dksX6_as_1 21 rfl rfl)
theorem dX6_as_46 : decode cX6_as 46 = .ok (.goto (-14), 3) := dk_167 255 242 (dk_at dksX6_as_2 0 rfl rfl)
theorem dX6_as_49 : decode cX6_as 49 = .ok (.iload_n 3, 1) := dk_29 (dk_at dksX6_as_2 3 rfl rfl)
theorem dX6_as_50 : decode cX6_as 50 = .ok (.ifCond .ge 12, 3) := dk_156 0 12 (dk_at dksX6_as_2 4 rfl rfl)
theorem dX6_as_53 : decode cX6_as 53 = .ok (.aload_n 0, 1) := dk_42 (dk_at dksX6_as_2 7 rfl rfl)
theorem dX6_as_54 : decode cX6_as 54 = .ok (.ldc 109, 2) := dk_18 109 (dk_at dksX6_as_2 8 rfl rfl)
theorem dX6_as_56 : decode cX6_as 56 = .ok (.invokevirtual 62, 3) := dk_182 0 62 (dk_at dksX6_as_2 10 rfl rfl)
theorem dX6_as_59 : decode cX6_as 59 = .ok (.goto 9, 3) := dk_167 0 9 (dk_at dksX6_as_2 13 rfl rfl)
theorem dX6_as_62 : decode cX6_as 62 = .ok (.aload_n 0, 1) := dk_42 (dk_at dksX6_as_2 16 rfl rfl)
theorem dX6_as_63 : decode cX6_as 63 = .ok (.iload_n 1, 1) := dk_27 (dk_at dksX6_as_2 17 rfl rfl)
theorem dX6_as_64 : decode cX6_as 64 = .ok (.iconst 1, 1) := dk_4 (dk_at dksX6_as_2 18 rfl rfl)
theorem dX6_as_65 : decode cX6_as 65 = .ok (.invokevirtual 69, 3) := dk_182 0 69 (dk_at dksX6_as_2 19 rfl rfl)
theorem dX6_as_68 : decode cX6_as 68 = .ok (.ireturn, 1) := dk_172 (dk_at dksX6_as_2 22 rfl rfl)
abbrev cX6_above : ByteArray := prog_30_method_24_code
def yX6_above : MethodName := ⟨RX6, "above", "(I)I"⟩
def dkwX6_above_1 : List UInt8 := [167, 0, 14, 26, 16, 6, 160, 0, 7, 6, 167, 0, 4, 3, 172]
abbrev dktX6_above_1 : List UInt8 := dkwX6_above_1 ++ []
def dkwX6_above_0 : List UInt8 := [26, 154, 0, 7, 2, 167, 0, 32, 26, 7, 160, 0, 7, 4, 167, 0, 23, 26, 8, 160, 0, 7, 5]
abbrev dktX6_above_0 : List UInt8 := dkwX6_above_0 ++ dktX6_above_1
theorem dksX6_above_0 : cX6_above.data.toList.drop 0 = dktX6_above_0 := by decide +kernel
theorem dksX6_above_1 : cX6_above.data.toList.drop 23 = dktX6_above_1 := dk_seg dksX6_above_0 23 rfl rfl
theorem dX6_above_0 : decode cX6_above 0 = .ok (.iload_n 0, 1) := dk_26 (dk_at dksX6_above_0 0 rfl rfl)
theorem dX6_above_1 : decode cX6_above 1 = .ok (.ifCond .ne 7, 3) := dk_154 0 7 (dk_at dksX6_above_0 1 rfl rfl)
theorem dX6_above_4 : decode cX6_above 4 = .ok (.iconst (-1), 1) := dk_2 (dk_at dksX6_above_0 4 rfl rfl)
theorem dX6_above_5 : decode cX6_above 5 = .ok (.goto 32, 3) := dk_167 0 32 (dk_at dksX6_above_0 5 rfl rfl)
theorem dX6_above_8 : decode cX6_above 8 = .ok (.iload_n 0, 1) := dk_26 (dk_at dksX6_above_0 8 rfl rfl)
theorem dX6_above_9 : decode cX6_above 9 = .ok (.iconst 4, 1) := dk_7 (dk_at dksX6_above_0 9 rfl rfl)
theorem dX6_above_10 : decode cX6_above 10 = .ok (.if_icmp .ne 7, 3) := dk_160 0 7 (dk_at dksX6_above_0 10 rfl rfl)
theorem dX6_above_13 : decode cX6_above 13 = .ok (.iconst 1, 1) := dk_4 (dk_at dksX6_above_0 13 rfl rfl)
theorem dX6_above_14 : decode cX6_above 14 = .ok (.goto 23, 3) := dk_167 0 23 (dk_at dksX6_above_0 14 rfl rfl)
theorem dX6_above_17 : decode cX6_above 17 = .ok (.iload_n 0, 1) := dk_26 (dk_at dksX6_above_0 17 rfl rfl)
theorem dX6_above_18 : decode cX6_above 18 = .ok (.iconst 5, 1) := dk_8 (dk_at dksX6_above_0 18 rfl rfl)
theorem dX6_above_19 : decode cX6_above 19 = .ok (.if_icmp .ne 7, 3) := dk_160 0 7 (dk_at dksX6_above_0 19 rfl rfl)
theorem dX6_above_22 : decode cX6_above 22 = .ok (.iconst 2, 1) := dk_5 (dk_at dksX6_above_0 22 rfl rfl)
theorem dX6_above_23 : decode cX6_above 23 = .ok (.goto 14, 3) := dk_167 0 14 (dk_at dksX6_above_1 0 rfl rfl)
theorem dX6_above_26 : decode cX6_above 26 = .ok (.iload_n 0, 1) := dk_26 (dk_at dksX6_above_1 3 rfl rfl)
theorem dX6_above_27 : decode cX6_above 27 = .ok (.bipush 6, 2) := dk_16 6 (dk_at dksX6_above_1 4 rfl rfl)
theorem dX6_above_29 : decode cX6_above 29 = .ok (.if_icmp .ne 7, 3) := dk_160 0 7 (dk_at dksX6_above_1 6 rfl rfl)
theorem dX6_above_32 : decode cX6_above 32 = .ok (.iconst 3, 1) := dk_6 (dk_at dksX6_above_1 9 rfl rfl)
theorem dX6_above_33 : decode cX6_above 33 = .ok (.goto 4, 3) := dk_167 0 4 (dk_at dksX6_above_1 10 rfl rfl)
theorem dX6_above_36 : decode cX6_above 36 = .ok (.iconst 0, 1) := dk_3 (dk_at dksX6_above_1 13 rfl rfl)
theorem dX6_above_37 : decode cX6_above 37 = .ok (.ireturn, 1) := dk_172 (dk_at dksX6_above_1 14 rfl rfl)
abbrev cX6_put : ByteArray := prog_30_method_26_code
def yX6_put : MethodName := ⟨RX6, "put", "(II)I"⟩
def dkwX6_put_1 : List UInt8 := [5, 182, 0, 69, 62, 42, 27, 5, 28, 182, 0, 78, 29, 172]
abbrev dktX6_put_1 : List UInt8 := dkwX6_put_1 ++ []
def dkwX6_put_0 : List UInt8 := [42, 27, 182, 0, 93, 153, 0, 10, 28, 184, 0, 57, 154, 0, 10, 42, 18, 61, 182, 0, 62, 172, 42, 27]
abbrev dktX6_put_0 : List UInt8 := dkwX6_put_0 ++ dktX6_put_1
theorem dksX6_put_0 : cX6_put.data.toList.drop 0 = dktX6_put_0 := by decide +kernel
theorem dksX6_put_1 : cX6_put.data.toList.drop 24 = dktX6_put_1 := dk_seg dksX6_put_0 24 rfl rfl
theorem dX6_put_0 : decode cX6_put 0 = .ok (.aload_n 0, 1) := dk_42 (dk_at dksX6_put_0 0 rfl rfl)
theorem dX6_put_1 : decode cX6_put 1 = .ok (.iload_n 1, 1) := dk_27 (dk_at dksX6_put_0 1 rfl rfl)
theorem dX6_put_2 : decode cX6_put 2 = .ok (.invokevirtual 93, 3) := dk_182 0 93 (dk_at dksX6_put_0 2 rfl rfl)
theorem dX6_put_5 : decode cX6_put 5 = .ok (.ifCond .eq 10, 3) := dk_153 0 10 (dk_at dksX6_put_0 5 rfl rfl)
theorem dX6_put_8 : decode cX6_put 8 = .ok (.iload_n 2, 1) := dk_28 (dk_at dksX6_put_0 8 rfl rfl)
theorem dX6_put_9 : decode cX6_put 9 = .ok (.invokestatic 57, 3) := dk_184 0 57 (dk_at dksX6_put_0 9 rfl rfl)
theorem dX6_put_12 : decode cX6_put 12 = .ok (.ifCond .ne 10, 3) := dk_154 0 10 (dk_at dksX6_put_0 12 rfl rfl)
theorem dX6_put_15 : decode cX6_put 15 = .ok (.aload_n 0, 1) := dk_42 (dk_at dksX6_put_0 15 rfl rfl)
theorem dX6_put_16 : decode cX6_put 16 = .ok (.ldc 61, 2) := dk_18 61 (dk_at dksX6_put_0 16 rfl rfl)
theorem dX6_put_18 : decode cX6_put 18 = .ok (.invokevirtual 62, 3) := dk_182 0 62 (dk_at dksX6_put_0 18 rfl rfl)
theorem dX6_put_21 : decode cX6_put 21 = .ok (.ireturn, 1) := dk_172 (dk_at dksX6_put_0 21 rfl rfl)
theorem dX6_put_22 : decode cX6_put 22 = .ok (.aload_n 0, 1) := dk_42 (dk_at dksX6_put_0 22 rfl rfl)
theorem dX6_put_23 : decode cX6_put 23 = .ok (.iload_n 1, 1) := dk_27 (dk_at dksX6_put_0 23 rfl rfl)
theorem dX6_put_24 : decode cX6_put 24 = .ok (.iconst 2, 1) := dk_5 (dk_at dksX6_put_1 0 rfl rfl)
theorem dX6_put_25 : decode cX6_put 25 = .ok (.invokevirtual 69, 3) := dk_182 0 69 (dk_at dksX6_put_1 1 rfl rfl)
theorem dX6_put_28 : decode cX6_put 28 = .ok (.istore_n 3, 1) := dk_62 (dk_at dksX6_put_1 4 rfl rfl)
theorem dX6_put_29 : decode cX6_put 29 = .ok (.aload_n 0, 1) := dk_42 (dk_at dksX6_put_1 5 rfl rfl)
theorem dX6_put_30 : decode cX6_put 30 = .ok (.iload_n 1, 1) := dk_27 (dk_at dksX6_put_1 6 rfl rfl)
theorem dX6_put_31 : decode cX6_put 31 = .ok (.iconst 2, 1) := dk_5 (dk_at dksX6_put_1 7 rfl rfl)
theorem dX6_put_32 : decode cX6_put 32 = .ok (.iload_n 2, 1) := dk_28 (dk_at dksX6_put_1 8 rfl rfl)
theorem dX6_put_33 : decode cX6_put 33 = .ok (.invokevirtual 78, 3) := dk_182 0 78 (dk_at dksX6_put_1 9 rfl rfl)
theorem dX6_put_36 : decode cX6_put 36 = .ok (.iload_n 3, 1) := dk_29 (dk_at dksX6_put_1 12 rfl rfl)
theorem dX6_put_37 : decode cX6_put 37 = .ok (.ireturn, 1) := dk_172 (dk_at dksX6_put_1 13 rfl rfl)
abbrev cX6_dry : ByteArray := prog_30_method_27_code
def yX6_dry : MethodName := ⟨RX6, "dry", "(I)I"⟩
def dkwX6_dry_1 : List UInt8 := [6, 3, 182, 0, 78, 28, 172]
abbrev dktX6_dry_1 : List UInt8 := dkwX6_dry_1 ++ []
def dkwX6_dry_0 : List UInt8 := [42, 27, 182, 0, 93, 154, 0, 10, 42, 18, 61, 182, 0, 62, 172, 42, 27, 6, 182, 0, 69, 61, 42, 27]
abbrev dktX6_dry_0 : List UInt8 := dkwX6_dry_0 ++ dktX6_dry_1
theorem dksX6_dry_0 : cX6_dry.data.toList.drop 0 = dktX6_dry_0 := by decide +kernel
theorem dksX6_dry_1 : cX6_dry.data.toList.drop 24 = dktX6_dry_1 := dk_seg dksX6_dry_0 24 rfl rfl
theorem dX6_dry_0 : decode cX6_dry 0 = .ok (.aload_n 0, 1) := dk_42 (dk_at dksX6_dry_0 0 rfl rfl)
theorem dX6_dry_1 : decode cX6_dry 1 = .ok (.iload_n 1, 1) := dk_27 (dk_at dksX6_dry_0 1 rfl rfl)
theorem dX6_dry_2 : decode cX6_dry 2 = .ok (.invokevirtual 93, 3) := dk_182 0 93 (dk_at dksX6_dry_0 2 rfl rfl)
theorem dX6_dry_5 : decode cX6_dry 5 = .ok (.ifCond .ne 10, 3) := dk_154 0 10 (dk_at dksX6_dry_0 5 rfl rfl)
theorem dX6_dry_8 : decode cX6_dry 8 = .ok (.aload_n 0, 1) := dk_42 (dk_at dksX6_dry_0 8 rfl rfl)
theorem dX6_dry_9 : decode cX6_dry 9 = .ok (.ldc 61, 2) := dk_18 61 (dk_at dksX6_dry_0 9 rfl rfl)
theorem dX6_dry_11 : decode cX6_dry 11 = .ok (.invokevirtual 62, 3) := dk_182 0 62 (dk_at dksX6_dry_0 11 rfl rfl)
theorem dX6_dry_14 : decode cX6_dry 14 = .ok (.ireturn, 1) := dk_172 (dk_at dksX6_dry_0 14 rfl rfl)
theorem dX6_dry_15 : decode cX6_dry 15 = .ok (.aload_n 0, 1) := dk_42 (dk_at dksX6_dry_0 15 rfl rfl)
theorem dX6_dry_16 : decode cX6_dry 16 = .ok (.iload_n 1, 1) := dk_27 (dk_at dksX6_dry_0 16 rfl rfl)
theorem dX6_dry_17 : decode cX6_dry 17 = .ok (.iconst 3, 1) := dk_6 (dk_at dksX6_dry_0 17 rfl rfl)
theorem dX6_dry_18 : decode cX6_dry 18 = .ok (.invokevirtual 69, 3) := dk_182 0 69 (dk_at dksX6_dry_0 18 rfl rfl)
theorem dX6_dry_21 : decode cX6_dry 21 = .ok (.istore_n 2, 1) := dk_61 (dk_at dksX6_dry_0 21 rfl rfl)
theorem dX6_dry_22 : decode cX6_dry 22 = .ok (.aload_n 0, 1) := dk_42 (dk_at dksX6_dry_0 22 rfl rfl)
theorem dX6_dry_23 : decode cX6_dry 23 = .ok (.iload_n 1, 1) := dk_27 (dk_at dksX6_dry_0 23 rfl rfl)
theorem dX6_dry_24 : decode cX6_dry 24 = .ok (.iconst 3, 1) := dk_6 (dk_at dksX6_dry_1 0 rfl rfl)
theorem dX6_dry_25 : decode cX6_dry 25 = .ok (.iconst 0, 1) := dk_3 (dk_at dksX6_dry_1 1 rfl rfl)
theorem dX6_dry_26 : decode cX6_dry 26 = .ok (.invokevirtual 78, 3) := dk_182 0 78 (dk_at dksX6_dry_1 2 rfl rfl)
theorem dX6_dry_29 : decode cX6_dry 29 = .ok (.iload_n 2, 1) := dk_28 (dk_at dksX6_dry_1 5 rfl rfl)
theorem dX6_dry_30 : decode cX6_dry 30 = .ok (.ireturn, 1) := dk_172 (dk_at dksX6_dry_1 6 rfl rfl)
abbrev cX6_law : ByteArray := prog_30_method_41_code
def yX6_law : MethodName := ⟨RX6, "law", "(IIII)I"⟩
def dkwX6_law_1 : List UInt8 := [182, 0, 62, 172]
abbrev dktX6_law_1 : List UInt8 := dkwX6_law_1 ++ []
def dkwX6_law_0 : List UInt8 := [27, 3, 4, 184, 0, 53, 153, 0, 15, 42, 27, 28, 29, 21, 4, 182, 0, 73, 167, 0, 9, 42, 18, 61]
abbrev dktX6_law_0 : List UInt8 := dkwX6_law_0 ++ dktX6_law_1
theorem dksX6_law_0 : cX6_law.data.toList.drop 0 = dktX6_law_0 := by decide +kernel
theorem dksX6_law_1 : cX6_law.data.toList.drop 24 = dktX6_law_1 := dk_seg dksX6_law_0 24 rfl rfl
theorem dX6_law_0 : decode cX6_law 0 = .ok (.iload_n 1, 1) := dk_27 (dk_at dksX6_law_0 0 rfl rfl)
theorem dX6_law_1 : decode cX6_law 1 = .ok (.iconst 0, 1) := dk_3 (dk_at dksX6_law_0 1 rfl rfl)
theorem dX6_law_2 : decode cX6_law 2 = .ok (.iconst 1, 1) := dk_4 (dk_at dksX6_law_0 2 rfl rfl)
theorem dX6_law_3 : decode cX6_law 3 = .ok (.invokestatic 53, 3) := dk_184 0 53 (dk_at dksX6_law_0 3 rfl rfl)
theorem dX6_law_6 : decode cX6_law 6 = .ok (.ifCond .eq 15, 3) := dk_153 0 15 (dk_at dksX6_law_0 6 rfl rfl)
theorem dX6_law_9 : decode cX6_law 9 = .ok (.aload_n 0, 1) := dk_42 (dk_at dksX6_law_0 9 rfl rfl)
theorem dX6_law_10 : decode cX6_law 10 = .ok (.iload_n 1, 1) := dk_27 (dk_at dksX6_law_0 10 rfl rfl)
theorem dX6_law_11 : decode cX6_law 11 = .ok (.iload_n 2, 1) := dk_28 (dk_at dksX6_law_0 11 rfl rfl)
theorem dX6_law_12 : decode cX6_law 12 = .ok (.iload_n 3, 1) := dk_29 (dk_at dksX6_law_0 12 rfl rfl)
theorem dX6_law_13 : decode cX6_law 13 = .ok (.iload 4, 2) := dk_21 4 (dk_at dksX6_law_0 13 rfl rfl)
theorem dX6_law_15 : decode cX6_law 15 = .ok (.invokevirtual 73, 3) := dk_182 0 73 (dk_at dksX6_law_0 15 rfl rfl)
theorem dX6_law_18 : decode cX6_law 18 = .ok (.goto 9, 3) := dk_167 0 9 (dk_at dksX6_law_0 18 rfl rfl)
theorem dX6_law_21 : decode cX6_law 21 = .ok (.aload_n 0, 1) := dk_42 (dk_at dksX6_law_0 21 rfl rfl)
theorem dX6_law_22 : decode cX6_law 22 = .ok (.ldc 61, 2) := dk_18 61 (dk_at dksX6_law_0 22 rfl rfl)
theorem dX6_law_24 : decode cX6_law 24 = .ok (.invokevirtual 62, 3) := dk_182 0 62 (dk_at dksX6_law_1 0 rfl rfl)
theorem dX6_law_27 : decode cX6_law 27 = .ok (.ireturn, 1) := dk_172 (dk_at dksX6_law_1 3 rfl rfl)
abbrev cX6_feed : ByteArray := prog_30_method_42_code
def yX6_feed : MethodName := ⟨RX6, "feed", "(JI)I"⟩
def dkwX6_feed_4 : List UInt8 := [172]
abbrev dktX6_feed_4 : List UInt8 := dkwX6_feed_4 ++ []
def dkwX6_feed_3 : List UInt8 := [136, 79, 42, 180, 0, 7, 7, 92, 46, 4, 96, 79, 132, 4, 1, 167, 255, 210, 42, 180, 0, 7, 7, 46]
abbrev dktX6_feed_3 : List UInt8 := dkwX6_feed_3 ++ dktX6_feed_4
def dkwX6_feed_2 : List UInt8 := [180, 0, 7, 17, 0, 128, 42, 180, 0, 7, 7, 46, 96, 31, 16, 8, 21, 4, 104, 123, 20, 0, 176, 127]
abbrev dktX6_feed_2 : List UInt8 := dkwX6_feed_2 ++ dktX6_feed_3
def dkwX6_feed_1 : List UInt8 := [96, 16, 50, 164, 0, 10, 42, 18, 77, 182, 0, 62, 172, 3, 54, 4, 21, 4, 29, 162, 0, 46, 42]
abbrev dktX6_feed_1 : List UInt8 := dkwX6_feed_1 ++ dktX6_feed_2
def dkwX6_feed_0 : List UInt8 := [29, 4, 16, 8, 184, 0, 53, 154, 0, 10, 42, 18, 61, 182, 0, 62, 172, 42, 180, 0, 7, 7, 46, 29]
abbrev dktX6_feed_0 : List UInt8 := dkwX6_feed_0 ++ dktX6_feed_1
theorem dksX6_feed_0 : cX6_feed.data.toList.drop 0 = dktX6_feed_0 := by decide +kernel
theorem dksX6_feed_1 : cX6_feed.data.toList.drop 24 = dktX6_feed_1 := dk_seg dksX6_feed_0 24 rfl rfl
theorem dksX6_feed_2 : cX6_feed.data.toList.drop 47 = dktX6_feed_2 := dk_seg dksX6_feed_1 23 rfl rfl
theorem dksX6_feed_3 : cX6_feed.data.toList.drop 71 = dktX6_feed_3 := dk_seg dksX6_feed_2 24 rfl rfl
theorem dksX6_feed_4 : cX6_feed.data.toList.drop 95 = dktX6_feed_4 := dk_seg dksX6_feed_3 24 rfl rfl
theorem dX6_feed_0 : decode cX6_feed 0 = .ok (.iload_n 3, 1) := dk_29 (dk_at dksX6_feed_0 0 rfl rfl)
theorem dX6_feed_1 : decode cX6_feed 1 = .ok (.iconst 1, 1) := dk_4 (dk_at dksX6_feed_0 1 rfl rfl)
theorem dX6_feed_2 : decode cX6_feed 2 = .ok (.bipush 8, 2) := dk_16 8 (dk_at dksX6_feed_0 2 rfl rfl)
theorem dX6_feed_4 : decode cX6_feed 4 = .ok (.invokestatic 53, 3) := dk_184 0 53 (dk_at dksX6_feed_0 4 rfl rfl)
theorem dX6_feed_7 : decode cX6_feed 7 = .ok (.ifCond .ne 10, 3) := dk_154 0 10 (dk_at dksX6_feed_0 7 rfl rfl)
theorem dX6_feed_10 : decode cX6_feed 10 = .ok (.aload_n 0, 1) := dk_42 (dk_at dksX6_feed_0 10 rfl rfl)
theorem dX6_feed_11 : decode cX6_feed 11 = .ok (.ldc 61, 2) := dk_18 61 (dk_at dksX6_feed_0 11 rfl rfl)
theorem dX6_feed_13 : decode cX6_feed 13 = .ok (.invokevirtual 62, 3) := dk_182 0 62 (dk_at dksX6_feed_0 13 rfl rfl)
theorem dX6_feed_16 : decode cX6_feed 16 = .ok (.ireturn, 1) := dk_172 (dk_at dksX6_feed_0 16 rfl rfl)
theorem dX6_feed_17 : decode cX6_feed 17 = .ok (.aload_n 0, 1) := dk_42 (dk_at dksX6_feed_0 17 rfl rfl)
theorem dX6_feed_18 : decode cX6_feed 18 = .ok (.getfield 7, 3) := dk_180 0 7 (dk_at dksX6_feed_0 18 rfl rfl)
theorem dX6_feed_21 : decode cX6_feed 21 = .ok (.iconst 4, 1) := dk_7 (dk_at dksX6_feed_0 21 rfl rfl)
theorem dX6_feed_22 : decode cX6_feed 22 = .ok (.iaload, 1) := dk_46 (dk_at dksX6_feed_0 22 rfl rfl)
theorem dX6_feed_23 : decode cX6_feed 23 = .ok (.iload_n 3, 1) := dk_29 (dk_at dksX6_feed_0 23 rfl rfl)
theorem dX6_feed_24 : decode cX6_feed 24 = .ok (.iadd, 1) := dk_96 (dk_at dksX6_feed_1 0 rfl rfl)
theorem dX6_feed_25 : decode cX6_feed 25 = .ok (.bipush 50, 2) := dk_16 50 (dk_at dksX6_feed_1 1 rfl rfl)
theorem dX6_feed_27 : decode cX6_feed 27 = .ok (.if_icmp .le 10, 3) := dk_164 0 10 (dk_at dksX6_feed_1 3 rfl rfl)
theorem dX6_feed_30 : decode cX6_feed 30 = .ok (.aload_n 0, 1) := dk_42 (dk_at dksX6_feed_1 6 rfl rfl)
theorem dX6_feed_31 : decode cX6_feed 31 = .ok (.ldc 77, 2) := dk_18 77 (dk_at dksX6_feed_1 7 rfl rfl)
theorem dX6_feed_33 : decode cX6_feed 33 = .ok (.invokevirtual 62, 3) := dk_182 0 62 (dk_at dksX6_feed_1 9 rfl rfl)
theorem dX6_feed_36 : decode cX6_feed 36 = .ok (.ireturn, 1) := dk_172 (dk_at dksX6_feed_1 12 rfl rfl)
theorem dX6_feed_37 : decode cX6_feed 37 = .ok (.iconst 0, 1) := dk_3 (dk_at dksX6_feed_1 13 rfl rfl)
theorem dX6_feed_38 : decode cX6_feed 38 = .ok (.istore 4, 2) := dk_54 4 (dk_at dksX6_feed_1 14 rfl rfl)
theorem dX6_feed_40 : decode cX6_feed 40 = .ok (.iload 4, 2) := dk_21 4 (dk_at dksX6_feed_1 16 rfl rfl)
theorem dX6_feed_42 : decode cX6_feed 42 = .ok (.iload_n 3, 1) := dk_29 (dk_at dksX6_feed_1 18 rfl rfl)
theorem dX6_feed_43 : decode cX6_feed 43 = .ok (.if_icmp .ge 46, 3) := dk_162 0 46 (dk_at dksX6_feed_1 19 rfl rfl)
theorem dX6_feed_46 : decode cX6_feed 46 = .ok (.aload_n 0, 1) := dk_42 (dk_at dksX6_feed_1 22 rfl rfl)
theorem dX6_feed_47 : decode cX6_feed 47 = .ok (.getfield 7, 3) := dk_180 0 7 (dk_at dksX6_feed_2 0 rfl rfl)
theorem dX6_feed_50 : decode cX6_feed 50 = .ok (.sipush 128, 3) := dk_17 0 128 (dk_at dksX6_feed_2 3 rfl rfl)
theorem dX6_feed_53 : decode cX6_feed 53 = .ok (.aload_n 0, 1) := dk_42 (dk_at dksX6_feed_2 6 rfl rfl)
theorem dX6_feed_54 : decode cX6_feed 54 = .ok (.getfield 7, 3) := dk_180 0 7 (dk_at dksX6_feed_2 7 rfl rfl)
theorem dX6_feed_57 : decode cX6_feed 57 = .ok (.iconst 4, 1) := dk_7 (dk_at dksX6_feed_2 10 rfl rfl)
theorem dX6_feed_58 : decode cX6_feed 58 = .ok (.iaload, 1) := dk_46 (dk_at dksX6_feed_2 11 rfl rfl)
theorem dX6_feed_59 : decode cX6_feed 59 = .ok (.iadd, 1) := dk_96 (dk_at dksX6_feed_2 12 rfl rfl)
theorem dX6_feed_60 : decode cX6_feed 60 = .ok (.lload_n 1, 1) := dk_31 (dk_at dksX6_feed_2 13 rfl rfl)
theorem dX6_feed_61 : decode cX6_feed 61 = .ok (.bipush 8, 2) := dk_16 8 (dk_at dksX6_feed_2 14 rfl rfl)
theorem dX6_feed_63 : decode cX6_feed 63 = .ok (.iload 4, 2) := dk_21 4 (dk_at dksX6_feed_2 16 rfl rfl)
theorem dX6_feed_65 : decode cX6_feed 65 = .ok (.imul, 1) := dk_104 (dk_at dksX6_feed_2 18 rfl rfl)
theorem dX6_feed_66 : decode cX6_feed 66 = .ok (.lshr, 1) := dk_123 (dk_at dksX6_feed_2 19 rfl rfl)
theorem dX6_feed_67 : decode cX6_feed 67 = .ok (.ldc2_w 176, 3) := dk_20 0 176 (dk_at dksX6_feed_2 20 rfl rfl)
theorem dX6_feed_70 : decode cX6_feed 70 = .ok (.land, 1) := dk_127 (dk_at dksX6_feed_2 23 rfl rfl)
theorem dX6_feed_71 : decode cX6_feed 71 = .ok (.l2i, 1) := dk_136 (dk_at dksX6_feed_3 0 rfl rfl)
theorem dX6_feed_72 : decode cX6_feed 72 = .ok (.iastore, 1) := dk_79 (dk_at dksX6_feed_3 1 rfl rfl)
theorem dX6_feed_73 : decode cX6_feed 73 = .ok (.aload_n 0, 1) := dk_42 (dk_at dksX6_feed_3 2 rfl rfl)
theorem dX6_feed_74 : decode cX6_feed 74 = .ok (.getfield 7, 3) := dk_180 0 7 (dk_at dksX6_feed_3 3 rfl rfl)
theorem dX6_feed_77 : decode cX6_feed 77 = .ok (.iconst 4, 1) := dk_7 (dk_at dksX6_feed_3 6 rfl rfl)
theorem dX6_feed_78 : decode cX6_feed 78 = .ok (.dup2, 1) := dk_92 (dk_at dksX6_feed_3 7 rfl rfl)
theorem dX6_feed_79 : decode cX6_feed 79 = .ok (.iaload, 1) := dk_46 (dk_at dksX6_feed_3 8 rfl rfl)
theorem dX6_feed_80 : decode cX6_feed 80 = .ok (.iconst 1, 1) := dk_4 (dk_at dksX6_feed_3 9 rfl rfl)
theorem dX6_feed_81 : decode cX6_feed 81 = .ok (.iadd, 1) := dk_96 (dk_at dksX6_feed_3 10 rfl rfl)
theorem dX6_feed_82 : decode cX6_feed 82 = .ok (.iastore, 1) := dk_79 (dk_at dksX6_feed_3 11 rfl rfl)
theorem dX6_feed_83 : decode cX6_feed 83 = .ok (.iinc 4 1, 3) := dk_132 4 1 (dk_at dksX6_feed_3 12 rfl rfl)
theorem dX6_feed_86 : decode cX6_feed 86 = .ok (.goto (-46), 3) := dk_167 255 210 (dk_at dksX6_feed_3 15 rfl rfl)
theorem dX6_feed_89 : decode cX6_feed 89 = .ok (.aload_n 0, 1) := dk_42 (dk_at dksX6_feed_3 18 rfl rfl)
theorem dX6_feed_90 : decode cX6_feed 90 = .ok (.getfield 7, 3) := dk_180 0 7 (dk_at dksX6_feed_3 19 rfl rfl)
theorem dX6_feed_93 : decode cX6_feed 93 = .ok (.iconst 4, 1) := dk_7 (dk_at dksX6_feed_3 22 rfl rfl)
theorem dX6_feed_94 : decode cX6_feed 94 = .ok (.iaload, 1) := dk_46 (dk_at dksX6_feed_3 23 rfl rfl)
theorem dX6_feed_95 : decode cX6_feed 95 = .ok (.ireturn, 1) := dk_172 (dk_at dksX6_feed_4 0 rfl rfl)
abbrev cX6_text : ByteArray := prog_30_method_43_code
def yX6_text : MethodName := ⟨RX6, "text", "(I)I"⟩
def dkwX6_text_6 : List UInt8 := [153, 0, 7, 4, 167, 0, 8, 16, 246, 21, 4, 100, 172]
abbrev dktX6_text_6 : List UInt8 := dkwX6_text_6 ++ []
def dkwX6_text_5 : List UInt8 := [154, 0, 15, 42, 42, 180, 0, 19, 42, 180, 0, 7, 182, 0, 178, 42, 180, 0, 7, 7, 3, 79, 29]
abbrev dktX6_text_5 : List UInt8 := dkwX6_text_5 ++ dktX6_text_6
def dkwX6_text_4 : List UInt8 := [180, 0, 117, 153, 0, 12, 28, 28, 160, 0, 7, 4, 167, 0, 4, 3, 62, 42, 180, 0, 121, 54, 4, 29]
abbrev dktX6_text_4 : List UInt8 := dkwX6_text_4 ++ dktX6_text_5
def dkwX6_text_3 : List UInt8 := [180, 0, 7, 16, 6, 27, 96, 42, 180, 0, 7, 7, 46, 79, 42, 27, 4, 4, 4, 182, 0, 173, 61, 42]
abbrev dktX6_text_3 : List UInt8 := dkwX6_text_3 ++ dktX6_text_4
def dkwX6_text_2 : List UInt8 := [104, 96, 28, 96, 42, 180, 0, 7, 17, 0, 128, 28, 96, 46, 79, 132, 2, 1, 167, 255, 222, 42]
abbrev dktX6_text_2 : List UInt8 := dkwX6_text_2 ++ dktX6_text_3
def dkwX6_text_1 : List UInt8 := [180, 0, 19, 182, 0, 178, 3, 61, 28, 16, 50, 162, 0, 34, 42, 180, 0, 7, 17, 0, 198, 16, 50, 27]
abbrev dktX6_text_1 : List UInt8 := dkwX6_text_1 ++ dktX6_text_2
def dkwX6_text_0 : List UInt8 := [27, 3, 4, 184, 0, 53, 154, 0, 10, 42, 18, 61, 182, 0, 62, 172, 42, 42, 180, 0, 7, 42]
abbrev dktX6_text_0 : List UInt8 := dkwX6_text_0 ++ dktX6_text_1
theorem dksX6_text_0 : cX6_text.data.toList.drop 0 = dktX6_text_0 := by decide +kernel
theorem dksX6_text_1 : cX6_text.data.toList.drop 22 = dktX6_text_1 := dk_seg dksX6_text_0 22 rfl rfl
theorem dksX6_text_2 : cX6_text.data.toList.drop 46 = dktX6_text_2 := dk_seg dksX6_text_1 24 rfl rfl
theorem dksX6_text_3 : cX6_text.data.toList.drop 68 = dktX6_text_3 := dk_seg dksX6_text_2 22 rfl rfl
theorem dksX6_text_4 : cX6_text.data.toList.drop 92 = dktX6_text_4 := dk_seg dksX6_text_3 24 rfl rfl
theorem dksX6_text_5 : cX6_text.data.toList.drop 116 = dktX6_text_5 := dk_seg dksX6_text_4 24 rfl rfl
theorem dksX6_text_6 : cX6_text.data.toList.drop 139 = dktX6_text_6 := dk_seg dksX6_text_5 23 rfl rfl
theorem dX6_text_0 : decode cX6_text 0 = .ok (.iload_n 1, 1) := dk_27 (dk_at dksX6_text_0 0 rfl rfl)
theorem dX6_text_1 : decode cX6_text 1 = .ok (.iconst 0, 1) := dk_3 (dk_at dksX6_text_0 1 rfl rfl)
theorem dX6_text_2 : decode cX6_text 2 = .ok (.iconst 1, 1) := dk_4 (dk_at dksX6_text_0 2 rfl rfl)
theorem dX6_text_3 : decode cX6_text 3 = .ok (.invokestatic 53, 3) := dk_184 0 53 (dk_at dksX6_text_0 3 rfl rfl)
theorem dX6_text_6 : decode cX6_text 6 = .ok (.ifCond .ne 10, 3) := dk_154 0 10 (dk_at dksX6_text_0 6 rfl rfl)
theorem dX6_text_9 : decode cX6_text 9 = .ok (.aload_n 0, 1) := dk_42 (dk_at dksX6_text_0 9 rfl rfl)
theorem dX6_text_10 : decode cX6_text 10 = .ok (.ldc 61, 2) := dk_18 61 (dk_at dksX6_text_0 10 rfl rfl)
theorem dX6_text_12 : decode cX6_text 12 = .ok (.invokevirtual 62, 3) := dk_182 0 62 (dk_at dksX6_text_0 12 rfl rfl)
theorem dX6_text_15 : decode cX6_text 15 = .ok (.ireturn, 1) := dk_172 (dk_at dksX6_text_0 15 rfl rfl)
theorem dX6_text_16 : decode cX6_text 16 = .ok (.aload_n 0, 1) := dk_42 (dk_at dksX6_text_0 16 rfl rfl)
theorem dX6_text_17 : decode cX6_text 17 = .ok (.aload_n 0, 1) := dk_42 (dk_at dksX6_text_0 17 rfl rfl)
theorem dX6_text_18 : decode cX6_text 18 = .ok (.getfield 7, 3) := dk_180 0 7 (dk_at dksX6_text_0 18 rfl rfl)
theorem dX6_text_21 : decode cX6_text 21 = .ok (.aload_n 0, 1) := dk_42 (dk_at dksX6_text_0 21 rfl rfl)
theorem dX6_text_22 : decode cX6_text 22 = .ok (.getfield 19, 3) := dk_180 0 19 (dk_at dksX6_text_1 0 rfl rfl)
theorem dX6_text_25 : decode cX6_text 25 = .ok (.invokevirtual 178, 3) := dk_182 0 178 (dk_at dksX6_text_1 3 rfl rfl)
theorem dX6_text_28 : decode cX6_text 28 = .ok (.iconst 0, 1) := dk_3 (dk_at dksX6_text_1 6 rfl rfl)
theorem dX6_text_29 : decode cX6_text 29 = .ok (.istore_n 2, 1) := dk_61 (dk_at dksX6_text_1 7 rfl rfl)
theorem dX6_text_30 : decode cX6_text 30 = .ok (.iload_n 2, 1) := dk_28 (dk_at dksX6_text_1 8 rfl rfl)
theorem dX6_text_31 : decode cX6_text 31 = .ok (.bipush 50, 2) := dk_16 50 (dk_at dksX6_text_1 9 rfl rfl)
theorem dX6_text_33 : decode cX6_text 33 = .ok (.if_icmp .ge 34, 3) := dk_162 0 34 (dk_at dksX6_text_1 11 rfl rfl)
theorem dX6_text_36 : decode cX6_text 36 = .ok (.aload_n 0, 1) := dk_42 (dk_at dksX6_text_1 14 rfl rfl)
theorem dX6_text_37 : decode cX6_text 37 = .ok (.getfield 7, 3) := dk_180 0 7 (dk_at dksX6_text_1 15 rfl rfl)
theorem dX6_text_40 : decode cX6_text 40 = .ok (.sipush 198, 3) := dk_17 0 198 (dk_at dksX6_text_1 18 rfl rfl)
theorem dX6_text_43 : decode cX6_text 43 = .ok (.bipush 50, 2) := dk_16 50 (dk_at dksX6_text_1 21 rfl rfl)
theorem dX6_text_45 : decode cX6_text 45 = .ok (.iload_n 1, 1) := dk_27 (dk_at dksX6_text_1 23 rfl rfl)
theorem dX6_text_46 : decode cX6_text 46 = .ok (.imul, 1) := dk_104 (dk_at dksX6_text_2 0 rfl rfl)
theorem dX6_text_47 : decode cX6_text 47 = .ok (.iadd, 1) := dk_96 (dk_at dksX6_text_2 1 rfl rfl)
theorem dX6_text_48 : decode cX6_text 48 = .ok (.iload_n 2, 1) := dk_28 (dk_at dksX6_text_2 2 rfl rfl)
theorem dX6_text_49 : decode cX6_text 49 = .ok (.iadd, 1) := dk_96 (dk_at dksX6_text_2 3 rfl rfl)
theorem dX6_text_50 : decode cX6_text 50 = .ok (.aload_n 0, 1) := dk_42 (dk_at dksX6_text_2 4 rfl rfl)
theorem dX6_text_51 : decode cX6_text 51 = .ok (.getfield 7, 3) := dk_180 0 7 (dk_at dksX6_text_2 5 rfl rfl)
theorem dX6_text_54 : decode cX6_text 54 = .ok (.sipush 128, 3) := dk_17 0 128 (dk_at dksX6_text_2 8 rfl rfl)
theorem dX6_text_57 : decode cX6_text 57 = .ok (.iload_n 2, 1) := dk_28 (dk_at dksX6_text_2 11 rfl rfl)
theorem dX6_text_58 : decode cX6_text 58 = .ok (.iadd, 1) := dk_96 (dk_at dksX6_text_2 12 rfl rfl)
theorem dX6_text_59 : decode cX6_text 59 = .ok (.iaload, 1) := dk_46 (dk_at dksX6_text_2 13 rfl rfl)
theorem dX6_text_60 : decode cX6_text 60 = .ok (.iastore, 1) := dk_79 (dk_at dksX6_text_2 14 rfl rfl)
theorem dX6_text_61 : decode cX6_text 61 = .ok (.iinc 2 1, 3) := dk_132 2 1 (dk_at dksX6_text_2 15 rfl rfl)
theorem dX6_text_64 : decode cX6_text 64 = .ok (.goto (-34), 3) := dk_167 255 222 (dk_at dksX6_text_2 18 rfl rfl)
theorem dX6_text_67 : decode cX6_text 67 = .ok (.aload_n 0, 1) := dk_42 (dk_at dksX6_text_2 21 rfl rfl)
theorem dX6_text_68 : decode cX6_text 68 = .ok (.getfield 7, 3) := dk_180 0 7 (dk_at dksX6_text_3 0 rfl rfl)
theorem dX6_text_71 : decode cX6_text 71 = .ok (.bipush 6, 2) := dk_16 6 (dk_at dksX6_text_3 3 rfl rfl)
theorem dX6_text_73 : decode cX6_text 73 = .ok (.iload_n 1, 1) := dk_27 (dk_at dksX6_text_3 5 rfl rfl)
theorem dX6_text_74 : decode cX6_text 74 = .ok (.iadd, 1) := dk_96 (dk_at dksX6_text_3 6 rfl rfl)
theorem dX6_text_75 : decode cX6_text 75 = .ok (.aload_n 0, 1) := dk_42 (dk_at dksX6_text_3 7 rfl rfl)
theorem dX6_text_76 : decode cX6_text 76 = .ok (.getfield 7, 3) := dk_180 0 7 (dk_at dksX6_text_3 8 rfl rfl)
theorem dX6_text_79 : decode cX6_text 79 = .ok (.iconst 4, 1) := dk_7 (dk_at dksX6_text_3 11 rfl rfl)
theorem dX6_text_80 : decode cX6_text 80 = .ok (.iaload, 1) := dk_46 (dk_at dksX6_text_3 12 rfl rfl)
theorem dX6_text_81 : decode cX6_text 81 = .ok (.iastore, 1) := dk_79 (dk_at dksX6_text_3 13 rfl rfl)
theorem dX6_text_82 : decode cX6_text 82 = .ok (.aload_n 0, 1) := dk_42 (dk_at dksX6_text_3 14 rfl rfl)
theorem dX6_text_83 : decode cX6_text 83 = .ok (.iload_n 1, 1) := dk_27 (dk_at dksX6_text_3 15 rfl rfl)
theorem dX6_text_84 : decode cX6_text 84 = .ok (.iconst 1, 1) := dk_4 (dk_at dksX6_text_3 16 rfl rfl)
theorem dX6_text_85 : decode cX6_text 85 = .ok (.iconst 1, 1) := dk_4 (dk_at dksX6_text_3 17 rfl rfl)
theorem dX6_text_86 : decode cX6_text 86 = .ok (.iconst 1, 1) := dk_4 (dk_at dksX6_text_3 18 rfl rfl)
theorem dX6_text_87 : decode cX6_text 87 = .ok (.invokevirtual 173, 3) := dk_182 0 173 (dk_at dksX6_text_3 19 rfl rfl)
theorem dX6_text_90 : decode cX6_text 90 = .ok (.istore_n 2, 1) := dk_61 (dk_at dksX6_text_3 22 rfl rfl)
theorem dX6_text_91 : decode cX6_text 91 = .ok (.aload_n 0, 1) := dk_42 (dk_at dksX6_text_3 23 rfl rfl)
theorem dX6_text_92 : decode cX6_text 92 = .ok (.getfield 117, 3) := dk_180 0 117 (dk_at dksX6_text_4 0 rfl rfl)
theorem dX6_text_95 : decode cX6_text 95 = .ok (.ifCond .eq 12, 3) := dk_153 0 12 (dk_at dksX6_text_4 3 rfl rfl)
theorem dX6_text_98 : decode cX6_text 98 = .ok (.iload_n 2, 1) := dk_28 (dk_at dksX6_text_4 6 rfl rfl)
theorem dX6_text_99 : decode cX6_text 99 = .ok (.iload_n 2, 1) := dk_28 (dk_at dksX6_text_4 7 rfl rfl)
theorem dX6_text_100 : decode cX6_text 100 = .ok (.if_icmp .ne 7, 3) := dk_160 0 7 (dk_at dksX6_text_4 8 rfl rfl)
theorem dX6_text_103 : decode cX6_text 103 = .ok (.iconst 1, 1) := dk_4 (dk_at dksX6_text_4 11 rfl rfl)
theorem dX6_text_104 : decode cX6_text 104 = .ok (.goto 4, 3) := dk_167 0 4 (dk_at dksX6_text_4 12 rfl rfl)
theorem dX6_text_107 : decode cX6_text 107 = .ok (.iconst 0, 1) := dk_3 (dk_at dksX6_text_4 15 rfl rfl)
theorem dX6_text_108 : decode cX6_text 108 = .ok (.istore_n 3, 1) := dk_62 (dk_at dksX6_text_4 16 rfl rfl)
theorem dX6_text_109 : decode cX6_text 109 = .ok (.aload_n 0, 1) := dk_42 (dk_at dksX6_text_4 17 rfl rfl)
theorem dX6_text_110 : decode cX6_text 110 = .ok (.getfield 121, 3) := dk_180 0 121 (dk_at dksX6_text_4 18 rfl rfl)
theorem dX6_text_113 : decode cX6_text 113 = .ok (.istore 4, 2) := dk_54 4 (dk_at dksX6_text_4 21 rfl rfl)
theorem dX6_text_115 : decode cX6_text 115 = .ok (.iload_n 3, 1) := dk_29 (dk_at dksX6_text_4 23 rfl rfl)
theorem dX6_text_116 : decode cX6_text 116 = .ok (.ifCond .ne 15, 3) := dk_154 0 15 (dk_at dksX6_text_5 0 rfl rfl)
theorem dX6_text_119 : decode cX6_text 119 = .ok (.aload_n 0, 1) := dk_42 (dk_at dksX6_text_5 3 rfl rfl)
theorem dX6_text_120 : decode cX6_text 120 = .ok (.aload_n 0, 1) := dk_42 (dk_at dksX6_text_5 4 rfl rfl)
theorem dX6_text_121 : decode cX6_text 121 = .ok (.getfield 19, 3) := dk_180 0 19 (dk_at dksX6_text_5 5 rfl rfl)
theorem dX6_text_124 : decode cX6_text 124 = .ok (.aload_n 0, 1) := dk_42 (dk_at dksX6_text_5 8 rfl rfl)
theorem dX6_text_125 : decode cX6_text 125 = .ok (.getfield 7, 3) := dk_180 0 7 (dk_at dksX6_text_5 9 rfl rfl)
theorem dX6_text_128 : decode cX6_text 128 = .ok (.invokevirtual 178, 3) := dk_182 0 178 (dk_at dksX6_text_5 12 rfl rfl)
theorem dX6_text_131 : decode cX6_text 131 = .ok (.aload_n 0, 1) := dk_42 (dk_at dksX6_text_5 15 rfl rfl)
theorem dX6_text_132 : decode cX6_text 132 = .ok (.getfield 7, 3) := dk_180 0 7 (dk_at dksX6_text_5 16 rfl rfl)
theorem dX6_text_135 : decode cX6_text 135 = .ok (.iconst 4, 1) := dk_7 (dk_at dksX6_text_5 19 rfl rfl)
theorem dX6_text_136 : decode cX6_text 136 = .ok (.iconst 0, 1) := dk_3 (dk_at dksX6_text_5 20 rfl rfl)
theorem dX6_text_137 : decode cX6_text 137 = .ok (.iastore, 1) := dk_79 (dk_at dksX6_text_5 21 rfl rfl)
theorem dX6_text_138 : decode cX6_text 138 = .ok (.iload_n 3, 1) := dk_29 (dk_at dksX6_text_5 22 rfl rfl)
theorem dX6_text_139 : decode cX6_text 139 = .ok (.ifCond .eq 7, 3) := dk_153 0 7 (dk_at dksX6_text_6 0 rfl rfl)
theorem dX6_text_142 : decode cX6_text 142 = .ok (.iconst 1, 1) := dk_4 (dk_at dksX6_text_6 3 rfl rfl)
theorem dX6_text_143 : decode cX6_text 143 = .ok (.goto 8, 3) := dk_167 0 8 (dk_at dksX6_text_6 4 rfl rfl)
theorem dX6_text_146 : decode cX6_text 146 = .ok (.bipush (-10), 2) := dk_16 246 (dk_at dksX6_text_6 7 rfl rfl)
theorem dX6_text_148 : decode cX6_text 148 = .ok (.iload 4, 2) := dk_21 4 (dk_at dksX6_text_6 9 rfl rfl)
theorem dX6_text_150 : decode cX6_text 150 = .ok (.isub, 1) := dk_100 (dk_at dksX6_text_6 11 rfl rfl)
theorem dX6_text_151 : decode cX6_text 151 = .ok (.ireturn, 1) := dk_172 (dk_at dksX6_text_6 12 rfl rfl)
abbrev cX6_moveAll : ByteArray := prog_30_method_5_code
def yX6_moveAll : MethodName := ⟨RX6, "moveAll", "([I[I)V"⟩
def dkwX6_moveAll_0 : List UInt8 := [3, 62, 29, 17, 1, 42, 162, 0, 15, 44, 29, 43, 29, 46, 79, 132, 3, 1, 167, 255, 240, 177]
abbrev dktX6_moveAll_0 : List UInt8 := dkwX6_moveAll_0 ++ []
theorem dksX6_moveAll_0 : cX6_moveAll.data.toList.drop 0 = dktX6_moveAll_0 := by decide +kernel
theorem dX6_moveAll_0 : decode cX6_moveAll 0 = .ok (.iconst 0, 1) := dk_3 (dk_at dksX6_moveAll_0 0 rfl rfl)
theorem dX6_moveAll_1 : decode cX6_moveAll 1 = .ok (.istore_n 3, 1) := dk_62 (dk_at dksX6_moveAll_0 1 rfl rfl)
theorem dX6_moveAll_2 : decode cX6_moveAll 2 = .ok (.iload_n 3, 1) := dk_29 (dk_at dksX6_moveAll_0 2 rfl rfl)
theorem dX6_moveAll_3 : decode cX6_moveAll 3 = .ok (.sipush 298, 3) := dk_17 1 42 (dk_at dksX6_moveAll_0 3 rfl rfl)
theorem dX6_moveAll_6 : decode cX6_moveAll 6 = .ok (.if_icmp .ge 15, 3) := dk_162 0 15 (dk_at dksX6_moveAll_0 6 rfl rfl)
theorem dX6_moveAll_9 : decode cX6_moveAll 9 = .ok (.aload_n 2, 1) := dk_44 (dk_at dksX6_moveAll_0 9 rfl rfl)
theorem dX6_moveAll_10 : decode cX6_moveAll 10 = .ok (.iload_n 3, 1) := dk_29 (dk_at dksX6_moveAll_0 10 rfl rfl)
theorem dX6_moveAll_11 : decode cX6_moveAll 11 = .ok (.aload_n 1, 1) := dk_43 (dk_at dksX6_moveAll_0 11 rfl rfl)
theorem dX6_moveAll_12 : decode cX6_moveAll 12 = .ok (.iload_n 3, 1) := dk_29 (dk_at dksX6_moveAll_0 12 rfl rfl)
theorem dX6_moveAll_13 : decode cX6_moveAll 13 = .ok (.iaload, 1) := dk_46 (dk_at dksX6_moveAll_0 13 rfl rfl)
theorem dX6_moveAll_14 : decode cX6_moveAll 14 = .ok (.iastore, 1) := dk_79 (dk_at dksX6_moveAll_0 14 rfl rfl)
theorem dX6_moveAll_15 : decode cX6_moveAll 15 = .ok (.iinc 3 1, 3) := dk_132 3 1 (dk_at dksX6_moveAll_0 15 rfl rfl)
theorem dX6_moveAll_18 : decode cX6_moveAll 18 = .ok (.goto (-16), 3) := dk_167 255 240 (dk_at dksX6_moveAll_0 18 rfl rfl)
theorem dX6_moveAll_21 : decode cX6_moveAll 21 = .ok (.return_, 1) := dk_177 (dk_at dksX6_moveAll_0 21 rfl rfl)
abbrev cX6_days : ByteArray := prog_30_method_48_code
def yX6_days : MethodName := ⟨RX6, "days", "(I)I"⟩
def dkwX6_days_1 : List UInt8 := [96, 17, 39, 15, 164, 0, 10, 42, 18, 189, 182, 0, 62, 172, 42, 27, 182, 0, 190, 42, 182, 0, 193, 172]
abbrev dktX6_days_1 : List UInt8 := dkwX6_days_1 ++ []
def dkwX6_days_0 : List UInt8 := [27, 4, 16, 100, 184, 0, 53, 154, 0, 10, 42, 18, 61, 182, 0, 62, 172, 42, 180, 0, 7, 3, 46, 27]
abbrev dktX6_days_0 : List UInt8 := dkwX6_days_0 ++ dktX6_days_1
theorem dksX6_days_0 : cX6_days.data.toList.drop 0 = dktX6_days_0 := by decide +kernel
theorem dksX6_days_1 : cX6_days.data.toList.drop 24 = dktX6_days_1 := dk_seg dksX6_days_0 24 rfl rfl
theorem dX6_days_0 : decode cX6_days 0 = .ok (.iload_n 1, 1) := dk_27 (dk_at dksX6_days_0 0 rfl rfl)
theorem dX6_days_1 : decode cX6_days 1 = .ok (.iconst 1, 1) := dk_4 (dk_at dksX6_days_0 1 rfl rfl)
theorem dX6_days_2 : decode cX6_days 2 = .ok (.bipush 100, 2) := dk_16 100 (dk_at dksX6_days_0 2 rfl rfl)
theorem dX6_days_4 : decode cX6_days 4 = .ok (.invokestatic 53, 3) := dk_184 0 53 (dk_at dksX6_days_0 4 rfl rfl)
theorem dX6_days_7 : decode cX6_days 7 = .ok (.ifCond .ne 10, 3) := dk_154 0 10 (dk_at dksX6_days_0 7 rfl rfl)
theorem dX6_days_10 : decode cX6_days 10 = .ok (.aload_n 0, 1) := dk_42 (dk_at dksX6_days_0 10 rfl rfl)
theorem dX6_days_11 : decode cX6_days 11 = .ok (.ldc 61, 2) := dk_18 61 (dk_at dksX6_days_0 11 rfl rfl)
theorem dX6_days_13 : decode cX6_days 13 = .ok (.invokevirtual 62, 3) := dk_182 0 62 (dk_at dksX6_days_0 13 rfl rfl)
theorem dX6_days_16 : decode cX6_days 16 = .ok (.ireturn, 1) := dk_172 (dk_at dksX6_days_0 16 rfl rfl)
theorem dX6_days_17 : decode cX6_days 17 = .ok (.aload_n 0, 1) := dk_42 (dk_at dksX6_days_0 17 rfl rfl)
theorem dX6_days_18 : decode cX6_days 18 = .ok (.getfield 7, 3) := dk_180 0 7 (dk_at dksX6_days_0 18 rfl rfl)
theorem dX6_days_21 : decode cX6_days 21 = .ok (.iconst 0, 1) := dk_3 (dk_at dksX6_days_0 21 rfl rfl)
theorem dX6_days_22 : decode cX6_days 22 = .ok (.iaload, 1) := dk_46 (dk_at dksX6_days_0 22 rfl rfl)
theorem dX6_days_23 : decode cX6_days 23 = .ok (.iload_n 1, 1) := dk_27 (dk_at dksX6_days_0 23 rfl rfl)
theorem dX6_days_24 : decode cX6_days 24 = .ok (.iadd, 1) := dk_96 (dk_at dksX6_days_1 0 rfl rfl)
theorem dX6_days_25 : decode cX6_days 25 = .ok (.sipush 9999, 3) := dk_17 39 15 (dk_at dksX6_days_1 1 rfl rfl)
theorem dX6_days_28 : decode cX6_days 28 = .ok (.if_icmp .le 10, 3) := dk_164 0 10 (dk_at dksX6_days_1 4 rfl rfl)
theorem dX6_days_31 : decode cX6_days 31 = .ok (.aload_n 0, 1) := dk_42 (dk_at dksX6_days_1 7 rfl rfl)
theorem dX6_days_32 : decode cX6_days 32 = .ok (.ldc 189, 2) := dk_18 189 (dk_at dksX6_days_1 8 rfl rfl)
theorem dX6_days_34 : decode cX6_days 34 = .ok (.invokevirtual 62, 3) := dk_182 0 62 (dk_at dksX6_days_1 10 rfl rfl)
theorem dX6_days_37 : decode cX6_days 37 = .ok (.ireturn, 1) := dk_172 (dk_at dksX6_days_1 13 rfl rfl)
theorem dX6_days_38 : decode cX6_days 38 = .ok (.aload_n 0, 1) := dk_42 (dk_at dksX6_days_1 14 rfl rfl)
theorem dX6_days_39 : decode cX6_days 39 = .ok (.iload_n 1, 1) := dk_27 (dk_at dksX6_days_1 15 rfl rfl)
theorem dX6_days_40 : decode cX6_days 40 = .ok (.invokevirtual 190, 3) := dk_182 0 190 (dk_at dksX6_days_1 16 rfl rfl)
theorem dX6_days_43 : decode cX6_days 43 = .ok (.aload_n 0, 1) := dk_42 (dk_at dksX6_days_1 19 rfl rfl)
theorem dX6_days_44 : decode cX6_days 44 = .ok (.invokevirtual 193, 3) := dk_182 0 193 (dk_at dksX6_days_1 20 rfl rfl)
theorem dX6_days_47 : decode cX6_days 47 = .ok (.ireturn, 1) := dk_172 (dk_at dksX6_days_1 23 rfl rfl)
abbrev cX6_passes : ByteArray := prog_30_method_46_code
def yX6_passes : MethodName := ⟨RX6, "passes", "(I)V"⟩
def dkwX6_passes_0 : List UInt8 := [3, 61, 28, 27, 162, 0, 13, 42, 182, 0, 186, 132, 2, 1, 167, 255, 244, 177]
abbrev dktX6_passes_0 : List UInt8 := dkwX6_passes_0 ++ []
theorem dksX6_passes_0 : cX6_passes.data.toList.drop 0 = dktX6_passes_0 := by decide +kernel
theorem dX6_passes_0 : decode cX6_passes 0 = .ok (.iconst 0, 1) := dk_3 (dk_at dksX6_passes_0 0 rfl rfl)
theorem dX6_passes_1 : decode cX6_passes 1 = .ok (.istore_n 2, 1) := dk_61 (dk_at dksX6_passes_0 1 rfl rfl)
theorem dX6_passes_2 : decode cX6_passes 2 = .ok (.iload_n 2, 1) := dk_28 (dk_at dksX6_passes_0 2 rfl rfl)
theorem dX6_passes_3 : decode cX6_passes 3 = .ok (.iload_n 1, 1) := dk_27 (dk_at dksX6_passes_0 3 rfl rfl)
theorem dX6_passes_4 : decode cX6_passes 4 = .ok (.if_icmp .ge 13, 3) := dk_162 0 13 (dk_at dksX6_passes_0 4 rfl rfl)
theorem dX6_passes_7 : decode cX6_passes 7 = .ok (.aload_n 0, 1) := dk_42 (dk_at dksX6_passes_0 7 rfl rfl)
theorem dX6_passes_8 : decode cX6_passes 8 = .ok (.invokevirtual 186, 3) := dk_182 0 186 (dk_at dksX6_passes_0 8 rfl rfl)
theorem dX6_passes_11 : decode cX6_passes 11 = .ok (.iinc 2 1, 3) := dk_132 2 1 (dk_at dksX6_passes_0 11 rfl rfl)
theorem dX6_passes_14 : decode cX6_passes 14 = .ok (.goto (-12), 3) := dk_167 255 244 (dk_at dksX6_passes_0 14 rfl rfl)
theorem dX6_passes_17 : decode cX6_passes 17 = .ok (.return_, 1) := dk_177 (dk_at dksX6_passes_0 17 rfl rfl)
abbrev cX6_oneDay : ByteArray := prog_30_method_45_code
def yX6_oneDay : MethodName := ⟨RX6, "oneDay", "()V"⟩
def dkwX6_oneDay_3 : List UInt8 := [3, 92, 46, 4, 96, 79, 177]
abbrev dktX6_oneDay_3 : List UInt8 := dkwX6_oneDay_3 ++ []
def dkwX6_oneDay_2 : List UInt8 := [42, 180, 0, 7, 4, 46, 96, 3, 16, 99, 184, 0, 170, 79, 132, 1, 1, 167, 255, 216, 42, 180, 0, 7]
abbrev dktX6_oneDay_2 : List UInt8 := dkwX6_oneDay_2 ++ dktX6_oneDay_3
def dkwX6_oneDay_1 : List UInt8 := [60, 27, 16, 25, 162, 0, 40, 42, 180, 0, 7, 16, 33, 27, 96, 42, 180, 0, 7, 16, 33, 27, 96, 46]
abbrev dktX6_oneDay_1 : List UInt8 := dkwX6_oneDay_1 ++ dktX6_oneDay_2
def dkwX6_oneDay_0 : List UInt8 := [3, 60, 27, 42, 180, 0, 7, 6, 46, 162, 0, 14, 42, 27, 182, 0, 182, 132, 1, 1, 167, 255, 238, 3]
abbrev dktX6_oneDay_0 : List UInt8 := dkwX6_oneDay_0 ++ dktX6_oneDay_1
theorem dksX6_oneDay_0 : cX6_oneDay.data.toList.drop 0 = dktX6_oneDay_0 := by decide +kernel
theorem dksX6_oneDay_1 : cX6_oneDay.data.toList.drop 24 = dktX6_oneDay_1 := dk_seg dksX6_oneDay_0 24 rfl rfl
theorem dksX6_oneDay_2 : cX6_oneDay.data.toList.drop 48 = dktX6_oneDay_2 := dk_seg dksX6_oneDay_1 24 rfl rfl
theorem dksX6_oneDay_3 : cX6_oneDay.data.toList.drop 72 = dktX6_oneDay_3 := dk_seg dksX6_oneDay_2 24 rfl rfl
theorem dX6_oneDay_0 : decode cX6_oneDay 0 = .ok (.iconst 0, 1) := dk_3 (dk_at dksX6_oneDay_0 0 rfl rfl)
theorem dX6_oneDay_1 : decode cX6_oneDay 1 = .ok (.istore_n 1, 1) := dk_60 (dk_at dksX6_oneDay_0 1 rfl rfl)
theorem dX6_oneDay_2 : decode cX6_oneDay 2 = .ok (.iload_n 1, 1) := dk_27 (dk_at dksX6_oneDay_0 2 rfl rfl)
theorem dX6_oneDay_3 : decode cX6_oneDay 3 = .ok (.aload_n 0, 1) := dk_42 (dk_at dksX6_oneDay_0 3 rfl rfl)
theorem dX6_oneDay_4 : decode cX6_oneDay 4 = .ok (.getfield 7, 3) := dk_180 0 7 (dk_at dksX6_oneDay_0 4 rfl rfl)
theorem dX6_oneDay_7 : decode cX6_oneDay 7 = .ok (.iconst 3, 1) := dk_6 (dk_at dksX6_oneDay_0 7 rfl rfl)
theorem dX6_oneDay_8 : decode cX6_oneDay 8 = .ok (.iaload, 1) := dk_46 (dk_at dksX6_oneDay_0 8 rfl rfl)
theorem dX6_oneDay_9 : decode cX6_oneDay 9 = .ok (.if_icmp .ge 14, 3) := dk_162 0 14 (dk_at dksX6_oneDay_0 9 rfl rfl)
theorem dX6_oneDay_12 : decode cX6_oneDay 12 = .ok (.aload_n 0, 1) := dk_42 (dk_at dksX6_oneDay_0 12 rfl rfl)
theorem dX6_oneDay_13 : decode cX6_oneDay 13 = .ok (.iload_n 1, 1) := dk_27 (dk_at dksX6_oneDay_0 13 rfl rfl)
theorem dX6_oneDay_14 : decode cX6_oneDay 14 = .ok (.invokevirtual 182, 3) := dk_182 0 182 (dk_at dksX6_oneDay_0 14 rfl rfl)
theorem dX6_oneDay_17 : decode cX6_oneDay 17 = .ok (.iinc 1 1, 3) := dk_132 1 1 (dk_at dksX6_oneDay_0 17 rfl rfl)
theorem dX6_oneDay_20 : decode cX6_oneDay 20 = .ok (.goto (-18), 3) := dk_167 255 238 (dk_at dksX6_oneDay_0 20 rfl rfl)
theorem dX6_oneDay_23 : decode cX6_oneDay 23 = .ok (.iconst 0, 1) := dk_3 (dk_at dksX6_oneDay_0 23 rfl rfl)
theorem dX6_oneDay_24 : decode cX6_oneDay 24 = .ok (.istore_n 1, 1) := dk_60 (dk_at dksX6_oneDay_1 0 rfl rfl)
theorem dX6_oneDay_25 : decode cX6_oneDay 25 = .ok (.iload_n 1, 1) := dk_27 (dk_at dksX6_oneDay_1 1 rfl rfl)
theorem dX6_oneDay_26 : decode cX6_oneDay 26 = .ok (.bipush 25, 2) := dk_16 25 (dk_at dksX6_oneDay_1 2 rfl rfl)
theorem dX6_oneDay_28 : decode cX6_oneDay 28 = .ok (.if_icmp .ge 40, 3) := dk_162 0 40 (dk_at dksX6_oneDay_1 4 rfl rfl)
theorem dX6_oneDay_31 : decode cX6_oneDay 31 = .ok (.aload_n 0, 1) := dk_42 (dk_at dksX6_oneDay_1 7 rfl rfl)
theorem dX6_oneDay_32 : decode cX6_oneDay 32 = .ok (.getfield 7, 3) := dk_180 0 7 (dk_at dksX6_oneDay_1 8 rfl rfl)
theorem dX6_oneDay_35 : decode cX6_oneDay 35 = .ok (.bipush 33, 2) := dk_16 33 (dk_at dksX6_oneDay_1 11 rfl rfl)
theorem dX6_oneDay_37 : decode cX6_oneDay 37 = .ok (.iload_n 1, 1) := dk_27 (dk_at dksX6_oneDay_1 13 rfl rfl)
theorem dX6_oneDay_38 : decode cX6_oneDay 38 = .ok (.iadd, 1) := dk_96 (dk_at dksX6_oneDay_1 14 rfl rfl)
theorem dX6_oneDay_39 : decode cX6_oneDay 39 = .ok (.aload_n 0, 1) := dk_42 (dk_at dksX6_oneDay_1 15 rfl rfl)
theorem dX6_oneDay_40 : decode cX6_oneDay 40 = .ok (.getfield 7, 3) := dk_180 0 7 (dk_at dksX6_oneDay_1 16 rfl rfl)
theorem dX6_oneDay_43 : decode cX6_oneDay 43 = .ok (.bipush 33, 2) := dk_16 33 (dk_at dksX6_oneDay_1 19 rfl rfl)
theorem dX6_oneDay_45 : decode cX6_oneDay 45 = .ok (.iload_n 1, 1) := dk_27 (dk_at dksX6_oneDay_1 21 rfl rfl)
theorem dX6_oneDay_46 : decode cX6_oneDay 46 = .ok (.iadd, 1) := dk_96 (dk_at dksX6_oneDay_1 22 rfl rfl)
theorem dX6_oneDay_47 : decode cX6_oneDay 47 = .ok (.iaload, 1) := dk_46 (dk_at dksX6_oneDay_1 23 rfl rfl)
theorem dX6_oneDay_48 : decode cX6_oneDay 48 = .ok (.aload_n 0, 1) := dk_42 (dk_at dksX6_oneDay_2 0 rfl rfl)
theorem dX6_oneDay_49 : decode cX6_oneDay 49 = .ok (.getfield 7, 3) := dk_180 0 7 (dk_at dksX6_oneDay_2 1 rfl rfl)
theorem dX6_oneDay_52 : decode cX6_oneDay 52 = .ok (.iconst 1, 1) := dk_4 (dk_at dksX6_oneDay_2 4 rfl rfl)
theorem dX6_oneDay_53 : decode cX6_oneDay 53 = .ok (.iaload, 1) := dk_46 (dk_at dksX6_oneDay_2 5 rfl rfl)
theorem dX6_oneDay_54 : decode cX6_oneDay 54 = .ok (.iadd, 1) := dk_96 (dk_at dksX6_oneDay_2 6 rfl rfl)
theorem dX6_oneDay_55 : decode cX6_oneDay 55 = .ok (.iconst 0, 1) := dk_3 (dk_at dksX6_oneDay_2 7 rfl rfl)
theorem dX6_oneDay_56 : decode cX6_oneDay 56 = .ok (.bipush 99, 2) := dk_16 99 (dk_at dksX6_oneDay_2 8 rfl rfl)
theorem dX6_oneDay_58 : decode cX6_oneDay 58 = .ok (.invokestatic 170, 3) := dk_184 0 170 (dk_at dksX6_oneDay_2 10 rfl rfl)
theorem dX6_oneDay_61 : decode cX6_oneDay 61 = .ok (.iastore, 1) := dk_79 (dk_at dksX6_oneDay_2 13 rfl rfl)
theorem dX6_oneDay_62 : decode cX6_oneDay 62 = .ok (.iinc 1 1, 3) := dk_132 1 1 (dk_at dksX6_oneDay_2 14 rfl rfl)
theorem dX6_oneDay_65 : decode cX6_oneDay 65 = .ok (.goto (-40), 3) := dk_167 255 216 (dk_at dksX6_oneDay_2 17 rfl rfl)
theorem dX6_oneDay_68 : decode cX6_oneDay 68 = .ok (.aload_n 0, 1) := dk_42 (dk_at dksX6_oneDay_2 20 rfl rfl)
theorem dX6_oneDay_69 : decode cX6_oneDay 69 = .ok (.getfield 7, 3) := dk_180 0 7 (dk_at dksX6_oneDay_2 21 rfl rfl)
theorem dX6_oneDay_72 : decode cX6_oneDay 72 = .ok (.iconst 0, 1) := dk_3 (dk_at dksX6_oneDay_3 0 rfl rfl)
theorem dX6_oneDay_73 : decode cX6_oneDay 73 = .ok (.dup2, 1) := dk_92 (dk_at dksX6_oneDay_3 1 rfl rfl)
theorem dX6_oneDay_74 : decode cX6_oneDay 74 = .ok (.iaload, 1) := dk_46 (dk_at dksX6_oneDay_3 2 rfl rfl)
theorem dX6_oneDay_75 : decode cX6_oneDay 75 = .ok (.iconst 1, 1) := dk_4 (dk_at dksX6_oneDay_3 3 rfl rfl)
theorem dX6_oneDay_76 : decode cX6_oneDay 76 = .ok (.iadd, 1) := dk_96 (dk_at dksX6_oneDay_3 4 rfl rfl)
theorem dX6_oneDay_77 : decode cX6_oneDay 77 = .ok (.iastore, 1) := dk_79 (dk_at dksX6_oneDay_3 5 rfl rfl)
theorem dX6_oneDay_78 : decode cX6_oneDay 78 = .ok (.return_, 1) := dk_177 (dk_at dksX6_oneDay_3 6 rfl rfl)
abbrev cX6_grazes : ByteArray := prog_30_method_44_code
def yX6_grazes : MethodName := ⟨RX6, "grazes", "(I)V"⟩
def dkwX6_grazes_5 : List UInt8 := [182, 0, 78, 42, 27, 6, 29, 182, 0, 78, 177]
abbrev dktX6_grazes_5 : List UInt8 := dkwX6_grazes_5 ++ []
def dkwX6_grazes_4 : List UInt8 := [27, 7, 21, 4, 96, 4, 100, 182, 0, 69, 182, 0, 78, 132, 4, 255, 167, 255, 228, 42, 27, 7, 28]
abbrev dktX6_grazes_4 : List UInt8 := dkwX6_grazes_4 ++ dktX6_grazes_5
def dkwX6_grazes_3 : List UInt8 := [182, 0, 99, 184, 0, 170, 62, 29, 4, 100, 54, 4, 21, 4, 158, 0, 29, 42, 27, 7, 21, 4, 96, 42]
abbrev dktX6_grazes_3 : List UInt8 := dkwX6_grazes_3 ++ dktX6_grazes_4
def dkwX6_grazes_2 : List UInt8 := [182, 0, 96, 100, 3, 16, 99, 184, 0, 170, 79, 42, 27, 6, 182, 0, 69, 4, 96, 4, 42, 27]
abbrev dktX6_grazes_2 : List UInt8 := dkwX6_grazes_2 ++ dktX6_grazes_3
def dkwX6_grazes_1 : List UInt8 := [28, 182, 0, 78, 42, 180, 0, 7, 16, 33, 28, 96, 42, 180, 0, 7, 16, 33, 28, 96, 46, 42, 27]
abbrev dktX6_grazes_1 : List UInt8 := dkwX6_grazes_1 ++ dktX6_grazes_2
def dkwX6_grazes_0 : List UInt8 := [42, 27, 5, 182, 0, 69, 42, 27, 42, 27, 5, 182, 0, 69, 182, 0, 102, 184, 0, 90, 61, 42, 27, 5]
abbrev dktX6_grazes_0 : List UInt8 := dkwX6_grazes_0 ++ dktX6_grazes_1
theorem dksX6_grazes_0 : cX6_grazes.data.toList.drop 0 = dktX6_grazes_0 := by decide +kernel
theorem dksX6_grazes_1 : cX6_grazes.data.toList.drop 24 = dktX6_grazes_1 := dk_seg dksX6_grazes_0 24 rfl rfl
theorem dksX6_grazes_2 : cX6_grazes.data.toList.drop 47 = dktX6_grazes_2 := dk_seg dksX6_grazes_1 23 rfl rfl
theorem dksX6_grazes_3 : cX6_grazes.data.toList.drop 69 = dktX6_grazes_3 := dk_seg dksX6_grazes_2 22 rfl rfl
theorem dksX6_grazes_4 : cX6_grazes.data.toList.drop 93 = dktX6_grazes_4 := dk_seg dksX6_grazes_3 24 rfl rfl
theorem dksX6_grazes_5 : cX6_grazes.data.toList.drop 116 = dktX6_grazes_5 := dk_seg dksX6_grazes_4 23 rfl rfl
theorem dX6_grazes_0 : decode cX6_grazes 0 = .ok (.aload_n 0, 1) := dk_42 (dk_at dksX6_grazes_0 0 rfl rfl)
theorem dX6_grazes_1 : decode cX6_grazes 1 = .ok (.iload_n 1, 1) := dk_27 (dk_at dksX6_grazes_0 1 rfl rfl)
theorem dX6_grazes_2 : decode cX6_grazes 2 = .ok (.iconst 2, 1) := dk_5 (dk_at dksX6_grazes_0 2 rfl rfl)
theorem dX6_grazes_3 : decode cX6_grazes 3 = .ok (.invokevirtual 69, 3) := dk_182 0 69 (dk_at dksX6_grazes_0 3 rfl rfl)
theorem dX6_grazes_6 : decode cX6_grazes 6 = .ok (.aload_n 0, 1) := dk_42 (dk_at dksX6_grazes_0 6 rfl rfl)
theorem dX6_grazes_7 : decode cX6_grazes 7 = .ok (.iload_n 1, 1) := dk_27 (dk_at dksX6_grazes_0 7 rfl rfl)
theorem dX6_grazes_8 : decode cX6_grazes 8 = .ok (.aload_n 0, 1) := dk_42 (dk_at dksX6_grazes_0 8 rfl rfl)
theorem dX6_grazes_9 : decode cX6_grazes 9 = .ok (.iload_n 1, 1) := dk_27 (dk_at dksX6_grazes_0 9 rfl rfl)
theorem dX6_grazes_10 : decode cX6_grazes 10 = .ok (.iconst 2, 1) := dk_5 (dk_at dksX6_grazes_0 10 rfl rfl)
theorem dX6_grazes_11 : decode cX6_grazes 11 = .ok (.invokevirtual 69, 3) := dk_182 0 69 (dk_at dksX6_grazes_0 11 rfl rfl)
theorem dX6_grazes_14 : decode cX6_grazes 14 = .ok (.invokevirtual 102, 3) := dk_182 0 102 (dk_at dksX6_grazes_0 14 rfl rfl)
theorem dX6_grazes_17 : decode cX6_grazes 17 = .ok (.invokestatic 90, 3) := dk_184 0 90 (dk_at dksX6_grazes_0 17 rfl rfl)
theorem dX6_grazes_20 : decode cX6_grazes 20 = .ok (.istore_n 2, 1) := dk_61 (dk_at dksX6_grazes_0 20 rfl rfl)
theorem dX6_grazes_21 : decode cX6_grazes 21 = .ok (.aload_n 0, 1) := dk_42 (dk_at dksX6_grazes_0 21 rfl rfl)
theorem dX6_grazes_22 : decode cX6_grazes 22 = .ok (.iload_n 1, 1) := dk_27 (dk_at dksX6_grazes_0 22 rfl rfl)
theorem dX6_grazes_23 : decode cX6_grazes 23 = .ok (.iconst 2, 1) := dk_5 (dk_at dksX6_grazes_0 23 rfl rfl)
theorem dX6_grazes_24 : decode cX6_grazes 24 = .ok (.iload_n 2, 1) := dk_28 (dk_at dksX6_grazes_1 0 rfl rfl)
theorem dX6_grazes_25 : decode cX6_grazes 25 = .ok (.invokevirtual 78, 3) := dk_182 0 78 (dk_at dksX6_grazes_1 1 rfl rfl)
theorem dX6_grazes_28 : decode cX6_grazes 28 = .ok (.aload_n 0, 1) := dk_42 (dk_at dksX6_grazes_1 4 rfl rfl)
theorem dX6_grazes_29 : decode cX6_grazes 29 = .ok (.getfield 7, 3) := dk_180 0 7 (dk_at dksX6_grazes_1 5 rfl rfl)
theorem dX6_grazes_32 : decode cX6_grazes 32 = .ok (.bipush 33, 2) := dk_16 33 (dk_at dksX6_grazes_1 8 rfl rfl)
theorem dX6_grazes_34 : decode cX6_grazes 34 = .ok (.iload_n 2, 1) := dk_28 (dk_at dksX6_grazes_1 10 rfl rfl)
theorem dX6_grazes_35 : decode cX6_grazes 35 = .ok (.iadd, 1) := dk_96 (dk_at dksX6_grazes_1 11 rfl rfl)
theorem dX6_grazes_36 : decode cX6_grazes 36 = .ok (.aload_n 0, 1) := dk_42 (dk_at dksX6_grazes_1 12 rfl rfl)
theorem dX6_grazes_37 : decode cX6_grazes 37 = .ok (.getfield 7, 3) := dk_180 0 7 (dk_at dksX6_grazes_1 13 rfl rfl)
theorem dX6_grazes_40 : decode cX6_grazes 40 = .ok (.bipush 33, 2) := dk_16 33 (dk_at dksX6_grazes_1 16 rfl rfl)
theorem dX6_grazes_42 : decode cX6_grazes 42 = .ok (.iload_n 2, 1) := dk_28 (dk_at dksX6_grazes_1 18 rfl rfl)
theorem dX6_grazes_43 : decode cX6_grazes 43 = .ok (.iadd, 1) := dk_96 (dk_at dksX6_grazes_1 19 rfl rfl)
theorem dX6_grazes_44 : decode cX6_grazes 44 = .ok (.iaload, 1) := dk_46 (dk_at dksX6_grazes_1 20 rfl rfl)
theorem dX6_grazes_45 : decode cX6_grazes 45 = .ok (.aload_n 0, 1) := dk_42 (dk_at dksX6_grazes_1 21 rfl rfl)
theorem dX6_grazes_46 : decode cX6_grazes 46 = .ok (.iload_n 1, 1) := dk_27 (dk_at dksX6_grazes_1 22 rfl rfl)
theorem dX6_grazes_47 : decode cX6_grazes 47 = .ok (.invokevirtual 96, 3) := dk_182 0 96 (dk_at dksX6_grazes_2 0 rfl rfl)
theorem dX6_grazes_50 : decode cX6_grazes 50 = .ok (.isub, 1) := dk_100 (dk_at dksX6_grazes_2 3 rfl rfl)
theorem dX6_grazes_51 : decode cX6_grazes 51 = .ok (.iconst 0, 1) := dk_3 (dk_at dksX6_grazes_2 4 rfl rfl)
theorem dX6_grazes_52 : decode cX6_grazes 52 = .ok (.bipush 99, 2) := dk_16 99 (dk_at dksX6_grazes_2 5 rfl rfl)
theorem dX6_grazes_54 : decode cX6_grazes 54 = .ok (.invokestatic 170, 3) := dk_184 0 170 (dk_at dksX6_grazes_2 7 rfl rfl)
theorem dX6_grazes_57 : decode cX6_grazes 57 = .ok (.iastore, 1) := dk_79 (dk_at dksX6_grazes_2 10 rfl rfl)
theorem dX6_grazes_58 : decode cX6_grazes 58 = .ok (.aload_n 0, 1) := dk_42 (dk_at dksX6_grazes_2 11 rfl rfl)
theorem dX6_grazes_59 : decode cX6_grazes 59 = .ok (.iload_n 1, 1) := dk_27 (dk_at dksX6_grazes_2 12 rfl rfl)
theorem dX6_grazes_60 : decode cX6_grazes 60 = .ok (.iconst 3, 1) := dk_6 (dk_at dksX6_grazes_2 13 rfl rfl)
theorem dX6_grazes_61 : decode cX6_grazes 61 = .ok (.invokevirtual 69, 3) := dk_182 0 69 (dk_at dksX6_grazes_2 14 rfl rfl)
theorem dX6_grazes_64 : decode cX6_grazes 64 = .ok (.iconst 1, 1) := dk_4 (dk_at dksX6_grazes_2 17 rfl rfl)
theorem dX6_grazes_65 : decode cX6_grazes 65 = .ok (.iadd, 1) := dk_96 (dk_at dksX6_grazes_2 18 rfl rfl)
theorem dX6_grazes_66 : decode cX6_grazes 66 = .ok (.iconst 1, 1) := dk_4 (dk_at dksX6_grazes_2 19 rfl rfl)
theorem dX6_grazes_67 : decode cX6_grazes 67 = .ok (.aload_n 0, 1) := dk_42 (dk_at dksX6_grazes_2 20 rfl rfl)
theorem dX6_grazes_68 : decode cX6_grazes 68 = .ok (.iload_n 1, 1) := dk_27 (dk_at dksX6_grazes_2 21 rfl rfl)
theorem dX6_grazes_69 : decode cX6_grazes 69 = .ok (.invokevirtual 99, 3) := dk_182 0 99 (dk_at dksX6_grazes_3 0 rfl rfl)
theorem dX6_grazes_72 : decode cX6_grazes 72 = .ok (.invokestatic 170, 3) := dk_184 0 170 (dk_at dksX6_grazes_3 3 rfl rfl)
theorem dX6_grazes_75 : decode cX6_grazes 75 = .ok (.istore_n 3, 1) := dk_62 (dk_at dksX6_grazes_3 6 rfl rfl)
theorem dX6_grazes_76 : decode cX6_grazes 76 = .ok (.iload_n 3, 1) := dk_29 (dk_at dksX6_grazes_3 7 rfl rfl)
theorem dX6_grazes_77 : decode cX6_grazes 77 = .ok (.iconst 1, 1) := dk_4 (dk_at dksX6_grazes_3 8 rfl rfl)
theorem dX6_grazes_78 : decode cX6_grazes 78 = .ok (.isub, 1) := dk_100 (dk_at dksX6_grazes_3 9 rfl rfl)
theorem dX6_grazes_79 : decode cX6_grazes 79 = .ok (.istore 4, 2) := dk_54 4 (dk_at dksX6_grazes_3 10 rfl rfl)
theorem dX6_grazes_81 : decode cX6_grazes 81 = .ok (.iload 4, 2) := dk_21 4 (dk_at dksX6_grazes_3 12 rfl rfl)
theorem dX6_grazes_83 : decode cX6_grazes 83 = .ok (.ifCond .le 29, 3) := dk_158 0 29 (dk_at dksX6_grazes_3 14 rfl rfl)
theorem dX6_grazes_86 : decode cX6_grazes 86 = .ok (.aload_n 0, 1) := dk_42 (dk_at dksX6_grazes_3 17 rfl rfl)
theorem dX6_grazes_87 : decode cX6_grazes 87 = .ok (.iload_n 1, 1) := dk_27 (dk_at dksX6_grazes_3 18 rfl rfl)
theorem dX6_grazes_88 : decode cX6_grazes 88 = .ok (.iconst 4, 1) := dk_7 (dk_at dksX6_grazes_3 19 rfl rfl)
theorem dX6_grazes_89 : decode cX6_grazes 89 = .ok (.iload 4, 2) := dk_21 4 (dk_at dksX6_grazes_3 20 rfl rfl)
theorem dX6_grazes_91 : decode cX6_grazes 91 = .ok (.iadd, 1) := dk_96 (dk_at dksX6_grazes_3 22 rfl rfl)
theorem dX6_grazes_92 : decode cX6_grazes 92 = .ok (.aload_n 0, 1) := dk_42 (dk_at dksX6_grazes_3 23 rfl rfl)
theorem dX6_grazes_93 : decode cX6_grazes 93 = .ok (.iload_n 1, 1) := dk_27 (dk_at dksX6_grazes_4 0 rfl rfl)
theorem dX6_grazes_94 : decode cX6_grazes 94 = .ok (.iconst 4, 1) := dk_7 (dk_at dksX6_grazes_4 1 rfl rfl)
theorem dX6_grazes_95 : decode cX6_grazes 95 = .ok (.iload 4, 2) := dk_21 4 (dk_at dksX6_grazes_4 2 rfl rfl)
theorem dX6_grazes_97 : decode cX6_grazes 97 = .ok (.iadd, 1) := dk_96 (dk_at dksX6_grazes_4 4 rfl rfl)
theorem dX6_grazes_98 : decode cX6_grazes 98 = .ok (.iconst 1, 1) := dk_4 (dk_at dksX6_grazes_4 5 rfl rfl)
theorem dX6_grazes_99 : decode cX6_grazes 99 = .ok (.isub, 1) := dk_100 (dk_at dksX6_grazes_4 6 rfl rfl)
theorem dX6_grazes_100 : decode cX6_grazes 100 = .ok (.invokevirtual 69, 3) := dk_182 0 69 (dk_at dksX6_grazes_4 7 rfl rfl)
theorem dX6_grazes_103 : decode cX6_grazes 103 = .ok (.invokevirtual 78, 3) := dk_182 0 78 (dk_at dksX6_grazes_4 10 rfl rfl)
theorem dX6_grazes_106 : decode cX6_grazes 106 = .ok (.iinc 4 (-1), 3) := dk_132 4 255 (dk_at dksX6_grazes_4 13 rfl rfl)
theorem dX6_grazes_109 : decode cX6_grazes 109 = .ok (.goto (-28), 3) := dk_167 255 228 (dk_at dksX6_grazes_4 16 rfl rfl)
theorem dX6_grazes_112 : decode cX6_grazes 112 = .ok (.aload_n 0, 1) := dk_42 (dk_at dksX6_grazes_4 19 rfl rfl)
theorem dX6_grazes_113 : decode cX6_grazes 113 = .ok (.iload_n 1, 1) := dk_27 (dk_at dksX6_grazes_4 20 rfl rfl)
theorem dX6_grazes_114 : decode cX6_grazes 114 = .ok (.iconst 4, 1) := dk_7 (dk_at dksX6_grazes_4 21 rfl rfl)
theorem dX6_grazes_115 : decode cX6_grazes 115 = .ok (.iload_n 2, 1) := dk_28 (dk_at dksX6_grazes_4 22 rfl rfl)
theorem dX6_grazes_116 : decode cX6_grazes 116 = .ok (.invokevirtual 78, 3) := dk_182 0 78 (dk_at dksX6_grazes_5 0 rfl rfl)
theorem dX6_grazes_119 : decode cX6_grazes 119 = .ok (.aload_n 0, 1) := dk_42 (dk_at dksX6_grazes_5 3 rfl rfl)
theorem dX6_grazes_120 : decode cX6_grazes 120 = .ok (.iload_n 1, 1) := dk_27 (dk_at dksX6_grazes_5 4 rfl rfl)
theorem dX6_grazes_121 : decode cX6_grazes 121 = .ok (.iconst 3, 1) := dk_6 (dk_at dksX6_grazes_5 5 rfl rfl)
theorem dX6_grazes_122 : decode cX6_grazes 122 = .ok (.iload_n 3, 1) := dk_29 (dk_at dksX6_grazes_5 6 rfl rfl)
theorem dX6_grazes_123 : decode cX6_grazes 123 = .ok (.invokevirtual 78, 3) := dk_182 0 78 (dk_at dksX6_grazes_5 7 rfl rfl)
theorem dX6_grazes_126 : decode cX6_grazes 126 = .ok (.return_, 1) := dk_177 (dk_at dksX6_grazes_5 10 rfl rfl)
abbrev cX6_grassOfAll : ByteArray := prog_30_method_47_code
def yX6_grassOfAll : MethodName := ⟨RX6, "grassOfAll", "()I"⟩
def dkwX6_grassOfAll_1 : List UInt8 := [132, 2, 1, 167, 255, 235, 27, 172]
abbrev dktX6_grassOfAll_1 : List UInt8 := dkwX6_grassOfAll_1 ++ []
def dkwX6_grassOfAll_0 : List UInt8 := [3, 60, 3, 61, 28, 16, 25, 162, 0, 21, 27, 42, 180, 0, 7, 16, 33, 28, 96, 46, 96, 60]
abbrev dktX6_grassOfAll_0 : List UInt8 := dkwX6_grassOfAll_0 ++ dktX6_grassOfAll_1
theorem dksX6_grassOfAll_0 : cX6_grassOfAll.data.toList.drop 0 = dktX6_grassOfAll_0 := by decide +kernel
theorem dksX6_grassOfAll_1 : cX6_grassOfAll.data.toList.drop 22 = dktX6_grassOfAll_1 := dk_seg dksX6_grassOfAll_0 22 rfl rfl
theorem dX6_grassOfAll_0 : decode cX6_grassOfAll 0 = .ok (.iconst 0, 1) := dk_3 (dk_at dksX6_grassOfAll_0 0 rfl rfl)
theorem dX6_grassOfAll_1 : decode cX6_grassOfAll 1 = .ok (.istore_n 1, 1) := dk_60 (dk_at dksX6_grassOfAll_0 1 rfl rfl)
theorem dX6_grassOfAll_2 : decode cX6_grassOfAll 2 = .ok (.iconst 0, 1) := dk_3 (dk_at dksX6_grassOfAll_0 2 rfl rfl)
theorem dX6_grassOfAll_3 : decode cX6_grassOfAll 3 = .ok (.istore_n 2, 1) := dk_61 (dk_at dksX6_grassOfAll_0 3 rfl rfl)
theorem dX6_grassOfAll_4 : decode cX6_grassOfAll 4 = .ok (.iload_n 2, 1) := dk_28 (dk_at dksX6_grassOfAll_0 4 rfl rfl)
theorem dX6_grassOfAll_5 : decode cX6_grassOfAll 5 = .ok (.bipush 25, 2) := dk_16 25 (dk_at dksX6_grassOfAll_0 5 rfl rfl)
theorem dX6_grassOfAll_7 : decode cX6_grassOfAll 7 = .ok (.if_icmp .ge 21, 3) := dk_162 0 21 (dk_at dksX6_grassOfAll_0 7 rfl rfl)
theorem dX6_grassOfAll_10 : decode cX6_grassOfAll 10 = .ok (.iload_n 1, 1) := dk_27 (dk_at dksX6_grassOfAll_0 10 rfl rfl)
theorem dX6_grassOfAll_11 : decode cX6_grassOfAll 11 = .ok (.aload_n 0, 1) := dk_42 (dk_at dksX6_grassOfAll_0 11 rfl rfl)
theorem dX6_grassOfAll_12 : decode cX6_grassOfAll 12 = .ok (.getfield 7, 3) := dk_180 0 7 (dk_at dksX6_grassOfAll_0 12 rfl rfl)
theorem dX6_grassOfAll_15 : decode cX6_grassOfAll 15 = .ok (.bipush 33, 2) := dk_16 33 (dk_at dksX6_grassOfAll_0 15 rfl rfl)
theorem dX6_grassOfAll_17 : decode cX6_grassOfAll 17 = .ok (.iload_n 2, 1) := dk_28 (dk_at dksX6_grassOfAll_0 17 rfl rfl)
theorem dX6_grassOfAll_18 : decode cX6_grassOfAll 18 = .ok (.iadd, 1) := dk_96 (dk_at dksX6_grassOfAll_0 18 rfl rfl)
theorem dX6_grassOfAll_19 : decode cX6_grassOfAll 19 = .ok (.iaload, 1) := dk_46 (dk_at dksX6_grassOfAll_0 19 rfl rfl)
theorem dX6_grassOfAll_20 : decode cX6_grassOfAll 20 = .ok (.iadd, 1) := dk_96 (dk_at dksX6_grassOfAll_0 20 rfl rfl)
theorem dX6_grassOfAll_21 : decode cX6_grassOfAll 21 = .ok (.istore_n 1, 1) := dk_60 (dk_at dksX6_grassOfAll_0 21 rfl rfl)
theorem dX6_grassOfAll_22 : decode cX6_grassOfAll 22 = .ok (.iinc 2 1, 3) := dk_132 2 1 (dk_at dksX6_grassOfAll_1 0 rfl rfl)
theorem dX6_grassOfAll_25 : decode cX6_grassOfAll 25 = .ok (.goto (-21), 3) := dk_167 255 235 (dk_at dksX6_grassOfAll_1 3 rfl rfl)
theorem dX6_grassOfAll_28 : decode cX6_grassOfAll 28 = .ok (.iload_n 1, 1) := dk_27 (dk_at dksX6_grassOfAll_1 6 rfl rfl)
theorem dX6_grassOfAll_29 : decode cX6_grassOfAll 29 = .ok (.ireturn, 1) := dk_172 (dk_at dksX6_grassOfAll_1 7 rfl rfl)
abbrev cX6_loose : ByteArray := prog_30_method_50_code
def yX6_loose : MethodName := ⟨RX6, "loose", "(I)I"⟩
def dkwX6_loose_3 : List UInt8 := [132, 2, 1, 167, 255, 222, 42, 182, 0, 193, 172]
abbrev dktX6_loose_3 : List UInt8 := dkwX6_loose_3 ++ []
def dkwX6_loose_2 : List UInt8 := [182, 0, 197, 62, 42, 180, 0, 7, 16, 33, 29, 96, 42, 16, 100, 182, 0, 197, 79, 42, 182, 0, 186]
abbrev dktX6_loose_2 : List UInt8 := dkwX6_loose_2 ++ dktX6_loose_3
def dkwX6_loose_1 : List UInt8 := [96, 17, 39, 15, 164, 0, 10, 42, 18, 189, 182, 0, 62, 172, 3, 61, 28, 27, 162, 0, 35, 42, 16, 25]
abbrev dktX6_loose_1 : List UInt8 := dkwX6_loose_1 ++ dktX6_loose_2
def dkwX6_loose_0 : List UInt8 := [27, 4, 16, 40, 184, 0, 53, 154, 0, 10, 42, 18, 61, 182, 0, 62, 172, 42, 180, 0, 7, 3, 46, 27]
abbrev dktX6_loose_0 : List UInt8 := dkwX6_loose_0 ++ dktX6_loose_1
theorem dksX6_loose_0 : cX6_loose.data.toList.drop 0 = dktX6_loose_0 := by decide +kernel
theorem dksX6_loose_1 : cX6_loose.data.toList.drop 24 = dktX6_loose_1 := dk_seg dksX6_loose_0 24 rfl rfl
theorem dksX6_loose_2 : cX6_loose.data.toList.drop 48 = dktX6_loose_2 := dk_seg dksX6_loose_1 24 rfl rfl
theorem dksX6_loose_3 : cX6_loose.data.toList.drop 71 = dktX6_loose_3 := dk_seg dksX6_loose_2 23 rfl rfl
theorem dX6_loose_0 : decode cX6_loose 0 = .ok (.iload_n 1, 1) := dk_27 (dk_at dksX6_loose_0 0 rfl rfl)
theorem dX6_loose_1 : decode cX6_loose 1 = .ok (.iconst 1, 1) := dk_4 (dk_at dksX6_loose_0 1 rfl rfl)
theorem dX6_loose_2 : decode cX6_loose 2 = .ok (.bipush 40, 2) := dk_16 40 (dk_at dksX6_loose_0 2 rfl rfl)
theorem dX6_loose_4 : decode cX6_loose 4 = .ok (.invokestatic 53, 3) := dk_184 0 53 (dk_at dksX6_loose_0 4 rfl rfl)
theorem dX6_loose_7 : decode cX6_loose 7 = .ok (.ifCond .ne 10, 3) := dk_154 0 10 (dk_at dksX6_loose_0 7 rfl rfl)
theorem dX6_loose_10 : decode cX6_loose 10 = .ok (.aload_n 0, 1) := dk_42 (dk_at dksX6_loose_0 10 rfl rfl)
theorem dX6_loose_11 : decode cX6_loose 11 = .ok (.ldc 61, 2) := dk_18 61 (dk_at dksX6_loose_0 11 rfl rfl)
theorem dX6_loose_13 : decode cX6_loose 13 = .ok (.invokevirtual 62, 3) := dk_182 0 62 (dk_at dksX6_loose_0 13 rfl rfl)
theorem dX6_loose_16 : decode cX6_loose 16 = .ok (.ireturn, 1) := dk_172 (dk_at dksX6_loose_0 16 rfl rfl)
theorem dX6_loose_17 : decode cX6_loose 17 = .ok (.aload_n 0, 1) := dk_42 (dk_at dksX6_loose_0 17 rfl rfl)
theorem dX6_loose_18 : decode cX6_loose 18 = .ok (.getfield 7, 3) := dk_180 0 7 (dk_at dksX6_loose_0 18 rfl rfl)
theorem dX6_loose_21 : decode cX6_loose 21 = .ok (.iconst 0, 1) := dk_3 (dk_at dksX6_loose_0 21 rfl rfl)
theorem dX6_loose_22 : decode cX6_loose 22 = .ok (.iaload, 1) := dk_46 (dk_at dksX6_loose_0 22 rfl rfl)
theorem dX6_loose_23 : decode cX6_loose 23 = .ok (.iload_n 1, 1) := dk_27 (dk_at dksX6_loose_0 23 rfl rfl)
theorem dX6_loose_24 : decode cX6_loose 24 = .ok (.iadd, 1) := dk_96 (dk_at dksX6_loose_1 0 rfl rfl)
theorem dX6_loose_25 : decode cX6_loose 25 = .ok (.sipush 9999, 3) := dk_17 39 15 (dk_at dksX6_loose_1 1 rfl rfl)
theorem dX6_loose_28 : decode cX6_loose 28 = .ok (.if_icmp .le 10, 3) := dk_164 0 10 (dk_at dksX6_loose_1 4 rfl rfl)
theorem dX6_loose_31 : decode cX6_loose 31 = .ok (.aload_n 0, 1) := dk_42 (dk_at dksX6_loose_1 7 rfl rfl)
theorem dX6_loose_32 : decode cX6_loose 32 = .ok (.ldc 189, 2) := dk_18 189 (dk_at dksX6_loose_1 8 rfl rfl)
theorem dX6_loose_34 : decode cX6_loose 34 = .ok (.invokevirtual 62, 3) := dk_182 0 62 (dk_at dksX6_loose_1 10 rfl rfl)
theorem dX6_loose_37 : decode cX6_loose 37 = .ok (.ireturn, 1) := dk_172 (dk_at dksX6_loose_1 13 rfl rfl)
theorem dX6_loose_38 : decode cX6_loose 38 = .ok (.iconst 0, 1) := dk_3 (dk_at dksX6_loose_1 14 rfl rfl)
theorem dX6_loose_39 : decode cX6_loose 39 = .ok (.istore_n 2, 1) := dk_61 (dk_at dksX6_loose_1 15 rfl rfl)
theorem dX6_loose_40 : decode cX6_loose 40 = .ok (.iload_n 2, 1) := dk_28 (dk_at dksX6_loose_1 16 rfl rfl)
theorem dX6_loose_41 : decode cX6_loose 41 = .ok (.iload_n 1, 1) := dk_27 (dk_at dksX6_loose_1 17 rfl rfl)
theorem dX6_loose_42 : decode cX6_loose 42 = .ok (.if_icmp .ge 35, 3) := dk_162 0 35 (dk_at dksX6_loose_1 18 rfl rfl)
theorem dX6_loose_45 : decode cX6_loose 45 = .ok (.aload_n 0, 1) := dk_42 (dk_at dksX6_loose_1 21 rfl rfl)
theorem dX6_loose_46 : decode cX6_loose 46 = .ok (.bipush 25, 2) := dk_16 25 (dk_at dksX6_loose_1 22 rfl rfl)
theorem dX6_loose_48 : decode cX6_loose 48 = .ok (.invokevirtual 197, 3) := dk_182 0 197 (dk_at dksX6_loose_2 0 rfl rfl)
theorem dX6_loose_51 : decode cX6_loose 51 = .ok (.istore_n 3, 1) := dk_62 (dk_at dksX6_loose_2 3 rfl rfl)
theorem dX6_loose_52 : decode cX6_loose 52 = .ok (.aload_n 0, 1) := dk_42 (dk_at dksX6_loose_2 4 rfl rfl)
theorem dX6_loose_53 : decode cX6_loose 53 = .ok (.getfield 7, 3) := dk_180 0 7 (dk_at dksX6_loose_2 5 rfl rfl)
theorem dX6_loose_56 : decode cX6_loose 56 = .ok (.bipush 33, 2) := dk_16 33 (dk_at dksX6_loose_2 8 rfl rfl)
theorem dX6_loose_58 : decode cX6_loose 58 = .ok (.iload_n 3, 1) := dk_29 (dk_at dksX6_loose_2 10 rfl rfl)
theorem dX6_loose_59 : decode cX6_loose 59 = .ok (.iadd, 1) := dk_96 (dk_at dksX6_loose_2 11 rfl rfl)
theorem dX6_loose_60 : decode cX6_loose 60 = .ok (.aload_n 0, 1) := dk_42 (dk_at dksX6_loose_2 12 rfl rfl)
theorem dX6_loose_61 : decode cX6_loose 61 = .ok (.bipush 100, 2) := dk_16 100 (dk_at dksX6_loose_2 13 rfl rfl)
theorem dX6_loose_63 : decode cX6_loose 63 = .ok (.invokevirtual 197, 3) := dk_182 0 197 (dk_at dksX6_loose_2 15 rfl rfl)
theorem dX6_loose_66 : decode cX6_loose 66 = .ok (.iastore, 1) := dk_79 (dk_at dksX6_loose_2 18 rfl rfl)
theorem dX6_loose_67 : decode cX6_loose 67 = .ok (.aload_n 0, 1) := dk_42 (dk_at dksX6_loose_2 19 rfl rfl)
theorem dX6_loose_68 : decode cX6_loose 68 = .ok (.invokevirtual 186, 3) := dk_182 0 186 (dk_at dksX6_loose_2 20 rfl rfl)
theorem dX6_loose_71 : decode cX6_loose 71 = .ok (.iinc 2 1, 3) := dk_132 2 1 (dk_at dksX6_loose_3 0 rfl rfl)
theorem dX6_loose_74 : decode cX6_loose 74 = .ok (.goto (-34), 3) := dk_167 255 222 (dk_at dksX6_loose_3 3 rfl rfl)
theorem dX6_loose_77 : decode cX6_loose 77 = .ok (.aload_n 0, 1) := dk_42 (dk_at dksX6_loose_3 6 rfl rfl)
theorem dX6_loose_78 : decode cX6_loose 78 = .ok (.invokevirtual 193, 3) := dk_182 0 193 (dk_at dksX6_loose_3 7 rfl rfl)
theorem dX6_loose_81 : decode cX6_loose 81 = .ok (.ireturn, 1) := dk_172 (dk_at dksX6_loose_3 10 rfl rfl)
abbrev cX6_drawn : ByteArray := prog_30_method_49_code
def yX6_drawn : MethodName := ⟨RX6, "drawn", "(I)I"⟩
def dkwX6_drawn_1 : List UInt8 := [46, 16, 8, 124, 27, 112, 172]
abbrev dktX6_drawn_1 : List UInt8 := dkwX6_drawn_1 ++ []
def dkwX6_drawn_0 : List UInt8 := [42, 180, 0, 7, 5, 42, 180, 0, 7, 5, 46, 18, 196, 104, 17, 48, 57, 96, 79, 42, 180, 0, 7, 5]
abbrev dktX6_drawn_0 : List UInt8 := dkwX6_drawn_0 ++ dktX6_drawn_1
theorem dksX6_drawn_0 : cX6_drawn.data.toList.drop 0 = dktX6_drawn_0 := by decide +kernel
theorem dksX6_drawn_1 : cX6_drawn.data.toList.drop 24 = dktX6_drawn_1 := dk_seg dksX6_drawn_0 24 rfl rfl
theorem dX6_drawn_0 : decode cX6_drawn 0 = .ok (.aload_n 0, 1) := dk_42 (dk_at dksX6_drawn_0 0 rfl rfl)
theorem dX6_drawn_1 : decode cX6_drawn 1 = .ok (.getfield 7, 3) := dk_180 0 7 (dk_at dksX6_drawn_0 1 rfl rfl)
theorem dX6_drawn_4 : decode cX6_drawn 4 = .ok (.iconst 2, 1) := dk_5 (dk_at dksX6_drawn_0 4 rfl rfl)
theorem dX6_drawn_5 : decode cX6_drawn 5 = .ok (.aload_n 0, 1) := dk_42 (dk_at dksX6_drawn_0 5 rfl rfl)
theorem dX6_drawn_6 : decode cX6_drawn 6 = .ok (.getfield 7, 3) := dk_180 0 7 (dk_at dksX6_drawn_0 6 rfl rfl)
theorem dX6_drawn_9 : decode cX6_drawn 9 = .ok (.iconst 2, 1) := dk_5 (dk_at dksX6_drawn_0 9 rfl rfl)
theorem dX6_drawn_10 : decode cX6_drawn 10 = .ok (.iaload, 1) := dk_46 (dk_at dksX6_drawn_0 10 rfl rfl)
theorem dX6_drawn_11 : decode cX6_drawn 11 = .ok (.ldc 196, 2) := dk_18 196 (dk_at dksX6_drawn_0 11 rfl rfl)
theorem dX6_drawn_13 : decode cX6_drawn 13 = .ok (.imul, 1) := dk_104 (dk_at dksX6_drawn_0 13 rfl rfl)
theorem dX6_drawn_14 : decode cX6_drawn 14 = .ok (.sipush 12345, 3) := dk_17 48 57 (dk_at dksX6_drawn_0 14 rfl rfl)
theorem dX6_drawn_17 : decode cX6_drawn 17 = .ok (.iadd, 1) := dk_96 (dk_at dksX6_drawn_0 17 rfl rfl)
theorem dX6_drawn_18 : decode cX6_drawn 18 = .ok (.iastore, 1) := dk_79 (dk_at dksX6_drawn_0 18 rfl rfl)
theorem dX6_drawn_19 : decode cX6_drawn 19 = .ok (.aload_n 0, 1) := dk_42 (dk_at dksX6_drawn_0 19 rfl rfl)
theorem dX6_drawn_20 : decode cX6_drawn 20 = .ok (.getfield 7, 3) := dk_180 0 7 (dk_at dksX6_drawn_0 20 rfl rfl)
theorem dX6_drawn_23 : decode cX6_drawn 23 = .ok (.iconst 2, 1) := dk_5 (dk_at dksX6_drawn_0 23 rfl rfl)
theorem dX6_drawn_24 : decode cX6_drawn 24 = .ok (.iaload, 1) := dk_46 (dk_at dksX6_drawn_1 0 rfl rfl)
theorem dX6_drawn_25 : decode cX6_drawn 25 = .ok (.bipush 8, 2) := dk_16 8 (dk_at dksX6_drawn_1 1 rfl rfl)
theorem dX6_drawn_27 : decode cX6_drawn 27 = .ok (.iushr, 1) := dk_124 (dk_at dksX6_drawn_1 3 rfl rfl)
theorem dX6_drawn_28 : decode cX6_drawn 28 = .ok (.iload_n 1, 1) := dk_27 (dk_at dksX6_drawn_1 4 rfl rfl)
theorem dX6_drawn_29 : decode cX6_drawn 29 = .ok (.irem, 1) := dk_112 (dk_at dksX6_drawn_1 5 rfl rfl)
theorem dX6_drawn_30 : decode cX6_drawn 30 = .ok (.ireturn, 1) := dk_172 (dk_at dksX6_drawn_1 6 rfl rfl)
abbrev cX6_taste : ByteArray := prog_30_method_54_code
def yX6_taste : MethodName := ⟨RX6, "taste", "(II)I"⟩
def dkwX6_taste_1 : List UInt8 := [42, 18, 61, 182, 0, 62, 172]
abbrev dktX6_taste_1 : List UInt8 := dkwX6_taste_1 ++ []
def dkwX6_taste_0 : List UInt8 := [42, 27, 182, 0, 203, 153, 0, 19, 28, 184, 0, 57, 153, 0, 12, 42, 27, 28, 182, 0, 206, 167, 0, 9]
abbrev dktX6_taste_0 : List UInt8 := dkwX6_taste_0 ++ dktX6_taste_1
theorem dksX6_taste_0 : cX6_taste.data.toList.drop 0 = dktX6_taste_0 := by decide +kernel
theorem dksX6_taste_1 : cX6_taste.data.toList.drop 24 = dktX6_taste_1 := dk_seg dksX6_taste_0 24 rfl rfl
theorem dX6_taste_0 : decode cX6_taste 0 = .ok (.aload_n 0, 1) := dk_42 (dk_at dksX6_taste_0 0 rfl rfl)
theorem dX6_taste_1 : decode cX6_taste 1 = .ok (.iload_n 1, 1) := dk_27 (dk_at dksX6_taste_0 1 rfl rfl)
theorem dX6_taste_2 : decode cX6_taste 2 = .ok (.invokevirtual 203, 3) := dk_182 0 203 (dk_at dksX6_taste_0 2 rfl rfl)
theorem dX6_taste_5 : decode cX6_taste 5 = .ok (.ifCond .eq 19, 3) := dk_153 0 19 (dk_at dksX6_taste_0 5 rfl rfl)
theorem dX6_taste_8 : decode cX6_taste 8 = .ok (.iload_n 2, 1) := dk_28 (dk_at dksX6_taste_0 8 rfl rfl)
theorem dX6_taste_9 : decode cX6_taste 9 = .ok (.invokestatic 57, 3) := dk_184 0 57 (dk_at dksX6_taste_0 9 rfl rfl)
theorem dX6_taste_12 : decode cX6_taste 12 = .ok (.ifCond .eq 12, 3) := dk_153 0 12 (dk_at dksX6_taste_0 12 rfl rfl)
theorem dX6_taste_15 : decode cX6_taste 15 = .ok (.aload_n 0, 1) := dk_42 (dk_at dksX6_taste_0 15 rfl rfl)
theorem dX6_taste_16 : decode cX6_taste 16 = .ok (.iload_n 1, 1) := dk_27 (dk_at dksX6_taste_0 16 rfl rfl)
theorem dX6_taste_17 : decode cX6_taste 17 = .ok (.iload_n 2, 1) := dk_28 (dk_at dksX6_taste_0 17 rfl rfl)
theorem dX6_taste_18 : decode cX6_taste 18 = .ok (.invokevirtual 206, 3) := dk_182 0 206 (dk_at dksX6_taste_0 18 rfl rfl)
theorem dX6_taste_21 : decode cX6_taste 21 = .ok (.goto 9, 3) := dk_167 0 9 (dk_at dksX6_taste_0 21 rfl rfl)
theorem dX6_taste_24 : decode cX6_taste 24 = .ok (.aload_n 0, 1) := dk_42 (dk_at dksX6_taste_1 0 rfl rfl)
theorem dX6_taste_25 : decode cX6_taste 25 = .ok (.ldc 61, 2) := dk_18 61 (dk_at dksX6_taste_1 1 rfl rfl)
theorem dX6_taste_27 : decode cX6_taste 27 = .ok (.invokevirtual 62, 3) := dk_182 0 62 (dk_at dksX6_taste_1 3 rfl rfl)
theorem dX6_taste_30 : decode cX6_taste 30 = .ok (.ireturn, 1) := dk_172 (dk_at dksX6_taste_1 6 rfl rfl)
abbrev cX6_isJug : ByteArray := prog_30_method_51_code
def yX6_isJug : MethodName := ⟨RX6, "isJug", "(I)Z"⟩
def dkwX6_isJug_0 : List UInt8 := [27, 4, 4, 42, 180, 0, 7, 6, 46, 120, 4, 100, 184, 0, 53, 172]
abbrev dktX6_isJug_0 : List UInt8 := dkwX6_isJug_0 ++ []
theorem dksX6_isJug_0 : cX6_isJug.data.toList.drop 0 = dktX6_isJug_0 := by decide +kernel
theorem dX6_isJug_0 : decode cX6_isJug 0 = .ok (.iload_n 1, 1) := dk_27 (dk_at dksX6_isJug_0 0 rfl rfl)
theorem dX6_isJug_1 : decode cX6_isJug 1 = .ok (.iconst 1, 1) := dk_4 (dk_at dksX6_isJug_0 1 rfl rfl)
theorem dX6_isJug_2 : decode cX6_isJug 2 = .ok (.iconst 1, 1) := dk_4 (dk_at dksX6_isJug_0 2 rfl rfl)
theorem dX6_isJug_3 : decode cX6_isJug 3 = .ok (.aload_n 0, 1) := dk_42 (dk_at dksX6_isJug_0 3 rfl rfl)
theorem dX6_isJug_4 : decode cX6_isJug 4 = .ok (.getfield 7, 3) := dk_180 0 7 (dk_at dksX6_isJug_0 4 rfl rfl)
theorem dX6_isJug_7 : decode cX6_isJug 7 = .ok (.iconst 3, 1) := dk_6 (dk_at dksX6_isJug_0 7 rfl rfl)
theorem dX6_isJug_8 : decode cX6_isJug 8 = .ok (.iaload, 1) := dk_46 (dk_at dksX6_isJug_0 8 rfl rfl)
theorem dX6_isJug_9 : decode cX6_isJug 9 = .ok (.ishl, 1) := dk_120 (dk_at dksX6_isJug_0 9 rfl rfl)
theorem dX6_isJug_10 : decode cX6_isJug 10 = .ok (.iconst 1, 1) := dk_4 (dk_at dksX6_isJug_0 10 rfl rfl)
theorem dX6_isJug_11 : decode cX6_isJug 11 = .ok (.isub, 1) := dk_100 (dk_at dksX6_isJug_0 11 rfl rfl)
theorem dX6_isJug_12 : decode cX6_isJug 12 = .ok (.invokestatic 53, 3) := dk_184 0 53 (dk_at dksX6_isJug_0 12 rfl rfl)
theorem dX6_isJug_15 : decode cX6_isJug 15 = .ok (.ireturn, 1) := dk_172 (dk_at dksX6_isJug_0 15 rfl rfl)
abbrev cX6_tasteOf : ByteArray := prog_30_method_53_code
def yX6_tasteOf : MethodName := ⟨RX6, "tasteOf", "(II)I"⟩
def dkwX6_tasteOf_4 : List UInt8 := [182, 0, 82, 54, 6, 167, 255, 203, 132, 5, 1, 167, 255, 162, 21, 4, 172]
abbrev dktX6_tasteOf_4 : List UInt8 := dkwX6_tasteOf_4 ++ []
def dkwX6_tasteOf_3 : List UInt8 := [21, 7, 21, 4, 164, 0, 8, 21, 7, 167, 0, 5, 21, 4, 54, 4, 42, 21, 5, 28, 21, 6, 4, 96]
abbrev dktX6_tasteOf_3 : List UInt8 := dkwX6_tasteOf_3 ++ dktX6_tasteOf_4
def dkwX6_tasteOf_2 : List UInt8 := [21, 6, 155, 0, 54, 42, 4, 42, 180, 0, 7, 16, 8, 28, 96, 46, 21, 6, 29, 182, 0, 73, 54, 7]
abbrev dktX6_tasteOf_2 : List UInt8 := dkwX6_tasteOf_2 ++ dktX6_tasteOf_3
def dkwX6_tasteOf_1 : List UInt8 := [21, 5, 122, 4, 126, 4, 160, 0, 14, 42, 21, 5, 28, 3, 182, 0, 82, 167, 0, 4, 2, 54, 6]
abbrev dktX6_tasteOf_1 : List UInt8 := dkwX6_tasteOf_1 ++ dktX6_tasteOf_2
def dkwX6_tasteOf_0 : List UInt8 := [42, 27, 182, 0, 200, 62, 3, 54, 4, 3, 54, 5, 21, 5, 42, 180, 0, 7, 6, 46, 162, 0, 89, 27]
abbrev dktX6_tasteOf_0 : List UInt8 := dkwX6_tasteOf_0 ++ dktX6_tasteOf_1
theorem dksX6_tasteOf_0 : cX6_tasteOf.data.toList.drop 0 = dktX6_tasteOf_0 := by decide +kernel
theorem dksX6_tasteOf_1 : cX6_tasteOf.data.toList.drop 24 = dktX6_tasteOf_1 := dk_seg dksX6_tasteOf_0 24 rfl rfl
theorem dksX6_tasteOf_2 : cX6_tasteOf.data.toList.drop 47 = dktX6_tasteOf_2 := dk_seg dksX6_tasteOf_1 23 rfl rfl
theorem dksX6_tasteOf_3 : cX6_tasteOf.data.toList.drop 71 = dktX6_tasteOf_3 := dk_seg dksX6_tasteOf_2 24 rfl rfl
theorem dksX6_tasteOf_4 : cX6_tasteOf.data.toList.drop 95 = dktX6_tasteOf_4 := dk_seg dksX6_tasteOf_3 24 rfl rfl
theorem dX6_tasteOf_0 : decode cX6_tasteOf 0 = .ok (.aload_n 0, 1) := dk_42 (dk_at dksX6_tasteOf_0 0 rfl rfl)
theorem dX6_tasteOf_1 : decode cX6_tasteOf 1 = .ok (.iload_n 1, 1) := dk_27 (dk_at dksX6_tasteOf_0 1 rfl rfl)
theorem dX6_tasteOf_2 : decode cX6_tasteOf 2 = .ok (.invokevirtual 200, 3) := dk_182 0 200 (dk_at dksX6_tasteOf_0 2 rfl rfl)
theorem dX6_tasteOf_5 : decode cX6_tasteOf 5 = .ok (.istore_n 3, 1) := dk_62 (dk_at dksX6_tasteOf_0 5 rfl rfl)
theorem dX6_tasteOf_6 : decode cX6_tasteOf 6 = .ok (.iconst 0, 1) := dk_3 (dk_at dksX6_tasteOf_0 6 rfl rfl)
theorem dX6_tasteOf_7 : decode cX6_tasteOf 7 = .ok (.istore 4, 2) := dk_54 4 (dk_at dksX6_tasteOf_0 7 rfl rfl)
theorem dX6_tasteOf_9 : decode cX6_tasteOf 9 = .ok (.iconst 0, 1) := dk_3 (dk_at dksX6_tasteOf_0 9 rfl rfl)
theorem dX6_tasteOf_10 : decode cX6_tasteOf 10 = .ok (.istore 5, 2) := dk_54 5 (dk_at dksX6_tasteOf_0 10 rfl rfl)
theorem dX6_tasteOf_12 : decode cX6_tasteOf 12 = .ok (.iload 5, 2) := dk_21 5 (dk_at dksX6_tasteOf_0 12 rfl rfl)
theorem dX6_tasteOf_14 : decode cX6_tasteOf 14 = .ok (.aload_n 0, 1) := dk_42 (dk_at dksX6_tasteOf_0 14 rfl rfl)
theorem dX6_tasteOf_15 : decode cX6_tasteOf 15 = .ok (.getfield 7, 3) := dk_180 0 7 (dk_at dksX6_tasteOf_0 15 rfl rfl)
theorem dX6_tasteOf_18 : decode cX6_tasteOf 18 = .ok (.iconst 3, 1) := dk_6 (dk_at dksX6_tasteOf_0 18 rfl rfl)
theorem dX6_tasteOf_19 : decode cX6_tasteOf 19 = .ok (.iaload, 1) := dk_46 (dk_at dksX6_tasteOf_0 19 rfl rfl)
theorem dX6_tasteOf_20 : decode cX6_tasteOf 20 = .ok (.if_icmp .ge 89, 3) := dk_162 0 89 (dk_at dksX6_tasteOf_0 20 rfl rfl)
theorem dX6_tasteOf_23 : decode cX6_tasteOf 23 = .ok (.iload_n 1, 1) := dk_27 (dk_at dksX6_tasteOf_0 23 rfl rfl)
theorem dX6_tasteOf_24 : decode cX6_tasteOf 24 = .ok (.iload 5, 2) := dk_21 5 (dk_at dksX6_tasteOf_1 0 rfl rfl)
theorem dX6_tasteOf_26 : decode cX6_tasteOf 26 = .ok (.ishr, 1) := dk_122 (dk_at dksX6_tasteOf_1 2 rfl rfl)
theorem dX6_tasteOf_27 : decode cX6_tasteOf 27 = .ok (.iconst 1, 1) := dk_4 (dk_at dksX6_tasteOf_1 3 rfl rfl)
theorem dX6_tasteOf_28 : decode cX6_tasteOf 28 = .ok (.iand, 1) := dk_126 (dk_at dksX6_tasteOf_1 4 rfl rfl)
theorem dX6_tasteOf_29 : decode cX6_tasteOf 29 = .ok (.iconst 1, 1) := dk_4 (dk_at dksX6_tasteOf_1 5 rfl rfl)
theorem dX6_tasteOf_30 : decode cX6_tasteOf 30 = .ok (.if_icmp .ne 14, 3) := dk_160 0 14 (dk_at dksX6_tasteOf_1 6 rfl rfl)
theorem dX6_tasteOf_33 : decode cX6_tasteOf 33 = .ok (.aload_n 0, 1) := dk_42 (dk_at dksX6_tasteOf_1 9 rfl rfl)
theorem dX6_tasteOf_34 : decode cX6_tasteOf 34 = .ok (.iload 5, 2) := dk_21 5 (dk_at dksX6_tasteOf_1 10 rfl rfl)
theorem dX6_tasteOf_36 : decode cX6_tasteOf 36 = .ok (.iload_n 2, 1) := dk_28 (dk_at dksX6_tasteOf_1 12 rfl rfl)
theorem dX6_tasteOf_37 : decode cX6_tasteOf 37 = .ok (.iconst 0, 1) := dk_3 (dk_at dksX6_tasteOf_1 13 rfl rfl)
theorem dX6_tasteOf_38 : decode cX6_tasteOf 38 = .ok (.invokevirtual 82, 3) := dk_182 0 82 (dk_at dksX6_tasteOf_1 14 rfl rfl)
theorem dX6_tasteOf_41 : decode cX6_tasteOf 41 = .ok (.goto 4, 3) := dk_167 0 4 (dk_at dksX6_tasteOf_1 17 rfl rfl)
theorem dX6_tasteOf_44 : decode cX6_tasteOf 44 = .ok (.iconst (-1), 1) := dk_2 (dk_at dksX6_tasteOf_1 20 rfl rfl)
theorem dX6_tasteOf_45 : decode cX6_tasteOf 45 = .ok (.istore 6, 2) := dk_54 6 (dk_at dksX6_tasteOf_1 21 rfl rfl)
theorem dX6_tasteOf_47 : decode cX6_tasteOf 47 = .ok (.iload 6, 2) := dk_21 6 (dk_at dksX6_tasteOf_2 0 rfl rfl)
theorem dX6_tasteOf_49 : decode cX6_tasteOf 49 = .ok (.ifCond .lt 54, 3) := dk_155 0 54 (dk_at dksX6_tasteOf_2 2 rfl rfl)
theorem dX6_tasteOf_52 : decode cX6_tasteOf 52 = .ok (.aload_n 0, 1) := dk_42 (dk_at dksX6_tasteOf_2 5 rfl rfl)
theorem dX6_tasteOf_53 : decode cX6_tasteOf 53 = .ok (.iconst 1, 1) := dk_4 (dk_at dksX6_tasteOf_2 6 rfl rfl)
theorem dX6_tasteOf_54 : decode cX6_tasteOf 54 = .ok (.aload_n 0, 1) := dk_42 (dk_at dksX6_tasteOf_2 7 rfl rfl)
theorem dX6_tasteOf_55 : decode cX6_tasteOf 55 = .ok (.getfield 7, 3) := dk_180 0 7 (dk_at dksX6_tasteOf_2 8 rfl rfl)
theorem dX6_tasteOf_58 : decode cX6_tasteOf 58 = .ok (.bipush 8, 2) := dk_16 8 (dk_at dksX6_tasteOf_2 11 rfl rfl)
theorem dX6_tasteOf_60 : decode cX6_tasteOf 60 = .ok (.iload_n 2, 1) := dk_28 (dk_at dksX6_tasteOf_2 13 rfl rfl)
theorem dX6_tasteOf_61 : decode cX6_tasteOf 61 = .ok (.iadd, 1) := dk_96 (dk_at dksX6_tasteOf_2 14 rfl rfl)
theorem dX6_tasteOf_62 : decode cX6_tasteOf 62 = .ok (.iaload, 1) := dk_46 (dk_at dksX6_tasteOf_2 15 rfl rfl)
theorem dX6_tasteOf_63 : decode cX6_tasteOf 63 = .ok (.iload 6, 2) := dk_21 6 (dk_at dksX6_tasteOf_2 16 rfl rfl)
theorem dX6_tasteOf_65 : decode cX6_tasteOf 65 = .ok (.iload_n 3, 1) := dk_29 (dk_at dksX6_tasteOf_2 18 rfl rfl)
theorem dX6_tasteOf_66 : decode cX6_tasteOf 66 = .ok (.invokevirtual 73, 3) := dk_182 0 73 (dk_at dksX6_tasteOf_2 19 rfl rfl)
theorem dX6_tasteOf_69 : decode cX6_tasteOf 69 = .ok (.istore 7, 2) := dk_54 7 (dk_at dksX6_tasteOf_2 22 rfl rfl)
theorem dX6_tasteOf_71 : decode cX6_tasteOf 71 = .ok (.iload 7, 2) := dk_21 7 (dk_at dksX6_tasteOf_3 0 rfl rfl)
theorem dX6_tasteOf_73 : decode cX6_tasteOf 73 = .ok (.iload 4, 2) := dk_21 4 (dk_at dksX6_tasteOf_3 2 rfl rfl)
theorem dX6_tasteOf_75 : decode cX6_tasteOf 75 = .ok (.if_icmp .le 8, 3) := dk_164 0 8 (dk_at dksX6_tasteOf_3 4 rfl rfl)
theorem dX6_tasteOf_78 : decode cX6_tasteOf 78 = .ok (.iload 7, 2) := dk_21 7 (dk_at dksX6_tasteOf_3 7 rfl rfl)
theorem dX6_tasteOf_80 : decode cX6_tasteOf 80 = .ok (.goto 5, 3) := dk_167 0 5 (dk_at dksX6_tasteOf_3 9 rfl rfl)
theorem dX6_tasteOf_83 : decode cX6_tasteOf 83 = .ok (.iload 4, 2) := dk_21 4 (dk_at dksX6_tasteOf_3 12 rfl rfl)
theorem dX6_tasteOf_85 : decode cX6_tasteOf 85 = .ok (.istore 4, 2) := dk_54 4 (dk_at dksX6_tasteOf_3 14 rfl rfl)
theorem dX6_tasteOf_87 : decode cX6_tasteOf 87 = .ok (.aload_n 0, 1) := dk_42 (dk_at dksX6_tasteOf_3 16 rfl rfl)
theorem dX6_tasteOf_88 : decode cX6_tasteOf 88 = .ok (.iload 5, 2) := dk_21 5 (dk_at dksX6_tasteOf_3 17 rfl rfl)
theorem dX6_tasteOf_90 : decode cX6_tasteOf 90 = .ok (.iload_n 2, 1) := dk_28 (dk_at dksX6_tasteOf_3 19 rfl rfl)
theorem dX6_tasteOf_91 : decode cX6_tasteOf 91 = .ok (.iload 6, 2) := dk_21 6 (dk_at dksX6_tasteOf_3 20 rfl rfl)
theorem dX6_tasteOf_93 : decode cX6_tasteOf 93 = .ok (.iconst 1, 1) := dk_4 (dk_at dksX6_tasteOf_3 22 rfl rfl)
theorem dX6_tasteOf_94 : decode cX6_tasteOf 94 = .ok (.iadd, 1) := dk_96 (dk_at dksX6_tasteOf_3 23 rfl rfl)
theorem dX6_tasteOf_95 : decode cX6_tasteOf 95 = .ok (.invokevirtual 82, 3) := dk_182 0 82 (dk_at dksX6_tasteOf_4 0 rfl rfl)
theorem dX6_tasteOf_98 : decode cX6_tasteOf 98 = .ok (.istore 6, 2) := dk_54 6 (dk_at dksX6_tasteOf_4 3 rfl rfl)
theorem dX6_tasteOf_100 : decode cX6_tasteOf 100 = .ok (.goto (-53), 3) := dk_167 255 203 (dk_at dksX6_tasteOf_4 5 rfl rfl)
theorem dX6_tasteOf_103 : decode cX6_tasteOf 103 = .ok (.iinc 5 1, 3) := dk_132 5 1 (dk_at dksX6_tasteOf_4 8 rfl rfl)
theorem dX6_tasteOf_106 : decode cX6_tasteOf 106 = .ok (.goto (-94), 3) := dk_167 255 162 (dk_at dksX6_tasteOf_4 11 rfl rfl)
theorem dX6_tasteOf_109 : decode cX6_tasteOf 109 = .ok (.iload 4, 2) := dk_21 4 (dk_at dksX6_tasteOf_4 14 rfl rfl)
theorem dX6_tasteOf_111 : decode cX6_tasteOf 111 = .ok (.ireturn, 1) := dk_172 (dk_at dksX6_tasteOf_4 16 rfl rfl)
abbrev cX6_cowsOf : ByteArray := prog_30_method_52_code
def yX6_cowsOf : MethodName := ⟨RX6, "cowsOf", "(I)I"⟩
def dkwX6_cowsOf_1 : List UInt8 := [172]
abbrev dktX6_cowsOf_1 : List UInt8 := dkwX6_cowsOf_1 ++ []
def dkwX6_cowsOf_0 : List UInt8 := [3, 61, 3, 62, 29, 8, 162, 0, 17, 28, 27, 29, 122, 4, 126, 96, 61, 132, 3, 1, 167, 255, 240, 28]
abbrev dktX6_cowsOf_0 : List UInt8 := dkwX6_cowsOf_0 ++ dktX6_cowsOf_1
theorem dksX6_cowsOf_0 : cX6_cowsOf.data.toList.drop 0 = dktX6_cowsOf_0 := by decide +kernel
theorem dksX6_cowsOf_1 : cX6_cowsOf.data.toList.drop 24 = dktX6_cowsOf_1 := dk_seg dksX6_cowsOf_0 24 rfl rfl
theorem dX6_cowsOf_0 : decode cX6_cowsOf 0 = .ok (.iconst 0, 1) := dk_3 (dk_at dksX6_cowsOf_0 0 rfl rfl)
theorem dX6_cowsOf_1 : decode cX6_cowsOf 1 = .ok (.istore_n 2, 1) := dk_61 (dk_at dksX6_cowsOf_0 1 rfl rfl)
theorem dX6_cowsOf_2 : decode cX6_cowsOf 2 = .ok (.iconst 0, 1) := dk_3 (dk_at dksX6_cowsOf_0 2 rfl rfl)
theorem dX6_cowsOf_3 : decode cX6_cowsOf 3 = .ok (.istore_n 3, 1) := dk_62 (dk_at dksX6_cowsOf_0 3 rfl rfl)
theorem dX6_cowsOf_4 : decode cX6_cowsOf 4 = .ok (.iload_n 3, 1) := dk_29 (dk_at dksX6_cowsOf_0 4 rfl rfl)
theorem dX6_cowsOf_5 : decode cX6_cowsOf 5 = .ok (.iconst 5, 1) := dk_8 (dk_at dksX6_cowsOf_0 5 rfl rfl)
theorem dX6_cowsOf_6 : decode cX6_cowsOf 6 = .ok (.if_icmp .ge 17, 3) := dk_162 0 17 (dk_at dksX6_cowsOf_0 6 rfl rfl)
theorem dX6_cowsOf_9 : decode cX6_cowsOf 9 = .ok (.iload_n 2, 1) := dk_28 (dk_at dksX6_cowsOf_0 9 rfl rfl)
theorem dX6_cowsOf_10 : decode cX6_cowsOf 10 = .ok (.iload_n 1, 1) := dk_27 (dk_at dksX6_cowsOf_0 10 rfl rfl)
theorem dX6_cowsOf_11 : decode cX6_cowsOf 11 = .ok (.iload_n 3, 1) := dk_29 (dk_at dksX6_cowsOf_0 11 rfl rfl)
theorem dX6_cowsOf_12 : decode cX6_cowsOf 12 = .ok (.ishr, 1) := dk_122 (dk_at dksX6_cowsOf_0 12 rfl rfl)
theorem dX6_cowsOf_13 : decode cX6_cowsOf 13 = .ok (.iconst 1, 1) := dk_4 (dk_at dksX6_cowsOf_0 13 rfl rfl)
theorem dX6_cowsOf_14 : decode cX6_cowsOf 14 = .ok (.iand, 1) := dk_126 (dk_at dksX6_cowsOf_0 14 rfl rfl)
theorem dX6_cowsOf_15 : decode cX6_cowsOf 15 = .ok (.iadd, 1) := dk_96 (dk_at dksX6_cowsOf_0 15 rfl rfl)
theorem dX6_cowsOf_16 : decode cX6_cowsOf 16 = .ok (.istore_n 2, 1) := dk_61 (dk_at dksX6_cowsOf_0 16 rfl rfl)
theorem dX6_cowsOf_17 : decode cX6_cowsOf 17 = .ok (.iinc 3 1, 3) := dk_132 3 1 (dk_at dksX6_cowsOf_0 17 rfl rfl)
theorem dX6_cowsOf_20 : decode cX6_cowsOf 20 = .ok (.goto (-16), 3) := dk_167 255 240 (dk_at dksX6_cowsOf_0 20 rfl rfl)
theorem dX6_cowsOf_23 : decode cX6_cowsOf 23 = .ok (.iload_n 2, 1) := dk_28 (dk_at dksX6_cowsOf_0 23 rfl rfl)
theorem dX6_cowsOf_24 : decode cX6_cowsOf 24 = .ok (.ireturn, 1) := dk_172 (dk_at dksX6_cowsOf_1 0 rfl rfl)
abbrev cX6_known : ByteArray := prog_30_method_56_code
def yX6_known : MethodName := ⟨RX6, "known", "(II)I"⟩
def dkwX6_known_2 : List UInt8 := [42, 42, 180, 0, 16, 42, 180, 0, 7, 182, 0, 178, 29, 172]
abbrev dktX6_known_2 : List UInt8 := dkwX6_known_2 ++ []
def dkwX6_known_1 : List UInt8 := [172, 42, 42, 180, 0, 7, 42, 180, 0, 16, 182, 0, 178, 42, 28, 182, 0, 190, 42, 27, 182, 0, 209, 62]
abbrev dktX6_known_1 : List UInt8 := dkwX6_known_1 ++ dktX6_known_2
def dkwX6_known_0 : List UInt8 := [42, 27, 182, 0, 203, 153, 0, 13, 28, 3, 16, 100, 184, 0, 53, 154, 0, 10, 42, 18, 61, 182, 0, 62]
abbrev dktX6_known_0 : List UInt8 := dkwX6_known_0 ++ dktX6_known_1
theorem dksX6_known_0 : cX6_known.data.toList.drop 0 = dktX6_known_0 := by decide +kernel
theorem dksX6_known_1 : cX6_known.data.toList.drop 24 = dktX6_known_1 := dk_seg dksX6_known_0 24 rfl rfl
theorem dksX6_known_2 : cX6_known.data.toList.drop 48 = dktX6_known_2 := dk_seg dksX6_known_1 24 rfl rfl
theorem dX6_known_0 : decode cX6_known 0 = .ok (.aload_n 0, 1) := dk_42 (dk_at dksX6_known_0 0 rfl rfl)
theorem dX6_known_1 : decode cX6_known 1 = .ok (.iload_n 1, 1) := dk_27 (dk_at dksX6_known_0 1 rfl rfl)
theorem dX6_known_2 : decode cX6_known 2 = .ok (.invokevirtual 203, 3) := dk_182 0 203 (dk_at dksX6_known_0 2 rfl rfl)
theorem dX6_known_5 : decode cX6_known 5 = .ok (.ifCond .eq 13, 3) := dk_153 0 13 (dk_at dksX6_known_0 5 rfl rfl)
theorem dX6_known_8 : decode cX6_known 8 = .ok (.iload_n 2, 1) := dk_28 (dk_at dksX6_known_0 8 rfl rfl)
theorem dX6_known_9 : decode cX6_known 9 = .ok (.iconst 0, 1) := dk_3 (dk_at dksX6_known_0 9 rfl rfl)
theorem dX6_known_10 : decode cX6_known 10 = .ok (.bipush 100, 2) := dk_16 100 (dk_at dksX6_known_0 10 rfl rfl)
theorem dX6_known_12 : decode cX6_known 12 = .ok (.invokestatic 53, 3) := dk_184 0 53 (dk_at dksX6_known_0 12 rfl rfl)
theorem dX6_known_15 : decode cX6_known 15 = .ok (.ifCond .ne 10, 3) := dk_154 0 10 (dk_at dksX6_known_0 15 rfl rfl)
theorem dX6_known_18 : decode cX6_known 18 = .ok (.aload_n 0, 1) := dk_42 (dk_at dksX6_known_0 18 rfl rfl)
theorem dX6_known_19 : decode cX6_known 19 = .ok (.ldc 61, 2) := dk_18 61 (dk_at dksX6_known_0 19 rfl rfl)
theorem dX6_known_21 : decode cX6_known 21 = .ok (.invokevirtual 62, 3) := dk_182 0 62 (dk_at dksX6_known_0 21 rfl rfl)
theorem dX6_known_24 : decode cX6_known 24 = .ok (.ireturn, 1) := dk_172 (dk_at dksX6_known_1 0 rfl rfl)
theorem dX6_known_25 : decode cX6_known 25 = .ok (.aload_n 0, 1) := dk_42 (dk_at dksX6_known_1 1 rfl rfl)
theorem dX6_known_26 : decode cX6_known 26 = .ok (.aload_n 0, 1) := dk_42 (dk_at dksX6_known_1 2 rfl rfl)
theorem dX6_known_27 : decode cX6_known 27 = .ok (.getfield 7, 3) := dk_180 0 7 (dk_at dksX6_known_1 3 rfl rfl)
theorem dX6_known_30 : decode cX6_known 30 = .ok (.aload_n 0, 1) := dk_42 (dk_at dksX6_known_1 6 rfl rfl)
theorem dX6_known_31 : decode cX6_known 31 = .ok (.getfield 16, 3) := dk_180 0 16 (dk_at dksX6_known_1 7 rfl rfl)
theorem dX6_known_34 : decode cX6_known 34 = .ok (.invokevirtual 178, 3) := dk_182 0 178 (dk_at dksX6_known_1 10 rfl rfl)
theorem dX6_known_37 : decode cX6_known 37 = .ok (.aload_n 0, 1) := dk_42 (dk_at dksX6_known_1 13 rfl rfl)
theorem dX6_known_38 : decode cX6_known 38 = .ok (.iload_n 2, 1) := dk_28 (dk_at dksX6_known_1 14 rfl rfl)
theorem dX6_known_39 : decode cX6_known 39 = .ok (.invokevirtual 190, 3) := dk_182 0 190 (dk_at dksX6_known_1 15 rfl rfl)
theorem dX6_known_42 : decode cX6_known 42 = .ok (.aload_n 0, 1) := dk_42 (dk_at dksX6_known_1 18 rfl rfl)
theorem dX6_known_43 : decode cX6_known 43 = .ok (.iload_n 1, 1) := dk_27 (dk_at dksX6_known_1 19 rfl rfl)
theorem dX6_known_44 : decode cX6_known 44 = .ok (.invokevirtual 209, 3) := dk_182 0 209 (dk_at dksX6_known_1 20 rfl rfl)
theorem dX6_known_47 : decode cX6_known 47 = .ok (.istore_n 3, 1) := dk_62 (dk_at dksX6_known_1 23 rfl rfl)
theorem dX6_known_48 : decode cX6_known 48 = .ok (.aload_n 0, 1) := dk_42 (dk_at dksX6_known_2 0 rfl rfl)
theorem dX6_known_49 : decode cX6_known 49 = .ok (.aload_n 0, 1) := dk_42 (dk_at dksX6_known_2 1 rfl rfl)
theorem dX6_known_50 : decode cX6_known 50 = .ok (.getfield 16, 3) := dk_180 0 16 (dk_at dksX6_known_2 2 rfl rfl)
theorem dX6_known_53 : decode cX6_known 53 = .ok (.aload_n 0, 1) := dk_42 (dk_at dksX6_known_2 5 rfl rfl)
theorem dX6_known_54 : decode cX6_known 54 = .ok (.getfield 7, 3) := dk_180 0 7 (dk_at dksX6_known_2 6 rfl rfl)
theorem dX6_known_57 : decode cX6_known 57 = .ok (.invokevirtual 178, 3) := dk_182 0 178 (dk_at dksX6_known_2 9 rfl rfl)
theorem dX6_known_60 : decode cX6_known 60 = .ok (.iload_n 3, 1) := dk_29 (dk_at dksX6_known_2 12 rfl rfl)
theorem dX6_known_61 : decode cX6_known 61 = .ok (.ireturn, 1) := dk_172 (dk_at dksX6_known_2 13 rfl rfl)
abbrev cX6_knownBy : ByteArray := prog_30_method_55_code
def yX6_knownBy : MethodName := ⟨RX6, "knownBy", "(I)I"⟩
def dkwX6_knownBy_1 : List UInt8 := [167, 0, 4, 3, 128, 61, 132, 3, 1, 167, 255, 228, 28, 172]
abbrev dktX6_knownBy_1 : List UInt8 := dkwX6_knownBy_1 ++ []
def dkwX6_knownBy_0 : List UInt8 := [3, 61, 3, 62, 29, 16, 25, 162, 0, 28, 28, 42, 27, 29, 182, 0, 206, 158, 0, 9, 4, 29, 120]
abbrev dktX6_knownBy_0 : List UInt8 := dkwX6_knownBy_0 ++ dktX6_knownBy_1
theorem dksX6_knownBy_0 : cX6_knownBy.data.toList.drop 0 = dktX6_knownBy_0 := by decide +kernel
theorem dksX6_knownBy_1 : cX6_knownBy.data.toList.drop 23 = dktX6_knownBy_1 := dk_seg dksX6_knownBy_0 23 rfl rfl
theorem dX6_knownBy_0 : decode cX6_knownBy 0 = .ok (.iconst 0, 1) := dk_3 (dk_at dksX6_knownBy_0 0 rfl rfl)
theorem dX6_knownBy_1 : decode cX6_knownBy 1 = .ok (.istore_n 2, 1) := dk_61 (dk_at dksX6_knownBy_0 1 rfl rfl)
theorem dX6_knownBy_2 : decode cX6_knownBy 2 = .ok (.iconst 0, 1) := dk_3 (dk_at dksX6_knownBy_0 2 rfl rfl)
theorem dX6_knownBy_3 : decode cX6_knownBy 3 = .ok (.istore_n 3, 1) := dk_62 (dk_at dksX6_knownBy_0 3 rfl rfl)
theorem dX6_knownBy_4 : decode cX6_knownBy 4 = .ok (.iload_n 3, 1) := dk_29 (dk_at dksX6_knownBy_0 4 rfl rfl)
theorem dX6_knownBy_5 : decode cX6_knownBy 5 = .ok (.bipush 25, 2) := dk_16 25 (dk_at dksX6_knownBy_0 5 rfl rfl)
theorem dX6_knownBy_7 : decode cX6_knownBy 7 = .ok (.if_icmp .ge 28, 3) := dk_162 0 28 (dk_at dksX6_knownBy_0 7 rfl rfl)
theorem dX6_knownBy_10 : decode cX6_knownBy 10 = .ok (.iload_n 2, 1) := dk_28 (dk_at dksX6_knownBy_0 10 rfl rfl)
theorem dX6_knownBy_11 : decode cX6_knownBy 11 = .ok (.aload_n 0, 1) := dk_42 (dk_at dksX6_knownBy_0 11 rfl rfl)
theorem dX6_knownBy_12 : decode cX6_knownBy 12 = .ok (.iload_n 1, 1) := dk_27 (dk_at dksX6_knownBy_0 12 rfl rfl)
theorem dX6_knownBy_13 : decode cX6_knownBy 13 = .ok (.iload_n 3, 1) := dk_29 (dk_at dksX6_knownBy_0 13 rfl rfl)
theorem dX6_knownBy_14 : decode cX6_knownBy 14 = .ok (.invokevirtual 206, 3) := dk_182 0 206 (dk_at dksX6_knownBy_0 14 rfl rfl)
theorem dX6_knownBy_17 : decode cX6_knownBy 17 = .ok (.ifCond .le 9, 3) := dk_158 0 9 (dk_at dksX6_knownBy_0 17 rfl rfl)
theorem dX6_knownBy_20 : decode cX6_knownBy 20 = .ok (.iconst 1, 1) := dk_4 (dk_at dksX6_knownBy_0 20 rfl rfl)
theorem dX6_knownBy_21 : decode cX6_knownBy 21 = .ok (.iload_n 3, 1) := dk_29 (dk_at dksX6_knownBy_0 21 rfl rfl)
theorem dX6_knownBy_22 : decode cX6_knownBy 22 = .ok (.ishl, 1) := dk_120 (dk_at dksX6_knownBy_0 22 rfl rfl)
theorem dX6_knownBy_23 : decode cX6_knownBy 23 = .ok (.goto 4, 3) := dk_167 0 4 (dk_at dksX6_knownBy_1 0 rfl rfl)
theorem dX6_knownBy_26 : decode cX6_knownBy 26 = .ok (.iconst 0, 1) := dk_3 (dk_at dksX6_knownBy_1 3 rfl rfl)
theorem dX6_knownBy_27 : decode cX6_knownBy 27 = .ok (.ior, 1) := dk_128 (dk_at dksX6_knownBy_1 4 rfl rfl)
theorem dX6_knownBy_28 : decode cX6_knownBy 28 = .ok (.istore_n 2, 1) := dk_61 (dk_at dksX6_knownBy_1 5 rfl rfl)
theorem dX6_knownBy_29 : decode cX6_knownBy 29 = .ok (.iinc 3 1, 3) := dk_132 3 1 (dk_at dksX6_knownBy_1 6 rfl rfl)
theorem dX6_knownBy_32 : decode cX6_knownBy 32 = .ok (.goto (-28), 3) := dk_167 255 228 (dk_at dksX6_knownBy_1 9 rfl rfl)
theorem dX6_knownBy_35 : decode cX6_knownBy 35 = .ok (.iload_n 2, 1) := dk_28 (dk_at dksX6_knownBy_1 12 rfl rfl)
theorem dX6_knownBy_36 : decode cX6_knownBy 36 = .ok (.ireturn, 1) := dk_172 (dk_at dksX6_knownBy_1 13 rfl rfl)
abbrev cX6_comes : ByteArray := prog_30_method_58_code
def yX6_comes : MethodName := ⟨RX6, "comes", "(II)I"⟩
def dkwX6_comes_1 : List UInt8 := [28, 4, 182, 0, 212, 62, 29, 16, 100, 164, 0, 12, 42, 18, 105, 182, 0, 62, 167, 0, 4, 29, 172]
abbrev dktX6_comes_1 : List UInt8 := dkwX6_comes_1 ++ []
def dkwX6_comes_0 : List UInt8 := [42, 27, 182, 0, 203, 153, 0, 10, 28, 184, 0, 57, 154, 0, 10, 42, 18, 61, 182, 0, 62, 172, 42, 27]
abbrev dktX6_comes_0 : List UInt8 := dkwX6_comes_0 ++ dktX6_comes_1
theorem dksX6_comes_0 : cX6_comes.data.toList.drop 0 = dktX6_comes_0 := by decide +kernel
theorem dksX6_comes_1 : cX6_comes.data.toList.drop 24 = dktX6_comes_1 := dk_seg dksX6_comes_0 24 rfl rfl
theorem dX6_comes_0 : decode cX6_comes 0 = .ok (.aload_n 0, 1) := dk_42 (dk_at dksX6_comes_0 0 rfl rfl)
theorem dX6_comes_1 : decode cX6_comes 1 = .ok (.iload_n 1, 1) := dk_27 (dk_at dksX6_comes_0 1 rfl rfl)
theorem dX6_comes_2 : decode cX6_comes 2 = .ok (.invokevirtual 203, 3) := dk_182 0 203 (dk_at dksX6_comes_0 2 rfl rfl)
theorem dX6_comes_5 : decode cX6_comes 5 = .ok (.ifCond .eq 10, 3) := dk_153 0 10 (dk_at dksX6_comes_0 5 rfl rfl)
theorem dX6_comes_8 : decode cX6_comes 8 = .ok (.iload_n 2, 1) := dk_28 (dk_at dksX6_comes_0 8 rfl rfl)
theorem dX6_comes_9 : decode cX6_comes 9 = .ok (.invokestatic 57, 3) := dk_184 0 57 (dk_at dksX6_comes_0 9 rfl rfl)
theorem dX6_comes_12 : decode cX6_comes 12 = .ok (.ifCond .ne 10, 3) := dk_154 0 10 (dk_at dksX6_comes_0 12 rfl rfl)
theorem dX6_comes_15 : decode cX6_comes 15 = .ok (.aload_n 0, 1) := dk_42 (dk_at dksX6_comes_0 15 rfl rfl)
theorem dX6_comes_16 : decode cX6_comes 16 = .ok (.ldc 61, 2) := dk_18 61 (dk_at dksX6_comes_0 16 rfl rfl)
theorem dX6_comes_18 : decode cX6_comes 18 = .ok (.invokevirtual 62, 3) := dk_182 0 62 (dk_at dksX6_comes_0 18 rfl rfl)
theorem dX6_comes_21 : decode cX6_comes 21 = .ok (.ireturn, 1) := dk_172 (dk_at dksX6_comes_0 21 rfl rfl)
theorem dX6_comes_22 : decode cX6_comes 22 = .ok (.aload_n 0, 1) := dk_42 (dk_at dksX6_comes_0 22 rfl rfl)
theorem dX6_comes_23 : decode cX6_comes 23 = .ok (.iload_n 1, 1) := dk_27 (dk_at dksX6_comes_0 23 rfl rfl)
theorem dX6_comes_24 : decode cX6_comes 24 = .ok (.iload_n 2, 1) := dk_28 (dk_at dksX6_comes_1 0 rfl rfl)
theorem dX6_comes_25 : decode cX6_comes 25 = .ok (.iconst 1, 1) := dk_4 (dk_at dksX6_comes_1 1 rfl rfl)
theorem dX6_comes_26 : decode cX6_comes 26 = .ok (.invokevirtual 212, 3) := dk_182 0 212 (dk_at dksX6_comes_1 2 rfl rfl)
theorem dX6_comes_29 : decode cX6_comes 29 = .ok (.istore_n 3, 1) := dk_62 (dk_at dksX6_comes_1 5 rfl rfl)
theorem dX6_comes_30 : decode cX6_comes 30 = .ok (.iload_n 3, 1) := dk_29 (dk_at dksX6_comes_1 6 rfl rfl)
theorem dX6_comes_31 : decode cX6_comes 31 = .ok (.bipush 100, 2) := dk_16 100 (dk_at dksX6_comes_1 7 rfl rfl)
theorem dX6_comes_33 : decode cX6_comes 33 = .ok (.if_icmp .le 12, 3) := dk_164 0 12 (dk_at dksX6_comes_1 9 rfl rfl)
theorem dX6_comes_36 : decode cX6_comes 36 = .ok (.aload_n 0, 1) := dk_42 (dk_at dksX6_comes_1 12 rfl rfl)
theorem dX6_comes_37 : decode cX6_comes 37 = .ok (.ldc 105, 2) := dk_18 105 (dk_at dksX6_comes_1 13 rfl rfl)
theorem dX6_comes_39 : decode cX6_comes 39 = .ok (.invokevirtual 62, 3) := dk_182 0 62 (dk_at dksX6_comes_1 15 rfl rfl)
theorem dX6_comes_42 : decode cX6_comes 42 = .ok (.goto 4, 3) := dk_167 0 4 (dk_at dksX6_comes_1 18 rfl rfl)
theorem dX6_comes_45 : decode cX6_comes 45 = .ok (.iload_n 3, 1) := dk_29 (dk_at dksX6_comes_1 21 rfl rfl)
theorem dX6_comes_46 : decode cX6_comes 46 = .ok (.ireturn, 1) := dk_172 (dk_at dksX6_comes_1 22 rfl rfl)
abbrev cX6_firstDay : ByteArray := prog_30_method_57_code
def yX6_firstDay : MethodName := ⟨RX6, "firstDay", "(IIZ)I"⟩
def dkwX6_firstDay_2 : List UInt8 := [167, 255, 224, 42, 42, 180, 0, 16, 42, 180, 0, 7, 182, 0, 178, 21, 4, 172]
abbrev dktX6_firstDay_2 : List UInt8 := dkwX6_firstDay_2 ++ []
def dkwX6_firstDay_1 : List UInt8 := [28, 182, 0, 206, 158, 0, 7, 4, 167, 0, 4, 3, 29, 159, 0, 13, 42, 182, 0, 186, 132, 4, 1]
abbrev dktX6_firstDay_1 : List UInt8 := dkwX6_firstDay_1 ++ dktX6_firstDay_2
def dkwX6_firstDay_0 : List UInt8 := [42, 42, 180, 0, 7, 42, 180, 0, 16, 182, 0, 178, 3, 54, 4, 21, 4, 16, 100, 163, 0, 31, 42, 27]
abbrev dktX6_firstDay_0 : List UInt8 := dkwX6_firstDay_0 ++ dktX6_firstDay_1
theorem dksX6_firstDay_0 : cX6_firstDay.data.toList.drop 0 = dktX6_firstDay_0 := by decide +kernel
theorem dksX6_firstDay_1 : cX6_firstDay.data.toList.drop 24 = dktX6_firstDay_1 := dk_seg dksX6_firstDay_0 24 rfl rfl
theorem dksX6_firstDay_2 : cX6_firstDay.data.toList.drop 47 = dktX6_firstDay_2 := dk_seg dksX6_firstDay_1 23 rfl rfl
theorem dX6_firstDay_0 : decode cX6_firstDay 0 = .ok (.aload_n 0, 1) := dk_42 (dk_at dksX6_firstDay_0 0 rfl rfl)
theorem dX6_firstDay_1 : decode cX6_firstDay 1 = .ok (.aload_n 0, 1) := dk_42 (dk_at dksX6_firstDay_0 1 rfl rfl)
theorem dX6_firstDay_2 : decode cX6_firstDay 2 = .ok (.getfield 7, 3) := dk_180 0 7 (dk_at dksX6_firstDay_0 2 rfl rfl)
theorem dX6_firstDay_5 : decode cX6_firstDay 5 = .ok (.aload_n 0, 1) := dk_42 (dk_at dksX6_firstDay_0 5 rfl rfl)
theorem dX6_firstDay_6 : decode cX6_firstDay 6 = .ok (.getfield 16, 3) := dk_180 0 16 (dk_at dksX6_firstDay_0 6 rfl rfl)
theorem dX6_firstDay_9 : decode cX6_firstDay 9 = .ok (.invokevirtual 178, 3) := dk_182 0 178 (dk_at dksX6_firstDay_0 9 rfl rfl)
theorem dX6_firstDay_12 : decode cX6_firstDay 12 = .ok (.iconst 0, 1) := dk_3 (dk_at dksX6_firstDay_0 12 rfl rfl)
theorem dX6_firstDay_13 : decode cX6_firstDay 13 = .ok (.istore 4, 2) := dk_54 4 (dk_at dksX6_firstDay_0 13 rfl rfl)
theorem dX6_firstDay_15 : decode cX6_firstDay 15 = .ok (.iload 4, 2) := dk_21 4 (dk_at dksX6_firstDay_0 15 rfl rfl)
theorem dX6_firstDay_17 : decode cX6_firstDay 17 = .ok (.bipush 100, 2) := dk_16 100 (dk_at dksX6_firstDay_0 17 rfl rfl)
theorem dX6_firstDay_19 : decode cX6_firstDay 19 = .ok (.if_icmp .gt 31, 3) := dk_163 0 31 (dk_at dksX6_firstDay_0 19 rfl rfl)
theorem dX6_firstDay_22 : decode cX6_firstDay 22 = .ok (.aload_n 0, 1) := dk_42 (dk_at dksX6_firstDay_0 22 rfl rfl)
theorem dX6_firstDay_23 : decode cX6_firstDay 23 = .ok (.iload_n 1, 1) := dk_27 (dk_at dksX6_firstDay_0 23 rfl rfl)
theorem dX6_firstDay_24 : decode cX6_firstDay 24 = .ok (.iload_n 2, 1) := dk_28 (dk_at dksX6_firstDay_1 0 rfl rfl)
theorem dX6_firstDay_25 : decode cX6_firstDay 25 = .ok (.invokevirtual 206, 3) := dk_182 0 206 (dk_at dksX6_firstDay_1 1 rfl rfl)
theorem dX6_firstDay_28 : decode cX6_firstDay 28 = .ok (.ifCond .le 7, 3) := dk_158 0 7 (dk_at dksX6_firstDay_1 4 rfl rfl)
theorem dX6_firstDay_31 : decode cX6_firstDay 31 = .ok (.iconst 1, 1) := dk_4 (dk_at dksX6_firstDay_1 7 rfl rfl)
theorem dX6_firstDay_32 : decode cX6_firstDay 32 = .ok (.goto 4, 3) := dk_167 0 4 (dk_at dksX6_firstDay_1 8 rfl rfl)
theorem dX6_firstDay_35 : decode cX6_firstDay 35 = .ok (.iconst 0, 1) := dk_3 (dk_at dksX6_firstDay_1 11 rfl rfl)
theorem dX6_firstDay_36 : decode cX6_firstDay 36 = .ok (.iload_n 3, 1) := dk_29 (dk_at dksX6_firstDay_1 12 rfl rfl)
theorem dX6_firstDay_37 : decode cX6_firstDay 37 = .ok (.if_icmp .eq 13, 3) := dk_159 0 13 (dk_at dksX6_firstDay_1 13 rfl rfl)
theorem dX6_firstDay_40 : decode cX6_firstDay 40 = .ok (.aload_n 0, 1) := dk_42 (dk_at dksX6_firstDay_1 16 rfl rfl)
theorem dX6_firstDay_41 : decode cX6_firstDay 41 = .ok (.invokevirtual 186, 3) := dk_182 0 186 (dk_at dksX6_firstDay_1 17 rfl rfl)
theorem dX6_firstDay_44 : decode cX6_firstDay 44 = .ok (.iinc 4 1, 3) := dk_132 4 1 (dk_at dksX6_firstDay_1 20 rfl rfl)
theorem dX6_firstDay_47 : decode cX6_firstDay 47 = .ok (.goto (-32), 3) := dk_167 255 224 (dk_at dksX6_firstDay_2 0 rfl rfl)
theorem dX6_firstDay_50 : decode cX6_firstDay 50 = .ok (.aload_n 0, 1) := dk_42 (dk_at dksX6_firstDay_2 3 rfl rfl)
theorem dX6_firstDay_51 : decode cX6_firstDay 51 = .ok (.aload_n 0, 1) := dk_42 (dk_at dksX6_firstDay_2 4 rfl rfl)
theorem dX6_firstDay_52 : decode cX6_firstDay 52 = .ok (.getfield 16, 3) := dk_180 0 16 (dk_at dksX6_firstDay_2 5 rfl rfl)
theorem dX6_firstDay_55 : decode cX6_firstDay 55 = .ok (.aload_n 0, 1) := dk_42 (dk_at dksX6_firstDay_2 8 rfl rfl)
theorem dX6_firstDay_56 : decode cX6_firstDay 56 = .ok (.getfield 7, 3) := dk_180 0 7 (dk_at dksX6_firstDay_2 9 rfl rfl)
theorem dX6_firstDay_59 : decode cX6_firstDay 59 = .ok (.invokevirtual 178, 3) := dk_182 0 178 (dk_at dksX6_firstDay_2 12 rfl rfl)
theorem dX6_firstDay_62 : decode cX6_firstDay 62 = .ok (.iload 4, 2) := dk_21 4 (dk_at dksX6_firstDay_2 15 rfl rfl)
theorem dX6_firstDay_64 : decode cX6_firstDay 64 = .ok (.ireturn, 1) := dk_172 (dk_at dksX6_firstDay_2 17 rfl rfl)
abbrev cX6_lost : ByteArray := prog_30_method_59_code
def yX6_lost : MethodName := ⟨RX6, "lost", "(II)I"⟩
def dkwX6_lost_1 : List UInt8 := [28, 3, 182, 0, 212, 62, 29, 16, 100, 164, 0, 12, 42, 18, 105, 182, 0, 62, 167, 0, 4, 29, 172]
abbrev dktX6_lost_1 : List UInt8 := dkwX6_lost_1 ++ []
def dkwX6_lost_0 : List UInt8 := [42, 27, 182, 0, 203, 153, 0, 10, 28, 184, 0, 57, 154, 0, 10, 42, 18, 61, 182, 0, 62, 172, 42, 27]
abbrev dktX6_lost_0 : List UInt8 := dkwX6_lost_0 ++ dktX6_lost_1
theorem dksX6_lost_0 : cX6_lost.data.toList.drop 0 = dktX6_lost_0 := by decide +kernel
theorem dksX6_lost_1 : cX6_lost.data.toList.drop 24 = dktX6_lost_1 := dk_seg dksX6_lost_0 24 rfl rfl
theorem dX6_lost_0 : decode cX6_lost 0 = .ok (.aload_n 0, 1) := dk_42 (dk_at dksX6_lost_0 0 rfl rfl)
theorem dX6_lost_1 : decode cX6_lost 1 = .ok (.iload_n 1, 1) := dk_27 (dk_at dksX6_lost_0 1 rfl rfl)
theorem dX6_lost_2 : decode cX6_lost 2 = .ok (.invokevirtual 203, 3) := dk_182 0 203 (dk_at dksX6_lost_0 2 rfl rfl)
theorem dX6_lost_5 : decode cX6_lost 5 = .ok (.ifCond .eq 10, 3) := dk_153 0 10 (dk_at dksX6_lost_0 5 rfl rfl)
theorem dX6_lost_8 : decode cX6_lost 8 = .ok (.iload_n 2, 1) := dk_28 (dk_at dksX6_lost_0 8 rfl rfl)
theorem dX6_lost_9 : decode cX6_lost 9 = .ok (.invokestatic 57, 3) := dk_184 0 57 (dk_at dksX6_lost_0 9 rfl rfl)
theorem dX6_lost_12 : decode cX6_lost 12 = .ok (.ifCond .ne 10, 3) := dk_154 0 10 (dk_at dksX6_lost_0 12 rfl rfl)
theorem dX6_lost_15 : decode cX6_lost 15 = .ok (.aload_n 0, 1) := dk_42 (dk_at dksX6_lost_0 15 rfl rfl)
theorem dX6_lost_16 : decode cX6_lost 16 = .ok (.ldc 61, 2) := dk_18 61 (dk_at dksX6_lost_0 16 rfl rfl)
theorem dX6_lost_18 : decode cX6_lost 18 = .ok (.invokevirtual 62, 3) := dk_182 0 62 (dk_at dksX6_lost_0 18 rfl rfl)
theorem dX6_lost_21 : decode cX6_lost 21 = .ok (.ireturn, 1) := dk_172 (dk_at dksX6_lost_0 21 rfl rfl)
theorem dX6_lost_22 : decode cX6_lost 22 = .ok (.aload_n 0, 1) := dk_42 (dk_at dksX6_lost_0 22 rfl rfl)
theorem dX6_lost_23 : decode cX6_lost 23 = .ok (.iload_n 1, 1) := dk_27 (dk_at dksX6_lost_0 23 rfl rfl)
theorem dX6_lost_24 : decode cX6_lost 24 = .ok (.iload_n 2, 1) := dk_28 (dk_at dksX6_lost_1 0 rfl rfl)
theorem dX6_lost_25 : decode cX6_lost 25 = .ok (.iconst 0, 1) := dk_3 (dk_at dksX6_lost_1 1 rfl rfl)
theorem dX6_lost_26 : decode cX6_lost 26 = .ok (.invokevirtual 212, 3) := dk_182 0 212 (dk_at dksX6_lost_1 2 rfl rfl)
theorem dX6_lost_29 : decode cX6_lost 29 = .ok (.istore_n 3, 1) := dk_62 (dk_at dksX6_lost_1 5 rfl rfl)
theorem dX6_lost_30 : decode cX6_lost 30 = .ok (.iload_n 3, 1) := dk_29 (dk_at dksX6_lost_1 6 rfl rfl)
theorem dX6_lost_31 : decode cX6_lost 31 = .ok (.bipush 100, 2) := dk_16 100 (dk_at dksX6_lost_1 7 rfl rfl)
theorem dX6_lost_33 : decode cX6_lost 33 = .ok (.if_icmp .le 12, 3) := dk_164 0 12 (dk_at dksX6_lost_1 9 rfl rfl)
theorem dX6_lost_36 : decode cX6_lost 36 = .ok (.aload_n 0, 1) := dk_42 (dk_at dksX6_lost_1 12 rfl rfl)
theorem dX6_lost_37 : decode cX6_lost 37 = .ok (.ldc 105, 2) := dk_18 105 (dk_at dksX6_lost_1 13 rfl rfl)
theorem dX6_lost_39 : decode cX6_lost 39 = .ok (.invokevirtual 62, 3) := dk_182 0 62 (dk_at dksX6_lost_1 15 rfl rfl)
theorem dX6_lost_42 : decode cX6_lost 42 = .ok (.goto 4, 3) := dk_167 0 4 (dk_at dksX6_lost_1 18 rfl rfl)
theorem dX6_lost_45 : decode cX6_lost 45 = .ok (.iload_n 3, 1) := dk_29 (dk_at dksX6_lost_1 21 rfl rfl)
theorem dX6_lost_46 : decode cX6_lost 46 = .ok (.ireturn, 1) := dk_172 (dk_at dksX6_lost_1 22 rfl rfl)
abbrev cX6_least : ByteArray := prog_30_method_60_code
def yX6_least : MethodName := ⟨RX6, "least", "(I)I"⟩
def dkwX6_least_4 : List UInt8 := [172]
abbrev dktX6_least_4 : List UInt8 := dkwX6_least_4 ++ []
def dkwX6_least_3 : List UInt8 := [182, 0, 200, 62, 132, 4, 1, 167, 255, 207, 28, 154, 0, 12, 42, 18, 105, 182, 0, 62, 167, 0, 4, 28]
abbrev dktX6_least_3 : List UInt8 := dkwX6_least_3 ++ dktX6_least_4
def dkwX6_least_2 : List UInt8 := [162, 0, 26, 27, 42, 21, 4, 182, 0, 209, 2, 130, 126, 154, 0, 13, 21, 4, 61, 42, 21, 4]
abbrev dktX6_least_2 : List UInt8 := dkwX6_least_2 ++ dktX6_least_3
def dkwX6_least_1 : List UInt8 := [54, 4, 21, 4, 4, 42, 180, 0, 7, 6, 46, 120, 162, 0, 42, 42, 21, 4, 182, 0, 200, 29]
abbrev dktX6_least_1 : List UInt8 := dkwX6_least_1 ++ dktX6_least_2
def dkwX6_least_0 : List UInt8 := [27, 3, 18, 215, 184, 0, 53, 154, 0, 10, 42, 18, 61, 182, 0, 62, 172, 3, 61, 16, 6, 62, 4]
abbrev dktX6_least_0 : List UInt8 := dkwX6_least_0 ++ dktX6_least_1
theorem dksX6_least_0 : cX6_least.data.toList.drop 0 = dktX6_least_0 := by decide +kernel
theorem dksX6_least_1 : cX6_least.data.toList.drop 23 = dktX6_least_1 := dk_seg dksX6_least_0 23 rfl rfl
theorem dksX6_least_2 : cX6_least.data.toList.drop 45 = dktX6_least_2 := dk_seg dksX6_least_1 22 rfl rfl
theorem dksX6_least_3 : cX6_least.data.toList.drop 67 = dktX6_least_3 := dk_seg dksX6_least_2 22 rfl rfl
theorem dksX6_least_4 : cX6_least.data.toList.drop 91 = dktX6_least_4 := dk_seg dksX6_least_3 24 rfl rfl
theorem dX6_least_0 : decode cX6_least 0 = .ok (.iload_n 1, 1) := dk_27 (dk_at dksX6_least_0 0 rfl rfl)
theorem dX6_least_1 : decode cX6_least 1 = .ok (.iconst 0, 1) := dk_3 (dk_at dksX6_least_0 1 rfl rfl)
theorem dX6_least_2 : decode cX6_least 2 = .ok (.ldc 215, 2) := dk_18 215 (dk_at dksX6_least_0 2 rfl rfl)
theorem dX6_least_4 : decode cX6_least 4 = .ok (.invokestatic 53, 3) := dk_184 0 53 (dk_at dksX6_least_0 4 rfl rfl)
theorem dX6_least_7 : decode cX6_least 7 = .ok (.ifCond .ne 10, 3) := dk_154 0 10 (dk_at dksX6_least_0 7 rfl rfl)
theorem dX6_least_10 : decode cX6_least 10 = .ok (.aload_n 0, 1) := dk_42 (dk_at dksX6_least_0 10 rfl rfl)
theorem dX6_least_11 : decode cX6_least 11 = .ok (.ldc 61, 2) := dk_18 61 (dk_at dksX6_least_0 11 rfl rfl)
theorem dX6_least_13 : decode cX6_least 13 = .ok (.invokevirtual 62, 3) := dk_182 0 62 (dk_at dksX6_least_0 13 rfl rfl)
theorem dX6_least_16 : decode cX6_least 16 = .ok (.ireturn, 1) := dk_172 (dk_at dksX6_least_0 16 rfl rfl)
theorem dX6_least_17 : decode cX6_least 17 = .ok (.iconst 0, 1) := dk_3 (dk_at dksX6_least_0 17 rfl rfl)
theorem dX6_least_18 : decode cX6_least 18 = .ok (.istore_n 2, 1) := dk_61 (dk_at dksX6_least_0 18 rfl rfl)
theorem dX6_least_19 : decode cX6_least 19 = .ok (.bipush 6, 2) := dk_16 6 (dk_at dksX6_least_0 19 rfl rfl)
theorem dX6_least_21 : decode cX6_least 21 = .ok (.istore_n 3, 1) := dk_62 (dk_at dksX6_least_0 21 rfl rfl)
theorem dX6_least_22 : decode cX6_least 22 = .ok (.iconst 1, 1) := dk_4 (dk_at dksX6_least_0 22 rfl rfl)
theorem dX6_least_23 : decode cX6_least 23 = .ok (.istore 4, 2) := dk_54 4 (dk_at dksX6_least_1 0 rfl rfl)
theorem dX6_least_25 : decode cX6_least 25 = .ok (.iload 4, 2) := dk_21 4 (dk_at dksX6_least_1 2 rfl rfl)
theorem dX6_least_27 : decode cX6_least 27 = .ok (.iconst 1, 1) := dk_4 (dk_at dksX6_least_1 4 rfl rfl)
theorem dX6_least_28 : decode cX6_least 28 = .ok (.aload_n 0, 1) := dk_42 (dk_at dksX6_least_1 5 rfl rfl)
theorem dX6_least_29 : decode cX6_least 29 = .ok (.getfield 7, 3) := dk_180 0 7 (dk_at dksX6_least_1 6 rfl rfl)
theorem dX6_least_32 : decode cX6_least 32 = .ok (.iconst 3, 1) := dk_6 (dk_at dksX6_least_1 9 rfl rfl)
theorem dX6_least_33 : decode cX6_least 33 = .ok (.iaload, 1) := dk_46 (dk_at dksX6_least_1 10 rfl rfl)
theorem dX6_least_34 : decode cX6_least 34 = .ok (.ishl, 1) := dk_120 (dk_at dksX6_least_1 11 rfl rfl)
theorem dX6_least_35 : decode cX6_least 35 = .ok (.if_icmp .ge 42, 3) := dk_162 0 42 (dk_at dksX6_least_1 12 rfl rfl)
theorem dX6_least_38 : decode cX6_least 38 = .ok (.aload_n 0, 1) := dk_42 (dk_at dksX6_least_1 15 rfl rfl)
theorem dX6_least_39 : decode cX6_least 39 = .ok (.iload 4, 2) := dk_21 4 (dk_at dksX6_least_1 16 rfl rfl)
theorem dX6_least_41 : decode cX6_least 41 = .ok (.invokevirtual 200, 3) := dk_182 0 200 (dk_at dksX6_least_1 18 rfl rfl)
theorem dX6_least_44 : decode cX6_least 44 = .ok (.iload_n 3, 1) := dk_29 (dk_at dksX6_least_1 21 rfl rfl)
theorem dX6_least_45 : decode cX6_least 45 = .ok (.if_icmp .ge 26, 3) := dk_162 0 26 (dk_at dksX6_least_2 0 rfl rfl)
theorem dX6_least_48 : decode cX6_least 48 = .ok (.iload_n 1, 1) := dk_27 (dk_at dksX6_least_2 3 rfl rfl)
theorem dX6_least_49 : decode cX6_least 49 = .ok (.aload_n 0, 1) := dk_42 (dk_at dksX6_least_2 4 rfl rfl)
theorem dX6_least_50 : decode cX6_least 50 = .ok (.iload 4, 2) := dk_21 4 (dk_at dksX6_least_2 5 rfl rfl)
theorem dX6_least_52 : decode cX6_least 52 = .ok (.invokevirtual 209, 3) := dk_182 0 209 (dk_at dksX6_least_2 7 rfl rfl)
theorem dX6_least_55 : decode cX6_least 55 = .ok (.iconst (-1), 1) := dk_2 (dk_at dksX6_least_2 10 rfl rfl)
theorem dX6_least_56 : decode cX6_least 56 = .ok (.ixor, 1) := dk_130 (dk_at dksX6_least_2 11 rfl rfl)
theorem dX6_least_57 : decode cX6_least 57 = .ok (.iand, 1) := dk_126 (dk_at dksX6_least_2 12 rfl rfl)
theorem dX6_least_58 : decode cX6_least 58 = .ok (.ifCond .ne 13, 3) := dk_154 0 13 (dk_at dksX6_least_2 13 rfl rfl)
theorem dX6_least_61 : decode cX6_least 61 = .ok (.iload 4, 2) := dk_21 4 (dk_at dksX6_least_2 16 rfl rfl)
theorem dX6_least_63 : decode cX6_least 63 = .ok (.istore_n 2, 1) := dk_61 (dk_at dksX6_least_2 18 rfl rfl)
theorem dX6_least_64 : decode cX6_least 64 = .ok (.aload_n 0, 1) := dk_42 (dk_at dksX6_least_2 19 rfl rfl)
theorem dX6_least_65 : decode cX6_least 65 = .ok (.iload 4, 2) := dk_21 4 (dk_at dksX6_least_2 20 rfl rfl)
theorem dX6_least_67 : decode cX6_least 67 = .ok (.invokevirtual 200, 3) := dk_182 0 200 (dk_at dksX6_least_3 0 rfl rfl)
theorem dX6_least_70 : decode cX6_least 70 = .ok (.istore_n 3, 1) := dk_62 (dk_at dksX6_least_3 3 rfl rfl)
theorem dX6_least_71 : decode cX6_least 71 = .ok (.iinc 4 1, 3) := dk_132 4 1 (dk_at dksX6_least_3 4 rfl rfl)
theorem dX6_least_74 : decode cX6_least 74 = .ok (.goto (-49), 3) := dk_167 255 207 (dk_at dksX6_least_3 7 rfl rfl)
theorem dX6_least_77 : decode cX6_least 77 = .ok (.iload_n 2, 1) := dk_28 (dk_at dksX6_least_3 10 rfl rfl)
theorem dX6_least_78 : decode cX6_least 78 = .ok (.ifCond .ne 12, 3) := dk_154 0 12 (dk_at dksX6_least_3 11 rfl rfl)
theorem dX6_least_81 : decode cX6_least 81 = .ok (.aload_n 0, 1) := dk_42 (dk_at dksX6_least_3 14 rfl rfl)
theorem dX6_least_82 : decode cX6_least 82 = .ok (.ldc 105, 2) := dk_18 105 (dk_at dksX6_least_3 15 rfl rfl)
theorem dX6_least_84 : decode cX6_least 84 = .ok (.invokevirtual 62, 3) := dk_182 0 62 (dk_at dksX6_least_3 17 rfl rfl)
theorem dX6_least_87 : decode cX6_least 87 = .ok (.goto 4, 3) := dk_167 0 4 (dk_at dksX6_least_3 20 rfl rfl)
theorem dX6_least_90 : decode cX6_least 90 = .ok (.iload_n 2, 1) := dk_28 (dk_at dksX6_least_3 23 rfl rfl)
theorem dX6_least_91 : decode cX6_least 91 = .ok (.ireturn, 1) := dk_172 (dk_at dksX6_least_4 0 rfl rfl)
abbrev cX6_borders : ByteArray := prog_30_method_61_code
def yX6_borders : MethodName := ⟨RX6, "borders", "(II)I"⟩
def dkwX6_borders_5 : List UInt8 := [54, 5, 132, 7, 1, 167, 255, 193, 132, 6, 1, 167, 255, 177, 21, 5, 172]
abbrev dktX6_borders_5 : List UInt8 := dkwX6_borders_5 ++ []
def dkwX6_borders_4 : List UInt8 := [155, 0, 22, 21, 4, 29, 2, 130, 126, 21, 8, 122, 4, 126, 4, 160, 0, 7, 4, 167, 0, 4, 3, 96]
abbrev dktX6_borders_4 : List UInt8 := dkwX6_borders_4 ++ dktX6_borders_5
def dkwX6_borders_3 : List UInt8 := [126, 21, 6, 122, 4, 126, 4, 160, 0, 48, 21, 6, 21, 7, 184, 0, 90, 54, 8, 21, 5, 21, 8]
abbrev dktX6_borders_3 : List UInt8 := dkwX6_borders_3 ++ dktX6_borders_4
def dkwX6_borders_2 : List UInt8 := [3, 54, 6, 21, 6, 16, 25, 162, 0, 78, 4, 54, 7, 21, 7, 8, 162, 0, 63, 29, 21, 4, 2, 130]
abbrev dktX6_borders_2 : List UInt8 := dkwX6_borders_2 ++ dktX6_borders_3
def dkwX6_borders_1 : List UInt8 := [182, 0, 62, 172, 42, 4, 27, 120, 182, 0, 209, 62, 42, 4, 28, 120, 182, 0, 209, 54, 4, 3, 54, 5]
abbrev dktX6_borders_1 : List UInt8 := dkwX6_borders_1 ++ dktX6_borders_2
def dkwX6_borders_0 : List UInt8 := [42, 27, 182, 0, 93, 153, 0, 16, 42, 28, 182, 0, 93, 153, 0, 8, 27, 28, 160, 0, 10, 42, 18, 61]
abbrev dktX6_borders_0 : List UInt8 := dkwX6_borders_0 ++ dktX6_borders_1
theorem dksX6_borders_0 : cX6_borders.data.toList.drop 0 = dktX6_borders_0 := by decide +kernel
theorem dksX6_borders_1 : cX6_borders.data.toList.drop 24 = dktX6_borders_1 := dk_seg dksX6_borders_0 24 rfl rfl
theorem dksX6_borders_2 : cX6_borders.data.toList.drop 48 = dktX6_borders_2 := dk_seg dksX6_borders_1 24 rfl rfl
theorem dksX6_borders_3 : cX6_borders.data.toList.drop 72 = dktX6_borders_3 := dk_seg dksX6_borders_2 24 rfl rfl
theorem dksX6_borders_4 : cX6_borders.data.toList.drop 95 = dktX6_borders_4 := dk_seg dksX6_borders_3 23 rfl rfl
theorem dksX6_borders_5 : cX6_borders.data.toList.drop 119 = dktX6_borders_5 := dk_seg dksX6_borders_4 24 rfl rfl
theorem dX6_borders_0 : decode cX6_borders 0 = .ok (.aload_n 0, 1) := dk_42 (dk_at dksX6_borders_0 0 rfl rfl)
theorem dX6_borders_1 : decode cX6_borders 1 = .ok (.iload_n 1, 1) := dk_27 (dk_at dksX6_borders_0 1 rfl rfl)
theorem dX6_borders_2 : decode cX6_borders 2 = .ok (.invokevirtual 93, 3) := dk_182 0 93 (dk_at dksX6_borders_0 2 rfl rfl)
theorem dX6_borders_5 : decode cX6_borders 5 = .ok (.ifCond .eq 16, 3) := dk_153 0 16 (dk_at dksX6_borders_0 5 rfl rfl)
theorem dX6_borders_8 : decode cX6_borders 8 = .ok (.aload_n 0, 1) := dk_42 (dk_at dksX6_borders_0 8 rfl rfl)
theorem dX6_borders_9 : decode cX6_borders 9 = .ok (.iload_n 2, 1) := dk_28 (dk_at dksX6_borders_0 9 rfl rfl)
theorem dX6_borders_10 : decode cX6_borders 10 = .ok (.invokevirtual 93, 3) := dk_182 0 93 (dk_at dksX6_borders_0 10 rfl rfl)
theorem dX6_borders_13 : decode cX6_borders 13 = .ok (.ifCond .eq 8, 3) := dk_153 0 8 (dk_at dksX6_borders_0 13 rfl rfl)
theorem dX6_borders_16 : decode cX6_borders 16 = .ok (.iload_n 1, 1) := dk_27 (dk_at dksX6_borders_0 16 rfl rfl)
theorem dX6_borders_17 : decode cX6_borders 17 = .ok (.iload_n 2, 1) := dk_28 (dk_at dksX6_borders_0 17 rfl rfl)
theorem dX6_borders_18 : decode cX6_borders 18 = .ok (.if_icmp .ne 10, 3) := dk_160 0 10 (dk_at dksX6_borders_0 18 rfl rfl)
theorem dX6_borders_21 : decode cX6_borders 21 = .ok (.aload_n 0, 1) := dk_42 (dk_at dksX6_borders_0 21 rfl rfl)
theorem dX6_borders_22 : decode cX6_borders 22 = .ok (.ldc 61, 2) := dk_18 61 (dk_at dksX6_borders_0 22 rfl rfl)
theorem dX6_borders_24 : decode cX6_borders 24 = .ok (.invokevirtual 62, 3) := dk_182 0 62 (dk_at dksX6_borders_1 0 rfl rfl)
theorem dX6_borders_27 : decode cX6_borders 27 = .ok (.ireturn, 1) := dk_172 (dk_at dksX6_borders_1 3 rfl rfl)
theorem dX6_borders_28 : decode cX6_borders 28 = .ok (.aload_n 0, 1) := dk_42 (dk_at dksX6_borders_1 4 rfl rfl)
theorem dX6_borders_29 : decode cX6_borders 29 = .ok (.iconst 1, 1) := dk_4 (dk_at dksX6_borders_1 5 rfl rfl)
theorem dX6_borders_30 : decode cX6_borders 30 = .ok (.iload_n 1, 1) := dk_27 (dk_at dksX6_borders_1 6 rfl rfl)
theorem dX6_borders_31 : decode cX6_borders 31 = .ok (.ishl, 1) := dk_120 (dk_at dksX6_borders_1 7 rfl rfl)
theorem dX6_borders_32 : decode cX6_borders 32 = .ok (.invokevirtual 209, 3) := dk_182 0 209 (dk_at dksX6_borders_1 8 rfl rfl)
theorem dX6_borders_35 : decode cX6_borders 35 = .ok (.istore_n 3, 1) := dk_62 (dk_at dksX6_borders_1 11 rfl rfl)
theorem dX6_borders_36 : decode cX6_borders 36 = .ok (.aload_n 0, 1) := dk_42 (dk_at dksX6_borders_1 12 rfl rfl)
theorem dX6_borders_37 : decode cX6_borders 37 = .ok (.iconst 1, 1) := dk_4 (dk_at dksX6_borders_1 13 rfl rfl)
theorem dX6_borders_38 : decode cX6_borders 38 = .ok (.iload_n 2, 1) := dk_28 (dk_at dksX6_borders_1 14 rfl rfl)
theorem dX6_borders_39 : decode cX6_borders 39 = .ok (.ishl, 1) := dk_120 (dk_at dksX6_borders_1 15 rfl rfl)
theorem dX6_borders_40 : decode cX6_borders 40 = .ok (.invokevirtual 209, 3) := dk_182 0 209 (dk_at dksX6_borders_1 16 rfl rfl)
theorem dX6_borders_43 : decode cX6_borders 43 = .ok (.istore 4, 2) := dk_54 4 (dk_at dksX6_borders_1 19 rfl rfl)
theorem dX6_borders_45 : decode cX6_borders 45 = .ok (.iconst 0, 1) := dk_3 (dk_at dksX6_borders_1 21 rfl rfl)
theorem dX6_borders_46 : decode cX6_borders 46 = .ok (.istore 5, 2) := dk_54 5 (dk_at dksX6_borders_1 22 rfl rfl)
theorem dX6_borders_48 : decode cX6_borders 48 = .ok (.iconst 0, 1) := dk_3 (dk_at dksX6_borders_2 0 rfl rfl)
theorem dX6_borders_49 : decode cX6_borders 49 = .ok (.istore 6, 2) := dk_54 6 (dk_at dksX6_borders_2 1 rfl rfl)
theorem dX6_borders_51 : decode cX6_borders 51 = .ok (.iload 6, 2) := dk_21 6 (dk_at dksX6_borders_2 3 rfl rfl)
theorem dX6_borders_53 : decode cX6_borders 53 = .ok (.bipush 25, 2) := dk_16 25 (dk_at dksX6_borders_2 5 rfl rfl)
theorem dX6_borders_55 : decode cX6_borders 55 = .ok (.if_icmp .ge 78, 3) := dk_162 0 78 (dk_at dksX6_borders_2 7 rfl rfl)
theorem dX6_borders_58 : decode cX6_borders 58 = .ok (.iconst 1, 1) := dk_4 (dk_at dksX6_borders_2 10 rfl rfl)
theorem dX6_borders_59 : decode cX6_borders 59 = .ok (.istore 7, 2) := dk_54 7 (dk_at dksX6_borders_2 11 rfl rfl)
theorem dX6_borders_61 : decode cX6_borders 61 = .ok (.iload 7, 2) := dk_21 7 (dk_at dksX6_borders_2 13 rfl rfl)
theorem dX6_borders_63 : decode cX6_borders 63 = .ok (.iconst 5, 1) := dk_8 (dk_at dksX6_borders_2 15 rfl rfl)
theorem dX6_borders_64 : decode cX6_borders 64 = .ok (.if_icmp .ge 63, 3) := dk_162 0 63 (dk_at dksX6_borders_2 16 rfl rfl)
theorem dX6_borders_67 : decode cX6_borders 67 = .ok (.iload_n 3, 1) := dk_29 (dk_at dksX6_borders_2 19 rfl rfl)
theorem dX6_borders_68 : decode cX6_borders 68 = .ok (.iload 4, 2) := dk_21 4 (dk_at dksX6_borders_2 20 rfl rfl)
theorem dX6_borders_70 : decode cX6_borders 70 = .ok (.iconst (-1), 1) := dk_2 (dk_at dksX6_borders_2 22 rfl rfl)
theorem dX6_borders_71 : decode cX6_borders 71 = .ok (.ixor, 1) := dk_130 (dk_at dksX6_borders_2 23 rfl rfl)
theorem dX6_borders_72 : decode cX6_borders 72 = .ok (.iand, 1) := dk_126 (dk_at dksX6_borders_3 0 rfl rfl)
theorem dX6_borders_73 : decode cX6_borders 73 = .ok (.iload 6, 2) := dk_21 6 (dk_at dksX6_borders_3 1 rfl rfl)
theorem dX6_borders_75 : decode cX6_borders 75 = .ok (.ishr, 1) := dk_122 (dk_at dksX6_borders_3 3 rfl rfl)
theorem dX6_borders_76 : decode cX6_borders 76 = .ok (.iconst 1, 1) := dk_4 (dk_at dksX6_borders_3 4 rfl rfl)
theorem dX6_borders_77 : decode cX6_borders 77 = .ok (.iand, 1) := dk_126 (dk_at dksX6_borders_3 5 rfl rfl)
theorem dX6_borders_78 : decode cX6_borders 78 = .ok (.iconst 1, 1) := dk_4 (dk_at dksX6_borders_3 6 rfl rfl)
theorem dX6_borders_79 : decode cX6_borders 79 = .ok (.if_icmp .ne 48, 3) := dk_160 0 48 (dk_at dksX6_borders_3 7 rfl rfl)
theorem dX6_borders_82 : decode cX6_borders 82 = .ok (.iload 6, 2) := dk_21 6 (dk_at dksX6_borders_3 10 rfl rfl)
theorem dX6_borders_84 : decode cX6_borders 84 = .ok (.iload 7, 2) := dk_21 7 (dk_at dksX6_borders_3 12 rfl rfl)
theorem dX6_borders_86 : decode cX6_borders 86 = .ok (.invokestatic 90, 3) := dk_184 0 90 (dk_at dksX6_borders_3 14 rfl rfl)
theorem dX6_borders_89 : decode cX6_borders 89 = .ok (.istore 8, 2) := dk_54 8 (dk_at dksX6_borders_3 17 rfl rfl)
theorem dX6_borders_91 : decode cX6_borders 91 = .ok (.iload 5, 2) := dk_21 5 (dk_at dksX6_borders_3 19 rfl rfl)
theorem dX6_borders_93 : decode cX6_borders 93 = .ok (.iload 8, 2) := dk_21 8 (dk_at dksX6_borders_3 21 rfl rfl)
theorem dX6_borders_95 : decode cX6_borders 95 = .ok (.ifCond .lt 22, 3) := dk_155 0 22 (dk_at dksX6_borders_4 0 rfl rfl)
theorem dX6_borders_98 : decode cX6_borders 98 = .ok (.iload 4, 2) := dk_21 4 (dk_at dksX6_borders_4 3 rfl rfl)
theorem dX6_borders_100 : decode cX6_borders 100 = .ok (.iload_n 3, 1) := dk_29 (dk_at dksX6_borders_4 5 rfl rfl)
theorem dX6_borders_101 : decode cX6_borders 101 = .ok (.iconst (-1), 1) := dk_2 (dk_at dksX6_borders_4 6 rfl rfl)
theorem dX6_borders_102 : decode cX6_borders 102 = .ok (.ixor, 1) := dk_130 (dk_at dksX6_borders_4 7 rfl rfl)
theorem dX6_borders_103 : decode cX6_borders 103 = .ok (.iand, 1) := dk_126 (dk_at dksX6_borders_4 8 rfl rfl)
theorem dX6_borders_104 : decode cX6_borders 104 = .ok (.iload 8, 2) := dk_21 8 (dk_at dksX6_borders_4 9 rfl rfl)
theorem dX6_borders_106 : decode cX6_borders 106 = .ok (.ishr, 1) := dk_122 (dk_at dksX6_borders_4 11 rfl rfl)
theorem dX6_borders_107 : decode cX6_borders 107 = .ok (.iconst 1, 1) := dk_4 (dk_at dksX6_borders_4 12 rfl rfl)
theorem dX6_borders_108 : decode cX6_borders 108 = .ok (.iand, 1) := dk_126 (dk_at dksX6_borders_4 13 rfl rfl)
theorem dX6_borders_109 : decode cX6_borders 109 = .ok (.iconst 1, 1) := dk_4 (dk_at dksX6_borders_4 14 rfl rfl)
theorem dX6_borders_110 : decode cX6_borders 110 = .ok (.if_icmp .ne 7, 3) := dk_160 0 7 (dk_at dksX6_borders_4 15 rfl rfl)
theorem dX6_borders_113 : decode cX6_borders 113 = .ok (.iconst 1, 1) := dk_4 (dk_at dksX6_borders_4 18 rfl rfl)
theorem dX6_borders_114 : decode cX6_borders 114 = .ok (.goto 4, 3) := dk_167 0 4 (dk_at dksX6_borders_4 19 rfl rfl)
theorem dX6_borders_117 : decode cX6_borders 117 = .ok (.iconst 0, 1) := dk_3 (dk_at dksX6_borders_4 22 rfl rfl)
theorem dX6_borders_118 : decode cX6_borders 118 = .ok (.iadd, 1) := dk_96 (dk_at dksX6_borders_4 23 rfl rfl)
theorem dX6_borders_119 : decode cX6_borders 119 = .ok (.istore 5, 2) := dk_54 5 (dk_at dksX6_borders_5 0 rfl rfl)
theorem dX6_borders_121 : decode cX6_borders 121 = .ok (.iinc 7 1, 3) := dk_132 7 1 (dk_at dksX6_borders_5 2 rfl rfl)
theorem dX6_borders_124 : decode cX6_borders 124 = .ok (.goto (-63), 3) := dk_167 255 193 (dk_at dksX6_borders_5 5 rfl rfl)
theorem dX6_borders_127 : decode cX6_borders 127 = .ok (.iinc 6 1, 3) := dk_132 6 1 (dk_at dksX6_borders_5 8 rfl rfl)
theorem dX6_borders_130 : decode cX6_borders 130 = .ok (.goto (-79), 3) := dk_167 255 177 (dk_at dksX6_borders_5 11 rfl rfl)
theorem dX6_borders_133 : decode cX6_borders 133 = .ok (.iload 5, 2) := dk_21 5 (dk_at dksX6_borders_5 14 rfl rfl)
theorem dX6_borders_135 : decode cX6_borders 135 = .ok (.ireturn, 1) := dk_172 (dk_at dksX6_borders_5 16 rfl rfl)
abbrev cX6_then : ByteArray := prog_30_method_62_code
def yX6_then : MethodName := ⟨RX6, "then", "(III)I"⟩
def dkwX6_then_3 : List UInt8 := [16, 33, 21, 4, 96, 46, 54, 5, 42, 42, 180, 0, 16, 42, 180, 0, 7, 182, 0, 178, 21, 5, 172]
abbrev dktX6_then_3 : List UInt8 := dkwX6_then_3 ++ []
def dkwX6_then_2 : List UInt8 := [182, 0, 190, 42, 28, 5, 182, 0, 69, 54, 4, 29, 154, 0, 8, 21, 4, 167, 0, 13, 42, 180, 0, 7]
abbrev dktX6_then_2 : List UInt8 := dkwX6_then_2 ++ dktX6_then_3
def dkwX6_then_1 : List UInt8 := [154, 0, 10, 42, 18, 61, 182, 0, 62, 172, 42, 42, 180, 0, 7, 42, 180, 0, 16, 182, 0, 178, 42, 27]
abbrev dktX6_then_1 : List UInt8 := dkwX6_then_1 ++ dktX6_then_2
def dkwX6_then_0 : List UInt8 := [27, 3, 16, 100, 184, 0, 53, 153, 0, 20, 42, 28, 182, 0, 93, 153, 0, 12, 29, 3, 4, 184, 0, 53]
abbrev dktX6_then_0 : List UInt8 := dkwX6_then_0 ++ dktX6_then_1
theorem dksX6_then_0 : cX6_then.data.toList.drop 0 = dktX6_then_0 := by decide +kernel
theorem dksX6_then_1 : cX6_then.data.toList.drop 24 = dktX6_then_1 := dk_seg dksX6_then_0 24 rfl rfl
theorem dksX6_then_2 : cX6_then.data.toList.drop 48 = dktX6_then_2 := dk_seg dksX6_then_1 24 rfl rfl
theorem dksX6_then_3 : cX6_then.data.toList.drop 72 = dktX6_then_3 := dk_seg dksX6_then_2 24 rfl rfl
theorem dX6_then_0 : decode cX6_then 0 = .ok (.iload_n 1, 1) := dk_27 (dk_at dksX6_then_0 0 rfl rfl)
theorem dX6_then_1 : decode cX6_then 1 = .ok (.iconst 0, 1) := dk_3 (dk_at dksX6_then_0 1 rfl rfl)
theorem dX6_then_2 : decode cX6_then 2 = .ok (.bipush 100, 2) := dk_16 100 (dk_at dksX6_then_0 2 rfl rfl)
theorem dX6_then_4 : decode cX6_then 4 = .ok (.invokestatic 53, 3) := dk_184 0 53 (dk_at dksX6_then_0 4 rfl rfl)
theorem dX6_then_7 : decode cX6_then 7 = .ok (.ifCond .eq 20, 3) := dk_153 0 20 (dk_at dksX6_then_0 7 rfl rfl)
theorem dX6_then_10 : decode cX6_then 10 = .ok (.aload_n 0, 1) := dk_42 (dk_at dksX6_then_0 10 rfl rfl)
theorem dX6_then_11 : decode cX6_then 11 = .ok (.iload_n 2, 1) := dk_28 (dk_at dksX6_then_0 11 rfl rfl)
theorem dX6_then_12 : decode cX6_then 12 = .ok (.invokevirtual 93, 3) := dk_182 0 93 (dk_at dksX6_then_0 12 rfl rfl)
theorem dX6_then_15 : decode cX6_then 15 = .ok (.ifCond .eq 12, 3) := dk_153 0 12 (dk_at dksX6_then_0 15 rfl rfl)
theorem dX6_then_18 : decode cX6_then 18 = .ok (.iload_n 3, 1) := dk_29 (dk_at dksX6_then_0 18 rfl rfl)
theorem dX6_then_19 : decode cX6_then 19 = .ok (.iconst 0, 1) := dk_3 (dk_at dksX6_then_0 19 rfl rfl)
theorem dX6_then_20 : decode cX6_then 20 = .ok (.iconst 1, 1) := dk_4 (dk_at dksX6_then_0 20 rfl rfl)
theorem dX6_then_21 : decode cX6_then 21 = .ok (.invokestatic 53, 3) := dk_184 0 53 (dk_at dksX6_then_0 21 rfl rfl)
theorem dX6_then_24 : decode cX6_then 24 = .ok (.ifCond .ne 10, 3) := dk_154 0 10 (dk_at dksX6_then_1 0 rfl rfl)
theorem dX6_then_27 : decode cX6_then 27 = .ok (.aload_n 0, 1) := dk_42 (dk_at dksX6_then_1 3 rfl rfl)
theorem dX6_then_28 : decode cX6_then 28 = .ok (.ldc 61, 2) := dk_18 61 (dk_at dksX6_then_1 4 rfl rfl)
theorem dX6_then_30 : decode cX6_then 30 = .ok (.invokevirtual 62, 3) := dk_182 0 62 (dk_at dksX6_then_1 6 rfl rfl)
theorem dX6_then_33 : decode cX6_then 33 = .ok (.ireturn, 1) := dk_172 (dk_at dksX6_then_1 9 rfl rfl)
theorem dX6_then_34 : decode cX6_then 34 = .ok (.aload_n 0, 1) := dk_42 (dk_at dksX6_then_1 10 rfl rfl)
theorem dX6_then_35 : decode cX6_then 35 = .ok (.aload_n 0, 1) := dk_42 (dk_at dksX6_then_1 11 rfl rfl)
theorem dX6_then_36 : decode cX6_then 36 = .ok (.getfield 7, 3) := dk_180 0 7 (dk_at dksX6_then_1 12 rfl rfl)
theorem dX6_then_39 : decode cX6_then 39 = .ok (.aload_n 0, 1) := dk_42 (dk_at dksX6_then_1 15 rfl rfl)
theorem dX6_then_40 : decode cX6_then 40 = .ok (.getfield 16, 3) := dk_180 0 16 (dk_at dksX6_then_1 16 rfl rfl)
theorem dX6_then_43 : decode cX6_then 43 = .ok (.invokevirtual 178, 3) := dk_182 0 178 (dk_at dksX6_then_1 19 rfl rfl)
theorem dX6_then_46 : decode cX6_then 46 = .ok (.aload_n 0, 1) := dk_42 (dk_at dksX6_then_1 22 rfl rfl)
theorem dX6_then_47 : decode cX6_then 47 = .ok (.iload_n 1, 1) := dk_27 (dk_at dksX6_then_1 23 rfl rfl)
theorem dX6_then_48 : decode cX6_then 48 = .ok (.invokevirtual 190, 3) := dk_182 0 190 (dk_at dksX6_then_2 0 rfl rfl)
theorem dX6_then_51 : decode cX6_then 51 = .ok (.aload_n 0, 1) := dk_42 (dk_at dksX6_then_2 3 rfl rfl)
theorem dX6_then_52 : decode cX6_then 52 = .ok (.iload_n 2, 1) := dk_28 (dk_at dksX6_then_2 4 rfl rfl)
theorem dX6_then_53 : decode cX6_then 53 = .ok (.iconst 2, 1) := dk_5 (dk_at dksX6_then_2 5 rfl rfl)
theorem dX6_then_54 : decode cX6_then 54 = .ok (.invokevirtual 69, 3) := dk_182 0 69 (dk_at dksX6_then_2 6 rfl rfl)
theorem dX6_then_57 : decode cX6_then 57 = .ok (.istore 4, 2) := dk_54 4 (dk_at dksX6_then_2 9 rfl rfl)
theorem dX6_then_59 : decode cX6_then 59 = .ok (.iload_n 3, 1) := dk_29 (dk_at dksX6_then_2 11 rfl rfl)
theorem dX6_then_60 : decode cX6_then 60 = .ok (.ifCond .ne 8, 3) := dk_154 0 8 (dk_at dksX6_then_2 12 rfl rfl)
theorem dX6_then_63 : decode cX6_then 63 = .ok (.iload 4, 2) := dk_21 4 (dk_at dksX6_then_2 15 rfl rfl)
theorem dX6_then_65 : decode cX6_then 65 = .ok (.goto 13, 3) := dk_167 0 13 (dk_at dksX6_then_2 17 rfl rfl)
theorem dX6_then_68 : decode cX6_then 68 = .ok (.aload_n 0, 1) := dk_42 (dk_at dksX6_then_2 20 rfl rfl)
theorem dX6_then_69 : decode cX6_then 69 = .ok (.getfield 7, 3) := dk_180 0 7 (dk_at dksX6_then_2 21 rfl rfl)
theorem dX6_then_72 : decode cX6_then 72 = .ok (.bipush 33, 2) := dk_16 33 (dk_at dksX6_then_3 0 rfl rfl)
theorem dX6_then_74 : decode cX6_then 74 = .ok (.iload 4, 2) := dk_21 4 (dk_at dksX6_then_3 2 rfl rfl)
theorem dX6_then_76 : decode cX6_then 76 = .ok (.iadd, 1) := dk_96 (dk_at dksX6_then_3 4 rfl rfl)
theorem dX6_then_77 : decode cX6_then 77 = .ok (.iaload, 1) := dk_46 (dk_at dksX6_then_3 5 rfl rfl)
theorem dX6_then_78 : decode cX6_then 78 = .ok (.istore 5, 2) := dk_54 5 (dk_at dksX6_then_3 6 rfl rfl)
theorem dX6_then_80 : decode cX6_then 80 = .ok (.aload_n 0, 1) := dk_42 (dk_at dksX6_then_3 8 rfl rfl)
theorem dX6_then_81 : decode cX6_then 81 = .ok (.aload_n 0, 1) := dk_42 (dk_at dksX6_then_3 9 rfl rfl)
theorem dX6_then_82 : decode cX6_then 82 = .ok (.getfield 16, 3) := dk_180 0 16 (dk_at dksX6_then_3 10 rfl rfl)
theorem dX6_then_85 : decode cX6_then 85 = .ok (.aload_n 0, 1) := dk_42 (dk_at dksX6_then_3 13 rfl rfl)
theorem dX6_then_86 : decode cX6_then 86 = .ok (.getfield 7, 3) := dk_180 0 7 (dk_at dksX6_then_3 14 rfl rfl)
theorem dX6_then_89 : decode cX6_then 89 = .ok (.invokevirtual 178, 3) := dk_182 0 178 (dk_at dksX6_then_3 17 rfl rfl)
theorem dX6_then_92 : decode cX6_then 92 = .ok (.iload 5, 2) := dk_21 5 (dk_at dksX6_then_3 20 rfl rfl)
theorem dX6_then_94 : decode cX6_then 94 = .ok (.ireturn, 1) := dk_172 (dk_at dksX6_then_3 22 rfl rfl)
abbrev cX6_walked : ByteArray := prog_30_method_65_code
def yX6_walked : MethodName := ⟨RX6, "walked", "(II)I"⟩
def dkwX6_walked_5 : List UInt8 := [29, 167, 0, 5, 21, 4, 172]
abbrev dktX6_walked_5 : List UInt8 := dkwX6_walked_5 ++ []
def dkwX6_walked_4 : List UInt8 := [158, 0, 10, 4, 21, 5, 120, 167, 0, 4, 3, 128, 54, 4, 132, 5, 1, 167, 255, 207, 28, 154, 0, 7]
abbrev dktX6_walked_4 : List UInt8 := dkwX6_walked_4 ++ dktX6_walked_5
def dkwX6_walked_3 : List UInt8 := [180, 0, 37, 21, 5, 46, 96, 3, 18, 216, 184, 0, 170, 62, 21, 4, 42, 180, 0, 37, 21, 5, 46]
abbrev dktX6_walked_3 : List UInt8 := dkwX6_walked_3 ++ dktX6_walked_4
def dkwX6_walked_2 : List UInt8 := [42, 27, 182, 0, 220, 3, 62, 3, 54, 4, 3, 54, 5, 21, 5, 16, 25, 162, 0, 48, 29, 42]
abbrev dktX6_walked_2 : List UInt8 := dkwX6_walked_2 ++ dktX6_walked_3
def dkwX6_walked_1 : List UInt8 := [180, 0, 25, 27, 46, 153, 0, 12, 42, 180, 0, 28, 27, 46, 154, 0, 10, 42, 18, 105, 182, 0, 62, 172]
abbrev dktX6_walked_1 : List UInt8 := dkwX6_walked_1 ++ dktX6_walked_2
def dkwX6_walked_0 : List UInt8 := [27, 184, 0, 217, 153, 0, 12, 28, 3, 4, 184, 0, 53, 154, 0, 10, 42, 18, 61, 182, 0, 62, 172, 42]
abbrev dktX6_walked_0 : List UInt8 := dkwX6_walked_0 ++ dktX6_walked_1
theorem dksX6_walked_0 : cX6_walked.data.toList.drop 0 = dktX6_walked_0 := by decide +kernel
theorem dksX6_walked_1 : cX6_walked.data.toList.drop 24 = dktX6_walked_1 := dk_seg dksX6_walked_0 24 rfl rfl
theorem dksX6_walked_2 : cX6_walked.data.toList.drop 48 = dktX6_walked_2 := dk_seg dksX6_walked_1 24 rfl rfl
theorem dksX6_walked_3 : cX6_walked.data.toList.drop 70 = dktX6_walked_3 := dk_seg dksX6_walked_2 22 rfl rfl
theorem dksX6_walked_4 : cX6_walked.data.toList.drop 93 = dktX6_walked_4 := dk_seg dksX6_walked_3 23 rfl rfl
theorem dksX6_walked_5 : cX6_walked.data.toList.drop 117 = dktX6_walked_5 := dk_seg dksX6_walked_4 24 rfl rfl
theorem dX6_walked_0 : decode cX6_walked 0 = .ok (.iload_n 1, 1) := dk_27 (dk_at dksX6_walked_0 0 rfl rfl)
theorem dX6_walked_1 : decode cX6_walked 1 = .ok (.invokestatic 217, 3) := dk_184 0 217 (dk_at dksX6_walked_0 1 rfl rfl)
theorem dX6_walked_4 : decode cX6_walked 4 = .ok (.ifCond .eq 12, 3) := dk_153 0 12 (dk_at dksX6_walked_0 4 rfl rfl)
theorem dX6_walked_7 : decode cX6_walked 7 = .ok (.iload_n 2, 1) := dk_28 (dk_at dksX6_walked_0 7 rfl rfl)
theorem dX6_walked_8 : decode cX6_walked 8 = .ok (.iconst 0, 1) := dk_3 (dk_at dksX6_walked_0 8 rfl rfl)
theorem dX6_walked_9 : decode cX6_walked 9 = .ok (.iconst 1, 1) := dk_4 (dk_at dksX6_walked_0 9 rfl rfl)
theorem dX6_walked_10 : decode cX6_walked 10 = .ok (.invokestatic 53, 3) := dk_184 0 53 (dk_at dksX6_walked_0 10 rfl rfl)
theorem dX6_walked_13 : decode cX6_walked 13 = .ok (.ifCond .ne 10, 3) := dk_154 0 10 (dk_at dksX6_walked_0 13 rfl rfl)
theorem dX6_walked_16 : decode cX6_walked 16 = .ok (.aload_n 0, 1) := dk_42 (dk_at dksX6_walked_0 16 rfl rfl)
theorem dX6_walked_17 : decode cX6_walked 17 = .ok (.ldc 61, 2) := dk_18 61 (dk_at dksX6_walked_0 17 rfl rfl)
theorem dX6_walked_19 : decode cX6_walked 19 = .ok (.invokevirtual 62, 3) := dk_182 0 62 (dk_at dksX6_walked_0 19 rfl rfl)
theorem dX6_walked_22 : decode cX6_walked 22 = .ok (.ireturn, 1) := dk_172 (dk_at dksX6_walked_0 22 rfl rfl)
theorem dX6_walked_23 : decode cX6_walked 23 = .ok (.aload_n 0, 1) := dk_42 (dk_at dksX6_walked_0 23 rfl rfl)
theorem dX6_walked_24 : decode cX6_walked 24 = .ok (.getfield 25, 3) := dk_180 0 25 (dk_at dksX6_walked_1 0 rfl rfl)
theorem dX6_walked_27 : decode cX6_walked 27 = .ok (.iload_n 1, 1) := dk_27 (dk_at dksX6_walked_1 3 rfl rfl)
theorem dX6_walked_28 : decode cX6_walked 28 = .ok (.iaload, 1) := dk_46 (dk_at dksX6_walked_1 4 rfl rfl)
theorem dX6_walked_29 : decode cX6_walked 29 = .ok (.ifCond .eq 12, 3) := dk_153 0 12 (dk_at dksX6_walked_1 5 rfl rfl)
theorem dX6_walked_32 : decode cX6_walked 32 = .ok (.aload_n 0, 1) := dk_42 (dk_at dksX6_walked_1 8 rfl rfl)
theorem dX6_walked_33 : decode cX6_walked 33 = .ok (.getfield 28, 3) := dk_180 0 28 (dk_at dksX6_walked_1 9 rfl rfl)
theorem dX6_walked_36 : decode cX6_walked 36 = .ok (.iload_n 1, 1) := dk_27 (dk_at dksX6_walked_1 12 rfl rfl)
theorem dX6_walked_37 : decode cX6_walked 37 = .ok (.iaload, 1) := dk_46 (dk_at dksX6_walked_1 13 rfl rfl)
theorem dX6_walked_38 : decode cX6_walked 38 = .ok (.ifCond .ne 10, 3) := dk_154 0 10 (dk_at dksX6_walked_1 14 rfl rfl)
theorem dX6_walked_41 : decode cX6_walked 41 = .ok (.aload_n 0, 1) := dk_42 (dk_at dksX6_walked_1 17 rfl rfl)
theorem dX6_walked_42 : decode cX6_walked 42 = .ok (.ldc 105, 2) := dk_18 105 (dk_at dksX6_walked_1 18 rfl rfl)
theorem dX6_walked_44 : decode cX6_walked 44 = .ok (.invokevirtual 62, 3) := dk_182 0 62 (dk_at dksX6_walked_1 20 rfl rfl)
theorem dX6_walked_47 : decode cX6_walked 47 = .ok (.ireturn, 1) := dk_172 (dk_at dksX6_walked_1 23 rfl rfl)
theorem dX6_walked_48 : decode cX6_walked 48 = .ok (.aload_n 0, 1) := dk_42 (dk_at dksX6_walked_2 0 rfl rfl)
theorem dX6_walked_49 : decode cX6_walked 49 = .ok (.iload_n 1, 1) := dk_27 (dk_at dksX6_walked_2 1 rfl rfl)
theorem dX6_walked_50 : decode cX6_walked 50 = .ok (.invokevirtual 220, 3) := dk_182 0 220 (dk_at dksX6_walked_2 2 rfl rfl)
theorem dX6_walked_53 : decode cX6_walked 53 = .ok (.iconst 0, 1) := dk_3 (dk_at dksX6_walked_2 5 rfl rfl)
theorem dX6_walked_54 : decode cX6_walked 54 = .ok (.istore_n 3, 1) := dk_62 (dk_at dksX6_walked_2 6 rfl rfl)
theorem dX6_walked_55 : decode cX6_walked 55 = .ok (.iconst 0, 1) := dk_3 (dk_at dksX6_walked_2 7 rfl rfl)
theorem dX6_walked_56 : decode cX6_walked 56 = .ok (.istore 4, 2) := dk_54 4 (dk_at dksX6_walked_2 8 rfl rfl)
theorem dX6_walked_58 : decode cX6_walked 58 = .ok (.iconst 0, 1) := dk_3 (dk_at dksX6_walked_2 10 rfl rfl)
theorem dX6_walked_59 : decode cX6_walked 59 = .ok (.istore 5, 2) := dk_54 5 (dk_at dksX6_walked_2 11 rfl rfl)
theorem dX6_walked_61 : decode cX6_walked 61 = .ok (.iload 5, 2) := dk_21 5 (dk_at dksX6_walked_2 13 rfl rfl)
theorem dX6_walked_63 : decode cX6_walked 63 = .ok (.bipush 25, 2) := dk_16 25 (dk_at dksX6_walked_2 15 rfl rfl)
theorem dX6_walked_65 : decode cX6_walked 65 = .ok (.if_icmp .ge 48, 3) := dk_162 0 48 (dk_at dksX6_walked_2 17 rfl rfl)
theorem dX6_walked_68 : decode cX6_walked 68 = .ok (.iload_n 3, 1) := dk_29 (dk_at dksX6_walked_2 20 rfl rfl)
theorem dX6_walked_69 : decode cX6_walked 69 = .ok (.aload_n 0, 1) := dk_42 (dk_at dksX6_walked_2 21 rfl rfl)
theorem dX6_walked_70 : decode cX6_walked 70 = .ok (.getfield 37, 3) := dk_180 0 37 (dk_at dksX6_walked_3 0 rfl rfl)
theorem dX6_walked_73 : decode cX6_walked 73 = .ok (.iload 5, 2) := dk_21 5 (dk_at dksX6_walked_3 3 rfl rfl)
theorem dX6_walked_75 : decode cX6_walked 75 = .ok (.iaload, 1) := dk_46 (dk_at dksX6_walked_3 5 rfl rfl)
theorem dX6_walked_76 : decode cX6_walked 76 = .ok (.iadd, 1) := dk_96 (dk_at dksX6_walked_3 6 rfl rfl)
theorem dX6_walked_77 : decode cX6_walked 77 = .ok (.iconst 0, 1) := dk_3 (dk_at dksX6_walked_3 7 rfl rfl)
theorem dX6_walked_78 : decode cX6_walked 78 = .ok (.ldc 216, 2) := dk_18 216 (dk_at dksX6_walked_3 8 rfl rfl)
theorem dX6_walked_80 : decode cX6_walked 80 = .ok (.invokestatic 170, 3) := dk_184 0 170 (dk_at dksX6_walked_3 10 rfl rfl)
theorem dX6_walked_83 : decode cX6_walked 83 = .ok (.istore_n 3, 1) := dk_62 (dk_at dksX6_walked_3 13 rfl rfl)
theorem dX6_walked_84 : decode cX6_walked 84 = .ok (.iload 4, 2) := dk_21 4 (dk_at dksX6_walked_3 14 rfl rfl)
theorem dX6_walked_86 : decode cX6_walked 86 = .ok (.aload_n 0, 1) := dk_42 (dk_at dksX6_walked_3 16 rfl rfl)
theorem dX6_walked_87 : decode cX6_walked 87 = .ok (.getfield 37, 3) := dk_180 0 37 (dk_at dksX6_walked_3 17 rfl rfl)
theorem dX6_walked_90 : decode cX6_walked 90 = .ok (.iload 5, 2) := dk_21 5 (dk_at dksX6_walked_3 20 rfl rfl)
theorem dX6_walked_92 : decode cX6_walked 92 = .ok (.iaload, 1) := dk_46 (dk_at dksX6_walked_3 22 rfl rfl)
theorem dX6_walked_93 : decode cX6_walked 93 = .ok (.ifCond .le 10, 3) := dk_158 0 10 (dk_at dksX6_walked_4 0 rfl rfl)
theorem dX6_walked_96 : decode cX6_walked 96 = .ok (.iconst 1, 1) := dk_4 (dk_at dksX6_walked_4 3 rfl rfl)
theorem dX6_walked_97 : decode cX6_walked 97 = .ok (.iload 5, 2) := dk_21 5 (dk_at dksX6_walked_4 4 rfl rfl)
theorem dX6_walked_99 : decode cX6_walked 99 = .ok (.ishl, 1) := dk_120 (dk_at dksX6_walked_4 6 rfl rfl)
theorem dX6_walked_100 : decode cX6_walked 100 = .ok (.goto 4, 3) := dk_167 0 4 (dk_at dksX6_walked_4 7 rfl rfl)
theorem dX6_walked_103 : decode cX6_walked 103 = .ok (.iconst 0, 1) := dk_3 (dk_at dksX6_walked_4 10 rfl rfl)
theorem dX6_walked_104 : decode cX6_walked 104 = .ok (.ior, 1) := dk_128 (dk_at dksX6_walked_4 11 rfl rfl)
theorem dX6_walked_105 : decode cX6_walked 105 = .ok (.istore 4, 2) := dk_54 4 (dk_at dksX6_walked_4 12 rfl rfl)
theorem dX6_walked_107 : decode cX6_walked 107 = .ok (.iinc 5 1, 3) := dk_132 5 1 (dk_at dksX6_walked_4 14 rfl rfl)
theorem dX6_walked_110 : decode cX6_walked 110 = .ok (.goto (-49), 3) := dk_167 255 207 (dk_at dksX6_walked_4 17 rfl rfl)
theorem dX6_walked_113 : decode cX6_walked 113 = .ok (.iload_n 2, 1) := dk_28 (dk_at dksX6_walked_4 20 rfl rfl)
theorem dX6_walked_114 : decode cX6_walked 114 = .ok (.ifCond .ne 7, 3) := dk_154 0 7 (dk_at dksX6_walked_4 21 rfl rfl)
theorem dX6_walked_117 : decode cX6_walked 117 = .ok (.iload_n 3, 1) := dk_29 (dk_at dksX6_walked_5 0 rfl rfl)
theorem dX6_walked_118 : decode cX6_walked 118 = .ok (.goto 5, 3) := dk_167 0 5 (dk_at dksX6_walked_5 1 rfl rfl)
theorem dX6_walked_121 : decode cX6_walked 121 = .ok (.iload 4, 2) := dk_21 4 (dk_at dksX6_walked_5 4 rfl rfl)
theorem dX6_walked_123 : decode cX6_walked 123 = .ok (.ireturn, 1) := dk_172 (dk_at dksX6_walked_5 6 rfl rfl)
abbrev cX6_isSheet : ByteArray := prog_30_method_63_code
def yX6_isSheet : MethodName := ⟨RX6, "isSheet", "(I)Z"⟩
def dkwX6_isSheet_0 : List UInt8 := [26, 3, 6, 184, 0, 53, 172]
abbrev dktX6_isSheet_0 : List UInt8 := dkwX6_isSheet_0 ++ []
theorem dksX6_isSheet_0 : cX6_isSheet.data.toList.drop 0 = dktX6_isSheet_0 := by decide +kernel
theorem dX6_isSheet_0 : decode cX6_isSheet 0 = .ok (.iload_n 0, 1) := dk_26 (dk_at dksX6_isSheet_0 0 rfl rfl)
theorem dX6_isSheet_1 : decode cX6_isSheet 1 = .ok (.iconst 0, 1) := dk_3 (dk_at dksX6_isSheet_0 1 rfl rfl)
theorem dX6_isSheet_2 : decode cX6_isSheet 2 = .ok (.iconst 3, 1) := dk_6 (dk_at dksX6_isSheet_0 2 rfl rfl)
theorem dX6_isSheet_3 : decode cX6_isSheet 3 = .ok (.invokestatic 53, 3) := dk_184 0 53 (dk_at dksX6_isSheet_0 3 rfl rfl)
theorem dX6_isSheet_6 : decode cX6_isSheet 6 = .ok (.ireturn, 1) := dk_172 (dk_at dksX6_isSheet_0 6 rfl rfl)
abbrev cX6_findWalks : ByteArray := prog_30_method_64_code
def yX6_findWalks : MethodName := ⟨RX6, "findWalks", "(I)V"⟩
def dkwX6_findWalks_7 : List UInt8 := [132, 3, 1, 167, 255, 235, 132, 2, 255, 167, 255, 93, 177]
abbrev dktX6_findWalks_7 : List UInt8 := dkwX6_findWalks_7 ++ []
def dkwX6_findWalks_6 : List UInt8 := [167, 255, 131, 3, 62, 29, 16, 25, 162, 0, 21, 42, 180, 0, 37, 29, 42, 180, 0, 40, 29, 46, 79]
abbrev dktX6_findWalks_6 : List UInt8 := dkwX6_findWalks_6 ++ dktX6_findWalks_7
def dkwX6_findWalks_5 : List UInt8 := [104, 28, 96, 46, 160, 0, 14, 21, 4, 3, 18, 216, 184, 0, 170, 167, 0, 4, 3, 79, 132, 3, 1]
abbrev dktX6_findWalks_5 : List UInt8 := dkwX6_findWalks_5 ++ dktX6_findWalks_6
def dkwX6_findWalks_4 : List UInt8 := [167, 255, 206, 42, 180, 0, 40, 29, 42, 180, 0, 7, 16, 8, 29, 96, 46, 42, 180, 0, 31, 16, 40, 27]
abbrev dktX6_findWalks_4 : List UInt8 := dkwX6_findWalks_4 ++ dktX6_findWalks_5
def dkwX6_findWalks_3 : List UInt8 := [21, 4, 21, 6, 156, 0, 7, 3, 167, 0, 10, 42, 180, 0, 37, 21, 6, 46, 96, 54, 4, 132, 5, 1]
abbrev dktX6_findWalks_3 : List UInt8 := dkwX6_findWalks_3 ++ dktX6_findWalks_4
def dkwX6_findWalks_2 : List UInt8 := [162, 0, 50, 28, 42, 180, 0, 28, 27, 46, 4, 100, 162, 0, 38, 29, 21, 5, 184, 0, 90, 54, 6]
abbrev dktX6_findWalks_2 : List UInt8 := dkwX6_findWalks_2 ++ dktX6_findWalks_3
def dkwX6_findWalks_1 : List UInt8 := [180, 0, 28, 27, 46, 4, 100, 160, 0, 7, 4, 167, 0, 4, 3, 54, 4, 3, 54, 5, 21, 5, 8]
abbrev dktX6_findWalks_1 : List UInt8 := dkwX6_findWalks_1 ++ dktX6_findWalks_2
def dkwX6_findWalks_0 : List UInt8 := [42, 180, 0, 28, 27, 46, 4, 100, 61, 28, 155, 0, 165, 3, 62, 29, 16, 25, 162, 0, 125, 28, 42]
abbrev dktX6_findWalks_0 : List UInt8 := dkwX6_findWalks_0 ++ dktX6_findWalks_1
theorem dksX6_findWalks_0 : cX6_findWalks.data.toList.drop 0 = dktX6_findWalks_0 := by decide +kernel
theorem dksX6_findWalks_1 : cX6_findWalks.data.toList.drop 23 = dktX6_findWalks_1 := dk_seg dksX6_findWalks_0 23 rfl rfl
theorem dksX6_findWalks_2 : cX6_findWalks.data.toList.drop 46 = dktX6_findWalks_2 := dk_seg dksX6_findWalks_1 23 rfl rfl
theorem dksX6_findWalks_3 : cX6_findWalks.data.toList.drop 69 = dktX6_findWalks_3 := dk_seg dksX6_findWalks_2 23 rfl rfl
theorem dksX6_findWalks_4 : cX6_findWalks.data.toList.drop 93 = dktX6_findWalks_4 := dk_seg dksX6_findWalks_3 24 rfl rfl
theorem dksX6_findWalks_5 : cX6_findWalks.data.toList.drop 117 = dktX6_findWalks_5 := dk_seg dksX6_findWalks_4 24 rfl rfl
theorem dksX6_findWalks_6 : cX6_findWalks.data.toList.drop 140 = dktX6_findWalks_6 := dk_seg dksX6_findWalks_5 23 rfl rfl
theorem dksX6_findWalks_7 : cX6_findWalks.data.toList.drop 163 = dktX6_findWalks_7 := dk_seg dksX6_findWalks_6 23 rfl rfl
theorem dX6_findWalks_0 : decode cX6_findWalks 0 = .ok (.aload_n 0, 1) := dk_42 (dk_at dksX6_findWalks_0 0 rfl rfl)
theorem dX6_findWalks_1 : decode cX6_findWalks 1 = .ok (.getfield 28, 3) := dk_180 0 28 (dk_at dksX6_findWalks_0 1 rfl rfl)
theorem dX6_findWalks_4 : decode cX6_findWalks 4 = .ok (.iload_n 1, 1) := dk_27 (dk_at dksX6_findWalks_0 4 rfl rfl)
theorem dX6_findWalks_5 : decode cX6_findWalks 5 = .ok (.iaload, 1) := dk_46 (dk_at dksX6_findWalks_0 5 rfl rfl)
theorem dX6_findWalks_6 : decode cX6_findWalks 6 = .ok (.iconst 1, 1) := dk_4 (dk_at dksX6_findWalks_0 6 rfl rfl)
theorem dX6_findWalks_7 : decode cX6_findWalks 7 = .ok (.isub, 1) := dk_100 (dk_at dksX6_findWalks_0 7 rfl rfl)
theorem dX6_findWalks_8 : decode cX6_findWalks 8 = .ok (.istore_n 2, 1) := dk_61 (dk_at dksX6_findWalks_0 8 rfl rfl)
theorem dX6_findWalks_9 : decode cX6_findWalks 9 = .ok (.iload_n 2, 1) := dk_28 (dk_at dksX6_findWalks_0 9 rfl rfl)
theorem dX6_findWalks_10 : decode cX6_findWalks 10 = .ok (.ifCond .lt 165, 3) := dk_155 0 165 (dk_at dksX6_findWalks_0 10 rfl rfl)
theorem dX6_findWalks_13 : decode cX6_findWalks 13 = .ok (.iconst 0, 1) := dk_3 (dk_at dksX6_findWalks_0 13 rfl rfl)
theorem dX6_findWalks_14 : decode cX6_findWalks 14 = .ok (.istore_n 3, 1) := dk_62 (dk_at dksX6_findWalks_0 14 rfl rfl)
theorem dX6_findWalks_15 : decode cX6_findWalks 15 = .ok (.iload_n 3, 1) := dk_29 (dk_at dksX6_findWalks_0 15 rfl rfl)
theorem dX6_findWalks_16 : decode cX6_findWalks 16 = .ok (.bipush 25, 2) := dk_16 25 (dk_at dksX6_findWalks_0 16 rfl rfl)
theorem dX6_findWalks_18 : decode cX6_findWalks 18 = .ok (.if_icmp .ge 125, 3) := dk_162 0 125 (dk_at dksX6_findWalks_0 18 rfl rfl)
theorem dX6_findWalks_21 : decode cX6_findWalks 21 = .ok (.iload_n 2, 1) := dk_28 (dk_at dksX6_findWalks_0 21 rfl rfl)
theorem dX6_findWalks_22 : decode cX6_findWalks 22 = .ok (.aload_n 0, 1) := dk_42 (dk_at dksX6_findWalks_0 22 rfl rfl)
theorem dX6_findWalks_23 : decode cX6_findWalks 23 = .ok (.getfield 28, 3) := dk_180 0 28 (dk_at dksX6_findWalks_1 0 rfl rfl)
theorem dX6_findWalks_26 : decode cX6_findWalks 26 = .ok (.iload_n 1, 1) := dk_27 (dk_at dksX6_findWalks_1 3 rfl rfl)
theorem dX6_findWalks_27 : decode cX6_findWalks 27 = .ok (.iaload, 1) := dk_46 (dk_at dksX6_findWalks_1 4 rfl rfl)
theorem dX6_findWalks_28 : decode cX6_findWalks 28 = .ok (.iconst 1, 1) := dk_4 (dk_at dksX6_findWalks_1 5 rfl rfl)
theorem dX6_findWalks_29 : decode cX6_findWalks 29 = .ok (.isub, 1) := dk_100 (dk_at dksX6_findWalks_1 6 rfl rfl)
theorem dX6_findWalks_30 : decode cX6_findWalks 30 = .ok (.if_icmp .ne 7, 3) := dk_160 0 7 (dk_at dksX6_findWalks_1 7 rfl rfl)
theorem dX6_findWalks_33 : decode cX6_findWalks 33 = .ok (.iconst 1, 1) := dk_4 (dk_at dksX6_findWalks_1 10 rfl rfl)
theorem dX6_findWalks_34 : decode cX6_findWalks 34 = .ok (.goto 4, 3) := dk_167 0 4 (dk_at dksX6_findWalks_1 11 rfl rfl)
theorem dX6_findWalks_37 : decode cX6_findWalks 37 = .ok (.iconst 0, 1) := dk_3 (dk_at dksX6_findWalks_1 14 rfl rfl)
theorem dX6_findWalks_38 : decode cX6_findWalks 38 = .ok (.istore 4, 2) := dk_54 4 (dk_at dksX6_findWalks_1 15 rfl rfl)
theorem dX6_findWalks_40 : decode cX6_findWalks 40 = .ok (.iconst 0, 1) := dk_3 (dk_at dksX6_findWalks_1 17 rfl rfl)
theorem dX6_findWalks_41 : decode cX6_findWalks 41 = .ok (.istore 5, 2) := dk_54 5 (dk_at dksX6_findWalks_1 18 rfl rfl)
theorem dX6_findWalks_43 : decode cX6_findWalks 43 = .ok (.iload 5, 2) := dk_21 5 (dk_at dksX6_findWalks_1 20 rfl rfl)
theorem dX6_findWalks_45 : decode cX6_findWalks 45 = .ok (.iconst 5, 1) := dk_8 (dk_at dksX6_findWalks_1 22 rfl rfl)
theorem dX6_findWalks_46 : decode cX6_findWalks 46 = .ok (.if_icmp .ge 50, 3) := dk_162 0 50 (dk_at dksX6_findWalks_2 0 rfl rfl)
theorem dX6_findWalks_49 : decode cX6_findWalks 49 = .ok (.iload_n 2, 1) := dk_28 (dk_at dksX6_findWalks_2 3 rfl rfl)
theorem dX6_findWalks_50 : decode cX6_findWalks 50 = .ok (.aload_n 0, 1) := dk_42 (dk_at dksX6_findWalks_2 4 rfl rfl)
theorem dX6_findWalks_51 : decode cX6_findWalks 51 = .ok (.getfield 28, 3) := dk_180 0 28 (dk_at dksX6_findWalks_2 5 rfl rfl)
theorem dX6_findWalks_54 : decode cX6_findWalks 54 = .ok (.iload_n 1, 1) := dk_27 (dk_at dksX6_findWalks_2 8 rfl rfl)
theorem dX6_findWalks_55 : decode cX6_findWalks 55 = .ok (.iaload, 1) := dk_46 (dk_at dksX6_findWalks_2 9 rfl rfl)
theorem dX6_findWalks_56 : decode cX6_findWalks 56 = .ok (.iconst 1, 1) := dk_4 (dk_at dksX6_findWalks_2 10 rfl rfl)
theorem dX6_findWalks_57 : decode cX6_findWalks 57 = .ok (.isub, 1) := dk_100 (dk_at dksX6_findWalks_2 11 rfl rfl)
theorem dX6_findWalks_58 : decode cX6_findWalks 58 = .ok (.if_icmp .ge 38, 3) := dk_162 0 38 (dk_at dksX6_findWalks_2 12 rfl rfl)
theorem dX6_findWalks_61 : decode cX6_findWalks 61 = .ok (.iload_n 3, 1) := dk_29 (dk_at dksX6_findWalks_2 15 rfl rfl)
theorem dX6_findWalks_62 : decode cX6_findWalks 62 = .ok (.iload 5, 2) := dk_21 5 (dk_at dksX6_findWalks_2 16 rfl rfl)
theorem dX6_findWalks_64 : decode cX6_findWalks 64 = .ok (.invokestatic 90, 3) := dk_184 0 90 (dk_at dksX6_findWalks_2 18 rfl rfl)
theorem dX6_findWalks_67 : decode cX6_findWalks 67 = .ok (.istore 6, 2) := dk_54 6 (dk_at dksX6_findWalks_2 21 rfl rfl)
theorem dX6_findWalks_69 : decode cX6_findWalks 69 = .ok (.iload 4, 2) := dk_21 4 (dk_at dksX6_findWalks_3 0 rfl rfl)
theorem dX6_findWalks_71 : decode cX6_findWalks 71 = .ok (.iload 6, 2) := dk_21 6 (dk_at dksX6_findWalks_3 2 rfl rfl)
theorem dX6_findWalks_73 : decode cX6_findWalks 73 = .ok (.ifCond .ge 7, 3) := dk_156 0 7 (dk_at dksX6_findWalks_3 4 rfl rfl)
theorem dX6_findWalks_76 : decode cX6_findWalks 76 = .ok (.iconst 0, 1) := dk_3 (dk_at dksX6_findWalks_3 7 rfl rfl)
theorem dX6_findWalks_77 : decode cX6_findWalks 77 = .ok (.goto 10, 3) := dk_167 0 10 (dk_at dksX6_findWalks_3 8 rfl rfl)
theorem dX6_findWalks_80 : decode cX6_findWalks 80 = .ok (.aload_n 0, 1) := dk_42 (dk_at dksX6_findWalks_3 11 rfl rfl)
theorem dX6_findWalks_81 : decode cX6_findWalks 81 = .ok (.getfield 37, 3) := dk_180 0 37 (dk_at dksX6_findWalks_3 12 rfl rfl)
theorem dX6_findWalks_84 : decode cX6_findWalks 84 = .ok (.iload 6, 2) := dk_21 6 (dk_at dksX6_findWalks_3 15 rfl rfl)
theorem dX6_findWalks_86 : decode cX6_findWalks 86 = .ok (.iaload, 1) := dk_46 (dk_at dksX6_findWalks_3 17 rfl rfl)
theorem dX6_findWalks_87 : decode cX6_findWalks 87 = .ok (.iadd, 1) := dk_96 (dk_at dksX6_findWalks_3 18 rfl rfl)
theorem dX6_findWalks_88 : decode cX6_findWalks 88 = .ok (.istore 4, 2) := dk_54 4 (dk_at dksX6_findWalks_3 19 rfl rfl)
theorem dX6_findWalks_90 : decode cX6_findWalks 90 = .ok (.iinc 5 1, 3) := dk_132 5 1 (dk_at dksX6_findWalks_3 21 rfl rfl)
theorem dX6_findWalks_93 : decode cX6_findWalks 93 = .ok (.goto (-50), 3) := dk_167 255 206 (dk_at dksX6_findWalks_4 0 rfl rfl)
theorem dX6_findWalks_96 : decode cX6_findWalks 96 = .ok (.aload_n 0, 1) := dk_42 (dk_at dksX6_findWalks_4 3 rfl rfl)
theorem dX6_findWalks_97 : decode cX6_findWalks 97 = .ok (.getfield 40, 3) := dk_180 0 40 (dk_at dksX6_findWalks_4 4 rfl rfl)
theorem dX6_findWalks_100 : decode cX6_findWalks 100 = .ok (.iload_n 3, 1) := dk_29 (dk_at dksX6_findWalks_4 7 rfl rfl)
theorem dX6_findWalks_101 : decode cX6_findWalks 101 = .ok (.aload_n 0, 1) := dk_42 (dk_at dksX6_findWalks_4 8 rfl rfl)
theorem dX6_findWalks_102 : decode cX6_findWalks 102 = .ok (.getfield 7, 3) := dk_180 0 7 (dk_at dksX6_findWalks_4 9 rfl rfl)
theorem dX6_findWalks_105 : decode cX6_findWalks 105 = .ok (.bipush 8, 2) := dk_16 8 (dk_at dksX6_findWalks_4 12 rfl rfl)
theorem dX6_findWalks_107 : decode cX6_findWalks 107 = .ok (.iload_n 3, 1) := dk_29 (dk_at dksX6_findWalks_4 14 rfl rfl)
theorem dX6_findWalks_108 : decode cX6_findWalks 108 = .ok (.iadd, 1) := dk_96 (dk_at dksX6_findWalks_4 15 rfl rfl)
theorem dX6_findWalks_109 : decode cX6_findWalks 109 = .ok (.iaload, 1) := dk_46 (dk_at dksX6_findWalks_4 16 rfl rfl)
theorem dX6_findWalks_110 : decode cX6_findWalks 110 = .ok (.aload_n 0, 1) := dk_42 (dk_at dksX6_findWalks_4 17 rfl rfl)
theorem dX6_findWalks_111 : decode cX6_findWalks 111 = .ok (.getfield 31, 3) := dk_180 0 31 (dk_at dksX6_findWalks_4 18 rfl rfl)
theorem dX6_findWalks_114 : decode cX6_findWalks 114 = .ok (.bipush 40, 2) := dk_16 40 (dk_at dksX6_findWalks_4 21 rfl rfl)
theorem dX6_findWalks_116 : decode cX6_findWalks 116 = .ok (.iload_n 1, 1) := dk_27 (dk_at dksX6_findWalks_4 23 rfl rfl)
theorem dX6_findWalks_117 : decode cX6_findWalks 117 = .ok (.imul, 1) := dk_104 (dk_at dksX6_findWalks_5 0 rfl rfl)
theorem dX6_findWalks_118 : decode cX6_findWalks 118 = .ok (.iload_n 2, 1) := dk_28 (dk_at dksX6_findWalks_5 1 rfl rfl)
theorem dX6_findWalks_119 : decode cX6_findWalks 119 = .ok (.iadd, 1) := dk_96 (dk_at dksX6_findWalks_5 2 rfl rfl)
theorem dX6_findWalks_120 : decode cX6_findWalks 120 = .ok (.iaload, 1) := dk_46 (dk_at dksX6_findWalks_5 3 rfl rfl)
theorem dX6_findWalks_121 : decode cX6_findWalks 121 = .ok (.if_icmp .ne 14, 3) := dk_160 0 14 (dk_at dksX6_findWalks_5 4 rfl rfl)
theorem dX6_findWalks_124 : decode cX6_findWalks 124 = .ok (.iload 4, 2) := dk_21 4 (dk_at dksX6_findWalks_5 7 rfl rfl)
theorem dX6_findWalks_126 : decode cX6_findWalks 126 = .ok (.iconst 0, 1) := dk_3 (dk_at dksX6_findWalks_5 9 rfl rfl)
theorem dX6_findWalks_127 : decode cX6_findWalks 127 = .ok (.ldc 216, 2) := dk_18 216 (dk_at dksX6_findWalks_5 10 rfl rfl)
theorem dX6_findWalks_129 : decode cX6_findWalks 129 = .ok (.invokestatic 170, 3) := dk_184 0 170 (dk_at dksX6_findWalks_5 12 rfl rfl)
theorem dX6_findWalks_132 : decode cX6_findWalks 132 = .ok (.goto 4, 3) := dk_167 0 4 (dk_at dksX6_findWalks_5 15 rfl rfl)
theorem dX6_findWalks_135 : decode cX6_findWalks 135 = .ok (.iconst 0, 1) := dk_3 (dk_at dksX6_findWalks_5 18 rfl rfl)
theorem dX6_findWalks_136 : decode cX6_findWalks 136 = .ok (.iastore, 1) := dk_79 (dk_at dksX6_findWalks_5 19 rfl rfl)
theorem dX6_findWalks_137 : decode cX6_findWalks 137 = .ok (.iinc 3 1, 3) := dk_132 3 1 (dk_at dksX6_findWalks_5 20 rfl rfl)
theorem dX6_findWalks_140 : decode cX6_findWalks 140 = .ok (.goto (-125), 3) := dk_167 255 131 (dk_at dksX6_findWalks_6 0 rfl rfl)
theorem dX6_findWalks_143 : decode cX6_findWalks 143 = .ok (.iconst 0, 1) := dk_3 (dk_at dksX6_findWalks_6 3 rfl rfl)
theorem dX6_findWalks_144 : decode cX6_findWalks 144 = .ok (.istore_n 3, 1) := dk_62 (dk_at dksX6_findWalks_6 4 rfl rfl)
theorem dX6_findWalks_145 : decode cX6_findWalks 145 = .ok (.iload_n 3, 1) := dk_29 (dk_at dksX6_findWalks_6 5 rfl rfl)
theorem dX6_findWalks_146 : decode cX6_findWalks 146 = .ok (.bipush 25, 2) := dk_16 25 (dk_at dksX6_findWalks_6 6 rfl rfl)
theorem dX6_findWalks_148 : decode cX6_findWalks 148 = .ok (.if_icmp .ge 21, 3) := dk_162 0 21 (dk_at dksX6_findWalks_6 8 rfl rfl)
theorem dX6_findWalks_151 : decode cX6_findWalks 151 = .ok (.aload_n 0, 1) := dk_42 (dk_at dksX6_findWalks_6 11 rfl rfl)
theorem dX6_findWalks_152 : decode cX6_findWalks 152 = .ok (.getfield 37, 3) := dk_180 0 37 (dk_at dksX6_findWalks_6 12 rfl rfl)
theorem dX6_findWalks_155 : decode cX6_findWalks 155 = .ok (.iload_n 3, 1) := dk_29 (dk_at dksX6_findWalks_6 15 rfl rfl)
theorem dX6_findWalks_156 : decode cX6_findWalks 156 = .ok (.aload_n 0, 1) := dk_42 (dk_at dksX6_findWalks_6 16 rfl rfl)
theorem dX6_findWalks_157 : decode cX6_findWalks 157 = .ok (.getfield 40, 3) := dk_180 0 40 (dk_at dksX6_findWalks_6 17 rfl rfl)
theorem dX6_findWalks_160 : decode cX6_findWalks 160 = .ok (.iload_n 3, 1) := dk_29 (dk_at dksX6_findWalks_6 20 rfl rfl)
theorem dX6_findWalks_161 : decode cX6_findWalks 161 = .ok (.iaload, 1) := dk_46 (dk_at dksX6_findWalks_6 21 rfl rfl)
theorem dX6_findWalks_162 : decode cX6_findWalks 162 = .ok (.iastore, 1) := dk_79 (dk_at dksX6_findWalks_6 22 rfl rfl)
theorem dX6_findWalks_163 : decode cX6_findWalks 163 = .ok (.iinc 3 1, 3) := dk_132 3 1 (dk_at dksX6_findWalks_7 0 rfl rfl)
theorem dX6_findWalks_166 : decode cX6_findWalks 166 = .ok (.goto (-21), 3) := dk_167 255 235 (dk_at dksX6_findWalks_7 3 rfl rfl)
theorem dX6_findWalks_169 : decode cX6_findWalks 169 = .ok (.iinc 2 (-1), 3) := dk_132 2 255 (dk_at dksX6_findWalks_7 6 rfl rfl)
theorem dX6_findWalks_172 : decode cX6_findWalks 172 = .ok (.goto (-163), 3) := dk_167 255 93 (dk_at dksX6_findWalks_7 9 rfl rfl)
theorem dX6_findWalks_175 : decode cX6_findWalks 175 = .ok (.return_, 1) := dk_177 (dk_at dksX6_findWalks_7 12 rfl rfl)
abbrev cX6_well : ByteArray := prog_30_method_66_code
def yX6_well : MethodName := ⟨RX6, "well", "(I)I"⟩
def dkwX6_well_5 : List UInt8 := [28, 172]
abbrev dktX6_well_5 : List UInt8 := dkwX6_well_5 ++ []
def dkwX6_well_4 : List UInt8 := [167, 255, 196, 28, 21, 4, 153, 0, 9, 4, 29, 120, 167, 0, 4, 3, 128, 61, 132, 3, 1, 167, 255, 163]
abbrev dktX6_well_4 : List UInt8 := dkwX6_well_4 ++ dktX6_well_5
def dkwX6_well_3 : List UInt8 := [126, 4, 160, 0, 7, 4, 167, 0, 4, 3, 160, 0, 7, 4, 167, 0, 4, 3, 54, 4, 132, 5, 1]
abbrev dktX6_well_3 : List UInt8 := dkwX6_well_3 ++ dktX6_well_4
def dkwX6_well_2 : List UInt8 := [153, 0, 41, 42, 21, 5, 29, 3, 182, 0, 82, 155, 0, 7, 4, 167, 0, 4, 3, 27, 21, 5, 122, 4]
abbrev dktX6_well_2 : List UInt8 := dkwX6_well_2 ++ dktX6_well_3
def dkwX6_well_1 : List UInt8 := [162, 0, 93, 4, 54, 4, 3, 54, 5, 21, 5, 42, 180, 0, 7, 6, 46, 162, 0, 55, 21, 4]
abbrev dktX6_well_1 : List UInt8 := dkwX6_well_1 ++ dktX6_well_2
def dkwX6_well_0 : List UInt8 := [42, 27, 182, 0, 203, 154, 0, 10, 42, 18, 61, 182, 0, 62, 172, 3, 61, 3, 62, 29, 16, 25]
abbrev dktX6_well_0 : List UInt8 := dkwX6_well_0 ++ dktX6_well_1
theorem dksX6_well_0 : cX6_well.data.toList.drop 0 = dktX6_well_0 := by decide +kernel
theorem dksX6_well_1 : cX6_well.data.toList.drop 22 = dktX6_well_1 := dk_seg dksX6_well_0 22 rfl rfl
theorem dksX6_well_2 : cX6_well.data.toList.drop 44 = dktX6_well_2 := dk_seg dksX6_well_1 22 rfl rfl
theorem dksX6_well_3 : cX6_well.data.toList.drop 68 = dktX6_well_3 := dk_seg dksX6_well_2 24 rfl rfl
theorem dksX6_well_4 : cX6_well.data.toList.drop 91 = dktX6_well_4 := dk_seg dksX6_well_3 23 rfl rfl
theorem dksX6_well_5 : cX6_well.data.toList.drop 115 = dktX6_well_5 := dk_seg dksX6_well_4 24 rfl rfl
theorem dX6_well_0 : decode cX6_well 0 = .ok (.aload_n 0, 1) := dk_42 (dk_at dksX6_well_0 0 rfl rfl)
theorem dX6_well_1 : decode cX6_well 1 = .ok (.iload_n 1, 1) := dk_27 (dk_at dksX6_well_0 1 rfl rfl)
theorem dX6_well_2 : decode cX6_well 2 = .ok (.invokevirtual 203, 3) := dk_182 0 203 (dk_at dksX6_well_0 2 rfl rfl)
theorem dX6_well_5 : decode cX6_well 5 = .ok (.ifCond .ne 10, 3) := dk_154 0 10 (dk_at dksX6_well_0 5 rfl rfl)
theorem dX6_well_8 : decode cX6_well 8 = .ok (.aload_n 0, 1) := dk_42 (dk_at dksX6_well_0 8 rfl rfl)
theorem dX6_well_9 : decode cX6_well 9 = .ok (.ldc 61, 2) := dk_18 61 (dk_at dksX6_well_0 9 rfl rfl)
theorem dX6_well_11 : decode cX6_well 11 = .ok (.invokevirtual 62, 3) := dk_182 0 62 (dk_at dksX6_well_0 11 rfl rfl)
theorem dX6_well_14 : decode cX6_well 14 = .ok (.ireturn, 1) := dk_172 (dk_at dksX6_well_0 14 rfl rfl)
theorem dX6_well_15 : decode cX6_well 15 = .ok (.iconst 0, 1) := dk_3 (dk_at dksX6_well_0 15 rfl rfl)
theorem dX6_well_16 : decode cX6_well 16 = .ok (.istore_n 2, 1) := dk_61 (dk_at dksX6_well_0 16 rfl rfl)
theorem dX6_well_17 : decode cX6_well 17 = .ok (.iconst 0, 1) := dk_3 (dk_at dksX6_well_0 17 rfl rfl)
theorem dX6_well_18 : decode cX6_well 18 = .ok (.istore_n 3, 1) := dk_62 (dk_at dksX6_well_0 18 rfl rfl)
theorem dX6_well_19 : decode cX6_well 19 = .ok (.iload_n 3, 1) := dk_29 (dk_at dksX6_well_0 19 rfl rfl)
theorem dX6_well_20 : decode cX6_well 20 = .ok (.bipush 25, 2) := dk_16 25 (dk_at dksX6_well_0 20 rfl rfl)
theorem dX6_well_22 : decode cX6_well 22 = .ok (.if_icmp .ge 93, 3) := dk_162 0 93 (dk_at dksX6_well_1 0 rfl rfl)
theorem dX6_well_25 : decode cX6_well 25 = .ok (.iconst 1, 1) := dk_4 (dk_at dksX6_well_1 3 rfl rfl)
theorem dX6_well_26 : decode cX6_well 26 = .ok (.istore 4, 2) := dk_54 4 (dk_at dksX6_well_1 4 rfl rfl)
theorem dX6_well_28 : decode cX6_well 28 = .ok (.iconst 0, 1) := dk_3 (dk_at dksX6_well_1 6 rfl rfl)
theorem dX6_well_29 : decode cX6_well 29 = .ok (.istore 5, 2) := dk_54 5 (dk_at dksX6_well_1 7 rfl rfl)
theorem dX6_well_31 : decode cX6_well 31 = .ok (.iload 5, 2) := dk_21 5 (dk_at dksX6_well_1 9 rfl rfl)
theorem dX6_well_33 : decode cX6_well 33 = .ok (.aload_n 0, 1) := dk_42 (dk_at dksX6_well_1 11 rfl rfl)
theorem dX6_well_34 : decode cX6_well 34 = .ok (.getfield 7, 3) := dk_180 0 7 (dk_at dksX6_well_1 12 rfl rfl)
theorem dX6_well_37 : decode cX6_well 37 = .ok (.iconst 3, 1) := dk_6 (dk_at dksX6_well_1 15 rfl rfl)
theorem dX6_well_38 : decode cX6_well 38 = .ok (.iaload, 1) := dk_46 (dk_at dksX6_well_1 16 rfl rfl)
theorem dX6_well_39 : decode cX6_well 39 = .ok (.if_icmp .ge 55, 3) := dk_162 0 55 (dk_at dksX6_well_1 17 rfl rfl)
theorem dX6_well_42 : decode cX6_well 42 = .ok (.iload 4, 2) := dk_21 4 (dk_at dksX6_well_1 20 rfl rfl)
theorem dX6_well_44 : decode cX6_well 44 = .ok (.ifCond .eq 41, 3) := dk_153 0 41 (dk_at dksX6_well_2 0 rfl rfl)
theorem dX6_well_47 : decode cX6_well 47 = .ok (.aload_n 0, 1) := dk_42 (dk_at dksX6_well_2 3 rfl rfl)
theorem dX6_well_48 : decode cX6_well 48 = .ok (.iload 5, 2) := dk_21 5 (dk_at dksX6_well_2 4 rfl rfl)
theorem dX6_well_50 : decode cX6_well 50 = .ok (.iload_n 3, 1) := dk_29 (dk_at dksX6_well_2 6 rfl rfl)
theorem dX6_well_51 : decode cX6_well 51 = .ok (.iconst 0, 1) := dk_3 (dk_at dksX6_well_2 7 rfl rfl)
theorem dX6_well_52 : decode cX6_well 52 = .ok (.invokevirtual 82, 3) := dk_182 0 82 (dk_at dksX6_well_2 8 rfl rfl)
theorem dX6_well_55 : decode cX6_well 55 = .ok (.ifCond .lt 7, 3) := dk_155 0 7 (dk_at dksX6_well_2 11 rfl rfl)
theorem dX6_well_58 : decode cX6_well 58 = .ok (.iconst 1, 1) := dk_4 (dk_at dksX6_well_2 14 rfl rfl)
theorem dX6_well_59 : decode cX6_well 59 = .ok (.goto 4, 3) := dk_167 0 4 (dk_at dksX6_well_2 15 rfl rfl)
theorem dX6_well_62 : decode cX6_well 62 = .ok (.iconst 0, 1) := dk_3 (dk_at dksX6_well_2 18 rfl rfl)
theorem dX6_well_63 : decode cX6_well 63 = .ok (.iload_n 1, 1) := dk_27 (dk_at dksX6_well_2 19 rfl rfl)
theorem dX6_well_64 : decode cX6_well 64 = .ok (.iload 5, 2) := dk_21 5 (dk_at dksX6_well_2 20 rfl rfl)
theorem dX6_well_66 : decode cX6_well 66 = .ok (.ishr, 1) := dk_122 (dk_at dksX6_well_2 22 rfl rfl)
theorem dX6_well_67 : decode cX6_well 67 = .ok (.iconst 1, 1) := dk_4 (dk_at dksX6_well_2 23 rfl rfl)
theorem dX6_well_68 : decode cX6_well 68 = .ok (.iand, 1) := dk_126 (dk_at dksX6_well_3 0 rfl rfl)
theorem dX6_well_69 : decode cX6_well 69 = .ok (.iconst 1, 1) := dk_4 (dk_at dksX6_well_3 1 rfl rfl)
theorem dX6_well_70 : decode cX6_well 70 = .ok (.if_icmp .ne 7, 3) := dk_160 0 7 (dk_at dksX6_well_3 2 rfl rfl)
theorem dX6_well_73 : decode cX6_well 73 = .ok (.iconst 1, 1) := dk_4 (dk_at dksX6_well_3 5 rfl rfl)
theorem dX6_well_74 : decode cX6_well 74 = .ok (.goto 4, 3) := dk_167 0 4 (dk_at dksX6_well_3 6 rfl rfl)
theorem dX6_well_77 : decode cX6_well 77 = .ok (.iconst 0, 1) := dk_3 (dk_at dksX6_well_3 9 rfl rfl)
theorem dX6_well_78 : decode cX6_well 78 = .ok (.if_icmp .ne 7, 3) := dk_160 0 7 (dk_at dksX6_well_3 10 rfl rfl)
theorem dX6_well_81 : decode cX6_well 81 = .ok (.iconst 1, 1) := dk_4 (dk_at dksX6_well_3 13 rfl rfl)
theorem dX6_well_82 : decode cX6_well 82 = .ok (.goto 4, 3) := dk_167 0 4 (dk_at dksX6_well_3 14 rfl rfl)
theorem dX6_well_85 : decode cX6_well 85 = .ok (.iconst 0, 1) := dk_3 (dk_at dksX6_well_3 17 rfl rfl)
theorem dX6_well_86 : decode cX6_well 86 = .ok (.istore 4, 2) := dk_54 4 (dk_at dksX6_well_3 18 rfl rfl)
theorem dX6_well_88 : decode cX6_well 88 = .ok (.iinc 5 1, 3) := dk_132 5 1 (dk_at dksX6_well_3 20 rfl rfl)
theorem dX6_well_91 : decode cX6_well 91 = .ok (.goto (-60), 3) := dk_167 255 196 (dk_at dksX6_well_4 0 rfl rfl)
theorem dX6_well_94 : decode cX6_well 94 = .ok (.iload_n 2, 1) := dk_28 (dk_at dksX6_well_4 3 rfl rfl)
theorem dX6_well_95 : decode cX6_well 95 = .ok (.iload 4, 2) := dk_21 4 (dk_at dksX6_well_4 4 rfl rfl)
theorem dX6_well_97 : decode cX6_well 97 = .ok (.ifCond .eq 9, 3) := dk_153 0 9 (dk_at dksX6_well_4 6 rfl rfl)
theorem dX6_well_100 : decode cX6_well 100 = .ok (.iconst 1, 1) := dk_4 (dk_at dksX6_well_4 9 rfl rfl)
theorem dX6_well_101 : decode cX6_well 101 = .ok (.iload_n 3, 1) := dk_29 (dk_at dksX6_well_4 10 rfl rfl)
theorem dX6_well_102 : decode cX6_well 102 = .ok (.ishl, 1) := dk_120 (dk_at dksX6_well_4 11 rfl rfl)
theorem dX6_well_103 : decode cX6_well 103 = .ok (.goto 4, 3) := dk_167 0 4 (dk_at dksX6_well_4 12 rfl rfl)
theorem dX6_well_106 : decode cX6_well 106 = .ok (.iconst 0, 1) := dk_3 (dk_at dksX6_well_4 15 rfl rfl)
theorem dX6_well_107 : decode cX6_well 107 = .ok (.ior, 1) := dk_128 (dk_at dksX6_well_4 16 rfl rfl)
theorem dX6_well_108 : decode cX6_well 108 = .ok (.istore_n 2, 1) := dk_61 (dk_at dksX6_well_4 17 rfl rfl)
theorem dX6_well_109 : decode cX6_well 109 = .ok (.iinc 3 1, 3) := dk_132 3 1 (dk_at dksX6_well_4 18 rfl rfl)
theorem dX6_well_112 : decode cX6_well 112 = .ok (.goto (-93), 3) := dk_167 255 163 (dk_at dksX6_well_4 21 rfl rfl)
theorem dX6_well_115 : decode cX6_well 115 = .ok (.iload_n 2, 1) := dk_28 (dk_at dksX6_well_5 0 rfl rfl)
theorem dX6_well_116 : decode cX6_well 116 = .ok (.ireturn, 1) := dk_172 (dk_at dksX6_well_5 1 rfl rfl)
abbrev cX6_hays : ByteArray := prog_30_method_67_code
def yX6_hays : MethodName := ⟨RX6, "hays", "(III)I"⟩
def dkwX6_hays_11 : List UInt8 := [167, 0, 9, 42, 180, 0, 43, 28, 46, 172]
abbrev dktX6_hays_11 : List UInt8 := dkwX6_hays_11 ++ []
def dkwX6_hays_10 : List UInt8 := [132, 4, 1, 167, 255, 95, 42, 180, 0, 43, 28, 46, 16, 100, 161, 0, 12, 42, 18, 105, 182, 0, 62]
abbrev dktX6_hays_10 : List UInt8 := dkwX6_hays_10 ++ dktX6_hays_11
def dkwX6_hays_9 : List UInt8 := [162, 0, 23, 42, 180, 0, 43, 21, 5, 42, 180, 0, 46, 21, 5, 46, 79, 132, 5, 1, 167, 255, 232]
abbrev dktX6_hays_9 : List UInt8 := dkwX6_hays_9 ++ dktX6_hays_10
def dkwX6_hays_8 : List UInt8 := [21, 8, 21, 9, 79, 132, 7, 1, 167, 255, 190, 132, 5, 1, 167, 255, 165, 3, 54, 5, 21, 5, 16, 25]
abbrev dktX6_hays_8 : List UInt8 := dkwX6_hays_8 ++ dktX6_hays_9
def dkwX6_hays_7 : List UInt8 := [96, 54, 9, 21, 8, 155, 0, 24, 21, 9, 42, 180, 0, 46, 21, 8, 46, 162, 0, 12, 42, 180, 0, 46]
abbrev dktX6_hays_7 : List UInt8 := dkwX6_hays_7 ++ dktX6_hays_8
def dkwX6_hays_6 : List UInt8 := [184, 0, 90, 54, 8, 42, 180, 0, 43, 21, 5, 46, 21, 7, 21, 6, 160, 0, 7, 3, 167, 0, 4, 4]
abbrev dktX6_hays_6 : List UInt8 := dkwX6_hays_6 ++ dktX6_hays_7
def dkwX6_hays_5 : List UInt8 := [42, 27, 21, 5, 182, 0, 102, 54, 6, 3, 54, 7, 21, 7, 8, 162, 0, 66, 21, 5, 21, 7]
abbrev dktX6_hays_5 : List UInt8 := dkwX6_hays_5 ++ dktX6_hays_6
def dkwX6_hays_4 : List UInt8 := [180, 0, 46, 21, 5, 16, 100, 79, 132, 5, 1, 167, 255, 237, 3, 54, 5, 21, 5, 16, 25, 162, 0, 90]
abbrev dktX6_hays_4 : List UInt8 := dkwX6_hays_4 ++ dktX6_hays_5
def dkwX6_hays_3 : List UInt8 := [167, 255, 222, 3, 54, 4, 21, 4, 29, 162, 0, 161, 3, 54, 5, 21, 5, 16, 25, 162, 0, 18, 42]
abbrev dktX6_hays_3 : List UInt8 := dkwX6_hays_3 ++ dktX6_hays_4
def dkwX6_hays_2 : List UInt8 := [21, 4, 21, 4, 42, 27, 5, 182, 0, 69, 160, 0, 7, 3, 167, 0, 5, 16, 100, 79, 132, 4, 1]
abbrev dktX6_hays_2 : List UInt8 := dkwX6_hays_2 ++ dktX6_hays_3
def dkwX6_hays_1 : List UInt8 := [154, 0, 10, 42, 18, 61, 182, 0, 62, 172, 3, 54, 4, 21, 4, 16, 25, 162, 0, 33, 42, 180, 0, 43]
abbrev dktX6_hays_1 : List UInt8 := dkwX6_hays_1 ++ dktX6_hays_2
def dkwX6_hays_0 : List UInt8 := [42, 27, 182, 0, 93, 153, 0, 20, 28, 184, 0, 57, 153, 0, 13, 29, 4, 16, 30, 184, 0, 53]
abbrev dktX6_hays_0 : List UInt8 := dkwX6_hays_0 ++ dktX6_hays_1
theorem dksX6_hays_0 : cX6_hays.data.toList.drop 0 = dktX6_hays_0 := by decide +kernel
theorem dksX6_hays_1 : cX6_hays.data.toList.drop 22 = dktX6_hays_1 := dk_seg dksX6_hays_0 22 rfl rfl
theorem dksX6_hays_2 : cX6_hays.data.toList.drop 46 = dktX6_hays_2 := dk_seg dksX6_hays_1 24 rfl rfl
theorem dksX6_hays_3 : cX6_hays.data.toList.drop 69 = dktX6_hays_3 := dk_seg dksX6_hays_2 23 rfl rfl
theorem dksX6_hays_4 : cX6_hays.data.toList.drop 92 = dktX6_hays_4 := dk_seg dksX6_hays_3 23 rfl rfl
theorem dksX6_hays_5 : cX6_hays.data.toList.drop 116 = dktX6_hays_5 := dk_seg dksX6_hays_4 24 rfl rfl
theorem dksX6_hays_6 : cX6_hays.data.toList.drop 138 = dktX6_hays_6 := dk_seg dksX6_hays_5 22 rfl rfl
theorem dksX6_hays_7 : cX6_hays.data.toList.drop 162 = dktX6_hays_7 := dk_seg dksX6_hays_6 24 rfl rfl
theorem dksX6_hays_8 : cX6_hays.data.toList.drop 186 = dktX6_hays_8 := dk_seg dksX6_hays_7 24 rfl rfl
theorem dksX6_hays_9 : cX6_hays.data.toList.drop 210 = dktX6_hays_9 := dk_seg dksX6_hays_8 24 rfl rfl
theorem dksX6_hays_10 : cX6_hays.data.toList.drop 233 = dktX6_hays_10 := dk_seg dksX6_hays_9 23 rfl rfl
theorem dksX6_hays_11 : cX6_hays.data.toList.drop 256 = dktX6_hays_11 := dk_seg dksX6_hays_10 23 rfl rfl
theorem dX6_hays_0 : decode cX6_hays 0 = .ok (.aload_n 0, 1) := dk_42 (dk_at dksX6_hays_0 0 rfl rfl)
theorem dX6_hays_1 : decode cX6_hays 1 = .ok (.iload_n 1, 1) := dk_27 (dk_at dksX6_hays_0 1 rfl rfl)
theorem dX6_hays_2 : decode cX6_hays 2 = .ok (.invokevirtual 93, 3) := dk_182 0 93 (dk_at dksX6_hays_0 2 rfl rfl)
theorem dX6_hays_5 : decode cX6_hays 5 = .ok (.ifCond .eq 20, 3) := dk_153 0 20 (dk_at dksX6_hays_0 5 rfl rfl)
theorem dX6_hays_8 : decode cX6_hays 8 = .ok (.iload_n 2, 1) := dk_28 (dk_at dksX6_hays_0 8 rfl rfl)
theorem dX6_hays_9 : decode cX6_hays 9 = .ok (.invokestatic 57, 3) := dk_184 0 57 (dk_at dksX6_hays_0 9 rfl rfl)
theorem dX6_hays_12 : decode cX6_hays 12 = .ok (.ifCond .eq 13, 3) := dk_153 0 13 (dk_at dksX6_hays_0 12 rfl rfl)
theorem dX6_hays_15 : decode cX6_hays 15 = .ok (.iload_n 3, 1) := dk_29 (dk_at dksX6_hays_0 15 rfl rfl)
theorem dX6_hays_16 : decode cX6_hays 16 = .ok (.iconst 1, 1) := dk_4 (dk_at dksX6_hays_0 16 rfl rfl)
theorem dX6_hays_17 : decode cX6_hays 17 = .ok (.bipush 30, 2) := dk_16 30 (dk_at dksX6_hays_0 17 rfl rfl)
theorem dX6_hays_19 : decode cX6_hays 19 = .ok (.invokestatic 53, 3) := dk_184 0 53 (dk_at dksX6_hays_0 19 rfl rfl)
theorem dX6_hays_22 : decode cX6_hays 22 = .ok (.ifCond .ne 10, 3) := dk_154 0 10 (dk_at dksX6_hays_1 0 rfl rfl)
theorem dX6_hays_25 : decode cX6_hays 25 = .ok (.aload_n 0, 1) := dk_42 (dk_at dksX6_hays_1 3 rfl rfl)
theorem dX6_hays_26 : decode cX6_hays 26 = .ok (.ldc 61, 2) := dk_18 61 (dk_at dksX6_hays_1 4 rfl rfl)
theorem dX6_hays_28 : decode cX6_hays 28 = .ok (.invokevirtual 62, 3) := dk_182 0 62 (dk_at dksX6_hays_1 6 rfl rfl)
theorem dX6_hays_31 : decode cX6_hays 31 = .ok (.ireturn, 1) := dk_172 (dk_at dksX6_hays_1 9 rfl rfl)
theorem dX6_hays_32 : decode cX6_hays 32 = .ok (.iconst 0, 1) := dk_3 (dk_at dksX6_hays_1 10 rfl rfl)
theorem dX6_hays_33 : decode cX6_hays 33 = .ok (.istore 4, 2) := dk_54 4 (dk_at dksX6_hays_1 11 rfl rfl)
theorem dX6_hays_35 : decode cX6_hays 35 = .ok (.iload 4, 2) := dk_21 4 (dk_at dksX6_hays_1 13 rfl rfl)
theorem dX6_hays_37 : decode cX6_hays 37 = .ok (.bipush 25, 2) := dk_16 25 (dk_at dksX6_hays_1 15 rfl rfl)
theorem dX6_hays_39 : decode cX6_hays 39 = .ok (.if_icmp .ge 33, 3) := dk_162 0 33 (dk_at dksX6_hays_1 17 rfl rfl)
theorem dX6_hays_42 : decode cX6_hays 42 = .ok (.aload_n 0, 1) := dk_42 (dk_at dksX6_hays_1 20 rfl rfl)
theorem dX6_hays_43 : decode cX6_hays 43 = .ok (.getfield 43, 3) := dk_180 0 43 (dk_at dksX6_hays_1 21 rfl rfl)
theorem dX6_hays_46 : decode cX6_hays 46 = .ok (.iload 4, 2) := dk_21 4 (dk_at dksX6_hays_2 0 rfl rfl)
theorem dX6_hays_48 : decode cX6_hays 48 = .ok (.iload 4, 2) := dk_21 4 (dk_at dksX6_hays_2 2 rfl rfl)
theorem dX6_hays_50 : decode cX6_hays 50 = .ok (.aload_n 0, 1) := dk_42 (dk_at dksX6_hays_2 4 rfl rfl)
theorem dX6_hays_51 : decode cX6_hays 51 = .ok (.iload_n 1, 1) := dk_27 (dk_at dksX6_hays_2 5 rfl rfl)
theorem dX6_hays_52 : decode cX6_hays 52 = .ok (.iconst 2, 1) := dk_5 (dk_at dksX6_hays_2 6 rfl rfl)
theorem dX6_hays_53 : decode cX6_hays 53 = .ok (.invokevirtual 69, 3) := dk_182 0 69 (dk_at dksX6_hays_2 7 rfl rfl)
theorem dX6_hays_56 : decode cX6_hays 56 = .ok (.if_icmp .ne 7, 3) := dk_160 0 7 (dk_at dksX6_hays_2 10 rfl rfl)
theorem dX6_hays_59 : decode cX6_hays 59 = .ok (.iconst 0, 1) := dk_3 (dk_at dksX6_hays_2 13 rfl rfl)
theorem dX6_hays_60 : decode cX6_hays 60 = .ok (.goto 5, 3) := dk_167 0 5 (dk_at dksX6_hays_2 14 rfl rfl)
theorem dX6_hays_63 : decode cX6_hays 63 = .ok (.bipush 100, 2) := dk_16 100 (dk_at dksX6_hays_2 17 rfl rfl)
theorem dX6_hays_65 : decode cX6_hays 65 = .ok (.iastore, 1) := dk_79 (dk_at dksX6_hays_2 19 rfl rfl)
theorem dX6_hays_66 : decode cX6_hays 66 = .ok (.iinc 4 1, 3) := dk_132 4 1 (dk_at dksX6_hays_2 20 rfl rfl)
theorem dX6_hays_69 : decode cX6_hays 69 = .ok (.goto (-34), 3) := dk_167 255 222 (dk_at dksX6_hays_3 0 rfl rfl)
theorem dX6_hays_72 : decode cX6_hays 72 = .ok (.iconst 0, 1) := dk_3 (dk_at dksX6_hays_3 3 rfl rfl)
theorem dX6_hays_73 : decode cX6_hays 73 = .ok (.istore 4, 2) := dk_54 4 (dk_at dksX6_hays_3 4 rfl rfl)
theorem dX6_hays_75 : decode cX6_hays 75 = .ok (.iload 4, 2) := dk_21 4 (dk_at dksX6_hays_3 6 rfl rfl)
theorem dX6_hays_77 : decode cX6_hays 77 = .ok (.iload_n 3, 1) := dk_29 (dk_at dksX6_hays_3 8 rfl rfl)
theorem dX6_hays_78 : decode cX6_hays 78 = .ok (.if_icmp .ge 161, 3) := dk_162 0 161 (dk_at dksX6_hays_3 9 rfl rfl)
theorem dX6_hays_81 : decode cX6_hays 81 = .ok (.iconst 0, 1) := dk_3 (dk_at dksX6_hays_3 12 rfl rfl)
theorem dX6_hays_82 : decode cX6_hays 82 = .ok (.istore 5, 2) := dk_54 5 (dk_at dksX6_hays_3 13 rfl rfl)
theorem dX6_hays_84 : decode cX6_hays 84 = .ok (.iload 5, 2) := dk_21 5 (dk_at dksX6_hays_3 15 rfl rfl)
theorem dX6_hays_86 : decode cX6_hays 86 = .ok (.bipush 25, 2) := dk_16 25 (dk_at dksX6_hays_3 17 rfl rfl)
theorem dX6_hays_88 : decode cX6_hays 88 = .ok (.if_icmp .ge 18, 3) := dk_162 0 18 (dk_at dksX6_hays_3 19 rfl rfl)
theorem dX6_hays_91 : decode cX6_hays 91 = .ok (.aload_n 0, 1) := dk_42 (dk_at dksX6_hays_3 22 rfl rfl)
theorem dX6_hays_92 : decode cX6_hays 92 = .ok (.getfield 46, 3) := dk_180 0 46 (dk_at dksX6_hays_4 0 rfl rfl)
theorem dX6_hays_95 : decode cX6_hays 95 = .ok (.iload 5, 2) := dk_21 5 (dk_at dksX6_hays_4 3 rfl rfl)
theorem dX6_hays_97 : decode cX6_hays 97 = .ok (.bipush 100, 2) := dk_16 100 (dk_at dksX6_hays_4 5 rfl rfl)
theorem dX6_hays_99 : decode cX6_hays 99 = .ok (.iastore, 1) := dk_79 (dk_at dksX6_hays_4 7 rfl rfl)
theorem dX6_hays_100 : decode cX6_hays 100 = .ok (.iinc 5 1, 3) := dk_132 5 1 (dk_at dksX6_hays_4 8 rfl rfl)
theorem dX6_hays_103 : decode cX6_hays 103 = .ok (.goto (-19), 3) := dk_167 255 237 (dk_at dksX6_hays_4 11 rfl rfl)
theorem dX6_hays_106 : decode cX6_hays 106 = .ok (.iconst 0, 1) := dk_3 (dk_at dksX6_hays_4 14 rfl rfl)
theorem dX6_hays_107 : decode cX6_hays 107 = .ok (.istore 5, 2) := dk_54 5 (dk_at dksX6_hays_4 15 rfl rfl)
theorem dX6_hays_109 : decode cX6_hays 109 = .ok (.iload 5, 2) := dk_21 5 (dk_at dksX6_hays_4 17 rfl rfl)
theorem dX6_hays_111 : decode cX6_hays 111 = .ok (.bipush 25, 2) := dk_16 25 (dk_at dksX6_hays_4 19 rfl rfl)
theorem dX6_hays_113 : decode cX6_hays 113 = .ok (.if_icmp .ge 90, 3) := dk_162 0 90 (dk_at dksX6_hays_4 21 rfl rfl)
theorem dX6_hays_116 : decode cX6_hays 116 = .ok (.aload_n 0, 1) := dk_42 (dk_at dksX6_hays_5 0 rfl rfl)
theorem dX6_hays_117 : decode cX6_hays 117 = .ok (.iload_n 1, 1) := dk_27 (dk_at dksX6_hays_5 1 rfl rfl)
theorem dX6_hays_118 : decode cX6_hays 118 = .ok (.iload 5, 2) := dk_21 5 (dk_at dksX6_hays_5 2 rfl rfl)
theorem dX6_hays_120 : decode cX6_hays 120 = .ok (.invokevirtual 102, 3) := dk_182 0 102 (dk_at dksX6_hays_5 4 rfl rfl)
theorem dX6_hays_123 : decode cX6_hays 123 = .ok (.istore 6, 2) := dk_54 6 (dk_at dksX6_hays_5 7 rfl rfl)
theorem dX6_hays_125 : decode cX6_hays 125 = .ok (.iconst 0, 1) := dk_3 (dk_at dksX6_hays_5 9 rfl rfl)
theorem dX6_hays_126 : decode cX6_hays 126 = .ok (.istore 7, 2) := dk_54 7 (dk_at dksX6_hays_5 10 rfl rfl)
theorem dX6_hays_128 : decode cX6_hays 128 = .ok (.iload 7, 2) := dk_21 7 (dk_at dksX6_hays_5 12 rfl rfl)
theorem dX6_hays_130 : decode cX6_hays 130 = .ok (.iconst 5, 1) := dk_8 (dk_at dksX6_hays_5 14 rfl rfl)
theorem dX6_hays_131 : decode cX6_hays 131 = .ok (.if_icmp .ge 66, 3) := dk_162 0 66 (dk_at dksX6_hays_5 15 rfl rfl)
theorem dX6_hays_134 : decode cX6_hays 134 = .ok (.iload 5, 2) := dk_21 5 (dk_at dksX6_hays_5 18 rfl rfl)
theorem dX6_hays_136 : decode cX6_hays 136 = .ok (.iload 7, 2) := dk_21 7 (dk_at dksX6_hays_5 20 rfl rfl)
theorem dX6_hays_138 : decode cX6_hays 138 = .ok (.invokestatic 90, 3) := dk_184 0 90 (dk_at dksX6_hays_6 0 rfl rfl)
theorem dX6_hays_141 : decode cX6_hays 141 = .ok (.istore 8, 2) := dk_54 8 (dk_at dksX6_hays_6 3 rfl rfl)
theorem dX6_hays_143 : decode cX6_hays 143 = .ok (.aload_n 0, 1) := dk_42 (dk_at dksX6_hays_6 5 rfl rfl)
theorem dX6_hays_144 : decode cX6_hays 144 = .ok (.getfield 43, 3) := dk_180 0 43 (dk_at dksX6_hays_6 6 rfl rfl)
theorem dX6_hays_147 : decode cX6_hays 147 = .ok (.iload 5, 2) := dk_21 5 (dk_at dksX6_hays_6 9 rfl rfl)
theorem dX6_hays_149 : decode cX6_hays 149 = .ok (.iaload, 1) := dk_46 (dk_at dksX6_hays_6 11 rfl rfl)
theorem dX6_hays_150 : decode cX6_hays 150 = .ok (.iload 7, 2) := dk_21 7 (dk_at dksX6_hays_6 12 rfl rfl)
theorem dX6_hays_152 : decode cX6_hays 152 = .ok (.iload 6, 2) := dk_21 6 (dk_at dksX6_hays_6 14 rfl rfl)
theorem dX6_hays_154 : decode cX6_hays 154 = .ok (.if_icmp .ne 7, 3) := dk_160 0 7 (dk_at dksX6_hays_6 16 rfl rfl)
theorem dX6_hays_157 : decode cX6_hays 157 = .ok (.iconst 0, 1) := dk_3 (dk_at dksX6_hays_6 19 rfl rfl)
theorem dX6_hays_158 : decode cX6_hays 158 = .ok (.goto 4, 3) := dk_167 0 4 (dk_at dksX6_hays_6 20 rfl rfl)
theorem dX6_hays_161 : decode cX6_hays 161 = .ok (.iconst 1, 1) := dk_4 (dk_at dksX6_hays_6 23 rfl rfl)
theorem dX6_hays_162 : decode cX6_hays 162 = .ok (.iadd, 1) := dk_96 (dk_at dksX6_hays_7 0 rfl rfl)
theorem dX6_hays_163 : decode cX6_hays 163 = .ok (.istore 9, 2) := dk_54 9 (dk_at dksX6_hays_7 1 rfl rfl)
theorem dX6_hays_165 : decode cX6_hays 165 = .ok (.iload 8, 2) := dk_21 8 (dk_at dksX6_hays_7 3 rfl rfl)
theorem dX6_hays_167 : decode cX6_hays 167 = .ok (.ifCond .lt 24, 3) := dk_155 0 24 (dk_at dksX6_hays_7 5 rfl rfl)
theorem dX6_hays_170 : decode cX6_hays 170 = .ok (.iload 9, 2) := dk_21 9 (dk_at dksX6_hays_7 8 rfl rfl)
theorem dX6_hays_172 : decode cX6_hays 172 = .ok (.aload_n 0, 1) := dk_42 (dk_at dksX6_hays_7 10 rfl rfl)
theorem dX6_hays_173 : decode cX6_hays 173 = .ok (.getfield 46, 3) := dk_180 0 46 (dk_at dksX6_hays_7 11 rfl rfl)
theorem dX6_hays_176 : decode cX6_hays 176 = .ok (.iload 8, 2) := dk_21 8 (dk_at dksX6_hays_7 14 rfl rfl)
theorem dX6_hays_178 : decode cX6_hays 178 = .ok (.iaload, 1) := dk_46 (dk_at dksX6_hays_7 16 rfl rfl)
theorem dX6_hays_179 : decode cX6_hays 179 = .ok (.if_icmp .ge 12, 3) := dk_162 0 12 (dk_at dksX6_hays_7 17 rfl rfl)
theorem dX6_hays_182 : decode cX6_hays 182 = .ok (.aload_n 0, 1) := dk_42 (dk_at dksX6_hays_7 20 rfl rfl)
theorem dX6_hays_183 : decode cX6_hays 183 = .ok (.getfield 46, 3) := dk_180 0 46 (dk_at dksX6_hays_7 21 rfl rfl)
theorem dX6_hays_186 : decode cX6_hays 186 = .ok (.iload 8, 2) := dk_21 8 (dk_at dksX6_hays_8 0 rfl rfl)
theorem dX6_hays_188 : decode cX6_hays 188 = .ok (.iload 9, 2) := dk_21 9 (dk_at dksX6_hays_8 2 rfl rfl)
theorem dX6_hays_190 : decode cX6_hays 190 = .ok (.iastore, 1) := dk_79 (dk_at dksX6_hays_8 4 rfl rfl)
theorem dX6_hays_191 : decode cX6_hays 191 = .ok (.iinc 7 1, 3) := dk_132 7 1 (dk_at dksX6_hays_8 5 rfl rfl)
theorem dX6_hays_194 : decode cX6_hays 194 = .ok (.goto (-66), 3) := dk_167 255 190 (dk_at dksX6_hays_8 8 rfl rfl)
theorem dX6_hays_197 : decode cX6_hays 197 = .ok (.iinc 5 1, 3) := dk_132 5 1 (dk_at dksX6_hays_8 11 rfl rfl)
theorem dX6_hays_200 : decode cX6_hays 200 = .ok (.goto (-91), 3) := dk_167 255 165 (dk_at dksX6_hays_8 14 rfl rfl)
theorem dX6_hays_203 : decode cX6_hays 203 = .ok (.iconst 0, 1) := dk_3 (dk_at dksX6_hays_8 17 rfl rfl)
theorem dX6_hays_204 : decode cX6_hays 204 = .ok (.istore 5, 2) := dk_54 5 (dk_at dksX6_hays_8 18 rfl rfl)
theorem dX6_hays_206 : decode cX6_hays 206 = .ok (.iload 5, 2) := dk_21 5 (dk_at dksX6_hays_8 20 rfl rfl)
theorem dX6_hays_208 : decode cX6_hays 208 = .ok (.bipush 25, 2) := dk_16 25 (dk_at dksX6_hays_8 22 rfl rfl)
theorem dX6_hays_210 : decode cX6_hays 210 = .ok (.if_icmp .ge 23, 3) := dk_162 0 23 (dk_at dksX6_hays_9 0 rfl rfl)
theorem dX6_hays_213 : decode cX6_hays 213 = .ok (.aload_n 0, 1) := dk_42 (dk_at dksX6_hays_9 3 rfl rfl)
theorem dX6_hays_214 : decode cX6_hays 214 = .ok (.getfield 43, 3) := dk_180 0 43 (dk_at dksX6_hays_9 4 rfl rfl)
theorem dX6_hays_217 : decode cX6_hays 217 = .ok (.iload 5, 2) := dk_21 5 (dk_at dksX6_hays_9 7 rfl rfl)
theorem dX6_hays_219 : decode cX6_hays 219 = .ok (.aload_n 0, 1) := dk_42 (dk_at dksX6_hays_9 9 rfl rfl)
theorem dX6_hays_220 : decode cX6_hays 220 = .ok (.getfield 46, 3) := dk_180 0 46 (dk_at dksX6_hays_9 10 rfl rfl)
theorem dX6_hays_223 : decode cX6_hays 223 = .ok (.iload 5, 2) := dk_21 5 (dk_at dksX6_hays_9 13 rfl rfl)
theorem dX6_hays_225 : decode cX6_hays 225 = .ok (.iaload, 1) := dk_46 (dk_at dksX6_hays_9 15 rfl rfl)
theorem dX6_hays_226 : decode cX6_hays 226 = .ok (.iastore, 1) := dk_79 (dk_at dksX6_hays_9 16 rfl rfl)
theorem dX6_hays_227 : decode cX6_hays 227 = .ok (.iinc 5 1, 3) := dk_132 5 1 (dk_at dksX6_hays_9 17 rfl rfl)
theorem dX6_hays_230 : decode cX6_hays 230 = .ok (.goto (-24), 3) := dk_167 255 232 (dk_at dksX6_hays_9 20 rfl rfl)
theorem dX6_hays_233 : decode cX6_hays 233 = .ok (.iinc 4 1, 3) := dk_132 4 1 (dk_at dksX6_hays_10 0 rfl rfl)
theorem dX6_hays_236 : decode cX6_hays 236 = .ok (.goto (-161), 3) := dk_167 255 95 (dk_at dksX6_hays_10 3 rfl rfl)
theorem dX6_hays_239 : decode cX6_hays 239 = .ok (.aload_n 0, 1) := dk_42 (dk_at dksX6_hays_10 6 rfl rfl)
theorem dX6_hays_240 : decode cX6_hays 240 = .ok (.getfield 43, 3) := dk_180 0 43 (dk_at dksX6_hays_10 7 rfl rfl)
theorem dX6_hays_243 : decode cX6_hays 243 = .ok (.iload_n 2, 1) := dk_28 (dk_at dksX6_hays_10 10 rfl rfl)
theorem dX6_hays_244 : decode cX6_hays 244 = .ok (.iaload, 1) := dk_46 (dk_at dksX6_hays_10 11 rfl rfl)
theorem dX6_hays_245 : decode cX6_hays 245 = .ok (.bipush 100, 2) := dk_16 100 (dk_at dksX6_hays_10 12 rfl rfl)
theorem dX6_hays_247 : decode cX6_hays 247 = .ok (.if_icmp .lt 12, 3) := dk_161 0 12 (dk_at dksX6_hays_10 14 rfl rfl)
theorem dX6_hays_250 : decode cX6_hays 250 = .ok (.aload_n 0, 1) := dk_42 (dk_at dksX6_hays_10 17 rfl rfl)
theorem dX6_hays_251 : decode cX6_hays 251 = .ok (.ldc 105, 2) := dk_18 105 (dk_at dksX6_hays_10 18 rfl rfl)
theorem dX6_hays_253 : decode cX6_hays 253 = .ok (.invokevirtual 62, 3) := dk_182 0 62 (dk_at dksX6_hays_10 20 rfl rfl)
theorem dX6_hays_256 : decode cX6_hays 256 = .ok (.goto 9, 3) := dk_167 0 9 (dk_at dksX6_hays_11 0 rfl rfl)
theorem dX6_hays_259 : decode cX6_hays 259 = .ok (.aload_n 0, 1) := dk_42 (dk_at dksX6_hays_11 3 rfl rfl)
theorem dX6_hays_260 : decode cX6_hays 260 = .ok (.getfield 43, 3) := dk_180 0 43 (dk_at dksX6_hays_11 4 rfl rfl)
theorem dX6_hays_263 : decode cX6_hays 263 = .ok (.iload_n 2, 1) := dk_28 (dk_at dksX6_hays_11 7 rfl rfl)
theorem dX6_hays_264 : decode cX6_hays 264 = .ok (.iaload, 1) := dk_46 (dk_at dksX6_hays_11 8 rfl rfl)
theorem dX6_hays_265 : decode cX6_hays 265 = .ok (.ireturn, 1) := dk_172 (dk_at dksX6_hays_11 9 rfl rfl)
abbrev cX6_near : ByteArray := prog_30_method_69_code
def yX6_near : MethodName := ⟨RX6, "near", "(I)I"⟩
def dkwX6_near_4 : List UInt8 := [132, 4, 1, 167, 255, 182, 28, 156, 0, 12, 42, 18, 105, 182, 0, 62, 167, 0, 4, 28, 172]
abbrev dktX6_near_4 : List UInt8 := dkwX6_near_4 ++ []
def dkwX6_near_3 : List UInt8 := [162, 0, 8, 21, 4, 167, 0, 4, 28, 61, 21, 6, 29, 162, 0, 8, 21, 6, 167, 0, 4, 29, 62]
abbrev dktX6_near_3 : List UInt8 := dkwX6_near_3 ++ dktX6_near_4
def dkwX6_near_2 : List UInt8 := [108, 100, 184, 0, 223, 21, 5, 8, 112, 27, 8, 112, 100, 184, 0, 223, 96, 54, 6, 21, 6, 29]
abbrev dktX6_near_2 : List UInt8 := dkwX6_near_2 ++ dktX6_near_3
def dkwX6_near_1 : List UInt8 := [42, 180, 0, 7, 6, 46, 162, 0, 69, 42, 21, 4, 5, 182, 0, 69, 54, 5, 21, 5, 8, 108, 27, 8]
abbrev dktX6_near_1 : List UInt8 := dkwX6_near_1 ++ dktX6_near_2
def dkwX6_near_0 : List UInt8 := [27, 184, 0, 57, 154, 0, 10, 42, 18, 61, 182, 0, 62, 172, 2, 61, 16, 25, 62, 3, 54, 4, 21, 4]
abbrev dktX6_near_0 : List UInt8 := dkwX6_near_0 ++ dktX6_near_1
theorem dksX6_near_0 : cX6_near.data.toList.drop 0 = dktX6_near_0 := by decide +kernel
theorem dksX6_near_1 : cX6_near.data.toList.drop 24 = dktX6_near_1 := dk_seg dksX6_near_0 24 rfl rfl
theorem dksX6_near_2 : cX6_near.data.toList.drop 48 = dktX6_near_2 := dk_seg dksX6_near_1 24 rfl rfl
theorem dksX6_near_3 : cX6_near.data.toList.drop 70 = dktX6_near_3 := dk_seg dksX6_near_2 22 rfl rfl
theorem dksX6_near_4 : cX6_near.data.toList.drop 93 = dktX6_near_4 := dk_seg dksX6_near_3 23 rfl rfl
theorem dX6_near_0 : decode cX6_near 0 = .ok (.iload_n 1, 1) := dk_27 (dk_at dksX6_near_0 0 rfl rfl)
theorem dX6_near_1 : decode cX6_near 1 = .ok (.invokestatic 57, 3) := dk_184 0 57 (dk_at dksX6_near_0 1 rfl rfl)
theorem dX6_near_4 : decode cX6_near 4 = .ok (.ifCond .ne 10, 3) := dk_154 0 10 (dk_at dksX6_near_0 4 rfl rfl)
theorem dX6_near_7 : decode cX6_near 7 = .ok (.aload_n 0, 1) := dk_42 (dk_at dksX6_near_0 7 rfl rfl)
theorem dX6_near_8 : decode cX6_near 8 = .ok (.ldc 61, 2) := dk_18 61 (dk_at dksX6_near_0 8 rfl rfl)
theorem dX6_near_10 : decode cX6_near 10 = .ok (.invokevirtual 62, 3) := dk_182 0 62 (dk_at dksX6_near_0 10 rfl rfl)
theorem dX6_near_13 : decode cX6_near 13 = .ok (.ireturn, 1) := dk_172 (dk_at dksX6_near_0 13 rfl rfl)
theorem dX6_near_14 : decode cX6_near 14 = .ok (.iconst (-1), 1) := dk_2 (dk_at dksX6_near_0 14 rfl rfl)
theorem dX6_near_15 : decode cX6_near 15 = .ok (.istore_n 2, 1) := dk_61 (dk_at dksX6_near_0 15 rfl rfl)
theorem dX6_near_16 : decode cX6_near 16 = .ok (.bipush 25, 2) := dk_16 25 (dk_at dksX6_near_0 16 rfl rfl)
theorem dX6_near_18 : decode cX6_near 18 = .ok (.istore_n 3, 1) := dk_62 (dk_at dksX6_near_0 18 rfl rfl)
theorem dX6_near_19 : decode cX6_near 19 = .ok (.iconst 0, 1) := dk_3 (dk_at dksX6_near_0 19 rfl rfl)
theorem dX6_near_20 : decode cX6_near 20 = .ok (.istore 4, 2) := dk_54 4 (dk_at dksX6_near_0 20 rfl rfl)
theorem dX6_near_22 : decode cX6_near 22 = .ok (.iload 4, 2) := dk_21 4 (dk_at dksX6_near_0 22 rfl rfl)
theorem dX6_near_24 : decode cX6_near 24 = .ok (.aload_n 0, 1) := dk_42 (dk_at dksX6_near_1 0 rfl rfl)
theorem dX6_near_25 : decode cX6_near 25 = .ok (.getfield 7, 3) := dk_180 0 7 (dk_at dksX6_near_1 1 rfl rfl)
theorem dX6_near_28 : decode cX6_near 28 = .ok (.iconst 3, 1) := dk_6 (dk_at dksX6_near_1 4 rfl rfl)
theorem dX6_near_29 : decode cX6_near 29 = .ok (.iaload, 1) := dk_46 (dk_at dksX6_near_1 5 rfl rfl)
theorem dX6_near_30 : decode cX6_near 30 = .ok (.if_icmp .ge 69, 3) := dk_162 0 69 (dk_at dksX6_near_1 6 rfl rfl)
theorem dX6_near_33 : decode cX6_near 33 = .ok (.aload_n 0, 1) := dk_42 (dk_at dksX6_near_1 9 rfl rfl)
theorem dX6_near_34 : decode cX6_near 34 = .ok (.iload 4, 2) := dk_21 4 (dk_at dksX6_near_1 10 rfl rfl)
theorem dX6_near_36 : decode cX6_near 36 = .ok (.iconst 2, 1) := dk_5 (dk_at dksX6_near_1 12 rfl rfl)
theorem dX6_near_37 : decode cX6_near 37 = .ok (.invokevirtual 69, 3) := dk_182 0 69 (dk_at dksX6_near_1 13 rfl rfl)
theorem dX6_near_40 : decode cX6_near 40 = .ok (.istore 5, 2) := dk_54 5 (dk_at dksX6_near_1 16 rfl rfl)
theorem dX6_near_42 : decode cX6_near 42 = .ok (.iload 5, 2) := dk_21 5 (dk_at dksX6_near_1 18 rfl rfl)
theorem dX6_near_44 : decode cX6_near 44 = .ok (.iconst 5, 1) := dk_8 (dk_at dksX6_near_1 20 rfl rfl)
theorem dX6_near_45 : decode cX6_near 45 = .ok (.idiv, 1) := dk_108 (dk_at dksX6_near_1 21 rfl rfl)
theorem dX6_near_46 : decode cX6_near 46 = .ok (.iload_n 1, 1) := dk_27 (dk_at dksX6_near_1 22 rfl rfl)
theorem dX6_near_47 : decode cX6_near 47 = .ok (.iconst 5, 1) := dk_8 (dk_at dksX6_near_1 23 rfl rfl)
theorem dX6_near_48 : decode cX6_near 48 = .ok (.idiv, 1) := dk_108 (dk_at dksX6_near_2 0 rfl rfl)
theorem dX6_near_49 : decode cX6_near 49 = .ok (.isub, 1) := dk_100 (dk_at dksX6_near_2 1 rfl rfl)
theorem dX6_near_50 : decode cX6_near 50 = .ok (.invokestatic 223, 3) := dk_184 0 223 (dk_at dksX6_near_2 2 rfl rfl)
theorem dX6_near_53 : decode cX6_near 53 = .ok (.iload 5, 2) := dk_21 5 (dk_at dksX6_near_2 5 rfl rfl)
theorem dX6_near_55 : decode cX6_near 55 = .ok (.iconst 5, 1) := dk_8 (dk_at dksX6_near_2 7 rfl rfl)
theorem dX6_near_56 : decode cX6_near 56 = .ok (.irem, 1) := dk_112 (dk_at dksX6_near_2 8 rfl rfl)
theorem dX6_near_57 : decode cX6_near 57 = .ok (.iload_n 1, 1) := dk_27 (dk_at dksX6_near_2 9 rfl rfl)
theorem dX6_near_58 : decode cX6_near 58 = .ok (.iconst 5, 1) := dk_8 (dk_at dksX6_near_2 10 rfl rfl)
theorem dX6_near_59 : decode cX6_near 59 = .ok (.irem, 1) := dk_112 (dk_at dksX6_near_2 11 rfl rfl)
theorem dX6_near_60 : decode cX6_near 60 = .ok (.isub, 1) := dk_100 (dk_at dksX6_near_2 12 rfl rfl)
theorem dX6_near_61 : decode cX6_near 61 = .ok (.invokestatic 223, 3) := dk_184 0 223 (dk_at dksX6_near_2 13 rfl rfl)
theorem dX6_near_64 : decode cX6_near 64 = .ok (.iadd, 1) := dk_96 (dk_at dksX6_near_2 16 rfl rfl)
theorem dX6_near_65 : decode cX6_near 65 = .ok (.istore 6, 2) := dk_54 6 (dk_at dksX6_near_2 17 rfl rfl)
theorem dX6_near_67 : decode cX6_near 67 = .ok (.iload 6, 2) := dk_21 6 (dk_at dksX6_near_2 19 rfl rfl)
theorem dX6_near_69 : decode cX6_near 69 = .ok (.iload_n 3, 1) := dk_29 (dk_at dksX6_near_2 21 rfl rfl)
theorem dX6_near_70 : decode cX6_near 70 = .ok (.if_icmp .ge 8, 3) := dk_162 0 8 (dk_at dksX6_near_3 0 rfl rfl)
theorem dX6_near_73 : decode cX6_near 73 = .ok (.iload 4, 2) := dk_21 4 (dk_at dksX6_near_3 3 rfl rfl)
theorem dX6_near_75 : decode cX6_near 75 = .ok (.goto 4, 3) := dk_167 0 4 (dk_at dksX6_near_3 5 rfl rfl)
theorem dX6_near_78 : decode cX6_near 78 = .ok (.iload_n 2, 1) := dk_28 (dk_at dksX6_near_3 8 rfl rfl)
theorem dX6_near_79 : decode cX6_near 79 = .ok (.istore_n 2, 1) := dk_61 (dk_at dksX6_near_3 9 rfl rfl)
theorem dX6_near_80 : decode cX6_near 80 = .ok (.iload 6, 2) := dk_21 6 (dk_at dksX6_near_3 10 rfl rfl)
theorem dX6_near_82 : decode cX6_near 82 = .ok (.iload_n 3, 1) := dk_29 (dk_at dksX6_near_3 12 rfl rfl)
theorem dX6_near_83 : decode cX6_near 83 = .ok (.if_icmp .ge 8, 3) := dk_162 0 8 (dk_at dksX6_near_3 13 rfl rfl)
theorem dX6_near_86 : decode cX6_near 86 = .ok (.iload 6, 2) := dk_21 6 (dk_at dksX6_near_3 16 rfl rfl)
theorem dX6_near_88 : decode cX6_near 88 = .ok (.goto 4, 3) := dk_167 0 4 (dk_at dksX6_near_3 18 rfl rfl)
theorem dX6_near_91 : decode cX6_near 91 = .ok (.iload_n 3, 1) := dk_29 (dk_at dksX6_near_3 21 rfl rfl)
theorem dX6_near_92 : decode cX6_near 92 = .ok (.istore_n 3, 1) := dk_62 (dk_at dksX6_near_3 22 rfl rfl)
theorem dX6_near_93 : decode cX6_near 93 = .ok (.iinc 4 1, 3) := dk_132 4 1 (dk_at dksX6_near_4 0 rfl rfl)
theorem dX6_near_96 : decode cX6_near 96 = .ok (.goto (-74), 3) := dk_167 255 182 (dk_at dksX6_near_4 3 rfl rfl)
theorem dX6_near_99 : decode cX6_near 99 = .ok (.iload_n 2, 1) := dk_28 (dk_at dksX6_near_4 6 rfl rfl)
theorem dX6_near_100 : decode cX6_near 100 = .ok (.ifCond .ge 12, 3) := dk_156 0 12 (dk_at dksX6_near_4 7 rfl rfl)
theorem dX6_near_103 : decode cX6_near 103 = .ok (.aload_n 0, 1) := dk_42 (dk_at dksX6_near_4 10 rfl rfl)
theorem dX6_near_104 : decode cX6_near 104 = .ok (.ldc 105, 2) := dk_18 105 (dk_at dksX6_near_4 11 rfl rfl)
theorem dX6_near_106 : decode cX6_near 106 = .ok (.invokevirtual 62, 3) := dk_182 0 62 (dk_at dksX6_near_4 13 rfl rfl)
theorem dX6_near_109 : decode cX6_near 109 = .ok (.goto 4, 3) := dk_167 0 4 (dk_at dksX6_near_4 16 rfl rfl)
theorem dX6_near_112 : decode cX6_near 112 = .ok (.iload_n 2, 1) := dk_28 (dk_at dksX6_near_4 19 rfl rfl)
theorem dX6_near_113 : decode cX6_near 113 = .ok (.ireturn, 1) := dk_172 (dk_at dksX6_near_4 20 rfl rfl)
abbrev cX6_size : ByteArray := prog_30_method_68_code
def yX6_size : MethodName := ⟨RX6, "size", "(I)I"⟩
def dkwX6_size_0 : List UInt8 := [26, 156, 0, 8, 26, 116, 167, 0, 4, 26, 172]
abbrev dktX6_size_0 : List UInt8 := dkwX6_size_0 ++ []
theorem dksX6_size_0 : cX6_size.data.toList.drop 0 = dktX6_size_0 := by decide +kernel
theorem dX6_size_0 : decode cX6_size 0 = .ok (.iload_n 0, 1) := dk_26 (dk_at dksX6_size_0 0 rfl rfl)
theorem dX6_size_1 : decode cX6_size 1 = .ok (.ifCond .ge 8, 3) := dk_156 0 8 (dk_at dksX6_size_0 1 rfl rfl)
theorem dX6_size_4 : decode cX6_size 4 = .ok (.iload_n 0, 1) := dk_26 (dk_at dksX6_size_0 4 rfl rfl)
theorem dX6_size_5 : decode cX6_size 5 = .ok (.ineg, 1) := dk_116 (dk_at dksX6_size_0 5 rfl rfl)
theorem dX6_size_6 : decode cX6_size 6 = .ok (.goto 4, 3) := dk_167 0 4 (dk_at dksX6_size_0 6 rfl rfl)
theorem dX6_size_9 : decode cX6_size 9 = .ok (.iload_n 0, 1) := dk_26 (dk_at dksX6_size_0 9 rfl rfl)
theorem dX6_size_10 : decode cX6_size 10 = .ok (.ireturn, 1) := dk_172 (dk_at dksX6_size_0 10 rfl rfl)
abbrev cX6_seed : ByteArray := prog_30_method_70_code
def yX6_seed : MethodName := ⟨RX6, "seed", "(I)I"⟩
def dkwX6_seed_0 : List UInt8 := [42, 180, 0, 7, 5, 46, 61, 42, 180, 0, 7, 5, 27, 79, 28, 172]
abbrev dktX6_seed_0 : List UInt8 := dkwX6_seed_0 ++ []
theorem dksX6_seed_0 : cX6_seed.data.toList.drop 0 = dktX6_seed_0 := by decide +kernel
theorem dX6_seed_0 : decode cX6_seed 0 = .ok (.aload_n 0, 1) := dk_42 (dk_at dksX6_seed_0 0 rfl rfl)
theorem dX6_seed_1 : decode cX6_seed 1 = .ok (.getfield 7, 3) := dk_180 0 7 (dk_at dksX6_seed_0 1 rfl rfl)
theorem dX6_seed_4 : decode cX6_seed 4 = .ok (.iconst 2, 1) := dk_5 (dk_at dksX6_seed_0 4 rfl rfl)
theorem dX6_seed_5 : decode cX6_seed 5 = .ok (.iaload, 1) := dk_46 (dk_at dksX6_seed_0 5 rfl rfl)
theorem dX6_seed_6 : decode cX6_seed 6 = .ok (.istore_n 2, 1) := dk_61 (dk_at dksX6_seed_0 6 rfl rfl)
theorem dX6_seed_7 : decode cX6_seed 7 = .ok (.aload_n 0, 1) := dk_42 (dk_at dksX6_seed_0 7 rfl rfl)
theorem dX6_seed_8 : decode cX6_seed 8 = .ok (.getfield 7, 3) := dk_180 0 7 (dk_at dksX6_seed_0 8 rfl rfl)
theorem dX6_seed_11 : decode cX6_seed 11 = .ok (.iconst 2, 1) := dk_5 (dk_at dksX6_seed_0 11 rfl rfl)
theorem dX6_seed_12 : decode cX6_seed 12 = .ok (.iload_n 1, 1) := dk_27 (dk_at dksX6_seed_0 12 rfl rfl)
theorem dX6_seed_13 : decode cX6_seed 13 = .ok (.iastore, 1) := dk_79 (dk_at dksX6_seed_0 13 rfl rfl)
theorem dX6_seed_14 : decode cX6_seed 14 = .ok (.iload_n 2, 1) := dk_28 (dk_at dksX6_seed_0 14 rfl rfl)
theorem dX6_seed_15 : decode cX6_seed 15 = .ok (.ireturn, 1) := dk_172 (dk_at dksX6_seed_0 15 rfl rfl)
abbrev cX6_voice : ByteArray := prog_30_method_76_code
def yX6_voice : MethodName := ⟨RX6, "voice", "(III)I"⟩
def dkwX6_voice_5 : List UInt8 := [180, 0, 244, 29, 182, 0, 241, 172, 42, 42, 180, 0, 244, 29, 182, 0, 250, 172]
abbrev dktX6_voice_5 : List UInt8 := dkwX6_voice_5 ++ []
def dkwX6_voice_4 : List UInt8 := [42, 42, 180, 0, 244, 29, 182, 0, 235, 172, 42, 42, 180, 0, 244, 29, 182, 0, 247, 172, 42, 42]
abbrev dktX6_voice_4 : List UInt8 := dkwX6_voice_4 ++ dktX6_voice_5
def dkwX6_voice_3 : List UInt8 := [170, 0, 0, 0, 55, 0, 0, 0, 0, 0, 0, 0, 2, 0, 0, 0, 25, 0, 0, 0, 35, 0, 0, 0, 45]
abbrev dktX6_voice_3 : List UInt8 := dkwX6_voice_3 ++ dktX6_voice_4
def dkwX6_voice_2 : List UInt8 := [182, 0, 69, 181, 0, 238, 28]
abbrev dktX6_voice_2 : List UInt8 := dkwX6_voice_2 ++ dktX6_voice_3
def dkwX6_voice_1 : List UInt8 := [42, 3, 181, 0, 226, 42, 42, 27, 3, 182, 0, 69, 181, 0, 244, 42, 27, 181, 0, 232, 42, 42, 27, 4]
abbrev dktX6_voice_1 : List UInt8 := dkwX6_voice_1 ++ dktX6_voice_2
def dkwX6_voice_0 : List UInt8 := [42, 27, 182, 0, 93, 153, 0, 12, 28, 3, 6, 184, 0, 53, 154, 0, 10, 42, 18, 61, 182, 0, 62, 172]
abbrev dktX6_voice_0 : List UInt8 := dkwX6_voice_0 ++ dktX6_voice_1
theorem dksX6_voice_0 : cX6_voice.data.toList.drop 0 = dktX6_voice_0 := by decide +kernel
theorem dksX6_voice_1 : cX6_voice.data.toList.drop 24 = dktX6_voice_1 := dk_seg dksX6_voice_0 24 rfl rfl
theorem dksX6_voice_2 : cX6_voice.data.toList.drop 48 = dktX6_voice_2 := dk_seg dksX6_voice_1 24 rfl rfl
theorem dksX6_voice_3 : cX6_voice.data.toList.drop 55 = dktX6_voice_3 := dk_seg dksX6_voice_2 7 rfl rfl
theorem dksX6_voice_4 : cX6_voice.data.toList.drop 80 = dktX6_voice_4 := dk_seg dksX6_voice_3 25 rfl rfl
theorem dksX6_voice_5 : cX6_voice.data.toList.drop 102 = dktX6_voice_5 := dk_seg dksX6_voice_4 22 rfl rfl
theorem dX6_voice_0 : decode cX6_voice 0 = .ok (.aload_n 0, 1) := dk_42 (dk_at dksX6_voice_0 0 rfl rfl)
theorem dX6_voice_1 : decode cX6_voice 1 = .ok (.iload_n 1, 1) := dk_27 (dk_at dksX6_voice_0 1 rfl rfl)
theorem dX6_voice_2 : decode cX6_voice 2 = .ok (.invokevirtual 93, 3) := dk_182 0 93 (dk_at dksX6_voice_0 2 rfl rfl)
theorem dX6_voice_5 : decode cX6_voice 5 = .ok (.ifCond .eq 12, 3) := dk_153 0 12 (dk_at dksX6_voice_0 5 rfl rfl)
theorem dX6_voice_8 : decode cX6_voice 8 = .ok (.iload_n 2, 1) := dk_28 (dk_at dksX6_voice_0 8 rfl rfl)
theorem dX6_voice_9 : decode cX6_voice 9 = .ok (.iconst 0, 1) := dk_3 (dk_at dksX6_voice_0 9 rfl rfl)
theorem dX6_voice_10 : decode cX6_voice 10 = .ok (.iconst 3, 1) := dk_6 (dk_at dksX6_voice_0 10 rfl rfl)
theorem dX6_voice_11 : decode cX6_voice 11 = .ok (.invokestatic 53, 3) := dk_184 0 53 (dk_at dksX6_voice_0 11 rfl rfl)
theorem dX6_voice_14 : decode cX6_voice 14 = .ok (.ifCond .ne 10, 3) := dk_154 0 10 (dk_at dksX6_voice_0 14 rfl rfl)
theorem dX6_voice_17 : decode cX6_voice 17 = .ok (.aload_n 0, 1) := dk_42 (dk_at dksX6_voice_0 17 rfl rfl)
theorem dX6_voice_18 : decode cX6_voice 18 = .ok (.ldc 61, 2) := dk_18 61 (dk_at dksX6_voice_0 18 rfl rfl)
theorem dX6_voice_20 : decode cX6_voice 20 = .ok (.invokevirtual 62, 3) := dk_182 0 62 (dk_at dksX6_voice_0 20 rfl rfl)
theorem dX6_voice_23 : decode cX6_voice 23 = .ok (.ireturn, 1) := dk_172 (dk_at dksX6_voice_0 23 rfl rfl)
theorem dX6_voice_24 : decode cX6_voice 24 = .ok (.aload_n 0, 1) := dk_42 (dk_at dksX6_voice_1 0 rfl rfl)
theorem dX6_voice_25 : decode cX6_voice 25 = .ok (.iconst 0, 1) := dk_3 (dk_at dksX6_voice_1 1 rfl rfl)
theorem dX6_voice_26 : decode cX6_voice 26 = .ok (.putfield 226, 3) := dk_181 0 226 (dk_at dksX6_voice_1 2 rfl rfl)
theorem dX6_voice_29 : decode cX6_voice 29 = .ok (.aload_n 0, 1) := dk_42 (dk_at dksX6_voice_1 5 rfl rfl)
theorem dX6_voice_30 : decode cX6_voice 30 = .ok (.aload_n 0, 1) := dk_42 (dk_at dksX6_voice_1 6 rfl rfl)
theorem dX6_voice_31 : decode cX6_voice 31 = .ok (.iload_n 1, 1) := dk_27 (dk_at dksX6_voice_1 7 rfl rfl)
theorem dX6_voice_32 : decode cX6_voice 32 = .ok (.iconst 0, 1) := dk_3 (dk_at dksX6_voice_1 8 rfl rfl)
theorem dX6_voice_33 : decode cX6_voice 33 = .ok (.invokevirtual 69, 3) := dk_182 0 69 (dk_at dksX6_voice_1 9 rfl rfl)
theorem dX6_voice_36 : decode cX6_voice 36 = .ok (.putfield 244, 3) := dk_181 0 244 (dk_at dksX6_voice_1 12 rfl rfl)
theorem dX6_voice_39 : decode cX6_voice 39 = .ok (.aload_n 0, 1) := dk_42 (dk_at dksX6_voice_1 15 rfl rfl)
theorem dX6_voice_40 : decode cX6_voice 40 = .ok (.iload_n 1, 1) := dk_27 (dk_at dksX6_voice_1 16 rfl rfl)
theorem dX6_voice_41 : decode cX6_voice 41 = .ok (.putfield 232, 3) := dk_181 0 232 (dk_at dksX6_voice_1 17 rfl rfl)
theorem dX6_voice_44 : decode cX6_voice 44 = .ok (.aload_n 0, 1) := dk_42 (dk_at dksX6_voice_1 20 rfl rfl)
theorem dX6_voice_45 : decode cX6_voice 45 = .ok (.aload_n 0, 1) := dk_42 (dk_at dksX6_voice_1 21 rfl rfl)
theorem dX6_voice_46 : decode cX6_voice 46 = .ok (.iload_n 1, 1) := dk_27 (dk_at dksX6_voice_1 22 rfl rfl)
theorem dX6_voice_47 : decode cX6_voice 47 = .ok (.iconst 1, 1) := dk_4 (dk_at dksX6_voice_1 23 rfl rfl)
theorem dX6_voice_48 : decode cX6_voice 48 = .ok (.invokevirtual 69, 3) := dk_182 0 69 (dk_at dksX6_voice_2 0 rfl rfl)
theorem dX6_voice_51 : decode cX6_voice 51 = .ok (.putfield 238, 3) := dk_181 0 238 (dk_at dksX6_voice_2 3 rfl rfl)
theorem dX6_voice_54 : decode cX6_voice 54 = .ok (.iload_n 2, 1) := dk_28 (dk_at dksX6_voice_2 6 rfl rfl)
theorem dX6_voice_55 : decode cX6_voice 55 = .ok (.tableswitch 55 0 2 #[25, 35, 45], 25) := by decide +kernel
theorem dX6_voice_80 : decode cX6_voice 80 = .ok (.aload_n 0, 1) := dk_42 (dk_at dksX6_voice_4 0 rfl rfl)
theorem dX6_voice_81 : decode cX6_voice 81 = .ok (.aload_n 0, 1) := dk_42 (dk_at dksX6_voice_4 1 rfl rfl)
theorem dX6_voice_82 : decode cX6_voice 82 = .ok (.getfield 244, 3) := dk_180 0 244 (dk_at dksX6_voice_4 2 rfl rfl)
theorem dX6_voice_85 : decode cX6_voice 85 = .ok (.iload_n 3, 1) := dk_29 (dk_at dksX6_voice_4 5 rfl rfl)
theorem dX6_voice_86 : decode cX6_voice 86 = .ok (.invokevirtual 235, 3) := dk_182 0 235 (dk_at dksX6_voice_4 6 rfl rfl)
theorem dX6_voice_89 : decode cX6_voice 89 = .ok (.ireturn, 1) := dk_172 (dk_at dksX6_voice_4 9 rfl rfl)
theorem dX6_voice_90 : decode cX6_voice 90 = .ok (.aload_n 0, 1) := dk_42 (dk_at dksX6_voice_4 10 rfl rfl)
theorem dX6_voice_91 : decode cX6_voice 91 = .ok (.aload_n 0, 1) := dk_42 (dk_at dksX6_voice_4 11 rfl rfl)
theorem dX6_voice_92 : decode cX6_voice 92 = .ok (.getfield 244, 3) := dk_180 0 244 (dk_at dksX6_voice_4 12 rfl rfl)
theorem dX6_voice_95 : decode cX6_voice 95 = .ok (.iload_n 3, 1) := dk_29 (dk_at dksX6_voice_4 15 rfl rfl)
theorem dX6_voice_96 : decode cX6_voice 96 = .ok (.invokevirtual 247, 3) := dk_182 0 247 (dk_at dksX6_voice_4 16 rfl rfl)
theorem dX6_voice_99 : decode cX6_voice 99 = .ok (.ireturn, 1) := dk_172 (dk_at dksX6_voice_4 19 rfl rfl)
theorem dX6_voice_100 : decode cX6_voice 100 = .ok (.aload_n 0, 1) := dk_42 (dk_at dksX6_voice_4 20 rfl rfl)
theorem dX6_voice_101 : decode cX6_voice 101 = .ok (.aload_n 0, 1) := dk_42 (dk_at dksX6_voice_4 21 rfl rfl)
theorem dX6_voice_102 : decode cX6_voice 102 = .ok (.getfield 244, 3) := dk_180 0 244 (dk_at dksX6_voice_5 0 rfl rfl)
theorem dX6_voice_105 : decode cX6_voice 105 = .ok (.iload_n 3, 1) := dk_29 (dk_at dksX6_voice_5 3 rfl rfl)
theorem dX6_voice_106 : decode cX6_voice 106 = .ok (.invokevirtual 241, 3) := dk_182 0 241 (dk_at dksX6_voice_5 4 rfl rfl)
theorem dX6_voice_109 : decode cX6_voice 109 = .ok (.ireturn, 1) := dk_172 (dk_at dksX6_voice_5 7 rfl rfl)
theorem dX6_voice_110 : decode cX6_voice 110 = .ok (.aload_n 0, 1) := dk_42 (dk_at dksX6_voice_5 8 rfl rfl)
theorem dX6_voice_111 : decode cX6_voice 111 = .ok (.aload_n 0, 1) := dk_42 (dk_at dksX6_voice_5 9 rfl rfl)
theorem dX6_voice_112 : decode cX6_voice 112 = .ok (.getfield 244, 3) := dk_180 0 244 (dk_at dksX6_voice_5 10 rfl rfl)
theorem dX6_voice_115 : decode cX6_voice 115 = .ok (.iload_n 3, 1) := dk_29 (dk_at dksX6_voice_5 13 rfl rfl)
theorem dX6_voice_116 : decode cX6_voice 116 = .ok (.invokevirtual 250, 3) := dk_182 0 250 (dk_at dksX6_voice_5 14 rfl rfl)
theorem dX6_voice_119 : decode cX6_voice 119 = .ok (.ireturn, 1) := dk_172 (dk_at dksX6_voice_5 17 rfl rfl)
abbrev cX6_wantsIn : ByteArray := prog_30_method_72_code
def yX6_wantsIn : MethodName := ⟨RX6, "wantsIn", "(II)I"⟩
def dkwX6_wantsIn_1 : List UInt8 := [16, 30, 182, 0, 229, 42, 3, 28, 182, 0, 235, 6, 104, 172, 42, 27, 184, 0, 106, 28, 182, 0, 235, 172]
abbrev dktX6_wantsIn_1 : List UInt8 := dkwX6_wantsIn_1 ++ []
def dkwX6_wantsIn_0 : List UInt8 := [27, 154, 0, 16, 42, 16, 10, 182, 0, 229, 28, 42, 180, 0, 232, 96, 172, 27, 5, 160, 0, 18, 42]
abbrev dktX6_wantsIn_0 : List UInt8 := dkwX6_wantsIn_0 ++ dktX6_wantsIn_1
theorem dksX6_wantsIn_0 : cX6_wantsIn.data.toList.drop 0 = dktX6_wantsIn_0 := by decide +kernel
theorem dksX6_wantsIn_1 : cX6_wantsIn.data.toList.drop 23 = dktX6_wantsIn_1 := dk_seg dksX6_wantsIn_0 23 rfl rfl
theorem dX6_wantsIn_0 : decode cX6_wantsIn 0 = .ok (.iload_n 1, 1) := dk_27 (dk_at dksX6_wantsIn_0 0 rfl rfl)
theorem dX6_wantsIn_1 : decode cX6_wantsIn 1 = .ok (.ifCond .ne 16, 3) := dk_154 0 16 (dk_at dksX6_wantsIn_0 1 rfl rfl)
theorem dX6_wantsIn_4 : decode cX6_wantsIn 4 = .ok (.aload_n 0, 1) := dk_42 (dk_at dksX6_wantsIn_0 4 rfl rfl)
theorem dX6_wantsIn_5 : decode cX6_wantsIn 5 = .ok (.bipush 10, 2) := dk_16 10 (dk_at dksX6_wantsIn_0 5 rfl rfl)
theorem dX6_wantsIn_7 : decode cX6_wantsIn 7 = .ok (.invokevirtual 229, 3) := dk_182 0 229 (dk_at dksX6_wantsIn_0 7 rfl rfl)
theorem dX6_wantsIn_10 : decode cX6_wantsIn 10 = .ok (.iload_n 2, 1) := dk_28 (dk_at dksX6_wantsIn_0 10 rfl rfl)
theorem dX6_wantsIn_11 : decode cX6_wantsIn 11 = .ok (.aload_n 0, 1) := dk_42 (dk_at dksX6_wantsIn_0 11 rfl rfl)
theorem dX6_wantsIn_12 : decode cX6_wantsIn 12 = .ok (.getfield 232, 3) := dk_180 0 232 (dk_at dksX6_wantsIn_0 12 rfl rfl)
theorem dX6_wantsIn_15 : decode cX6_wantsIn 15 = .ok (.iadd, 1) := dk_96 (dk_at dksX6_wantsIn_0 15 rfl rfl)
theorem dX6_wantsIn_16 : decode cX6_wantsIn 16 = .ok (.ireturn, 1) := dk_172 (dk_at dksX6_wantsIn_0 16 rfl rfl)
theorem dX6_wantsIn_17 : decode cX6_wantsIn 17 = .ok (.iload_n 1, 1) := dk_27 (dk_at dksX6_wantsIn_0 17 rfl rfl)
theorem dX6_wantsIn_18 : decode cX6_wantsIn 18 = .ok (.iconst 2, 1) := dk_5 (dk_at dksX6_wantsIn_0 18 rfl rfl)
theorem dX6_wantsIn_19 : decode cX6_wantsIn 19 = .ok (.if_icmp .ne 18, 3) := dk_160 0 18 (dk_at dksX6_wantsIn_0 19 rfl rfl)
theorem dX6_wantsIn_22 : decode cX6_wantsIn 22 = .ok (.aload_n 0, 1) := dk_42 (dk_at dksX6_wantsIn_0 22 rfl rfl)
theorem dX6_wantsIn_23 : decode cX6_wantsIn 23 = .ok (.bipush 30, 2) := dk_16 30 (dk_at dksX6_wantsIn_1 0 rfl rfl)
theorem dX6_wantsIn_25 : decode cX6_wantsIn 25 = .ok (.invokevirtual 229, 3) := dk_182 0 229 (dk_at dksX6_wantsIn_1 2 rfl rfl)
theorem dX6_wantsIn_28 : decode cX6_wantsIn 28 = .ok (.aload_n 0, 1) := dk_42 (dk_at dksX6_wantsIn_1 5 rfl rfl)
theorem dX6_wantsIn_29 : decode cX6_wantsIn 29 = .ok (.iconst 0, 1) := dk_3 (dk_at dksX6_wantsIn_1 6 rfl rfl)
theorem dX6_wantsIn_30 : decode cX6_wantsIn 30 = .ok (.iload_n 2, 1) := dk_28 (dk_at dksX6_wantsIn_1 7 rfl rfl)
theorem dX6_wantsIn_31 : decode cX6_wantsIn 31 = .ok (.invokevirtual 235, 3) := dk_182 0 235 (dk_at dksX6_wantsIn_1 8 rfl rfl)
theorem dX6_wantsIn_34 : decode cX6_wantsIn 34 = .ok (.iconst 3, 1) := dk_6 (dk_at dksX6_wantsIn_1 11 rfl rfl)
theorem dX6_wantsIn_35 : decode cX6_wantsIn 35 = .ok (.imul, 1) := dk_104 (dk_at dksX6_wantsIn_1 12 rfl rfl)
theorem dX6_wantsIn_36 : decode cX6_wantsIn 36 = .ok (.ireturn, 1) := dk_172 (dk_at dksX6_wantsIn_1 13 rfl rfl)
theorem dX6_wantsIn_37 : decode cX6_wantsIn 37 = .ok (.aload_n 0, 1) := dk_42 (dk_at dksX6_wantsIn_1 14 rfl rfl)
theorem dX6_wantsIn_38 : decode cX6_wantsIn 38 = .ok (.iload_n 1, 1) := dk_27 (dk_at dksX6_wantsIn_1 15 rfl rfl)
theorem dX6_wantsIn_39 : decode cX6_wantsIn 39 = .ok (.invokestatic 106, 3) := dk_184 0 106 (dk_at dksX6_wantsIn_1 16 rfl rfl)
theorem dX6_wantsIn_42 : decode cX6_wantsIn 42 = .ok (.iload_n 2, 1) := dk_28 (dk_at dksX6_wantsIn_1 19 rfl rfl)
theorem dX6_wantsIn_43 : decode cX6_wantsIn 43 = .ok (.invokevirtual 235, 3) := dk_182 0 235 (dk_at dksX6_wantsIn_1 20 rfl rfl)
theorem dX6_wantsIn_46 : decode cX6_wantsIn 46 = .ok (.ireturn, 1) := dk_172 (dk_at dksX6_wantsIn_1 23 rfl rfl)
abbrev cX6_ran : ByteArray := prog_30_method_71_code
def yX6_ran : MethodName := ⟨RX6, "ran", "(I)V"⟩
def dkwX6_ran_1 : List UInt8 := [4, 96, 181, 0, 226, 177]
abbrev dktX6_ran_1 : List UInt8 := dkwX6_ran_1 ++ []
def dkwX6_ran_0 : List UInt8 := [42, 180, 0, 226, 16, 40, 162, 0, 23, 42, 180, 0, 49, 42, 180, 0, 226, 27, 79, 42, 89, 180, 0, 226]
abbrev dktX6_ran_0 : List UInt8 := dkwX6_ran_0 ++ dktX6_ran_1
theorem dksX6_ran_0 : cX6_ran.data.toList.drop 0 = dktX6_ran_0 := by decide +kernel
theorem dksX6_ran_1 : cX6_ran.data.toList.drop 24 = dktX6_ran_1 := dk_seg dksX6_ran_0 24 rfl rfl
theorem dX6_ran_0 : decode cX6_ran 0 = .ok (.aload_n 0, 1) := dk_42 (dk_at dksX6_ran_0 0 rfl rfl)
theorem dX6_ran_1 : decode cX6_ran 1 = .ok (.getfield 226, 3) := dk_180 0 226 (dk_at dksX6_ran_0 1 rfl rfl)
theorem dX6_ran_4 : decode cX6_ran 4 = .ok (.bipush 40, 2) := dk_16 40 (dk_at dksX6_ran_0 4 rfl rfl)
theorem dX6_ran_6 : decode cX6_ran 6 = .ok (.if_icmp .ge 23, 3) := dk_162 0 23 (dk_at dksX6_ran_0 6 rfl rfl)
theorem dX6_ran_9 : decode cX6_ran 9 = .ok (.aload_n 0, 1) := dk_42 (dk_at dksX6_ran_0 9 rfl rfl)
theorem dX6_ran_10 : decode cX6_ran 10 = .ok (.getfield 49, 3) := dk_180 0 49 (dk_at dksX6_ran_0 10 rfl rfl)
theorem dX6_ran_13 : decode cX6_ran 13 = .ok (.aload_n 0, 1) := dk_42 (dk_at dksX6_ran_0 13 rfl rfl)
theorem dX6_ran_14 : decode cX6_ran 14 = .ok (.getfield 226, 3) := dk_180 0 226 (dk_at dksX6_ran_0 14 rfl rfl)
theorem dX6_ran_17 : decode cX6_ran 17 = .ok (.iload_n 1, 1) := dk_27 (dk_at dksX6_ran_0 17 rfl rfl)
theorem dX6_ran_18 : decode cX6_ran 18 = .ok (.iastore, 1) := dk_79 (dk_at dksX6_ran_0 18 rfl rfl)
theorem dX6_ran_19 : decode cX6_ran 19 = .ok (.aload_n 0, 1) := dk_42 (dk_at dksX6_ran_0 19 rfl rfl)
theorem dX6_ran_20 : decode cX6_ran 20 = .ok (.dup, 1) := dk_89 (dk_at dksX6_ran_0 20 rfl rfl)
theorem dX6_ran_21 : decode cX6_ran 21 = .ok (.getfield 226, 3) := dk_180 0 226 (dk_at dksX6_ran_0 21 rfl rfl)
theorem dX6_ran_24 : decode cX6_ran 24 = .ok (.iconst 1, 1) := dk_4 (dk_at dksX6_ran_1 0 rfl rfl)
theorem dX6_ran_25 : decode cX6_ran 25 = .ok (.iadd, 1) := dk_96 (dk_at dksX6_ran_1 1 rfl rfl)
theorem dX6_ran_26 : decode cX6_ran 26 = .ok (.putfield 226, 3) := dk_181 0 226 (dk_at dksX6_ran_1 2 rfl rfl)
theorem dX6_ran_29 : decode cX6_ran 29 = .ok (.return_, 1) := dk_177 (dk_at dksX6_ran_1 5 rfl rfl)
abbrev cX6_eatsIn : ByteArray := prog_30_method_74_code
def yX6_eatsIn : MethodName := ⟨RX6, "eatsIn", "(II)I"⟩
def dkwX6_eatsIn_3 : List UInt8 := [172, 42, 27, 184, 0, 106, 28, 182, 0, 247, 172]
abbrev dktX6_eatsIn_3 : List UInt8 := dkwX6_eatsIn_3 ++ []
def dkwX6_eatsIn_2 : List UInt8 := [182, 0, 241, 100, 172, 27, 7, 160, 0, 18, 42, 16, 50, 182, 0, 229, 42, 4, 28, 4, 96, 182, 0, 247]
abbrev dktX6_eatsIn_2 : List UInt8 := dkwX6_eatsIn_2 ++ dktX6_eatsIn_3
def dkwX6_eatsIn_1 : List UInt8 := [160, 0, 28, 42, 16, 20, 182, 0, 229, 42, 3, 28, 182, 0, 247, 62, 29, 42, 42, 180, 0, 244, 4]
abbrev dktX6_eatsIn_1 : List UInt8 := dkwX6_eatsIn_1 ++ dktX6_eatsIn_2
def dkwX6_eatsIn_0 : List UInt8 := [27, 154, 0, 21, 42, 16, 11, 182, 0, 229, 42, 42, 180, 0, 244, 28, 182, 0, 235, 5, 104, 172, 27, 4]
abbrev dktX6_eatsIn_0 : List UInt8 := dkwX6_eatsIn_0 ++ dktX6_eatsIn_1
theorem dksX6_eatsIn_0 : cX6_eatsIn.data.toList.drop 0 = dktX6_eatsIn_0 := by decide +kernel
theorem dksX6_eatsIn_1 : cX6_eatsIn.data.toList.drop 24 = dktX6_eatsIn_1 := dk_seg dksX6_eatsIn_0 24 rfl rfl
theorem dksX6_eatsIn_2 : cX6_eatsIn.data.toList.drop 47 = dktX6_eatsIn_2 := dk_seg dksX6_eatsIn_1 23 rfl rfl
theorem dksX6_eatsIn_3 : cX6_eatsIn.data.toList.drop 71 = dktX6_eatsIn_3 := dk_seg dksX6_eatsIn_2 24 rfl rfl
theorem dX6_eatsIn_0 : decode cX6_eatsIn 0 = .ok (.iload_n 1, 1) := dk_27 (dk_at dksX6_eatsIn_0 0 rfl rfl)
theorem dX6_eatsIn_1 : decode cX6_eatsIn 1 = .ok (.ifCond .ne 21, 3) := dk_154 0 21 (dk_at dksX6_eatsIn_0 1 rfl rfl)
theorem dX6_eatsIn_4 : decode cX6_eatsIn 4 = .ok (.aload_n 0, 1) := dk_42 (dk_at dksX6_eatsIn_0 4 rfl rfl)
theorem dX6_eatsIn_5 : decode cX6_eatsIn 5 = .ok (.bipush 11, 2) := dk_16 11 (dk_at dksX6_eatsIn_0 5 rfl rfl)
theorem dX6_eatsIn_7 : decode cX6_eatsIn 7 = .ok (.invokevirtual 229, 3) := dk_182 0 229 (dk_at dksX6_eatsIn_0 7 rfl rfl)
theorem dX6_eatsIn_10 : decode cX6_eatsIn 10 = .ok (.aload_n 0, 1) := dk_42 (dk_at dksX6_eatsIn_0 10 rfl rfl)
theorem dX6_eatsIn_11 : decode cX6_eatsIn 11 = .ok (.aload_n 0, 1) := dk_42 (dk_at dksX6_eatsIn_0 11 rfl rfl)
theorem dX6_eatsIn_12 : decode cX6_eatsIn 12 = .ok (.getfield 244, 3) := dk_180 0 244 (dk_at dksX6_eatsIn_0 12 rfl rfl)
theorem dX6_eatsIn_15 : decode cX6_eatsIn 15 = .ok (.iload_n 2, 1) := dk_28 (dk_at dksX6_eatsIn_0 15 rfl rfl)
theorem dX6_eatsIn_16 : decode cX6_eatsIn 16 = .ok (.invokevirtual 235, 3) := dk_182 0 235 (dk_at dksX6_eatsIn_0 16 rfl rfl)
theorem dX6_eatsIn_19 : decode cX6_eatsIn 19 = .ok (.iconst 2, 1) := dk_5 (dk_at dksX6_eatsIn_0 19 rfl rfl)
theorem dX6_eatsIn_20 : decode cX6_eatsIn 20 = .ok (.imul, 1) := dk_104 (dk_at dksX6_eatsIn_0 20 rfl rfl)
theorem dX6_eatsIn_21 : decode cX6_eatsIn 21 = .ok (.ireturn, 1) := dk_172 (dk_at dksX6_eatsIn_0 21 rfl rfl)
theorem dX6_eatsIn_22 : decode cX6_eatsIn 22 = .ok (.iload_n 1, 1) := dk_27 (dk_at dksX6_eatsIn_0 22 rfl rfl)
theorem dX6_eatsIn_23 : decode cX6_eatsIn 23 = .ok (.iconst 1, 1) := dk_4 (dk_at dksX6_eatsIn_0 23 rfl rfl)
theorem dX6_eatsIn_24 : decode cX6_eatsIn 24 = .ok (.if_icmp .ne 28, 3) := dk_160 0 28 (dk_at dksX6_eatsIn_1 0 rfl rfl)
theorem dX6_eatsIn_27 : decode cX6_eatsIn 27 = .ok (.aload_n 0, 1) := dk_42 (dk_at dksX6_eatsIn_1 3 rfl rfl)
theorem dX6_eatsIn_28 : decode cX6_eatsIn 28 = .ok (.bipush 20, 2) := dk_16 20 (dk_at dksX6_eatsIn_1 4 rfl rfl)
theorem dX6_eatsIn_30 : decode cX6_eatsIn 30 = .ok (.invokevirtual 229, 3) := dk_182 0 229 (dk_at dksX6_eatsIn_1 6 rfl rfl)
theorem dX6_eatsIn_33 : decode cX6_eatsIn 33 = .ok (.aload_n 0, 1) := dk_42 (dk_at dksX6_eatsIn_1 9 rfl rfl)
theorem dX6_eatsIn_34 : decode cX6_eatsIn 34 = .ok (.iconst 0, 1) := dk_3 (dk_at dksX6_eatsIn_1 10 rfl rfl)
theorem dX6_eatsIn_35 : decode cX6_eatsIn 35 = .ok (.iload_n 2, 1) := dk_28 (dk_at dksX6_eatsIn_1 11 rfl rfl)
theorem dX6_eatsIn_36 : decode cX6_eatsIn 36 = .ok (.invokevirtual 247, 3) := dk_182 0 247 (dk_at dksX6_eatsIn_1 12 rfl rfl)
theorem dX6_eatsIn_39 : decode cX6_eatsIn 39 = .ok (.istore_n 3, 1) := dk_62 (dk_at dksX6_eatsIn_1 15 rfl rfl)
theorem dX6_eatsIn_40 : decode cX6_eatsIn 40 = .ok (.iload_n 3, 1) := dk_29 (dk_at dksX6_eatsIn_1 16 rfl rfl)
theorem dX6_eatsIn_41 : decode cX6_eatsIn 41 = .ok (.aload_n 0, 1) := dk_42 (dk_at dksX6_eatsIn_1 17 rfl rfl)
theorem dX6_eatsIn_42 : decode cX6_eatsIn 42 = .ok (.aload_n 0, 1) := dk_42 (dk_at dksX6_eatsIn_1 18 rfl rfl)
theorem dX6_eatsIn_43 : decode cX6_eatsIn 43 = .ok (.getfield 244, 3) := dk_180 0 244 (dk_at dksX6_eatsIn_1 19 rfl rfl)
theorem dX6_eatsIn_46 : decode cX6_eatsIn 46 = .ok (.iconst 1, 1) := dk_4 (dk_at dksX6_eatsIn_1 22 rfl rfl)
theorem dX6_eatsIn_47 : decode cX6_eatsIn 47 = .ok (.invokevirtual 241, 3) := dk_182 0 241 (dk_at dksX6_eatsIn_2 0 rfl rfl)
theorem dX6_eatsIn_50 : decode cX6_eatsIn 50 = .ok (.isub, 1) := dk_100 (dk_at dksX6_eatsIn_2 3 rfl rfl)
theorem dX6_eatsIn_51 : decode cX6_eatsIn 51 = .ok (.ireturn, 1) := dk_172 (dk_at dksX6_eatsIn_2 4 rfl rfl)
theorem dX6_eatsIn_52 : decode cX6_eatsIn 52 = .ok (.iload_n 1, 1) := dk_27 (dk_at dksX6_eatsIn_2 5 rfl rfl)
theorem dX6_eatsIn_53 : decode cX6_eatsIn 53 = .ok (.iconst 4, 1) := dk_7 (dk_at dksX6_eatsIn_2 6 rfl rfl)
theorem dX6_eatsIn_54 : decode cX6_eatsIn 54 = .ok (.if_icmp .ne 18, 3) := dk_160 0 18 (dk_at dksX6_eatsIn_2 7 rfl rfl)
theorem dX6_eatsIn_57 : decode cX6_eatsIn 57 = .ok (.aload_n 0, 1) := dk_42 (dk_at dksX6_eatsIn_2 10 rfl rfl)
theorem dX6_eatsIn_58 : decode cX6_eatsIn 58 = .ok (.bipush 50, 2) := dk_16 50 (dk_at dksX6_eatsIn_2 11 rfl rfl)
theorem dX6_eatsIn_60 : decode cX6_eatsIn 60 = .ok (.invokevirtual 229, 3) := dk_182 0 229 (dk_at dksX6_eatsIn_2 13 rfl rfl)
theorem dX6_eatsIn_63 : decode cX6_eatsIn 63 = .ok (.aload_n 0, 1) := dk_42 (dk_at dksX6_eatsIn_2 16 rfl rfl)
theorem dX6_eatsIn_64 : decode cX6_eatsIn 64 = .ok (.iconst 1, 1) := dk_4 (dk_at dksX6_eatsIn_2 17 rfl rfl)
theorem dX6_eatsIn_65 : decode cX6_eatsIn 65 = .ok (.iload_n 2, 1) := dk_28 (dk_at dksX6_eatsIn_2 18 rfl rfl)
theorem dX6_eatsIn_66 : decode cX6_eatsIn 66 = .ok (.iconst 1, 1) := dk_4 (dk_at dksX6_eatsIn_2 19 rfl rfl)
theorem dX6_eatsIn_67 : decode cX6_eatsIn 67 = .ok (.iadd, 1) := dk_96 (dk_at dksX6_eatsIn_2 20 rfl rfl)
theorem dX6_eatsIn_68 : decode cX6_eatsIn 68 = .ok (.invokevirtual 247, 3) := dk_182 0 247 (dk_at dksX6_eatsIn_2 21 rfl rfl)
theorem dX6_eatsIn_71 : decode cX6_eatsIn 71 = .ok (.ireturn, 1) := dk_172 (dk_at dksX6_eatsIn_3 0 rfl rfl)
theorem dX6_eatsIn_72 : decode cX6_eatsIn 72 = .ok (.aload_n 0, 1) := dk_42 (dk_at dksX6_eatsIn_3 1 rfl rfl)
theorem dX6_eatsIn_73 : decode cX6_eatsIn 73 = .ok (.iload_n 1, 1) := dk_27 (dk_at dksX6_eatsIn_3 2 rfl rfl)
theorem dX6_eatsIn_74 : decode cX6_eatsIn 74 = .ok (.invokestatic 106, 3) := dk_184 0 106 (dk_at dksX6_eatsIn_3 3 rfl rfl)
theorem dX6_eatsIn_77 : decode cX6_eatsIn 77 = .ok (.iload_n 2, 1) := dk_28 (dk_at dksX6_eatsIn_3 6 rfl rfl)
theorem dX6_eatsIn_78 : decode cX6_eatsIn 78 = .ok (.invokevirtual 247, 3) := dk_182 0 247 (dk_at dksX6_eatsIn_3 7 rfl rfl)
theorem dX6_eatsIn_81 : decode cX6_eatsIn 81 = .ok (.ireturn, 1) := dk_172 (dk_at dksX6_eatsIn_3 10 rfl rfl)
abbrev cX6_knowsIn : ByteArray := prog_30_method_73_code
def yX6_knowsIn : MethodName := ⟨RX6, "knowsIn", "(II)I"⟩
def dkwX6_knowsIn_3 : List UInt8 := [172]
abbrev dktX6_knowsIn_3 : List UInt8 := dkwX6_knowsIn_3 ++ []
def dkwX6_knowsIn_2 : List UInt8 := [182, 0, 229, 42, 6, 28, 182, 0, 241, 42, 180, 0, 232, 130, 172, 42, 27, 184, 0, 106, 28, 182, 0, 241]
abbrev dktX6_knowsIn_2 : List UInt8 := dkwX6_knowsIn_2 ++ dktX6_knowsIn_3
def dkwX6_knowsIn_1 : List UInt8 := [16, 40, 182, 0, 229, 42, 3, 28, 182, 0, 241, 116, 172, 27, 16, 6, 160, 0, 21, 42, 16, 70]
abbrev dktX6_knowsIn_1 : List UInt8 := dkwX6_knowsIn_1 ++ dktX6_knowsIn_2
def dkwX6_knowsIn_0 : List UInt8 := [27, 154, 0, 16, 42, 16, 12, 182, 0, 229, 28, 42, 180, 0, 238, 100, 172, 27, 6, 160, 0, 17, 42]
abbrev dktX6_knowsIn_0 : List UInt8 := dkwX6_knowsIn_0 ++ dktX6_knowsIn_1
theorem dksX6_knowsIn_0 : cX6_knowsIn.data.toList.drop 0 = dktX6_knowsIn_0 := by decide +kernel
theorem dksX6_knowsIn_1 : cX6_knowsIn.data.toList.drop 23 = dktX6_knowsIn_1 := dk_seg dksX6_knowsIn_0 23 rfl rfl
theorem dksX6_knowsIn_2 : cX6_knowsIn.data.toList.drop 45 = dktX6_knowsIn_2 := dk_seg dksX6_knowsIn_1 22 rfl rfl
theorem dksX6_knowsIn_3 : cX6_knowsIn.data.toList.drop 69 = dktX6_knowsIn_3 := dk_seg dksX6_knowsIn_2 24 rfl rfl
theorem dX6_knowsIn_0 : decode cX6_knowsIn 0 = .ok (.iload_n 1, 1) := dk_27 (dk_at dksX6_knowsIn_0 0 rfl rfl)
theorem dX6_knowsIn_1 : decode cX6_knowsIn 1 = .ok (.ifCond .ne 16, 3) := dk_154 0 16 (dk_at dksX6_knowsIn_0 1 rfl rfl)
theorem dX6_knowsIn_4 : decode cX6_knowsIn 4 = .ok (.aload_n 0, 1) := dk_42 (dk_at dksX6_knowsIn_0 4 rfl rfl)
theorem dX6_knowsIn_5 : decode cX6_knowsIn 5 = .ok (.bipush 12, 2) := dk_16 12 (dk_at dksX6_knowsIn_0 5 rfl rfl)
theorem dX6_knowsIn_7 : decode cX6_knowsIn 7 = .ok (.invokevirtual 229, 3) := dk_182 0 229 (dk_at dksX6_knowsIn_0 7 rfl rfl)
theorem dX6_knowsIn_10 : decode cX6_knowsIn 10 = .ok (.iload_n 2, 1) := dk_28 (dk_at dksX6_knowsIn_0 10 rfl rfl)
theorem dX6_knowsIn_11 : decode cX6_knowsIn 11 = .ok (.aload_n 0, 1) := dk_42 (dk_at dksX6_knowsIn_0 11 rfl rfl)
theorem dX6_knowsIn_12 : decode cX6_knowsIn 12 = .ok (.getfield 238, 3) := dk_180 0 238 (dk_at dksX6_knowsIn_0 12 rfl rfl)
theorem dX6_knowsIn_15 : decode cX6_knowsIn 15 = .ok (.isub, 1) := dk_100 (dk_at dksX6_knowsIn_0 15 rfl rfl)
theorem dX6_knowsIn_16 : decode cX6_knowsIn 16 = .ok (.ireturn, 1) := dk_172 (dk_at dksX6_knowsIn_0 16 rfl rfl)
theorem dX6_knowsIn_17 : decode cX6_knowsIn 17 = .ok (.iload_n 1, 1) := dk_27 (dk_at dksX6_knowsIn_0 17 rfl rfl)
theorem dX6_knowsIn_18 : decode cX6_knowsIn 18 = .ok (.iconst 3, 1) := dk_6 (dk_at dksX6_knowsIn_0 18 rfl rfl)
theorem dX6_knowsIn_19 : decode cX6_knowsIn 19 = .ok (.if_icmp .ne 17, 3) := dk_160 0 17 (dk_at dksX6_knowsIn_0 19 rfl rfl)
theorem dX6_knowsIn_22 : decode cX6_knowsIn 22 = .ok (.aload_n 0, 1) := dk_42 (dk_at dksX6_knowsIn_0 22 rfl rfl)
theorem dX6_knowsIn_23 : decode cX6_knowsIn 23 = .ok (.bipush 40, 2) := dk_16 40 (dk_at dksX6_knowsIn_1 0 rfl rfl)
theorem dX6_knowsIn_25 : decode cX6_knowsIn 25 = .ok (.invokevirtual 229, 3) := dk_182 0 229 (dk_at dksX6_knowsIn_1 2 rfl rfl)
theorem dX6_knowsIn_28 : decode cX6_knowsIn 28 = .ok (.aload_n 0, 1) := dk_42 (dk_at dksX6_knowsIn_1 5 rfl rfl)
theorem dX6_knowsIn_29 : decode cX6_knowsIn 29 = .ok (.iconst 0, 1) := dk_3 (dk_at dksX6_knowsIn_1 6 rfl rfl)
theorem dX6_knowsIn_30 : decode cX6_knowsIn 30 = .ok (.iload_n 2, 1) := dk_28 (dk_at dksX6_knowsIn_1 7 rfl rfl)
theorem dX6_knowsIn_31 : decode cX6_knowsIn 31 = .ok (.invokevirtual 241, 3) := dk_182 0 241 (dk_at dksX6_knowsIn_1 8 rfl rfl)
theorem dX6_knowsIn_34 : decode cX6_knowsIn 34 = .ok (.ineg, 1) := dk_116 (dk_at dksX6_knowsIn_1 11 rfl rfl)
theorem dX6_knowsIn_35 : decode cX6_knowsIn 35 = .ok (.ireturn, 1) := dk_172 (dk_at dksX6_knowsIn_1 12 rfl rfl)
theorem dX6_knowsIn_36 : decode cX6_knowsIn 36 = .ok (.iload_n 1, 1) := dk_27 (dk_at dksX6_knowsIn_1 13 rfl rfl)
theorem dX6_knowsIn_37 : decode cX6_knowsIn 37 = .ok (.bipush 6, 2) := dk_16 6 (dk_at dksX6_knowsIn_1 14 rfl rfl)
theorem dX6_knowsIn_39 : decode cX6_knowsIn 39 = .ok (.if_icmp .ne 21, 3) := dk_160 0 21 (dk_at dksX6_knowsIn_1 16 rfl rfl)
theorem dX6_knowsIn_42 : decode cX6_knowsIn 42 = .ok (.aload_n 0, 1) := dk_42 (dk_at dksX6_knowsIn_1 19 rfl rfl)
theorem dX6_knowsIn_43 : decode cX6_knowsIn 43 = .ok (.bipush 70, 2) := dk_16 70 (dk_at dksX6_knowsIn_1 20 rfl rfl)
theorem dX6_knowsIn_45 : decode cX6_knowsIn 45 = .ok (.invokevirtual 229, 3) := dk_182 0 229 (dk_at dksX6_knowsIn_2 0 rfl rfl)
theorem dX6_knowsIn_48 : decode cX6_knowsIn 48 = .ok (.aload_n 0, 1) := dk_42 (dk_at dksX6_knowsIn_2 3 rfl rfl)
theorem dX6_knowsIn_49 : decode cX6_knowsIn 49 = .ok (.iconst 3, 1) := dk_6 (dk_at dksX6_knowsIn_2 4 rfl rfl)
theorem dX6_knowsIn_50 : decode cX6_knowsIn 50 = .ok (.iload_n 2, 1) := dk_28 (dk_at dksX6_knowsIn_2 5 rfl rfl)
theorem dX6_knowsIn_51 : decode cX6_knowsIn 51 = .ok (.invokevirtual 241, 3) := dk_182 0 241 (dk_at dksX6_knowsIn_2 6 rfl rfl)
theorem dX6_knowsIn_54 : decode cX6_knowsIn 54 = .ok (.aload_n 0, 1) := dk_42 (dk_at dksX6_knowsIn_2 9 rfl rfl)
theorem dX6_knowsIn_55 : decode cX6_knowsIn 55 = .ok (.getfield 232, 3) := dk_180 0 232 (dk_at dksX6_knowsIn_2 10 rfl rfl)
theorem dX6_knowsIn_58 : decode cX6_knowsIn 58 = .ok (.ixor, 1) := dk_130 (dk_at dksX6_knowsIn_2 13 rfl rfl)
theorem dX6_knowsIn_59 : decode cX6_knowsIn 59 = .ok (.ireturn, 1) := dk_172 (dk_at dksX6_knowsIn_2 14 rfl rfl)
theorem dX6_knowsIn_60 : decode cX6_knowsIn 60 = .ok (.aload_n 0, 1) := dk_42 (dk_at dksX6_knowsIn_2 15 rfl rfl)
theorem dX6_knowsIn_61 : decode cX6_knowsIn 61 = .ok (.iload_n 1, 1) := dk_27 (dk_at dksX6_knowsIn_2 16 rfl rfl)
theorem dX6_knowsIn_62 : decode cX6_knowsIn 62 = .ok (.invokestatic 106, 3) := dk_184 0 106 (dk_at dksX6_knowsIn_2 17 rfl rfl)
theorem dX6_knowsIn_65 : decode cX6_knowsIn 65 = .ok (.iload_n 2, 1) := dk_28 (dk_at dksX6_knowsIn_2 20 rfl rfl)
theorem dX6_knowsIn_66 : decode cX6_knowsIn 66 = .ok (.invokevirtual 241, 3) := dk_182 0 241 (dk_at dksX6_knowsIn_2 21 rfl rfl)
theorem dX6_knowsIn_69 : decode cX6_knowsIn 69 = .ok (.ireturn, 1) := dk_172 (dk_at dksX6_knowsIn_3 0 rfl rfl)
abbrev cX6_tellsIn : ByteArray := prog_30_method_75_code
def yX6_tellsIn : MethodName := ⟨RX6, "tellsIn", "(II)I"⟩
def dkwX6_tellsIn_4 : List UInt8 := [42, 27, 184, 0, 106, 28, 182, 0, 250, 172]
abbrev dktX6_tellsIn_4 : List UInt8 := dkwX6_tellsIn_4 ++ []
def dkwX6_tellsIn_3 : List UInt8 := [16, 60, 182, 0, 229, 42, 5, 28, 182, 0, 250, 62, 29, 42, 42, 180, 0, 244, 5, 182, 0, 235, 100, 172]
abbrev dktX6_tellsIn_3 : List UInt8 := dkwX6_tellsIn_3 ++ dktX6_tellsIn_4
def dkwX6_tellsIn_2 : List UInt8 := [180, 0, 244, 28, 182, 0, 247, 62, 29, 42, 6, 28, 182, 0, 250, 100, 172, 27, 8, 160, 0, 28, 42]
abbrev dktX6_tellsIn_2 : List UInt8 := dkwX6_tellsIn_2 ++ dktX6_tellsIn_3
def dkwX6_tellsIn_1 : List UInt8 := [180, 0, 244, 28, 182, 0, 241, 130, 172, 27, 16, 6, 160, 0, 28, 42, 16, 71, 182, 0, 229, 42, 42]
abbrev dktX6_tellsIn_1 : List UInt8 := dkwX6_tellsIn_1 ++ dktX6_tellsIn_2
def dkwX6_tellsIn_0 : List UInt8 := [27, 154, 0, 31, 42, 16, 13, 182, 0, 229, 42, 42, 180, 0, 244, 28, 182, 0, 247, 62, 29, 42, 42]
abbrev dktX6_tellsIn_0 : List UInt8 := dkwX6_tellsIn_0 ++ dktX6_tellsIn_1
theorem dksX6_tellsIn_0 : cX6_tellsIn.data.toList.drop 0 = dktX6_tellsIn_0 := by decide +kernel
theorem dksX6_tellsIn_1 : cX6_tellsIn.data.toList.drop 23 = dktX6_tellsIn_1 := dk_seg dksX6_tellsIn_0 23 rfl rfl
theorem dksX6_tellsIn_2 : cX6_tellsIn.data.toList.drop 46 = dktX6_tellsIn_2 := dk_seg dksX6_tellsIn_1 23 rfl rfl
theorem dksX6_tellsIn_3 : cX6_tellsIn.data.toList.drop 69 = dktX6_tellsIn_3 := dk_seg dksX6_tellsIn_2 23 rfl rfl
theorem dksX6_tellsIn_4 : cX6_tellsIn.data.toList.drop 93 = dktX6_tellsIn_4 := dk_seg dksX6_tellsIn_3 24 rfl rfl
theorem dX6_tellsIn_0 : decode cX6_tellsIn 0 = .ok (.iload_n 1, 1) := dk_27 (dk_at dksX6_tellsIn_0 0 rfl rfl)
theorem dX6_tellsIn_1 : decode cX6_tellsIn 1 = .ok (.ifCond .ne 31, 3) := dk_154 0 31 (dk_at dksX6_tellsIn_0 1 rfl rfl)
theorem dX6_tellsIn_4 : decode cX6_tellsIn 4 = .ok (.aload_n 0, 1) := dk_42 (dk_at dksX6_tellsIn_0 4 rfl rfl)
theorem dX6_tellsIn_5 : decode cX6_tellsIn 5 = .ok (.bipush 13, 2) := dk_16 13 (dk_at dksX6_tellsIn_0 5 rfl rfl)
theorem dX6_tellsIn_7 : decode cX6_tellsIn 7 = .ok (.invokevirtual 229, 3) := dk_182 0 229 (dk_at dksX6_tellsIn_0 7 rfl rfl)
theorem dX6_tellsIn_10 : decode cX6_tellsIn 10 = .ok (.aload_n 0, 1) := dk_42 (dk_at dksX6_tellsIn_0 10 rfl rfl)
theorem dX6_tellsIn_11 : decode cX6_tellsIn 11 = .ok (.aload_n 0, 1) := dk_42 (dk_at dksX6_tellsIn_0 11 rfl rfl)
theorem dX6_tellsIn_12 : decode cX6_tellsIn 12 = .ok (.getfield 244, 3) := dk_180 0 244 (dk_at dksX6_tellsIn_0 12 rfl rfl)
theorem dX6_tellsIn_15 : decode cX6_tellsIn 15 = .ok (.iload_n 2, 1) := dk_28 (dk_at dksX6_tellsIn_0 15 rfl rfl)
theorem dX6_tellsIn_16 : decode cX6_tellsIn 16 = .ok (.invokevirtual 247, 3) := dk_182 0 247 (dk_at dksX6_tellsIn_0 16 rfl rfl)
theorem dX6_tellsIn_19 : decode cX6_tellsIn 19 = .ok (.istore_n 3, 1) := dk_62 (dk_at dksX6_tellsIn_0 19 rfl rfl)
theorem dX6_tellsIn_20 : decode cX6_tellsIn 20 = .ok (.iload_n 3, 1) := dk_29 (dk_at dksX6_tellsIn_0 20 rfl rfl)
theorem dX6_tellsIn_21 : decode cX6_tellsIn 21 = .ok (.aload_n 0, 1) := dk_42 (dk_at dksX6_tellsIn_0 21 rfl rfl)
theorem dX6_tellsIn_22 : decode cX6_tellsIn 22 = .ok (.aload_n 0, 1) := dk_42 (dk_at dksX6_tellsIn_0 22 rfl rfl)
theorem dX6_tellsIn_23 : decode cX6_tellsIn 23 = .ok (.getfield 244, 3) := dk_180 0 244 (dk_at dksX6_tellsIn_1 0 rfl rfl)
theorem dX6_tellsIn_26 : decode cX6_tellsIn 26 = .ok (.iload_n 2, 1) := dk_28 (dk_at dksX6_tellsIn_1 3 rfl rfl)
theorem dX6_tellsIn_27 : decode cX6_tellsIn 27 = .ok (.invokevirtual 241, 3) := dk_182 0 241 (dk_at dksX6_tellsIn_1 4 rfl rfl)
theorem dX6_tellsIn_30 : decode cX6_tellsIn 30 = .ok (.ixor, 1) := dk_130 (dk_at dksX6_tellsIn_1 7 rfl rfl)
theorem dX6_tellsIn_31 : decode cX6_tellsIn 31 = .ok (.ireturn, 1) := dk_172 (dk_at dksX6_tellsIn_1 8 rfl rfl)
theorem dX6_tellsIn_32 : decode cX6_tellsIn 32 = .ok (.iload_n 1, 1) := dk_27 (dk_at dksX6_tellsIn_1 9 rfl rfl)
theorem dX6_tellsIn_33 : decode cX6_tellsIn 33 = .ok (.bipush 6, 2) := dk_16 6 (dk_at dksX6_tellsIn_1 10 rfl rfl)
theorem dX6_tellsIn_35 : decode cX6_tellsIn 35 = .ok (.if_icmp .ne 28, 3) := dk_160 0 28 (dk_at dksX6_tellsIn_1 12 rfl rfl)
theorem dX6_tellsIn_38 : decode cX6_tellsIn 38 = .ok (.aload_n 0, 1) := dk_42 (dk_at dksX6_tellsIn_1 15 rfl rfl)
theorem dX6_tellsIn_39 : decode cX6_tellsIn 39 = .ok (.bipush 71, 2) := dk_16 71 (dk_at dksX6_tellsIn_1 16 rfl rfl)
theorem dX6_tellsIn_41 : decode cX6_tellsIn 41 = .ok (.invokevirtual 229, 3) := dk_182 0 229 (dk_at dksX6_tellsIn_1 18 rfl rfl)
theorem dX6_tellsIn_44 : decode cX6_tellsIn 44 = .ok (.aload_n 0, 1) := dk_42 (dk_at dksX6_tellsIn_1 21 rfl rfl)
theorem dX6_tellsIn_45 : decode cX6_tellsIn 45 = .ok (.aload_n 0, 1) := dk_42 (dk_at dksX6_tellsIn_1 22 rfl rfl)
theorem dX6_tellsIn_46 : decode cX6_tellsIn 46 = .ok (.getfield 244, 3) := dk_180 0 244 (dk_at dksX6_tellsIn_2 0 rfl rfl)
theorem dX6_tellsIn_49 : decode cX6_tellsIn 49 = .ok (.iload_n 2, 1) := dk_28 (dk_at dksX6_tellsIn_2 3 rfl rfl)
theorem dX6_tellsIn_50 : decode cX6_tellsIn 50 = .ok (.invokevirtual 247, 3) := dk_182 0 247 (dk_at dksX6_tellsIn_2 4 rfl rfl)
theorem dX6_tellsIn_53 : decode cX6_tellsIn 53 = .ok (.istore_n 3, 1) := dk_62 (dk_at dksX6_tellsIn_2 7 rfl rfl)
theorem dX6_tellsIn_54 : decode cX6_tellsIn 54 = .ok (.iload_n 3, 1) := dk_29 (dk_at dksX6_tellsIn_2 8 rfl rfl)
theorem dX6_tellsIn_55 : decode cX6_tellsIn 55 = .ok (.aload_n 0, 1) := dk_42 (dk_at dksX6_tellsIn_2 9 rfl rfl)
theorem dX6_tellsIn_56 : decode cX6_tellsIn 56 = .ok (.iconst 3, 1) := dk_6 (dk_at dksX6_tellsIn_2 10 rfl rfl)
theorem dX6_tellsIn_57 : decode cX6_tellsIn 57 = .ok (.iload_n 2, 1) := dk_28 (dk_at dksX6_tellsIn_2 11 rfl rfl)
theorem dX6_tellsIn_58 : decode cX6_tellsIn 58 = .ok (.invokevirtual 250, 3) := dk_182 0 250 (dk_at dksX6_tellsIn_2 12 rfl rfl)
theorem dX6_tellsIn_61 : decode cX6_tellsIn 61 = .ok (.isub, 1) := dk_100 (dk_at dksX6_tellsIn_2 15 rfl rfl)
theorem dX6_tellsIn_62 : decode cX6_tellsIn 62 = .ok (.ireturn, 1) := dk_172 (dk_at dksX6_tellsIn_2 16 rfl rfl)
theorem dX6_tellsIn_63 : decode cX6_tellsIn 63 = .ok (.iload_n 1, 1) := dk_27 (dk_at dksX6_tellsIn_2 17 rfl rfl)
theorem dX6_tellsIn_64 : decode cX6_tellsIn 64 = .ok (.iconst 5, 1) := dk_8 (dk_at dksX6_tellsIn_2 18 rfl rfl)
theorem dX6_tellsIn_65 : decode cX6_tellsIn 65 = .ok (.if_icmp .ne 28, 3) := dk_160 0 28 (dk_at dksX6_tellsIn_2 19 rfl rfl)
theorem dX6_tellsIn_68 : decode cX6_tellsIn 68 = .ok (.aload_n 0, 1) := dk_42 (dk_at dksX6_tellsIn_2 22 rfl rfl)
theorem dX6_tellsIn_69 : decode cX6_tellsIn 69 = .ok (.bipush 60, 2) := dk_16 60 (dk_at dksX6_tellsIn_3 0 rfl rfl)
theorem dX6_tellsIn_71 : decode cX6_tellsIn 71 = .ok (.invokevirtual 229, 3) := dk_182 0 229 (dk_at dksX6_tellsIn_3 2 rfl rfl)
theorem dX6_tellsIn_74 : decode cX6_tellsIn 74 = .ok (.aload_n 0, 1) := dk_42 (dk_at dksX6_tellsIn_3 5 rfl rfl)
theorem dX6_tellsIn_75 : decode cX6_tellsIn 75 = .ok (.iconst 2, 1) := dk_5 (dk_at dksX6_tellsIn_3 6 rfl rfl)
theorem dX6_tellsIn_76 : decode cX6_tellsIn 76 = .ok (.iload_n 2, 1) := dk_28 (dk_at dksX6_tellsIn_3 7 rfl rfl)
theorem dX6_tellsIn_77 : decode cX6_tellsIn 77 = .ok (.invokevirtual 250, 3) := dk_182 0 250 (dk_at dksX6_tellsIn_3 8 rfl rfl)
theorem dX6_tellsIn_80 : decode cX6_tellsIn 80 = .ok (.istore_n 3, 1) := dk_62 (dk_at dksX6_tellsIn_3 11 rfl rfl)
theorem dX6_tellsIn_81 : decode cX6_tellsIn 81 = .ok (.iload_n 3, 1) := dk_29 (dk_at dksX6_tellsIn_3 12 rfl rfl)
theorem dX6_tellsIn_82 : decode cX6_tellsIn 82 = .ok (.aload_n 0, 1) := dk_42 (dk_at dksX6_tellsIn_3 13 rfl rfl)
theorem dX6_tellsIn_83 : decode cX6_tellsIn 83 = .ok (.aload_n 0, 1) := dk_42 (dk_at dksX6_tellsIn_3 14 rfl rfl)
theorem dX6_tellsIn_84 : decode cX6_tellsIn 84 = .ok (.getfield 244, 3) := dk_180 0 244 (dk_at dksX6_tellsIn_3 15 rfl rfl)
theorem dX6_tellsIn_87 : decode cX6_tellsIn 87 = .ok (.iconst 2, 1) := dk_5 (dk_at dksX6_tellsIn_3 18 rfl rfl)
theorem dX6_tellsIn_88 : decode cX6_tellsIn 88 = .ok (.invokevirtual 235, 3) := dk_182 0 235 (dk_at dksX6_tellsIn_3 19 rfl rfl)
theorem dX6_tellsIn_91 : decode cX6_tellsIn 91 = .ok (.isub, 1) := dk_100 (dk_at dksX6_tellsIn_3 22 rfl rfl)
theorem dX6_tellsIn_92 : decode cX6_tellsIn 92 = .ok (.ireturn, 1) := dk_172 (dk_at dksX6_tellsIn_3 23 rfl rfl)
theorem dX6_tellsIn_93 : decode cX6_tellsIn 93 = .ok (.aload_n 0, 1) := dk_42 (dk_at dksX6_tellsIn_4 0 rfl rfl)
theorem dX6_tellsIn_94 : decode cX6_tellsIn 94 = .ok (.iload_n 1, 1) := dk_27 (dk_at dksX6_tellsIn_4 1 rfl rfl)
theorem dX6_tellsIn_95 : decode cX6_tellsIn 95 = .ok (.invokestatic 106, 3) := dk_184 0 106 (dk_at dksX6_tellsIn_4 2 rfl rfl)
theorem dX6_tellsIn_98 : decode cX6_tellsIn 98 = .ok (.iload_n 2, 1) := dk_28 (dk_at dksX6_tellsIn_4 5 rfl rfl)
theorem dX6_tellsIn_99 : decode cX6_tellsIn 99 = .ok (.invokevirtual 250, 3) := dk_182 0 250 (dk_at dksX6_tellsIn_4 6 rfl rfl)
theorem dX6_tellsIn_102 : decode cX6_tellsIn 102 = .ok (.ireturn, 1) := dk_172 (dk_at dksX6_tellsIn_4 9 rfl rfl)
abbrev cX6_trace : ByteArray := prog_30_method_77_code
def yX6_trace : MethodName := ⟨RX6, "trace", "(I)I"⟩
def dkwX6_trace_1 : List UInt8 := [18, 105, 182, 0, 62, 172]
abbrev dktX6_trace_1 : List UInt8 := dkwX6_trace_1 ++ []
def dkwX6_trace_0 : List UInt8 := [27, 3, 42, 180, 0, 226, 4, 100, 184, 0, 53, 153, 0, 12, 42, 180, 0, 49, 27, 46, 167, 0, 9, 42]
abbrev dktX6_trace_0 : List UInt8 := dkwX6_trace_0 ++ dktX6_trace_1
theorem dksX6_trace_0 : cX6_trace.data.toList.drop 0 = dktX6_trace_0 := by decide +kernel
theorem dksX6_trace_1 : cX6_trace.data.toList.drop 24 = dktX6_trace_1 := dk_seg dksX6_trace_0 24 rfl rfl
theorem dX6_trace_0 : decode cX6_trace 0 = .ok (.iload_n 1, 1) := dk_27 (dk_at dksX6_trace_0 0 rfl rfl)
theorem dX6_trace_1 : decode cX6_trace 1 = .ok (.iconst 0, 1) := dk_3 (dk_at dksX6_trace_0 1 rfl rfl)
theorem dX6_trace_2 : decode cX6_trace 2 = .ok (.aload_n 0, 1) := dk_42 (dk_at dksX6_trace_0 2 rfl rfl)
theorem dX6_trace_3 : decode cX6_trace 3 = .ok (.getfield 226, 3) := dk_180 0 226 (dk_at dksX6_trace_0 3 rfl rfl)
theorem dX6_trace_6 : decode cX6_trace 6 = .ok (.iconst 1, 1) := dk_4 (dk_at dksX6_trace_0 6 rfl rfl)
theorem dX6_trace_7 : decode cX6_trace 7 = .ok (.isub, 1) := dk_100 (dk_at dksX6_trace_0 7 rfl rfl)
theorem dX6_trace_8 : decode cX6_trace 8 = .ok (.invokestatic 53, 3) := dk_184 0 53 (dk_at dksX6_trace_0 8 rfl rfl)
theorem dX6_trace_11 : decode cX6_trace 11 = .ok (.ifCond .eq 12, 3) := dk_153 0 12 (dk_at dksX6_trace_0 11 rfl rfl)
theorem dX6_trace_14 : decode cX6_trace 14 = .ok (.aload_n 0, 1) := dk_42 (dk_at dksX6_trace_0 14 rfl rfl)
theorem dX6_trace_15 : decode cX6_trace 15 = .ok (.getfield 49, 3) := dk_180 0 49 (dk_at dksX6_trace_0 15 rfl rfl)
theorem dX6_trace_18 : decode cX6_trace 18 = .ok (.iload_n 1, 1) := dk_27 (dk_at dksX6_trace_0 18 rfl rfl)
theorem dX6_trace_19 : decode cX6_trace 19 = .ok (.iaload, 1) := dk_46 (dk_at dksX6_trace_0 19 rfl rfl)
theorem dX6_trace_20 : decode cX6_trace 20 = .ok (.goto 9, 3) := dk_167 0 9 (dk_at dksX6_trace_0 20 rfl rfl)
theorem dX6_trace_23 : decode cX6_trace 23 = .ok (.aload_n 0, 1) := dk_42 (dk_at dksX6_trace_0 23 rfl rfl)
theorem dX6_trace_24 : decode cX6_trace 24 = .ok (.ldc 105, 2) := dk_18 105 (dk_at dksX6_trace_1 0 rfl rfl)
theorem dX6_trace_26 : decode cX6_trace 26 = .ok (.invokevirtual 62, 3) := dk_182 0 62 (dk_at dksX6_trace_1 2 rfl rfl)
theorem dX6_trace_29 : decode cX6_trace 29 = .ok (.ireturn, 1) := dk_172 (dk_at dksX6_trace_1 5 rfl rfl)
abbrev cX6_sheet : ByteArray := prog_30_method_79_code
def yX6_sheet : MethodName := ⟨RX6, "sheet", "(III)I"⟩
def dkwX6_sheet_5 : List UInt8 := [167, 255, 233, 4, 172]
abbrev dktX6_sheet_5 : List UInt8 := dkwX6_sheet_5 ++ []
def dkwX6_sheet_4 : List UInt8 := [21, 4, 16, 40, 162, 0, 22, 42, 180, 0, 31, 16, 40, 27, 104, 21, 4, 96, 3, 79, 132, 4, 1]
abbrev dktX6_sheet_4 : List UInt8 := dkwX6_sheet_4 ++ dktX6_sheet_5
def dkwX6_sheet_3 : List UInt8 := [180, 0, 25, 27, 28, 79, 42, 180, 0, 28, 27, 28, 154, 0, 7, 3, 167, 0, 4, 29, 79, 3, 54, 4]
abbrev dktX6_sheet_3 : List UInt8 := dkwX6_sheet_3 ++ dktX6_sheet_4
def dkwX6_sheet_2 : List UInt8 := [182, 0, 62, 172, 28, 153, 0, 16, 29, 16, 40, 164, 0, 10, 42, 18, 61, 182, 0, 62, 172, 42]
abbrev dktX6_sheet_2 : List UInt8 := dkwX6_sheet_2 ++ dktX6_sheet_3
def dkwX6_sheet_1 : List UInt8 := [16, 32, 159, 0, 10, 42, 18, 61, 182, 0, 62, 172, 28, 153, 0, 14, 29, 156, 0, 10, 42, 18, 189]
abbrev dktX6_sheet_1 : List UInt8 := dkwX6_sheet_1 ++ dktX6_sheet_2
def dkwX6_sheet_0 : List UInt8 := [27, 184, 0, 217, 153, 0, 25, 28, 153, 0, 28, 28, 16, 8, 159, 0, 22, 28, 16, 16, 159, 0, 16, 28]
abbrev dktX6_sheet_0 : List UInt8 := dkwX6_sheet_0 ++ dktX6_sheet_1
theorem dksX6_sheet_0 : cX6_sheet.data.toList.drop 0 = dktX6_sheet_0 := by decide +kernel
theorem dksX6_sheet_1 : cX6_sheet.data.toList.drop 24 = dktX6_sheet_1 := dk_seg dksX6_sheet_0 24 rfl rfl
theorem dksX6_sheet_2 : cX6_sheet.data.toList.drop 47 = dktX6_sheet_2 := dk_seg dksX6_sheet_1 23 rfl rfl
theorem dksX6_sheet_3 : cX6_sheet.data.toList.drop 69 = dktX6_sheet_3 := dk_seg dksX6_sheet_2 22 rfl rfl
theorem dksX6_sheet_4 : cX6_sheet.data.toList.drop 93 = dktX6_sheet_4 := dk_seg dksX6_sheet_3 24 rfl rfl
theorem dksX6_sheet_5 : cX6_sheet.data.toList.drop 116 = dktX6_sheet_5 := dk_seg dksX6_sheet_4 23 rfl rfl
theorem dX6_sheet_0 : decode cX6_sheet 0 = .ok (.iload_n 1, 1) := dk_27 (dk_at dksX6_sheet_0 0 rfl rfl)
theorem dX6_sheet_1 : decode cX6_sheet 1 = .ok (.invokestatic 217, 3) := dk_184 0 217 (dk_at dksX6_sheet_0 1 rfl rfl)
theorem dX6_sheet_4 : decode cX6_sheet 4 = .ok (.ifCond .eq 25, 3) := dk_153 0 25 (dk_at dksX6_sheet_0 4 rfl rfl)
theorem dX6_sheet_7 : decode cX6_sheet 7 = .ok (.iload_n 2, 1) := dk_28 (dk_at dksX6_sheet_0 7 rfl rfl)
theorem dX6_sheet_8 : decode cX6_sheet 8 = .ok (.ifCond .eq 28, 3) := dk_153 0 28 (dk_at dksX6_sheet_0 8 rfl rfl)
theorem dX6_sheet_11 : decode cX6_sheet 11 = .ok (.iload_n 2, 1) := dk_28 (dk_at dksX6_sheet_0 11 rfl rfl)
theorem dX6_sheet_12 : decode cX6_sheet 12 = .ok (.bipush 8, 2) := dk_16 8 (dk_at dksX6_sheet_0 12 rfl rfl)
theorem dX6_sheet_14 : decode cX6_sheet 14 = .ok (.if_icmp .eq 22, 3) := dk_159 0 22 (dk_at dksX6_sheet_0 14 rfl rfl)
theorem dX6_sheet_17 : decode cX6_sheet 17 = .ok (.iload_n 2, 1) := dk_28 (dk_at dksX6_sheet_0 17 rfl rfl)
theorem dX6_sheet_18 : decode cX6_sheet 18 = .ok (.bipush 16, 2) := dk_16 16 (dk_at dksX6_sheet_0 18 rfl rfl)
theorem dX6_sheet_20 : decode cX6_sheet 20 = .ok (.if_icmp .eq 16, 3) := dk_159 0 16 (dk_at dksX6_sheet_0 20 rfl rfl)
theorem dX6_sheet_23 : decode cX6_sheet 23 = .ok (.iload_n 2, 1) := dk_28 (dk_at dksX6_sheet_0 23 rfl rfl)
theorem dX6_sheet_24 : decode cX6_sheet 24 = .ok (.bipush 32, 2) := dk_16 32 (dk_at dksX6_sheet_1 0 rfl rfl)
theorem dX6_sheet_26 : decode cX6_sheet 26 = .ok (.if_icmp .eq 10, 3) := dk_159 0 10 (dk_at dksX6_sheet_1 2 rfl rfl)
theorem dX6_sheet_29 : decode cX6_sheet 29 = .ok (.aload_n 0, 1) := dk_42 (dk_at dksX6_sheet_1 5 rfl rfl)
theorem dX6_sheet_30 : decode cX6_sheet 30 = .ok (.ldc 61, 2) := dk_18 61 (dk_at dksX6_sheet_1 6 rfl rfl)
theorem dX6_sheet_32 : decode cX6_sheet 32 = .ok (.invokevirtual 62, 3) := dk_182 0 62 (dk_at dksX6_sheet_1 8 rfl rfl)
theorem dX6_sheet_35 : decode cX6_sheet 35 = .ok (.ireturn, 1) := dk_172 (dk_at dksX6_sheet_1 11 rfl rfl)
theorem dX6_sheet_36 : decode cX6_sheet 36 = .ok (.iload_n 2, 1) := dk_28 (dk_at dksX6_sheet_1 12 rfl rfl)
theorem dX6_sheet_37 : decode cX6_sheet 37 = .ok (.ifCond .eq 14, 3) := dk_153 0 14 (dk_at dksX6_sheet_1 13 rfl rfl)
theorem dX6_sheet_40 : decode cX6_sheet 40 = .ok (.iload_n 3, 1) := dk_29 (dk_at dksX6_sheet_1 16 rfl rfl)
theorem dX6_sheet_41 : decode cX6_sheet 41 = .ok (.ifCond .ge 10, 3) := dk_156 0 10 (dk_at dksX6_sheet_1 17 rfl rfl)
theorem dX6_sheet_44 : decode cX6_sheet 44 = .ok (.aload_n 0, 1) := dk_42 (dk_at dksX6_sheet_1 20 rfl rfl)
theorem dX6_sheet_45 : decode cX6_sheet 45 = .ok (.ldc 189, 2) := dk_18 189 (dk_at dksX6_sheet_1 21 rfl rfl)
theorem dX6_sheet_47 : decode cX6_sheet 47 = .ok (.invokevirtual 62, 3) := dk_182 0 62 (dk_at dksX6_sheet_2 0 rfl rfl)
theorem dX6_sheet_50 : decode cX6_sheet 50 = .ok (.ireturn, 1) := dk_172 (dk_at dksX6_sheet_2 3 rfl rfl)
theorem dX6_sheet_51 : decode cX6_sheet 51 = .ok (.iload_n 2, 1) := dk_28 (dk_at dksX6_sheet_2 4 rfl rfl)
theorem dX6_sheet_52 : decode cX6_sheet 52 = .ok (.ifCond .eq 16, 3) := dk_153 0 16 (dk_at dksX6_sheet_2 5 rfl rfl)
theorem dX6_sheet_55 : decode cX6_sheet 55 = .ok (.iload_n 3, 1) := dk_29 (dk_at dksX6_sheet_2 8 rfl rfl)
theorem dX6_sheet_56 : decode cX6_sheet 56 = .ok (.bipush 40, 2) := dk_16 40 (dk_at dksX6_sheet_2 9 rfl rfl)
theorem dX6_sheet_58 : decode cX6_sheet 58 = .ok (.if_icmp .le 10, 3) := dk_164 0 10 (dk_at dksX6_sheet_2 11 rfl rfl)
theorem dX6_sheet_61 : decode cX6_sheet 61 = .ok (.aload_n 0, 1) := dk_42 (dk_at dksX6_sheet_2 14 rfl rfl)
theorem dX6_sheet_62 : decode cX6_sheet 62 = .ok (.ldc 61, 2) := dk_18 61 (dk_at dksX6_sheet_2 15 rfl rfl)
theorem dX6_sheet_64 : decode cX6_sheet 64 = .ok (.invokevirtual 62, 3) := dk_182 0 62 (dk_at dksX6_sheet_2 17 rfl rfl)
theorem dX6_sheet_67 : decode cX6_sheet 67 = .ok (.ireturn, 1) := dk_172 (dk_at dksX6_sheet_2 20 rfl rfl)
theorem dX6_sheet_68 : decode cX6_sheet 68 = .ok (.aload_n 0, 1) := dk_42 (dk_at dksX6_sheet_2 21 rfl rfl)
theorem dX6_sheet_69 : decode cX6_sheet 69 = .ok (.getfield 25, 3) := dk_180 0 25 (dk_at dksX6_sheet_3 0 rfl rfl)
theorem dX6_sheet_72 : decode cX6_sheet 72 = .ok (.iload_n 1, 1) := dk_27 (dk_at dksX6_sheet_3 3 rfl rfl)
theorem dX6_sheet_73 : decode cX6_sheet 73 = .ok (.iload_n 2, 1) := dk_28 (dk_at dksX6_sheet_3 4 rfl rfl)
theorem dX6_sheet_74 : decode cX6_sheet 74 = .ok (.iastore, 1) := dk_79 (dk_at dksX6_sheet_3 5 rfl rfl)
theorem dX6_sheet_75 : decode cX6_sheet 75 = .ok (.aload_n 0, 1) := dk_42 (dk_at dksX6_sheet_3 6 rfl rfl)
theorem dX6_sheet_76 : decode cX6_sheet 76 = .ok (.getfield 28, 3) := dk_180 0 28 (dk_at dksX6_sheet_3 7 rfl rfl)
theorem dX6_sheet_79 : decode cX6_sheet 79 = .ok (.iload_n 1, 1) := dk_27 (dk_at dksX6_sheet_3 10 rfl rfl)
theorem dX6_sheet_80 : decode cX6_sheet 80 = .ok (.iload_n 2, 1) := dk_28 (dk_at dksX6_sheet_3 11 rfl rfl)
theorem dX6_sheet_81 : decode cX6_sheet 81 = .ok (.ifCond .ne 7, 3) := dk_154 0 7 (dk_at dksX6_sheet_3 12 rfl rfl)
theorem dX6_sheet_84 : decode cX6_sheet 84 = .ok (.iconst 0, 1) := dk_3 (dk_at dksX6_sheet_3 15 rfl rfl)
theorem dX6_sheet_85 : decode cX6_sheet 85 = .ok (.goto 4, 3) := dk_167 0 4 (dk_at dksX6_sheet_3 16 rfl rfl)
theorem dX6_sheet_88 : decode cX6_sheet 88 = .ok (.iload_n 3, 1) := dk_29 (dk_at dksX6_sheet_3 19 rfl rfl)
theorem dX6_sheet_89 : decode cX6_sheet 89 = .ok (.iastore, 1) := dk_79 (dk_at dksX6_sheet_3 20 rfl rfl)
theorem dX6_sheet_90 : decode cX6_sheet 90 = .ok (.iconst 0, 1) := dk_3 (dk_at dksX6_sheet_3 21 rfl rfl)
theorem dX6_sheet_91 : decode cX6_sheet 91 = .ok (.istore 4, 2) := dk_54 4 (dk_at dksX6_sheet_3 22 rfl rfl)
theorem dX6_sheet_93 : decode cX6_sheet 93 = .ok (.iload 4, 2) := dk_21 4 (dk_at dksX6_sheet_4 0 rfl rfl)
theorem dX6_sheet_95 : decode cX6_sheet 95 = .ok (.bipush 40, 2) := dk_16 40 (dk_at dksX6_sheet_4 2 rfl rfl)
theorem dX6_sheet_97 : decode cX6_sheet 97 = .ok (.if_icmp .ge 22, 3) := dk_162 0 22 (dk_at dksX6_sheet_4 4 rfl rfl)
theorem dX6_sheet_100 : decode cX6_sheet 100 = .ok (.aload_n 0, 1) := dk_42 (dk_at dksX6_sheet_4 7 rfl rfl)
theorem dX6_sheet_101 : decode cX6_sheet 101 = .ok (.getfield 31, 3) := dk_180 0 31 (dk_at dksX6_sheet_4 8 rfl rfl)
theorem dX6_sheet_104 : decode cX6_sheet 104 = .ok (.bipush 40, 2) := dk_16 40 (dk_at dksX6_sheet_4 11 rfl rfl)
theorem dX6_sheet_106 : decode cX6_sheet 106 = .ok (.iload_n 1, 1) := dk_27 (dk_at dksX6_sheet_4 13 rfl rfl)
theorem dX6_sheet_107 : decode cX6_sheet 107 = .ok (.imul, 1) := dk_104 (dk_at dksX6_sheet_4 14 rfl rfl)
theorem dX6_sheet_108 : decode cX6_sheet 108 = .ok (.iload 4, 2) := dk_21 4 (dk_at dksX6_sheet_4 15 rfl rfl)
theorem dX6_sheet_110 : decode cX6_sheet 110 = .ok (.iadd, 1) := dk_96 (dk_at dksX6_sheet_4 17 rfl rfl)
theorem dX6_sheet_111 : decode cX6_sheet 111 = .ok (.iconst 0, 1) := dk_3 (dk_at dksX6_sheet_4 18 rfl rfl)
theorem dX6_sheet_112 : decode cX6_sheet 112 = .ok (.iastore, 1) := dk_79 (dk_at dksX6_sheet_4 19 rfl rfl)
theorem dX6_sheet_113 : decode cX6_sheet 113 = .ok (.iinc 4 1, 3) := dk_132 4 1 (dk_at dksX6_sheet_4 20 rfl rfl)
theorem dX6_sheet_116 : decode cX6_sheet 116 = .ok (.goto (-23), 3) := dk_167 255 233 (dk_at dksX6_sheet_5 0 rfl rfl)
theorem dX6_sheet_119 : decode cX6_sheet 119 = .ok (.iconst 1, 1) := dk_4 (dk_at dksX6_sheet_5 3 rfl rfl)
theorem dX6_sheet_120 : decode cX6_sheet 120 = .ok (.ireturn, 1) := dk_172 (dk_at dksX6_sheet_5 4 rfl rfl)
abbrev cX6_write : ByteArray := prog_30_method_80_code
def yX6_write : MethodName := ⟨RX6, "write", "(III)I"⟩
def dkwX6_write_3 : List UInt8 := [184, 0, 253, 79, 4, 172]
abbrev dktX6_write_3 : List UInt8 := dkwX6_write_3 ++ []
def dkwX6_write_2 : List UInt8 := [18, 61, 182, 0, 62, 172, 42, 180, 0, 31, 16, 40, 27, 104, 28, 96, 42, 180, 0, 25, 27, 46, 29]
abbrev dktX6_write_2 : List UInt8 := dkwX6_write_2 ++ dktX6_write_3
def dkwX6_write_1 : List UInt8 := [18, 105, 182, 0, 62, 172, 28, 3, 42, 180, 0, 28, 27, 46, 4, 100, 184, 0, 53, 154, 0, 10, 42]
abbrev dktX6_write_1 : List UInt8 := dkwX6_write_1 ++ dktX6_write_2
def dkwX6_write_0 : List UInt8 := [27, 184, 0, 217, 154, 0, 10, 42, 18, 61, 182, 0, 62, 172, 42, 180, 0, 25, 27, 46, 154, 0, 10, 42]
abbrev dktX6_write_0 : List UInt8 := dkwX6_write_0 ++ dktX6_write_1
theorem dksX6_write_0 : cX6_write.data.toList.drop 0 = dktX6_write_0 := by decide +kernel
theorem dksX6_write_1 : cX6_write.data.toList.drop 24 = dktX6_write_1 := dk_seg dksX6_write_0 24 rfl rfl
theorem dksX6_write_2 : cX6_write.data.toList.drop 47 = dktX6_write_2 := dk_seg dksX6_write_1 23 rfl rfl
theorem dksX6_write_3 : cX6_write.data.toList.drop 70 = dktX6_write_3 := dk_seg dksX6_write_2 23 rfl rfl
theorem dX6_write_0 : decode cX6_write 0 = .ok (.iload_n 1, 1) := dk_27 (dk_at dksX6_write_0 0 rfl rfl)
theorem dX6_write_1 : decode cX6_write 1 = .ok (.invokestatic 217, 3) := dk_184 0 217 (dk_at dksX6_write_0 1 rfl rfl)
theorem dX6_write_4 : decode cX6_write 4 = .ok (.ifCond .ne 10, 3) := dk_154 0 10 (dk_at dksX6_write_0 4 rfl rfl)
theorem dX6_write_7 : decode cX6_write 7 = .ok (.aload_n 0, 1) := dk_42 (dk_at dksX6_write_0 7 rfl rfl)
theorem dX6_write_8 : decode cX6_write 8 = .ok (.ldc 61, 2) := dk_18 61 (dk_at dksX6_write_0 8 rfl rfl)
theorem dX6_write_10 : decode cX6_write 10 = .ok (.invokevirtual 62, 3) := dk_182 0 62 (dk_at dksX6_write_0 10 rfl rfl)
theorem dX6_write_13 : decode cX6_write 13 = .ok (.ireturn, 1) := dk_172 (dk_at dksX6_write_0 13 rfl rfl)
theorem dX6_write_14 : decode cX6_write 14 = .ok (.aload_n 0, 1) := dk_42 (dk_at dksX6_write_0 14 rfl rfl)
theorem dX6_write_15 : decode cX6_write 15 = .ok (.getfield 25, 3) := dk_180 0 25 (dk_at dksX6_write_0 15 rfl rfl)
theorem dX6_write_18 : decode cX6_write 18 = .ok (.iload_n 1, 1) := dk_27 (dk_at dksX6_write_0 18 rfl rfl)
theorem dX6_write_19 : decode cX6_write 19 = .ok (.iaload, 1) := dk_46 (dk_at dksX6_write_0 19 rfl rfl)
theorem dX6_write_20 : decode cX6_write 20 = .ok (.ifCond .ne 10, 3) := dk_154 0 10 (dk_at dksX6_write_0 20 rfl rfl)
theorem dX6_write_23 : decode cX6_write 23 = .ok (.aload_n 0, 1) := dk_42 (dk_at dksX6_write_0 23 rfl rfl)
theorem dX6_write_24 : decode cX6_write 24 = .ok (.ldc 105, 2) := dk_18 105 (dk_at dksX6_write_1 0 rfl rfl)
theorem dX6_write_26 : decode cX6_write 26 = .ok (.invokevirtual 62, 3) := dk_182 0 62 (dk_at dksX6_write_1 2 rfl rfl)
theorem dX6_write_29 : decode cX6_write 29 = .ok (.ireturn, 1) := dk_172 (dk_at dksX6_write_1 5 rfl rfl)
theorem dX6_write_30 : decode cX6_write 30 = .ok (.iload_n 2, 1) := dk_28 (dk_at dksX6_write_1 6 rfl rfl)
theorem dX6_write_31 : decode cX6_write 31 = .ok (.iconst 0, 1) := dk_3 (dk_at dksX6_write_1 7 rfl rfl)
theorem dX6_write_32 : decode cX6_write 32 = .ok (.aload_n 0, 1) := dk_42 (dk_at dksX6_write_1 8 rfl rfl)
theorem dX6_write_33 : decode cX6_write 33 = .ok (.getfield 28, 3) := dk_180 0 28 (dk_at dksX6_write_1 9 rfl rfl)
theorem dX6_write_36 : decode cX6_write 36 = .ok (.iload_n 1, 1) := dk_27 (dk_at dksX6_write_1 12 rfl rfl)
theorem dX6_write_37 : decode cX6_write 37 = .ok (.iaload, 1) := dk_46 (dk_at dksX6_write_1 13 rfl rfl)
theorem dX6_write_38 : decode cX6_write 38 = .ok (.iconst 1, 1) := dk_4 (dk_at dksX6_write_1 14 rfl rfl)
theorem dX6_write_39 : decode cX6_write 39 = .ok (.isub, 1) := dk_100 (dk_at dksX6_write_1 15 rfl rfl)
theorem dX6_write_40 : decode cX6_write 40 = .ok (.invokestatic 53, 3) := dk_184 0 53 (dk_at dksX6_write_1 16 rfl rfl)
theorem dX6_write_43 : decode cX6_write 43 = .ok (.ifCond .ne 10, 3) := dk_154 0 10 (dk_at dksX6_write_1 19 rfl rfl)
theorem dX6_write_46 : decode cX6_write 46 = .ok (.aload_n 0, 1) := dk_42 (dk_at dksX6_write_1 22 rfl rfl)
theorem dX6_write_47 : decode cX6_write 47 = .ok (.ldc 61, 2) := dk_18 61 (dk_at dksX6_write_2 0 rfl rfl)
theorem dX6_write_49 : decode cX6_write 49 = .ok (.invokevirtual 62, 3) := dk_182 0 62 (dk_at dksX6_write_2 2 rfl rfl)
theorem dX6_write_52 : decode cX6_write 52 = .ok (.ireturn, 1) := dk_172 (dk_at dksX6_write_2 5 rfl rfl)
theorem dX6_write_53 : decode cX6_write 53 = .ok (.aload_n 0, 1) := dk_42 (dk_at dksX6_write_2 6 rfl rfl)
theorem dX6_write_54 : decode cX6_write 54 = .ok (.getfield 31, 3) := dk_180 0 31 (dk_at dksX6_write_2 7 rfl rfl)
theorem dX6_write_57 : decode cX6_write 57 = .ok (.bipush 40, 2) := dk_16 40 (dk_at dksX6_write_2 10 rfl rfl)
theorem dX6_write_59 : decode cX6_write 59 = .ok (.iload_n 1, 1) := dk_27 (dk_at dksX6_write_2 12 rfl rfl)
theorem dX6_write_60 : decode cX6_write 60 = .ok (.imul, 1) := dk_104 (dk_at dksX6_write_2 13 rfl rfl)
theorem dX6_write_61 : decode cX6_write 61 = .ok (.iload_n 2, 1) := dk_28 (dk_at dksX6_write_2 14 rfl rfl)
theorem dX6_write_62 : decode cX6_write 62 = .ok (.iadd, 1) := dk_96 (dk_at dksX6_write_2 15 rfl rfl)
theorem dX6_write_63 : decode cX6_write 63 = .ok (.aload_n 0, 1) := dk_42 (dk_at dksX6_write_2 16 rfl rfl)
theorem dX6_write_64 : decode cX6_write 64 = .ok (.getfield 25, 3) := dk_180 0 25 (dk_at dksX6_write_2 17 rfl rfl)
theorem dX6_write_67 : decode cX6_write 67 = .ok (.iload_n 1, 1) := dk_27 (dk_at dksX6_write_2 20 rfl rfl)
theorem dX6_write_68 : decode cX6_write 68 = .ok (.iaload, 1) := dk_46 (dk_at dksX6_write_2 21 rfl rfl)
theorem dX6_write_69 : decode cX6_write 69 = .ok (.iload_n 3, 1) := dk_29 (dk_at dksX6_write_2 22 rfl rfl)
theorem dX6_write_70 : decode cX6_write 70 = .ok (.invokestatic 253, 3) := dk_184 0 253 (dk_at dksX6_write_3 0 rfl rfl)
theorem dX6_write_73 : decode cX6_write 73 = .ok (.iastore, 1) := dk_79 (dk_at dksX6_write_3 3 rfl rfl)
theorem dX6_write_74 : decode cX6_write 74 = .ok (.iconst 1, 1) := dk_4 (dk_at dksX6_write_3 4 rfl rfl)
theorem dX6_write_75 : decode cX6_write 75 = .ok (.ireturn, 1) := dk_172 (dk_at dksX6_write_3 5 rfl rfl)
abbrev cX6_narrow : ByteArray := prog_30_method_78_code
def yX6_narrow : MethodName := ⟨RX6, "narrow", "(II)I"⟩
def dkwX6_narrow_0 : List UInt8 := [26, 16, 8, 160, 0, 8, 27, 145, 167, 0, 15, 26, 16, 16, 160, 0, 8, 27, 147, 167, 0, 4, 27, 172]
abbrev dktX6_narrow_0 : List UInt8 := dkwX6_narrow_0 ++ []
theorem dksX6_narrow_0 : cX6_narrow.data.toList.drop 0 = dktX6_narrow_0 := by decide +kernel
theorem dX6_narrow_0 : decode cX6_narrow 0 = .ok (.iload_n 0, 1) := dk_26 (dk_at dksX6_narrow_0 0 rfl rfl)
theorem dX6_narrow_1 : decode cX6_narrow 1 = .ok (.bipush 8, 2) := dk_16 8 (dk_at dksX6_narrow_0 1 rfl rfl)
theorem dX6_narrow_3 : decode cX6_narrow 3 = .ok (.if_icmp .ne 8, 3) := dk_160 0 8 (dk_at dksX6_narrow_0 3 rfl rfl)
theorem dX6_narrow_6 : decode cX6_narrow 6 = .ok (.iload_n 1, 1) := dk_27 (dk_at dksX6_narrow_0 6 rfl rfl)
theorem dX6_narrow_7 : decode cX6_narrow 7 = .ok (.i2b, 1) := dk_145 (dk_at dksX6_narrow_0 7 rfl rfl)
theorem dX6_narrow_8 : decode cX6_narrow 8 = .ok (.goto 15, 3) := dk_167 0 15 (dk_at dksX6_narrow_0 8 rfl rfl)
theorem dX6_narrow_11 : decode cX6_narrow 11 = .ok (.iload_n 0, 1) := dk_26 (dk_at dksX6_narrow_0 11 rfl rfl)
theorem dX6_narrow_12 : decode cX6_narrow 12 = .ok (.bipush 16, 2) := dk_16 16 (dk_at dksX6_narrow_0 12 rfl rfl)
theorem dX6_narrow_14 : decode cX6_narrow 14 = .ok (.if_icmp .ne 8, 3) := dk_160 0 8 (dk_at dksX6_narrow_0 14 rfl rfl)
theorem dX6_narrow_17 : decode cX6_narrow 17 = .ok (.iload_n 1, 1) := dk_27 (dk_at dksX6_narrow_0 17 rfl rfl)
theorem dX6_narrow_18 : decode cX6_narrow 18 = .ok (.i2s, 1) := dk_147 (dk_at dksX6_narrow_0 18 rfl rfl)
theorem dX6_narrow_19 : decode cX6_narrow 19 = .ok (.goto 4, 3) := dk_167 0 4 (dk_at dksX6_narrow_0 19 rfl rfl)
theorem dX6_narrow_22 : decode cX6_narrow 22 = .ok (.iload_n 1, 1) := dk_27 (dk_at dksX6_narrow_0 22 rfl rfl)
theorem dX6_narrow_23 : decode cX6_narrow 23 = .ok (.ireturn, 1) := dk_172 (dk_at dksX6_narrow_0 23 rfl rfl)
abbrev cX6_move : ByteArray := prog_30_method_81_code
def yX6_move : MethodName := ⟨RX6, "move", "(IIIII)I"⟩
def dkwX6_move_8 : List UInt8 := [167, 255, 224, 21, 5, 172]
abbrev dktX6_move_8 : List UInt8 := dkwX6_move_8 ++ []
def dkwX6_move_7 : List UInt8 := [180, 0, 31, 16, 40, 29, 104, 21, 4, 96, 21, 6, 96, 42, 180, 0, 34, 21, 6, 46, 79, 132, 6, 1]
abbrev dktX6_move_7 : List UInt8 := dkwX6_move_7 ++ dktX6_move_8
def dkwX6_move_6 : List UInt8 := [28, 96, 21, 6, 96, 46, 79, 132, 6, 1, 167, 255, 225, 3, 54, 6, 21, 6, 21, 5, 162, 0, 31, 42]
abbrev dktX6_move_6 : List UInt8 := dkwX6_move_6 ++ dktX6_move_7
def dkwX6_move_5 : List UInt8 := [3, 54, 6, 21, 6, 21, 5, 162, 0, 30, 42, 180, 0, 34, 21, 6, 42, 180, 0, 31, 16, 40, 27, 104]
abbrev dktX6_move_5 : List UInt8 := dkwX6_move_5 ++ dktX6_move_6
def dkwX6_move_4 : List UInt8 := [163, 0, 17, 21, 4, 42, 180, 0, 28, 29, 46, 21, 5, 100, 164, 0, 10, 42, 18, 61, 182, 0, 62, 172]
abbrev dktX6_move_4 : List UInt8 := dkwX6_move_4 ++ dktX6_move_5
def dkwX6_move_3 : List UInt8 := [155, 0, 39, 28, 155, 0, 35, 21, 4, 155, 0, 30, 28, 42, 180, 0, 28, 27, 46, 21, 5, 100]
abbrev dktX6_move_3 : List UInt8 := dkwX6_move_3 ++ dktX6_move_4
def dkwX6_move_2 : List UInt8 := [42, 180, 0, 25, 27, 46, 42, 180, 0, 25, 29, 46, 159, 0, 10, 42, 18, 109, 182, 0, 62, 172, 21, 5]
abbrev dktX6_move_2 : List UInt8 := dkwX6_move_2 ++ dktX6_move_3
def dkwX6_move_1 : List UInt8 := [180, 0, 25, 27, 46, 153, 0, 12, 42, 180, 0, 25, 29, 46, 154, 0, 10, 42, 18, 105, 182, 0, 62, 172]
abbrev dktX6_move_1 : List UInt8 := dkwX6_move_1 ++ dktX6_move_2
def dkwX6_move_0 : List UInt8 := [27, 184, 0, 217, 153, 0, 10, 29, 184, 0, 217, 154, 0, 10, 42, 18, 61, 182, 0, 62, 172, 42]
abbrev dktX6_move_0 : List UInt8 := dkwX6_move_0 ++ dktX6_move_1
theorem dksX6_move_0 : cX6_move.data.toList.drop 0 = dktX6_move_0 := by decide +kernel
theorem dksX6_move_1 : cX6_move.data.toList.drop 22 = dktX6_move_1 := dk_seg dksX6_move_0 22 rfl rfl
theorem dksX6_move_2 : cX6_move.data.toList.drop 46 = dktX6_move_2 := dk_seg dksX6_move_1 24 rfl rfl
theorem dksX6_move_3 : cX6_move.data.toList.drop 70 = dktX6_move_3 := dk_seg dksX6_move_2 24 rfl rfl
theorem dksX6_move_4 : cX6_move.data.toList.drop 92 = dktX6_move_4 := dk_seg dksX6_move_3 22 rfl rfl
theorem dksX6_move_5 : cX6_move.data.toList.drop 116 = dktX6_move_5 := dk_seg dksX6_move_4 24 rfl rfl
theorem dksX6_move_6 : cX6_move.data.toList.drop 140 = dktX6_move_6 := dk_seg dksX6_move_5 24 rfl rfl
theorem dksX6_move_7 : cX6_move.data.toList.drop 164 = dktX6_move_7 := dk_seg dksX6_move_6 24 rfl rfl
theorem dksX6_move_8 : cX6_move.data.toList.drop 188 = dktX6_move_8 := dk_seg dksX6_move_7 24 rfl rfl
theorem dX6_move_0 : decode cX6_move 0 = .ok (.iload_n 1, 1) := dk_27 (dk_at dksX6_move_0 0 rfl rfl)
theorem dX6_move_1 : decode cX6_move 1 = .ok (.invokestatic 217, 3) := dk_184 0 217 (dk_at dksX6_move_0 1 rfl rfl)
theorem dX6_move_4 : decode cX6_move 4 = .ok (.ifCond .eq 10, 3) := dk_153 0 10 (dk_at dksX6_move_0 4 rfl rfl)
theorem dX6_move_7 : decode cX6_move 7 = .ok (.iload_n 3, 1) := dk_29 (dk_at dksX6_move_0 7 rfl rfl)
theorem dX6_move_8 : decode cX6_move 8 = .ok (.invokestatic 217, 3) := dk_184 0 217 (dk_at dksX6_move_0 8 rfl rfl)
theorem dX6_move_11 : decode cX6_move 11 = .ok (.ifCond .ne 10, 3) := dk_154 0 10 (dk_at dksX6_move_0 11 rfl rfl)
theorem dX6_move_14 : decode cX6_move 14 = .ok (.aload_n 0, 1) := dk_42 (dk_at dksX6_move_0 14 rfl rfl)
theorem dX6_move_15 : decode cX6_move 15 = .ok (.ldc 61, 2) := dk_18 61 (dk_at dksX6_move_0 15 rfl rfl)
theorem dX6_move_17 : decode cX6_move 17 = .ok (.invokevirtual 62, 3) := dk_182 0 62 (dk_at dksX6_move_0 17 rfl rfl)
theorem dX6_move_20 : decode cX6_move 20 = .ok (.ireturn, 1) := dk_172 (dk_at dksX6_move_0 20 rfl rfl)
theorem dX6_move_21 : decode cX6_move 21 = .ok (.aload_n 0, 1) := dk_42 (dk_at dksX6_move_0 21 rfl rfl)
theorem dX6_move_22 : decode cX6_move 22 = .ok (.getfield 25, 3) := dk_180 0 25 (dk_at dksX6_move_1 0 rfl rfl)
theorem dX6_move_25 : decode cX6_move 25 = .ok (.iload_n 1, 1) := dk_27 (dk_at dksX6_move_1 3 rfl rfl)
theorem dX6_move_26 : decode cX6_move 26 = .ok (.iaload, 1) := dk_46 (dk_at dksX6_move_1 4 rfl rfl)
theorem dX6_move_27 : decode cX6_move 27 = .ok (.ifCond .eq 12, 3) := dk_153 0 12 (dk_at dksX6_move_1 5 rfl rfl)
theorem dX6_move_30 : decode cX6_move 30 = .ok (.aload_n 0, 1) := dk_42 (dk_at dksX6_move_1 8 rfl rfl)
theorem dX6_move_31 : decode cX6_move 31 = .ok (.getfield 25, 3) := dk_180 0 25 (dk_at dksX6_move_1 9 rfl rfl)
theorem dX6_move_34 : decode cX6_move 34 = .ok (.iload_n 3, 1) := dk_29 (dk_at dksX6_move_1 12 rfl rfl)
theorem dX6_move_35 : decode cX6_move 35 = .ok (.iaload, 1) := dk_46 (dk_at dksX6_move_1 13 rfl rfl)
theorem dX6_move_36 : decode cX6_move 36 = .ok (.ifCond .ne 10, 3) := dk_154 0 10 (dk_at dksX6_move_1 14 rfl rfl)
theorem dX6_move_39 : decode cX6_move 39 = .ok (.aload_n 0, 1) := dk_42 (dk_at dksX6_move_1 17 rfl rfl)
theorem dX6_move_40 : decode cX6_move 40 = .ok (.ldc 105, 2) := dk_18 105 (dk_at dksX6_move_1 18 rfl rfl)
theorem dX6_move_42 : decode cX6_move 42 = .ok (.invokevirtual 62, 3) := dk_182 0 62 (dk_at dksX6_move_1 20 rfl rfl)
theorem dX6_move_45 : decode cX6_move 45 = .ok (.ireturn, 1) := dk_172 (dk_at dksX6_move_1 23 rfl rfl)
theorem dX6_move_46 : decode cX6_move 46 = .ok (.aload_n 0, 1) := dk_42 (dk_at dksX6_move_2 0 rfl rfl)
theorem dX6_move_47 : decode cX6_move 47 = .ok (.getfield 25, 3) := dk_180 0 25 (dk_at dksX6_move_2 1 rfl rfl)
theorem dX6_move_50 : decode cX6_move 50 = .ok (.iload_n 1, 1) := dk_27 (dk_at dksX6_move_2 4 rfl rfl)
theorem dX6_move_51 : decode cX6_move 51 = .ok (.iaload, 1) := dk_46 (dk_at dksX6_move_2 5 rfl rfl)
theorem dX6_move_52 : decode cX6_move 52 = .ok (.aload_n 0, 1) := dk_42 (dk_at dksX6_move_2 6 rfl rfl)
theorem dX6_move_53 : decode cX6_move 53 = .ok (.getfield 25, 3) := dk_180 0 25 (dk_at dksX6_move_2 7 rfl rfl)
theorem dX6_move_56 : decode cX6_move 56 = .ok (.iload_n 3, 1) := dk_29 (dk_at dksX6_move_2 10 rfl rfl)
theorem dX6_move_57 : decode cX6_move 57 = .ok (.iaload, 1) := dk_46 (dk_at dksX6_move_2 11 rfl rfl)
theorem dX6_move_58 : decode cX6_move 58 = .ok (.if_icmp .eq 10, 3) := dk_159 0 10 (dk_at dksX6_move_2 12 rfl rfl)
theorem dX6_move_61 : decode cX6_move 61 = .ok (.aload_n 0, 1) := dk_42 (dk_at dksX6_move_2 15 rfl rfl)
theorem dX6_move_62 : decode cX6_move 62 = .ok (.ldc 109, 2) := dk_18 109 (dk_at dksX6_move_2 16 rfl rfl)
theorem dX6_move_64 : decode cX6_move 64 = .ok (.invokevirtual 62, 3) := dk_182 0 62 (dk_at dksX6_move_2 18 rfl rfl)
theorem dX6_move_67 : decode cX6_move 67 = .ok (.ireturn, 1) := dk_172 (dk_at dksX6_move_2 21 rfl rfl)
theorem dX6_move_68 : decode cX6_move 68 = .ok (.iload 5, 2) := dk_21 5 (dk_at dksX6_move_2 22 rfl rfl)
theorem dX6_move_70 : decode cX6_move 70 = .ok (.ifCond .lt 39, 3) := dk_155 0 39 (dk_at dksX6_move_3 0 rfl rfl)
theorem dX6_move_73 : decode cX6_move 73 = .ok (.iload_n 2, 1) := dk_28 (dk_at dksX6_move_3 3 rfl rfl)
theorem dX6_move_74 : decode cX6_move 74 = .ok (.ifCond .lt 35, 3) := dk_155 0 35 (dk_at dksX6_move_3 4 rfl rfl)
theorem dX6_move_77 : decode cX6_move 77 = .ok (.iload 4, 2) := dk_21 4 (dk_at dksX6_move_3 7 rfl rfl)
theorem dX6_move_79 : decode cX6_move 79 = .ok (.ifCond .lt 30, 3) := dk_155 0 30 (dk_at dksX6_move_3 9 rfl rfl)
theorem dX6_move_82 : decode cX6_move 82 = .ok (.iload_n 2, 1) := dk_28 (dk_at dksX6_move_3 12 rfl rfl)
theorem dX6_move_83 : decode cX6_move 83 = .ok (.aload_n 0, 1) := dk_42 (dk_at dksX6_move_3 13 rfl rfl)
theorem dX6_move_84 : decode cX6_move 84 = .ok (.getfield 28, 3) := dk_180 0 28 (dk_at dksX6_move_3 14 rfl rfl)
theorem dX6_move_87 : decode cX6_move 87 = .ok (.iload_n 1, 1) := dk_27 (dk_at dksX6_move_3 17 rfl rfl)
theorem dX6_move_88 : decode cX6_move 88 = .ok (.iaload, 1) := dk_46 (dk_at dksX6_move_3 18 rfl rfl)
theorem dX6_move_89 : decode cX6_move 89 = .ok (.iload 5, 2) := dk_21 5 (dk_at dksX6_move_3 19 rfl rfl)
theorem dX6_move_91 : decode cX6_move 91 = .ok (.isub, 1) := dk_100 (dk_at dksX6_move_3 21 rfl rfl)
theorem dX6_move_92 : decode cX6_move 92 = .ok (.if_icmp .gt 17, 3) := dk_163 0 17 (dk_at dksX6_move_4 0 rfl rfl)
theorem dX6_move_95 : decode cX6_move 95 = .ok (.iload 4, 2) := dk_21 4 (dk_at dksX6_move_4 3 rfl rfl)
theorem dX6_move_97 : decode cX6_move 97 = .ok (.aload_n 0, 1) := dk_42 (dk_at dksX6_move_4 5 rfl rfl)
theorem dX6_move_98 : decode cX6_move 98 = .ok (.getfield 28, 3) := dk_180 0 28 (dk_at dksX6_move_4 6 rfl rfl)
theorem dX6_move_101 : decode cX6_move 101 = .ok (.iload_n 3, 1) := dk_29 (dk_at dksX6_move_4 9 rfl rfl)
theorem dX6_move_102 : decode cX6_move 102 = .ok (.iaload, 1) := dk_46 (dk_at dksX6_move_4 10 rfl rfl)
theorem dX6_move_103 : decode cX6_move 103 = .ok (.iload 5, 2) := dk_21 5 (dk_at dksX6_move_4 11 rfl rfl)
theorem dX6_move_105 : decode cX6_move 105 = .ok (.isub, 1) := dk_100 (dk_at dksX6_move_4 13 rfl rfl)
theorem dX6_move_106 : decode cX6_move 106 = .ok (.if_icmp .le 10, 3) := dk_164 0 10 (dk_at dksX6_move_4 14 rfl rfl)
theorem dX6_move_109 : decode cX6_move 109 = .ok (.aload_n 0, 1) := dk_42 (dk_at dksX6_move_4 17 rfl rfl)
theorem dX6_move_110 : decode cX6_move 110 = .ok (.ldc 61, 2) := dk_18 61 (dk_at dksX6_move_4 18 rfl rfl)
theorem dX6_move_112 : decode cX6_move 112 = .ok (.invokevirtual 62, 3) := dk_182 0 62 (dk_at dksX6_move_4 20 rfl rfl)
theorem dX6_move_115 : decode cX6_move 115 = .ok (.ireturn, 1) := dk_172 (dk_at dksX6_move_4 23 rfl rfl)
theorem dX6_move_116 : decode cX6_move 116 = .ok (.iconst 0, 1) := dk_3 (dk_at dksX6_move_5 0 rfl rfl)
theorem dX6_move_117 : decode cX6_move 117 = .ok (.istore 6, 2) := dk_54 6 (dk_at dksX6_move_5 1 rfl rfl)
theorem dX6_move_119 : decode cX6_move 119 = .ok (.iload 6, 2) := dk_21 6 (dk_at dksX6_move_5 3 rfl rfl)
theorem dX6_move_121 : decode cX6_move 121 = .ok (.iload 5, 2) := dk_21 5 (dk_at dksX6_move_5 5 rfl rfl)
theorem dX6_move_123 : decode cX6_move 123 = .ok (.if_icmp .ge 30, 3) := dk_162 0 30 (dk_at dksX6_move_5 7 rfl rfl)
theorem dX6_move_126 : decode cX6_move 126 = .ok (.aload_n 0, 1) := dk_42 (dk_at dksX6_move_5 10 rfl rfl)
theorem dX6_move_127 : decode cX6_move 127 = .ok (.getfield 34, 3) := dk_180 0 34 (dk_at dksX6_move_5 11 rfl rfl)
theorem dX6_move_130 : decode cX6_move 130 = .ok (.iload 6, 2) := dk_21 6 (dk_at dksX6_move_5 14 rfl rfl)
theorem dX6_move_132 : decode cX6_move 132 = .ok (.aload_n 0, 1) := dk_42 (dk_at dksX6_move_5 16 rfl rfl)
theorem dX6_move_133 : decode cX6_move 133 = .ok (.getfield 31, 3) := dk_180 0 31 (dk_at dksX6_move_5 17 rfl rfl)
theorem dX6_move_136 : decode cX6_move 136 = .ok (.bipush 40, 2) := dk_16 40 (dk_at dksX6_move_5 20 rfl rfl)
theorem dX6_move_138 : decode cX6_move 138 = .ok (.iload_n 1, 1) := dk_27 (dk_at dksX6_move_5 22 rfl rfl)
theorem dX6_move_139 : decode cX6_move 139 = .ok (.imul, 1) := dk_104 (dk_at dksX6_move_5 23 rfl rfl)
theorem dX6_move_140 : decode cX6_move 140 = .ok (.iload_n 2, 1) := dk_28 (dk_at dksX6_move_6 0 rfl rfl)
theorem dX6_move_141 : decode cX6_move 141 = .ok (.iadd, 1) := dk_96 (dk_at dksX6_move_6 1 rfl rfl)
theorem dX6_move_142 : decode cX6_move 142 = .ok (.iload 6, 2) := dk_21 6 (dk_at dksX6_move_6 2 rfl rfl)
theorem dX6_move_144 : decode cX6_move 144 = .ok (.iadd, 1) := dk_96 (dk_at dksX6_move_6 4 rfl rfl)
theorem dX6_move_145 : decode cX6_move 145 = .ok (.iaload, 1) := dk_46 (dk_at dksX6_move_6 5 rfl rfl)
theorem dX6_move_146 : decode cX6_move 146 = .ok (.iastore, 1) := dk_79 (dk_at dksX6_move_6 6 rfl rfl)
theorem dX6_move_147 : decode cX6_move 147 = .ok (.iinc 6 1, 3) := dk_132 6 1 (dk_at dksX6_move_6 7 rfl rfl)
theorem dX6_move_150 : decode cX6_move 150 = .ok (.goto (-31), 3) := dk_167 255 225 (dk_at dksX6_move_6 10 rfl rfl)
theorem dX6_move_153 : decode cX6_move 153 = .ok (.iconst 0, 1) := dk_3 (dk_at dksX6_move_6 13 rfl rfl)
theorem dX6_move_154 : decode cX6_move 154 = .ok (.istore 6, 2) := dk_54 6 (dk_at dksX6_move_6 14 rfl rfl)
theorem dX6_move_156 : decode cX6_move 156 = .ok (.iload 6, 2) := dk_21 6 (dk_at dksX6_move_6 16 rfl rfl)
theorem dX6_move_158 : decode cX6_move 158 = .ok (.iload 5, 2) := dk_21 5 (dk_at dksX6_move_6 18 rfl rfl)
theorem dX6_move_160 : decode cX6_move 160 = .ok (.if_icmp .ge 31, 3) := dk_162 0 31 (dk_at dksX6_move_6 20 rfl rfl)
theorem dX6_move_163 : decode cX6_move 163 = .ok (.aload_n 0, 1) := dk_42 (dk_at dksX6_move_6 23 rfl rfl)
theorem dX6_move_164 : decode cX6_move 164 = .ok (.getfield 31, 3) := dk_180 0 31 (dk_at dksX6_move_7 0 rfl rfl)
theorem dX6_move_167 : decode cX6_move 167 = .ok (.bipush 40, 2) := dk_16 40 (dk_at dksX6_move_7 3 rfl rfl)
theorem dX6_move_169 : decode cX6_move 169 = .ok (.iload_n 3, 1) := dk_29 (dk_at dksX6_move_7 5 rfl rfl)
theorem dX6_move_170 : decode cX6_move 170 = .ok (.imul, 1) := dk_104 (dk_at dksX6_move_7 6 rfl rfl)
theorem dX6_move_171 : decode cX6_move 171 = .ok (.iload 4, 2) := dk_21 4 (dk_at dksX6_move_7 7 rfl rfl)
theorem dX6_move_173 : decode cX6_move 173 = .ok (.iadd, 1) := dk_96 (dk_at dksX6_move_7 9 rfl rfl)
theorem dX6_move_174 : decode cX6_move 174 = .ok (.iload 6, 2) := dk_21 6 (dk_at dksX6_move_7 10 rfl rfl)
theorem dX6_move_176 : decode cX6_move 176 = .ok (.iadd, 1) := dk_96 (dk_at dksX6_move_7 12 rfl rfl)
theorem dX6_move_177 : decode cX6_move 177 = .ok (.aload_n 0, 1) := dk_42 (dk_at dksX6_move_7 13 rfl rfl)
theorem dX6_move_178 : decode cX6_move 178 = .ok (.getfield 34, 3) := dk_180 0 34 (dk_at dksX6_move_7 14 rfl rfl)
theorem dX6_move_181 : decode cX6_move 181 = .ok (.iload 6, 2) := dk_21 6 (dk_at dksX6_move_7 17 rfl rfl)
theorem dX6_move_183 : decode cX6_move 183 = .ok (.iaload, 1) := dk_46 (dk_at dksX6_move_7 19 rfl rfl)
theorem dX6_move_184 : decode cX6_move 184 = .ok (.iastore, 1) := dk_79 (dk_at dksX6_move_7 20 rfl rfl)
theorem dX6_move_185 : decode cX6_move 185 = .ok (.iinc 6 1, 3) := dk_132 6 1 (dk_at dksX6_move_7 21 rfl rfl)
theorem dX6_move_188 : decode cX6_move 188 = .ok (.goto (-32), 3) := dk_167 255 224 (dk_at dksX6_move_8 0 rfl rfl)
theorem dX6_move_191 : decode cX6_move 191 = .ok (.iload 5, 2) := dk_21 5 (dk_at dksX6_move_8 3 rfl rfl)
theorem dX6_move_193 : decode cX6_move 193 = .ok (.ireturn, 1) := dk_172 (dk_at dksX6_move_8 5 rfl rfl)
abbrev cX6_marks : ByteArray := prog_30_method_82_code
def yX6_marks : MethodName := ⟨RX6, "marks", "(I)I"⟩
def dkwX6_marks_3 : List UInt8 := [16, 8, 28, 96, 42, 180, 0, 31, 16, 40, 27, 104, 28, 96, 46, 79, 132, 2, 1, 167, 255, 197, 28, 172]
abbrev dktX6_marks_3 : List UInt8 := dkwX6_marks_3 ++ []
def dkwX6_marks_2 : List UInt8 := [42, 180, 0, 31, 16, 40, 27, 104, 28, 96, 46, 3, 16, 9, 184, 0, 53, 153, 0, 29, 42, 180, 0, 7]
abbrev dktX6_marks_2 : List UInt8 := dkwX6_marks_2 ++ dktX6_marks_3
def dkwX6_marks_1 : List UInt8 := [18, 105, 182, 0, 62, 172, 3, 61, 28, 42, 180, 0, 28, 27, 46, 162, 0, 55, 28, 16, 25, 162, 0, 49]
abbrev dktX6_marks_1 : List UInt8 := dkwX6_marks_1 ++ dktX6_marks_2
def dkwX6_marks_0 : List UInt8 := [27, 184, 0, 217, 154, 0, 10, 42, 18, 61, 182, 0, 62, 172, 42, 180, 0, 25, 27, 46, 154, 0, 10, 42]
abbrev dktX6_marks_0 : List UInt8 := dkwX6_marks_0 ++ dktX6_marks_1
theorem dksX6_marks_0 : cX6_marks.data.toList.drop 0 = dktX6_marks_0 := by decide +kernel
theorem dksX6_marks_1 : cX6_marks.data.toList.drop 24 = dktX6_marks_1 := dk_seg dksX6_marks_0 24 rfl rfl
theorem dksX6_marks_2 : cX6_marks.data.toList.drop 48 = dktX6_marks_2 := dk_seg dksX6_marks_1 24 rfl rfl
theorem dksX6_marks_3 : cX6_marks.data.toList.drop 72 = dktX6_marks_3 := dk_seg dksX6_marks_2 24 rfl rfl
theorem dX6_marks_0 : decode cX6_marks 0 = .ok (.iload_n 1, 1) := dk_27 (dk_at dksX6_marks_0 0 rfl rfl)
theorem dX6_marks_1 : decode cX6_marks 1 = .ok (.invokestatic 217, 3) := dk_184 0 217 (dk_at dksX6_marks_0 1 rfl rfl)
theorem dX6_marks_4 : decode cX6_marks 4 = .ok (.ifCond .ne 10, 3) := dk_154 0 10 (dk_at dksX6_marks_0 4 rfl rfl)
theorem dX6_marks_7 : decode cX6_marks 7 = .ok (.aload_n 0, 1) := dk_42 (dk_at dksX6_marks_0 7 rfl rfl)
theorem dX6_marks_8 : decode cX6_marks 8 = .ok (.ldc 61, 2) := dk_18 61 (dk_at dksX6_marks_0 8 rfl rfl)
theorem dX6_marks_10 : decode cX6_marks 10 = .ok (.invokevirtual 62, 3) := dk_182 0 62 (dk_at dksX6_marks_0 10 rfl rfl)
theorem dX6_marks_13 : decode cX6_marks 13 = .ok (.ireturn, 1) := dk_172 (dk_at dksX6_marks_0 13 rfl rfl)
theorem dX6_marks_14 : decode cX6_marks 14 = .ok (.aload_n 0, 1) := dk_42 (dk_at dksX6_marks_0 14 rfl rfl)
theorem dX6_marks_15 : decode cX6_marks 15 = .ok (.getfield 25, 3) := dk_180 0 25 (dk_at dksX6_marks_0 15 rfl rfl)
theorem dX6_marks_18 : decode cX6_marks 18 = .ok (.iload_n 1, 1) := dk_27 (dk_at dksX6_marks_0 18 rfl rfl)
theorem dX6_marks_19 : decode cX6_marks 19 = .ok (.iaload, 1) := dk_46 (dk_at dksX6_marks_0 19 rfl rfl)
theorem dX6_marks_20 : decode cX6_marks 20 = .ok (.ifCond .ne 10, 3) := dk_154 0 10 (dk_at dksX6_marks_0 20 rfl rfl)
theorem dX6_marks_23 : decode cX6_marks 23 = .ok (.aload_n 0, 1) := dk_42 (dk_at dksX6_marks_0 23 rfl rfl)
theorem dX6_marks_24 : decode cX6_marks 24 = .ok (.ldc 105, 2) := dk_18 105 (dk_at dksX6_marks_1 0 rfl rfl)
theorem dX6_marks_26 : decode cX6_marks 26 = .ok (.invokevirtual 62, 3) := dk_182 0 62 (dk_at dksX6_marks_1 2 rfl rfl)
theorem dX6_marks_29 : decode cX6_marks 29 = .ok (.ireturn, 1) := dk_172 (dk_at dksX6_marks_1 5 rfl rfl)
theorem dX6_marks_30 : decode cX6_marks 30 = .ok (.iconst 0, 1) := dk_3 (dk_at dksX6_marks_1 6 rfl rfl)
theorem dX6_marks_31 : decode cX6_marks 31 = .ok (.istore_n 2, 1) := dk_61 (dk_at dksX6_marks_1 7 rfl rfl)
theorem dX6_marks_32 : decode cX6_marks 32 = .ok (.iload_n 2, 1) := dk_28 (dk_at dksX6_marks_1 8 rfl rfl)
theorem dX6_marks_33 : decode cX6_marks 33 = .ok (.aload_n 0, 1) := dk_42 (dk_at dksX6_marks_1 9 rfl rfl)
theorem dX6_marks_34 : decode cX6_marks 34 = .ok (.getfield 28, 3) := dk_180 0 28 (dk_at dksX6_marks_1 10 rfl rfl)
theorem dX6_marks_37 : decode cX6_marks 37 = .ok (.iload_n 1, 1) := dk_27 (dk_at dksX6_marks_1 13 rfl rfl)
theorem dX6_marks_38 : decode cX6_marks 38 = .ok (.iaload, 1) := dk_46 (dk_at dksX6_marks_1 14 rfl rfl)
theorem dX6_marks_39 : decode cX6_marks 39 = .ok (.if_icmp .ge 55, 3) := dk_162 0 55 (dk_at dksX6_marks_1 15 rfl rfl)
theorem dX6_marks_42 : decode cX6_marks 42 = .ok (.iload_n 2, 1) := dk_28 (dk_at dksX6_marks_1 18 rfl rfl)
theorem dX6_marks_43 : decode cX6_marks 43 = .ok (.bipush 25, 2) := dk_16 25 (dk_at dksX6_marks_1 19 rfl rfl)
theorem dX6_marks_45 : decode cX6_marks 45 = .ok (.if_icmp .ge 49, 3) := dk_162 0 49 (dk_at dksX6_marks_1 21 rfl rfl)
theorem dX6_marks_48 : decode cX6_marks 48 = .ok (.aload_n 0, 1) := dk_42 (dk_at dksX6_marks_2 0 rfl rfl)
theorem dX6_marks_49 : decode cX6_marks 49 = .ok (.getfield 31, 3) := dk_180 0 31 (dk_at dksX6_marks_2 1 rfl rfl)
theorem dX6_marks_52 : decode cX6_marks 52 = .ok (.bipush 40, 2) := dk_16 40 (dk_at dksX6_marks_2 4 rfl rfl)
theorem dX6_marks_54 : decode cX6_marks 54 = .ok (.iload_n 1, 1) := dk_27 (dk_at dksX6_marks_2 6 rfl rfl)
theorem dX6_marks_55 : decode cX6_marks 55 = .ok (.imul, 1) := dk_104 (dk_at dksX6_marks_2 7 rfl rfl)
theorem dX6_marks_56 : decode cX6_marks 56 = .ok (.iload_n 2, 1) := dk_28 (dk_at dksX6_marks_2 8 rfl rfl)
theorem dX6_marks_57 : decode cX6_marks 57 = .ok (.iadd, 1) := dk_96 (dk_at dksX6_marks_2 9 rfl rfl)
theorem dX6_marks_58 : decode cX6_marks 58 = .ok (.iaload, 1) := dk_46 (dk_at dksX6_marks_2 10 rfl rfl)
theorem dX6_marks_59 : decode cX6_marks 59 = .ok (.iconst 0, 1) := dk_3 (dk_at dksX6_marks_2 11 rfl rfl)
theorem dX6_marks_60 : decode cX6_marks 60 = .ok (.bipush 9, 2) := dk_16 9 (dk_at dksX6_marks_2 12 rfl rfl)
theorem dX6_marks_62 : decode cX6_marks 62 = .ok (.invokestatic 53, 3) := dk_184 0 53 (dk_at dksX6_marks_2 14 rfl rfl)
theorem dX6_marks_65 : decode cX6_marks 65 = .ok (.ifCond .eq 29, 3) := dk_153 0 29 (dk_at dksX6_marks_2 17 rfl rfl)
theorem dX6_marks_68 : decode cX6_marks 68 = .ok (.aload_n 0, 1) := dk_42 (dk_at dksX6_marks_2 20 rfl rfl)
theorem dX6_marks_69 : decode cX6_marks 69 = .ok (.getfield 7, 3) := dk_180 0 7 (dk_at dksX6_marks_2 21 rfl rfl)
theorem dX6_marks_72 : decode cX6_marks 72 = .ok (.bipush 8, 2) := dk_16 8 (dk_at dksX6_marks_3 0 rfl rfl)
theorem dX6_marks_74 : decode cX6_marks 74 = .ok (.iload_n 2, 1) := dk_28 (dk_at dksX6_marks_3 2 rfl rfl)
theorem dX6_marks_75 : decode cX6_marks 75 = .ok (.iadd, 1) := dk_96 (dk_at dksX6_marks_3 3 rfl rfl)
theorem dX6_marks_76 : decode cX6_marks 76 = .ok (.aload_n 0, 1) := dk_42 (dk_at dksX6_marks_3 4 rfl rfl)
theorem dX6_marks_77 : decode cX6_marks 77 = .ok (.getfield 31, 3) := dk_180 0 31 (dk_at dksX6_marks_3 5 rfl rfl)
theorem dX6_marks_80 : decode cX6_marks 80 = .ok (.bipush 40, 2) := dk_16 40 (dk_at dksX6_marks_3 8 rfl rfl)
theorem dX6_marks_82 : decode cX6_marks 82 = .ok (.iload_n 1, 1) := dk_27 (dk_at dksX6_marks_3 10 rfl rfl)
theorem dX6_marks_83 : decode cX6_marks 83 = .ok (.imul, 1) := dk_104 (dk_at dksX6_marks_3 11 rfl rfl)
theorem dX6_marks_84 : decode cX6_marks 84 = .ok (.iload_n 2, 1) := dk_28 (dk_at dksX6_marks_3 12 rfl rfl)
theorem dX6_marks_85 : decode cX6_marks 85 = .ok (.iadd, 1) := dk_96 (dk_at dksX6_marks_3 13 rfl rfl)
theorem dX6_marks_86 : decode cX6_marks 86 = .ok (.iaload, 1) := dk_46 (dk_at dksX6_marks_3 14 rfl rfl)
theorem dX6_marks_87 : decode cX6_marks 87 = .ok (.iastore, 1) := dk_79 (dk_at dksX6_marks_3 15 rfl rfl)
theorem dX6_marks_88 : decode cX6_marks 88 = .ok (.iinc 2 1, 3) := dk_132 2 1 (dk_at dksX6_marks_3 16 rfl rfl)
theorem dX6_marks_91 : decode cX6_marks 91 = .ok (.goto (-59), 3) := dk_167 255 197 (dk_at dksX6_marks_3 19 rfl rfl)
theorem dX6_marks_94 : decode cX6_marks 94 = .ok (.iload_n 2, 1) := dk_28 (dk_at dksX6_marks_3 22 rfl rfl)
theorem dX6_marks_95 : decode cX6_marks 95 = .ok (.ireturn, 1) := dk_172 (dk_at dksX6_marks_3 23 rfl rfl)
abbrev cX6_judge : ByteArray := prog_30_method_83_code
def yX6_judge : MethodName := ⟨RX6, "judge", "(II)I"⟩
def dkwX6_judge_4 : List UInt8 := [160, 0, 17, 29, 42, 28, 6, 182, 0, 69, 160, 0, 7, 2, 167, 0, 4, 29, 172]
abbrev dktX6_judge_4 : List UInt8 := dkwX6_judge_4 ++ []
def dkwX6_judge_3 : List UInt8 := [42, 28, 7, 29, 96, 182, 0, 69, 160, 0, 9, 132, 3, 1, 167, 255, 211, 29, 42, 180, 0, 28, 27, 46]
abbrev dktX6_judge_3 : List UInt8 := dkwX6_judge_3 ++ dktX6_judge_4
def dkwX6_judge_2 : List UInt8 := [162, 0, 41, 29, 42, 28, 6, 182, 0, 69, 162, 0, 31, 42, 180, 0, 31, 16, 40, 27, 104, 29, 96, 46]
abbrev dktX6_judge_2 : List UInt8 := dkwX6_judge_2 ++ dktX6_judge_3
def dkwX6_judge_1 : List UInt8 := [180, 0, 25, 27, 46, 154, 0, 10, 42, 18, 105, 182, 0, 62, 172, 3, 62, 29, 42, 180, 0, 28, 27, 46]
abbrev dktX6_judge_1 : List UInt8 := dkwX6_judge_1 ++ dktX6_judge_2
def dkwX6_judge_0 : List UInt8 := [27, 184, 0, 217, 153, 0, 11, 42, 28, 182, 0, 93, 154, 0, 10, 42, 18, 61, 182, 0, 62, 172, 42]
abbrev dktX6_judge_0 : List UInt8 := dkwX6_judge_0 ++ dktX6_judge_1
theorem dksX6_judge_0 : cX6_judge.data.toList.drop 0 = dktX6_judge_0 := by decide +kernel
theorem dksX6_judge_1 : cX6_judge.data.toList.drop 23 = dktX6_judge_1 := dk_seg dksX6_judge_0 23 rfl rfl
theorem dksX6_judge_2 : cX6_judge.data.toList.drop 47 = dktX6_judge_2 := dk_seg dksX6_judge_1 24 rfl rfl
theorem dksX6_judge_3 : cX6_judge.data.toList.drop 71 = dktX6_judge_3 := dk_seg dksX6_judge_2 24 rfl rfl
theorem dksX6_judge_4 : cX6_judge.data.toList.drop 95 = dktX6_judge_4 := dk_seg dksX6_judge_3 24 rfl rfl
theorem dX6_judge_0 : decode cX6_judge 0 = .ok (.iload_n 1, 1) := dk_27 (dk_at dksX6_judge_0 0 rfl rfl)
theorem dX6_judge_1 : decode cX6_judge 1 = .ok (.invokestatic 217, 3) := dk_184 0 217 (dk_at dksX6_judge_0 1 rfl rfl)
theorem dX6_judge_4 : decode cX6_judge 4 = .ok (.ifCond .eq 11, 3) := dk_153 0 11 (dk_at dksX6_judge_0 4 rfl rfl)
theorem dX6_judge_7 : decode cX6_judge 7 = .ok (.aload_n 0, 1) := dk_42 (dk_at dksX6_judge_0 7 rfl rfl)
theorem dX6_judge_8 : decode cX6_judge 8 = .ok (.iload_n 2, 1) := dk_28 (dk_at dksX6_judge_0 8 rfl rfl)
theorem dX6_judge_9 : decode cX6_judge 9 = .ok (.invokevirtual 93, 3) := dk_182 0 93 (dk_at dksX6_judge_0 9 rfl rfl)
theorem dX6_judge_12 : decode cX6_judge 12 = .ok (.ifCond .ne 10, 3) := dk_154 0 10 (dk_at dksX6_judge_0 12 rfl rfl)
theorem dX6_judge_15 : decode cX6_judge 15 = .ok (.aload_n 0, 1) := dk_42 (dk_at dksX6_judge_0 15 rfl rfl)
theorem dX6_judge_16 : decode cX6_judge 16 = .ok (.ldc 61, 2) := dk_18 61 (dk_at dksX6_judge_0 16 rfl rfl)
theorem dX6_judge_18 : decode cX6_judge 18 = .ok (.invokevirtual 62, 3) := dk_182 0 62 (dk_at dksX6_judge_0 18 rfl rfl)
theorem dX6_judge_21 : decode cX6_judge 21 = .ok (.ireturn, 1) := dk_172 (dk_at dksX6_judge_0 21 rfl rfl)
theorem dX6_judge_22 : decode cX6_judge 22 = .ok (.aload_n 0, 1) := dk_42 (dk_at dksX6_judge_0 22 rfl rfl)
theorem dX6_judge_23 : decode cX6_judge 23 = .ok (.getfield 25, 3) := dk_180 0 25 (dk_at dksX6_judge_1 0 rfl rfl)
theorem dX6_judge_26 : decode cX6_judge 26 = .ok (.iload_n 1, 1) := dk_27 (dk_at dksX6_judge_1 3 rfl rfl)
theorem dX6_judge_27 : decode cX6_judge 27 = .ok (.iaload, 1) := dk_46 (dk_at dksX6_judge_1 4 rfl rfl)
theorem dX6_judge_28 : decode cX6_judge 28 = .ok (.ifCond .ne 10, 3) := dk_154 0 10 (dk_at dksX6_judge_1 5 rfl rfl)
theorem dX6_judge_31 : decode cX6_judge 31 = .ok (.aload_n 0, 1) := dk_42 (dk_at dksX6_judge_1 8 rfl rfl)
theorem dX6_judge_32 : decode cX6_judge 32 = .ok (.ldc 105, 2) := dk_18 105 (dk_at dksX6_judge_1 9 rfl rfl)
theorem dX6_judge_34 : decode cX6_judge 34 = .ok (.invokevirtual 62, 3) := dk_182 0 62 (dk_at dksX6_judge_1 11 rfl rfl)
theorem dX6_judge_37 : decode cX6_judge 37 = .ok (.ireturn, 1) := dk_172 (dk_at dksX6_judge_1 14 rfl rfl)
theorem dX6_judge_38 : decode cX6_judge 38 = .ok (.iconst 0, 1) := dk_3 (dk_at dksX6_judge_1 15 rfl rfl)
theorem dX6_judge_39 : decode cX6_judge 39 = .ok (.istore_n 3, 1) := dk_62 (dk_at dksX6_judge_1 16 rfl rfl)
theorem dX6_judge_40 : decode cX6_judge 40 = .ok (.iload_n 3, 1) := dk_29 (dk_at dksX6_judge_1 17 rfl rfl)
theorem dX6_judge_41 : decode cX6_judge 41 = .ok (.aload_n 0, 1) := dk_42 (dk_at dksX6_judge_1 18 rfl rfl)
theorem dX6_judge_42 : decode cX6_judge 42 = .ok (.getfield 28, 3) := dk_180 0 28 (dk_at dksX6_judge_1 19 rfl rfl)
theorem dX6_judge_45 : decode cX6_judge 45 = .ok (.iload_n 1, 1) := dk_27 (dk_at dksX6_judge_1 22 rfl rfl)
theorem dX6_judge_46 : decode cX6_judge 46 = .ok (.iaload, 1) := dk_46 (dk_at dksX6_judge_1 23 rfl rfl)
theorem dX6_judge_47 : decode cX6_judge 47 = .ok (.if_icmp .ge 41, 3) := dk_162 0 41 (dk_at dksX6_judge_2 0 rfl rfl)
theorem dX6_judge_50 : decode cX6_judge 50 = .ok (.iload_n 3, 1) := dk_29 (dk_at dksX6_judge_2 3 rfl rfl)
theorem dX6_judge_51 : decode cX6_judge 51 = .ok (.aload_n 0, 1) := dk_42 (dk_at dksX6_judge_2 4 rfl rfl)
theorem dX6_judge_52 : decode cX6_judge 52 = .ok (.iload_n 2, 1) := dk_28 (dk_at dksX6_judge_2 5 rfl rfl)
theorem dX6_judge_53 : decode cX6_judge 53 = .ok (.iconst 3, 1) := dk_6 (dk_at dksX6_judge_2 6 rfl rfl)
theorem dX6_judge_54 : decode cX6_judge 54 = .ok (.invokevirtual 69, 3) := dk_182 0 69 (dk_at dksX6_judge_2 7 rfl rfl)
theorem dX6_judge_57 : decode cX6_judge 57 = .ok (.if_icmp .ge 31, 3) := dk_162 0 31 (dk_at dksX6_judge_2 10 rfl rfl)
theorem dX6_judge_60 : decode cX6_judge 60 = .ok (.aload_n 0, 1) := dk_42 (dk_at dksX6_judge_2 13 rfl rfl)
theorem dX6_judge_61 : decode cX6_judge 61 = .ok (.getfield 31, 3) := dk_180 0 31 (dk_at dksX6_judge_2 14 rfl rfl)
theorem dX6_judge_64 : decode cX6_judge 64 = .ok (.bipush 40, 2) := dk_16 40 (dk_at dksX6_judge_2 17 rfl rfl)
theorem dX6_judge_66 : decode cX6_judge 66 = .ok (.iload_n 1, 1) := dk_27 (dk_at dksX6_judge_2 19 rfl rfl)
theorem dX6_judge_67 : decode cX6_judge 67 = .ok (.imul, 1) := dk_104 (dk_at dksX6_judge_2 20 rfl rfl)
theorem dX6_judge_68 : decode cX6_judge 68 = .ok (.iload_n 3, 1) := dk_29 (dk_at dksX6_judge_2 21 rfl rfl)
theorem dX6_judge_69 : decode cX6_judge 69 = .ok (.iadd, 1) := dk_96 (dk_at dksX6_judge_2 22 rfl rfl)
theorem dX6_judge_70 : decode cX6_judge 70 = .ok (.iaload, 1) := dk_46 (dk_at dksX6_judge_2 23 rfl rfl)
theorem dX6_judge_71 : decode cX6_judge 71 = .ok (.aload_n 0, 1) := dk_42 (dk_at dksX6_judge_3 0 rfl rfl)
theorem dX6_judge_72 : decode cX6_judge 72 = .ok (.iload_n 2, 1) := dk_28 (dk_at dksX6_judge_3 1 rfl rfl)
theorem dX6_judge_73 : decode cX6_judge 73 = .ok (.iconst 4, 1) := dk_7 (dk_at dksX6_judge_3 2 rfl rfl)
theorem dX6_judge_74 : decode cX6_judge 74 = .ok (.iload_n 3, 1) := dk_29 (dk_at dksX6_judge_3 3 rfl rfl)
theorem dX6_judge_75 : decode cX6_judge 75 = .ok (.iadd, 1) := dk_96 (dk_at dksX6_judge_3 4 rfl rfl)
theorem dX6_judge_76 : decode cX6_judge 76 = .ok (.invokevirtual 69, 3) := dk_182 0 69 (dk_at dksX6_judge_3 5 rfl rfl)
theorem dX6_judge_79 : decode cX6_judge 79 = .ok (.if_icmp .ne 9, 3) := dk_160 0 9 (dk_at dksX6_judge_3 8 rfl rfl)
theorem dX6_judge_82 : decode cX6_judge 82 = .ok (.iinc 3 1, 3) := dk_132 3 1 (dk_at dksX6_judge_3 11 rfl rfl)
theorem dX6_judge_85 : decode cX6_judge 85 = .ok (.goto (-45), 3) := dk_167 255 211 (dk_at dksX6_judge_3 14 rfl rfl)
theorem dX6_judge_88 : decode cX6_judge 88 = .ok (.iload_n 3, 1) := dk_29 (dk_at dksX6_judge_3 17 rfl rfl)
theorem dX6_judge_89 : decode cX6_judge 89 = .ok (.aload_n 0, 1) := dk_42 (dk_at dksX6_judge_3 18 rfl rfl)
theorem dX6_judge_90 : decode cX6_judge 90 = .ok (.getfield 28, 3) := dk_180 0 28 (dk_at dksX6_judge_3 19 rfl rfl)
theorem dX6_judge_93 : decode cX6_judge 93 = .ok (.iload_n 1, 1) := dk_27 (dk_at dksX6_judge_3 22 rfl rfl)
theorem dX6_judge_94 : decode cX6_judge 94 = .ok (.iaload, 1) := dk_46 (dk_at dksX6_judge_3 23 rfl rfl)
theorem dX6_judge_95 : decode cX6_judge 95 = .ok (.if_icmp .ne 17, 3) := dk_160 0 17 (dk_at dksX6_judge_4 0 rfl rfl)
theorem dX6_judge_98 : decode cX6_judge 98 = .ok (.iload_n 3, 1) := dk_29 (dk_at dksX6_judge_4 3 rfl rfl)
theorem dX6_judge_99 : decode cX6_judge 99 = .ok (.aload_n 0, 1) := dk_42 (dk_at dksX6_judge_4 4 rfl rfl)
theorem dX6_judge_100 : decode cX6_judge 100 = .ok (.iload_n 2, 1) := dk_28 (dk_at dksX6_judge_4 5 rfl rfl)
theorem dX6_judge_101 : decode cX6_judge 101 = .ok (.iconst 3, 1) := dk_6 (dk_at dksX6_judge_4 6 rfl rfl)
theorem dX6_judge_102 : decode cX6_judge 102 = .ok (.invokevirtual 69, 3) := dk_182 0 69 (dk_at dksX6_judge_4 7 rfl rfl)
theorem dX6_judge_105 : decode cX6_judge 105 = .ok (.if_icmp .ne 7, 3) := dk_160 0 7 (dk_at dksX6_judge_4 10 rfl rfl)
theorem dX6_judge_108 : decode cX6_judge 108 = .ok (.iconst (-1), 1) := dk_2 (dk_at dksX6_judge_4 13 rfl rfl)
theorem dX6_judge_109 : decode cX6_judge 109 = .ok (.goto 4, 3) := dk_167 0 4 (dk_at dksX6_judge_4 14 rfl rfl)
theorem dX6_judge_112 : decode cX6_judge 112 = .ok (.iload_n 3, 1) := dk_29 (dk_at dksX6_judge_4 17 rfl rfl)
theorem dX6_judge_113 : decode cX6_judge 113 = .ok (.ireturn, 1) := dk_172 (dk_at dksX6_judge_4 18 rfl rfl)
abbrev cX6_image : ByteArray := prog_30_method_84_code
def yX6_image : MethodName := ⟨RX6, "image", "()I"⟩
def dkwX6_image_1 : List UInt8 := [181, 1, 3, 42, 180, 1, 3, 172]
abbrev dktX6_image_1 : List UInt8 := dkwX6_image_1 ++ []
def dkwX6_image_0 : List UInt8 := [42, 42, 180, 0, 7, 42, 180, 0, 13, 182, 0, 178, 42, 4, 181, 1, 0, 42, 89, 180, 1, 3, 4, 96]
abbrev dktX6_image_0 : List UInt8 := dkwX6_image_0 ++ dktX6_image_1
theorem dksX6_image_0 : cX6_image.data.toList.drop 0 = dktX6_image_0 := by decide +kernel
theorem dksX6_image_1 : cX6_image.data.toList.drop 24 = dktX6_image_1 := dk_seg dksX6_image_0 24 rfl rfl
theorem dX6_image_0 : decode cX6_image 0 = .ok (.aload_n 0, 1) := dk_42 (dk_at dksX6_image_0 0 rfl rfl)
theorem dX6_image_1 : decode cX6_image 1 = .ok (.aload_n 0, 1) := dk_42 (dk_at dksX6_image_0 1 rfl rfl)
theorem dX6_image_2 : decode cX6_image 2 = .ok (.getfield 7, 3) := dk_180 0 7 (dk_at dksX6_image_0 2 rfl rfl)
theorem dX6_image_5 : decode cX6_image 5 = .ok (.aload_n 0, 1) := dk_42 (dk_at dksX6_image_0 5 rfl rfl)
theorem dX6_image_6 : decode cX6_image 6 = .ok (.getfield 13, 3) := dk_180 0 13 (dk_at dksX6_image_0 6 rfl rfl)
theorem dX6_image_9 : decode cX6_image 9 = .ok (.invokevirtual 178, 3) := dk_182 0 178 (dk_at dksX6_image_0 9 rfl rfl)
theorem dX6_image_12 : decode cX6_image 12 = .ok (.aload_n 0, 1) := dk_42 (dk_at dksX6_image_0 12 rfl rfl)
theorem dX6_image_13 : decode cX6_image 13 = .ok (.iconst 1, 1) := dk_4 (dk_at dksX6_image_0 13 rfl rfl)
theorem dX6_image_14 : decode cX6_image 14 = .ok (.putfield 256, 3) := dk_181 1 0 (dk_at dksX6_image_0 14 rfl rfl)
theorem dX6_image_17 : decode cX6_image 17 = .ok (.aload_n 0, 1) := dk_42 (dk_at dksX6_image_0 17 rfl rfl)
theorem dX6_image_18 : decode cX6_image 18 = .ok (.dup, 1) := dk_89 (dk_at dksX6_image_0 18 rfl rfl)
theorem dX6_image_19 : decode cX6_image 19 = .ok (.getfield 259, 3) := dk_180 1 3 (dk_at dksX6_image_0 19 rfl rfl)
theorem dX6_image_22 : decode cX6_image 22 = .ok (.iconst 1, 1) := dk_4 (dk_at dksX6_image_0 22 rfl rfl)
theorem dX6_image_23 : decode cX6_image 23 = .ok (.iadd, 1) := dk_96 (dk_at dksX6_image_0 23 rfl rfl)
theorem dX6_image_24 : decode cX6_image 24 = .ok (.putfield 259, 3) := dk_181 1 3 (dk_at dksX6_image_1 0 rfl rfl)
theorem dX6_image_27 : decode cX6_image 27 = .ok (.aload_n 0, 1) := dk_42 (dk_at dksX6_image_1 3 rfl rfl)
theorem dX6_image_28 : decode cX6_image 28 = .ok (.getfield 259, 3) := dk_180 1 3 (dk_at dksX6_image_1 4 rfl rfl)
theorem dX6_image_31 : decode cX6_image 31 = .ok (.ireturn, 1) := dk_172 (dk_at dksX6_image_1 7 rfl rfl)
abbrev cX6_restore : ByteArray := prog_30_method_85_code
def yX6_restore : MethodName := ⟨RX6, "restore", "()I"⟩
def dkwX6_restore_1 : List UInt8 := [182, 0, 178, 42, 180, 0, 7, 3, 46, 172]
abbrev dktX6_restore_1 : List UInt8 := dkwX6_restore_1 ++ []
def dkwX6_restore_0 : List UInt8 := [42, 180, 1, 0, 154, 0, 10, 42, 18, 105, 182, 0, 62, 172, 42, 42, 180, 0, 13, 42, 180, 0, 7]
abbrev dktX6_restore_0 : List UInt8 := dkwX6_restore_0 ++ dktX6_restore_1
theorem dksX6_restore_0 : cX6_restore.data.toList.drop 0 = dktX6_restore_0 := by decide +kernel
theorem dksX6_restore_1 : cX6_restore.data.toList.drop 23 = dktX6_restore_1 := dk_seg dksX6_restore_0 23 rfl rfl
theorem dX6_restore_0 : decode cX6_restore 0 = .ok (.aload_n 0, 1) := dk_42 (dk_at dksX6_restore_0 0 rfl rfl)
theorem dX6_restore_1 : decode cX6_restore 1 = .ok (.getfield 256, 3) := dk_180 1 0 (dk_at dksX6_restore_0 1 rfl rfl)
theorem dX6_restore_4 : decode cX6_restore 4 = .ok (.ifCond .ne 10, 3) := dk_154 0 10 (dk_at dksX6_restore_0 4 rfl rfl)
theorem dX6_restore_7 : decode cX6_restore 7 = .ok (.aload_n 0, 1) := dk_42 (dk_at dksX6_restore_0 7 rfl rfl)
theorem dX6_restore_8 : decode cX6_restore 8 = .ok (.ldc 105, 2) := dk_18 105 (dk_at dksX6_restore_0 8 rfl rfl)
theorem dX6_restore_10 : decode cX6_restore 10 = .ok (.invokevirtual 62, 3) := dk_182 0 62 (dk_at dksX6_restore_0 10 rfl rfl)
theorem dX6_restore_13 : decode cX6_restore 13 = .ok (.ireturn, 1) := dk_172 (dk_at dksX6_restore_0 13 rfl rfl)
theorem dX6_restore_14 : decode cX6_restore 14 = .ok (.aload_n 0, 1) := dk_42 (dk_at dksX6_restore_0 14 rfl rfl)
theorem dX6_restore_15 : decode cX6_restore 15 = .ok (.aload_n 0, 1) := dk_42 (dk_at dksX6_restore_0 15 rfl rfl)
theorem dX6_restore_16 : decode cX6_restore 16 = .ok (.getfield 13, 3) := dk_180 0 13 (dk_at dksX6_restore_0 16 rfl rfl)
theorem dX6_restore_19 : decode cX6_restore 19 = .ok (.aload_n 0, 1) := dk_42 (dk_at dksX6_restore_0 19 rfl rfl)
theorem dX6_restore_20 : decode cX6_restore 20 = .ok (.getfield 7, 3) := dk_180 0 7 (dk_at dksX6_restore_0 20 rfl rfl)
theorem dX6_restore_23 : decode cX6_restore 23 = .ok (.invokevirtual 178, 3) := dk_182 0 178 (dk_at dksX6_restore_1 0 rfl rfl)
theorem dX6_restore_26 : decode cX6_restore 26 = .ok (.aload_n 0, 1) := dk_42 (dk_at dksX6_restore_1 3 rfl rfl)
theorem dX6_restore_27 : decode cX6_restore 27 = .ok (.getfield 7, 3) := dk_180 0 7 (dk_at dksX6_restore_1 4 rfl rfl)
theorem dX6_restore_30 : decode cX6_restore 30 = .ok (.iconst 0, 1) := dk_3 (dk_at dksX6_restore_1 7 rfl rfl)
theorem dX6_restore_31 : decode cX6_restore 31 = .ok (.iaload, 1) := dk_46 (dk_at dksX6_restore_1 8 rfl rfl)
theorem dX6_restore_32 : decode cX6_restore 32 = .ok (.ireturn, 1) := dk_172 (dk_at dksX6_restore_1 9 rfl rfl)
abbrev cX6_tell : ByteArray := prog_30_method_86_code
def yX6_tell : MethodName := ⟨RX6, "tell", "(I)I"⟩
def dkwX6_tell_2 : List UInt8 := [180, 0, 7, 8, 46, 172]
abbrev dktX6_tell_2 : List UInt8 := dkwX6_tell_2 ++ []
def dkwX6_tell_1 : List UInt8 := [17, 0, 178, 42, 180, 0, 7, 8, 46, 96, 27, 79, 42, 180, 0, 7, 8, 92, 46, 4, 96, 79, 42]
abbrev dktX6_tell_1 : List UInt8 := dkwX6_tell_1 ++ dktX6_tell_2
def dkwX6_tell_0 : List UInt8 := [42, 180, 0, 7, 8, 46, 16, 20, 160, 0, 10, 42, 18, 77, 182, 0, 62, 172, 42, 180, 0, 7]
abbrev dktX6_tell_0 : List UInt8 := dkwX6_tell_0 ++ dktX6_tell_1
theorem dksX6_tell_0 : cX6_tell.data.toList.drop 0 = dktX6_tell_0 := by decide +kernel
theorem dksX6_tell_1 : cX6_tell.data.toList.drop 22 = dktX6_tell_1 := dk_seg dksX6_tell_0 22 rfl rfl
theorem dksX6_tell_2 : cX6_tell.data.toList.drop 45 = dktX6_tell_2 := dk_seg dksX6_tell_1 23 rfl rfl
theorem dX6_tell_0 : decode cX6_tell 0 = .ok (.aload_n 0, 1) := dk_42 (dk_at dksX6_tell_0 0 rfl rfl)
theorem dX6_tell_1 : decode cX6_tell 1 = .ok (.getfield 7, 3) := dk_180 0 7 (dk_at dksX6_tell_0 1 rfl rfl)
theorem dX6_tell_4 : decode cX6_tell 4 = .ok (.iconst 5, 1) := dk_8 (dk_at dksX6_tell_0 4 rfl rfl)
theorem dX6_tell_5 : decode cX6_tell 5 = .ok (.iaload, 1) := dk_46 (dk_at dksX6_tell_0 5 rfl rfl)
theorem dX6_tell_6 : decode cX6_tell 6 = .ok (.bipush 20, 2) := dk_16 20 (dk_at dksX6_tell_0 6 rfl rfl)
theorem dX6_tell_8 : decode cX6_tell 8 = .ok (.if_icmp .ne 10, 3) := dk_160 0 10 (dk_at dksX6_tell_0 8 rfl rfl)
theorem dX6_tell_11 : decode cX6_tell 11 = .ok (.aload_n 0, 1) := dk_42 (dk_at dksX6_tell_0 11 rfl rfl)
theorem dX6_tell_12 : decode cX6_tell 12 = .ok (.ldc 77, 2) := dk_18 77 (dk_at dksX6_tell_0 12 rfl rfl)
theorem dX6_tell_14 : decode cX6_tell 14 = .ok (.invokevirtual 62, 3) := dk_182 0 62 (dk_at dksX6_tell_0 14 rfl rfl)
theorem dX6_tell_17 : decode cX6_tell 17 = .ok (.ireturn, 1) := dk_172 (dk_at dksX6_tell_0 17 rfl rfl)
theorem dX6_tell_18 : decode cX6_tell 18 = .ok (.aload_n 0, 1) := dk_42 (dk_at dksX6_tell_0 18 rfl rfl)
theorem dX6_tell_19 : decode cX6_tell 19 = .ok (.getfield 7, 3) := dk_180 0 7 (dk_at dksX6_tell_0 19 rfl rfl)
theorem dX6_tell_22 : decode cX6_tell 22 = .ok (.sipush 178, 3) := dk_17 0 178 (dk_at dksX6_tell_1 0 rfl rfl)
theorem dX6_tell_25 : decode cX6_tell 25 = .ok (.aload_n 0, 1) := dk_42 (dk_at dksX6_tell_1 3 rfl rfl)
theorem dX6_tell_26 : decode cX6_tell 26 = .ok (.getfield 7, 3) := dk_180 0 7 (dk_at dksX6_tell_1 4 rfl rfl)
theorem dX6_tell_29 : decode cX6_tell 29 = .ok (.iconst 5, 1) := dk_8 (dk_at dksX6_tell_1 7 rfl rfl)
theorem dX6_tell_30 : decode cX6_tell 30 = .ok (.iaload, 1) := dk_46 (dk_at dksX6_tell_1 8 rfl rfl)
theorem dX6_tell_31 : decode cX6_tell 31 = .ok (.iadd, 1) := dk_96 (dk_at dksX6_tell_1 9 rfl rfl)
theorem dX6_tell_32 : decode cX6_tell 32 = .ok (.iload_n 1, 1) := dk_27 (dk_at dksX6_tell_1 10 rfl rfl)
theorem dX6_tell_33 : decode cX6_tell 33 = .ok (.iastore, 1) := dk_79 (dk_at dksX6_tell_1 11 rfl rfl)
theorem dX6_tell_34 : decode cX6_tell 34 = .ok (.aload_n 0, 1) := dk_42 (dk_at dksX6_tell_1 12 rfl rfl)
theorem dX6_tell_35 : decode cX6_tell 35 = .ok (.getfield 7, 3) := dk_180 0 7 (dk_at dksX6_tell_1 13 rfl rfl)
theorem dX6_tell_38 : decode cX6_tell 38 = .ok (.iconst 5, 1) := dk_8 (dk_at dksX6_tell_1 16 rfl rfl)
theorem dX6_tell_39 : decode cX6_tell 39 = .ok (.dup2, 1) := dk_92 (dk_at dksX6_tell_1 17 rfl rfl)
theorem dX6_tell_40 : decode cX6_tell 40 = .ok (.iaload, 1) := dk_46 (dk_at dksX6_tell_1 18 rfl rfl)
theorem dX6_tell_41 : decode cX6_tell 41 = .ok (.iconst 1, 1) := dk_4 (dk_at dksX6_tell_1 19 rfl rfl)
theorem dX6_tell_42 : decode cX6_tell 42 = .ok (.iadd, 1) := dk_96 (dk_at dksX6_tell_1 20 rfl rfl)
theorem dX6_tell_43 : decode cX6_tell 43 = .ok (.iastore, 1) := dk_79 (dk_at dksX6_tell_1 21 rfl rfl)
theorem dX6_tell_44 : decode cX6_tell 44 = .ok (.aload_n 0, 1) := dk_42 (dk_at dksX6_tell_1 22 rfl rfl)
theorem dX6_tell_45 : decode cX6_tell 45 = .ok (.getfield 7, 3) := dk_180 0 7 (dk_at dksX6_tell_2 0 rfl rfl)
theorem dX6_tell_48 : decode cX6_tell 48 = .ok (.iconst 5, 1) := dk_8 (dk_at dksX6_tell_2 3 rfl rfl)
theorem dX6_tell_49 : decode cX6_tell 49 = .ok (.iaload, 1) := dk_46 (dk_at dksX6_tell_2 4 rfl rfl)
theorem dX6_tell_50 : decode cX6_tell 50 = .ok (.ireturn, 1) := dk_172 (dk_at dksX6_tell_2 5 rfl rfl)
abbrev cX6_check : ByteArray := prog_30_method_87_code
def yX6_check : MethodName := ⟨RX6, "check", "()I"⟩
def dkwX6_check_4 : List UInt8 := [153, 0, 7, 3, 167, 0, 6, 4, 28, 96, 172]
abbrev dktX6_check_4 : List UInt8 := dkwX6_check_4 ++ []
def dkwX6_check_3 : List UInt8 := [4, 167, 0, 4, 3, 96, 61, 167, 255, 208, 42, 42, 180, 0, 16, 42, 180, 0, 7, 182, 0, 178, 29]
abbrev dktX6_check_3 : List UInt8 := dkwX6_check_3 ++ dktX6_check_4
def dkwX6_check_2 : List UInt8 := [42, 180, 0, 7, 17, 0, 178, 28, 96, 46, 160, 0, 7, 4, 167, 0, 4, 3, 62, 28, 29, 153, 0, 7]
abbrev dktX6_check_2 : List UInt8 := dkwX6_check_2 ++ dktX6_check_3
def dkwX6_check_1 : List UInt8 := [182, 0, 178, 3, 61, 4, 62, 28, 27, 162, 0, 49, 29, 153, 0, 45, 42, 182, 0, 186, 42, 182, 0, 193]
abbrev dktX6_check_1 : List UInt8 := dkwX6_check_1 ++ dktX6_check_2
def dkwX6_check_0 : List UInt8 := [42, 180, 0, 7, 8, 46, 60, 42, 180, 0, 7, 8, 3, 79, 42, 42, 180, 0, 7, 42, 180, 0, 16]
abbrev dktX6_check_0 : List UInt8 := dkwX6_check_0 ++ dktX6_check_1
theorem dksX6_check_0 : cX6_check.data.toList.drop 0 = dktX6_check_0 := by decide +kernel
theorem dksX6_check_1 : cX6_check.data.toList.drop 23 = dktX6_check_1 := dk_seg dksX6_check_0 23 rfl rfl
theorem dksX6_check_2 : cX6_check.data.toList.drop 47 = dktX6_check_2 := dk_seg dksX6_check_1 24 rfl rfl
theorem dksX6_check_3 : cX6_check.data.toList.drop 71 = dktX6_check_3 := dk_seg dksX6_check_2 24 rfl rfl
theorem dksX6_check_4 : cX6_check.data.toList.drop 94 = dktX6_check_4 := dk_seg dksX6_check_3 23 rfl rfl
theorem dX6_check_0 : decode cX6_check 0 = .ok (.aload_n 0, 1) := dk_42 (dk_at dksX6_check_0 0 rfl rfl)
theorem dX6_check_1 : decode cX6_check 1 = .ok (.getfield 7, 3) := dk_180 0 7 (dk_at dksX6_check_0 1 rfl rfl)
theorem dX6_check_4 : decode cX6_check 4 = .ok (.iconst 5, 1) := dk_8 (dk_at dksX6_check_0 4 rfl rfl)
theorem dX6_check_5 : decode cX6_check 5 = .ok (.iaload, 1) := dk_46 (dk_at dksX6_check_0 5 rfl rfl)
theorem dX6_check_6 : decode cX6_check 6 = .ok (.istore_n 1, 1) := dk_60 (dk_at dksX6_check_0 6 rfl rfl)
theorem dX6_check_7 : decode cX6_check 7 = .ok (.aload_n 0, 1) := dk_42 (dk_at dksX6_check_0 7 rfl rfl)
theorem dX6_check_8 : decode cX6_check 8 = .ok (.getfield 7, 3) := dk_180 0 7 (dk_at dksX6_check_0 8 rfl rfl)
theorem dX6_check_11 : decode cX6_check 11 = .ok (.iconst 5, 1) := dk_8 (dk_at dksX6_check_0 11 rfl rfl)
theorem dX6_check_12 : decode cX6_check 12 = .ok (.iconst 0, 1) := dk_3 (dk_at dksX6_check_0 12 rfl rfl)
theorem dX6_check_13 : decode cX6_check 13 = .ok (.iastore, 1) := dk_79 (dk_at dksX6_check_0 13 rfl rfl)
theorem dX6_check_14 : decode cX6_check 14 = .ok (.aload_n 0, 1) := dk_42 (dk_at dksX6_check_0 14 rfl rfl)
theorem dX6_check_15 : decode cX6_check 15 = .ok (.aload_n 0, 1) := dk_42 (dk_at dksX6_check_0 15 rfl rfl)
theorem dX6_check_16 : decode cX6_check 16 = .ok (.getfield 7, 3) := dk_180 0 7 (dk_at dksX6_check_0 16 rfl rfl)
theorem dX6_check_19 : decode cX6_check 19 = .ok (.aload_n 0, 1) := dk_42 (dk_at dksX6_check_0 19 rfl rfl)
theorem dX6_check_20 : decode cX6_check 20 = .ok (.getfield 16, 3) := dk_180 0 16 (dk_at dksX6_check_0 20 rfl rfl)
theorem dX6_check_23 : decode cX6_check 23 = .ok (.invokevirtual 178, 3) := dk_182 0 178 (dk_at dksX6_check_1 0 rfl rfl)
theorem dX6_check_26 : decode cX6_check 26 = .ok (.iconst 0, 1) := dk_3 (dk_at dksX6_check_1 3 rfl rfl)
theorem dX6_check_27 : decode cX6_check 27 = .ok (.istore_n 2, 1) := dk_61 (dk_at dksX6_check_1 4 rfl rfl)
theorem dX6_check_28 : decode cX6_check 28 = .ok (.iconst 1, 1) := dk_4 (dk_at dksX6_check_1 5 rfl rfl)
theorem dX6_check_29 : decode cX6_check 29 = .ok (.istore_n 3, 1) := dk_62 (dk_at dksX6_check_1 6 rfl rfl)
theorem dX6_check_30 : decode cX6_check 30 = .ok (.iload_n 2, 1) := dk_28 (dk_at dksX6_check_1 7 rfl rfl)
theorem dX6_check_31 : decode cX6_check 31 = .ok (.iload_n 1, 1) := dk_27 (dk_at dksX6_check_1 8 rfl rfl)
theorem dX6_check_32 : decode cX6_check 32 = .ok (.if_icmp .ge 49, 3) := dk_162 0 49 (dk_at dksX6_check_1 9 rfl rfl)
theorem dX6_check_35 : decode cX6_check 35 = .ok (.iload_n 3, 1) := dk_29 (dk_at dksX6_check_1 12 rfl rfl)
theorem dX6_check_36 : decode cX6_check 36 = .ok (.ifCond .eq 45, 3) := dk_153 0 45 (dk_at dksX6_check_1 13 rfl rfl)
theorem dX6_check_39 : decode cX6_check 39 = .ok (.aload_n 0, 1) := dk_42 (dk_at dksX6_check_1 16 rfl rfl)
theorem dX6_check_40 : decode cX6_check 40 = .ok (.invokevirtual 186, 3) := dk_182 0 186 (dk_at dksX6_check_1 17 rfl rfl)
theorem dX6_check_43 : decode cX6_check 43 = .ok (.aload_n 0, 1) := dk_42 (dk_at dksX6_check_1 20 rfl rfl)
theorem dX6_check_44 : decode cX6_check 44 = .ok (.invokevirtual 193, 3) := dk_182 0 193 (dk_at dksX6_check_1 21 rfl rfl)
theorem dX6_check_47 : decode cX6_check 47 = .ok (.aload_n 0, 1) := dk_42 (dk_at dksX6_check_2 0 rfl rfl)
theorem dX6_check_48 : decode cX6_check 48 = .ok (.getfield 7, 3) := dk_180 0 7 (dk_at dksX6_check_2 1 rfl rfl)
theorem dX6_check_51 : decode cX6_check 51 = .ok (.sipush 178, 3) := dk_17 0 178 (dk_at dksX6_check_2 4 rfl rfl)
theorem dX6_check_54 : decode cX6_check 54 = .ok (.iload_n 2, 1) := dk_28 (dk_at dksX6_check_2 7 rfl rfl)
theorem dX6_check_55 : decode cX6_check 55 = .ok (.iadd, 1) := dk_96 (dk_at dksX6_check_2 8 rfl rfl)
theorem dX6_check_56 : decode cX6_check 56 = .ok (.iaload, 1) := dk_46 (dk_at dksX6_check_2 9 rfl rfl)
theorem dX6_check_57 : decode cX6_check 57 = .ok (.if_icmp .ne 7, 3) := dk_160 0 7 (dk_at dksX6_check_2 10 rfl rfl)
theorem dX6_check_60 : decode cX6_check 60 = .ok (.iconst 1, 1) := dk_4 (dk_at dksX6_check_2 13 rfl rfl)
theorem dX6_check_61 : decode cX6_check 61 = .ok (.goto 4, 3) := dk_167 0 4 (dk_at dksX6_check_2 14 rfl rfl)
theorem dX6_check_64 : decode cX6_check 64 = .ok (.iconst 0, 1) := dk_3 (dk_at dksX6_check_2 17 rfl rfl)
theorem dX6_check_65 : decode cX6_check 65 = .ok (.istore_n 3, 1) := dk_62 (dk_at dksX6_check_2 18 rfl rfl)
theorem dX6_check_66 : decode cX6_check 66 = .ok (.iload_n 2, 1) := dk_28 (dk_at dksX6_check_2 19 rfl rfl)
theorem dX6_check_67 : decode cX6_check 67 = .ok (.iload_n 3, 1) := dk_29 (dk_at dksX6_check_2 20 rfl rfl)
theorem dX6_check_68 : decode cX6_check 68 = .ok (.ifCond .eq 7, 3) := dk_153 0 7 (dk_at dksX6_check_2 21 rfl rfl)
theorem dX6_check_71 : decode cX6_check 71 = .ok (.iconst 1, 1) := dk_4 (dk_at dksX6_check_3 0 rfl rfl)
theorem dX6_check_72 : decode cX6_check 72 = .ok (.goto 4, 3) := dk_167 0 4 (dk_at dksX6_check_3 1 rfl rfl)
theorem dX6_check_75 : decode cX6_check 75 = .ok (.iconst 0, 1) := dk_3 (dk_at dksX6_check_3 4 rfl rfl)
theorem dX6_check_76 : decode cX6_check 76 = .ok (.iadd, 1) := dk_96 (dk_at dksX6_check_3 5 rfl rfl)
theorem dX6_check_77 : decode cX6_check 77 = .ok (.istore_n 2, 1) := dk_61 (dk_at dksX6_check_3 6 rfl rfl)
theorem dX6_check_78 : decode cX6_check 78 = .ok (.goto (-48), 3) := dk_167 255 208 (dk_at dksX6_check_3 7 rfl rfl)
theorem dX6_check_81 : decode cX6_check 81 = .ok (.aload_n 0, 1) := dk_42 (dk_at dksX6_check_3 10 rfl rfl)
theorem dX6_check_82 : decode cX6_check 82 = .ok (.aload_n 0, 1) := dk_42 (dk_at dksX6_check_3 11 rfl rfl)
theorem dX6_check_83 : decode cX6_check 83 = .ok (.getfield 16, 3) := dk_180 0 16 (dk_at dksX6_check_3 12 rfl rfl)
theorem dX6_check_86 : decode cX6_check 86 = .ok (.aload_n 0, 1) := dk_42 (dk_at dksX6_check_3 15 rfl rfl)
theorem dX6_check_87 : decode cX6_check 87 = .ok (.getfield 7, 3) := dk_180 0 7 (dk_at dksX6_check_3 16 rfl rfl)
theorem dX6_check_90 : decode cX6_check 90 = .ok (.invokevirtual 178, 3) := dk_182 0 178 (dk_at dksX6_check_3 19 rfl rfl)
theorem dX6_check_93 : decode cX6_check 93 = .ok (.iload_n 3, 1) := dk_29 (dk_at dksX6_check_3 22 rfl rfl)
theorem dX6_check_94 : decode cX6_check 94 = .ok (.ifCond .eq 7, 3) := dk_153 0 7 (dk_at dksX6_check_4 0 rfl rfl)
theorem dX6_check_97 : decode cX6_check 97 = .ok (.iconst 0, 1) := dk_3 (dk_at dksX6_check_4 3 rfl rfl)
theorem dX6_check_98 : decode cX6_check 98 = .ok (.goto 6, 3) := dk_167 0 6 (dk_at dksX6_check_4 4 rfl rfl)
theorem dX6_check_101 : decode cX6_check 101 = .ok (.iconst 1, 1) := dk_4 (dk_at dksX6_check_4 7 rfl rfl)
theorem dX6_check_102 : decode cX6_check 102 = .ok (.iload_n 2, 1) := dk_28 (dk_at dksX6_check_4 8 rfl rfl)
theorem dX6_check_103 : decode cX6_check 103 = .ok (.iadd, 1) := dk_96 (dk_at dksX6_check_4 9 rfl rfl)
theorem dX6_check_104 : decode cX6_check 104 = .ok (.ireturn, 1) := dk_172 (dk_at dksX6_check_4 10 rfl rfl)
abbrev cX6_count : ByteArray := prog_30_method_88_code
def yX6_count : MethodName := ⟨RX6, "count", "(I)I"⟩
def dkwX6_count_4 : List UInt8 := [180, 0, 7, 5, 46, 172, 42, 18, 61, 182, 0, 62, 172]
abbrev dktX6_count_4 : List UInt8 := dkwX6_count_4 ++ []
def dkwX6_count_3 : List UInt8 := [46, 172, 42, 180, 0, 7, 7, 46, 172, 42, 180, 0, 7, 8, 46, 172, 42, 180, 0, 226, 172, 42]
abbrev dktX6_count_3 : List UInt8 := dkwX6_count_3 ++ dktX6_count_4
def dkwX6_count_2 : List UInt8 := [42, 180, 0, 7, 6, 46, 172, 42, 180, 0, 7, 3, 46, 172, 42, 182, 0, 193, 172, 42, 180, 0, 7, 4]
abbrev dktX6_count_2 : List UInt8 := dkwX6_count_2 ++ dktX6_count_3
def dkwX6_count_1 : List UInt8 := [170, 0, 0, 0, 0, 0, 99, 0, 0, 0, 0, 0, 0, 0, 7, 0, 0, 0, 47, 0, 0, 0, 54, 0, 0, 0, 61, 0, 0, 0, 66, 0, 0, 0, 73, 0, 0, 0, 80, 0, 0, 0, 87, 0, 0, 0, 92]
abbrev dktX6_count_1 : List UInt8 := dkwX6_count_1 ++ dktX6_count_2
def dkwX6_count_0 : List UInt8 := [27]
abbrev dktX6_count_0 : List UInt8 := dkwX6_count_0 ++ dktX6_count_1
theorem dksX6_count_0 : cX6_count.data.toList.drop 0 = dktX6_count_0 := by decide +kernel
theorem dksX6_count_1 : cX6_count.data.toList.drop 1 = dktX6_count_1 := dk_seg dksX6_count_0 1 rfl rfl
theorem dksX6_count_2 : cX6_count.data.toList.drop 48 = dktX6_count_2 := dk_seg dksX6_count_1 47 rfl rfl
theorem dksX6_count_3 : cX6_count.data.toList.drop 72 = dktX6_count_3 := dk_seg dksX6_count_2 24 rfl rfl
theorem dksX6_count_4 : cX6_count.data.toList.drop 94 = dktX6_count_4 := dk_seg dksX6_count_3 22 rfl rfl
theorem dX6_count_0 : decode cX6_count 0 = .ok (.iload_n 1, 1) := dk_27 (dk_at dksX6_count_0 0 rfl rfl)
theorem dX6_count_1 : decode cX6_count 1 = .ok (.tableswitch 99 0 7 #[47, 54, 61, 66, 73, 80, 87, 92], 47) := by decide +kernel
theorem dX6_count_48 : decode cX6_count 48 = .ok (.aload_n 0, 1) := dk_42 (dk_at dksX6_count_2 0 rfl rfl)
theorem dX6_count_49 : decode cX6_count 49 = .ok (.getfield 7, 3) := dk_180 0 7 (dk_at dksX6_count_2 1 rfl rfl)
theorem dX6_count_52 : decode cX6_count 52 = .ok (.iconst 3, 1) := dk_6 (dk_at dksX6_count_2 4 rfl rfl)
theorem dX6_count_53 : decode cX6_count 53 = .ok (.iaload, 1) := dk_46 (dk_at dksX6_count_2 5 rfl rfl)
theorem dX6_count_54 : decode cX6_count 54 = .ok (.ireturn, 1) := dk_172 (dk_at dksX6_count_2 6 rfl rfl)
theorem dX6_count_55 : decode cX6_count 55 = .ok (.aload_n 0, 1) := dk_42 (dk_at dksX6_count_2 7 rfl rfl)
theorem dX6_count_56 : decode cX6_count 56 = .ok (.getfield 7, 3) := dk_180 0 7 (dk_at dksX6_count_2 8 rfl rfl)
theorem dX6_count_59 : decode cX6_count 59 = .ok (.iconst 0, 1) := dk_3 (dk_at dksX6_count_2 11 rfl rfl)
theorem dX6_count_60 : decode cX6_count 60 = .ok (.iaload, 1) := dk_46 (dk_at dksX6_count_2 12 rfl rfl)
theorem dX6_count_61 : decode cX6_count 61 = .ok (.ireturn, 1) := dk_172 (dk_at dksX6_count_2 13 rfl rfl)
theorem dX6_count_62 : decode cX6_count 62 = .ok (.aload_n 0, 1) := dk_42 (dk_at dksX6_count_2 14 rfl rfl)
theorem dX6_count_63 : decode cX6_count 63 = .ok (.invokevirtual 193, 3) := dk_182 0 193 (dk_at dksX6_count_2 15 rfl rfl)
theorem dX6_count_66 : decode cX6_count 66 = .ok (.ireturn, 1) := dk_172 (dk_at dksX6_count_2 18 rfl rfl)
theorem dX6_count_67 : decode cX6_count 67 = .ok (.aload_n 0, 1) := dk_42 (dk_at dksX6_count_2 19 rfl rfl)
theorem dX6_count_68 : decode cX6_count 68 = .ok (.getfield 7, 3) := dk_180 0 7 (dk_at dksX6_count_2 20 rfl rfl)
theorem dX6_count_71 : decode cX6_count 71 = .ok (.iconst 1, 1) := dk_4 (dk_at dksX6_count_2 23 rfl rfl)
theorem dX6_count_72 : decode cX6_count 72 = .ok (.iaload, 1) := dk_46 (dk_at dksX6_count_3 0 rfl rfl)
theorem dX6_count_73 : decode cX6_count 73 = .ok (.ireturn, 1) := dk_172 (dk_at dksX6_count_3 1 rfl rfl)
theorem dX6_count_74 : decode cX6_count 74 = .ok (.aload_n 0, 1) := dk_42 (dk_at dksX6_count_3 2 rfl rfl)
theorem dX6_count_75 : decode cX6_count 75 = .ok (.getfield 7, 3) := dk_180 0 7 (dk_at dksX6_count_3 3 rfl rfl)
theorem dX6_count_78 : decode cX6_count 78 = .ok (.iconst 4, 1) := dk_7 (dk_at dksX6_count_3 6 rfl rfl)
theorem dX6_count_79 : decode cX6_count 79 = .ok (.iaload, 1) := dk_46 (dk_at dksX6_count_3 7 rfl rfl)
theorem dX6_count_80 : decode cX6_count 80 = .ok (.ireturn, 1) := dk_172 (dk_at dksX6_count_3 8 rfl rfl)
theorem dX6_count_81 : decode cX6_count 81 = .ok (.aload_n 0, 1) := dk_42 (dk_at dksX6_count_3 9 rfl rfl)
theorem dX6_count_82 : decode cX6_count 82 = .ok (.getfield 7, 3) := dk_180 0 7 (dk_at dksX6_count_3 10 rfl rfl)
theorem dX6_count_85 : decode cX6_count 85 = .ok (.iconst 5, 1) := dk_8 (dk_at dksX6_count_3 13 rfl rfl)
theorem dX6_count_86 : decode cX6_count 86 = .ok (.iaload, 1) := dk_46 (dk_at dksX6_count_3 14 rfl rfl)
theorem dX6_count_87 : decode cX6_count 87 = .ok (.ireturn, 1) := dk_172 (dk_at dksX6_count_3 15 rfl rfl)
theorem dX6_count_88 : decode cX6_count 88 = .ok (.aload_n 0, 1) := dk_42 (dk_at dksX6_count_3 16 rfl rfl)
theorem dX6_count_89 : decode cX6_count 89 = .ok (.getfield 226, 3) := dk_180 0 226 (dk_at dksX6_count_3 17 rfl rfl)
theorem dX6_count_92 : decode cX6_count 92 = .ok (.ireturn, 1) := dk_172 (dk_at dksX6_count_3 20 rfl rfl)
theorem dX6_count_93 : decode cX6_count 93 = .ok (.aload_n 0, 1) := dk_42 (dk_at dksX6_count_3 21 rfl rfl)
theorem dX6_count_94 : decode cX6_count 94 = .ok (.getfield 7, 3) := dk_180 0 7 (dk_at dksX6_count_4 0 rfl rfl)
theorem dX6_count_97 : decode cX6_count 97 = .ok (.iconst 2, 1) := dk_5 (dk_at dksX6_count_4 3 rfl rfl)
theorem dX6_count_98 : decode cX6_count 98 = .ok (.iaload, 1) := dk_46 (dk_at dksX6_count_4 4 rfl rfl)
theorem dX6_count_99 : decode cX6_count 99 = .ok (.ireturn, 1) := dk_172 (dk_at dksX6_count_4 5 rfl rfl)
theorem dX6_count_100 : decode cX6_count 100 = .ok (.aload_n 0, 1) := dk_42 (dk_at dksX6_count_4 6 rfl rfl)
theorem dX6_count_101 : decode cX6_count 101 = .ok (.ldc 61, 2) := dk_18 61 (dk_at dksX6_count_4 7 rfl rfl)
theorem dX6_count_103 : decode cX6_count 103 = .ok (.invokevirtual 62, 3) := dk_182 0 62 (dk_at dksX6_count_4 9 rfl rfl)
theorem dX6_count_106 : decode cX6_count 106 = .ok (.ireturn, 1) := dk_172 (dk_at dksX6_count_4 12 rfl rfl)
abbrev cX6_told : ByteArray := prog_30_method_89_code
def yX6_told : MethodName := ⟨RX6, "told", "(I)I"⟩
def dkwX6_told_1 : List UInt8 := [172]
abbrev dktX6_told_1 : List UInt8 := dkwX6_told_1 ++ []
def dkwX6_told_0 : List UInt8 := [27, 4, 8, 184, 0, 53, 153, 0, 12, 42, 180, 0, 22, 27, 46, 167, 0, 9, 42, 18, 61, 182, 0, 62]
abbrev dktX6_told_0 : List UInt8 := dkwX6_told_0 ++ dktX6_told_1
theorem dksX6_told_0 : cX6_told.data.toList.drop 0 = dktX6_told_0 := by decide +kernel
theorem dksX6_told_1 : cX6_told.data.toList.drop 24 = dktX6_told_1 := dk_seg dksX6_told_0 24 rfl rfl
theorem dX6_told_0 : decode cX6_told 0 = .ok (.iload_n 1, 1) := dk_27 (dk_at dksX6_told_0 0 rfl rfl)
theorem dX6_told_1 : decode cX6_told 1 = .ok (.iconst 1, 1) := dk_4 (dk_at dksX6_told_0 1 rfl rfl)
theorem dX6_told_2 : decode cX6_told 2 = .ok (.iconst 5, 1) := dk_8 (dk_at dksX6_told_0 2 rfl rfl)
theorem dX6_told_3 : decode cX6_told 3 = .ok (.invokestatic 53, 3) := dk_184 0 53 (dk_at dksX6_told_0 3 rfl rfl)
theorem dX6_told_6 : decode cX6_told 6 = .ok (.ifCond .eq 12, 3) := dk_153 0 12 (dk_at dksX6_told_0 6 rfl rfl)
theorem dX6_told_9 : decode cX6_told 9 = .ok (.aload_n 0, 1) := dk_42 (dk_at dksX6_told_0 9 rfl rfl)
theorem dX6_told_10 : decode cX6_told 10 = .ok (.getfield 22, 3) := dk_180 0 22 (dk_at dksX6_told_0 10 rfl rfl)
theorem dX6_told_13 : decode cX6_told 13 = .ok (.iload_n 1, 1) := dk_27 (dk_at dksX6_told_0 13 rfl rfl)
theorem dX6_told_14 : decode cX6_told 14 = .ok (.iaload, 1) := dk_46 (dk_at dksX6_told_0 14 rfl rfl)
theorem dX6_told_15 : decode cX6_told 15 = .ok (.goto 9, 3) := dk_167 0 9 (dk_at dksX6_told_0 15 rfl rfl)
theorem dX6_told_18 : decode cX6_told 18 = .ok (.aload_n 0, 1) := dk_42 (dk_at dksX6_told_0 18 rfl rfl)
theorem dX6_told_19 : decode cX6_told 19 = .ok (.ldc 61, 2) := dk_18 61 (dk_at dksX6_told_0 19 rfl rfl)
theorem dX6_told_21 : decode cX6_told 21 = .ok (.invokevirtual 62, 3) := dk_182 0 62 (dk_at dksX6_told_0 21 rfl rfl)
theorem dX6_told_24 : decode cX6_told 24 = .ok (.ireturn, 1) := dk_172 (dk_at dksX6_told_1 0 rfl rfl)
theorem q70 : (Jvm.Cond.initialized "MeadowMilkModel") ∈ lw_all := lw_g (lw_at lw_m1 10 rfl) rfl
theorem q1385 : (Jvm.Cond.instantiable "MeadowMilkModel" (28 : Nat)) ∈ lw_all := lw_g (lw_at lw_m6 125 rfl) rfl
theorem q1387 : (Jvm.Cond.instanceMethod ({ cls := "MeadowMilkModel", name := "<init>", desc := "()V" } : Jvm.MethodName)) ∈ lw_all := lw_g (lw_at lw_m6 127 rfl) rfl
theorem q1388 : (Jvm.Cond.code ({ cls := "MeadowMilkModel", name := "<init>", desc := "()V" } : Jvm.MethodName) prog_30_method_1_code (2 : Nat) (Option.none : Option Jvm.ClassFile.FieldType)) ∈ lw_all := lw_g (lw_at lw_m6 128 rfl) rfl
theorem q1389 : (Jvm.Cond.methodLink "MeadowMilkModel" (1 : Nat) ({ cls := "java/lang/Object", name := "<init>", desc := "()V" } : Jvm.MethodName)) ∈ lw_all := lw_g (lw_at lw_m6 129 rfl) rfl
theorem q1390 : (Jvm.Cond.fieldLink "MeadowMilkModel" (7 : Nat) "MeadowMilkModel" "row" "[I") ∈ lw_all := lw_g (lw_at lw_m6 130 rfl) rfl
theorem q1391 : (Jvm.Cond.fieldLink "MeadowMilkModel" (13 : Nat) "MeadowMilkModel" "kept" "[I") ∈ lw_all := lw_g (lw_at lw_m6 131 rfl) rfl
theorem q1392 : (Jvm.Cond.fieldLink "MeadowMilkModel" (16 : Nat) "MeadowMilkModel" "tried" "[I") ∈ lw_all := lw_g (lw_at lw_m6 132 rfl) rfl
theorem q1393 : (Jvm.Cond.fieldLink "MeadowMilkModel" (19 : Nat) "MeadowMilkModel" "before" "[I") ∈ lw_all := lw_g (lw_at lw_m6 133 rfl) rfl
theorem q1394 : (Jvm.Cond.fieldLink "MeadowMilkModel" (256 : Nat) "MeadowMilkModel" "isKept" "Z") ∈ lw_all := lw_g (lw_at lw_m6 134 rfl) rfl
theorem q1395 : (Jvm.Cond.fieldLink "MeadowMilkModel" (259 : Nat) "MeadowMilkModel" "images" "I") ∈ lw_all := lw_g (lw_at lw_m6 135 rfl) rfl
theorem q1396 : (Jvm.Cond.fieldLink "MeadowMilkModel" (22 : Nat) "MeadowMilkModel" "found" "[I") ∈ lw_all := lw_g (lw_at lw_m6 136 rfl) rfl
theorem q1397 : (Jvm.Cond.fieldLink "MeadowMilkModel" (114 : Nat) "MeadowMilkModel" "use" "I") ∈ lw_all := lw_g (lw_at lw_m6 137 rfl) rfl
theorem q1398 : (Jvm.Cond.fieldLink "MeadowMilkModel" (121 : Nat) "MeadowMilkModel" "at" "I") ∈ lw_all := lw_g (lw_at lw_m6 138 rfl) rfl
theorem q1399 : (Jvm.Cond.fieldLink "MeadowMilkModel" (110 : Nat) "MeadowMilkModel" "end" "I") ∈ lw_all := lw_g (lw_at lw_m6 139 rfl) rfl
theorem q1400 : (Jvm.Cond.fieldLink "MeadowMilkModel" (149 : Nat) "MeadowMilkModel" "open" "I") ∈ lw_all := lw_g (lw_at lw_m6 140 rfl) rfl
theorem q1401 : (Jvm.Cond.fieldLink "MeadowMilkModel" (134 : Nat) "MeadowMilkModel" "namedA" "I") ∈ lw_all := lw_g (lw_at lw_m6 141 rfl) rfl
theorem q1402 : (Jvm.Cond.fieldLink "MeadowMilkModel" (137 : Nat) "MeadowMilkModel" "namedB" "I") ∈ lw_all := lw_g (lw_at lw_m6 142 rfl) rfl
theorem q1403 : (Jvm.Cond.fieldLink "MeadowMilkModel" (140 : Nat) "MeadowMilkModel" "namedC" "I") ∈ lw_all := lw_g (lw_at lw_m6 143 rfl) rfl
theorem q1404 : (Jvm.Cond.fieldLink "MeadowMilkModel" (117 : Nat) "MeadowMilkModel" "good" "Z") ∈ lw_all := lw_g (lw_at lw_m6 144 rfl) rfl
theorem q1405 : (Jvm.Cond.fieldLink "MeadowMilkModel" (25 : Nat) "MeadowMilkModel" "bitsOf" "[I") ∈ lw_all := lw_g (lw_at lw_m6 145 rfl) rfl
theorem q1406 : (Jvm.Cond.fieldLink "MeadowMilkModel" (28 : Nat) "MeadowMilkModel" "sizeOf" "[I") ∈ lw_all := lw_g (lw_at lw_m6 146 rfl) rfl
theorem q1407 : (Jvm.Cond.fieldLink "MeadowMilkModel" (31 : Nat) "MeadowMilkModel" "sheets" "[I") ∈ lw_all := lw_g (lw_at lw_m6 147 rfl) rfl
theorem q1408 : (Jvm.Cond.fieldLink "MeadowMilkModel" (34 : Nat) "MeadowMilkModel" "moved" "[I") ∈ lw_all := lw_g (lw_at lw_m6 148 rfl) rfl
theorem q1409 : (Jvm.Cond.fieldLink "MeadowMilkModel" (37 : Nat) "MeadowMilkModel" "ended" "[I") ∈ lw_all := lw_g (lw_at lw_m6 149 rfl) rfl
theorem q1410 : (Jvm.Cond.fieldLink "MeadowMilkModel" (40 : Nat) "MeadowMilkModel" "endedThen" "[I") ∈ lw_all := lw_g (lw_at lw_m6 150 rfl) rfl
theorem q1411 : (Jvm.Cond.fieldLink "MeadowMilkModel" (43 : Nat) "MeadowMilkModel" "fewest" "[I") ∈ lw_all := lw_g (lw_at lw_m6 151 rfl) rfl
theorem q1412 : (Jvm.Cond.fieldLink "MeadowMilkModel" (46 : Nat) "MeadowMilkModel" "fewestThen" "[I") ∈ lw_all := lw_g (lw_at lw_m6 152 rfl) rfl
theorem q1413 : (Jvm.Cond.fieldLink "MeadowMilkModel" (49 : Nat) "MeadowMilkModel" "traced" "[I") ∈ lw_all := lw_g (lw_at lw_m6 153 rfl) rfl
theorem q1414 : (Jvm.Cond.fieldLink "MeadowMilkModel" (226 : Nat) "MeadowMilkModel" "tracedMany" "I") ∈ lw_all := lw_g (lw_at lw_m6 154 rfl) rfl
theorem q1415 : (Jvm.Cond.fieldLink "MeadowMilkModel" (244 : Nat) "MeadowMilkModel" "voiceKind" "I") ∈ lw_all := lw_g (lw_at lw_m6 155 rfl) rfl
theorem q1416 : (Jvm.Cond.fieldLink "MeadowMilkModel" (232 : Nat) "MeadowMilkModel" "voiceN" "I") ∈ lw_all := lw_g (lw_at lw_m6 156 rfl) rfl
theorem q1417 : (Jvm.Cond.fieldLink "MeadowMilkModel" (238 : Nat) "MeadowMilkModel" "voiceM" "I") ∈ lw_all := lw_g (lw_at lw_m6 157 rfl) rfl
theorem q1418 : (Jvm.Cond.laysFinal "MeadowMilkModel" "MeadowMilkModel" "row" "[I") ∈ lw_all := lw_g (lw_at lw_m6 158 rfl) rfl
theorem q1419 : (Jvm.Cond.soleField "MeadowMilkModel" "row") ∈ lw_all := lw_g (lw_at lw_m6 159 rfl) rfl
theorem q1420 : (Jvm.Cond.laysFinal "MeadowMilkModel" "MeadowMilkModel" "kept" "[I") ∈ lw_all := lw_g (lw_at lw_m6 160 rfl) rfl
theorem q1421 : (Jvm.Cond.soleField "MeadowMilkModel" "kept") ∈ lw_all := lw_g (lw_at lw_m6 161 rfl) rfl
theorem q1422 : (Jvm.Cond.laysFinal "MeadowMilkModel" "MeadowMilkModel" "tried" "[I") ∈ lw_all := lw_g (lw_at lw_m6 162 rfl) rfl
theorem q1423 : (Jvm.Cond.soleField "MeadowMilkModel" "tried") ∈ lw_all := lw_g (lw_at lw_m6 163 rfl) rfl
theorem q1424 : (Jvm.Cond.laysFinal "MeadowMilkModel" "MeadowMilkModel" "before" "[I") ∈ lw_all := lw_g (lw_at lw_m6 164 rfl) rfl
theorem q1425 : (Jvm.Cond.soleField "MeadowMilkModel" "before") ∈ lw_all := lw_g (lw_at lw_m6 165 rfl) rfl
theorem q1426 : (Jvm.Cond.lays "MeadowMilkModel" "MeadowMilkModel" "isKept" "Z") ∈ lw_all := lw_g (lw_at lw_m6 166 rfl) rfl
theorem q1427 : (Jvm.Cond.soleField "MeadowMilkModel" "isKept") ∈ lw_all := lw_g (lw_at lw_m6 167 rfl) rfl
theorem q1428 : (Jvm.Cond.lays "MeadowMilkModel" "MeadowMilkModel" "images" "I") ∈ lw_all := lw_g (lw_at lw_m6 168 rfl) rfl
theorem q1429 : (Jvm.Cond.soleField "MeadowMilkModel" "images") ∈ lw_all := lw_g (lw_at lw_m6 169 rfl) rfl
theorem q1430 : (Jvm.Cond.laysFinal "MeadowMilkModel" "MeadowMilkModel" "found" "[I") ∈ lw_all := lw_g (lw_at lw_m6 170 rfl) rfl
theorem q1431 : (Jvm.Cond.soleField "MeadowMilkModel" "found") ∈ lw_all := lw_g (lw_at lw_m6 171 rfl) rfl
theorem q1432 : (Jvm.Cond.lays "MeadowMilkModel" "MeadowMilkModel" "use" "I") ∈ lw_all := lw_g (lw_at lw_m6 172 rfl) rfl
theorem q1433 : (Jvm.Cond.soleField "MeadowMilkModel" "use") ∈ lw_all := lw_g (lw_at lw_m6 173 rfl) rfl
theorem q1434 : (Jvm.Cond.lays "MeadowMilkModel" "MeadowMilkModel" "at" "I") ∈ lw_all := lw_g (lw_at lw_m6 174 rfl) rfl
theorem q1435 : (Jvm.Cond.soleField "MeadowMilkModel" "at") ∈ lw_all := lw_g (lw_at lw_m6 175 rfl) rfl
theorem q1436 : (Jvm.Cond.lays "MeadowMilkModel" "MeadowMilkModel" "end" "I") ∈ lw_all := lw_g (lw_at lw_m6 176 rfl) rfl
theorem q1437 : (Jvm.Cond.soleField "MeadowMilkModel" "end") ∈ lw_all := lw_g (lw_at lw_m6 177 rfl) rfl
theorem q1438 : (Jvm.Cond.lays "MeadowMilkModel" "MeadowMilkModel" "open" "I") ∈ lw_all := lw_g (lw_at lw_m6 178 rfl) rfl
theorem q1439 : (Jvm.Cond.soleField "MeadowMilkModel" "open") ∈ lw_all := lw_g (lw_at lw_m6 179 rfl) rfl
theorem q1440 : (Jvm.Cond.lays "MeadowMilkModel" "MeadowMilkModel" "namedA" "I") ∈ lw_all := lw_g (lw_at lw_m6 180 rfl) rfl
theorem q1441 : (Jvm.Cond.soleField "MeadowMilkModel" "namedA") ∈ lw_all := lw_g (lw_at lw_m6 181 rfl) rfl
theorem q1442 : (Jvm.Cond.lays "MeadowMilkModel" "MeadowMilkModel" "namedB" "I") ∈ lw_all := lw_g (lw_at lw_m6 182 rfl) rfl
theorem q1443 : (Jvm.Cond.soleField "MeadowMilkModel" "namedB") ∈ lw_all := lw_g (lw_at lw_m6 183 rfl) rfl
theorem q1444 : (Jvm.Cond.lays "MeadowMilkModel" "MeadowMilkModel" "namedC" "I") ∈ lw_all := lw_g (lw_at lw_m6 184 rfl) rfl
theorem q1445 : (Jvm.Cond.soleField "MeadowMilkModel" "namedC") ∈ lw_all := lw_g (lw_at lw_m6 185 rfl) rfl
theorem q1446 : (Jvm.Cond.lays "MeadowMilkModel" "MeadowMilkModel" "good" "Z") ∈ lw_all := lw_g (lw_at lw_m6 186 rfl) rfl
theorem q1447 : (Jvm.Cond.soleField "MeadowMilkModel" "good") ∈ lw_all := lw_g (lw_at lw_m6 187 rfl) rfl
theorem q1448 : (Jvm.Cond.laysFinal "MeadowMilkModel" "MeadowMilkModel" "bitsOf" "[I") ∈ lw_all := lw_g (lw_at lw_m6 188 rfl) rfl
theorem q1449 : (Jvm.Cond.soleField "MeadowMilkModel" "bitsOf") ∈ lw_all := lw_g (lw_at lw_m6 189 rfl) rfl
theorem q1450 : (Jvm.Cond.laysFinal "MeadowMilkModel" "MeadowMilkModel" "sizeOf" "[I") ∈ lw_all := lw_g (lw_at lw_m6 190 rfl) rfl
theorem q1451 : (Jvm.Cond.soleField "MeadowMilkModel" "sizeOf") ∈ lw_all := lw_g (lw_at lw_m6 191 rfl) rfl
theorem q1452 : (Jvm.Cond.laysFinal "MeadowMilkModel" "MeadowMilkModel" "sheets" "[I") ∈ lw_all := lw_g (lw_at lw_m6 192 rfl) rfl
theorem q1453 : (Jvm.Cond.soleField "MeadowMilkModel" "sheets") ∈ lw_all := lw_g (lw_at lw_m6 193 rfl) rfl
theorem q1454 : (Jvm.Cond.laysFinal "MeadowMilkModel" "MeadowMilkModel" "moved" "[I") ∈ lw_all := lw_g (lw_at lw_m6 194 rfl) rfl
theorem q1455 : (Jvm.Cond.soleField "MeadowMilkModel" "moved") ∈ lw_all := lw_g (lw_at lw_m6 195 rfl) rfl
theorem q1456 : (Jvm.Cond.laysFinal "MeadowMilkModel" "MeadowMilkModel" "ended" "[I") ∈ lw_all := lw_g (lw_at lw_m6 196 rfl) rfl
theorem q1457 : (Jvm.Cond.soleField "MeadowMilkModel" "ended") ∈ lw_all := lw_g (lw_at lw_m6 197 rfl) rfl
theorem q1458 : (Jvm.Cond.laysFinal "MeadowMilkModel" "MeadowMilkModel" "endedThen" "[I") ∈ lw_all := lw_g (lw_at lw_m6 198 rfl) rfl
theorem q1459 : (Jvm.Cond.soleField "MeadowMilkModel" "endedThen") ∈ lw_all := lw_g (lw_at lw_m6 199 rfl) rfl
theorem q1460 : (Jvm.Cond.laysFinal "MeadowMilkModel" "MeadowMilkModel" "fewest" "[I") ∈ lw_all := lw_g (lw_at lw_m6 200 rfl) rfl
theorem q1461 : (Jvm.Cond.soleField "MeadowMilkModel" "fewest") ∈ lw_all := lw_g (lw_at lw_m6 201 rfl) rfl
theorem q1462 : (Jvm.Cond.laysFinal "MeadowMilkModel" "MeadowMilkModel" "fewestThen" "[I") ∈ lw_all := lw_g (lw_at lw_m6 202 rfl) rfl
theorem q1463 : (Jvm.Cond.soleField "MeadowMilkModel" "fewestThen") ∈ lw_all := lw_g (lw_at lw_m6 203 rfl) rfl
theorem q1464 : (Jvm.Cond.laysFinal "MeadowMilkModel" "MeadowMilkModel" "traced" "[I") ∈ lw_all := lw_g (lw_at lw_m6 204 rfl) rfl
theorem q1465 : (Jvm.Cond.soleField "MeadowMilkModel" "traced") ∈ lw_all := lw_g (lw_at lw_m6 205 rfl) rfl
theorem q1466 : (Jvm.Cond.lays "MeadowMilkModel" "MeadowMilkModel" "tracedMany" "I") ∈ lw_all := lw_g (lw_at lw_m6 206 rfl) rfl
theorem q1467 : (Jvm.Cond.soleField "MeadowMilkModel" "tracedMany") ∈ lw_all := lw_g (lw_at lw_m6 207 rfl) rfl
theorem q1468 : (Jvm.Cond.lays "MeadowMilkModel" "MeadowMilkModel" "voiceKind" "I") ∈ lw_all := lw_g (lw_at lw_m6 208 rfl) rfl
theorem q1469 : (Jvm.Cond.soleField "MeadowMilkModel" "voiceKind") ∈ lw_all := lw_g (lw_at lw_m6 209 rfl) rfl
theorem q1470 : (Jvm.Cond.lays "MeadowMilkModel" "MeadowMilkModel" "voiceN" "I") ∈ lw_all := lw_g (lw_at lw_m6 210 rfl) rfl
theorem q1471 : (Jvm.Cond.soleField "MeadowMilkModel" "voiceN") ∈ lw_all := lw_g (lw_at lw_m6 211 rfl) rfl
theorem q1472 : (Jvm.Cond.lays "MeadowMilkModel" "MeadowMilkModel" "voiceM" "I") ∈ lw_all := lw_g (lw_at lw_m6 212 rfl) rfl
theorem q1473 : (Jvm.Cond.soleField "MeadowMilkModel" "voiceM") ∈ lw_all := lw_g (lw_at lw_m6 213 rfl) rfl
theorem q1474 : (Jvm.Cond.superclass "MeadowMilkModel" "java/lang/Object") ∈ lw_all := lw_g (lw_at lw_m6 214 rfl) rfl
theorem q1476 : (Jvm.Cond.instanceMethod ({ cls := "MeadowMilkModel", name := "cell", desc := "(III)I" } : Jvm.MethodName)) ∈ lw_all := lw_g (lw_at lw_m6 216 rfl) rfl
theorem q1477 : (Jvm.Cond.selects "MeadowMilkModel" ({ cls := "MeadowMilkModel", name := "cell", desc := "(III)I" } : Jvm.MethodName) ({ cls := "MeadowMilkModel", name := "cell", desc := "(III)I" } : Jvm.MethodName)) ∈ lw_all := lw_g (lw_at lw_m6 217 rfl) rfl
theorem q1478 : (Jvm.Cond.code ({ cls := "MeadowMilkModel", name := "cell", desc := "(III)I" } : Jvm.MethodName) prog_30_method_7_code (6 : Nat) (Option.some Jvm.ClassFile.FieldType.int)) ∈ lw_all := lw_g (lw_at lw_m6 218 rfl) rfl
theorem q1479 : (Jvm.Cond.methodLink "MeadowMilkModel" (57 : Nat) ({ cls := "MeadowMilkModel", name := "isCell", desc := "(I)Z" } : Jvm.MethodName)) ∈ lw_all := lw_g (lw_at lw_m6 219 rfl) rfl
theorem q1480 : (Jvm.Cond.static ({ cls := "MeadowMilkModel", name := "isCell", desc := "(I)Z" } : Jvm.MethodName)) ∈ lw_all := lw_g (lw_at lw_m6 220 rfl) rfl
theorem q1481 : (Jvm.Cond.code ({ cls := "MeadowMilkModel", name := "isCell", desc := "(I)Z" } : Jvm.MethodName) prog_30_method_6_code (1 : Nat) (Option.some Jvm.ClassFile.FieldType.boolean)) ∈ lw_all := lw_g (lw_at lw_m6 221 rfl) rfl
theorem q1482 : (Jvm.Cond.methodLink "MeadowMilkModel" (53 : Nat) ({ cls := "MeadowMilkModel", name := "in", desc := "(III)Z" } : Jvm.MethodName)) ∈ lw_all := lw_g (lw_at lw_m6 222 rfl) rfl
theorem q1483 : (Jvm.Cond.static ({ cls := "MeadowMilkModel", name := "in", desc := "(III)Z" } : Jvm.MethodName)) ∈ lw_all := lw_g (lw_at lw_m6 223 rfl) rfl
theorem q1484 : (Jvm.Cond.code ({ cls := "MeadowMilkModel", name := "in", desc := "(III)Z" } : Jvm.MethodName) prog_30_method_2_code (3 : Nat) (Option.some Jvm.ClassFile.FieldType.boolean)) ∈ lw_all := lw_g (lw_at lw_m6 224 rfl) rfl
theorem q1485 : (Jvm.Cond.constant "MeadowMilkModel" (61 : Nat) (-1000000001 : Int32)) ∈ lw_all := lw_g (lw_at lw_m6 225 rfl) rfl
theorem q1486 : (Jvm.Cond.methodLink "MeadowMilkModel" (62 : Nat) ({ cls := "MeadowMilkModel", name := "errs", desc := "(I)I" } : Jvm.MethodName)) ∈ lw_all := lw_g (lw_at lw_m6 226 rfl) rfl
theorem q1487 : (Jvm.Cond.privateMethod ({ cls := "MeadowMilkModel", name := "errs", desc := "(I)I" } : Jvm.MethodName)) ∈ lw_tbl := lw_at lw_m6 227 rfl
theorem q1488 : (Jvm.Cond.instanceMethod ({ cls := "MeadowMilkModel", name := "errs", desc := "(I)I" } : Jvm.MethodName)) ∈ lw_all := lw_g (lw_at lw_m6 228 rfl) rfl
theorem q1489 : (Jvm.Cond.code ({ cls := "MeadowMilkModel", name := "errs", desc := "(I)I" } : Jvm.MethodName) prog_30_method_3_code (2 : Nat) (Option.some Jvm.ClassFile.FieldType.int)) ∈ lw_all := lw_g (lw_at lw_m6 229 rfl) rfl
theorem q1490 : (Jvm.Cond.constant "MeadowMilkModel" (52 : Nat) (-1000000000 : Int32)) ∈ lw_all := lw_g (lw_at lw_m6 230 rfl) rfl
theorem q1492 : (Jvm.Cond.instanceMethod ({ cls := "MeadowMilkModel", name := "grows", desc := "(I)I" } : Jvm.MethodName)) ∈ lw_all := lw_g (lw_at lw_m6 232 rfl) rfl
theorem q1493 : (Jvm.Cond.selects "MeadowMilkModel" ({ cls := "MeadowMilkModel", name := "grows", desc := "(I)I" } : Jvm.MethodName) ({ cls := "MeadowMilkModel", name := "grows", desc := "(I)I" } : Jvm.MethodName)) ∈ lw_all := lw_g (lw_at lw_m6 233 rfl) rfl
theorem q1494 : (Jvm.Cond.code ({ cls := "MeadowMilkModel", name := "grows", desc := "(I)I" } : Jvm.MethodName) prog_30_method_8_code (3 : Nat) (Option.some Jvm.ClassFile.FieldType.int)) ∈ lw_all := lw_g (lw_at lw_m6 234 rfl) rfl
theorem q1496 : (Jvm.Cond.instanceMethod ({ cls := "MeadowMilkModel", name := "ofCell", desc := "(II)I" } : Jvm.MethodName)) ∈ lw_all := lw_g (lw_at lw_m6 236 rfl) rfl
theorem q1497 : (Jvm.Cond.selects "MeadowMilkModel" ({ cls := "MeadowMilkModel", name := "ofCell", desc := "(II)I" } : Jvm.MethodName) ({ cls := "MeadowMilkModel", name := "ofCell", desc := "(II)I" } : Jvm.MethodName)) ∈ lw_all := lw_g (lw_at lw_m6 237 rfl) rfl
theorem q1498 : (Jvm.Cond.code ({ cls := "MeadowMilkModel", name := "ofCell", desc := "(II)I" } : Jvm.MethodName) prog_30_method_13_code (5 : Nat) (Option.some Jvm.ClassFile.FieldType.int)) ∈ lw_all := lw_g (lw_at lw_m6 238 rfl) rfl
theorem q1499 : (Jvm.Cond.methodLink "MeadowMilkModel" (66 : Nat) ({ cls := "MeadowMilkModel", name := "drawnBy", desc := "(I)I" } : Jvm.MethodName)) ∈ lw_all := lw_g (lw_at lw_m6 239 rfl) rfl
theorem q1500 : (Jvm.Cond.privateMethod ({ cls := "MeadowMilkModel", name := "drawnBy", desc := "(I)I" } : Jvm.MethodName)) ∈ lw_tbl := lw_at lw_m7 0 rfl
theorem q1501 : (Jvm.Cond.instanceMethod ({ cls := "MeadowMilkModel", name := "drawnBy", desc := "(I)I" } : Jvm.MethodName)) ∈ lw_all := lw_g (lw_at lw_m7 1 rfl) rfl
theorem q1502 : (Jvm.Cond.code ({ cls := "MeadowMilkModel", name := "drawnBy", desc := "(I)I" } : Jvm.MethodName) prog_30_method_14_code (2 : Nat) (Option.some Jvm.ClassFile.FieldType.int)) ∈ lw_all := lw_g (lw_at lw_m7 2 rfl) rfl
theorem q1503 : (Jvm.Cond.methodLink "MeadowMilkModel" (73 : Nat) ({ cls := "MeadowMilkModel", name := "lawOf", desc := "(IIII)I" } : Jvm.MethodName)) ∈ lw_all := lw_g (lw_at lw_m7 3 rfl) rfl
theorem q1504 : (Jvm.Cond.privateMethod ({ cls := "MeadowMilkModel", name := "lawOf", desc := "(IIII)I" } : Jvm.MethodName)) ∈ lw_tbl := lw_at lw_m7 4 rfl
theorem q1505 : (Jvm.Cond.instanceMethod ({ cls := "MeadowMilkModel", name := "lawOf", desc := "(IIII)I" } : Jvm.MethodName)) ∈ lw_all := lw_g (lw_at lw_m7 5 rfl) rfl
theorem q1506 : (Jvm.Cond.code ({ cls := "MeadowMilkModel", name := "lawOf", desc := "(IIII)I" } : Jvm.MethodName) prog_30_method_40_code (7 : Nat) (Option.some Jvm.ClassFile.FieldType.int)) ∈ lw_all := lw_g (lw_at lw_m7 6 rfl) rfl
theorem q1507 : (Jvm.Cond.methodLink "MeadowMilkModel" (170 : Nat) ({ cls := "MeadowMilkModel", name := "held", desc := "(III)I" } : Jvm.MethodName)) ∈ lw_all := lw_g (lw_at lw_m7 7 rfl) rfl
theorem q1508 : (Jvm.Cond.static ({ cls := "MeadowMilkModel", name := "held", desc := "(III)I" } : Jvm.MethodName)) ∈ lw_all := lw_g (lw_at lw_m7 8 rfl) rfl
theorem q1509 : (Jvm.Cond.code ({ cls := "MeadowMilkModel", name := "held", desc := "(III)I" } : Jvm.MethodName) prog_30_method_4_code (3 : Nat) (Option.some Jvm.ClassFile.FieldType.int)) ∈ lw_all := lw_g (lw_at lw_m7 9 rfl) rfl
theorem q1510 : (Jvm.Cond.methodLink "MeadowMilkModel" (173 : Nat) ({ cls := "MeadowMilkModel", name := "walks", desc := "(IIII)I" } : Jvm.MethodName)) ∈ lw_all := lw_g (lw_at lw_m7 10 rfl) rfl
theorem q1511 : (Jvm.Cond.privateMethod ({ cls := "MeadowMilkModel", name := "walks", desc := "(IIII)I" } : Jvm.MethodName)) ∈ lw_tbl := lw_at lw_m7 11 rfl
theorem q1512 : (Jvm.Cond.instanceMethod ({ cls := "MeadowMilkModel", name := "walks", desc := "(IIII)I" } : Jvm.MethodName)) ∈ lw_all := lw_g (lw_at lw_m7 12 rfl) rfl
theorem q1513 : (Jvm.Cond.code ({ cls := "MeadowMilkModel", name := "walks", desc := "(IIII)I" } : Jvm.MethodName) prog_30_method_39_code (6 : Nat) (Option.some Jvm.ClassFile.FieldType.int)) ∈ lw_all := lw_g (lw_at lw_m7 13 rfl) rfl
theorem q1514 : (Jvm.Cond.methodLink "MeadowMilkModel" (155 : Nat) ({ cls := "MeadowMilkModel", name := "whole", desc := "()I" } : Jvm.MethodName)) ∈ lw_all := lw_g (lw_at lw_m7 14 rfl) rfl
theorem q1515 : (Jvm.Cond.privateMethod ({ cls := "MeadowMilkModel", name := "whole", desc := "()I" } : Jvm.MethodName)) ∈ lw_tbl := lw_at lw_m7 15 rfl
theorem q1516 : (Jvm.Cond.instanceMethod ({ cls := "MeadowMilkModel", name := "whole", desc := "()I" } : Jvm.MethodName)) ∈ lw_all := lw_g (lw_at lw_m7 16 rfl) rfl
theorem q1517 : (Jvm.Cond.code ({ cls := "MeadowMilkModel", name := "whole", desc := "()I" } : Jvm.MethodName) prog_30_method_38_code (3 : Nat) (Option.some Jvm.ClassFile.FieldType.int)) ∈ lw_all := lw_g (lw_at lw_m7 17 rfl) rfl
theorem q1518 : (Jvm.Cond.methodLink "MeadowMilkModel" (167 : Nat) ({ cls := "MeadowMilkModel", name := "both", desc := "()I" } : Jvm.MethodName)) ∈ lw_all := lw_g (lw_at lw_m7 18 rfl) rfl
theorem q1519 : (Jvm.Cond.privateMethod ({ cls := "MeadowMilkModel", name := "both", desc := "()I" } : Jvm.MethodName)) ∈ lw_tbl := lw_at lw_m7 19 rfl
theorem q1520 : (Jvm.Cond.instanceMethod ({ cls := "MeadowMilkModel", name := "both", desc := "()I" } : Jvm.MethodName)) ∈ lw_all := lw_g (lw_at lw_m7 20 rfl) rfl
theorem q1521 : (Jvm.Cond.code ({ cls := "MeadowMilkModel", name := "both", desc := "()I" } : Jvm.MethodName) prog_30_method_37_code (3 : Nat) (Option.some Jvm.ClassFile.FieldType.int)) ∈ lw_all := lw_g (lw_at lw_m7 21 rfl) rfl
theorem q1522 : (Jvm.Cond.methodLink "MeadowMilkModel" (164 : Nat) ({ cls := "MeadowMilkModel", name := "compared", desc := "()I" } : Jvm.MethodName)) ∈ lw_all := lw_g (lw_at lw_m7 22 rfl) rfl
theorem q1523 : (Jvm.Cond.privateMethod ({ cls := "MeadowMilkModel", name := "compared", desc := "()I" } : Jvm.MethodName)) ∈ lw_tbl := lw_at lw_m7 23 rfl
theorem q1524 : (Jvm.Cond.instanceMethod ({ cls := "MeadowMilkModel", name := "compared", desc := "()I" } : Jvm.MethodName)) ∈ lw_all := lw_g (lw_at lw_m7 24 rfl) rfl
theorem q1525 : (Jvm.Cond.code ({ cls := "MeadowMilkModel", name := "compared", desc := "()I" } : Jvm.MethodName) prog_30_method_36_code (5 : Nat) (Option.some Jvm.ClassFile.FieldType.int)) ∈ lw_all := lw_g (lw_at lw_m7 25 rfl) rfl
theorem q1526 : (Jvm.Cond.methodLink "MeadowMilkModel" (161 : Nat) ({ cls := "MeadowMilkModel", name := "sum", desc := "()I" } : Jvm.MethodName)) ∈ lw_all := lw_g (lw_at lw_m7 26 rfl) rfl
theorem q1527 : (Jvm.Cond.privateMethod ({ cls := "MeadowMilkModel", name := "sum", desc := "()I" } : Jvm.MethodName)) ∈ lw_tbl := lw_at lw_m7 27 rfl
theorem q1528 : (Jvm.Cond.instanceMethod ({ cls := "MeadowMilkModel", name := "sum", desc := "()I" } : Jvm.MethodName)) ∈ lw_all := lw_g (lw_at lw_m7 28 rfl) rfl
theorem q1529 : (Jvm.Cond.code ({ cls := "MeadowMilkModel", name := "sum", desc := "()I" } : Jvm.MethodName) prog_30_method_35_code (4 : Nat) (Option.some Jvm.ClassFile.FieldType.int)) ∈ lw_all := lw_g (lw_at lw_m7 29 rfl) rfl
theorem q1530 : (Jvm.Cond.methodLink "MeadowMilkModel" (158 : Nat) ({ cls := "MeadowMilkModel", name := "product", desc := "()I" } : Jvm.MethodName)) ∈ lw_all := lw_g (lw_at lw_m7 30 rfl) rfl
theorem q1531 : (Jvm.Cond.privateMethod ({ cls := "MeadowMilkModel", name := "product", desc := "()I" } : Jvm.MethodName)) ∈ lw_tbl := lw_at lw_m7 31 rfl
theorem q1532 : (Jvm.Cond.instanceMethod ({ cls := "MeadowMilkModel", name := "product", desc := "()I" } : Jvm.MethodName)) ∈ lw_all := lw_g (lw_at lw_m7 32 rfl) rfl
theorem q1533 : (Jvm.Cond.code ({ cls := "MeadowMilkModel", name := "product", desc := "()I" } : Jvm.MethodName) prog_30_method_34_code (4 : Nat) (Option.some Jvm.ClassFile.FieldType.int)) ∈ lw_all := lw_g (lw_at lw_m7 33 rfl) rfl
theorem q1534 : (Jvm.Cond.methodLink "MeadowMilkModel" (152 : Nat) ({ cls := "MeadowMilkModel", name := "factor", desc := "()I" } : Jvm.MethodName)) ∈ lw_all := lw_g (lw_at lw_m7 34 rfl) rfl
theorem q1535 : (Jvm.Cond.privateMethod ({ cls := "MeadowMilkModel", name := "factor", desc := "()I" } : Jvm.MethodName)) ∈ lw_tbl := lw_at lw_m7 35 rfl
theorem q1536 : (Jvm.Cond.instanceMethod ({ cls := "MeadowMilkModel", name := "factor", desc := "()I" } : Jvm.MethodName)) ∈ lw_all := lw_g (lw_at lw_m7 36 rfl) rfl
theorem q1537 : (Jvm.Cond.code ({ cls := "MeadowMilkModel", name := "factor", desc := "()I" } : Jvm.MethodName) prog_30_method_33_code (3 : Nat) (Option.some Jvm.ClassFile.FieldType.int)) ∈ lw_all := lw_g (lw_at lw_m7 37 rfl) rfl
theorem q1538 : (Jvm.Cond.methodLink "MeadowMilkModel" (124 : Nat) ({ cls := "MeadowMilkModel", name := "byteAt", desc := "(I)I" } : Jvm.MethodName)) ∈ lw_all := lw_g (lw_at lw_m7 38 rfl) rfl
theorem q1539 : (Jvm.Cond.privateMethod ({ cls := "MeadowMilkModel", name := "byteAt", desc := "(I)I" } : Jvm.MethodName)) ∈ lw_tbl := lw_at lw_m7 39 rfl
theorem q1540 : (Jvm.Cond.instanceMethod ({ cls := "MeadowMilkModel", name := "byteAt", desc := "(I)I" } : Jvm.MethodName)) ∈ lw_all := lw_g (lw_at lw_m7 40 rfl) rfl
theorem q1541 : (Jvm.Cond.code ({ cls := "MeadowMilkModel", name := "byteAt", desc := "(I)I" } : Jvm.MethodName) prog_30_method_28_code (2 : Nat) (Option.some Jvm.ClassFile.FieldType.int)) ∈ lw_all := lw_g (lw_at lw_m7 41 rfl) rfl
theorem q1542 : (Jvm.Cond.methodLink "MeadowMilkModel" (127 : Nat) ({ cls := "MeadowMilkModel", name := "isDigit", desc := "(I)Z" } : Jvm.MethodName)) ∈ lw_all := lw_g (lw_at lw_m7 42 rfl) rfl
theorem q1543 : (Jvm.Cond.static ({ cls := "MeadowMilkModel", name := "isDigit", desc := "(I)Z" } : Jvm.MethodName)) ∈ lw_all := lw_g (lw_at lw_m7 43 rfl) rfl
theorem q1544 : (Jvm.Cond.code ({ cls := "MeadowMilkModel", name := "isDigit", desc := "(I)Z" } : Jvm.MethodName) prog_30_method_29_code (1 : Nat) (Option.some Jvm.ClassFile.FieldType.boolean)) ∈ lw_all := lw_g (lw_at lw_m7 44 rfl) rfl
theorem q1545 : (Jvm.Cond.methodLink "MeadowMilkModel" (143 : Nat) ({ cls := "MeadowMilkModel", name := "number", desc := "()I" } : Jvm.MethodName)) ∈ lw_all := lw_g (lw_at lw_m7 45 rfl) rfl
theorem q1546 : (Jvm.Cond.privateMethod ({ cls := "MeadowMilkModel", name := "number", desc := "()I" } : Jvm.MethodName)) ∈ lw_tbl := lw_at lw_m7 46 rfl
theorem q1547 : (Jvm.Cond.instanceMethod ({ cls := "MeadowMilkModel", name := "number", desc := "()I" } : Jvm.MethodName)) ∈ lw_all := lw_g (lw_at lw_m7 47 rfl) rfl
theorem q1548 : (Jvm.Cond.code ({ cls := "MeadowMilkModel", name := "number", desc := "()I" } : Jvm.MethodName) prog_30_method_31_code (3 : Nat) (Option.some Jvm.ClassFile.FieldType.int)) ∈ lw_all := lw_g (lw_at lw_m7 48 rfl) rfl
theorem q1549 : (Jvm.Cond.methodLink "MeadowMilkModel" (146 : Nat) ({ cls := "MeadowMilkModel", name := "named", desc := "(I)I" } : Jvm.MethodName)) ∈ lw_all := lw_g (lw_at lw_m7 49 rfl) rfl
theorem q1550 : (Jvm.Cond.privateMethod ({ cls := "MeadowMilkModel", name := "named", desc := "(I)I" } : Jvm.MethodName)) ∈ lw_tbl := lw_at lw_m7 50 rfl
theorem q1551 : (Jvm.Cond.instanceMethod ({ cls := "MeadowMilkModel", name := "named", desc := "(I)I" } : Jvm.MethodName)) ∈ lw_all := lw_g (lw_at lw_m7 51 rfl) rfl
theorem q1552 : (Jvm.Cond.code ({ cls := "MeadowMilkModel", name := "named", desc := "(I)I" } : Jvm.MethodName) prog_30_method_32_code (5 : Nat) (Option.some Jvm.ClassFile.FieldType.int)) ∈ lw_all := lw_g (lw_at lw_m7 52 rfl) rfl
theorem q1553 : (Jvm.Cond.methodLink "MeadowMilkModel" (130 : Nat) ({ cls := "MeadowMilkModel", name := "fails", desc := "()I" } : Jvm.MethodName)) ∈ lw_all := lw_g (lw_at lw_m7 53 rfl) rfl
theorem q1554 : (Jvm.Cond.privateMethod ({ cls := "MeadowMilkModel", name := "fails", desc := "()I" } : Jvm.MethodName)) ∈ lw_tbl := lw_at lw_m7 54 rfl
theorem q1555 : (Jvm.Cond.instanceMethod ({ cls := "MeadowMilkModel", name := "fails", desc := "()I" } : Jvm.MethodName)) ∈ lw_all := lw_g (lw_at lw_m7 55 rfl) rfl
theorem q1556 : (Jvm.Cond.code ({ cls := "MeadowMilkModel", name := "fails", desc := "()I" } : Jvm.MethodName) prog_30_method_30_code (1 : Nat) (Option.some Jvm.ClassFile.FieldType.int)) ∈ lw_all := lw_g (lw_at lw_m7 56 rfl) rfl
theorem q1557 : (Jvm.Cond.methodLink "MeadowMilkModel" (69 : Nat) ({ cls := "MeadowMilkModel", name := "its", desc := "(II)I" } : Jvm.MethodName)) ∈ lw_all := lw_g (lw_at lw_m7 57 rfl) rfl
theorem q1558 : (Jvm.Cond.privateMethod ({ cls := "MeadowMilkModel", name := "its", desc := "(II)I" } : Jvm.MethodName)) ∈ lw_tbl := lw_at lw_m7 58 rfl
theorem q1559 : (Jvm.Cond.instanceMethod ({ cls := "MeadowMilkModel", name := "its", desc := "(II)I" } : Jvm.MethodName)) ∈ lw_all := lw_g (lw_at lw_m7 59 rfl) rfl
theorem q1560 : (Jvm.Cond.code ({ cls := "MeadowMilkModel", name := "its", desc := "(II)I" } : Jvm.MethodName) prog_30_method_10_code (3 : Nat) (Option.some Jvm.ClassFile.FieldType.int)) ∈ lw_all := lw_g (lw_at lw_m7 60 rfl) rfl
theorem q1562 : (Jvm.Cond.instanceMethod ({ cls := "MeadowMilkModel", name := "cow", desc := "(II)I" } : Jvm.MethodName)) ∈ lw_all := lw_g (lw_at lw_m7 62 rfl) rfl
theorem q1563 : (Jvm.Cond.selects "MeadowMilkModel" ({ cls := "MeadowMilkModel", name := "cow", desc := "(II)I" } : Jvm.MethodName) ({ cls := "MeadowMilkModel", name := "cow", desc := "(II)I" } : Jvm.MethodName)) ∈ lw_all := lw_g (lw_at lw_m7 63 rfl) rfl
theorem q1564 : (Jvm.Cond.code ({ cls := "MeadowMilkModel", name := "cow", desc := "(II)I" } : Jvm.MethodName) prog_30_method_15_code (4 : Nat) (Option.some Jvm.ClassFile.FieldType.int)) ∈ lw_all := lw_g (lw_at lw_m7 64 rfl) rfl
theorem q1565 : (Jvm.Cond.constant "MeadowMilkModel" (77 : Nat) (-1000000004 : Int32)) ∈ lw_all := lw_g (lw_at lw_m7 65 rfl) rfl
theorem q1566 : (Jvm.Cond.methodLink "MeadowMilkModel" (78 : Nat) ({ cls := "MeadowMilkModel", name := "puts", desc := "(III)V" } : Jvm.MethodName)) ∈ lw_all := lw_g (lw_at lw_m7 66 rfl) rfl
theorem q1567 : (Jvm.Cond.privateMethod ({ cls := "MeadowMilkModel", name := "puts", desc := "(III)V" } : Jvm.MethodName)) ∈ lw_tbl := lw_at lw_m7 67 rfl
theorem q1568 : (Jvm.Cond.instanceMethod ({ cls := "MeadowMilkModel", name := "puts", desc := "(III)V" } : Jvm.MethodName)) ∈ lw_all := lw_g (lw_at lw_m7 68 rfl) rfl
theorem q1569 : (Jvm.Cond.code ({ cls := "MeadowMilkModel", name := "puts", desc := "(III)V" } : Jvm.MethodName) prog_30_method_11_code (4 : Nat) (Option.none : Option Jvm.ClassFile.FieldType)) ∈ lw_all := lw_g (lw_at lw_m7 69 rfl) rfl
theorem q1571 : (Jvm.Cond.instanceMethod ({ cls := "MeadowMilkModel", name := "ofCow", desc := "(II)I" } : Jvm.MethodName)) ∈ lw_all := lw_g (lw_at lw_m7 71 rfl) rfl
theorem q1572 : (Jvm.Cond.selects "MeadowMilkModel" ({ cls := "MeadowMilkModel", name := "ofCow", desc := "(II)I" } : Jvm.MethodName) ({ cls := "MeadowMilkModel", name := "ofCow", desc := "(II)I" } : Jvm.MethodName)) ∈ lw_all := lw_g (lw_at lw_m7 72 rfl) rfl
theorem q1573 : (Jvm.Cond.code ({ cls := "MeadowMilkModel", name := "ofCow", desc := "(II)I" } : Jvm.MethodName) prog_30_method_21_code (3 : Nat) (Option.some Jvm.ClassFile.FieldType.int)) ∈ lw_all := lw_g (lw_at lw_m7 73 rfl) rfl
theorem q1574 : (Jvm.Cond.methodLink "MeadowMilkModel" (93 : Nat) ({ cls := "MeadowMilkModel", name := "isCow", desc := "(I)Z" } : Jvm.MethodName)) ∈ lw_all := lw_g (lw_at lw_m7 74 rfl) rfl
theorem q1575 : (Jvm.Cond.privateMethod ({ cls := "MeadowMilkModel", name := "isCow", desc := "(I)Z" } : Jvm.MethodName)) ∈ lw_tbl := lw_at lw_m7 75 rfl
theorem q1576 : (Jvm.Cond.instanceMethod ({ cls := "MeadowMilkModel", name := "isCow", desc := "(I)Z" } : Jvm.MethodName)) ∈ lw_all := lw_g (lw_at lw_m7 76 rfl) rfl
theorem q1577 : (Jvm.Cond.code ({ cls := "MeadowMilkModel", name := "isCow", desc := "(I)Z" } : Jvm.MethodName) prog_30_method_12_code (2 : Nat) (Option.some Jvm.ClassFile.FieldType.boolean)) ∈ lw_all := lw_g (lw_at lw_m7 77 rfl) rfl
theorem q1578 : (Jvm.Cond.methodLink "MeadowMilkModel" (96 : Nat) ({ cls := "MeadowMilkModel", name := "eatsOf", desc := "(I)I" } : Jvm.MethodName)) ∈ lw_all := lw_g (lw_at lw_m7 78 rfl) rfl
theorem q1579 : (Jvm.Cond.privateMethod ({ cls := "MeadowMilkModel", name := "eatsOf", desc := "(I)I" } : Jvm.MethodName)) ∈ lw_tbl := lw_at lw_m7 79 rfl
theorem q1580 : (Jvm.Cond.instanceMethod ({ cls := "MeadowMilkModel", name := "eatsOf", desc := "(I)I" } : Jvm.MethodName)) ∈ lw_all := lw_g (lw_at lw_m7 80 rfl) rfl
theorem q1581 : (Jvm.Cond.code ({ cls := "MeadowMilkModel", name := "eatsOf", desc := "(I)I" } : Jvm.MethodName) prog_30_method_16_code (4 : Nat) (Option.some Jvm.ClassFile.FieldType.int)) ∈ lw_all := lw_g (lw_at lw_m7 81 rfl) rfl
theorem q1582 : (Jvm.Cond.methodLink "MeadowMilkModel" (99 : Nat) ({ cls := "MeadowMilkModel", name := "spanOf", desc := "(I)I" } : Jvm.MethodName)) ∈ lw_all := lw_g (lw_at lw_m7 82 rfl) rfl
theorem q1583 : (Jvm.Cond.privateMethod ({ cls := "MeadowMilkModel", name := "spanOf", desc := "(I)I" } : Jvm.MethodName)) ∈ lw_tbl := lw_at lw_m7 83 rfl
theorem q1584 : (Jvm.Cond.instanceMethod ({ cls := "MeadowMilkModel", name := "spanOf", desc := "(I)I" } : Jvm.MethodName)) ∈ lw_all := lw_g (lw_at lw_m7 84 rfl) rfl
theorem q1585 : (Jvm.Cond.code ({ cls := "MeadowMilkModel", name := "spanOf", desc := "(I)I" } : Jvm.MethodName) prog_30_method_17_code (3 : Nat) (Option.some Jvm.ClassFile.FieldType.int)) ∈ lw_all := lw_g (lw_at lw_m7 85 rfl) rfl
theorem q1586 : (Jvm.Cond.methodLink "MeadowMilkModel" (102 : Nat) ({ cls := "MeadowMilkModel", name := "wayFrom", desc := "(II)I" } : Jvm.MethodName)) ∈ lw_all := lw_g (lw_at lw_m7 86 rfl) rfl
theorem q1587 : (Jvm.Cond.privateMethod ({ cls := "MeadowMilkModel", name := "wayFrom", desc := "(II)I" } : Jvm.MethodName)) ∈ lw_tbl := lw_at lw_m7 87 rfl
theorem q1588 : (Jvm.Cond.instanceMethod ({ cls := "MeadowMilkModel", name := "wayFrom", desc := "(II)I" } : Jvm.MethodName)) ∈ lw_all := lw_g (lw_at lw_m7 88 rfl) rfl
theorem q1589 : (Jvm.Cond.code ({ cls := "MeadowMilkModel", name := "wayFrom", desc := "(II)I" } : Jvm.MethodName) prog_30_method_20_code (8 : Nat) (Option.some Jvm.ClassFile.FieldType.int)) ∈ lw_all := lw_g (lw_at lw_m7 89 rfl) rfl
theorem q1590 : (Jvm.Cond.methodLink "MeadowMilkModel" (86 : Nat) ({ cls := "MeadowMilkModel", name := "wantsOf", desc := "(IIZ)I" } : Jvm.MethodName)) ∈ lw_all := lw_g (lw_at lw_m7 90 rfl) rfl
theorem q1591 : (Jvm.Cond.privateMethod ({ cls := "MeadowMilkModel", name := "wantsOf", desc := "(IIZ)I" } : Jvm.MethodName)) ∈ lw_tbl := lw_at lw_m7 91 rfl
theorem q1592 : (Jvm.Cond.instanceMethod ({ cls := "MeadowMilkModel", name := "wantsOf", desc := "(IIZ)I" } : Jvm.MethodName)) ∈ lw_all := lw_g (lw_at lw_m7 92 rfl) rfl
theorem q1593 : (Jvm.Cond.code ({ cls := "MeadowMilkModel", name := "wantsOf", desc := "(IIZ)I" } : Jvm.MethodName) prog_30_method_19_code (7 : Nat) (Option.some Jvm.ClassFile.FieldType.int)) ∈ lw_all := lw_g (lw_at lw_m7 93 rfl) rfl
theorem q1594 : (Jvm.Cond.methodLink "MeadowMilkModel" (82 : Nat) ({ cls := "MeadowMilkModel", name := "inMilk", desc := "(III)I" } : Jvm.MethodName)) ∈ lw_all := lw_g (lw_at lw_m7 94 rfl) rfl
theorem q1595 : (Jvm.Cond.privateMethod ({ cls := "MeadowMilkModel", name := "inMilk", desc := "(III)I" } : Jvm.MethodName)) ∈ lw_tbl := lw_at lw_m7 95 rfl
theorem q1596 : (Jvm.Cond.instanceMethod ({ cls := "MeadowMilkModel", name := "inMilk", desc := "(III)I" } : Jvm.MethodName)) ∈ lw_all := lw_g (lw_at lw_m7 96 rfl) rfl
theorem q1597 : (Jvm.Cond.code ({ cls := "MeadowMilkModel", name := "inMilk", desc := "(III)I" } : Jvm.MethodName) prog_30_method_18_code (5 : Nat) (Option.some Jvm.ClassFile.FieldType.int)) ∈ lw_all := lw_g (lw_at lw_m7 97 rfl) rfl
theorem q1598 : (Jvm.Cond.methodLink "MeadowMilkModel" (90 : Nat) ({ cls := "MeadowMilkModel", name := "beside", desc := "(II)I" } : Jvm.MethodName)) ∈ lw_all := lw_g (lw_at lw_m7 98 rfl) rfl
theorem q1599 : (Jvm.Cond.static ({ cls := "MeadowMilkModel", name := "beside", desc := "(II)I" } : Jvm.MethodName)) ∈ lw_all := lw_g (lw_at lw_m7 99 rfl) rfl
theorem q1600 : (Jvm.Cond.code ({ cls := "MeadowMilkModel", name := "beside", desc := "(II)I" } : Jvm.MethodName) prog_30_method_9_code (2 : Nat) (Option.some Jvm.ClassFile.FieldType.int)) ∈ lw_all := lw_g (lw_at lw_m7 100 rfl) rfl
theorem q1602 : (Jvm.Cond.instanceMethod ({ cls := "MeadowMilkModel", name := "milk", desc := "(II)I" } : Jvm.MethodName)) ∈ lw_all := lw_g (lw_at lw_m7 102 rfl) rfl
theorem q1603 : (Jvm.Cond.selects "MeadowMilkModel" ({ cls := "MeadowMilkModel", name := "milk", desc := "(II)I" } : Jvm.MethodName) ({ cls := "MeadowMilkModel", name := "milk", desc := "(II)I" } : Jvm.MethodName)) ∈ lw_all := lw_g (lw_at lw_m7 103 rfl) rfl
theorem q1604 : (Jvm.Cond.code ({ cls := "MeadowMilkModel", name := "milk", desc := "(II)I" } : Jvm.MethodName) prog_30_method_22_code (3 : Nat) (Option.some Jvm.ClassFile.FieldType.int)) ∈ lw_all := lw_g (lw_at lw_m7 104 rfl) rfl
theorem q1605 : (Jvm.Cond.constant "MeadowMilkModel" (105 : Nat) (-1000000002 : Int32)) ∈ lw_all := lw_g (lw_at lw_m7 105 rfl) rfl
theorem q1607 : (Jvm.Cond.instanceMethod ({ cls := "MeadowMilkModel", name := "become", desc := "(II)I" } : Jvm.MethodName)) ∈ lw_all := lw_g (lw_at lw_m7 107 rfl) rfl
theorem q1608 : (Jvm.Cond.selects "MeadowMilkModel" ({ cls := "MeadowMilkModel", name := "become", desc := "(II)I" } : Jvm.MethodName) ({ cls := "MeadowMilkModel", name := "become", desc := "(II)I" } : Jvm.MethodName)) ∈ lw_all := lw_g (lw_at lw_m7 108 rfl) rfl
theorem q1609 : (Jvm.Cond.code ({ cls := "MeadowMilkModel", name := "become", desc := "(II)I" } : Jvm.MethodName) prog_30_method_23_code (4 : Nat) (Option.some Jvm.ClassFile.FieldType.int)) ∈ lw_all := lw_g (lw_at lw_m7 109 rfl) rfl
theorem q1611 : (Jvm.Cond.instanceMethod ({ cls := "MeadowMilkModel", name := "as", desc := "(II)I" } : Jvm.MethodName)) ∈ lw_all := lw_g (lw_at lw_m7 111 rfl) rfl
theorem q1612 : (Jvm.Cond.selects "MeadowMilkModel" ({ cls := "MeadowMilkModel", name := "as", desc := "(II)I" } : Jvm.MethodName) ({ cls := "MeadowMilkModel", name := "as", desc := "(II)I" } : Jvm.MethodName)) ∈ lw_all := lw_g (lw_at lw_m7 112 rfl) rfl
theorem q1613 : (Jvm.Cond.code ({ cls := "MeadowMilkModel", name := "as", desc := "(II)I" } : Jvm.MethodName) prog_30_method_25_code (4 : Nat) (Option.some Jvm.ClassFile.FieldType.int)) ∈ lw_all := lw_g (lw_at lw_m7 113 rfl) rfl
theorem q1614 : (Jvm.Cond.methodLink "MeadowMilkModel" (106 : Nat) ({ cls := "MeadowMilkModel", name := "above", desc := "(I)I" } : Jvm.MethodName)) ∈ lw_all := lw_g (lw_at lw_m7 114 rfl) rfl
theorem q1615 : (Jvm.Cond.static ({ cls := "MeadowMilkModel", name := "above", desc := "(I)I" } : Jvm.MethodName)) ∈ lw_all := lw_g (lw_at lw_m7 115 rfl) rfl
theorem q1616 : (Jvm.Cond.code ({ cls := "MeadowMilkModel", name := "above", desc := "(I)I" } : Jvm.MethodName) prog_30_method_24_code (1 : Nat) (Option.some Jvm.ClassFile.FieldType.int)) ∈ lw_all := lw_g (lw_at lw_m7 116 rfl) rfl
theorem q1617 : (Jvm.Cond.constant "MeadowMilkModel" (109 : Nat) (-1000000005 : Int32)) ∈ lw_all := lw_g (lw_at lw_m7 117 rfl) rfl
theorem q1619 : (Jvm.Cond.instanceMethod ({ cls := "MeadowMilkModel", name := "put", desc := "(II)I" } : Jvm.MethodName)) ∈ lw_all := lw_g (lw_at lw_m7 119 rfl) rfl
theorem q1620 : (Jvm.Cond.selects "MeadowMilkModel" ({ cls := "MeadowMilkModel", name := "put", desc := "(II)I" } : Jvm.MethodName) ({ cls := "MeadowMilkModel", name := "put", desc := "(II)I" } : Jvm.MethodName)) ∈ lw_all := lw_g (lw_at lw_m7 120 rfl) rfl
theorem q1621 : (Jvm.Cond.code ({ cls := "MeadowMilkModel", name := "put", desc := "(II)I" } : Jvm.MethodName) prog_30_method_26_code (4 : Nat) (Option.some Jvm.ClassFile.FieldType.int)) ∈ lw_all := lw_g (lw_at lw_m7 121 rfl) rfl
theorem q1623 : (Jvm.Cond.instanceMethod ({ cls := "MeadowMilkModel", name := "dry", desc := "(I)I" } : Jvm.MethodName)) ∈ lw_all := lw_g (lw_at lw_m7 123 rfl) rfl
theorem q1624 : (Jvm.Cond.selects "MeadowMilkModel" ({ cls := "MeadowMilkModel", name := "dry", desc := "(I)I" } : Jvm.MethodName) ({ cls := "MeadowMilkModel", name := "dry", desc := "(I)I" } : Jvm.MethodName)) ∈ lw_all := lw_g (lw_at lw_m7 124 rfl) rfl
theorem q1625 : (Jvm.Cond.code ({ cls := "MeadowMilkModel", name := "dry", desc := "(I)I" } : Jvm.MethodName) prog_30_method_27_code (3 : Nat) (Option.some Jvm.ClassFile.FieldType.int)) ∈ lw_all := lw_g (lw_at lw_m7 125 rfl) rfl
theorem q1627 : (Jvm.Cond.instanceMethod ({ cls := "MeadowMilkModel", name := "law", desc := "(IIII)I" } : Jvm.MethodName)) ∈ lw_all := lw_g (lw_at lw_m7 127 rfl) rfl
theorem q1628 : (Jvm.Cond.selects "MeadowMilkModel" ({ cls := "MeadowMilkModel", name := "law", desc := "(IIII)I" } : Jvm.MethodName) ({ cls := "MeadowMilkModel", name := "law", desc := "(IIII)I" } : Jvm.MethodName)) ∈ lw_all := lw_g (lw_at lw_m7 128 rfl) rfl
theorem q1629 : (Jvm.Cond.code ({ cls := "MeadowMilkModel", name := "law", desc := "(IIII)I" } : Jvm.MethodName) prog_30_method_41_code (5 : Nat) (Option.some Jvm.ClassFile.FieldType.int)) ∈ lw_all := lw_g (lw_at lw_m7 129 rfl) rfl
theorem q1631 : (Jvm.Cond.instanceMethod ({ cls := "MeadowMilkModel", name := "feed", desc := "(JI)I" } : Jvm.MethodName)) ∈ lw_all := lw_g (lw_at lw_m7 131 rfl) rfl
theorem q1632 : (Jvm.Cond.selects "MeadowMilkModel" ({ cls := "MeadowMilkModel", name := "feed", desc := "(JI)I" } : Jvm.MethodName) ({ cls := "MeadowMilkModel", name := "feed", desc := "(JI)I" } : Jvm.MethodName)) ∈ lw_all := lw_g (lw_at lw_m7 132 rfl) rfl
theorem q1633 : (Jvm.Cond.code ({ cls := "MeadowMilkModel", name := "feed", desc := "(JI)I" } : Jvm.MethodName) prog_30_method_42_code (5 : Nat) (Option.some Jvm.ClassFile.FieldType.int)) ∈ lw_all := lw_g (lw_at lw_m7 133 rfl) rfl
theorem q1634 : (Jvm.Cond.constantLong "MeadowMilkModel" (176 : Nat) (255 : Int64)) ∈ lw_all := lw_g (lw_at lw_m7 134 rfl) rfl
theorem q1636 : (Jvm.Cond.instanceMethod ({ cls := "MeadowMilkModel", name := "text", desc := "(I)I" } : Jvm.MethodName)) ∈ lw_all := lw_g (lw_at lw_m7 136 rfl) rfl
theorem q1637 : (Jvm.Cond.selects "MeadowMilkModel" ({ cls := "MeadowMilkModel", name := "text", desc := "(I)I" } : Jvm.MethodName) ({ cls := "MeadowMilkModel", name := "text", desc := "(I)I" } : Jvm.MethodName)) ∈ lw_all := lw_g (lw_at lw_m7 137 rfl) rfl
theorem q1638 : (Jvm.Cond.code ({ cls := "MeadowMilkModel", name := "text", desc := "(I)I" } : Jvm.MethodName) prog_30_method_43_code (5 : Nat) (Option.some Jvm.ClassFile.FieldType.int)) ∈ lw_all := lw_g (lw_at lw_m7 138 rfl) rfl
theorem q1639 : (Jvm.Cond.methodLink "MeadowMilkModel" (178 : Nat) ({ cls := "MeadowMilkModel", name := "moveAll", desc := "([I[I)V" } : Jvm.MethodName)) ∈ lw_all := lw_g (lw_at lw_m7 139 rfl) rfl
theorem q1640 : (Jvm.Cond.privateMethod ({ cls := "MeadowMilkModel", name := "moveAll", desc := "([I[I)V" } : Jvm.MethodName)) ∈ lw_tbl := lw_at lw_m7 140 rfl
theorem q1641 : (Jvm.Cond.instanceMethod ({ cls := "MeadowMilkModel", name := "moveAll", desc := "([I[I)V" } : Jvm.MethodName)) ∈ lw_all := lw_g (lw_at lw_m7 141 rfl) rfl
theorem q1642 : (Jvm.Cond.code ({ cls := "MeadowMilkModel", name := "moveAll", desc := "([I[I)V" } : Jvm.MethodName) prog_30_method_5_code (4 : Nat) (Option.none : Option Jvm.ClassFile.FieldType)) ∈ lw_all := lw_g (lw_at lw_m7 142 rfl) rfl
theorem q1644 : (Jvm.Cond.instanceMethod ({ cls := "MeadowMilkModel", name := "days", desc := "(I)I" } : Jvm.MethodName)) ∈ lw_all := lw_g (lw_at lw_m7 144 rfl) rfl
theorem q1645 : (Jvm.Cond.selects "MeadowMilkModel" ({ cls := "MeadowMilkModel", name := "days", desc := "(I)I" } : Jvm.MethodName) ({ cls := "MeadowMilkModel", name := "days", desc := "(I)I" } : Jvm.MethodName)) ∈ lw_all := lw_g (lw_at lw_m7 145 rfl) rfl
theorem q1646 : (Jvm.Cond.code ({ cls := "MeadowMilkModel", name := "days", desc := "(I)I" } : Jvm.MethodName) prog_30_method_48_code (2 : Nat) (Option.some Jvm.ClassFile.FieldType.int)) ∈ lw_all := lw_g (lw_at lw_m7 146 rfl) rfl
theorem q1647 : (Jvm.Cond.constant "MeadowMilkModel" (189 : Nat) (-1000000003 : Int32)) ∈ lw_all := lw_g (lw_at lw_m7 147 rfl) rfl
theorem q1648 : (Jvm.Cond.methodLink "MeadowMilkModel" (190 : Nat) ({ cls := "MeadowMilkModel", name := "passes", desc := "(I)V" } : Jvm.MethodName)) ∈ lw_all := lw_g (lw_at lw_m7 148 rfl) rfl
theorem q1649 : (Jvm.Cond.privateMethod ({ cls := "MeadowMilkModel", name := "passes", desc := "(I)V" } : Jvm.MethodName)) ∈ lw_tbl := lw_at lw_m7 149 rfl
theorem q1650 : (Jvm.Cond.instanceMethod ({ cls := "MeadowMilkModel", name := "passes", desc := "(I)V" } : Jvm.MethodName)) ∈ lw_all := lw_g (lw_at lw_m7 150 rfl) rfl
theorem q1651 : (Jvm.Cond.code ({ cls := "MeadowMilkModel", name := "passes", desc := "(I)V" } : Jvm.MethodName) prog_30_method_46_code (3 : Nat) (Option.none : Option Jvm.ClassFile.FieldType)) ∈ lw_all := lw_g (lw_at lw_m7 151 rfl) rfl
theorem q1652 : (Jvm.Cond.methodLink "MeadowMilkModel" (186 : Nat) ({ cls := "MeadowMilkModel", name := "oneDay", desc := "()V" } : Jvm.MethodName)) ∈ lw_all := lw_g (lw_at lw_m7 152 rfl) rfl
theorem q1653 : (Jvm.Cond.privateMethod ({ cls := "MeadowMilkModel", name := "oneDay", desc := "()V" } : Jvm.MethodName)) ∈ lw_tbl := lw_at lw_m7 153 rfl
theorem q1654 : (Jvm.Cond.instanceMethod ({ cls := "MeadowMilkModel", name := "oneDay", desc := "()V" } : Jvm.MethodName)) ∈ lw_all := lw_g (lw_at lw_m7 154 rfl) rfl
theorem q1655 : (Jvm.Cond.code ({ cls := "MeadowMilkModel", name := "oneDay", desc := "()V" } : Jvm.MethodName) prog_30_method_45_code (2 : Nat) (Option.none : Option Jvm.ClassFile.FieldType)) ∈ lw_all := lw_g (lw_at lw_m7 155 rfl) rfl
theorem q1656 : (Jvm.Cond.methodLink "MeadowMilkModel" (182 : Nat) ({ cls := "MeadowMilkModel", name := "grazes", desc := "(I)V" } : Jvm.MethodName)) ∈ lw_all := lw_g (lw_at lw_m7 156 rfl) rfl
theorem q1657 : (Jvm.Cond.privateMethod ({ cls := "MeadowMilkModel", name := "grazes", desc := "(I)V" } : Jvm.MethodName)) ∈ lw_tbl := lw_at lw_m7 157 rfl
theorem q1658 : (Jvm.Cond.instanceMethod ({ cls := "MeadowMilkModel", name := "grazes", desc := "(I)V" } : Jvm.MethodName)) ∈ lw_all := lw_g (lw_at lw_m7 158 rfl) rfl
theorem q1659 : (Jvm.Cond.code ({ cls := "MeadowMilkModel", name := "grazes", desc := "(I)V" } : Jvm.MethodName) prog_30_method_44_code (5 : Nat) (Option.none : Option Jvm.ClassFile.FieldType)) ∈ lw_all := lw_g (lw_at lw_m7 159 rfl) rfl
theorem q1660 : (Jvm.Cond.methodLink "MeadowMilkModel" (193 : Nat) ({ cls := "MeadowMilkModel", name := "grassOfAll", desc := "()I" } : Jvm.MethodName)) ∈ lw_all := lw_g (lw_at lw_m7 160 rfl) rfl
theorem q1661 : (Jvm.Cond.privateMethod ({ cls := "MeadowMilkModel", name := "grassOfAll", desc := "()I" } : Jvm.MethodName)) ∈ lw_tbl := lw_at lw_m7 161 rfl
theorem q1662 : (Jvm.Cond.instanceMethod ({ cls := "MeadowMilkModel", name := "grassOfAll", desc := "()I" } : Jvm.MethodName)) ∈ lw_all := lw_g (lw_at lw_m7 162 rfl) rfl
theorem q1663 : (Jvm.Cond.code ({ cls := "MeadowMilkModel", name := "grassOfAll", desc := "()I" } : Jvm.MethodName) prog_30_method_47_code (3 : Nat) (Option.some Jvm.ClassFile.FieldType.int)) ∈ lw_all := lw_g (lw_at lw_m7 163 rfl) rfl
theorem q1665 : (Jvm.Cond.instanceMethod ({ cls := "MeadowMilkModel", name := "loose", desc := "(I)I" } : Jvm.MethodName)) ∈ lw_all := lw_g (lw_at lw_m7 165 rfl) rfl
theorem q1666 : (Jvm.Cond.selects "MeadowMilkModel" ({ cls := "MeadowMilkModel", name := "loose", desc := "(I)I" } : Jvm.MethodName) ({ cls := "MeadowMilkModel", name := "loose", desc := "(I)I" } : Jvm.MethodName)) ∈ lw_all := lw_g (lw_at lw_m7 166 rfl) rfl
theorem q1667 : (Jvm.Cond.code ({ cls := "MeadowMilkModel", name := "loose", desc := "(I)I" } : Jvm.MethodName) prog_30_method_50_code (4 : Nat) (Option.some Jvm.ClassFile.FieldType.int)) ∈ lw_all := lw_g (lw_at lw_m7 167 rfl) rfl
theorem q1668 : (Jvm.Cond.methodLink "MeadowMilkModel" (197 : Nat) ({ cls := "MeadowMilkModel", name := "drawn", desc := "(I)I" } : Jvm.MethodName)) ∈ lw_all := lw_g (lw_at lw_m7 168 rfl) rfl
theorem q1669 : (Jvm.Cond.privateMethod ({ cls := "MeadowMilkModel", name := "drawn", desc := "(I)I" } : Jvm.MethodName)) ∈ lw_tbl := lw_at lw_m7 169 rfl
theorem q1670 : (Jvm.Cond.instanceMethod ({ cls := "MeadowMilkModel", name := "drawn", desc := "(I)I" } : Jvm.MethodName)) ∈ lw_all := lw_g (lw_at lw_m7 170 rfl) rfl
theorem q1671 : (Jvm.Cond.code ({ cls := "MeadowMilkModel", name := "drawn", desc := "(I)I" } : Jvm.MethodName) prog_30_method_49_code (2 : Nat) (Option.some Jvm.ClassFile.FieldType.int)) ∈ lw_all := lw_g (lw_at lw_m7 171 rfl) rfl
theorem q1672 : (Jvm.Cond.constant "MeadowMilkModel" (196 : Nat) (1103515245 : Int32)) ∈ lw_all := lw_g (lw_at lw_m7 172 rfl) rfl
theorem q1674 : (Jvm.Cond.instanceMethod ({ cls := "MeadowMilkModel", name := "taste", desc := "(II)I" } : Jvm.MethodName)) ∈ lw_all := lw_g (lw_at lw_m7 174 rfl) rfl
theorem q1675 : (Jvm.Cond.selects "MeadowMilkModel" ({ cls := "MeadowMilkModel", name := "taste", desc := "(II)I" } : Jvm.MethodName) ({ cls := "MeadowMilkModel", name := "taste", desc := "(II)I" } : Jvm.MethodName)) ∈ lw_all := lw_g (lw_at lw_m7 175 rfl) rfl
theorem q1676 : (Jvm.Cond.code ({ cls := "MeadowMilkModel", name := "taste", desc := "(II)I" } : Jvm.MethodName) prog_30_method_54_code (3 : Nat) (Option.some Jvm.ClassFile.FieldType.int)) ∈ lw_all := lw_g (lw_at lw_m7 176 rfl) rfl
theorem q1677 : (Jvm.Cond.methodLink "MeadowMilkModel" (203 : Nat) ({ cls := "MeadowMilkModel", name := "isJug", desc := "(I)Z" } : Jvm.MethodName)) ∈ lw_all := lw_g (lw_at lw_m7 177 rfl) rfl
theorem q1678 : (Jvm.Cond.privateMethod ({ cls := "MeadowMilkModel", name := "isJug", desc := "(I)Z" } : Jvm.MethodName)) ∈ lw_tbl := lw_at lw_m7 178 rfl
theorem q1679 : (Jvm.Cond.instanceMethod ({ cls := "MeadowMilkModel", name := "isJug", desc := "(I)Z" } : Jvm.MethodName)) ∈ lw_all := lw_g (lw_at lw_m7 179 rfl) rfl
theorem q1680 : (Jvm.Cond.code ({ cls := "MeadowMilkModel", name := "isJug", desc := "(I)Z" } : Jvm.MethodName) prog_30_method_51_code (2 : Nat) (Option.some Jvm.ClassFile.FieldType.boolean)) ∈ lw_all := lw_g (lw_at lw_m7 180 rfl) rfl
theorem q1681 : (Jvm.Cond.methodLink "MeadowMilkModel" (206 : Nat) ({ cls := "MeadowMilkModel", name := "tasteOf", desc := "(II)I" } : Jvm.MethodName)) ∈ lw_all := lw_g (lw_at lw_m7 181 rfl) rfl
theorem q1682 : (Jvm.Cond.privateMethod ({ cls := "MeadowMilkModel", name := "tasteOf", desc := "(II)I" } : Jvm.MethodName)) ∈ lw_tbl := lw_at lw_m7 182 rfl
theorem q1683 : (Jvm.Cond.instanceMethod ({ cls := "MeadowMilkModel", name := "tasteOf", desc := "(II)I" } : Jvm.MethodName)) ∈ lw_all := lw_g (lw_at lw_m7 183 rfl) rfl
theorem q1684 : (Jvm.Cond.code ({ cls := "MeadowMilkModel", name := "tasteOf", desc := "(II)I" } : Jvm.MethodName) prog_30_method_53_code (8 : Nat) (Option.some Jvm.ClassFile.FieldType.int)) ∈ lw_all := lw_g (lw_at lw_m7 184 rfl) rfl
theorem q1685 : (Jvm.Cond.methodLink "MeadowMilkModel" (200 : Nat) ({ cls := "MeadowMilkModel", name := "cowsOf", desc := "(I)I" } : Jvm.MethodName)) ∈ lw_all := lw_g (lw_at lw_m7 185 rfl) rfl
theorem q1686 : (Jvm.Cond.privateMethod ({ cls := "MeadowMilkModel", name := "cowsOf", desc := "(I)I" } : Jvm.MethodName)) ∈ lw_tbl := lw_at lw_m7 186 rfl
theorem q1687 : (Jvm.Cond.instanceMethod ({ cls := "MeadowMilkModel", name := "cowsOf", desc := "(I)I" } : Jvm.MethodName)) ∈ lw_all := lw_g (lw_at lw_m7 187 rfl) rfl
theorem q1688 : (Jvm.Cond.code ({ cls := "MeadowMilkModel", name := "cowsOf", desc := "(I)I" } : Jvm.MethodName) prog_30_method_52_code (4 : Nat) (Option.some Jvm.ClassFile.FieldType.int)) ∈ lw_all := lw_g (lw_at lw_m7 188 rfl) rfl
theorem q1690 : (Jvm.Cond.instanceMethod ({ cls := "MeadowMilkModel", name := "known", desc := "(II)I" } : Jvm.MethodName)) ∈ lw_all := lw_g (lw_at lw_m7 190 rfl) rfl
theorem q1691 : (Jvm.Cond.selects "MeadowMilkModel" ({ cls := "MeadowMilkModel", name := "known", desc := "(II)I" } : Jvm.MethodName) ({ cls := "MeadowMilkModel", name := "known", desc := "(II)I" } : Jvm.MethodName)) ∈ lw_all := lw_g (lw_at lw_m7 191 rfl) rfl
theorem q1692 : (Jvm.Cond.code ({ cls := "MeadowMilkModel", name := "known", desc := "(II)I" } : Jvm.MethodName) prog_30_method_56_code (4 : Nat) (Option.some Jvm.ClassFile.FieldType.int)) ∈ lw_all := lw_g (lw_at lw_m7 192 rfl) rfl
theorem q1693 : (Jvm.Cond.methodLink "MeadowMilkModel" (209 : Nat) ({ cls := "MeadowMilkModel", name := "knownBy", desc := "(I)I" } : Jvm.MethodName)) ∈ lw_all := lw_g (lw_at lw_m7 193 rfl) rfl
theorem q1694 : (Jvm.Cond.privateMethod ({ cls := "MeadowMilkModel", name := "knownBy", desc := "(I)I" } : Jvm.MethodName)) ∈ lw_tbl := lw_at lw_m7 194 rfl
theorem q1695 : (Jvm.Cond.instanceMethod ({ cls := "MeadowMilkModel", name := "knownBy", desc := "(I)I" } : Jvm.MethodName)) ∈ lw_all := lw_g (lw_at lw_m7 195 rfl) rfl
theorem q1696 : (Jvm.Cond.code ({ cls := "MeadowMilkModel", name := "knownBy", desc := "(I)I" } : Jvm.MethodName) prog_30_method_55_code (4 : Nat) (Option.some Jvm.ClassFile.FieldType.int)) ∈ lw_all := lw_g (lw_at lw_m7 196 rfl) rfl
theorem q1698 : (Jvm.Cond.instanceMethod ({ cls := "MeadowMilkModel", name := "comes", desc := "(II)I" } : Jvm.MethodName)) ∈ lw_all := lw_g (lw_at lw_m7 198 rfl) rfl
theorem q1699 : (Jvm.Cond.selects "MeadowMilkModel" ({ cls := "MeadowMilkModel", name := "comes", desc := "(II)I" } : Jvm.MethodName) ({ cls := "MeadowMilkModel", name := "comes", desc := "(II)I" } : Jvm.MethodName)) ∈ lw_all := lw_g (lw_at lw_m7 199 rfl) rfl
theorem q1700 : (Jvm.Cond.code ({ cls := "MeadowMilkModel", name := "comes", desc := "(II)I" } : Jvm.MethodName) prog_30_method_58_code (4 : Nat) (Option.some Jvm.ClassFile.FieldType.int)) ∈ lw_all := lw_g (lw_at lw_m7 200 rfl) rfl
theorem q1701 : (Jvm.Cond.methodLink "MeadowMilkModel" (212 : Nat) ({ cls := "MeadowMilkModel", name := "firstDay", desc := "(IIZ)I" } : Jvm.MethodName)) ∈ lw_all := lw_g (lw_at lw_m7 201 rfl) rfl
theorem q1702 : (Jvm.Cond.privateMethod ({ cls := "MeadowMilkModel", name := "firstDay", desc := "(IIZ)I" } : Jvm.MethodName)) ∈ lw_tbl := lw_at lw_m7 202 rfl
theorem q1703 : (Jvm.Cond.instanceMethod ({ cls := "MeadowMilkModel", name := "firstDay", desc := "(IIZ)I" } : Jvm.MethodName)) ∈ lw_all := lw_g (lw_at lw_m7 203 rfl) rfl
theorem q1704 : (Jvm.Cond.code ({ cls := "MeadowMilkModel", name := "firstDay", desc := "(IIZ)I" } : Jvm.MethodName) prog_30_method_57_code (5 : Nat) (Option.some Jvm.ClassFile.FieldType.int)) ∈ lw_all := lw_g (lw_at lw_m7 204 rfl) rfl
theorem q1706 : (Jvm.Cond.instanceMethod ({ cls := "MeadowMilkModel", name := "lost", desc := "(II)I" } : Jvm.MethodName)) ∈ lw_all := lw_g (lw_at lw_m7 206 rfl) rfl
theorem q1707 : (Jvm.Cond.selects "MeadowMilkModel" ({ cls := "MeadowMilkModel", name := "lost", desc := "(II)I" } : Jvm.MethodName) ({ cls := "MeadowMilkModel", name := "lost", desc := "(II)I" } : Jvm.MethodName)) ∈ lw_all := lw_g (lw_at lw_m7 207 rfl) rfl
theorem q1708 : (Jvm.Cond.code ({ cls := "MeadowMilkModel", name := "lost", desc := "(II)I" } : Jvm.MethodName) prog_30_method_59_code (4 : Nat) (Option.some Jvm.ClassFile.FieldType.int)) ∈ lw_all := lw_g (lw_at lw_m7 208 rfl) rfl
theorem q1710 : (Jvm.Cond.instanceMethod ({ cls := "MeadowMilkModel", name := "least", desc := "(I)I" } : Jvm.MethodName)) ∈ lw_all := lw_g (lw_at lw_m7 210 rfl) rfl
theorem q1711 : (Jvm.Cond.selects "MeadowMilkModel" ({ cls := "MeadowMilkModel", name := "least", desc := "(I)I" } : Jvm.MethodName) ({ cls := "MeadowMilkModel", name := "least", desc := "(I)I" } : Jvm.MethodName)) ∈ lw_all := lw_g (lw_at lw_m7 211 rfl) rfl
theorem q1712 : (Jvm.Cond.code ({ cls := "MeadowMilkModel", name := "least", desc := "(I)I" } : Jvm.MethodName) prog_30_method_60_code (5 : Nat) (Option.some Jvm.ClassFile.FieldType.int)) ∈ lw_all := lw_g (lw_at lw_m7 212 rfl) rfl
theorem q1713 : (Jvm.Cond.constant "MeadowMilkModel" (215 : Nat) (33554431 : Int32)) ∈ lw_all := lw_g (lw_at lw_m7 213 rfl) rfl
theorem q1715 : (Jvm.Cond.instanceMethod ({ cls := "MeadowMilkModel", name := "borders", desc := "(II)I" } : Jvm.MethodName)) ∈ lw_all := lw_g (lw_at lw_m7 215 rfl) rfl
theorem q1716 : (Jvm.Cond.selects "MeadowMilkModel" ({ cls := "MeadowMilkModel", name := "borders", desc := "(II)I" } : Jvm.MethodName) ({ cls := "MeadowMilkModel", name := "borders", desc := "(II)I" } : Jvm.MethodName)) ∈ lw_all := lw_g (lw_at lw_m7 216 rfl) rfl
theorem q1717 : (Jvm.Cond.code ({ cls := "MeadowMilkModel", name := "borders", desc := "(II)I" } : Jvm.MethodName) prog_30_method_61_code (9 : Nat) (Option.some Jvm.ClassFile.FieldType.int)) ∈ lw_all := lw_g (lw_at lw_m7 217 rfl) rfl
theorem q1719 : (Jvm.Cond.instanceMethod ({ cls := "MeadowMilkModel", name := "then", desc := "(III)I" } : Jvm.MethodName)) ∈ lw_all := lw_g (lw_at lw_m7 219 rfl) rfl
theorem q1720 : (Jvm.Cond.selects "MeadowMilkModel" ({ cls := "MeadowMilkModel", name := "then", desc := "(III)I" } : Jvm.MethodName) ({ cls := "MeadowMilkModel", name := "then", desc := "(III)I" } : Jvm.MethodName)) ∈ lw_all := lw_g (lw_at lw_m7 220 rfl) rfl
theorem q1721 : (Jvm.Cond.code ({ cls := "MeadowMilkModel", name := "then", desc := "(III)I" } : Jvm.MethodName) prog_30_method_62_code (6 : Nat) (Option.some Jvm.ClassFile.FieldType.int)) ∈ lw_all := lw_g (lw_at lw_m7 221 rfl) rfl
theorem q1723 : (Jvm.Cond.instanceMethod ({ cls := "MeadowMilkModel", name := "walked", desc := "(II)I" } : Jvm.MethodName)) ∈ lw_all := lw_g (lw_at lw_m7 223 rfl) rfl
theorem q1724 : (Jvm.Cond.selects "MeadowMilkModel" ({ cls := "MeadowMilkModel", name := "walked", desc := "(II)I" } : Jvm.MethodName) ({ cls := "MeadowMilkModel", name := "walked", desc := "(II)I" } : Jvm.MethodName)) ∈ lw_all := lw_g (lw_at lw_m7 224 rfl) rfl
theorem q1725 : (Jvm.Cond.code ({ cls := "MeadowMilkModel", name := "walked", desc := "(II)I" } : Jvm.MethodName) prog_30_method_65_code (6 : Nat) (Option.some Jvm.ClassFile.FieldType.int)) ∈ lw_all := lw_g (lw_at lw_m7 225 rfl) rfl
theorem q1726 : (Jvm.Cond.methodLink "MeadowMilkModel" (217 : Nat) ({ cls := "MeadowMilkModel", name := "isSheet", desc := "(I)Z" } : Jvm.MethodName)) ∈ lw_all := lw_g (lw_at lw_m7 226 rfl) rfl
theorem q1727 : (Jvm.Cond.static ({ cls := "MeadowMilkModel", name := "isSheet", desc := "(I)Z" } : Jvm.MethodName)) ∈ lw_all := lw_g (lw_at lw_m7 227 rfl) rfl
theorem q1728 : (Jvm.Cond.code ({ cls := "MeadowMilkModel", name := "isSheet", desc := "(I)Z" } : Jvm.MethodName) prog_30_method_63_code (1 : Nat) (Option.some Jvm.ClassFile.FieldType.boolean)) ∈ lw_all := lw_g (lw_at lw_m7 228 rfl) rfl
theorem q1729 : (Jvm.Cond.methodLink "MeadowMilkModel" (220 : Nat) ({ cls := "MeadowMilkModel", name := "findWalks", desc := "(I)V" } : Jvm.MethodName)) ∈ lw_all := lw_g (lw_at lw_m7 229 rfl) rfl
theorem q1730 : (Jvm.Cond.privateMethod ({ cls := "MeadowMilkModel", name := "findWalks", desc := "(I)V" } : Jvm.MethodName)) ∈ lw_tbl := lw_at lw_m7 230 rfl
theorem q1731 : (Jvm.Cond.instanceMethod ({ cls := "MeadowMilkModel", name := "findWalks", desc := "(I)V" } : Jvm.MethodName)) ∈ lw_all := lw_g (lw_at lw_m7 231 rfl) rfl
theorem q1732 : (Jvm.Cond.code ({ cls := "MeadowMilkModel", name := "findWalks", desc := "(I)V" } : Jvm.MethodName) prog_30_method_64_code (7 : Nat) (Option.none : Option Jvm.ClassFile.FieldType)) ∈ lw_all := lw_g (lw_at lw_m7 232 rfl) rfl
theorem q1733 : (Jvm.Cond.constant "MeadowMilkModel" (216 : Nat) (999999 : Int32)) ∈ lw_all := lw_g (lw_at lw_m7 233 rfl) rfl
theorem q1735 : (Jvm.Cond.instanceMethod ({ cls := "MeadowMilkModel", name := "well", desc := "(I)I" } : Jvm.MethodName)) ∈ lw_all := lw_g (lw_at lw_m7 235 rfl) rfl
theorem q1736 : (Jvm.Cond.selects "MeadowMilkModel" ({ cls := "MeadowMilkModel", name := "well", desc := "(I)I" } : Jvm.MethodName) ({ cls := "MeadowMilkModel", name := "well", desc := "(I)I" } : Jvm.MethodName)) ∈ lw_all := lw_g (lw_at lw_m7 236 rfl) rfl
theorem q1737 : (Jvm.Cond.code ({ cls := "MeadowMilkModel", name := "well", desc := "(I)I" } : Jvm.MethodName) prog_30_method_66_code (6 : Nat) (Option.some Jvm.ClassFile.FieldType.int)) ∈ lw_all := lw_g (lw_at lw_m7 237 rfl) rfl
theorem q1739 : (Jvm.Cond.instanceMethod ({ cls := "MeadowMilkModel", name := "hays", desc := "(III)I" } : Jvm.MethodName)) ∈ lw_all := lw_g (lw_at lw_m7 239 rfl) rfl
theorem q1740 : (Jvm.Cond.selects "MeadowMilkModel" ({ cls := "MeadowMilkModel", name := "hays", desc := "(III)I" } : Jvm.MethodName) ({ cls := "MeadowMilkModel", name := "hays", desc := "(III)I" } : Jvm.MethodName)) ∈ lw_all := lw_g (lw_at lw_m8 0 rfl) rfl
theorem q1741 : (Jvm.Cond.code ({ cls := "MeadowMilkModel", name := "hays", desc := "(III)I" } : Jvm.MethodName) prog_30_method_67_code (10 : Nat) (Option.some Jvm.ClassFile.FieldType.int)) ∈ lw_all := lw_g (lw_at lw_m8 1 rfl) rfl
theorem q1743 : (Jvm.Cond.instanceMethod ({ cls := "MeadowMilkModel", name := "near", desc := "(I)I" } : Jvm.MethodName)) ∈ lw_all := lw_g (lw_at lw_m8 3 rfl) rfl
theorem q1744 : (Jvm.Cond.selects "MeadowMilkModel" ({ cls := "MeadowMilkModel", name := "near", desc := "(I)I" } : Jvm.MethodName) ({ cls := "MeadowMilkModel", name := "near", desc := "(I)I" } : Jvm.MethodName)) ∈ lw_all := lw_g (lw_at lw_m8 4 rfl) rfl
theorem q1745 : (Jvm.Cond.code ({ cls := "MeadowMilkModel", name := "near", desc := "(I)I" } : Jvm.MethodName) prog_30_method_69_code (7 : Nat) (Option.some Jvm.ClassFile.FieldType.int)) ∈ lw_all := lw_g (lw_at lw_m8 5 rfl) rfl
theorem q1746 : (Jvm.Cond.methodLink "MeadowMilkModel" (223 : Nat) ({ cls := "MeadowMilkModel", name := "size", desc := "(I)I" } : Jvm.MethodName)) ∈ lw_all := lw_g (lw_at lw_m8 6 rfl) rfl
theorem q1747 : (Jvm.Cond.static ({ cls := "MeadowMilkModel", name := "size", desc := "(I)I" } : Jvm.MethodName)) ∈ lw_all := lw_g (lw_at lw_m8 7 rfl) rfl
theorem q1748 : (Jvm.Cond.code ({ cls := "MeadowMilkModel", name := "size", desc := "(I)I" } : Jvm.MethodName) prog_30_method_68_code (1 : Nat) (Option.some Jvm.ClassFile.FieldType.int)) ∈ lw_all := lw_g (lw_at lw_m8 8 rfl) rfl
theorem q1750 : (Jvm.Cond.instanceMethod ({ cls := "MeadowMilkModel", name := "seed", desc := "(I)I" } : Jvm.MethodName)) ∈ lw_all := lw_g (lw_at lw_m8 10 rfl) rfl
theorem q1751 : (Jvm.Cond.selects "MeadowMilkModel" ({ cls := "MeadowMilkModel", name := "seed", desc := "(I)I" } : Jvm.MethodName) ({ cls := "MeadowMilkModel", name := "seed", desc := "(I)I" } : Jvm.MethodName)) ∈ lw_all := lw_g (lw_at lw_m8 11 rfl) rfl
theorem q1752 : (Jvm.Cond.code ({ cls := "MeadowMilkModel", name := "seed", desc := "(I)I" } : Jvm.MethodName) prog_30_method_70_code (3 : Nat) (Option.some Jvm.ClassFile.FieldType.int)) ∈ lw_all := lw_g (lw_at lw_m8 12 rfl) rfl
theorem q1754 : (Jvm.Cond.instanceMethod ({ cls := "MeadowMilkModel", name := "voice", desc := "(III)I" } : Jvm.MethodName)) ∈ lw_all := lw_g (lw_at lw_m8 14 rfl) rfl
theorem q1755 : (Jvm.Cond.selects "MeadowMilkModel" ({ cls := "MeadowMilkModel", name := "voice", desc := "(III)I" } : Jvm.MethodName) ({ cls := "MeadowMilkModel", name := "voice", desc := "(III)I" } : Jvm.MethodName)) ∈ lw_all := lw_g (lw_at lw_m8 15 rfl) rfl
theorem q1756 : (Jvm.Cond.code ({ cls := "MeadowMilkModel", name := "voice", desc := "(III)I" } : Jvm.MethodName) prog_30_method_76_code (4 : Nat) (Option.some Jvm.ClassFile.FieldType.int)) ∈ lw_all := lw_g (lw_at lw_m8 16 rfl) rfl
theorem q1757 : (Jvm.Cond.methodLink "MeadowMilkModel" (235 : Nat) ({ cls := "MeadowMilkModel", name := "wantsIn", desc := "(II)I" } : Jvm.MethodName)) ∈ lw_all := lw_g (lw_at lw_m8 17 rfl) rfl
theorem q1758 : (Jvm.Cond.privateMethod ({ cls := "MeadowMilkModel", name := "wantsIn", desc := "(II)I" } : Jvm.MethodName)) ∈ lw_tbl := lw_at lw_m8 18 rfl
theorem q1759 : (Jvm.Cond.instanceMethod ({ cls := "MeadowMilkModel", name := "wantsIn", desc := "(II)I" } : Jvm.MethodName)) ∈ lw_all := lw_g (lw_at lw_m8 19 rfl) rfl
theorem q1760 : (Jvm.Cond.code ({ cls := "MeadowMilkModel", name := "wantsIn", desc := "(II)I" } : Jvm.MethodName) prog_30_method_72_code (3 : Nat) (Option.some Jvm.ClassFile.FieldType.int)) ∈ lw_all := lw_g (lw_at lw_m8 20 rfl) rfl
theorem q1761 : (Jvm.Cond.methodLink "MeadowMilkModel" (229 : Nat) ({ cls := "MeadowMilkModel", name := "ran", desc := "(I)V" } : Jvm.MethodName)) ∈ lw_all := lw_g (lw_at lw_m8 21 rfl) rfl
theorem q1762 : (Jvm.Cond.privateMethod ({ cls := "MeadowMilkModel", name := "ran", desc := "(I)V" } : Jvm.MethodName)) ∈ lw_tbl := lw_at lw_m8 22 rfl
theorem q1763 : (Jvm.Cond.instanceMethod ({ cls := "MeadowMilkModel", name := "ran", desc := "(I)V" } : Jvm.MethodName)) ∈ lw_all := lw_g (lw_at lw_m8 23 rfl) rfl
theorem q1764 : (Jvm.Cond.code ({ cls := "MeadowMilkModel", name := "ran", desc := "(I)V" } : Jvm.MethodName) prog_30_method_71_code (2 : Nat) (Option.none : Option Jvm.ClassFile.FieldType)) ∈ lw_all := lw_g (lw_at lw_m8 24 rfl) rfl
theorem q1765 : (Jvm.Cond.methodLink "MeadowMilkModel" (247 : Nat) ({ cls := "MeadowMilkModel", name := "eatsIn", desc := "(II)I" } : Jvm.MethodName)) ∈ lw_all := lw_g (lw_at lw_m8 25 rfl) rfl
theorem q1766 : (Jvm.Cond.privateMethod ({ cls := "MeadowMilkModel", name := "eatsIn", desc := "(II)I" } : Jvm.MethodName)) ∈ lw_tbl := lw_at lw_m8 26 rfl
theorem q1767 : (Jvm.Cond.instanceMethod ({ cls := "MeadowMilkModel", name := "eatsIn", desc := "(II)I" } : Jvm.MethodName)) ∈ lw_all := lw_g (lw_at lw_m8 27 rfl) rfl
theorem q1768 : (Jvm.Cond.code ({ cls := "MeadowMilkModel", name := "eatsIn", desc := "(II)I" } : Jvm.MethodName) prog_30_method_74_code (4 : Nat) (Option.some Jvm.ClassFile.FieldType.int)) ∈ lw_all := lw_g (lw_at lw_m8 28 rfl) rfl
theorem q1769 : (Jvm.Cond.methodLink "MeadowMilkModel" (241 : Nat) ({ cls := "MeadowMilkModel", name := "knowsIn", desc := "(II)I" } : Jvm.MethodName)) ∈ lw_all := lw_g (lw_at lw_m8 29 rfl) rfl
theorem q1770 : (Jvm.Cond.privateMethod ({ cls := "MeadowMilkModel", name := "knowsIn", desc := "(II)I" } : Jvm.MethodName)) ∈ lw_tbl := lw_at lw_m8 30 rfl
theorem q1771 : (Jvm.Cond.instanceMethod ({ cls := "MeadowMilkModel", name := "knowsIn", desc := "(II)I" } : Jvm.MethodName)) ∈ lw_all := lw_g (lw_at lw_m8 31 rfl) rfl
theorem q1772 : (Jvm.Cond.code ({ cls := "MeadowMilkModel", name := "knowsIn", desc := "(II)I" } : Jvm.MethodName) prog_30_method_73_code (3 : Nat) (Option.some Jvm.ClassFile.FieldType.int)) ∈ lw_all := lw_g (lw_at lw_m8 32 rfl) rfl
theorem q1773 : (Jvm.Cond.methodLink "MeadowMilkModel" (250 : Nat) ({ cls := "MeadowMilkModel", name := "tellsIn", desc := "(II)I" } : Jvm.MethodName)) ∈ lw_all := lw_g (lw_at lw_m8 33 rfl) rfl
theorem q1774 : (Jvm.Cond.privateMethod ({ cls := "MeadowMilkModel", name := "tellsIn", desc := "(II)I" } : Jvm.MethodName)) ∈ lw_tbl := lw_at lw_m8 34 rfl
theorem q1775 : (Jvm.Cond.instanceMethod ({ cls := "MeadowMilkModel", name := "tellsIn", desc := "(II)I" } : Jvm.MethodName)) ∈ lw_all := lw_g (lw_at lw_m8 35 rfl) rfl
theorem q1776 : (Jvm.Cond.code ({ cls := "MeadowMilkModel", name := "tellsIn", desc := "(II)I" } : Jvm.MethodName) prog_30_method_75_code (4 : Nat) (Option.some Jvm.ClassFile.FieldType.int)) ∈ lw_all := lw_g (lw_at lw_m8 36 rfl) rfl
theorem q1778 : (Jvm.Cond.instanceMethod ({ cls := "MeadowMilkModel", name := "trace", desc := "(I)I" } : Jvm.MethodName)) ∈ lw_all := lw_g (lw_at lw_m8 38 rfl) rfl
theorem q1779 : (Jvm.Cond.selects "MeadowMilkModel" ({ cls := "MeadowMilkModel", name := "trace", desc := "(I)I" } : Jvm.MethodName) ({ cls := "MeadowMilkModel", name := "trace", desc := "(I)I" } : Jvm.MethodName)) ∈ lw_all := lw_g (lw_at lw_m8 39 rfl) rfl
theorem q1780 : (Jvm.Cond.code ({ cls := "MeadowMilkModel", name := "trace", desc := "(I)I" } : Jvm.MethodName) prog_30_method_77_code (2 : Nat) (Option.some Jvm.ClassFile.FieldType.int)) ∈ lw_all := lw_g (lw_at lw_m8 40 rfl) rfl
theorem q1782 : (Jvm.Cond.instanceMethod ({ cls := "MeadowMilkModel", name := "sheet", desc := "(III)I" } : Jvm.MethodName)) ∈ lw_all := lw_g (lw_at lw_m8 42 rfl) rfl
theorem q1783 : (Jvm.Cond.selects "MeadowMilkModel" ({ cls := "MeadowMilkModel", name := "sheet", desc := "(III)I" } : Jvm.MethodName) ({ cls := "MeadowMilkModel", name := "sheet", desc := "(III)I" } : Jvm.MethodName)) ∈ lw_all := lw_g (lw_at lw_m8 43 rfl) rfl
theorem q1784 : (Jvm.Cond.code ({ cls := "MeadowMilkModel", name := "sheet", desc := "(III)I" } : Jvm.MethodName) prog_30_method_79_code (5 : Nat) (Option.some Jvm.ClassFile.FieldType.int)) ∈ lw_all := lw_g (lw_at lw_m8 44 rfl) rfl
theorem q1786 : (Jvm.Cond.instanceMethod ({ cls := "MeadowMilkModel", name := "write", desc := "(III)I" } : Jvm.MethodName)) ∈ lw_all := lw_g (lw_at lw_m8 46 rfl) rfl
theorem q1787 : (Jvm.Cond.selects "MeadowMilkModel" ({ cls := "MeadowMilkModel", name := "write", desc := "(III)I" } : Jvm.MethodName) ({ cls := "MeadowMilkModel", name := "write", desc := "(III)I" } : Jvm.MethodName)) ∈ lw_all := lw_g (lw_at lw_m8 47 rfl) rfl
theorem q1788 : (Jvm.Cond.code ({ cls := "MeadowMilkModel", name := "write", desc := "(III)I" } : Jvm.MethodName) prog_30_method_80_code (4 : Nat) (Option.some Jvm.ClassFile.FieldType.int)) ∈ lw_all := lw_g (lw_at lw_m8 48 rfl) rfl
theorem q1789 : (Jvm.Cond.methodLink "MeadowMilkModel" (253 : Nat) ({ cls := "MeadowMilkModel", name := "narrow", desc := "(II)I" } : Jvm.MethodName)) ∈ lw_all := lw_g (lw_at lw_m8 49 rfl) rfl
theorem q1790 : (Jvm.Cond.static ({ cls := "MeadowMilkModel", name := "narrow", desc := "(II)I" } : Jvm.MethodName)) ∈ lw_all := lw_g (lw_at lw_m8 50 rfl) rfl
theorem q1791 : (Jvm.Cond.code ({ cls := "MeadowMilkModel", name := "narrow", desc := "(II)I" } : Jvm.MethodName) prog_30_method_78_code (2 : Nat) (Option.some Jvm.ClassFile.FieldType.int)) ∈ lw_all := lw_g (lw_at lw_m8 51 rfl) rfl
theorem q1793 : (Jvm.Cond.instanceMethod ({ cls := "MeadowMilkModel", name := "move", desc := "(IIIII)I" } : Jvm.MethodName)) ∈ lw_all := lw_g (lw_at lw_m8 53 rfl) rfl
theorem q1794 : (Jvm.Cond.selects "MeadowMilkModel" ({ cls := "MeadowMilkModel", name := "move", desc := "(IIIII)I" } : Jvm.MethodName) ({ cls := "MeadowMilkModel", name := "move", desc := "(IIIII)I" } : Jvm.MethodName)) ∈ lw_all := lw_g (lw_at lw_m8 54 rfl) rfl
theorem q1795 : (Jvm.Cond.code ({ cls := "MeadowMilkModel", name := "move", desc := "(IIIII)I" } : Jvm.MethodName) prog_30_method_81_code (7 : Nat) (Option.some Jvm.ClassFile.FieldType.int)) ∈ lw_all := lw_g (lw_at lw_m8 55 rfl) rfl
theorem q1797 : (Jvm.Cond.instanceMethod ({ cls := "MeadowMilkModel", name := "marks", desc := "(I)I" } : Jvm.MethodName)) ∈ lw_all := lw_g (lw_at lw_m8 57 rfl) rfl
theorem q1798 : (Jvm.Cond.selects "MeadowMilkModel" ({ cls := "MeadowMilkModel", name := "marks", desc := "(I)I" } : Jvm.MethodName) ({ cls := "MeadowMilkModel", name := "marks", desc := "(I)I" } : Jvm.MethodName)) ∈ lw_all := lw_g (lw_at lw_m8 58 rfl) rfl
theorem q1799 : (Jvm.Cond.code ({ cls := "MeadowMilkModel", name := "marks", desc := "(I)I" } : Jvm.MethodName) prog_30_method_82_code (3 : Nat) (Option.some Jvm.ClassFile.FieldType.int)) ∈ lw_all := lw_g (lw_at lw_m8 59 rfl) rfl
theorem q1801 : (Jvm.Cond.instanceMethod ({ cls := "MeadowMilkModel", name := "judge", desc := "(II)I" } : Jvm.MethodName)) ∈ lw_all := lw_g (lw_at lw_m8 61 rfl) rfl
theorem q1802 : (Jvm.Cond.selects "MeadowMilkModel" ({ cls := "MeadowMilkModel", name := "judge", desc := "(II)I" } : Jvm.MethodName) ({ cls := "MeadowMilkModel", name := "judge", desc := "(II)I" } : Jvm.MethodName)) ∈ lw_all := lw_g (lw_at lw_m8 62 rfl) rfl
theorem q1803 : (Jvm.Cond.code ({ cls := "MeadowMilkModel", name := "judge", desc := "(II)I" } : Jvm.MethodName) prog_30_method_83_code (4 : Nat) (Option.some Jvm.ClassFile.FieldType.int)) ∈ lw_all := lw_g (lw_at lw_m8 63 rfl) rfl
theorem q1805 : (Jvm.Cond.instanceMethod ({ cls := "MeadowMilkModel", name := "image", desc := "()I" } : Jvm.MethodName)) ∈ lw_all := lw_g (lw_at lw_m8 65 rfl) rfl
theorem q1806 : (Jvm.Cond.selects "MeadowMilkModel" ({ cls := "MeadowMilkModel", name := "image", desc := "()I" } : Jvm.MethodName) ({ cls := "MeadowMilkModel", name := "image", desc := "()I" } : Jvm.MethodName)) ∈ lw_all := lw_g (lw_at lw_m8 66 rfl) rfl
theorem q1807 : (Jvm.Cond.code ({ cls := "MeadowMilkModel", name := "image", desc := "()I" } : Jvm.MethodName) prog_30_method_84_code (1 : Nat) (Option.some Jvm.ClassFile.FieldType.int)) ∈ lw_all := lw_g (lw_at lw_m8 67 rfl) rfl
theorem q1809 : (Jvm.Cond.instanceMethod ({ cls := "MeadowMilkModel", name := "restore", desc := "()I" } : Jvm.MethodName)) ∈ lw_all := lw_g (lw_at lw_m8 69 rfl) rfl
theorem q1810 : (Jvm.Cond.selects "MeadowMilkModel" ({ cls := "MeadowMilkModel", name := "restore", desc := "()I" } : Jvm.MethodName) ({ cls := "MeadowMilkModel", name := "restore", desc := "()I" } : Jvm.MethodName)) ∈ lw_all := lw_g (lw_at lw_m8 70 rfl) rfl
theorem q1811 : (Jvm.Cond.code ({ cls := "MeadowMilkModel", name := "restore", desc := "()I" } : Jvm.MethodName) prog_30_method_85_code (1 : Nat) (Option.some Jvm.ClassFile.FieldType.int)) ∈ lw_all := lw_g (lw_at lw_m8 71 rfl) rfl
theorem q1813 : (Jvm.Cond.instanceMethod ({ cls := "MeadowMilkModel", name := "tell", desc := "(I)I" } : Jvm.MethodName)) ∈ lw_all := lw_g (lw_at lw_m8 73 rfl) rfl
theorem q1814 : (Jvm.Cond.selects "MeadowMilkModel" ({ cls := "MeadowMilkModel", name := "tell", desc := "(I)I" } : Jvm.MethodName) ({ cls := "MeadowMilkModel", name := "tell", desc := "(I)I" } : Jvm.MethodName)) ∈ lw_all := lw_g (lw_at lw_m8 74 rfl) rfl
theorem q1815 : (Jvm.Cond.code ({ cls := "MeadowMilkModel", name := "tell", desc := "(I)I" } : Jvm.MethodName) prog_30_method_86_code (2 : Nat) (Option.some Jvm.ClassFile.FieldType.int)) ∈ lw_all := lw_g (lw_at lw_m8 75 rfl) rfl
theorem q1817 : (Jvm.Cond.instanceMethod ({ cls := "MeadowMilkModel", name := "check", desc := "()I" } : Jvm.MethodName)) ∈ lw_all := lw_g (lw_at lw_m8 77 rfl) rfl
theorem q1818 : (Jvm.Cond.selects "MeadowMilkModel" ({ cls := "MeadowMilkModel", name := "check", desc := "()I" } : Jvm.MethodName) ({ cls := "MeadowMilkModel", name := "check", desc := "()I" } : Jvm.MethodName)) ∈ lw_all := lw_g (lw_at lw_m8 78 rfl) rfl
theorem q1819 : (Jvm.Cond.code ({ cls := "MeadowMilkModel", name := "check", desc := "()I" } : Jvm.MethodName) prog_30_method_87_code (4 : Nat) (Option.some Jvm.ClassFile.FieldType.int)) ∈ lw_all := lw_g (lw_at lw_m8 79 rfl) rfl
theorem q1821 : (Jvm.Cond.instanceMethod ({ cls := "MeadowMilkModel", name := "count", desc := "(I)I" } : Jvm.MethodName)) ∈ lw_all := lw_g (lw_at lw_m8 81 rfl) rfl
theorem q1822 : (Jvm.Cond.selects "MeadowMilkModel" ({ cls := "MeadowMilkModel", name := "count", desc := "(I)I" } : Jvm.MethodName) ({ cls := "MeadowMilkModel", name := "count", desc := "(I)I" } : Jvm.MethodName)) ∈ lw_all := lw_g (lw_at lw_m8 82 rfl) rfl
theorem q1823 : (Jvm.Cond.code ({ cls := "MeadowMilkModel", name := "count", desc := "(I)I" } : Jvm.MethodName) prog_30_method_88_code (2 : Nat) (Option.some Jvm.ClassFile.FieldType.int)) ∈ lw_all := lw_g (lw_at lw_m8 83 rfl) rfl
theorem q1825 : (Jvm.Cond.instanceMethod ({ cls := "MeadowMilkModel", name := "told", desc := "(I)I" } : Jvm.MethodName)) ∈ lw_all := lw_g (lw_at lw_m8 85 rfl) rfl
theorem q1826 : (Jvm.Cond.selects "MeadowMilkModel" ({ cls := "MeadowMilkModel", name := "told", desc := "(I)I" } : Jvm.MethodName) ({ cls := "MeadowMilkModel", name := "told", desc := "(I)I" } : Jvm.MethodName)) ∈ lw_all := lw_g (lw_at lw_m8 86 rfl) rfl
theorem q1827 : (Jvm.Cond.code ({ cls := "MeadowMilkModel", name := "told", desc := "(I)I" } : Jvm.MethodName) prog_30_method_89_code (2 : Nat) (Option.some Jvm.ClassFile.FieldType.int)) ∈ lw_all := lw_g (lw_at lw_m8 87 rfl) rfl
theorem in_X6 : ∀ w ∈ wsX60, w ∈ lw_all := lw_in wsX60 [1418, 1420, 1422, 1424, 1426, 1428, 1430, 1432, 1434, 1436, 1438, 1440, 1442, 1444, 1446, 1448, 1450, 1452, 1454, 1456, 1458, 1460, 1462, 1464, 1466, 1468, 1470, 1472] (by decide +kernel) (by decide +kernel)
