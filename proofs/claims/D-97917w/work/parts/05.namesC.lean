/-! MeadowMilk$Meadow -/
set_option maxRecDepth 100000
def RX2 : String := "MeadowMilk$Meadow"
def TX2 : u_T := fun k => match k with
  | 0 => ("MeadowMilk$Meadow", "mark", "[I", true)
  | 1 => ("MeadowMilk$Meadow", "grass", "[I", true)
  | 2 => ("MeadowMilk$Meadow", "grows", "I", false)
  | 3 => ("MeadowMilk$Meadow", "cows", "I", false)
  | 4 => ("MeadowMilk$Meadow", "cow", "[LMeadowMilk$Cow;", true)
  | 5 => ("MeadowMilk$Meadow", "at", "[I", true)
  | 6 => ("MeadowMilk$Meadow", "milk", "[I", true)
  | 7 => ("MeadowMilk$Meadow", "many", "[I", true)
  | 8 => ("MeadowMilk$Meadow", "day", "I", false)
  | 9 => ("MeadowMilk$Meadow", "text", "[LMeadowMilk$Term;", true)
  | 10 => ("MeadowMilk$Meadow", "z", "I", false)
  | 11 => ("MeadowMilk$Meadow", "tape", "[B", true)
  | 12 => ("MeadowMilk$Meadow", "taped", "I", false)
  | 13 => ("MeadowMilk$Meadow", "waiting", "[I", true)
  | 14 => ("MeadowMilk$Meadow", "waits", "I", false)
  | _ => ("MeadowMilk$Meadow", "facts", "LMeadowMilk$Facts;", true)
def tyX2 : Nat → FieldType := fun k => match k with
  | 0 => .array .int
  | 1 => .array .int
  | 2 => .int
  | 3 => .int
  | 4 => .array (.object "MeadowMilk$Cow")
  | 5 => .array .int
  | 6 => .array .int
  | 7 => .array .int
  | 8 => .int
  | 9 => .array (.object "MeadowMilk$Term")
  | 10 => .int
  | 11 => .array .byte
  | 12 => .int
  | 13 => .array .int
  | 14 => .int
  | _ => .object "MeadowMilk$Facts"
abbrev wsX20 : List Cond := u_ws RX2 TX2 16
set_option maxRecDepth 100000 in
theorem nmX2 : ∀ a, a < 16 → ∀ b, b < 16 → a ≠ b → (TX2 a).2.1 ≠ (TX2 b).2.1 := by decide +kernel
set_option maxRecDepth 100000 in
theorem tyX2_ok : ∀ k, k < 16 → parseFieldDescriptor (TX2 k).2.2.1 = some (tyX2 k) := by decide +kernel
abbrev cX2_init : ByteArray := prog_14_method_1_code
def yX2_init : MethodName := ⟨RX2, "<init>", "()V"⟩
def dkwX2_init_5 : List UInt8 := [167, 255, 239, 177]
abbrev dktX2_init_5 : List UInt8 := dkwX2_init_5 ++ []
def dkwX2_init_4 : List UInt8 := [181, 0, 56, 3, 60, 27, 16, 25, 162, 0, 17, 42, 180, 0, 15, 27, 16, 50, 79, 132, 1, 1]
abbrev dktX2_init_4 : List UInt8 := dkwX2_init_4 ++ dktX2_init_5
def dkwX2_init_3 : List UInt8 := [16, 50, 188, 8, 181, 0, 46, 42, 16, 20, 188, 10, 181, 0, 50, 42, 187, 0, 53, 89, 183, 0, 55]
abbrev dktX2_init_3 : List UInt8 := dkwX2_init_3 ++ dktX2_init_4
def dkwX2_init_2 : List UInt8 := [181, 0, 31, 42, 8, 188, 10, 181, 0, 34, 42, 5, 189, 0, 37, 181, 0, 39, 42, 4, 181, 0, 43, 42]
abbrev dktX2_init_2 : List UInt8 := dkwX2_init_2 ++ dktX2_init_3
def dkwX2_init_1 : List UInt8 := [181, 0, 18, 42, 8, 189, 0, 22, 181, 0, 24, 42, 8, 188, 10, 181, 0, 28, 42, 16, 60, 188, 10]
abbrev dktX2_init_1 : List UInt8 := dkwX2_init_1 ++ dktX2_init_2
def dkwX2_init_0 : List UInt8 := [42, 183, 0, 3, 42, 16, 25, 188, 10, 181, 0, 9, 42, 16, 25, 188, 10, 181, 0, 15, 42, 4]
abbrev dktX2_init_0 : List UInt8 := dkwX2_init_0 ++ dktX2_init_1
theorem dksX2_init_0 : cX2_init.data.toList.drop 0 = dktX2_init_0 := by decide +kernel
theorem dksX2_init_1 : cX2_init.data.toList.drop 22 = dktX2_init_1 := dk_seg dksX2_init_0 22 rfl rfl
theorem dksX2_init_2 : cX2_init.data.toList.drop 45 = dktX2_init_2 := dk_seg dksX2_init_1 23 rfl rfl
theorem dksX2_init_3 : cX2_init.data.toList.drop 69 = dktX2_init_3 := dk_seg dksX2_init_2 24 rfl rfl
theorem dksX2_init_4 : cX2_init.data.toList.drop 92 = dktX2_init_4 := dk_seg dksX2_init_3 23 rfl rfl
theorem dksX2_init_5 : cX2_init.data.toList.drop 114 = dktX2_init_5 := dk_seg dksX2_init_4 22 rfl rfl
theorem dX2_init_0 : decode cX2_init 0 = .ok (.aload_n 0, 1) := dk_42 (dk_at dksX2_init_0 0 rfl rfl)
theorem dX2_init_1 : decode cX2_init 1 = .ok (.invokespecial 3, 3) := dk_183 0 3 (dk_at dksX2_init_0 1 rfl rfl)
theorem dX2_init_4 : decode cX2_init 4 = .ok (.aload_n 0, 1) := dk_42 (dk_at dksX2_init_0 4 rfl rfl)
theorem dX2_init_5 : decode cX2_init 5 = .ok (.bipush 25, 2) := dk_16 25 (dk_at dksX2_init_0 5 rfl rfl)
theorem dX2_init_7 : decode cX2_init 7 = .ok (.newarray .int, 2) := dk_188_10 (dk_at dksX2_init_0 7 rfl rfl)
theorem dX2_init_9 : decode cX2_init 9 = .ok (.putfield 9, 3) := dk_181 0 9 (dk_at dksX2_init_0 9 rfl rfl)
theorem dX2_init_12 : decode cX2_init 12 = .ok (.aload_n 0, 1) := dk_42 (dk_at dksX2_init_0 12 rfl rfl)
theorem dX2_init_13 : decode cX2_init 13 = .ok (.bipush 25, 2) := dk_16 25 (dk_at dksX2_init_0 13 rfl rfl)
theorem dX2_init_15 : decode cX2_init 15 = .ok (.newarray .int, 2) := dk_188_10 (dk_at dksX2_init_0 15 rfl rfl)
theorem dX2_init_17 : decode cX2_init 17 = .ok (.putfield 15, 3) := dk_181 0 15 (dk_at dksX2_init_0 17 rfl rfl)
theorem dX2_init_20 : decode cX2_init 20 = .ok (.aload_n 0, 1) := dk_42 (dk_at dksX2_init_0 20 rfl rfl)
theorem dX2_init_21 : decode cX2_init 21 = .ok (.iconst 1, 1) := dk_4 (dk_at dksX2_init_0 21 rfl rfl)
theorem dX2_init_22 : decode cX2_init 22 = .ok (.putfield 18, 3) := dk_181 0 18 (dk_at dksX2_init_1 0 rfl rfl)
theorem dX2_init_25 : decode cX2_init 25 = .ok (.aload_n 0, 1) := dk_42 (dk_at dksX2_init_1 3 rfl rfl)
theorem dX2_init_26 : decode cX2_init 26 = .ok (.iconst 5, 1) := dk_8 (dk_at dksX2_init_1 4 rfl rfl)
theorem dX2_init_27 : decode cX2_init 27 = .ok (.anewarray 22, 3) := dk_189 0 22 (dk_at dksX2_init_1 5 rfl rfl)
theorem dX2_init_30 : decode cX2_init 30 = .ok (.putfield 24, 3) := dk_181 0 24 (dk_at dksX2_init_1 8 rfl rfl)
theorem dX2_init_33 : decode cX2_init 33 = .ok (.aload_n 0, 1) := dk_42 (dk_at dksX2_init_1 11 rfl rfl)
theorem dX2_init_34 : decode cX2_init 34 = .ok (.iconst 5, 1) := dk_8 (dk_at dksX2_init_1 12 rfl rfl)
theorem dX2_init_35 : decode cX2_init 35 = .ok (.newarray .int, 2) := dk_188_10 (dk_at dksX2_init_1 13 rfl rfl)
theorem dX2_init_37 : decode cX2_init 37 = .ok (.putfield 28, 3) := dk_181 0 28 (dk_at dksX2_init_1 15 rfl rfl)
theorem dX2_init_40 : decode cX2_init 40 = .ok (.aload_n 0, 1) := dk_42 (dk_at dksX2_init_1 18 rfl rfl)
theorem dX2_init_41 : decode cX2_init 41 = .ok (.bipush 60, 2) := dk_16 60 (dk_at dksX2_init_1 19 rfl rfl)
theorem dX2_init_43 : decode cX2_init 43 = .ok (.newarray .int, 2) := dk_188_10 (dk_at dksX2_init_1 21 rfl rfl)
theorem dX2_init_45 : decode cX2_init 45 = .ok (.putfield 31, 3) := dk_181 0 31 (dk_at dksX2_init_2 0 rfl rfl)
theorem dX2_init_48 : decode cX2_init 48 = .ok (.aload_n 0, 1) := dk_42 (dk_at dksX2_init_2 3 rfl rfl)
theorem dX2_init_49 : decode cX2_init 49 = .ok (.iconst 5, 1) := dk_8 (dk_at dksX2_init_2 4 rfl rfl)
theorem dX2_init_50 : decode cX2_init 50 = .ok (.newarray .int, 2) := dk_188_10 (dk_at dksX2_init_2 5 rfl rfl)
theorem dX2_init_52 : decode cX2_init 52 = .ok (.putfield 34, 3) := dk_181 0 34 (dk_at dksX2_init_2 7 rfl rfl)
theorem dX2_init_55 : decode cX2_init 55 = .ok (.aload_n 0, 1) := dk_42 (dk_at dksX2_init_2 10 rfl rfl)
theorem dX2_init_56 : decode cX2_init 56 = .ok (.iconst 2, 1) := dk_5 (dk_at dksX2_init_2 11 rfl rfl)
theorem dX2_init_57 : decode cX2_init 57 = .ok (.anewarray 37, 3) := dk_189 0 37 (dk_at dksX2_init_2 12 rfl rfl)
theorem dX2_init_60 : decode cX2_init 60 = .ok (.putfield 39, 3) := dk_181 0 39 (dk_at dksX2_init_2 15 rfl rfl)
theorem dX2_init_63 : decode cX2_init 63 = .ok (.aload_n 0, 1) := dk_42 (dk_at dksX2_init_2 18 rfl rfl)
theorem dX2_init_64 : decode cX2_init 64 = .ok (.iconst 1, 1) := dk_4 (dk_at dksX2_init_2 19 rfl rfl)
theorem dX2_init_65 : decode cX2_init 65 = .ok (.putfield 43, 3) := dk_181 0 43 (dk_at dksX2_init_2 20 rfl rfl)
theorem dX2_init_68 : decode cX2_init 68 = .ok (.aload_n 0, 1) := dk_42 (dk_at dksX2_init_2 23 rfl rfl)
theorem dX2_init_69 : decode cX2_init 69 = .ok (.bipush 50, 2) := dk_16 50 (dk_at dksX2_init_3 0 rfl rfl)
theorem dX2_init_71 : decode cX2_init 71 = .ok (.newarray .byte, 2) := dk_188_8 (dk_at dksX2_init_3 2 rfl rfl)
theorem dX2_init_73 : decode cX2_init 73 = .ok (.putfield 46, 3) := dk_181 0 46 (dk_at dksX2_init_3 4 rfl rfl)
theorem dX2_init_76 : decode cX2_init 76 = .ok (.aload_n 0, 1) := dk_42 (dk_at dksX2_init_3 7 rfl rfl)
theorem dX2_init_77 : decode cX2_init 77 = .ok (.bipush 20, 2) := dk_16 20 (dk_at dksX2_init_3 8 rfl rfl)
theorem dX2_init_79 : decode cX2_init 79 = .ok (.newarray .int, 2) := dk_188_10 (dk_at dksX2_init_3 10 rfl rfl)
theorem dX2_init_81 : decode cX2_init 81 = .ok (.putfield 50, 3) := dk_181 0 50 (dk_at dksX2_init_3 12 rfl rfl)
theorem dX2_init_84 : decode cX2_init 84 = .ok (.aload_n 0, 1) := dk_42 (dk_at dksX2_init_3 15 rfl rfl)
theorem dX2_init_85 : decode cX2_init 85 = .ok (.new 53, 3) := dk_187 0 53 (dk_at dksX2_init_3 16 rfl rfl)
theorem dX2_init_88 : decode cX2_init 88 = .ok (.dup, 1) := dk_89 (dk_at dksX2_init_3 19 rfl rfl)
theorem dX2_init_89 : decode cX2_init 89 = .ok (.invokespecial 55, 3) := dk_183 0 55 (dk_at dksX2_init_3 20 rfl rfl)
theorem dX2_init_92 : decode cX2_init 92 = .ok (.putfield 56, 3) := dk_181 0 56 (dk_at dksX2_init_4 0 rfl rfl)
theorem dX2_init_95 : decode cX2_init 95 = .ok (.iconst 0, 1) := dk_3 (dk_at dksX2_init_4 3 rfl rfl)
theorem dX2_init_96 : decode cX2_init 96 = .ok (.istore_n 1, 1) := dk_60 (dk_at dksX2_init_4 4 rfl rfl)
theorem dX2_init_97 : decode cX2_init 97 = .ok (.iload_n 1, 1) := dk_27 (dk_at dksX2_init_4 5 rfl rfl)
theorem dX2_init_98 : decode cX2_init 98 = .ok (.bipush 25, 2) := dk_16 25 (dk_at dksX2_init_4 6 rfl rfl)
theorem dX2_init_100 : decode cX2_init 100 = .ok (.if_icmp .ge 17, 3) := dk_162 0 17 (dk_at dksX2_init_4 8 rfl rfl)
theorem dX2_init_103 : decode cX2_init 103 = .ok (.aload_n 0, 1) := dk_42 (dk_at dksX2_init_4 11 rfl rfl)
theorem dX2_init_104 : decode cX2_init 104 = .ok (.getfield 15, 3) := dk_180 0 15 (dk_at dksX2_init_4 12 rfl rfl)
theorem dX2_init_107 : decode cX2_init 107 = .ok (.iload_n 1, 1) := dk_27 (dk_at dksX2_init_4 15 rfl rfl)
theorem dX2_init_108 : decode cX2_init 108 = .ok (.bipush 50, 2) := dk_16 50 (dk_at dksX2_init_4 16 rfl rfl)
theorem dX2_init_110 : decode cX2_init 110 = .ok (.iastore, 1) := dk_79 (dk_at dksX2_init_4 18 rfl rfl)
theorem dX2_init_111 : decode cX2_init 111 = .ok (.iinc 1 1, 3) := dk_132 1 1 (dk_at dksX2_init_4 19 rfl rfl)
theorem dX2_init_114 : decode cX2_init 114 = .ok (.goto (-17), 3) := dk_167 255 239 (dk_at dksX2_init_5 0 rfl rfl)
theorem dX2_init_117 : decode cX2_init 117 = .ok (.return_, 1) := dk_177 (dk_at dksX2_init_5 3 rfl rfl)
abbrev cX2_draws : ByteArray := prog_14_method_6_code
def yX2_draws : MethodName := ⟨RX2, "draws", "(I)I"⟩
def dkwX2_draws_0 : List UInt8 := [42, 42, 180, 0, 15, 27, 46, 42, 180, 0, 9, 27, 46, 42, 180, 0, 69, 182, 0, 99, 172]
abbrev dktX2_draws_0 : List UInt8 := dkwX2_draws_0 ++ []
theorem dksX2_draws_0 : cX2_draws.data.toList.drop 0 = dktX2_draws_0 := by decide +kernel
theorem dX2_draws_0 : decode cX2_draws 0 = .ok (.aload_n 0, 1) := dk_42 (dk_at dksX2_draws_0 0 rfl rfl)
theorem dX2_draws_1 : decode cX2_draws 1 = .ok (.aload_n 0, 1) := dk_42 (dk_at dksX2_draws_0 1 rfl rfl)
theorem dX2_draws_2 : decode cX2_draws 2 = .ok (.getfield 15, 3) := dk_180 0 15 (dk_at dksX2_draws_0 2 rfl rfl)
theorem dX2_draws_5 : decode cX2_draws 5 = .ok (.iload_n 1, 1) := dk_27 (dk_at dksX2_draws_0 5 rfl rfl)
theorem dX2_draws_6 : decode cX2_draws 6 = .ok (.iaload, 1) := dk_46 (dk_at dksX2_draws_0 6 rfl rfl)
theorem dX2_draws_7 : decode cX2_draws 7 = .ok (.aload_n 0, 1) := dk_42 (dk_at dksX2_draws_0 7 rfl rfl)
theorem dX2_draws_8 : decode cX2_draws 8 = .ok (.getfield 9, 3) := dk_180 0 9 (dk_at dksX2_draws_0 8 rfl rfl)
theorem dX2_draws_11 : decode cX2_draws 11 = .ok (.iload_n 1, 1) := dk_27 (dk_at dksX2_draws_0 11 rfl rfl)
theorem dX2_draws_12 : decode cX2_draws 12 = .ok (.iaload, 1) := dk_46 (dk_at dksX2_draws_0 12 rfl rfl)
theorem dX2_draws_13 : decode cX2_draws 13 = .ok (.aload_n 0, 1) := dk_42 (dk_at dksX2_draws_0 13 rfl rfl)
theorem dX2_draws_14 : decode cX2_draws 14 = .ok (.getfield 69, 3) := dk_180 0 69 (dk_at dksX2_draws_0 14 rfl rfl)
theorem dX2_draws_17 : decode cX2_draws 17 = .ok (.invokevirtual 99, 3) := dk_182 0 99 (dk_at dksX2_draws_0 17 rfl rfl)
theorem dX2_draws_20 : decode cX2_draws 20 = .ok (.ireturn, 1) := dk_172 (dk_at dksX2_draws_0 20 rfl rfl)
abbrev cX2_drawnBy : ByteArray := prog_14_method_4_code
def yX2_drawnBy : MethodName := ⟨RX2, "drawnBy", "(III)I"⟩
def dkwX2_drawnBy_2 : List UInt8 := [21, 4, 17, 252, 25, 17, 3, 231, 184, 0, 95, 172]
abbrev dktX2_drawnBy_2 : List UInt8 := dkwX2_drawnBy_2 ++ []
def dkwX2_drawnBy_1 : List UInt8 := [16, 103, 27, 182, 0, 87, 16, 107, 28, 182, 0, 87, 16, 100, 29, 182, 0, 87, 182, 0, 91, 54, 4]
abbrev dktX2_drawnBy_1 : List UInt8 := dkwX2_drawnBy_1 ++ dktX2_drawnBy_2
def dkwX2_drawnBy_0 : List UInt8 := [42, 180, 0, 39, 3, 50, 199, 0, 7, 27, 167, 0, 34, 42, 180, 0, 39, 3, 50, 42, 180, 0, 56]
abbrev dktX2_drawnBy_0 : List UInt8 := dkwX2_drawnBy_0 ++ dktX2_drawnBy_1
theorem dksX2_drawnBy_0 : cX2_drawnBy.data.toList.drop 0 = dktX2_drawnBy_0 := by decide +kernel
theorem dksX2_drawnBy_1 : cX2_drawnBy.data.toList.drop 23 = dktX2_drawnBy_1 := dk_seg dksX2_drawnBy_0 23 rfl rfl
theorem dksX2_drawnBy_2 : cX2_drawnBy.data.toList.drop 46 = dktX2_drawnBy_2 := dk_seg dksX2_drawnBy_1 23 rfl rfl
theorem dX2_drawnBy_0 : decode cX2_drawnBy 0 = .ok (.aload_n 0, 1) := dk_42 (dk_at dksX2_drawnBy_0 0 rfl rfl)
theorem dX2_drawnBy_1 : decode cX2_drawnBy 1 = .ok (.getfield 39, 3) := dk_180 0 39 (dk_at dksX2_drawnBy_0 1 rfl rfl)
theorem dX2_drawnBy_4 : decode cX2_drawnBy 4 = .ok (.iconst 0, 1) := dk_3 (dk_at dksX2_drawnBy_0 4 rfl rfl)
theorem dX2_drawnBy_5 : decode cX2_drawnBy 5 = .ok (.aaload, 1) := dk_50 (dk_at dksX2_drawnBy_0 5 rfl rfl)
theorem dX2_drawnBy_6 : decode cX2_drawnBy 6 = .ok (.ifnonnull 7, 3) := dk_199 0 7 (dk_at dksX2_drawnBy_0 6 rfl rfl)
theorem dX2_drawnBy_9 : decode cX2_drawnBy 9 = .ok (.iload_n 1, 1) := dk_27 (dk_at dksX2_drawnBy_0 9 rfl rfl)
theorem dX2_drawnBy_10 : decode cX2_drawnBy 10 = .ok (.goto 34, 3) := dk_167 0 34 (dk_at dksX2_drawnBy_0 10 rfl rfl)
theorem dX2_drawnBy_13 : decode cX2_drawnBy 13 = .ok (.aload_n 0, 1) := dk_42 (dk_at dksX2_drawnBy_0 13 rfl rfl)
theorem dX2_drawnBy_14 : decode cX2_drawnBy 14 = .ok (.getfield 39, 3) := dk_180 0 39 (dk_at dksX2_drawnBy_0 14 rfl rfl)
theorem dX2_drawnBy_17 : decode cX2_drawnBy 17 = .ok (.iconst 0, 1) := dk_3 (dk_at dksX2_drawnBy_0 17 rfl rfl)
theorem dX2_drawnBy_18 : decode cX2_drawnBy 18 = .ok (.aaload, 1) := dk_50 (dk_at dksX2_drawnBy_0 18 rfl rfl)
theorem dX2_drawnBy_19 : decode cX2_drawnBy 19 = .ok (.aload_n 0, 1) := dk_42 (dk_at dksX2_drawnBy_0 19 rfl rfl)
theorem dX2_drawnBy_20 : decode cX2_drawnBy 20 = .ok (.getfield 56, 3) := dk_180 0 56 (dk_at dksX2_drawnBy_0 20 rfl rfl)
theorem dX2_drawnBy_23 : decode cX2_drawnBy 23 = .ok (.bipush 103, 2) := dk_16 103 (dk_at dksX2_drawnBy_1 0 rfl rfl)
theorem dX2_drawnBy_25 : decode cX2_drawnBy 25 = .ok (.iload_n 1, 1) := dk_27 (dk_at dksX2_drawnBy_1 2 rfl rfl)
theorem dX2_drawnBy_26 : decode cX2_drawnBy 26 = .ok (.invokevirtual 87, 3) := dk_182 0 87 (dk_at dksX2_drawnBy_1 3 rfl rfl)
theorem dX2_drawnBy_29 : decode cX2_drawnBy 29 = .ok (.bipush 107, 2) := dk_16 107 (dk_at dksX2_drawnBy_1 6 rfl rfl)
theorem dX2_drawnBy_31 : decode cX2_drawnBy 31 = .ok (.iload_n 2, 1) := dk_28 (dk_at dksX2_drawnBy_1 8 rfl rfl)
theorem dX2_drawnBy_32 : decode cX2_drawnBy 32 = .ok (.invokevirtual 87, 3) := dk_182 0 87 (dk_at dksX2_drawnBy_1 9 rfl rfl)
theorem dX2_drawnBy_35 : decode cX2_drawnBy 35 = .ok (.bipush 100, 2) := dk_16 100 (dk_at dksX2_drawnBy_1 12 rfl rfl)
theorem dX2_drawnBy_37 : decode cX2_drawnBy 37 = .ok (.iload_n 3, 1) := dk_29 (dk_at dksX2_drawnBy_1 14 rfl rfl)
theorem dX2_drawnBy_38 : decode cX2_drawnBy 38 = .ok (.invokevirtual 87, 3) := dk_182 0 87 (dk_at dksX2_drawnBy_1 15 rfl rfl)
theorem dX2_drawnBy_41 : decode cX2_drawnBy 41 = .ok (.invokevirtual 91, 3) := dk_182 0 91 (dk_at dksX2_drawnBy_1 18 rfl rfl)
theorem dX2_drawnBy_44 : decode cX2_drawnBy 44 = .ok (.istore 4, 2) := dk_54 4 (dk_at dksX2_drawnBy_1 21 rfl rfl)
theorem dX2_drawnBy_46 : decode cX2_drawnBy 46 = .ok (.iload 4, 2) := dk_21 4 (dk_at dksX2_drawnBy_2 0 rfl rfl)
theorem dX2_drawnBy_48 : decode cX2_drawnBy 48 = .ok (.sipush (-999), 3) := dk_17 252 25 (dk_at dksX2_drawnBy_2 2 rfl rfl)
theorem dX2_drawnBy_51 : decode cX2_drawnBy 51 = .ok (.sipush 999, 3) := dk_17 3 231 (dk_at dksX2_drawnBy_2 5 rfl rfl)
theorem dX2_drawnBy_54 : decode cX2_drawnBy 54 = .ok (.invokestatic 95, 3) := dk_184 0 95 (dk_at dksX2_drawnBy_2 8 rfl rfl)
theorem dX2_drawnBy_57 : decode cX2_drawnBy 57 = .ok (.ireturn, 1) := dk_172 (dk_at dksX2_drawnBy_2 11 rfl rfl)
abbrev cX2_held : ByteArray := prog_14_method_3_code
def yX2_held : MethodName := ⟨RX2, "held", "(III)I"⟩
def dkwX2_held_0 : List UInt8 := [27, 28, 26, 184, 0, 78, 184, 0, 84, 172]
abbrev dktX2_held_0 : List UInt8 := dkwX2_held_0 ++ []
theorem dksX2_held_0 : cX2_held.data.toList.drop 0 = dktX2_held_0 := by decide +kernel
theorem dX2_held_0 : decode cX2_held 0 = .ok (.iload_n 1, 1) := dk_27 (dk_at dksX2_held_0 0 rfl rfl)
theorem dX2_held_1 : decode cX2_held 1 = .ok (.iload_n 2, 1) := dk_28 (dk_at dksX2_held_0 1 rfl rfl)
theorem dX2_held_2 : decode cX2_held 2 = .ok (.iload_n 0, 1) := dk_26 (dk_at dksX2_held_0 2 rfl rfl)
theorem dX2_held_3 : decode cX2_held 3 = .ok (.invokestatic 78, 3) := dk_184 0 78 (dk_at dksX2_held_0 3 rfl rfl)
theorem dX2_held_6 : decode cX2_held 6 = .ok (.invokestatic 84, 3) := dk_184 0 84 (dk_at dksX2_held_0 6 rfl rfl)
theorem dX2_held_9 : decode cX2_held 9 = .ok (.ireturn, 1) := dk_172 (dk_at dksX2_held_0 9 rfl rfl)
abbrev cX2_wayOf : ByteArray := prog_14_method_13_code
def yX2_wayOf : MethodName := ⟨RX2, "wayOf", "(II)I"⟩
def dkwX2_wayOf_5 : List UInt8 := [132, 6, 1, 167, 255, 151, 21, 4, 172]
abbrev dktX2_wayOf_5 : List UInt8 := dkwX2_wayOf_5 ++ []
def dkwX2_wayOf_4 : List UInt8 := [54, 4, 21, 6, 153, 0, 10, 21, 8, 21, 5, 164, 0, 8, 21, 8, 167, 0, 5, 21, 5, 54, 5]
abbrev dktX2_wayOf_4 : List UInt8 := dkwX2_wayOf_4 ++ dktX2_wayOf_5
def dkwX2_wayOf_3 : List UInt8 := [182, 0, 130, 54, 8, 21, 6, 153, 0, 10, 21, 8, 21, 5, 164, 0, 8, 21, 6, 167, 0, 5, 21, 4]
abbrev dktX2_wayOf_3 : List UInt8 := dkwX2_wayOf_3 ++ dktX2_wayOf_4
def dkwX2_wayOf_2 : List UInt8 := [180, 0, 9, 21, 7, 46, 29, 21, 7, 184, 0, 111, 21, 6, 154, 0, 7, 4, 167, 0, 4, 3]
abbrev dktX2_wayOf_2 : List UInt8 := dkwX2_wayOf_2 ++ dktX2_wayOf_3
def dkwX2_wayOf_1 : List UInt8 := [184, 0, 124, 54, 7, 21, 7, 2, 159, 0, 85, 42, 180, 0, 24, 27, 50, 42, 21, 7, 182, 0, 127, 42]
abbrev dktX2_wayOf_1 : List UInt8 := dkwX2_wayOf_1 ++ dktX2_wayOf_2
def dkwX2_wayOf_0 : List UInt8 := [42, 27, 182, 0, 121, 62, 3, 54, 4, 3, 54, 5, 3, 54, 6, 21, 6, 8, 162, 0, 105, 28, 21, 6]
abbrev dktX2_wayOf_0 : List UInt8 := dkwX2_wayOf_0 ++ dktX2_wayOf_1
theorem dksX2_wayOf_0 : cX2_wayOf.data.toList.drop 0 = dktX2_wayOf_0 := by decide +kernel
theorem dksX2_wayOf_1 : cX2_wayOf.data.toList.drop 24 = dktX2_wayOf_1 := dk_seg dksX2_wayOf_0 24 rfl rfl
theorem dksX2_wayOf_2 : cX2_wayOf.data.toList.drop 48 = dktX2_wayOf_2 := dk_seg dksX2_wayOf_1 24 rfl rfl
theorem dksX2_wayOf_3 : cX2_wayOf.data.toList.drop 70 = dktX2_wayOf_3 := dk_seg dksX2_wayOf_2 22 rfl rfl
theorem dksX2_wayOf_4 : cX2_wayOf.data.toList.drop 94 = dktX2_wayOf_4 := dk_seg dksX2_wayOf_3 24 rfl rfl
theorem dksX2_wayOf_5 : cX2_wayOf.data.toList.drop 117 = dktX2_wayOf_5 := dk_seg dksX2_wayOf_4 23 rfl rfl
theorem dX2_wayOf_0 : decode cX2_wayOf 0 = .ok (.aload_n 0, 1) := dk_42 (dk_at dksX2_wayOf_0 0 rfl rfl)
theorem dX2_wayOf_1 : decode cX2_wayOf 1 = .ok (.iload_n 1, 1) := dk_27 (dk_at dksX2_wayOf_0 1 rfl rfl)
theorem dX2_wayOf_2 : decode cX2_wayOf 2 = .ok (.invokevirtual 121, 3) := dk_182 0 121 (dk_at dksX2_wayOf_0 2 rfl rfl)
theorem dX2_wayOf_5 : decode cX2_wayOf 5 = .ok (.istore_n 3, 1) := dk_62 (dk_at dksX2_wayOf_0 5 rfl rfl)
theorem dX2_wayOf_6 : decode cX2_wayOf 6 = .ok (.iconst 0, 1) := dk_3 (dk_at dksX2_wayOf_0 6 rfl rfl)
theorem dX2_wayOf_7 : decode cX2_wayOf 7 = .ok (.istore 4, 2) := dk_54 4 (dk_at dksX2_wayOf_0 7 rfl rfl)
theorem dX2_wayOf_9 : decode cX2_wayOf 9 = .ok (.iconst 0, 1) := dk_3 (dk_at dksX2_wayOf_0 9 rfl rfl)
theorem dX2_wayOf_10 : decode cX2_wayOf 10 = .ok (.istore 5, 2) := dk_54 5 (dk_at dksX2_wayOf_0 10 rfl rfl)
theorem dX2_wayOf_12 : decode cX2_wayOf 12 = .ok (.iconst 0, 1) := dk_3 (dk_at dksX2_wayOf_0 12 rfl rfl)
theorem dX2_wayOf_13 : decode cX2_wayOf 13 = .ok (.istore 6, 2) := dk_54 6 (dk_at dksX2_wayOf_0 13 rfl rfl)
theorem dX2_wayOf_15 : decode cX2_wayOf 15 = .ok (.iload 6, 2) := dk_21 6 (dk_at dksX2_wayOf_0 15 rfl rfl)
theorem dX2_wayOf_17 : decode cX2_wayOf 17 = .ok (.iconst 5, 1) := dk_8 (dk_at dksX2_wayOf_0 17 rfl rfl)
theorem dX2_wayOf_18 : decode cX2_wayOf 18 = .ok (.if_icmp .ge 105, 3) := dk_162 0 105 (dk_at dksX2_wayOf_0 18 rfl rfl)
theorem dX2_wayOf_21 : decode cX2_wayOf 21 = .ok (.iload_n 2, 1) := dk_28 (dk_at dksX2_wayOf_0 21 rfl rfl)
theorem dX2_wayOf_22 : decode cX2_wayOf 22 = .ok (.iload 6, 2) := dk_21 6 (dk_at dksX2_wayOf_0 22 rfl rfl)
theorem dX2_wayOf_24 : decode cX2_wayOf 24 = .ok (.invokestatic 124, 3) := dk_184 0 124 (dk_at dksX2_wayOf_1 0 rfl rfl)
theorem dX2_wayOf_27 : decode cX2_wayOf 27 = .ok (.istore 7, 2) := dk_54 7 (dk_at dksX2_wayOf_1 3 rfl rfl)
theorem dX2_wayOf_29 : decode cX2_wayOf 29 = .ok (.iload 7, 2) := dk_21 7 (dk_at dksX2_wayOf_1 5 rfl rfl)
theorem dX2_wayOf_31 : decode cX2_wayOf 31 = .ok (.iconst (-1), 1) := dk_2 (dk_at dksX2_wayOf_1 7 rfl rfl)
theorem dX2_wayOf_32 : decode cX2_wayOf 32 = .ok (.if_icmp .eq 85, 3) := dk_159 0 85 (dk_at dksX2_wayOf_1 8 rfl rfl)
theorem dX2_wayOf_35 : decode cX2_wayOf 35 = .ok (.aload_n 0, 1) := dk_42 (dk_at dksX2_wayOf_1 11 rfl rfl)
theorem dX2_wayOf_36 : decode cX2_wayOf 36 = .ok (.getfield 24, 3) := dk_180 0 24 (dk_at dksX2_wayOf_1 12 rfl rfl)
theorem dX2_wayOf_39 : decode cX2_wayOf 39 = .ok (.iload_n 1, 1) := dk_27 (dk_at dksX2_wayOf_1 15 rfl rfl)
theorem dX2_wayOf_40 : decode cX2_wayOf 40 = .ok (.aaload, 1) := dk_50 (dk_at dksX2_wayOf_1 16 rfl rfl)
theorem dX2_wayOf_41 : decode cX2_wayOf 41 = .ok (.aload_n 0, 1) := dk_42 (dk_at dksX2_wayOf_1 17 rfl rfl)
theorem dX2_wayOf_42 : decode cX2_wayOf 42 = .ok (.iload 7, 2) := dk_21 7 (dk_at dksX2_wayOf_1 18 rfl rfl)
theorem dX2_wayOf_44 : decode cX2_wayOf 44 = .ok (.invokevirtual 127, 3) := dk_182 0 127 (dk_at dksX2_wayOf_1 20 rfl rfl)
theorem dX2_wayOf_47 : decode cX2_wayOf 47 = .ok (.aload_n 0, 1) := dk_42 (dk_at dksX2_wayOf_1 23 rfl rfl)
theorem dX2_wayOf_48 : decode cX2_wayOf 48 = .ok (.getfield 9, 3) := dk_180 0 9 (dk_at dksX2_wayOf_2 0 rfl rfl)
theorem dX2_wayOf_51 : decode cX2_wayOf 51 = .ok (.iload 7, 2) := dk_21 7 (dk_at dksX2_wayOf_2 3 rfl rfl)
theorem dX2_wayOf_53 : decode cX2_wayOf 53 = .ok (.iaload, 1) := dk_46 (dk_at dksX2_wayOf_2 5 rfl rfl)
theorem dX2_wayOf_54 : decode cX2_wayOf 54 = .ok (.iload_n 3, 1) := dk_29 (dk_at dksX2_wayOf_2 6 rfl rfl)
theorem dX2_wayOf_55 : decode cX2_wayOf 55 = .ok (.iload 7, 2) := dk_21 7 (dk_at dksX2_wayOf_2 7 rfl rfl)
theorem dX2_wayOf_57 : decode cX2_wayOf 57 = .ok (.invokestatic 111, 3) := dk_184 0 111 (dk_at dksX2_wayOf_2 9 rfl rfl)
theorem dX2_wayOf_60 : decode cX2_wayOf 60 = .ok (.iload 6, 2) := dk_21 6 (dk_at dksX2_wayOf_2 12 rfl rfl)
theorem dX2_wayOf_62 : decode cX2_wayOf 62 = .ok (.ifCond .ne 7, 3) := dk_154 0 7 (dk_at dksX2_wayOf_2 14 rfl rfl)
theorem dX2_wayOf_65 : decode cX2_wayOf 65 = .ok (.iconst 1, 1) := dk_4 (dk_at dksX2_wayOf_2 17 rfl rfl)
theorem dX2_wayOf_66 : decode cX2_wayOf 66 = .ok (.goto 4, 3) := dk_167 0 4 (dk_at dksX2_wayOf_2 18 rfl rfl)
theorem dX2_wayOf_69 : decode cX2_wayOf 69 = .ok (.iconst 0, 1) := dk_3 (dk_at dksX2_wayOf_2 21 rfl rfl)
theorem dX2_wayOf_70 : decode cX2_wayOf 70 = .ok (.invokevirtual 130, 3) := dk_182 0 130 (dk_at dksX2_wayOf_3 0 rfl rfl)
theorem dX2_wayOf_73 : decode cX2_wayOf 73 = .ok (.istore 8, 2) := dk_54 8 (dk_at dksX2_wayOf_3 3 rfl rfl)
theorem dX2_wayOf_75 : decode cX2_wayOf 75 = .ok (.iload 6, 2) := dk_21 6 (dk_at dksX2_wayOf_3 5 rfl rfl)
theorem dX2_wayOf_77 : decode cX2_wayOf 77 = .ok (.ifCond .eq 10, 3) := dk_153 0 10 (dk_at dksX2_wayOf_3 7 rfl rfl)
theorem dX2_wayOf_80 : decode cX2_wayOf 80 = .ok (.iload 8, 2) := dk_21 8 (dk_at dksX2_wayOf_3 10 rfl rfl)
theorem dX2_wayOf_82 : decode cX2_wayOf 82 = .ok (.iload 5, 2) := dk_21 5 (dk_at dksX2_wayOf_3 12 rfl rfl)
theorem dX2_wayOf_84 : decode cX2_wayOf 84 = .ok (.if_icmp .le 8, 3) := dk_164 0 8 (dk_at dksX2_wayOf_3 14 rfl rfl)
theorem dX2_wayOf_87 : decode cX2_wayOf 87 = .ok (.iload 6, 2) := dk_21 6 (dk_at dksX2_wayOf_3 17 rfl rfl)
theorem dX2_wayOf_89 : decode cX2_wayOf 89 = .ok (.goto 5, 3) := dk_167 0 5 (dk_at dksX2_wayOf_3 19 rfl rfl)
theorem dX2_wayOf_92 : decode cX2_wayOf 92 = .ok (.iload 4, 2) := dk_21 4 (dk_at dksX2_wayOf_3 22 rfl rfl)
theorem dX2_wayOf_94 : decode cX2_wayOf 94 = .ok (.istore 4, 2) := dk_54 4 (dk_at dksX2_wayOf_4 0 rfl rfl)
theorem dX2_wayOf_96 : decode cX2_wayOf 96 = .ok (.iload 6, 2) := dk_21 6 (dk_at dksX2_wayOf_4 2 rfl rfl)
theorem dX2_wayOf_98 : decode cX2_wayOf 98 = .ok (.ifCond .eq 10, 3) := dk_153 0 10 (dk_at dksX2_wayOf_4 4 rfl rfl)
theorem dX2_wayOf_101 : decode cX2_wayOf 101 = .ok (.iload 8, 2) := dk_21 8 (dk_at dksX2_wayOf_4 7 rfl rfl)
theorem dX2_wayOf_103 : decode cX2_wayOf 103 = .ok (.iload 5, 2) := dk_21 5 (dk_at dksX2_wayOf_4 9 rfl rfl)
theorem dX2_wayOf_105 : decode cX2_wayOf 105 = .ok (.if_icmp .le 8, 3) := dk_164 0 8 (dk_at dksX2_wayOf_4 11 rfl rfl)
theorem dX2_wayOf_108 : decode cX2_wayOf 108 = .ok (.iload 8, 2) := dk_21 8 (dk_at dksX2_wayOf_4 14 rfl rfl)
theorem dX2_wayOf_110 : decode cX2_wayOf 110 = .ok (.goto 5, 3) := dk_167 0 5 (dk_at dksX2_wayOf_4 16 rfl rfl)
theorem dX2_wayOf_113 : decode cX2_wayOf 113 = .ok (.iload 5, 2) := dk_21 5 (dk_at dksX2_wayOf_4 19 rfl rfl)
theorem dX2_wayOf_115 : decode cX2_wayOf 115 = .ok (.istore 5, 2) := dk_54 5 (dk_at dksX2_wayOf_4 21 rfl rfl)
theorem dX2_wayOf_117 : decode cX2_wayOf 117 = .ok (.iinc 6 1, 3) := dk_132 6 1 (dk_at dksX2_wayOf_5 0 rfl rfl)
theorem dX2_wayOf_120 : decode cX2_wayOf 120 = .ok (.goto (-105), 3) := dk_167 255 151 (dk_at dksX2_wayOf_5 3 rfl rfl)
theorem dX2_wayOf_123 : decode cX2_wayOf 123 = .ok (.iload 4, 2) := dk_21 4 (dk_at dksX2_wayOf_5 6 rfl rfl)
theorem dX2_wayOf_125 : decode cX2_wayOf 125 = .ok (.ireturn, 1) := dk_172 (dk_at dksX2_wayOf_5 8 rfl rfl)
abbrev cX2_walked : ByteArray := prog_14_method_9_code
def yX2_walked : MethodName := ⟨RX2, "walked", "(I)I"⟩
def dkwX2_walked_1 : List UInt8 := [61, 132, 3, 1, 167, 255, 232, 28, 172]
abbrev dktX2_walked_1 : List UInt8 := dkwX2_walked_1 ++ []
def dkwX2_walked_0 : List UInt8 := [3, 61, 3, 62, 29, 42, 180, 0, 34, 27, 46, 162, 0, 20, 28, 4, 42, 27, 29, 182, 0, 102, 120, 128]
abbrev dktX2_walked_0 : List UInt8 := dkwX2_walked_0 ++ dktX2_walked_1
theorem dksX2_walked_0 : cX2_walked.data.toList.drop 0 = dktX2_walked_0 := by decide +kernel
theorem dksX2_walked_1 : cX2_walked.data.toList.drop 24 = dktX2_walked_1 := dk_seg dksX2_walked_0 24 rfl rfl
theorem dX2_walked_0 : decode cX2_walked 0 = .ok (.iconst 0, 1) := dk_3 (dk_at dksX2_walked_0 0 rfl rfl)
theorem dX2_walked_1 : decode cX2_walked 1 = .ok (.istore_n 2, 1) := dk_61 (dk_at dksX2_walked_0 1 rfl rfl)
theorem dX2_walked_2 : decode cX2_walked 2 = .ok (.iconst 0, 1) := dk_3 (dk_at dksX2_walked_0 2 rfl rfl)
theorem dX2_walked_3 : decode cX2_walked 3 = .ok (.istore_n 3, 1) := dk_62 (dk_at dksX2_walked_0 3 rfl rfl)
theorem dX2_walked_4 : decode cX2_walked 4 = .ok (.iload_n 3, 1) := dk_29 (dk_at dksX2_walked_0 4 rfl rfl)
theorem dX2_walked_5 : decode cX2_walked 5 = .ok (.aload_n 0, 1) := dk_42 (dk_at dksX2_walked_0 5 rfl rfl)
theorem dX2_walked_6 : decode cX2_walked 6 = .ok (.getfield 34, 3) := dk_180 0 34 (dk_at dksX2_walked_0 6 rfl rfl)
theorem dX2_walked_9 : decode cX2_walked 9 = .ok (.iload_n 1, 1) := dk_27 (dk_at dksX2_walked_0 9 rfl rfl)
theorem dX2_walked_10 : decode cX2_walked 10 = .ok (.iaload, 1) := dk_46 (dk_at dksX2_walked_0 10 rfl rfl)
theorem dX2_walked_11 : decode cX2_walked 11 = .ok (.if_icmp .ge 20, 3) := dk_162 0 20 (dk_at dksX2_walked_0 11 rfl rfl)
theorem dX2_walked_14 : decode cX2_walked 14 = .ok (.iload_n 2, 1) := dk_28 (dk_at dksX2_walked_0 14 rfl rfl)
theorem dX2_walked_15 : decode cX2_walked 15 = .ok (.iconst 1, 1) := dk_4 (dk_at dksX2_walked_0 15 rfl rfl)
theorem dX2_walked_16 : decode cX2_walked 16 = .ok (.aload_n 0, 1) := dk_42 (dk_at dksX2_walked_0 16 rfl rfl)
theorem dX2_walked_17 : decode cX2_walked 17 = .ok (.iload_n 1, 1) := dk_27 (dk_at dksX2_walked_0 17 rfl rfl)
theorem dX2_walked_18 : decode cX2_walked 18 = .ok (.iload_n 3, 1) := dk_29 (dk_at dksX2_walked_0 18 rfl rfl)
theorem dX2_walked_19 : decode cX2_walked 19 = .ok (.invokevirtual 102, 3) := dk_182 0 102 (dk_at dksX2_walked_0 19 rfl rfl)
theorem dX2_walked_22 : decode cX2_walked 22 = .ok (.ishl, 1) := dk_120 (dk_at dksX2_walked_0 22 rfl rfl)
theorem dX2_walked_23 : decode cX2_walked 23 = .ok (.ior, 1) := dk_128 (dk_at dksX2_walked_0 23 rfl rfl)
theorem dX2_walked_24 : decode cX2_walked 24 = .ok (.istore_n 2, 1) := dk_61 (dk_at dksX2_walked_1 0 rfl rfl)
theorem dX2_walked_25 : decode cX2_walked 25 = .ok (.iinc 3 1, 3) := dk_132 3 1 (dk_at dksX2_walked_1 1 rfl rfl)
theorem dX2_walked_28 : decode cX2_walked 28 = .ok (.goto (-24), 3) := dk_167 255 232 (dk_at dksX2_walked_1 4 rfl rfl)
theorem dX2_walked_31 : decode cX2_walked 31 = .ok (.iload_n 2, 1) := dk_28 (dk_at dksX2_walked_1 7 rfl rfl)
theorem dX2_walked_32 : decode cX2_walked 32 = .ok (.ireturn, 1) := dk_172 (dk_at dksX2_walked_1 8 rfl rfl)
abbrev cX2_milkAt : ByteArray := prog_14_method_8_code
def yX2_milkAt : MethodName := ⟨RX2, "milkAt", "(II)I"⟩
def dkwX2_milkAt_0 : List UInt8 := [42, 180, 0, 31, 16, 12, 27, 104, 28, 96, 46, 172]
abbrev dktX2_milkAt_0 : List UInt8 := dkwX2_milkAt_0 ++ []
theorem dksX2_milkAt_0 : cX2_milkAt.data.toList.drop 0 = dktX2_milkAt_0 := by decide +kernel
theorem dX2_milkAt_0 : decode cX2_milkAt 0 = .ok (.aload_n 0, 1) := dk_42 (dk_at dksX2_milkAt_0 0 rfl rfl)
theorem dX2_milkAt_1 : decode cX2_milkAt 1 = .ok (.getfield 31, 3) := dk_180 0 31 (dk_at dksX2_milkAt_0 1 rfl rfl)
theorem dX2_milkAt_4 : decode cX2_milkAt 4 = .ok (.bipush 12, 2) := dk_16 12 (dk_at dksX2_milkAt_0 4 rfl rfl)
theorem dX2_milkAt_6 : decode cX2_milkAt 6 = .ok (.iload_n 1, 1) := dk_27 (dk_at dksX2_milkAt_0 6 rfl rfl)
theorem dX2_milkAt_7 : decode cX2_milkAt 7 = .ok (.imul, 1) := dk_104 (dk_at dksX2_milkAt_0 7 rfl rfl)
theorem dX2_milkAt_8 : decode cX2_milkAt 8 = .ok (.iload_n 2, 1) := dk_28 (dk_at dksX2_milkAt_0 8 rfl rfl)
theorem dX2_milkAt_9 : decode cX2_milkAt 9 = .ok (.iadd, 1) := dk_96 (dk_at dksX2_milkAt_0 9 rfl rfl)
theorem dX2_milkAt_10 : decode cX2_milkAt 10 = .ok (.iaload, 1) := dk_46 (dk_at dksX2_milkAt_0 10 rfl rfl)
theorem dX2_milkAt_11 : decode cX2_milkAt 11 = .ok (.ireturn, 1) := dk_172 (dk_at dksX2_milkAt_0 11 rfl rfl)
abbrev cX2_next : ByteArray := prog_14_method_7_code
def yX2_next : MethodName := ⟨RX2, "next", "(II)I"⟩
def dkwX2_next_4 : List UInt8 := [158, 0, 9, 26, 4, 100, 167, 0, 4, 2, 172]
abbrev dktX2_next_4 : List UInt8 := dkwX2_next_4 ++ []
def dkwX2_next_3 : List UInt8 := [96, 167, 0, 4, 2, 172, 26, 16, 20, 162, 0, 9, 26, 8, 96, 167, 0, 4, 2, 172, 26, 8, 112]
abbrev dktX2_next_3 : List UInt8 := dkwX2_next_3 ++ dktX2_next_4
def dkwX2_next_2 : List UInt8 := [26, 172, 26, 8, 161, 0, 9, 26, 8, 100, 167, 0, 4, 2, 172, 26, 8, 112, 7, 162, 0, 9, 26, 4]
abbrev dktX2_next_2 : List UInt8 := dkwX2_next_2 ++ dktX2_next_3
def dkwX2_next_1 : List UInt8 := [170, 0, 0, 0, 0, 0, 75, 0, 0, 0, 0, 0, 0, 0, 3, 0, 0, 0, 31, 0, 0, 0, 33, 0, 0, 0, 46, 0, 0, 0, 61]
abbrev dktX2_next_1 : List UInt8 := dkwX2_next_1 ++ dktX2_next_2
def dkwX2_next_0 : List UInt8 := [27]
abbrev dktX2_next_0 : List UInt8 := dkwX2_next_0 ++ dktX2_next_1
theorem dksX2_next_0 : cX2_next.data.toList.drop 0 = dktX2_next_0 := by decide +kernel
theorem dksX2_next_1 : cX2_next.data.toList.drop 1 = dktX2_next_1 := dk_seg dksX2_next_0 1 rfl rfl
theorem dksX2_next_2 : cX2_next.data.toList.drop 32 = dktX2_next_2 := dk_seg dksX2_next_1 31 rfl rfl
theorem dksX2_next_3 : cX2_next.data.toList.drop 56 = dktX2_next_3 := dk_seg dksX2_next_2 24 rfl rfl
theorem dksX2_next_4 : cX2_next.data.toList.drop 79 = dktX2_next_4 := dk_seg dksX2_next_3 23 rfl rfl
theorem dX2_next_0 : decode cX2_next 0 = .ok (.iload_n 1, 1) := dk_27 (dk_at dksX2_next_0 0 rfl rfl)
theorem dX2_next_1 : decode cX2_next 1 = .ok (.tableswitch 75 0 3 #[31, 33, 46, 61], 31) := by decide +kernel
theorem dX2_next_32 : decode cX2_next 32 = .ok (.iload_n 0, 1) := dk_26 (dk_at dksX2_next_2 0 rfl rfl)
theorem dX2_next_33 : decode cX2_next 33 = .ok (.ireturn, 1) := dk_172 (dk_at dksX2_next_2 1 rfl rfl)
theorem dX2_next_34 : decode cX2_next 34 = .ok (.iload_n 0, 1) := dk_26 (dk_at dksX2_next_2 2 rfl rfl)
theorem dX2_next_35 : decode cX2_next 35 = .ok (.iconst 5, 1) := dk_8 (dk_at dksX2_next_2 3 rfl rfl)
theorem dX2_next_36 : decode cX2_next 36 = .ok (.if_icmp .lt 9, 3) := dk_161 0 9 (dk_at dksX2_next_2 4 rfl rfl)
theorem dX2_next_39 : decode cX2_next 39 = .ok (.iload_n 0, 1) := dk_26 (dk_at dksX2_next_2 7 rfl rfl)
theorem dX2_next_40 : decode cX2_next 40 = .ok (.iconst 5, 1) := dk_8 (dk_at dksX2_next_2 8 rfl rfl)
theorem dX2_next_41 : decode cX2_next 41 = .ok (.isub, 1) := dk_100 (dk_at dksX2_next_2 9 rfl rfl)
theorem dX2_next_42 : decode cX2_next 42 = .ok (.goto 4, 3) := dk_167 0 4 (dk_at dksX2_next_2 10 rfl rfl)
theorem dX2_next_45 : decode cX2_next 45 = .ok (.iconst (-1), 1) := dk_2 (dk_at dksX2_next_2 13 rfl rfl)
theorem dX2_next_46 : decode cX2_next 46 = .ok (.ireturn, 1) := dk_172 (dk_at dksX2_next_2 14 rfl rfl)
theorem dX2_next_47 : decode cX2_next 47 = .ok (.iload_n 0, 1) := dk_26 (dk_at dksX2_next_2 15 rfl rfl)
theorem dX2_next_48 : decode cX2_next 48 = .ok (.iconst 5, 1) := dk_8 (dk_at dksX2_next_2 16 rfl rfl)
theorem dX2_next_49 : decode cX2_next 49 = .ok (.irem, 1) := dk_112 (dk_at dksX2_next_2 17 rfl rfl)
theorem dX2_next_50 : decode cX2_next 50 = .ok (.iconst 4, 1) := dk_7 (dk_at dksX2_next_2 18 rfl rfl)
theorem dX2_next_51 : decode cX2_next 51 = .ok (.if_icmp .ge 9, 3) := dk_162 0 9 (dk_at dksX2_next_2 19 rfl rfl)
theorem dX2_next_54 : decode cX2_next 54 = .ok (.iload_n 0, 1) := dk_26 (dk_at dksX2_next_2 22 rfl rfl)
theorem dX2_next_55 : decode cX2_next 55 = .ok (.iconst 1, 1) := dk_4 (dk_at dksX2_next_2 23 rfl rfl)
theorem dX2_next_56 : decode cX2_next 56 = .ok (.iadd, 1) := dk_96 (dk_at dksX2_next_3 0 rfl rfl)
theorem dX2_next_57 : decode cX2_next 57 = .ok (.goto 4, 3) := dk_167 0 4 (dk_at dksX2_next_3 1 rfl rfl)
theorem dX2_next_60 : decode cX2_next 60 = .ok (.iconst (-1), 1) := dk_2 (dk_at dksX2_next_3 4 rfl rfl)
theorem dX2_next_61 : decode cX2_next 61 = .ok (.ireturn, 1) := dk_172 (dk_at dksX2_next_3 5 rfl rfl)
theorem dX2_next_62 : decode cX2_next 62 = .ok (.iload_n 0, 1) := dk_26 (dk_at dksX2_next_3 6 rfl rfl)
theorem dX2_next_63 : decode cX2_next 63 = .ok (.bipush 20, 2) := dk_16 20 (dk_at dksX2_next_3 7 rfl rfl)
theorem dX2_next_65 : decode cX2_next 65 = .ok (.if_icmp .ge 9, 3) := dk_162 0 9 (dk_at dksX2_next_3 9 rfl rfl)
theorem dX2_next_68 : decode cX2_next 68 = .ok (.iload_n 0, 1) := dk_26 (dk_at dksX2_next_3 12 rfl rfl)
theorem dX2_next_69 : decode cX2_next 69 = .ok (.iconst 5, 1) := dk_8 (dk_at dksX2_next_3 13 rfl rfl)
theorem dX2_next_70 : decode cX2_next 70 = .ok (.iadd, 1) := dk_96 (dk_at dksX2_next_3 14 rfl rfl)
theorem dX2_next_71 : decode cX2_next 71 = .ok (.goto 4, 3) := dk_167 0 4 (dk_at dksX2_next_3 15 rfl rfl)
theorem dX2_next_74 : decode cX2_next 74 = .ok (.iconst (-1), 1) := dk_2 (dk_at dksX2_next_3 18 rfl rfl)
theorem dX2_next_75 : decode cX2_next 75 = .ok (.ireturn, 1) := dk_172 (dk_at dksX2_next_3 19 rfl rfl)
theorem dX2_next_76 : decode cX2_next 76 = .ok (.iload_n 0, 1) := dk_26 (dk_at dksX2_next_3 20 rfl rfl)
theorem dX2_next_77 : decode cX2_next 77 = .ok (.iconst 5, 1) := dk_8 (dk_at dksX2_next_3 21 rfl rfl)
theorem dX2_next_78 : decode cX2_next 78 = .ok (.irem, 1) := dk_112 (dk_at dksX2_next_3 22 rfl rfl)
theorem dX2_next_79 : decode cX2_next 79 = .ok (.ifCond .le 9, 3) := dk_158 0 9 (dk_at dksX2_next_4 0 rfl rfl)
theorem dX2_next_82 : decode cX2_next 82 = .ok (.iload_n 0, 1) := dk_26 (dk_at dksX2_next_4 3 rfl rfl)
theorem dX2_next_83 : decode cX2_next 83 = .ok (.iconst 1, 1) := dk_4 (dk_at dksX2_next_4 4 rfl rfl)
theorem dX2_next_84 : decode cX2_next 84 = .ok (.isub, 1) := dk_100 (dk_at dksX2_next_4 5 rfl rfl)
theorem dX2_next_85 : decode cX2_next 85 = .ok (.goto 4, 3) := dk_167 0 4 (dk_at dksX2_next_4 6 rfl rfl)
theorem dX2_next_88 : decode cX2_next 88 = .ok (.iconst (-1), 1) := dk_2 (dk_at dksX2_next_4 9 rfl rfl)
theorem dX2_next_89 : decode cX2_next 89 = .ok (.ireturn, 1) := dk_172 (dk_at dksX2_next_4 10 rfl rfl)
abbrev cX2_tasteBy : ByteArray := prog_14_method_5_code
def yX2_tasteBy : MethodName := ⟨RX2, "tasteBy", "(III)I"⟩
def dkwX2_tasteBy_2 : List UInt8 := [182, 0, 91, 54, 4, 21, 4, 3, 16, 99, 184, 0, 95, 172]
abbrev dktX2_tasteBy_2 : List UInt8 := dkwX2_tasteBy_2 ++ []
def dkwX2_tasteBy_1 : List UInt8 := [42, 180, 0, 56, 16, 107, 27, 182, 0, 87, 16, 97, 28, 182, 0, 87, 16, 110, 29, 182, 0, 87]
abbrev dktX2_tasteBy_1 : List UInt8 := dkwX2_tasteBy_1 ++ dktX2_tasteBy_2
def dkwX2_tasteBy_0 : List UInt8 := [42, 180, 0, 39, 4, 50, 199, 0, 12, 16, 10, 28, 5, 104, 100, 167, 0, 34, 42, 180, 0, 39, 4, 50]
abbrev dktX2_tasteBy_0 : List UInt8 := dkwX2_tasteBy_0 ++ dktX2_tasteBy_1
theorem dksX2_tasteBy_0 : cX2_tasteBy.data.toList.drop 0 = dktX2_tasteBy_0 := by decide +kernel
theorem dksX2_tasteBy_1 : cX2_tasteBy.data.toList.drop 24 = dktX2_tasteBy_1 := dk_seg dksX2_tasteBy_0 24 rfl rfl
theorem dksX2_tasteBy_2 : cX2_tasteBy.data.toList.drop 46 = dktX2_tasteBy_2 := dk_seg dksX2_tasteBy_1 22 rfl rfl
theorem dX2_tasteBy_0 : decode cX2_tasteBy 0 = .ok (.aload_n 0, 1) := dk_42 (dk_at dksX2_tasteBy_0 0 rfl rfl)
theorem dX2_tasteBy_1 : decode cX2_tasteBy 1 = .ok (.getfield 39, 3) := dk_180 0 39 (dk_at dksX2_tasteBy_0 1 rfl rfl)
theorem dX2_tasteBy_4 : decode cX2_tasteBy 4 = .ok (.iconst 1, 1) := dk_4 (dk_at dksX2_tasteBy_0 4 rfl rfl)
theorem dX2_tasteBy_5 : decode cX2_tasteBy 5 = .ok (.aaload, 1) := dk_50 (dk_at dksX2_tasteBy_0 5 rfl rfl)
theorem dX2_tasteBy_6 : decode cX2_tasteBy 6 = .ok (.ifnonnull 12, 3) := dk_199 0 12 (dk_at dksX2_tasteBy_0 6 rfl rfl)
theorem dX2_tasteBy_9 : decode cX2_tasteBy 9 = .ok (.bipush 10, 2) := dk_16 10 (dk_at dksX2_tasteBy_0 9 rfl rfl)
theorem dX2_tasteBy_11 : decode cX2_tasteBy 11 = .ok (.iload_n 2, 1) := dk_28 (dk_at dksX2_tasteBy_0 11 rfl rfl)
theorem dX2_tasteBy_12 : decode cX2_tasteBy 12 = .ok (.iconst 2, 1) := dk_5 (dk_at dksX2_tasteBy_0 12 rfl rfl)
theorem dX2_tasteBy_13 : decode cX2_tasteBy 13 = .ok (.imul, 1) := dk_104 (dk_at dksX2_tasteBy_0 13 rfl rfl)
theorem dX2_tasteBy_14 : decode cX2_tasteBy 14 = .ok (.isub, 1) := dk_100 (dk_at dksX2_tasteBy_0 14 rfl rfl)
theorem dX2_tasteBy_15 : decode cX2_tasteBy 15 = .ok (.goto 34, 3) := dk_167 0 34 (dk_at dksX2_tasteBy_0 15 rfl rfl)
theorem dX2_tasteBy_18 : decode cX2_tasteBy 18 = .ok (.aload_n 0, 1) := dk_42 (dk_at dksX2_tasteBy_0 18 rfl rfl)
theorem dX2_tasteBy_19 : decode cX2_tasteBy 19 = .ok (.getfield 39, 3) := dk_180 0 39 (dk_at dksX2_tasteBy_0 19 rfl rfl)
theorem dX2_tasteBy_22 : decode cX2_tasteBy 22 = .ok (.iconst 1, 1) := dk_4 (dk_at dksX2_tasteBy_0 22 rfl rfl)
theorem dX2_tasteBy_23 : decode cX2_tasteBy 23 = .ok (.aaload, 1) := dk_50 (dk_at dksX2_tasteBy_0 23 rfl rfl)
theorem dX2_tasteBy_24 : decode cX2_tasteBy 24 = .ok (.aload_n 0, 1) := dk_42 (dk_at dksX2_tasteBy_1 0 rfl rfl)
theorem dX2_tasteBy_25 : decode cX2_tasteBy 25 = .ok (.getfield 56, 3) := dk_180 0 56 (dk_at dksX2_tasteBy_1 1 rfl rfl)
theorem dX2_tasteBy_28 : decode cX2_tasteBy 28 = .ok (.bipush 107, 2) := dk_16 107 (dk_at dksX2_tasteBy_1 4 rfl rfl)
theorem dX2_tasteBy_30 : decode cX2_tasteBy 30 = .ok (.iload_n 1, 1) := dk_27 (dk_at dksX2_tasteBy_1 6 rfl rfl)
theorem dX2_tasteBy_31 : decode cX2_tasteBy 31 = .ok (.invokevirtual 87, 3) := dk_182 0 87 (dk_at dksX2_tasteBy_1 7 rfl rfl)
theorem dX2_tasteBy_34 : decode cX2_tasteBy 34 = .ok (.bipush 97, 2) := dk_16 97 (dk_at dksX2_tasteBy_1 10 rfl rfl)
theorem dX2_tasteBy_36 : decode cX2_tasteBy 36 = .ok (.iload_n 2, 1) := dk_28 (dk_at dksX2_tasteBy_1 12 rfl rfl)
theorem dX2_tasteBy_37 : decode cX2_tasteBy 37 = .ok (.invokevirtual 87, 3) := dk_182 0 87 (dk_at dksX2_tasteBy_1 13 rfl rfl)
theorem dX2_tasteBy_40 : decode cX2_tasteBy 40 = .ok (.bipush 110, 2) := dk_16 110 (dk_at dksX2_tasteBy_1 16 rfl rfl)
theorem dX2_tasteBy_42 : decode cX2_tasteBy 42 = .ok (.iload_n 3, 1) := dk_29 (dk_at dksX2_tasteBy_1 18 rfl rfl)
theorem dX2_tasteBy_43 : decode cX2_tasteBy 43 = .ok (.invokevirtual 87, 3) := dk_182 0 87 (dk_at dksX2_tasteBy_1 19 rfl rfl)
theorem dX2_tasteBy_46 : decode cX2_tasteBy 46 = .ok (.invokevirtual 91, 3) := dk_182 0 91 (dk_at dksX2_tasteBy_2 0 rfl rfl)
theorem dX2_tasteBy_49 : decode cX2_tasteBy 49 = .ok (.istore 4, 2) := dk_54 4 (dk_at dksX2_tasteBy_2 3 rfl rfl)
theorem dX2_tasteBy_51 : decode cX2_tasteBy 51 = .ok (.iload 4, 2) := dk_21 4 (dk_at dksX2_tasteBy_2 5 rfl rfl)
theorem dX2_tasteBy_53 : decode cX2_tasteBy 53 = .ok (.iconst 0, 1) := dk_3 (dk_at dksX2_tasteBy_2 7 rfl rfl)
theorem dX2_tasteBy_54 : decode cX2_tasteBy 54 = .ok (.bipush 99, 2) := dk_16 99 (dk_at dksX2_tasteBy_2 8 rfl rfl)
theorem dX2_tasteBy_56 : decode cX2_tasteBy 56 = .ok (.invokestatic 95, 3) := dk_184 0 95 (dk_at dksX2_tasteBy_2 10 rfl rfl)
theorem dX2_tasteBy_59 : decode cX2_tasteBy 59 = .ok (.ireturn, 1) := dk_172 (dk_at dksX2_tasteBy_2 13 rfl rfl)
abbrev cX2_goes : ByteArray := prog_14_method_16_code
def yX2_goes : MethodName := ⟨RX2, "goes", "(I)V"⟩
def dkwX2_goes_0 : List UInt8 := [3, 61, 28, 27, 162, 0, 13, 42, 182, 0, 148, 132, 2, 1, 167, 255, 244, 177]
abbrev dktX2_goes_0 : List UInt8 := dkwX2_goes_0 ++ []
theorem dksX2_goes_0 : cX2_goes.data.toList.drop 0 = dktX2_goes_0 := by decide +kernel
theorem dX2_goes_0 : decode cX2_goes 0 = .ok (.iconst 0, 1) := dk_3 (dk_at dksX2_goes_0 0 rfl rfl)
theorem dX2_goes_1 : decode cX2_goes 1 = .ok (.istore_n 2, 1) := dk_61 (dk_at dksX2_goes_0 1 rfl rfl)
theorem dX2_goes_2 : decode cX2_goes 2 = .ok (.iload_n 2, 1) := dk_28 (dk_at dksX2_goes_0 2 rfl rfl)
theorem dX2_goes_3 : decode cX2_goes 3 = .ok (.iload_n 1, 1) := dk_27 (dk_at dksX2_goes_0 3 rfl rfl)
theorem dX2_goes_4 : decode cX2_goes 4 = .ok (.if_icmp .ge 13, 3) := dk_162 0 13 (dk_at dksX2_goes_0 4 rfl rfl)
theorem dX2_goes_7 : decode cX2_goes 7 = .ok (.aload_n 0, 1) := dk_42 (dk_at dksX2_goes_0 7 rfl rfl)
theorem dX2_goes_8 : decode cX2_goes 8 = .ok (.invokevirtual 148, 3) := dk_182 0 148 (dk_at dksX2_goes_0 8 rfl rfl)
theorem dX2_goes_11 : decode cX2_goes 11 = .ok (.iinc 2 1, 3) := dk_132 2 1 (dk_at dksX2_goes_0 11 rfl rfl)
theorem dX2_goes_14 : decode cX2_goes 14 = .ok (.goto (-12), 3) := dk_167 255 244 (dk_at dksX2_goes_0 14 rfl rfl)
theorem dX2_goes_17 : decode cX2_goes 17 = .ok (.return_, 1) := dk_177 (dk_at dksX2_goes_0 17 rfl rfl)
abbrev cX2_passes : ByteArray := prog_14_method_15_code
def yX2_passes : MethodName := ⟨RX2, "passes", "()V"⟩
def dkwX2_passes_5 : List UInt8 := [79, 132, 1, 1, 167, 255, 225, 42, 89, 180, 0, 69, 4, 96, 181, 0, 69, 177]
abbrev dktX2_passes_5 : List UInt8 := dkwX2_passes_5 ++ []
def dkwX2_passes_4 : List UInt8 := [162, 0, 31, 42, 180, 0, 15, 27, 16, 99, 42, 180, 0, 15, 27, 46, 42, 180, 0, 18, 96, 184, 0, 78]
abbrev dktX2_passes_4 : List UInt8 := dkwX2_passes_4 ++ dktX2_passes_5
def dkwX2_passes_3 : List UInt8 := [42, 27, 42, 180, 0, 28, 27, 46, 182, 0, 144, 132, 1, 1, 167, 255, 172, 3, 60, 27, 16, 25]
abbrev dktX2_passes_3 : List UInt8 := dkwX2_passes_3 ++ dktX2_passes_4
def dkwX2_passes_2 : List UInt8 := [180, 0, 15, 42, 180, 0, 28, 27, 46, 46, 42, 180, 0, 24, 27, 50, 182, 0, 141, 100, 184, 0, 84, 79]
abbrev dktX2_passes_2 : List UInt8 := dkwX2_passes_2 ++ dktX2_passes_3
def dkwX2_passes_1 : List UInt8 := [180, 0, 28, 27, 46, 182, 0, 138, 184, 0, 124, 79, 42, 180, 0, 15, 42, 180, 0, 28, 27, 46, 3, 42]
abbrev dktX2_passes_1 : List UInt8 := dkwX2_passes_1 ++ dktX2_passes_2
def dkwX2_passes_0 : List UInt8 := [3, 60, 27, 42, 180, 0, 66, 162, 0, 82, 42, 180, 0, 28, 27, 42, 180, 0, 28, 27, 46, 42, 27, 42]
abbrev dktX2_passes_0 : List UInt8 := dkwX2_passes_0 ++ dktX2_passes_1
theorem dksX2_passes_0 : cX2_passes.data.toList.drop 0 = dktX2_passes_0 := by decide +kernel
theorem dksX2_passes_1 : cX2_passes.data.toList.drop 24 = dktX2_passes_1 := dk_seg dksX2_passes_0 24 rfl rfl
theorem dksX2_passes_2 : cX2_passes.data.toList.drop 48 = dktX2_passes_2 := dk_seg dksX2_passes_1 24 rfl rfl
theorem dksX2_passes_3 : cX2_passes.data.toList.drop 72 = dktX2_passes_3 := dk_seg dksX2_passes_2 24 rfl rfl
theorem dksX2_passes_4 : cX2_passes.data.toList.drop 94 = dktX2_passes_4 := dk_seg dksX2_passes_3 22 rfl rfl
theorem dksX2_passes_5 : cX2_passes.data.toList.drop 118 = dktX2_passes_5 := dk_seg dksX2_passes_4 24 rfl rfl
theorem dX2_passes_0 : decode cX2_passes 0 = .ok (.iconst 0, 1) := dk_3 (dk_at dksX2_passes_0 0 rfl rfl)
theorem dX2_passes_1 : decode cX2_passes 1 = .ok (.istore_n 1, 1) := dk_60 (dk_at dksX2_passes_0 1 rfl rfl)
theorem dX2_passes_2 : decode cX2_passes 2 = .ok (.iload_n 1, 1) := dk_27 (dk_at dksX2_passes_0 2 rfl rfl)
theorem dX2_passes_3 : decode cX2_passes 3 = .ok (.aload_n 0, 1) := dk_42 (dk_at dksX2_passes_0 3 rfl rfl)
theorem dX2_passes_4 : decode cX2_passes 4 = .ok (.getfield 66, 3) := dk_180 0 66 (dk_at dksX2_passes_0 4 rfl rfl)
theorem dX2_passes_7 : decode cX2_passes 7 = .ok (.if_icmp .ge 82, 3) := dk_162 0 82 (dk_at dksX2_passes_0 7 rfl rfl)
theorem dX2_passes_10 : decode cX2_passes 10 = .ok (.aload_n 0, 1) := dk_42 (dk_at dksX2_passes_0 10 rfl rfl)
theorem dX2_passes_11 : decode cX2_passes 11 = .ok (.getfield 28, 3) := dk_180 0 28 (dk_at dksX2_passes_0 11 rfl rfl)
theorem dX2_passes_14 : decode cX2_passes 14 = .ok (.iload_n 1, 1) := dk_27 (dk_at dksX2_passes_0 14 rfl rfl)
theorem dX2_passes_15 : decode cX2_passes 15 = .ok (.aload_n 0, 1) := dk_42 (dk_at dksX2_passes_0 15 rfl rfl)
theorem dX2_passes_16 : decode cX2_passes 16 = .ok (.getfield 28, 3) := dk_180 0 28 (dk_at dksX2_passes_0 16 rfl rfl)
theorem dX2_passes_19 : decode cX2_passes 19 = .ok (.iload_n 1, 1) := dk_27 (dk_at dksX2_passes_0 19 rfl rfl)
theorem dX2_passes_20 : decode cX2_passes 20 = .ok (.iaload, 1) := dk_46 (dk_at dksX2_passes_0 20 rfl rfl)
theorem dX2_passes_21 : decode cX2_passes 21 = .ok (.aload_n 0, 1) := dk_42 (dk_at dksX2_passes_0 21 rfl rfl)
theorem dX2_passes_22 : decode cX2_passes 22 = .ok (.iload_n 1, 1) := dk_27 (dk_at dksX2_passes_0 22 rfl rfl)
theorem dX2_passes_23 : decode cX2_passes 23 = .ok (.aload_n 0, 1) := dk_42 (dk_at dksX2_passes_0 23 rfl rfl)
theorem dX2_passes_24 : decode cX2_passes 24 = .ok (.getfield 28, 3) := dk_180 0 28 (dk_at dksX2_passes_1 0 rfl rfl)
theorem dX2_passes_27 : decode cX2_passes 27 = .ok (.iload_n 1, 1) := dk_27 (dk_at dksX2_passes_1 3 rfl rfl)
theorem dX2_passes_28 : decode cX2_passes 28 = .ok (.iaload, 1) := dk_46 (dk_at dksX2_passes_1 4 rfl rfl)
theorem dX2_passes_29 : decode cX2_passes 29 = .ok (.invokevirtual 138, 3) := dk_182 0 138 (dk_at dksX2_passes_1 5 rfl rfl)
theorem dX2_passes_32 : decode cX2_passes 32 = .ok (.invokestatic 124, 3) := dk_184 0 124 (dk_at dksX2_passes_1 8 rfl rfl)
theorem dX2_passes_35 : decode cX2_passes 35 = .ok (.iastore, 1) := dk_79 (dk_at dksX2_passes_1 11 rfl rfl)
theorem dX2_passes_36 : decode cX2_passes 36 = .ok (.aload_n 0, 1) := dk_42 (dk_at dksX2_passes_1 12 rfl rfl)
theorem dX2_passes_37 : decode cX2_passes 37 = .ok (.getfield 15, 3) := dk_180 0 15 (dk_at dksX2_passes_1 13 rfl rfl)
theorem dX2_passes_40 : decode cX2_passes 40 = .ok (.aload_n 0, 1) := dk_42 (dk_at dksX2_passes_1 16 rfl rfl)
theorem dX2_passes_41 : decode cX2_passes 41 = .ok (.getfield 28, 3) := dk_180 0 28 (dk_at dksX2_passes_1 17 rfl rfl)
theorem dX2_passes_44 : decode cX2_passes 44 = .ok (.iload_n 1, 1) := dk_27 (dk_at dksX2_passes_1 20 rfl rfl)
theorem dX2_passes_45 : decode cX2_passes 45 = .ok (.iaload, 1) := dk_46 (dk_at dksX2_passes_1 21 rfl rfl)
theorem dX2_passes_46 : decode cX2_passes 46 = .ok (.iconst 0, 1) := dk_3 (dk_at dksX2_passes_1 22 rfl rfl)
theorem dX2_passes_47 : decode cX2_passes 47 = .ok (.aload_n 0, 1) := dk_42 (dk_at dksX2_passes_1 23 rfl rfl)
theorem dX2_passes_48 : decode cX2_passes 48 = .ok (.getfield 15, 3) := dk_180 0 15 (dk_at dksX2_passes_2 0 rfl rfl)
theorem dX2_passes_51 : decode cX2_passes 51 = .ok (.aload_n 0, 1) := dk_42 (dk_at dksX2_passes_2 3 rfl rfl)
theorem dX2_passes_52 : decode cX2_passes 52 = .ok (.getfield 28, 3) := dk_180 0 28 (dk_at dksX2_passes_2 4 rfl rfl)
theorem dX2_passes_55 : decode cX2_passes 55 = .ok (.iload_n 1, 1) := dk_27 (dk_at dksX2_passes_2 7 rfl rfl)
theorem dX2_passes_56 : decode cX2_passes 56 = .ok (.iaload, 1) := dk_46 (dk_at dksX2_passes_2 8 rfl rfl)
theorem dX2_passes_57 : decode cX2_passes 57 = .ok (.iaload, 1) := dk_46 (dk_at dksX2_passes_2 9 rfl rfl)
theorem dX2_passes_58 : decode cX2_passes 58 = .ok (.aload_n 0, 1) := dk_42 (dk_at dksX2_passes_2 10 rfl rfl)
theorem dX2_passes_59 : decode cX2_passes 59 = .ok (.getfield 24, 3) := dk_180 0 24 (dk_at dksX2_passes_2 11 rfl rfl)
theorem dX2_passes_62 : decode cX2_passes 62 = .ok (.iload_n 1, 1) := dk_27 (dk_at dksX2_passes_2 14 rfl rfl)
theorem dX2_passes_63 : decode cX2_passes 63 = .ok (.aaload, 1) := dk_50 (dk_at dksX2_passes_2 15 rfl rfl)
theorem dX2_passes_64 : decode cX2_passes 64 = .ok (.invokevirtual 141, 3) := dk_182 0 141 (dk_at dksX2_passes_2 16 rfl rfl)
theorem dX2_passes_67 : decode cX2_passes 67 = .ok (.isub, 1) := dk_100 (dk_at dksX2_passes_2 19 rfl rfl)
theorem dX2_passes_68 : decode cX2_passes 68 = .ok (.invokestatic 84, 3) := dk_184 0 84 (dk_at dksX2_passes_2 20 rfl rfl)
theorem dX2_passes_71 : decode cX2_passes 71 = .ok (.iastore, 1) := dk_79 (dk_at dksX2_passes_2 23 rfl rfl)
theorem dX2_passes_72 : decode cX2_passes 72 = .ok (.aload_n 0, 1) := dk_42 (dk_at dksX2_passes_3 0 rfl rfl)
theorem dX2_passes_73 : decode cX2_passes 73 = .ok (.iload_n 1, 1) := dk_27 (dk_at dksX2_passes_3 1 rfl rfl)
theorem dX2_passes_74 : decode cX2_passes 74 = .ok (.aload_n 0, 1) := dk_42 (dk_at dksX2_passes_3 2 rfl rfl)
theorem dX2_passes_75 : decode cX2_passes 75 = .ok (.getfield 28, 3) := dk_180 0 28 (dk_at dksX2_passes_3 3 rfl rfl)
theorem dX2_passes_78 : decode cX2_passes 78 = .ok (.iload_n 1, 1) := dk_27 (dk_at dksX2_passes_3 6 rfl rfl)
theorem dX2_passes_79 : decode cX2_passes 79 = .ok (.iaload, 1) := dk_46 (dk_at dksX2_passes_3 7 rfl rfl)
theorem dX2_passes_80 : decode cX2_passes 80 = .ok (.invokevirtual 144, 3) := dk_182 0 144 (dk_at dksX2_passes_3 8 rfl rfl)
theorem dX2_passes_83 : decode cX2_passes 83 = .ok (.iinc 1 1, 3) := dk_132 1 1 (dk_at dksX2_passes_3 11 rfl rfl)
theorem dX2_passes_86 : decode cX2_passes 86 = .ok (.goto (-84), 3) := dk_167 255 172 (dk_at dksX2_passes_3 14 rfl rfl)
theorem dX2_passes_89 : decode cX2_passes 89 = .ok (.iconst 0, 1) := dk_3 (dk_at dksX2_passes_3 17 rfl rfl)
theorem dX2_passes_90 : decode cX2_passes 90 = .ok (.istore_n 1, 1) := dk_60 (dk_at dksX2_passes_3 18 rfl rfl)
theorem dX2_passes_91 : decode cX2_passes 91 = .ok (.iload_n 1, 1) := dk_27 (dk_at dksX2_passes_3 19 rfl rfl)
theorem dX2_passes_92 : decode cX2_passes 92 = .ok (.bipush 25, 2) := dk_16 25 (dk_at dksX2_passes_3 20 rfl rfl)
theorem dX2_passes_94 : decode cX2_passes 94 = .ok (.if_icmp .ge 31, 3) := dk_162 0 31 (dk_at dksX2_passes_4 0 rfl rfl)
theorem dX2_passes_97 : decode cX2_passes 97 = .ok (.aload_n 0, 1) := dk_42 (dk_at dksX2_passes_4 3 rfl rfl)
theorem dX2_passes_98 : decode cX2_passes 98 = .ok (.getfield 15, 3) := dk_180 0 15 (dk_at dksX2_passes_4 4 rfl rfl)
theorem dX2_passes_101 : decode cX2_passes 101 = .ok (.iload_n 1, 1) := dk_27 (dk_at dksX2_passes_4 7 rfl rfl)
theorem dX2_passes_102 : decode cX2_passes 102 = .ok (.bipush 99, 2) := dk_16 99 (dk_at dksX2_passes_4 8 rfl rfl)
theorem dX2_passes_104 : decode cX2_passes 104 = .ok (.aload_n 0, 1) := dk_42 (dk_at dksX2_passes_4 10 rfl rfl)
theorem dX2_passes_105 : decode cX2_passes 105 = .ok (.getfield 15, 3) := dk_180 0 15 (dk_at dksX2_passes_4 11 rfl rfl)
theorem dX2_passes_108 : decode cX2_passes 108 = .ok (.iload_n 1, 1) := dk_27 (dk_at dksX2_passes_4 14 rfl rfl)
theorem dX2_passes_109 : decode cX2_passes 109 = .ok (.iaload, 1) := dk_46 (dk_at dksX2_passes_4 15 rfl rfl)
theorem dX2_passes_110 : decode cX2_passes 110 = .ok (.aload_n 0, 1) := dk_42 (dk_at dksX2_passes_4 16 rfl rfl)
theorem dX2_passes_111 : decode cX2_passes 111 = .ok (.getfield 18, 3) := dk_180 0 18 (dk_at dksX2_passes_4 17 rfl rfl)
theorem dX2_passes_114 : decode cX2_passes 114 = .ok (.iadd, 1) := dk_96 (dk_at dksX2_passes_4 20 rfl rfl)
theorem dX2_passes_115 : decode cX2_passes 115 = .ok (.invokestatic 78, 3) := dk_184 0 78 (dk_at dksX2_passes_4 21 rfl rfl)
theorem dX2_passes_118 : decode cX2_passes 118 = .ok (.iastore, 1) := dk_79 (dk_at dksX2_passes_5 0 rfl rfl)
theorem dX2_passes_119 : decode cX2_passes 119 = .ok (.iinc 1 1, 3) := dk_132 1 1 (dk_at dksX2_passes_5 1 rfl rfl)
theorem dX2_passes_122 : decode cX2_passes 122 = .ok (.goto (-31), 3) := dk_167 255 225 (dk_at dksX2_passes_5 4 rfl rfl)
theorem dX2_passes_125 : decode cX2_passes 125 = .ok (.aload_n 0, 1) := dk_42 (dk_at dksX2_passes_5 7 rfl rfl)
theorem dX2_passes_126 : decode cX2_passes 126 = .ok (.dup, 1) := dk_89 (dk_at dksX2_passes_5 8 rfl rfl)
theorem dX2_passes_127 : decode cX2_passes 127 = .ok (.getfield 69, 3) := dk_180 0 69 (dk_at dksX2_passes_5 9 rfl rfl)
theorem dX2_passes_130 : decode cX2_passes 130 = .ok (.iconst 1, 1) := dk_4 (dk_at dksX2_passes_5 12 rfl rfl)
theorem dX2_passes_131 : decode cX2_passes 131 = .ok (.iadd, 1) := dk_96 (dk_at dksX2_passes_5 13 rfl rfl)
theorem dX2_passes_132 : decode cX2_passes 132 = .ok (.putfield 69, 3) := dk_181 0 69 (dk_at dksX2_passes_5 14 rfl rfl)
theorem dX2_passes_135 : decode cX2_passes 135 = .ok (.return_, 1) := dk_177 (dk_at dksX2_passes_5 17 rfl rfl)
abbrev cX2_remembers : ByteArray := prog_14_method_14_code
def yX2_remembers : MethodName := ⟨RX2, "remembers", "(II)V"⟩
def dkwX2_remembers_3 : List UInt8 := [27, 29, 4, 96, 79, 177]
abbrev dktX2_remembers_3 : List UInt8 := dkwX2_remembers_3 ++ []
def dkwX2_remembers_2 : List UInt8 := [182, 0, 102, 79, 132, 4, 255, 167, 255, 227, 42, 180, 0, 31, 16, 12, 27, 104, 28, 79, 42, 180, 0, 34]
abbrev dktX2_remembers_2 : List UInt8 := dkwX2_remembers_2 ++ dktX2_remembers_3
def dkwX2_remembers_1 : List UInt8 := [21, 4, 158, 0, 30, 42, 180, 0, 31, 16, 12, 27, 104, 21, 4, 96, 42, 27, 21, 4, 4, 100]
abbrev dktX2_remembers_1 : List UInt8 := dkwX2_remembers_1 ++ dktX2_remembers_2
def dkwX2_remembers_0 : List UInt8 := [42, 180, 0, 34, 27, 46, 42, 180, 0, 24, 27, 50, 182, 0, 134, 4, 100, 184, 0, 78, 62, 29, 54, 4]
abbrev dktX2_remembers_0 : List UInt8 := dkwX2_remembers_0 ++ dktX2_remembers_1
theorem dksX2_remembers_0 : cX2_remembers.data.toList.drop 0 = dktX2_remembers_0 := by decide +kernel
theorem dksX2_remembers_1 : cX2_remembers.data.toList.drop 24 = dktX2_remembers_1 := dk_seg dksX2_remembers_0 24 rfl rfl
theorem dksX2_remembers_2 : cX2_remembers.data.toList.drop 46 = dktX2_remembers_2 := dk_seg dksX2_remembers_1 22 rfl rfl
theorem dksX2_remembers_3 : cX2_remembers.data.toList.drop 70 = dktX2_remembers_3 := dk_seg dksX2_remembers_2 24 rfl rfl
theorem dX2_remembers_0 : decode cX2_remembers 0 = .ok (.aload_n 0, 1) := dk_42 (dk_at dksX2_remembers_0 0 rfl rfl)
theorem dX2_remembers_1 : decode cX2_remembers 1 = .ok (.getfield 34, 3) := dk_180 0 34 (dk_at dksX2_remembers_0 1 rfl rfl)
theorem dX2_remembers_4 : decode cX2_remembers 4 = .ok (.iload_n 1, 1) := dk_27 (dk_at dksX2_remembers_0 4 rfl rfl)
theorem dX2_remembers_5 : decode cX2_remembers 5 = .ok (.iaload, 1) := dk_46 (dk_at dksX2_remembers_0 5 rfl rfl)
theorem dX2_remembers_6 : decode cX2_remembers 6 = .ok (.aload_n 0, 1) := dk_42 (dk_at dksX2_remembers_0 6 rfl rfl)
theorem dX2_remembers_7 : decode cX2_remembers 7 = .ok (.getfield 24, 3) := dk_180 0 24 (dk_at dksX2_remembers_0 7 rfl rfl)
theorem dX2_remembers_10 : decode cX2_remembers 10 = .ok (.iload_n 1, 1) := dk_27 (dk_at dksX2_remembers_0 10 rfl rfl)
theorem dX2_remembers_11 : decode cX2_remembers 11 = .ok (.aaload, 1) := dk_50 (dk_at dksX2_remembers_0 11 rfl rfl)
theorem dX2_remembers_12 : decode cX2_remembers 12 = .ok (.invokevirtual 134, 3) := dk_182 0 134 (dk_at dksX2_remembers_0 12 rfl rfl)
theorem dX2_remembers_15 : decode cX2_remembers 15 = .ok (.iconst 1, 1) := dk_4 (dk_at dksX2_remembers_0 15 rfl rfl)
theorem dX2_remembers_16 : decode cX2_remembers 16 = .ok (.isub, 1) := dk_100 (dk_at dksX2_remembers_0 16 rfl rfl)
theorem dX2_remembers_17 : decode cX2_remembers 17 = .ok (.invokestatic 78, 3) := dk_184 0 78 (dk_at dksX2_remembers_0 17 rfl rfl)
theorem dX2_remembers_20 : decode cX2_remembers 20 = .ok (.istore_n 3, 1) := dk_62 (dk_at dksX2_remembers_0 20 rfl rfl)
theorem dX2_remembers_21 : decode cX2_remembers 21 = .ok (.iload_n 3, 1) := dk_29 (dk_at dksX2_remembers_0 21 rfl rfl)
theorem dX2_remembers_22 : decode cX2_remembers 22 = .ok (.istore 4, 2) := dk_54 4 (dk_at dksX2_remembers_0 22 rfl rfl)
theorem dX2_remembers_24 : decode cX2_remembers 24 = .ok (.iload 4, 2) := dk_21 4 (dk_at dksX2_remembers_1 0 rfl rfl)
theorem dX2_remembers_26 : decode cX2_remembers 26 = .ok (.ifCond .le 30, 3) := dk_158 0 30 (dk_at dksX2_remembers_1 2 rfl rfl)
theorem dX2_remembers_29 : decode cX2_remembers 29 = .ok (.aload_n 0, 1) := dk_42 (dk_at dksX2_remembers_1 5 rfl rfl)
theorem dX2_remembers_30 : decode cX2_remembers 30 = .ok (.getfield 31, 3) := dk_180 0 31 (dk_at dksX2_remembers_1 6 rfl rfl)
theorem dX2_remembers_33 : decode cX2_remembers 33 = .ok (.bipush 12, 2) := dk_16 12 (dk_at dksX2_remembers_1 9 rfl rfl)
theorem dX2_remembers_35 : decode cX2_remembers 35 = .ok (.iload_n 1, 1) := dk_27 (dk_at dksX2_remembers_1 11 rfl rfl)
theorem dX2_remembers_36 : decode cX2_remembers 36 = .ok (.imul, 1) := dk_104 (dk_at dksX2_remembers_1 12 rfl rfl)
theorem dX2_remembers_37 : decode cX2_remembers 37 = .ok (.iload 4, 2) := dk_21 4 (dk_at dksX2_remembers_1 13 rfl rfl)
theorem dX2_remembers_39 : decode cX2_remembers 39 = .ok (.iadd, 1) := dk_96 (dk_at dksX2_remembers_1 15 rfl rfl)
theorem dX2_remembers_40 : decode cX2_remembers 40 = .ok (.aload_n 0, 1) := dk_42 (dk_at dksX2_remembers_1 16 rfl rfl)
theorem dX2_remembers_41 : decode cX2_remembers 41 = .ok (.iload_n 1, 1) := dk_27 (dk_at dksX2_remembers_1 17 rfl rfl)
theorem dX2_remembers_42 : decode cX2_remembers 42 = .ok (.iload 4, 2) := dk_21 4 (dk_at dksX2_remembers_1 18 rfl rfl)
theorem dX2_remembers_44 : decode cX2_remembers 44 = .ok (.iconst 1, 1) := dk_4 (dk_at dksX2_remembers_1 20 rfl rfl)
theorem dX2_remembers_45 : decode cX2_remembers 45 = .ok (.isub, 1) := dk_100 (dk_at dksX2_remembers_1 21 rfl rfl)
theorem dX2_remembers_46 : decode cX2_remembers 46 = .ok (.invokevirtual 102, 3) := dk_182 0 102 (dk_at dksX2_remembers_2 0 rfl rfl)
theorem dX2_remembers_49 : decode cX2_remembers 49 = .ok (.iastore, 1) := dk_79 (dk_at dksX2_remembers_2 3 rfl rfl)
theorem dX2_remembers_50 : decode cX2_remembers 50 = .ok (.iinc 4 (-1), 3) := dk_132 4 255 (dk_at dksX2_remembers_2 4 rfl rfl)
theorem dX2_remembers_53 : decode cX2_remembers 53 = .ok (.goto (-29), 3) := dk_167 255 227 (dk_at dksX2_remembers_2 7 rfl rfl)
theorem dX2_remembers_56 : decode cX2_remembers 56 = .ok (.aload_n 0, 1) := dk_42 (dk_at dksX2_remembers_2 10 rfl rfl)
theorem dX2_remembers_57 : decode cX2_remembers 57 = .ok (.getfield 31, 3) := dk_180 0 31 (dk_at dksX2_remembers_2 11 rfl rfl)
theorem dX2_remembers_60 : decode cX2_remembers 60 = .ok (.bipush 12, 2) := dk_16 12 (dk_at dksX2_remembers_2 14 rfl rfl)
theorem dX2_remembers_62 : decode cX2_remembers 62 = .ok (.iload_n 1, 1) := dk_27 (dk_at dksX2_remembers_2 16 rfl rfl)
theorem dX2_remembers_63 : decode cX2_remembers 63 = .ok (.imul, 1) := dk_104 (dk_at dksX2_remembers_2 17 rfl rfl)
theorem dX2_remembers_64 : decode cX2_remembers 64 = .ok (.iload_n 2, 1) := dk_28 (dk_at dksX2_remembers_2 18 rfl rfl)
theorem dX2_remembers_65 : decode cX2_remembers 65 = .ok (.iastore, 1) := dk_79 (dk_at dksX2_remembers_2 19 rfl rfl)
theorem dX2_remembers_66 : decode cX2_remembers 66 = .ok (.aload_n 0, 1) := dk_42 (dk_at dksX2_remembers_2 20 rfl rfl)
theorem dX2_remembers_67 : decode cX2_remembers 67 = .ok (.getfield 34, 3) := dk_180 0 34 (dk_at dksX2_remembers_2 21 rfl rfl)
theorem dX2_remembers_70 : decode cX2_remembers 70 = .ok (.iload_n 1, 1) := dk_27 (dk_at dksX2_remembers_3 0 rfl rfl)
theorem dX2_remembers_71 : decode cX2_remembers 71 = .ok (.iload_n 3, 1) := dk_29 (dk_at dksX2_remembers_3 1 rfl rfl)
theorem dX2_remembers_72 : decode cX2_remembers 72 = .ok (.iconst 1, 1) := dk_4 (dk_at dksX2_remembers_3 2 rfl rfl)
theorem dX2_remembers_73 : decode cX2_remembers 73 = .ok (.iadd, 1) := dk_96 (dk_at dksX2_remembers_3 3 rfl rfl)
theorem dX2_remembers_74 : decode cX2_remembers 74 = .ok (.iastore, 1) := dk_79 (dk_at dksX2_remembers_3 4 rfl rfl)
theorem dX2_remembers_75 : decode cX2_remembers 75 = .ok (.return_, 1) := dk_177 (dk_at dksX2_remembers_3 5 rfl rfl)
abbrev cX2_allGrass : ByteArray := prog_14_method_12_code
def yX2_allGrass : MethodName := ⟨RX2, "allGrass", "()I"⟩
def dkwX2_allGrass_1 : List UInt8 := [167, 255, 238, 27, 172]
abbrev dktX2_allGrass_1 : List UInt8 := dkwX2_allGrass_1 ++ []
def dkwX2_allGrass_0 : List UInt8 := [3, 60, 3, 61, 28, 16, 25, 162, 0, 18, 27, 42, 180, 0, 15, 28, 46, 96, 60, 132, 2, 1]
abbrev dktX2_allGrass_0 : List UInt8 := dkwX2_allGrass_0 ++ dktX2_allGrass_1
theorem dksX2_allGrass_0 : cX2_allGrass.data.toList.drop 0 = dktX2_allGrass_0 := by decide +kernel
theorem dksX2_allGrass_1 : cX2_allGrass.data.toList.drop 22 = dktX2_allGrass_1 := dk_seg dksX2_allGrass_0 22 rfl rfl
theorem dX2_allGrass_0 : decode cX2_allGrass 0 = .ok (.iconst 0, 1) := dk_3 (dk_at dksX2_allGrass_0 0 rfl rfl)
theorem dX2_allGrass_1 : decode cX2_allGrass 1 = .ok (.istore_n 1, 1) := dk_60 (dk_at dksX2_allGrass_0 1 rfl rfl)
theorem dX2_allGrass_2 : decode cX2_allGrass 2 = .ok (.iconst 0, 1) := dk_3 (dk_at dksX2_allGrass_0 2 rfl rfl)
theorem dX2_allGrass_3 : decode cX2_allGrass 3 = .ok (.istore_n 2, 1) := dk_61 (dk_at dksX2_allGrass_0 3 rfl rfl)
theorem dX2_allGrass_4 : decode cX2_allGrass 4 = .ok (.iload_n 2, 1) := dk_28 (dk_at dksX2_allGrass_0 4 rfl rfl)
theorem dX2_allGrass_5 : decode cX2_allGrass 5 = .ok (.bipush 25, 2) := dk_16 25 (dk_at dksX2_allGrass_0 5 rfl rfl)
theorem dX2_allGrass_7 : decode cX2_allGrass 7 = .ok (.if_icmp .ge 18, 3) := dk_162 0 18 (dk_at dksX2_allGrass_0 7 rfl rfl)
theorem dX2_allGrass_10 : decode cX2_allGrass 10 = .ok (.iload_n 1, 1) := dk_27 (dk_at dksX2_allGrass_0 10 rfl rfl)
theorem dX2_allGrass_11 : decode cX2_allGrass 11 = .ok (.aload_n 0, 1) := dk_42 (dk_at dksX2_allGrass_0 11 rfl rfl)
theorem dX2_allGrass_12 : decode cX2_allGrass 12 = .ok (.getfield 15, 3) := dk_180 0 15 (dk_at dksX2_allGrass_0 12 rfl rfl)
theorem dX2_allGrass_15 : decode cX2_allGrass 15 = .ok (.iload_n 2, 1) := dk_28 (dk_at dksX2_allGrass_0 15 rfl rfl)
theorem dX2_allGrass_16 : decode cX2_allGrass 16 = .ok (.iaload, 1) := dk_46 (dk_at dksX2_allGrass_0 16 rfl rfl)
theorem dX2_allGrass_17 : decode cX2_allGrass 17 = .ok (.iadd, 1) := dk_96 (dk_at dksX2_allGrass_0 17 rfl rfl)
theorem dX2_allGrass_18 : decode cX2_allGrass 18 = .ok (.istore_n 1, 1) := dk_60 (dk_at dksX2_allGrass_0 18 rfl rfl)
theorem dX2_allGrass_19 : decode cX2_allGrass 19 = .ok (.iinc 2 1, 3) := dk_132 2 1 (dk_at dksX2_allGrass_0 19 rfl rfl)
theorem dX2_allGrass_22 : decode cX2_allGrass 22 = .ok (.goto (-18), 3) := dk_167 255 238 (dk_at dksX2_allGrass_1 0 rfl rfl)
theorem dX2_allGrass_25 : decode cX2_allGrass 25 = .ok (.iload_n 1, 1) := dk_27 (dk_at dksX2_allGrass_1 3 rfl rfl)
theorem dX2_allGrass_26 : decode cX2_allGrass 26 = .ok (.ireturn, 1) := dk_172 (dk_at dksX2_allGrass_1 4 rfl rfl)
abbrev cX2_goesLoose : ByteArray := prog_14_method_18_code
def yX2_goesLoose : MethodName := ⟨RX2, "goesLoose", "()V"⟩
def dkwX2_goesLoose_1 : List UInt8 := [182, 0, 148, 177]
abbrev dktX2_goesLoose_1 : List UInt8 := dkwX2_goesLoose_1 ++ []
def dkwX2_goesLoose_0 : List UInt8 := [42, 182, 0, 152, 16, 25, 112, 60, 42, 180, 0, 15, 27, 42, 182, 0, 152, 16, 100, 112, 79, 42]
abbrev dktX2_goesLoose_0 : List UInt8 := dkwX2_goesLoose_0 ++ dktX2_goesLoose_1
theorem dksX2_goesLoose_0 : cX2_goesLoose.data.toList.drop 0 = dktX2_goesLoose_0 := by decide +kernel
theorem dksX2_goesLoose_1 : cX2_goesLoose.data.toList.drop 22 = dktX2_goesLoose_1 := dk_seg dksX2_goesLoose_0 22 rfl rfl
theorem dX2_goesLoose_0 : decode cX2_goesLoose 0 = .ok (.aload_n 0, 1) := dk_42 (dk_at dksX2_goesLoose_0 0 rfl rfl)
theorem dX2_goesLoose_1 : decode cX2_goesLoose 1 = .ok (.invokevirtual 152, 3) := dk_182 0 152 (dk_at dksX2_goesLoose_0 1 rfl rfl)
theorem dX2_goesLoose_4 : decode cX2_goesLoose 4 = .ok (.bipush 25, 2) := dk_16 25 (dk_at dksX2_goesLoose_0 4 rfl rfl)
theorem dX2_goesLoose_6 : decode cX2_goesLoose 6 = .ok (.irem, 1) := dk_112 (dk_at dksX2_goesLoose_0 6 rfl rfl)
theorem dX2_goesLoose_7 : decode cX2_goesLoose 7 = .ok (.istore_n 1, 1) := dk_60 (dk_at dksX2_goesLoose_0 7 rfl rfl)
theorem dX2_goesLoose_8 : decode cX2_goesLoose 8 = .ok (.aload_n 0, 1) := dk_42 (dk_at dksX2_goesLoose_0 8 rfl rfl)
theorem dX2_goesLoose_9 : decode cX2_goesLoose 9 = .ok (.getfield 15, 3) := dk_180 0 15 (dk_at dksX2_goesLoose_0 9 rfl rfl)
theorem dX2_goesLoose_12 : decode cX2_goesLoose 12 = .ok (.iload_n 1, 1) := dk_27 (dk_at dksX2_goesLoose_0 12 rfl rfl)
theorem dX2_goesLoose_13 : decode cX2_goesLoose 13 = .ok (.aload_n 0, 1) := dk_42 (dk_at dksX2_goesLoose_0 13 rfl rfl)
theorem dX2_goesLoose_14 : decode cX2_goesLoose 14 = .ok (.invokevirtual 152, 3) := dk_182 0 152 (dk_at dksX2_goesLoose_0 14 rfl rfl)
theorem dX2_goesLoose_17 : decode cX2_goesLoose 17 = .ok (.bipush 100, 2) := dk_16 100 (dk_at dksX2_goesLoose_0 17 rfl rfl)
theorem dX2_goesLoose_19 : decode cX2_goesLoose 19 = .ok (.irem, 1) := dk_112 (dk_at dksX2_goesLoose_0 19 rfl rfl)
theorem dX2_goesLoose_20 : decode cX2_goesLoose 20 = .ok (.iastore, 1) := dk_79 (dk_at dksX2_goesLoose_0 20 rfl rfl)
theorem dX2_goesLoose_21 : decode cX2_goesLoose 21 = .ok (.aload_n 0, 1) := dk_42 (dk_at dksX2_goesLoose_0 21 rfl rfl)
theorem dX2_goesLoose_22 : decode cX2_goesLoose 22 = .ok (.invokevirtual 148, 3) := dk_182 0 148 (dk_at dksX2_goesLoose_1 0 rfl rfl)
theorem dX2_goesLoose_25 : decode cX2_goesLoose 25 = .ok (.return_, 1) := dk_177 (dk_at dksX2_goesLoose_1 3 rfl rfl)
abbrev cX2_draw : ByteArray := prog_14_method_17_code
def yX2_draw : MethodName := ⟨RX2, "draw", "()I"⟩
def dkwX2_draw_0 : List UInt8 := [42, 42, 180, 0, 43, 18, 151, 104, 17, 48, 57, 96, 181, 0, 43, 42, 180, 0, 43, 16, 8, 124, 172]
abbrev dktX2_draw_0 : List UInt8 := dkwX2_draw_0 ++ []
theorem dksX2_draw_0 : cX2_draw.data.toList.drop 0 = dktX2_draw_0 := by decide +kernel
theorem dX2_draw_0 : decode cX2_draw 0 = .ok (.aload_n 0, 1) := dk_42 (dk_at dksX2_draw_0 0 rfl rfl)
theorem dX2_draw_1 : decode cX2_draw 1 = .ok (.aload_n 0, 1) := dk_42 (dk_at dksX2_draw_0 1 rfl rfl)
theorem dX2_draw_2 : decode cX2_draw 2 = .ok (.getfield 43, 3) := dk_180 0 43 (dk_at dksX2_draw_0 2 rfl rfl)
theorem dX2_draw_5 : decode cX2_draw 5 = .ok (.ldc 151, 2) := dk_18 151 (dk_at dksX2_draw_0 5 rfl rfl)
theorem dX2_draw_7 : decode cX2_draw 7 = .ok (.imul, 1) := dk_104 (dk_at dksX2_draw_0 7 rfl rfl)
theorem dX2_draw_8 : decode cX2_draw 8 = .ok (.sipush 12345, 3) := dk_17 48 57 (dk_at dksX2_draw_0 8 rfl rfl)
theorem dX2_draw_11 : decode cX2_draw 11 = .ok (.iadd, 1) := dk_96 (dk_at dksX2_draw_0 11 rfl rfl)
theorem dX2_draw_12 : decode cX2_draw 12 = .ok (.putfield 43, 3) := dk_181 0 43 (dk_at dksX2_draw_0 12 rfl rfl)
theorem dX2_draw_15 : decode cX2_draw 15 = .ok (.aload_n 0, 1) := dk_42 (dk_at dksX2_draw_0 15 rfl rfl)
theorem dX2_draw_16 : decode cX2_draw 16 = .ok (.getfield 43, 3) := dk_180 0 43 (dk_at dksX2_draw_0 16 rfl rfl)
theorem dX2_draw_19 : decode cX2_draw 19 = .ok (.bipush 8, 2) := dk_16 8 (dk_at dksX2_draw_0 19 rfl rfl)
theorem dX2_draw_21 : decode cX2_draw 21 = .ok (.iushr, 1) := dk_124 (dk_at dksX2_draw_0 21 rfl rfl)
theorem dX2_draw_22 : decode cX2_draw 22 = .ok (.ireturn, 1) := dk_172 (dk_at dksX2_draw_0 22 rfl rfl)
abbrev cX2_taste : ByteArray := prog_14_method_10_code
def yX2_taste : MethodName := ⟨RX2, "taste", "(II)I"⟩
def dkwX2_taste_4 : List UInt8 := [172]
abbrev dktX2_taste_4 : List UInt8 := dkwX2_taste_4 ++ []
def dkwX2_taste_3 : List UInt8 := [184, 0, 84, 167, 0, 5, 21, 4, 54, 4, 132, 6, 1, 167, 255, 195, 132, 5, 1, 167, 255, 177, 21, 4]
abbrev dktX2_taste_3 : List UInt8 := dkwX2_taste_3 ++ dktX2_taste_4
def dkwX2_taste_2 : List UInt8 := [21, 6, 182, 0, 102, 28, 160, 0, 24, 21, 4, 42, 42, 180, 0, 9, 28, 46, 21, 6, 29, 182, 0, 115]
abbrev dktX2_taste_2 : List UInt8 := dkwX2_taste_2 ++ dktX2_taste_3
def dkwX2_taste_1 : List UInt8 := [21, 6, 42, 180, 0, 34, 21, 5, 46, 162, 0, 55, 27, 21, 5, 184, 0, 111, 153, 0, 46, 42, 21, 5]
abbrev dktX2_taste_1 : List UInt8 := dkwX2_taste_1 ++ dktX2_taste_2
def dkwX2_taste_0 : List UInt8 := [27, 184, 0, 105, 62, 3, 54, 4, 3, 54, 5, 21, 5, 42, 180, 0, 66, 162, 0, 76, 3, 54, 6]
abbrev dktX2_taste_0 : List UInt8 := dkwX2_taste_0 ++ dktX2_taste_1
theorem dksX2_taste_0 : cX2_taste.data.toList.drop 0 = dktX2_taste_0 := by decide +kernel
theorem dksX2_taste_1 : cX2_taste.data.toList.drop 23 = dktX2_taste_1 := dk_seg dksX2_taste_0 23 rfl rfl
theorem dksX2_taste_2 : cX2_taste.data.toList.drop 47 = dktX2_taste_2 := dk_seg dksX2_taste_1 24 rfl rfl
theorem dksX2_taste_3 : cX2_taste.data.toList.drop 71 = dktX2_taste_3 := dk_seg dksX2_taste_2 24 rfl rfl
theorem dksX2_taste_4 : cX2_taste.data.toList.drop 95 = dktX2_taste_4 := dk_seg dksX2_taste_3 24 rfl rfl
theorem dX2_taste_0 : decode cX2_taste 0 = .ok (.iload_n 1, 1) := dk_27 (dk_at dksX2_taste_0 0 rfl rfl)
theorem dX2_taste_1 : decode cX2_taste 1 = .ok (.invokestatic 105, 3) := dk_184 0 105 (dk_at dksX2_taste_0 1 rfl rfl)
theorem dX2_taste_4 : decode cX2_taste 4 = .ok (.istore_n 3, 1) := dk_62 (dk_at dksX2_taste_0 4 rfl rfl)
theorem dX2_taste_5 : decode cX2_taste 5 = .ok (.iconst 0, 1) := dk_3 (dk_at dksX2_taste_0 5 rfl rfl)
theorem dX2_taste_6 : decode cX2_taste 6 = .ok (.istore 4, 2) := dk_54 4 (dk_at dksX2_taste_0 6 rfl rfl)
theorem dX2_taste_8 : decode cX2_taste 8 = .ok (.iconst 0, 1) := dk_3 (dk_at dksX2_taste_0 8 rfl rfl)
theorem dX2_taste_9 : decode cX2_taste 9 = .ok (.istore 5, 2) := dk_54 5 (dk_at dksX2_taste_0 9 rfl rfl)
theorem dX2_taste_11 : decode cX2_taste 11 = .ok (.iload 5, 2) := dk_21 5 (dk_at dksX2_taste_0 11 rfl rfl)
theorem dX2_taste_13 : decode cX2_taste 13 = .ok (.aload_n 0, 1) := dk_42 (dk_at dksX2_taste_0 13 rfl rfl)
theorem dX2_taste_14 : decode cX2_taste 14 = .ok (.getfield 66, 3) := dk_180 0 66 (dk_at dksX2_taste_0 14 rfl rfl)
theorem dX2_taste_17 : decode cX2_taste 17 = .ok (.if_icmp .ge 76, 3) := dk_162 0 76 (dk_at dksX2_taste_0 17 rfl rfl)
theorem dX2_taste_20 : decode cX2_taste 20 = .ok (.iconst 0, 1) := dk_3 (dk_at dksX2_taste_0 20 rfl rfl)
theorem dX2_taste_21 : decode cX2_taste 21 = .ok (.istore 6, 2) := dk_54 6 (dk_at dksX2_taste_0 21 rfl rfl)
theorem dX2_taste_23 : decode cX2_taste 23 = .ok (.iload 6, 2) := dk_21 6 (dk_at dksX2_taste_1 0 rfl rfl)
theorem dX2_taste_25 : decode cX2_taste 25 = .ok (.aload_n 0, 1) := dk_42 (dk_at dksX2_taste_1 2 rfl rfl)
theorem dX2_taste_26 : decode cX2_taste 26 = .ok (.getfield 34, 3) := dk_180 0 34 (dk_at dksX2_taste_1 3 rfl rfl)
theorem dX2_taste_29 : decode cX2_taste 29 = .ok (.iload 5, 2) := dk_21 5 (dk_at dksX2_taste_1 6 rfl rfl)
theorem dX2_taste_31 : decode cX2_taste 31 = .ok (.iaload, 1) := dk_46 (dk_at dksX2_taste_1 8 rfl rfl)
theorem dX2_taste_32 : decode cX2_taste 32 = .ok (.if_icmp .ge 55, 3) := dk_162 0 55 (dk_at dksX2_taste_1 9 rfl rfl)
theorem dX2_taste_35 : decode cX2_taste 35 = .ok (.iload_n 1, 1) := dk_27 (dk_at dksX2_taste_1 12 rfl rfl)
theorem dX2_taste_36 : decode cX2_taste 36 = .ok (.iload 5, 2) := dk_21 5 (dk_at dksX2_taste_1 13 rfl rfl)
theorem dX2_taste_38 : decode cX2_taste 38 = .ok (.invokestatic 111, 3) := dk_184 0 111 (dk_at dksX2_taste_1 15 rfl rfl)
theorem dX2_taste_41 : decode cX2_taste 41 = .ok (.ifCond .eq 46, 3) := dk_153 0 46 (dk_at dksX2_taste_1 18 rfl rfl)
theorem dX2_taste_44 : decode cX2_taste 44 = .ok (.aload_n 0, 1) := dk_42 (dk_at dksX2_taste_1 21 rfl rfl)
theorem dX2_taste_45 : decode cX2_taste 45 = .ok (.iload 5, 2) := dk_21 5 (dk_at dksX2_taste_1 22 rfl rfl)
theorem dX2_taste_47 : decode cX2_taste 47 = .ok (.iload 6, 2) := dk_21 6 (dk_at dksX2_taste_2 0 rfl rfl)
theorem dX2_taste_49 : decode cX2_taste 49 = .ok (.invokevirtual 102, 3) := dk_182 0 102 (dk_at dksX2_taste_2 2 rfl rfl)
theorem dX2_taste_52 : decode cX2_taste 52 = .ok (.iload_n 2, 1) := dk_28 (dk_at dksX2_taste_2 5 rfl rfl)
theorem dX2_taste_53 : decode cX2_taste 53 = .ok (.if_icmp .ne 24, 3) := dk_160 0 24 (dk_at dksX2_taste_2 6 rfl rfl)
theorem dX2_taste_56 : decode cX2_taste 56 = .ok (.iload 4, 2) := dk_21 4 (dk_at dksX2_taste_2 9 rfl rfl)
theorem dX2_taste_58 : decode cX2_taste 58 = .ok (.aload_n 0, 1) := dk_42 (dk_at dksX2_taste_2 11 rfl rfl)
theorem dX2_taste_59 : decode cX2_taste 59 = .ok (.aload_n 0, 1) := dk_42 (dk_at dksX2_taste_2 12 rfl rfl)
theorem dX2_taste_60 : decode cX2_taste 60 = .ok (.getfield 9, 3) := dk_180 0 9 (dk_at dksX2_taste_2 13 rfl rfl)
theorem dX2_taste_63 : decode cX2_taste 63 = .ok (.iload_n 2, 1) := dk_28 (dk_at dksX2_taste_2 16 rfl rfl)
theorem dX2_taste_64 : decode cX2_taste 64 = .ok (.iaload, 1) := dk_46 (dk_at dksX2_taste_2 17 rfl rfl)
theorem dX2_taste_65 : decode cX2_taste 65 = .ok (.iload 6, 2) := dk_21 6 (dk_at dksX2_taste_2 18 rfl rfl)
theorem dX2_taste_67 : decode cX2_taste 67 = .ok (.iload_n 3, 1) := dk_29 (dk_at dksX2_taste_2 20 rfl rfl)
theorem dX2_taste_68 : decode cX2_taste 68 = .ok (.invokevirtual 115, 3) := dk_182 0 115 (dk_at dksX2_taste_2 21 rfl rfl)
theorem dX2_taste_71 : decode cX2_taste 71 = .ok (.invokestatic 84, 3) := dk_184 0 84 (dk_at dksX2_taste_3 0 rfl rfl)
theorem dX2_taste_74 : decode cX2_taste 74 = .ok (.goto 5, 3) := dk_167 0 5 (dk_at dksX2_taste_3 3 rfl rfl)
theorem dX2_taste_77 : decode cX2_taste 77 = .ok (.iload 4, 2) := dk_21 4 (dk_at dksX2_taste_3 6 rfl rfl)
theorem dX2_taste_79 : decode cX2_taste 79 = .ok (.istore 4, 2) := dk_54 4 (dk_at dksX2_taste_3 8 rfl rfl)
theorem dX2_taste_81 : decode cX2_taste 81 = .ok (.iinc 6 1, 3) := dk_132 6 1 (dk_at dksX2_taste_3 10 rfl rfl)
theorem dX2_taste_84 : decode cX2_taste 84 = .ok (.goto (-61), 3) := dk_167 255 195 (dk_at dksX2_taste_3 13 rfl rfl)
theorem dX2_taste_87 : decode cX2_taste 87 = .ok (.iinc 5 1, 3) := dk_132 5 1 (dk_at dksX2_taste_3 16 rfl rfl)
theorem dX2_taste_90 : decode cX2_taste 90 = .ok (.goto (-79), 3) := dk_167 255 177 (dk_at dksX2_taste_3 19 rfl rfl)
theorem dX2_taste_93 : decode cX2_taste 93 = .ok (.iload 4, 2) := dk_21 4 (dk_at dksX2_taste_3 22 rfl rfl)
theorem dX2_taste_95 : decode cX2_taste 95 = .ok (.ireturn, 1) := dk_172 (dk_at dksX2_taste_4 0 rfl rfl)
abbrev cX2_become : ByteArray := prog_14_method_2_code
def yX2_become : MethodName := ⟨RX2, "become", "(LMeadowMilk$Meadow;)LMeadowMilk$Meadow;"⟩
def dkwX2_become_7 : List UInt8 := [180, 0, 50, 3, 16, 20, 184, 0, 60, 42, 43, 180, 0, 75, 181, 0, 75, 42, 176]
abbrev dktX2_become_7 : List UInt8 := dkwX2_become_7 ++ []
def dkwX2_become_6 : List UInt8 := [180, 0, 46, 3, 16, 50, 184, 0, 60, 42, 43, 180, 0, 72, 181, 0, 72, 43, 180, 0, 50, 3, 42]
abbrev dktX2_become_6 : List UInt8 := dkwX2_become_6 ++ dktX2_become_7
def dkwX2_become_5 : List UInt8 := [180, 0, 39, 3, 5, 184, 0, 60, 42, 43, 180, 0, 43, 181, 0, 43, 43, 180, 0, 46, 3, 42]
abbrev dktX2_become_5 : List UInt8 := dkwX2_become_5 ++ dktX2_become_6
def dkwX2_become_4 : List UInt8 := [180, 0, 34, 3, 8, 184, 0, 60, 42, 43, 180, 0, 69, 181, 0, 69, 43, 180, 0, 39, 3, 42]
abbrev dktX2_become_4 : List UInt8 := dkwX2_become_4 ++ dktX2_become_5
def dkwX2_become_3 : List UInt8 := [184, 0, 60, 43, 180, 0, 31, 3, 42, 180, 0, 31, 3, 16, 60, 184, 0, 60, 43, 180, 0, 34, 3, 42]
abbrev dktX2_become_3 : List UInt8 := dkwX2_become_3 ++ dktX2_become_4
def dkwX2_become_2 : List UInt8 := [180, 0, 24, 3, 42, 180, 0, 24, 3, 8, 184, 0, 60, 43, 180, 0, 28, 3, 42, 180, 0, 28, 3, 8]
abbrev dktX2_become_2 : List UInt8 := dkwX2_become_2 ++ dktX2_become_3
def dkwX2_become_1 : List UInt8 := [3, 16, 25, 184, 0, 60, 42, 43, 180, 0, 18, 181, 0, 18, 42, 43, 180, 0, 66, 181, 0, 66, 43]
abbrev dktX2_become_1 : List UInt8 := dkwX2_become_1 ++ dktX2_become_2
def dkwX2_become_0 : List UInt8 := [43, 180, 0, 9, 3, 42, 180, 0, 9, 3, 16, 25, 184, 0, 60, 43, 180, 0, 15, 3, 42, 180, 0, 15]
abbrev dktX2_become_0 : List UInt8 := dkwX2_become_0 ++ dktX2_become_1
theorem dksX2_become_0 : cX2_become.data.toList.drop 0 = dktX2_become_0 := by decide +kernel
theorem dksX2_become_1 : cX2_become.data.toList.drop 24 = dktX2_become_1 := dk_seg dksX2_become_0 24 rfl rfl
theorem dksX2_become_2 : cX2_become.data.toList.drop 47 = dktX2_become_2 := dk_seg dksX2_become_1 23 rfl rfl
theorem dksX2_become_3 : cX2_become.data.toList.drop 71 = dktX2_become_3 := dk_seg dksX2_become_2 24 rfl rfl
theorem dksX2_become_4 : cX2_become.data.toList.drop 95 = dktX2_become_4 := dk_seg dksX2_become_3 24 rfl rfl
theorem dksX2_become_5 : cX2_become.data.toList.drop 117 = dktX2_become_5 := dk_seg dksX2_become_4 22 rfl rfl
theorem dksX2_become_6 : cX2_become.data.toList.drop 139 = dktX2_become_6 := dk_seg dksX2_become_5 22 rfl rfl
theorem dksX2_become_7 : cX2_become.data.toList.drop 162 = dktX2_become_7 := dk_seg dksX2_become_6 23 rfl rfl
theorem dX2_become_0 : decode cX2_become 0 = .ok (.aload_n 1, 1) := dk_43 (dk_at dksX2_become_0 0 rfl rfl)
theorem dX2_become_1 : decode cX2_become 1 = .ok (.getfield 9, 3) := dk_180 0 9 (dk_at dksX2_become_0 1 rfl rfl)
theorem dX2_become_4 : decode cX2_become 4 = .ok (.iconst 0, 1) := dk_3 (dk_at dksX2_become_0 4 rfl rfl)
theorem dX2_become_5 : decode cX2_become 5 = .ok (.aload_n 0, 1) := dk_42 (dk_at dksX2_become_0 5 rfl rfl)
theorem dX2_become_6 : decode cX2_become 6 = .ok (.getfield 9, 3) := dk_180 0 9 (dk_at dksX2_become_0 6 rfl rfl)
theorem dX2_become_9 : decode cX2_become 9 = .ok (.iconst 0, 1) := dk_3 (dk_at dksX2_become_0 9 rfl rfl)
theorem dX2_become_10 : decode cX2_become 10 = .ok (.bipush 25, 2) := dk_16 25 (dk_at dksX2_become_0 10 rfl rfl)
theorem dX2_become_12 : decode cX2_become 12 = .ok (.invokestatic 60, 3) := dk_184 0 60 (dk_at dksX2_become_0 12 rfl rfl)
theorem dX2_become_15 : decode cX2_become 15 = .ok (.aload_n 1, 1) := dk_43 (dk_at dksX2_become_0 15 rfl rfl)
theorem dX2_become_16 : decode cX2_become 16 = .ok (.getfield 15, 3) := dk_180 0 15 (dk_at dksX2_become_0 16 rfl rfl)
theorem dX2_become_19 : decode cX2_become 19 = .ok (.iconst 0, 1) := dk_3 (dk_at dksX2_become_0 19 rfl rfl)
theorem dX2_become_20 : decode cX2_become 20 = .ok (.aload_n 0, 1) := dk_42 (dk_at dksX2_become_0 20 rfl rfl)
theorem dX2_become_21 : decode cX2_become 21 = .ok (.getfield 15, 3) := dk_180 0 15 (dk_at dksX2_become_0 21 rfl rfl)
theorem dX2_become_24 : decode cX2_become 24 = .ok (.iconst 0, 1) := dk_3 (dk_at dksX2_become_1 0 rfl rfl)
theorem dX2_become_25 : decode cX2_become 25 = .ok (.bipush 25, 2) := dk_16 25 (dk_at dksX2_become_1 1 rfl rfl)
theorem dX2_become_27 : decode cX2_become 27 = .ok (.invokestatic 60, 3) := dk_184 0 60 (dk_at dksX2_become_1 3 rfl rfl)
theorem dX2_become_30 : decode cX2_become 30 = .ok (.aload_n 0, 1) := dk_42 (dk_at dksX2_become_1 6 rfl rfl)
theorem dX2_become_31 : decode cX2_become 31 = .ok (.aload_n 1, 1) := dk_43 (dk_at dksX2_become_1 7 rfl rfl)
theorem dX2_become_32 : decode cX2_become 32 = .ok (.getfield 18, 3) := dk_180 0 18 (dk_at dksX2_become_1 8 rfl rfl)
theorem dX2_become_35 : decode cX2_become 35 = .ok (.putfield 18, 3) := dk_181 0 18 (dk_at dksX2_become_1 11 rfl rfl)
theorem dX2_become_38 : decode cX2_become 38 = .ok (.aload_n 0, 1) := dk_42 (dk_at dksX2_become_1 14 rfl rfl)
theorem dX2_become_39 : decode cX2_become 39 = .ok (.aload_n 1, 1) := dk_43 (dk_at dksX2_become_1 15 rfl rfl)
theorem dX2_become_40 : decode cX2_become 40 = .ok (.getfield 66, 3) := dk_180 0 66 (dk_at dksX2_become_1 16 rfl rfl)
theorem dX2_become_43 : decode cX2_become 43 = .ok (.putfield 66, 3) := dk_181 0 66 (dk_at dksX2_become_1 19 rfl rfl)
theorem dX2_become_46 : decode cX2_become 46 = .ok (.aload_n 1, 1) := dk_43 (dk_at dksX2_become_1 22 rfl rfl)
theorem dX2_become_47 : decode cX2_become 47 = .ok (.getfield 24, 3) := dk_180 0 24 (dk_at dksX2_become_2 0 rfl rfl)
theorem dX2_become_50 : decode cX2_become 50 = .ok (.iconst 0, 1) := dk_3 (dk_at dksX2_become_2 3 rfl rfl)
theorem dX2_become_51 : decode cX2_become 51 = .ok (.aload_n 0, 1) := dk_42 (dk_at dksX2_become_2 4 rfl rfl)
theorem dX2_become_52 : decode cX2_become 52 = .ok (.getfield 24, 3) := dk_180 0 24 (dk_at dksX2_become_2 5 rfl rfl)
theorem dX2_become_55 : decode cX2_become 55 = .ok (.iconst 0, 1) := dk_3 (dk_at dksX2_become_2 8 rfl rfl)
theorem dX2_become_56 : decode cX2_become 56 = .ok (.iconst 5, 1) := dk_8 (dk_at dksX2_become_2 9 rfl rfl)
theorem dX2_become_57 : decode cX2_become 57 = .ok (.invokestatic 60, 3) := dk_184 0 60 (dk_at dksX2_become_2 10 rfl rfl)
theorem dX2_become_60 : decode cX2_become 60 = .ok (.aload_n 1, 1) := dk_43 (dk_at dksX2_become_2 13 rfl rfl)
theorem dX2_become_61 : decode cX2_become 61 = .ok (.getfield 28, 3) := dk_180 0 28 (dk_at dksX2_become_2 14 rfl rfl)
theorem dX2_become_64 : decode cX2_become 64 = .ok (.iconst 0, 1) := dk_3 (dk_at dksX2_become_2 17 rfl rfl)
theorem dX2_become_65 : decode cX2_become 65 = .ok (.aload_n 0, 1) := dk_42 (dk_at dksX2_become_2 18 rfl rfl)
theorem dX2_become_66 : decode cX2_become 66 = .ok (.getfield 28, 3) := dk_180 0 28 (dk_at dksX2_become_2 19 rfl rfl)
theorem dX2_become_69 : decode cX2_become 69 = .ok (.iconst 0, 1) := dk_3 (dk_at dksX2_become_2 22 rfl rfl)
theorem dX2_become_70 : decode cX2_become 70 = .ok (.iconst 5, 1) := dk_8 (dk_at dksX2_become_2 23 rfl rfl)
theorem dX2_become_71 : decode cX2_become 71 = .ok (.invokestatic 60, 3) := dk_184 0 60 (dk_at dksX2_become_3 0 rfl rfl)
theorem dX2_become_74 : decode cX2_become 74 = .ok (.aload_n 1, 1) := dk_43 (dk_at dksX2_become_3 3 rfl rfl)
theorem dX2_become_75 : decode cX2_become 75 = .ok (.getfield 31, 3) := dk_180 0 31 (dk_at dksX2_become_3 4 rfl rfl)
theorem dX2_become_78 : decode cX2_become 78 = .ok (.iconst 0, 1) := dk_3 (dk_at dksX2_become_3 7 rfl rfl)
theorem dX2_become_79 : decode cX2_become 79 = .ok (.aload_n 0, 1) := dk_42 (dk_at dksX2_become_3 8 rfl rfl)
theorem dX2_become_80 : decode cX2_become 80 = .ok (.getfield 31, 3) := dk_180 0 31 (dk_at dksX2_become_3 9 rfl rfl)
theorem dX2_become_83 : decode cX2_become 83 = .ok (.iconst 0, 1) := dk_3 (dk_at dksX2_become_3 12 rfl rfl)
theorem dX2_become_84 : decode cX2_become 84 = .ok (.bipush 60, 2) := dk_16 60 (dk_at dksX2_become_3 13 rfl rfl)
theorem dX2_become_86 : decode cX2_become 86 = .ok (.invokestatic 60, 3) := dk_184 0 60 (dk_at dksX2_become_3 15 rfl rfl)
theorem dX2_become_89 : decode cX2_become 89 = .ok (.aload_n 1, 1) := dk_43 (dk_at dksX2_become_3 18 rfl rfl)
theorem dX2_become_90 : decode cX2_become 90 = .ok (.getfield 34, 3) := dk_180 0 34 (dk_at dksX2_become_3 19 rfl rfl)
theorem dX2_become_93 : decode cX2_become 93 = .ok (.iconst 0, 1) := dk_3 (dk_at dksX2_become_3 22 rfl rfl)
theorem dX2_become_94 : decode cX2_become 94 = .ok (.aload_n 0, 1) := dk_42 (dk_at dksX2_become_3 23 rfl rfl)
theorem dX2_become_95 : decode cX2_become 95 = .ok (.getfield 34, 3) := dk_180 0 34 (dk_at dksX2_become_4 0 rfl rfl)
theorem dX2_become_98 : decode cX2_become 98 = .ok (.iconst 0, 1) := dk_3 (dk_at dksX2_become_4 3 rfl rfl)
theorem dX2_become_99 : decode cX2_become 99 = .ok (.iconst 5, 1) := dk_8 (dk_at dksX2_become_4 4 rfl rfl)
theorem dX2_become_100 : decode cX2_become 100 = .ok (.invokestatic 60, 3) := dk_184 0 60 (dk_at dksX2_become_4 5 rfl rfl)
theorem dX2_become_103 : decode cX2_become 103 = .ok (.aload_n 0, 1) := dk_42 (dk_at dksX2_become_4 8 rfl rfl)
theorem dX2_become_104 : decode cX2_become 104 = .ok (.aload_n 1, 1) := dk_43 (dk_at dksX2_become_4 9 rfl rfl)
theorem dX2_become_105 : decode cX2_become 105 = .ok (.getfield 69, 3) := dk_180 0 69 (dk_at dksX2_become_4 10 rfl rfl)
theorem dX2_become_108 : decode cX2_become 108 = .ok (.putfield 69, 3) := dk_181 0 69 (dk_at dksX2_become_4 13 rfl rfl)
theorem dX2_become_111 : decode cX2_become 111 = .ok (.aload_n 1, 1) := dk_43 (dk_at dksX2_become_4 16 rfl rfl)
theorem dX2_become_112 : decode cX2_become 112 = .ok (.getfield 39, 3) := dk_180 0 39 (dk_at dksX2_become_4 17 rfl rfl)
theorem dX2_become_115 : decode cX2_become 115 = .ok (.iconst 0, 1) := dk_3 (dk_at dksX2_become_4 20 rfl rfl)
theorem dX2_become_116 : decode cX2_become 116 = .ok (.aload_n 0, 1) := dk_42 (dk_at dksX2_become_4 21 rfl rfl)
theorem dX2_become_117 : decode cX2_become 117 = .ok (.getfield 39, 3) := dk_180 0 39 (dk_at dksX2_become_5 0 rfl rfl)
theorem dX2_become_120 : decode cX2_become 120 = .ok (.iconst 0, 1) := dk_3 (dk_at dksX2_become_5 3 rfl rfl)
theorem dX2_become_121 : decode cX2_become 121 = .ok (.iconst 2, 1) := dk_5 (dk_at dksX2_become_5 4 rfl rfl)
theorem dX2_become_122 : decode cX2_become 122 = .ok (.invokestatic 60, 3) := dk_184 0 60 (dk_at dksX2_become_5 5 rfl rfl)
theorem dX2_become_125 : decode cX2_become 125 = .ok (.aload_n 0, 1) := dk_42 (dk_at dksX2_become_5 8 rfl rfl)
theorem dX2_become_126 : decode cX2_become 126 = .ok (.aload_n 1, 1) := dk_43 (dk_at dksX2_become_5 9 rfl rfl)
theorem dX2_become_127 : decode cX2_become 127 = .ok (.getfield 43, 3) := dk_180 0 43 (dk_at dksX2_become_5 10 rfl rfl)
theorem dX2_become_130 : decode cX2_become 130 = .ok (.putfield 43, 3) := dk_181 0 43 (dk_at dksX2_become_5 13 rfl rfl)
theorem dX2_become_133 : decode cX2_become 133 = .ok (.aload_n 1, 1) := dk_43 (dk_at dksX2_become_5 16 rfl rfl)
theorem dX2_become_134 : decode cX2_become 134 = .ok (.getfield 46, 3) := dk_180 0 46 (dk_at dksX2_become_5 17 rfl rfl)
theorem dX2_become_137 : decode cX2_become 137 = .ok (.iconst 0, 1) := dk_3 (dk_at dksX2_become_5 20 rfl rfl)
theorem dX2_become_138 : decode cX2_become 138 = .ok (.aload_n 0, 1) := dk_42 (dk_at dksX2_become_5 21 rfl rfl)
theorem dX2_become_139 : decode cX2_become 139 = .ok (.getfield 46, 3) := dk_180 0 46 (dk_at dksX2_become_6 0 rfl rfl)
theorem dX2_become_142 : decode cX2_become 142 = .ok (.iconst 0, 1) := dk_3 (dk_at dksX2_become_6 3 rfl rfl)
theorem dX2_become_143 : decode cX2_become 143 = .ok (.bipush 50, 2) := dk_16 50 (dk_at dksX2_become_6 4 rfl rfl)
theorem dX2_become_145 : decode cX2_become 145 = .ok (.invokestatic 60, 3) := dk_184 0 60 (dk_at dksX2_become_6 6 rfl rfl)
theorem dX2_become_148 : decode cX2_become 148 = .ok (.aload_n 0, 1) := dk_42 (dk_at dksX2_become_6 9 rfl rfl)
theorem dX2_become_149 : decode cX2_become 149 = .ok (.aload_n 1, 1) := dk_43 (dk_at dksX2_become_6 10 rfl rfl)
theorem dX2_become_150 : decode cX2_become 150 = .ok (.getfield 72, 3) := dk_180 0 72 (dk_at dksX2_become_6 11 rfl rfl)
theorem dX2_become_153 : decode cX2_become 153 = .ok (.putfield 72, 3) := dk_181 0 72 (dk_at dksX2_become_6 14 rfl rfl)
theorem dX2_become_156 : decode cX2_become 156 = .ok (.aload_n 1, 1) := dk_43 (dk_at dksX2_become_6 17 rfl rfl)
theorem dX2_become_157 : decode cX2_become 157 = .ok (.getfield 50, 3) := dk_180 0 50 (dk_at dksX2_become_6 18 rfl rfl)
theorem dX2_become_160 : decode cX2_become 160 = .ok (.iconst 0, 1) := dk_3 (dk_at dksX2_become_6 21 rfl rfl)
theorem dX2_become_161 : decode cX2_become 161 = .ok (.aload_n 0, 1) := dk_42 (dk_at dksX2_become_6 22 rfl rfl)
theorem dX2_become_162 : decode cX2_become 162 = .ok (.getfield 50, 3) := dk_180 0 50 (dk_at dksX2_become_7 0 rfl rfl)
theorem dX2_become_165 : decode cX2_become 165 = .ok (.iconst 0, 1) := dk_3 (dk_at dksX2_become_7 3 rfl rfl)
theorem dX2_become_166 : decode cX2_become 166 = .ok (.bipush 20, 2) := dk_16 20 (dk_at dksX2_become_7 4 rfl rfl)
theorem dX2_become_168 : decode cX2_become 168 = .ok (.invokestatic 60, 3) := dk_184 0 60 (dk_at dksX2_become_7 6 rfl rfl)
theorem dX2_become_171 : decode cX2_become 171 = .ok (.aload_n 0, 1) := dk_42 (dk_at dksX2_become_7 9 rfl rfl)
theorem dX2_become_172 : decode cX2_become 172 = .ok (.aload_n 1, 1) := dk_43 (dk_at dksX2_become_7 10 rfl rfl)
theorem dX2_become_173 : decode cX2_become 173 = .ok (.getfield 75, 3) := dk_180 0 75 (dk_at dksX2_become_7 11 rfl rfl)
theorem dX2_become_176 : decode cX2_become 176 = .ok (.putfield 75, 3) := dk_181 0 75 (dk_at dksX2_become_7 14 rfl rfl)
theorem dX2_become_179 : decode cX2_become 179 = .ok (.aload_n 0, 1) := dk_42 (dk_at dksX2_become_7 17 rfl rfl)
theorem dX2_become_180 : decode cX2_become 180 = .ok (.areturn, 1) := dk_176 (dk_at dksX2_become_7 18 rfl rfl)
abbrev cX2_known : ByteArray := prog_14_method_11_code
def yX2_known : MethodName := ⟨RX2, "known", "(I)I"⟩
def dkwX2_known_1 : List UInt8 := [167, 0, 4, 3, 128, 61, 132, 3, 1, 167, 255, 228, 28, 172]
abbrev dktX2_known_1 : List UInt8 := dkwX2_known_1 ++ []
def dkwX2_known_0 : List UInt8 := [3, 61, 3, 62, 29, 16, 25, 162, 0, 28, 28, 42, 27, 29, 182, 0, 118, 158, 0, 9, 4, 29, 120]
abbrev dktX2_known_0 : List UInt8 := dkwX2_known_0 ++ dktX2_known_1
theorem dksX2_known_0 : cX2_known.data.toList.drop 0 = dktX2_known_0 := by decide +kernel
theorem dksX2_known_1 : cX2_known.data.toList.drop 23 = dktX2_known_1 := dk_seg dksX2_known_0 23 rfl rfl
theorem dX2_known_0 : decode cX2_known 0 = .ok (.iconst 0, 1) := dk_3 (dk_at dksX2_known_0 0 rfl rfl)
theorem dX2_known_1 : decode cX2_known 1 = .ok (.istore_n 2, 1) := dk_61 (dk_at dksX2_known_0 1 rfl rfl)
theorem dX2_known_2 : decode cX2_known 2 = .ok (.iconst 0, 1) := dk_3 (dk_at dksX2_known_0 2 rfl rfl)
theorem dX2_known_3 : decode cX2_known 3 = .ok (.istore_n 3, 1) := dk_62 (dk_at dksX2_known_0 3 rfl rfl)
theorem dX2_known_4 : decode cX2_known 4 = .ok (.iload_n 3, 1) := dk_29 (dk_at dksX2_known_0 4 rfl rfl)
theorem dX2_known_5 : decode cX2_known 5 = .ok (.bipush 25, 2) := dk_16 25 (dk_at dksX2_known_0 5 rfl rfl)
theorem dX2_known_7 : decode cX2_known 7 = .ok (.if_icmp .ge 28, 3) := dk_162 0 28 (dk_at dksX2_known_0 7 rfl rfl)
theorem dX2_known_10 : decode cX2_known 10 = .ok (.iload_n 2, 1) := dk_28 (dk_at dksX2_known_0 10 rfl rfl)
theorem dX2_known_11 : decode cX2_known 11 = .ok (.aload_n 0, 1) := dk_42 (dk_at dksX2_known_0 11 rfl rfl)
theorem dX2_known_12 : decode cX2_known 12 = .ok (.iload_n 1, 1) := dk_27 (dk_at dksX2_known_0 12 rfl rfl)
theorem dX2_known_13 : decode cX2_known 13 = .ok (.iload_n 3, 1) := dk_29 (dk_at dksX2_known_0 13 rfl rfl)
theorem dX2_known_14 : decode cX2_known 14 = .ok (.invokevirtual 118, 3) := dk_182 0 118 (dk_at dksX2_known_0 14 rfl rfl)
theorem dX2_known_17 : decode cX2_known 17 = .ok (.ifCond .le 9, 3) := dk_158 0 9 (dk_at dksX2_known_0 17 rfl rfl)
theorem dX2_known_20 : decode cX2_known 20 = .ok (.iconst 1, 1) := dk_4 (dk_at dksX2_known_0 20 rfl rfl)
theorem dX2_known_21 : decode cX2_known 21 = .ok (.iload_n 3, 1) := dk_29 (dk_at dksX2_known_0 21 rfl rfl)
theorem dX2_known_22 : decode cX2_known 22 = .ok (.ishl, 1) := dk_120 (dk_at dksX2_known_0 22 rfl rfl)
theorem dX2_known_23 : decode cX2_known 23 = .ok (.goto 4, 3) := dk_167 0 4 (dk_at dksX2_known_1 0 rfl rfl)
theorem dX2_known_26 : decode cX2_known 26 = .ok (.iconst 0, 1) := dk_3 (dk_at dksX2_known_1 3 rfl rfl)
theorem dX2_known_27 : decode cX2_known 27 = .ok (.ior, 1) := dk_128 (dk_at dksX2_known_1 4 rfl rfl)
theorem dX2_known_28 : decode cX2_known 28 = .ok (.istore_n 2, 1) := dk_61 (dk_at dksX2_known_1 5 rfl rfl)
theorem dX2_known_29 : decode cX2_known 29 = .ok (.iinc 3 1, 3) := dk_132 3 1 (dk_at dksX2_known_1 6 rfl rfl)
theorem dX2_known_32 : decode cX2_known 32 = .ok (.goto (-28), 3) := dk_167 255 228 (dk_at dksX2_known_1 9 rfl rfl)
theorem dX2_known_35 : decode cX2_known 35 = .ok (.iload_n 2, 1) := dk_28 (dk_at dksX2_known_1 12 rfl rfl)
theorem dX2_known_36 : decode cX2_known 36 = .ok (.ireturn, 1) := dk_172 (dk_at dksX2_known_1 13 rfl rfl)
theorem q66 : (Jvm.Cond.initialized "MeadowMilk$Meadow") ∈ lw_all := lw_g (lw_at lw_m1 6 rfl) rfl
theorem q175 : (Jvm.Cond.instantiable "MeadowMilk$Meadow" (16 : Nat)) ∈ lw_all := lw_g (lw_at lw_m1 115 rfl) rfl
theorem q177 : (Jvm.Cond.instanceMethod ({ cls := "MeadowMilk$Meadow", name := "<init>", desc := "()V" } : Jvm.MethodName)) ∈ lw_all := lw_g (lw_at lw_m1 117 rfl) rfl
theorem q178 : (Jvm.Cond.code ({ cls := "MeadowMilk$Meadow", name := "<init>", desc := "()V" } : Jvm.MethodName) prog_14_method_1_code (2 : Nat) (Option.none : Option Jvm.ClassFile.FieldType)) ∈ lw_all := lw_g (lw_at lw_m1 118 rfl) rfl
theorem q179 : (Jvm.Cond.methodLink "MeadowMilk$Meadow" (3 : Nat) ({ cls := "java/lang/Object", name := "<init>", desc := "()V" } : Jvm.MethodName)) ∈ lw_all := lw_g (lw_at lw_m1 119 rfl) rfl
theorem q180 : (Jvm.Cond.classLink "MeadowMilk$Meadow" (22 : Nat) "MeadowMilk$Cow") ∈ lw_all := lw_g (lw_at lw_m1 120 rfl) rfl
theorem q182 : (Jvm.Cond.classLink "MeadowMilk$Meadow" (37 : Nat) "MeadowMilk$Term") ∈ lw_all := lw_g (lw_at lw_m1 122 rfl) rfl
theorem q184 : (Jvm.Cond.classLink "MeadowMilk$Meadow" (53 : Nat) "MeadowMilk$Facts") ∈ lw_all := lw_g (lw_at lw_m1 124 rfl) rfl
theorem q186 : (Jvm.Cond.methodLinkNest "MeadowMilk$Meadow" (55 : Nat) ({ cls := "MeadowMilk$Facts", name := "<init>", desc := "()V" } : Jvm.MethodName) "MeadowMilk") ∈ lw_tbl := lw_at lw_m1 126 rfl
theorem q197 : (Jvm.Cond.fieldLink "MeadowMilk$Meadow" (9 : Nat) "MeadowMilk$Meadow" "mark" "[I") ∈ lw_all := lw_g (lw_at lw_m1 137 rfl) rfl
theorem q199 : (Jvm.Cond.fieldLink "MeadowMilk$Meadow" (15 : Nat) "MeadowMilk$Meadow" "grass" "[I") ∈ lw_all := lw_g (lw_at lw_m1 139 rfl) rfl
theorem q201 : (Jvm.Cond.fieldLink "MeadowMilk$Meadow" (18 : Nat) "MeadowMilk$Meadow" "grows" "I") ∈ lw_all := lw_g (lw_at lw_m1 141 rfl) rfl
theorem q203 : (Jvm.Cond.fieldLink "MeadowMilk$Meadow" (66 : Nat) "MeadowMilk$Meadow" "cows" "I") ∈ lw_all := lw_g (lw_at lw_m1 143 rfl) rfl
theorem q205 : (Jvm.Cond.fieldLink "MeadowMilk$Meadow" (24 : Nat) "MeadowMilk$Meadow" "cow" "[LMeadowMilk$Cow;") ∈ lw_all := lw_g (lw_at lw_m1 145 rfl) rfl
theorem q207 : (Jvm.Cond.fieldLink "MeadowMilk$Meadow" (28 : Nat) "MeadowMilk$Meadow" "at" "[I") ∈ lw_all := lw_g (lw_at lw_m1 147 rfl) rfl
theorem q209 : (Jvm.Cond.fieldLink "MeadowMilk$Meadow" (31 : Nat) "MeadowMilk$Meadow" "milk" "[I") ∈ lw_all := lw_g (lw_at lw_m1 149 rfl) rfl
theorem q210 : (Jvm.Cond.fieldLink "MeadowMilk$Meadow" (34 : Nat) "MeadowMilk$Meadow" "many" "[I") ∈ lw_all := lw_g (lw_at lw_m1 150 rfl) rfl
theorem q212 : (Jvm.Cond.fieldLink "MeadowMilk$Meadow" (69 : Nat) "MeadowMilk$Meadow" "day" "I") ∈ lw_all := lw_g (lw_at lw_m1 152 rfl) rfl
theorem q214 : (Jvm.Cond.fieldLink "MeadowMilk$Meadow" (39 : Nat) "MeadowMilk$Meadow" "text" "[LMeadowMilk$Term;") ∈ lw_all := lw_g (lw_at lw_m1 154 rfl) rfl
theorem q216 : (Jvm.Cond.fieldLink "MeadowMilk$Meadow" (43 : Nat) "MeadowMilk$Meadow" "z" "I") ∈ lw_all := lw_g (lw_at lw_m1 156 rfl) rfl
theorem q218 : (Jvm.Cond.fieldLink "MeadowMilk$Meadow" (46 : Nat) "MeadowMilk$Meadow" "tape" "[B") ∈ lw_all := lw_g (lw_at lw_m1 158 rfl) rfl
theorem q220 : (Jvm.Cond.fieldLink "MeadowMilk$Meadow" (72 : Nat) "MeadowMilk$Meadow" "taped" "I") ∈ lw_all := lw_g (lw_at lw_m1 160 rfl) rfl
theorem q222 : (Jvm.Cond.fieldLink "MeadowMilk$Meadow" (50 : Nat) "MeadowMilk$Meadow" "waiting" "[I") ∈ lw_all := lw_g (lw_at lw_m1 162 rfl) rfl
theorem q224 : (Jvm.Cond.fieldLink "MeadowMilk$Meadow" (75 : Nat) "MeadowMilk$Meadow" "waits" "I") ∈ lw_all := lw_g (lw_at lw_m1 164 rfl) rfl
theorem q226 : (Jvm.Cond.fieldLink "MeadowMilk$Meadow" (56 : Nat) "MeadowMilk$Meadow" "facts" "LMeadowMilk$Facts;") ∈ lw_all := lw_g (lw_at lw_m1 166 rfl) rfl
theorem q227 : (Jvm.Cond.laysFinal "MeadowMilk$Meadow" "MeadowMilk$Meadow" "mark" "[I") ∈ lw_all := lw_g (lw_at lw_m1 167 rfl) rfl
theorem q228 : (Jvm.Cond.soleField "MeadowMilk$Meadow" "mark") ∈ lw_all := lw_g (lw_at lw_m1 168 rfl) rfl
theorem q229 : (Jvm.Cond.laysFinal "MeadowMilk$Meadow" "MeadowMilk$Meadow" "grass" "[I") ∈ lw_all := lw_g (lw_at lw_m1 169 rfl) rfl
theorem q230 : (Jvm.Cond.soleField "MeadowMilk$Meadow" "grass") ∈ lw_all := lw_g (lw_at lw_m1 170 rfl) rfl
theorem q231 : (Jvm.Cond.lays "MeadowMilk$Meadow" "MeadowMilk$Meadow" "grows" "I") ∈ lw_all := lw_g (lw_at lw_m1 171 rfl) rfl
theorem q232 : (Jvm.Cond.soleField "MeadowMilk$Meadow" "grows") ∈ lw_all := lw_g (lw_at lw_m1 172 rfl) rfl
theorem q233 : (Jvm.Cond.lays "MeadowMilk$Meadow" "MeadowMilk$Meadow" "cows" "I") ∈ lw_all := lw_g (lw_at lw_m1 173 rfl) rfl
theorem q234 : (Jvm.Cond.soleField "MeadowMilk$Meadow" "cows") ∈ lw_all := lw_g (lw_at lw_m1 174 rfl) rfl
theorem q235 : (Jvm.Cond.laysFinal "MeadowMilk$Meadow" "MeadowMilk$Meadow" "cow" "[LMeadowMilk$Cow;") ∈ lw_all := lw_g (lw_at lw_m1 175 rfl) rfl
theorem q236 : (Jvm.Cond.soleField "MeadowMilk$Meadow" "cow") ∈ lw_all := lw_g (lw_at lw_m1 176 rfl) rfl
theorem q237 : (Jvm.Cond.laysFinal "MeadowMilk$Meadow" "MeadowMilk$Meadow" "at" "[I") ∈ lw_all := lw_g (lw_at lw_m1 177 rfl) rfl
theorem q238 : (Jvm.Cond.soleField "MeadowMilk$Meadow" "at") ∈ lw_all := lw_g (lw_at lw_m1 178 rfl) rfl
theorem q239 : (Jvm.Cond.laysFinal "MeadowMilk$Meadow" "MeadowMilk$Meadow" "milk" "[I") ∈ lw_all := lw_g (lw_at lw_m1 179 rfl) rfl
theorem q240 : (Jvm.Cond.soleField "MeadowMilk$Meadow" "milk") ∈ lw_all := lw_g (lw_at lw_m1 180 rfl) rfl
theorem q241 : (Jvm.Cond.laysFinal "MeadowMilk$Meadow" "MeadowMilk$Meadow" "many" "[I") ∈ lw_all := lw_g (lw_at lw_m1 181 rfl) rfl
theorem q242 : (Jvm.Cond.soleField "MeadowMilk$Meadow" "many") ∈ lw_all := lw_g (lw_at lw_m1 182 rfl) rfl
theorem q243 : (Jvm.Cond.lays "MeadowMilk$Meadow" "MeadowMilk$Meadow" "day" "I") ∈ lw_all := lw_g (lw_at lw_m1 183 rfl) rfl
theorem q244 : (Jvm.Cond.soleField "MeadowMilk$Meadow" "day") ∈ lw_all := lw_g (lw_at lw_m1 184 rfl) rfl
theorem q245 : (Jvm.Cond.laysFinal "MeadowMilk$Meadow" "MeadowMilk$Meadow" "text" "[LMeadowMilk$Term;") ∈ lw_all := lw_g (lw_at lw_m1 185 rfl) rfl
theorem q246 : (Jvm.Cond.soleField "MeadowMilk$Meadow" "text") ∈ lw_all := lw_g (lw_at lw_m1 186 rfl) rfl
theorem q247 : (Jvm.Cond.lays "MeadowMilk$Meadow" "MeadowMilk$Meadow" "z" "I") ∈ lw_all := lw_g (lw_at lw_m1 187 rfl) rfl
theorem q248 : (Jvm.Cond.soleField "MeadowMilk$Meadow" "z") ∈ lw_all := lw_g (lw_at lw_m1 188 rfl) rfl
theorem q249 : (Jvm.Cond.laysFinal "MeadowMilk$Meadow" "MeadowMilk$Meadow" "tape" "[B") ∈ lw_all := lw_g (lw_at lw_m1 189 rfl) rfl
theorem q250 : (Jvm.Cond.soleField "MeadowMilk$Meadow" "tape") ∈ lw_all := lw_g (lw_at lw_m1 190 rfl) rfl
theorem q251 : (Jvm.Cond.lays "MeadowMilk$Meadow" "MeadowMilk$Meadow" "taped" "I") ∈ lw_all := lw_g (lw_at lw_m1 191 rfl) rfl
theorem q252 : (Jvm.Cond.soleField "MeadowMilk$Meadow" "taped") ∈ lw_all := lw_g (lw_at lw_m1 192 rfl) rfl
theorem q253 : (Jvm.Cond.laysFinal "MeadowMilk$Meadow" "MeadowMilk$Meadow" "waiting" "[I") ∈ lw_all := lw_g (lw_at lw_m1 193 rfl) rfl
theorem q254 : (Jvm.Cond.soleField "MeadowMilk$Meadow" "waiting") ∈ lw_all := lw_g (lw_at lw_m1 194 rfl) rfl
theorem q255 : (Jvm.Cond.lays "MeadowMilk$Meadow" "MeadowMilk$Meadow" "waits" "I") ∈ lw_all := lw_g (lw_at lw_m1 195 rfl) rfl
theorem q256 : (Jvm.Cond.soleField "MeadowMilk$Meadow" "waits") ∈ lw_all := lw_g (lw_at lw_m1 196 rfl) rfl
theorem q257 : (Jvm.Cond.laysFinal "MeadowMilk$Meadow" "MeadowMilk$Meadow" "facts" "LMeadowMilk$Facts;") ∈ lw_all := lw_g (lw_at lw_m1 197 rfl) rfl
theorem q258 : (Jvm.Cond.soleField "MeadowMilk$Meadow" "facts") ∈ lw_all := lw_g (lw_at lw_m1 198 rfl) rfl
theorem q259 : (Jvm.Cond.superclass "MeadowMilk$Meadow" "java/lang/Object") ∈ lw_all := lw_g (lw_at lw_m1 199 rfl) rfl
theorem q351 : (Jvm.Cond.instanceMethod ({ cls := "MeadowMilk$Meadow", name := "draws", desc := "(I)I" } : Jvm.MethodName)) ∈ lw_all := lw_g (lw_at lw_m2 51 rfl) rfl
theorem q352 : (Jvm.Cond.selects "MeadowMilk$Meadow" ({ cls := "MeadowMilk$Meadow", name := "draws", desc := "(I)I" } : Jvm.MethodName) ({ cls := "MeadowMilk$Meadow", name := "draws", desc := "(I)I" } : Jvm.MethodName)) ∈ lw_all := lw_g (lw_at lw_m2 52 rfl) rfl
theorem q353 : (Jvm.Cond.code ({ cls := "MeadowMilk$Meadow", name := "draws", desc := "(I)I" } : Jvm.MethodName) prog_14_method_6_code (2 : Nat) (Option.some Jvm.ClassFile.FieldType.int)) ∈ lw_all := lw_g (lw_at lw_m2 53 rfl) rfl
theorem q354 : (Jvm.Cond.methodLink "MeadowMilk$Meadow" (99 : Nat) ({ cls := "MeadowMilk$Meadow", name := "drawnBy", desc := "(III)I" } : Jvm.MethodName)) ∈ lw_all := lw_g (lw_at lw_m2 54 rfl) rfl
theorem q355 : (Jvm.Cond.instanceMethod ({ cls := "MeadowMilk$Meadow", name := "drawnBy", desc := "(III)I" } : Jvm.MethodName)) ∈ lw_all := lw_g (lw_at lw_m2 55 rfl) rfl
theorem q356 : (Jvm.Cond.selects "MeadowMilk$Meadow" ({ cls := "MeadowMilk$Meadow", name := "drawnBy", desc := "(III)I" } : Jvm.MethodName) ({ cls := "MeadowMilk$Meadow", name := "drawnBy", desc := "(III)I" } : Jvm.MethodName)) ∈ lw_all := lw_g (lw_at lw_m2 56 rfl) rfl
theorem q357 : (Jvm.Cond.code ({ cls := "MeadowMilk$Meadow", name := "drawnBy", desc := "(III)I" } : Jvm.MethodName) prog_14_method_4_code (5 : Nat) (Option.some Jvm.ClassFile.FieldType.int)) ∈ lw_all := lw_g (lw_at lw_m2 57 rfl) rfl
theorem q358 : (Jvm.Cond.methodLink "MeadowMilk$Meadow" (87 : Nat) ({ cls := "MeadowMilk$Facts", name := "with", desc := "(CI)LMeadowMilk$Facts;" } : Jvm.MethodName)) ∈ lw_all := lw_g (lw_at lw_m2 58 rfl) rfl
theorem q362 : (Jvm.Cond.methodLink "MeadowMilk$Meadow" (91 : Nat) ({ cls := "MeadowMilk$Term", name := "value", desc := "(LMeadowMilk$Facts;)I" } : Jvm.MethodName)) ∈ lw_all := lw_g (lw_at lw_m2 62 rfl) rfl
theorem q382 : (Jvm.Cond.methodLink "MeadowMilk$Meadow" (95 : Nat) ({ cls := "MeadowMilk$Meadow", name := "held", desc := "(III)I" } : Jvm.MethodName)) ∈ lw_all := lw_g (lw_at lw_m2 82 rfl) rfl
theorem q383 : (Jvm.Cond.static ({ cls := "MeadowMilk$Meadow", name := "held", desc := "(III)I" } : Jvm.MethodName)) ∈ lw_all := lw_g (lw_at lw_m2 83 rfl) rfl
theorem q384 : (Jvm.Cond.code ({ cls := "MeadowMilk$Meadow", name := "held", desc := "(III)I" } : Jvm.MethodName) prog_14_method_3_code (3 : Nat) (Option.some Jvm.ClassFile.FieldType.int)) ∈ lw_all := lw_g (lw_at lw_m2 84 rfl) rfl
theorem q385 : (Jvm.Cond.methodLink "MeadowMilk$Meadow" (78 : Nat) ({ cls := "java/lang/Math", name := "min", desc := "(II)I" } : Jvm.MethodName)) ∈ lw_all := lw_g (lw_at lw_m2 85 rfl) rfl
theorem q388 : (Jvm.Cond.methodLink "MeadowMilk$Meadow" (84 : Nat) ({ cls := "java/lang/Math", name := "max", desc := "(II)I" } : Jvm.MethodName)) ∈ lw_all := lw_g (lw_at lw_m2 88 rfl) rfl
theorem q575 : (Jvm.Cond.instanceMethod ({ cls := "MeadowMilk$Meadow", name := "wayOf", desc := "(II)I" } : Jvm.MethodName)) ∈ lw_all := lw_g (lw_at lw_m3 35 rfl) rfl
theorem q576 : (Jvm.Cond.selects "MeadowMilk$Meadow" ({ cls := "MeadowMilk$Meadow", name := "wayOf", desc := "(II)I" } : Jvm.MethodName) ({ cls := "MeadowMilk$Meadow", name := "wayOf", desc := "(II)I" } : Jvm.MethodName)) ∈ lw_all := lw_g (lw_at lw_m3 36 rfl) rfl
theorem q577 : (Jvm.Cond.code ({ cls := "MeadowMilk$Meadow", name := "wayOf", desc := "(II)I" } : Jvm.MethodName) prog_14_method_13_code (9 : Nat) (Option.some Jvm.ClassFile.FieldType.int)) ∈ lw_all := lw_g (lw_at lw_m3 37 rfl) rfl
theorem q578 : (Jvm.Cond.methodLink "MeadowMilk$Meadow" (121 : Nat) ({ cls := "MeadowMilk$Meadow", name := "walked", desc := "(I)I" } : Jvm.MethodName)) ∈ lw_all := lw_g (lw_at lw_m3 38 rfl) rfl
theorem q579 : (Jvm.Cond.instanceMethod ({ cls := "MeadowMilk$Meadow", name := "walked", desc := "(I)I" } : Jvm.MethodName)) ∈ lw_all := lw_g (lw_at lw_m3 39 rfl) rfl
theorem q580 : (Jvm.Cond.selects "MeadowMilk$Meadow" ({ cls := "MeadowMilk$Meadow", name := "walked", desc := "(I)I" } : Jvm.MethodName) ({ cls := "MeadowMilk$Meadow", name := "walked", desc := "(I)I" } : Jvm.MethodName)) ∈ lw_all := lw_g (lw_at lw_m3 40 rfl) rfl
theorem q581 : (Jvm.Cond.code ({ cls := "MeadowMilk$Meadow", name := "walked", desc := "(I)I" } : Jvm.MethodName) prog_14_method_9_code (4 : Nat) (Option.some Jvm.ClassFile.FieldType.int)) ∈ lw_all := lw_g (lw_at lw_m3 41 rfl) rfl
theorem q582 : (Jvm.Cond.methodLink "MeadowMilk$Meadow" (102 : Nat) ({ cls := "MeadowMilk$Meadow", name := "milkAt", desc := "(II)I" } : Jvm.MethodName)) ∈ lw_all := lw_g (lw_at lw_m3 42 rfl) rfl
theorem q583 : (Jvm.Cond.instanceMethod ({ cls := "MeadowMilk$Meadow", name := "milkAt", desc := "(II)I" } : Jvm.MethodName)) ∈ lw_all := lw_g (lw_at lw_m3 43 rfl) rfl
theorem q584 : (Jvm.Cond.selects "MeadowMilk$Meadow" ({ cls := "MeadowMilk$Meadow", name := "milkAt", desc := "(II)I" } : Jvm.MethodName) ({ cls := "MeadowMilk$Meadow", name := "milkAt", desc := "(II)I" } : Jvm.MethodName)) ∈ lw_all := lw_g (lw_at lw_m3 44 rfl) rfl
theorem q585 : (Jvm.Cond.code ({ cls := "MeadowMilk$Meadow", name := "milkAt", desc := "(II)I" } : Jvm.MethodName) prog_14_method_8_code (3 : Nat) (Option.some Jvm.ClassFile.FieldType.int)) ∈ lw_all := lw_g (lw_at lw_m3 45 rfl) rfl
theorem q586 : (Jvm.Cond.methodLink "MeadowMilk$Meadow" (124 : Nat) ({ cls := "MeadowMilk$Meadow", name := "next", desc := "(II)I" } : Jvm.MethodName)) ∈ lw_all := lw_g (lw_at lw_m3 46 rfl) rfl
theorem q587 : (Jvm.Cond.static ({ cls := "MeadowMilk$Meadow", name := "next", desc := "(II)I" } : Jvm.MethodName)) ∈ lw_all := lw_g (lw_at lw_m3 47 rfl) rfl
theorem q588 : (Jvm.Cond.code ({ cls := "MeadowMilk$Meadow", name := "next", desc := "(II)I" } : Jvm.MethodName) prog_14_method_7_code (2 : Nat) (Option.some Jvm.ClassFile.FieldType.int)) ∈ lw_all := lw_g (lw_at lw_m3 48 rfl) rfl
theorem q589 : (Jvm.Cond.methodLink "MeadowMilk$Meadow" (127 : Nat) ({ cls := "MeadowMilk$Meadow", name := "draws", desc := "(I)I" } : Jvm.MethodName)) ∈ lw_all := lw_g (lw_at lw_m3 49 rfl) rfl
theorem q590 : (Jvm.Cond.methodLinkNest "MeadowMilk$Meadow" (111 : Nat) ({ cls := "MeadowMilk", name := "hasBit", desc := "(II)Z" } : Jvm.MethodName) "MeadowMilk") ∈ lw_tbl := lw_at lw_m3 50 rfl
theorem q593 : (Jvm.Cond.methodLink "MeadowMilk$Meadow" (130 : Nat) ({ cls := "MeadowMilk$Cow", name := "wanted", desc := "(IIZZ)I" } : Jvm.MethodName)) ∈ lw_all := lw_g (lw_at lw_m3 53 rfl) rfl
theorem q913 : (Jvm.Cond.instanceMethod ({ cls := "MeadowMilk$Meadow", name := "tasteBy", desc := "(III)I" } : Jvm.MethodName)) ∈ lw_all := lw_g (lw_at lw_m4 133 rfl) rfl
theorem q914 : (Jvm.Cond.selects "MeadowMilk$Meadow" ({ cls := "MeadowMilk$Meadow", name := "tasteBy", desc := "(III)I" } : Jvm.MethodName) ({ cls := "MeadowMilk$Meadow", name := "tasteBy", desc := "(III)I" } : Jvm.MethodName)) ∈ lw_all := lw_g (lw_at lw_m4 134 rfl) rfl
theorem q915 : (Jvm.Cond.code ({ cls := "MeadowMilk$Meadow", name := "tasteBy", desc := "(III)I" } : Jvm.MethodName) prog_14_method_5_code (5 : Nat) (Option.some Jvm.ClassFile.FieldType.int)) ∈ lw_all := lw_g (lw_at lw_m4 135 rfl) rfl
theorem q921 : (Jvm.Cond.instanceMethod ({ cls := "MeadowMilk$Meadow", name := "goes", desc := "(I)V" } : Jvm.MethodName)) ∈ lw_all := lw_g (lw_at lw_m4 141 rfl) rfl
theorem q922 : (Jvm.Cond.selects "MeadowMilk$Meadow" ({ cls := "MeadowMilk$Meadow", name := "goes", desc := "(I)V" } : Jvm.MethodName) ({ cls := "MeadowMilk$Meadow", name := "goes", desc := "(I)V" } : Jvm.MethodName)) ∈ lw_all := lw_g (lw_at lw_m4 142 rfl) rfl
theorem q923 : (Jvm.Cond.code ({ cls := "MeadowMilk$Meadow", name := "goes", desc := "(I)V" } : Jvm.MethodName) prog_14_method_16_code (3 : Nat) (Option.none : Option Jvm.ClassFile.FieldType)) ∈ lw_all := lw_g (lw_at lw_m4 143 rfl) rfl
theorem q924 : (Jvm.Cond.methodLink "MeadowMilk$Meadow" (148 : Nat) ({ cls := "MeadowMilk$Meadow", name := "passes", desc := "()V" } : Jvm.MethodName)) ∈ lw_all := lw_g (lw_at lw_m4 144 rfl) rfl
theorem q925 : (Jvm.Cond.instanceMethod ({ cls := "MeadowMilk$Meadow", name := "passes", desc := "()V" } : Jvm.MethodName)) ∈ lw_all := lw_g (lw_at lw_m4 145 rfl) rfl
theorem q926 : (Jvm.Cond.selects "MeadowMilk$Meadow" ({ cls := "MeadowMilk$Meadow", name := "passes", desc := "()V" } : Jvm.MethodName) ({ cls := "MeadowMilk$Meadow", name := "passes", desc := "()V" } : Jvm.MethodName)) ∈ lw_all := lw_g (lw_at lw_m4 146 rfl) rfl
theorem q927 : (Jvm.Cond.code ({ cls := "MeadowMilk$Meadow", name := "passes", desc := "()V" } : Jvm.MethodName) prog_14_method_15_code (2 : Nat) (Option.none : Option Jvm.ClassFile.FieldType)) ∈ lw_all := lw_g (lw_at lw_m4 147 rfl) rfl
theorem q928 : (Jvm.Cond.methodLink "MeadowMilk$Meadow" (138 : Nat) ({ cls := "MeadowMilk$Meadow", name := "wayOf", desc := "(II)I" } : Jvm.MethodName)) ∈ lw_all := lw_g (lw_at lw_m4 148 rfl) rfl
theorem q929 : (Jvm.Cond.methodLink "MeadowMilk$Meadow" (141 : Nat) ({ cls := "MeadowMilk$Cow", name := "eaten", desc := "()I" } : Jvm.MethodName)) ∈ lw_all := lw_g (lw_at lw_m4 149 rfl) rfl
theorem q930 : (Jvm.Cond.methodLink "MeadowMilk$Meadow" (144 : Nat) ({ cls := "MeadowMilk$Meadow", name := "remembers", desc := "(II)V" } : Jvm.MethodName)) ∈ lw_all := lw_g (lw_at lw_m4 150 rfl) rfl
theorem q931 : (Jvm.Cond.privateMethod ({ cls := "MeadowMilk$Meadow", name := "remembers", desc := "(II)V" } : Jvm.MethodName)) ∈ lw_tbl := lw_at lw_m4 151 rfl
theorem q932 : (Jvm.Cond.instanceMethod ({ cls := "MeadowMilk$Meadow", name := "remembers", desc := "(II)V" } : Jvm.MethodName)) ∈ lw_all := lw_g (lw_at lw_m4 152 rfl) rfl
theorem q933 : (Jvm.Cond.code ({ cls := "MeadowMilk$Meadow", name := "remembers", desc := "(II)V" } : Jvm.MethodName) prog_14_method_14_code (5 : Nat) (Option.none : Option Jvm.ClassFile.FieldType)) ∈ lw_all := lw_g (lw_at lw_m4 153 rfl) rfl
theorem q934 : (Jvm.Cond.methodLink "MeadowMilk$Meadow" (134 : Nat) ({ cls := "MeadowMilk$Cow", name := "span", desc := "()I" } : Jvm.MethodName)) ∈ lw_all := lw_g (lw_at lw_m4 154 rfl) rfl
theorem q936 : (Jvm.Cond.instanceMethod ({ cls := "MeadowMilk$Meadow", name := "allGrass", desc := "()I" } : Jvm.MethodName)) ∈ lw_all := lw_g (lw_at lw_m4 156 rfl) rfl
theorem q937 : (Jvm.Cond.selects "MeadowMilk$Meadow" ({ cls := "MeadowMilk$Meadow", name := "allGrass", desc := "()I" } : Jvm.MethodName) ({ cls := "MeadowMilk$Meadow", name := "allGrass", desc := "()I" } : Jvm.MethodName)) ∈ lw_all := lw_g (lw_at lw_m4 157 rfl) rfl
theorem q938 : (Jvm.Cond.code ({ cls := "MeadowMilk$Meadow", name := "allGrass", desc := "()I" } : Jvm.MethodName) prog_14_method_12_code (3 : Nat) (Option.some Jvm.ClassFile.FieldType.int)) ∈ lw_all := lw_g (lw_at lw_m4 158 rfl) rfl
theorem q944 : (Jvm.Cond.instanceMethod ({ cls := "MeadowMilk$Meadow", name := "goesLoose", desc := "()V" } : Jvm.MethodName)) ∈ lw_all := lw_g (lw_at lw_m4 164 rfl) rfl
theorem q945 : (Jvm.Cond.selects "MeadowMilk$Meadow" ({ cls := "MeadowMilk$Meadow", name := "goesLoose", desc := "()V" } : Jvm.MethodName) ({ cls := "MeadowMilk$Meadow", name := "goesLoose", desc := "()V" } : Jvm.MethodName)) ∈ lw_all := lw_g (lw_at lw_m4 165 rfl) rfl
theorem q946 : (Jvm.Cond.code ({ cls := "MeadowMilk$Meadow", name := "goesLoose", desc := "()V" } : Jvm.MethodName) prog_14_method_18_code (2 : Nat) (Option.none : Option Jvm.ClassFile.FieldType)) ∈ lw_all := lw_g (lw_at lw_m4 166 rfl) rfl
theorem q947 : (Jvm.Cond.methodLink "MeadowMilk$Meadow" (152 : Nat) ({ cls := "MeadowMilk$Meadow", name := "draw", desc := "()I" } : Jvm.MethodName)) ∈ lw_all := lw_g (lw_at lw_m4 167 rfl) rfl
theorem q948 : (Jvm.Cond.instanceMethod ({ cls := "MeadowMilk$Meadow", name := "draw", desc := "()I" } : Jvm.MethodName)) ∈ lw_all := lw_g (lw_at lw_m4 168 rfl) rfl
theorem q949 : (Jvm.Cond.selects "MeadowMilk$Meadow" ({ cls := "MeadowMilk$Meadow", name := "draw", desc := "()I" } : Jvm.MethodName) ({ cls := "MeadowMilk$Meadow", name := "draw", desc := "()I" } : Jvm.MethodName)) ∈ lw_all := lw_g (lw_at lw_m4 169 rfl) rfl
theorem q950 : (Jvm.Cond.code ({ cls := "MeadowMilk$Meadow", name := "draw", desc := "()I" } : Jvm.MethodName) prog_14_method_17_code (1 : Nat) (Option.some Jvm.ClassFile.FieldType.int)) ∈ lw_all := lw_g (lw_at lw_m4 170 rfl) rfl
theorem q951 : (Jvm.Cond.constant "MeadowMilk$Meadow" (151 : Nat) (1103515245 : Int32)) ∈ lw_all := lw_g (lw_at lw_m4 171 rfl) rfl
theorem q961 : (Jvm.Cond.instanceMethod ({ cls := "MeadowMilk$Meadow", name := "taste", desc := "(II)I" } : Jvm.MethodName)) ∈ lw_all := lw_g (lw_at lw_m4 181 rfl) rfl
theorem q962 : (Jvm.Cond.selects "MeadowMilk$Meadow" ({ cls := "MeadowMilk$Meadow", name := "taste", desc := "(II)I" } : Jvm.MethodName) ({ cls := "MeadowMilk$Meadow", name := "taste", desc := "(II)I" } : Jvm.MethodName)) ∈ lw_all := lw_g (lw_at lw_m4 182 rfl) rfl
theorem q963 : (Jvm.Cond.code ({ cls := "MeadowMilk$Meadow", name := "taste", desc := "(II)I" } : Jvm.MethodName) prog_14_method_10_code (7 : Nat) (Option.some Jvm.ClassFile.FieldType.int)) ∈ lw_all := lw_g (lw_at lw_m4 183 rfl) rfl
theorem q964 : (Jvm.Cond.methodLink "MeadowMilk$Meadow" (105 : Nat) ({ cls := "java/lang/Integer", name := "bitCount", desc := "(I)I" } : Jvm.MethodName)) ∈ lw_all := lw_g (lw_at lw_m4 184 rfl) rfl
theorem q970 : (Jvm.Cond.methodLink "MeadowMilk$Meadow" (115 : Nat) ({ cls := "MeadowMilk$Meadow", name := "tasteBy", desc := "(III)I" } : Jvm.MethodName)) ∈ lw_all := lw_g (lw_at lw_m4 190 rfl) rfl
theorem q976 : (Jvm.Cond.instanceMethod ({ cls := "MeadowMilk$Meadow", name := "become", desc := "(LMeadowMilk$Meadow;)LMeadowMilk$Meadow;" } : Jvm.MethodName)) ∈ lw_all := lw_g (lw_at lw_m4 196 rfl) rfl
theorem q977 : (Jvm.Cond.selects "MeadowMilk$Meadow" ({ cls := "MeadowMilk$Meadow", name := "become", desc := "(LMeadowMilk$Meadow;)LMeadowMilk$Meadow;" } : Jvm.MethodName) ({ cls := "MeadowMilk$Meadow", name := "become", desc := "(LMeadowMilk$Meadow;)LMeadowMilk$Meadow;" } : Jvm.MethodName)) ∈ lw_all := lw_g (lw_at lw_m4 197 rfl) rfl
theorem q978 : (Jvm.Cond.code ({ cls := "MeadowMilk$Meadow", name := "become", desc := "(LMeadowMilk$Meadow;)LMeadowMilk$Meadow;" } : Jvm.MethodName) prog_14_method_2_code (2 : Nat) (Option.some (Jvm.ClassFile.FieldType.object "MeadowMilk$Meadow"))) ∈ lw_all := lw_g (lw_at lw_m4 198 rfl) rfl
theorem q979 : (Jvm.Cond.methodLink "MeadowMilk$Meadow" (60 : Nat) ({ cls := "java/lang/System", name := "arraycopy", desc := "(Ljava/lang/Object;ILjava/lang/Object;II)V" } : Jvm.MethodName)) ∈ lw_all := lw_g (lw_at lw_m4 199 rfl) rfl
theorem q983 : (Jvm.Cond.instanceMethod ({ cls := "MeadowMilk$Meadow", name := "known", desc := "(I)I" } : Jvm.MethodName)) ∈ lw_all := lw_g (lw_at lw_m4 203 rfl) rfl
theorem q984 : (Jvm.Cond.selects "MeadowMilk$Meadow" ({ cls := "MeadowMilk$Meadow", name := "known", desc := "(I)I" } : Jvm.MethodName) ({ cls := "MeadowMilk$Meadow", name := "known", desc := "(I)I" } : Jvm.MethodName)) ∈ lw_all := lw_g (lw_at lw_m4 204 rfl) rfl
theorem q985 : (Jvm.Cond.code ({ cls := "MeadowMilk$Meadow", name := "known", desc := "(I)I" } : Jvm.MethodName) prog_14_method_11_code (4 : Nat) (Option.some Jvm.ClassFile.FieldType.int)) ∈ lw_all := lw_g (lw_at lw_m4 205 rfl) rfl
theorem q986 : (Jvm.Cond.methodLink "MeadowMilk$Meadow" (118 : Nat) ({ cls := "MeadowMilk$Meadow", name := "taste", desc := "(II)I" } : Jvm.MethodName)) ∈ lw_all := lw_g (lw_at lw_m4 206 rfl) rfl
theorem in_X2 : ∀ w ∈ wsX20, w ∈ lw_all := lw_in wsX20 [227, 229, 231, 233, 235, 237, 239, 241, 243, 245, 247, 249, 251, 253, 255, 257] (by decide +kernel) (by decide +kernel)
/-! MeadowMilk -/
set_option maxRecDepth 100000
def RX0 : String := "MeadowMilk"
def TX0 : u_T := fun k => match k with
  | 0 => ("MeadowMilk", "finding", "LMeadowMilk$Finding;", true)
  | 1 => ("MeadowMilk", "meadow", "LMeadowMilk$Meadow;", true)
  | 2 => ("MeadowMilk", "image", "LMeadowMilk$Meadow;", true)
  | 3 => ("MeadowMilk", "tried", "LMeadowMilk$Meadow;", true)
  | 4 => ("MeadowMilk", "images", "I", false)
  | 5 => ("MeadowMilk", "trace", "LMeadowMilk$Trace;", true)
  | 6 => ("MeadowMilk", "errors", "[I", true)
  | 7 => ("MeadowMilk", "sheets", "[LMeadowMilk$Shelf;", true)
  | 8 => ("MeadowMilk", "walks", "[I", true)
  | 9 => ("MeadowMilk", "behind", "[I", true)
  | 10 => ("MeadowMilk", "hays", "[I", true)
  | _ => ("MeadowMilk", "haysThen", "[I", true)
def tyX0 : Nat → FieldType := fun k => match k with
  | 0 => .object "MeadowMilk$Finding"
  | 1 => .object "MeadowMilk$Meadow"
  | 2 => .object "MeadowMilk$Meadow"
  | 3 => .object "MeadowMilk$Meadow"
  | 4 => .int
  | 5 => .object "MeadowMilk$Trace"
  | 6 => .array .int
  | 7 => .array (.object "MeadowMilk$Shelf")
  | 8 => .array .int
  | 9 => .array .int
  | 10 => .array .int
  | _ => .array .int
abbrev wsX00 : List Cond := u_ws RX0 TX0 12
theorem nmX0 : ∀ a, a < 12 → ∀ b, b < 12 → a ≠ b → (TX0 a).2.1 ≠ (TX0 b).2.1 := by decide +kernel
theorem tyX0_ok : ∀ k, k < 12 → parseFieldDescriptor (TX0 k).2.2.1 = some (tyX0 k) := by decide +kernel
abbrev cX0_init : ByteArray := prog_1_method_5_code
def yX0_init : MethodName := ⟨RX0, "<init>", "()V"⟩
def dkwX0_init_5 : List UInt8 := [180, 0, 69, 27, 187, 0, 67, 89, 183, 0, 85, 83, 132, 1, 1, 167, 255, 235, 177]
abbrev dktX0_init_5 : List UInt8 := dkwX0_init_5 ++ []
def dkwX0_init_4 : List UInt8 := [16, 25, 188, 10, 181, 0, 79, 42, 16, 25, 188, 10, 181, 0, 82, 3, 60, 27, 7, 162, 0, 22, 42]
abbrev dktX0_init_4 : List UInt8 := dkwX0_init_4 ++ dktX0_init_5
def dkwX0_init_3 : List UInt8 := [189, 0, 67, 181, 0, 69, 42, 16, 25, 188, 10, 181, 0, 73, 42, 16, 25, 188, 10, 181, 0, 76, 42]
abbrev dktX0_init_3 : List UInt8 := dkwX0_init_3 ++ dktX0_init_4
def dkwX0_init_2 : List UInt8 := [181, 0, 53, 42, 187, 0, 56, 89, 183, 0, 58, 181, 0, 59, 42, 16, 6, 188, 10, 181, 0, 63, 42, 7]
abbrev dktX0_init_2 : List UInt8 := dkwX0_init_2 ++ dktX0_init_3
def dkwX0_init_1 : List UInt8 := [181, 0, 46, 42, 187, 0, 43, 89, 183, 0, 45, 181, 0, 50, 42, 187, 0, 43, 89, 183, 0, 45]
abbrev dktX0_init_1 : List UInt8 := dkwX0_init_1 ++ dktX0_init_2
def dkwX0_init_0 : List UInt8 := [42, 183, 0, 37, 42, 187, 0, 8, 89, 183, 0, 42, 181, 0, 1, 42, 187, 0, 43, 89, 183, 0, 45]
abbrev dktX0_init_0 : List UInt8 := dkwX0_init_0 ++ dktX0_init_1
theorem dksX0_init_0 : cX0_init.data.toList.drop 0 = dktX0_init_0 := by decide +kernel
theorem dksX0_init_1 : cX0_init.data.toList.drop 23 = dktX0_init_1 := dk_seg dksX0_init_0 23 rfl rfl
theorem dksX0_init_2 : cX0_init.data.toList.drop 45 = dktX0_init_2 := dk_seg dksX0_init_1 22 rfl rfl
theorem dksX0_init_3 : cX0_init.data.toList.drop 69 = dktX0_init_3 := dk_seg dksX0_init_2 24 rfl rfl
theorem dksX0_init_4 : cX0_init.data.toList.drop 92 = dktX0_init_4 := dk_seg dksX0_init_3 23 rfl rfl
theorem dksX0_init_5 : cX0_init.data.toList.drop 115 = dktX0_init_5 := dk_seg dksX0_init_4 23 rfl rfl
theorem dX0_init_0 : decode cX0_init 0 = .ok (.aload_n 0, 1) := dk_42 (dk_at dksX0_init_0 0 rfl rfl)
theorem dX0_init_1 : decode cX0_init 1 = .ok (.invokespecial 37, 3) := dk_183 0 37 (dk_at dksX0_init_0 1 rfl rfl)
theorem dX0_init_4 : decode cX0_init 4 = .ok (.aload_n 0, 1) := dk_42 (dk_at dksX0_init_0 4 rfl rfl)
theorem dX0_init_5 : decode cX0_init 5 = .ok (.new 8, 3) := dk_187 0 8 (dk_at dksX0_init_0 5 rfl rfl)
theorem dX0_init_8 : decode cX0_init 8 = .ok (.dup, 1) := dk_89 (dk_at dksX0_init_0 8 rfl rfl)
theorem dX0_init_9 : decode cX0_init 9 = .ok (.invokespecial 42, 3) := dk_183 0 42 (dk_at dksX0_init_0 9 rfl rfl)
theorem dX0_init_12 : decode cX0_init 12 = .ok (.putfield 1, 3) := dk_181 0 1 (dk_at dksX0_init_0 12 rfl rfl)
theorem dX0_init_15 : decode cX0_init 15 = .ok (.aload_n 0, 1) := dk_42 (dk_at dksX0_init_0 15 rfl rfl)
theorem dX0_init_16 : decode cX0_init 16 = .ok (.new 43, 3) := dk_187 0 43 (dk_at dksX0_init_0 16 rfl rfl)
theorem dX0_init_19 : decode cX0_init 19 = .ok (.dup, 1) := dk_89 (dk_at dksX0_init_0 19 rfl rfl)
theorem dX0_init_20 : decode cX0_init 20 = .ok (.invokespecial 45, 3) := dk_183 0 45 (dk_at dksX0_init_0 20 rfl rfl)
theorem dX0_init_23 : decode cX0_init 23 = .ok (.putfield 46, 3) := dk_181 0 46 (dk_at dksX0_init_1 0 rfl rfl)
theorem dX0_init_26 : decode cX0_init 26 = .ok (.aload_n 0, 1) := dk_42 (dk_at dksX0_init_1 3 rfl rfl)
theorem dX0_init_27 : decode cX0_init 27 = .ok (.new 43, 3) := dk_187 0 43 (dk_at dksX0_init_1 4 rfl rfl)
theorem dX0_init_30 : decode cX0_init 30 = .ok (.dup, 1) := dk_89 (dk_at dksX0_init_1 7 rfl rfl)
theorem dX0_init_31 : decode cX0_init 31 = .ok (.invokespecial 45, 3) := dk_183 0 45 (dk_at dksX0_init_1 8 rfl rfl)
theorem dX0_init_34 : decode cX0_init 34 = .ok (.putfield 50, 3) := dk_181 0 50 (dk_at dksX0_init_1 11 rfl rfl)
theorem dX0_init_37 : decode cX0_init 37 = .ok (.aload_n 0, 1) := dk_42 (dk_at dksX0_init_1 14 rfl rfl)
theorem dX0_init_38 : decode cX0_init 38 = .ok (.new 43, 3) := dk_187 0 43 (dk_at dksX0_init_1 15 rfl rfl)
theorem dX0_init_41 : decode cX0_init 41 = .ok (.dup, 1) := dk_89 (dk_at dksX0_init_1 18 rfl rfl)
theorem dX0_init_42 : decode cX0_init 42 = .ok (.invokespecial 45, 3) := dk_183 0 45 (dk_at dksX0_init_1 19 rfl rfl)
theorem dX0_init_45 : decode cX0_init 45 = .ok (.putfield 53, 3) := dk_181 0 53 (dk_at dksX0_init_2 0 rfl rfl)
theorem dX0_init_48 : decode cX0_init 48 = .ok (.aload_n 0, 1) := dk_42 (dk_at dksX0_init_2 3 rfl rfl)
theorem dX0_init_49 : decode cX0_init 49 = .ok (.new 56, 3) := dk_187 0 56 (dk_at dksX0_init_2 4 rfl rfl)
theorem dX0_init_52 : decode cX0_init 52 = .ok (.dup, 1) := dk_89 (dk_at dksX0_init_2 7 rfl rfl)
theorem dX0_init_53 : decode cX0_init 53 = .ok (.invokespecial 58, 3) := dk_183 0 58 (dk_at dksX0_init_2 8 rfl rfl)
theorem dX0_init_56 : decode cX0_init 56 = .ok (.putfield 59, 3) := dk_181 0 59 (dk_at dksX0_init_2 11 rfl rfl)
theorem dX0_init_59 : decode cX0_init 59 = .ok (.aload_n 0, 1) := dk_42 (dk_at dksX0_init_2 14 rfl rfl)
theorem dX0_init_60 : decode cX0_init 60 = .ok (.bipush 6, 2) := dk_16 6 (dk_at dksX0_init_2 15 rfl rfl)
theorem dX0_init_62 : decode cX0_init 62 = .ok (.newarray .int, 2) := dk_188_10 (dk_at dksX0_init_2 17 rfl rfl)
theorem dX0_init_64 : decode cX0_init 64 = .ok (.putfield 63, 3) := dk_181 0 63 (dk_at dksX0_init_2 19 rfl rfl)
theorem dX0_init_67 : decode cX0_init 67 = .ok (.aload_n 0, 1) := dk_42 (dk_at dksX0_init_2 22 rfl rfl)
theorem dX0_init_68 : decode cX0_init 68 = .ok (.iconst 4, 1) := dk_7 (dk_at dksX0_init_2 23 rfl rfl)
theorem dX0_init_69 : decode cX0_init 69 = .ok (.anewarray 67, 3) := dk_189 0 67 (dk_at dksX0_init_3 0 rfl rfl)
theorem dX0_init_72 : decode cX0_init 72 = .ok (.putfield 69, 3) := dk_181 0 69 (dk_at dksX0_init_3 3 rfl rfl)
theorem dX0_init_75 : decode cX0_init 75 = .ok (.aload_n 0, 1) := dk_42 (dk_at dksX0_init_3 6 rfl rfl)
theorem dX0_init_76 : decode cX0_init 76 = .ok (.bipush 25, 2) := dk_16 25 (dk_at dksX0_init_3 7 rfl rfl)
theorem dX0_init_78 : decode cX0_init 78 = .ok (.newarray .int, 2) := dk_188_10 (dk_at dksX0_init_3 9 rfl rfl)
theorem dX0_init_80 : decode cX0_init 80 = .ok (.putfield 73, 3) := dk_181 0 73 (dk_at dksX0_init_3 11 rfl rfl)
theorem dX0_init_83 : decode cX0_init 83 = .ok (.aload_n 0, 1) := dk_42 (dk_at dksX0_init_3 14 rfl rfl)
theorem dX0_init_84 : decode cX0_init 84 = .ok (.bipush 25, 2) := dk_16 25 (dk_at dksX0_init_3 15 rfl rfl)
theorem dX0_init_86 : decode cX0_init 86 = .ok (.newarray .int, 2) := dk_188_10 (dk_at dksX0_init_3 17 rfl rfl)
theorem dX0_init_88 : decode cX0_init 88 = .ok (.putfield 76, 3) := dk_181 0 76 (dk_at dksX0_init_3 19 rfl rfl)
theorem dX0_init_91 : decode cX0_init 91 = .ok (.aload_n 0, 1) := dk_42 (dk_at dksX0_init_3 22 rfl rfl)
theorem dX0_init_92 : decode cX0_init 92 = .ok (.bipush 25, 2) := dk_16 25 (dk_at dksX0_init_4 0 rfl rfl)
theorem dX0_init_94 : decode cX0_init 94 = .ok (.newarray .int, 2) := dk_188_10 (dk_at dksX0_init_4 2 rfl rfl)
theorem dX0_init_96 : decode cX0_init 96 = .ok (.putfield 79, 3) := dk_181 0 79 (dk_at dksX0_init_4 4 rfl rfl)
theorem dX0_init_99 : decode cX0_init 99 = .ok (.aload_n 0, 1) := dk_42 (dk_at dksX0_init_4 7 rfl rfl)
theorem dX0_init_100 : decode cX0_init 100 = .ok (.bipush 25, 2) := dk_16 25 (dk_at dksX0_init_4 8 rfl rfl)
theorem dX0_init_102 : decode cX0_init 102 = .ok (.newarray .int, 2) := dk_188_10 (dk_at dksX0_init_4 10 rfl rfl)
theorem dX0_init_104 : decode cX0_init 104 = .ok (.putfield 82, 3) := dk_181 0 82 (dk_at dksX0_init_4 12 rfl rfl)
theorem dX0_init_107 : decode cX0_init 107 = .ok (.iconst 0, 1) := dk_3 (dk_at dksX0_init_4 15 rfl rfl)
theorem dX0_init_108 : decode cX0_init 108 = .ok (.istore_n 1, 1) := dk_60 (dk_at dksX0_init_4 16 rfl rfl)
theorem dX0_init_109 : decode cX0_init 109 = .ok (.iload_n 1, 1) := dk_27 (dk_at dksX0_init_4 17 rfl rfl)
theorem dX0_init_110 : decode cX0_init 110 = .ok (.iconst 4, 1) := dk_7 (dk_at dksX0_init_4 18 rfl rfl)
theorem dX0_init_111 : decode cX0_init 111 = .ok (.if_icmp .ge 22, 3) := dk_162 0 22 (dk_at dksX0_init_4 19 rfl rfl)
theorem dX0_init_114 : decode cX0_init 114 = .ok (.aload_n 0, 1) := dk_42 (dk_at dksX0_init_4 22 rfl rfl)
theorem dX0_init_115 : decode cX0_init 115 = .ok (.getfield 69, 3) := dk_180 0 69 (dk_at dksX0_init_5 0 rfl rfl)
theorem dX0_init_118 : decode cX0_init 118 = .ok (.iload_n 1, 1) := dk_27 (dk_at dksX0_init_5 3 rfl rfl)
theorem dX0_init_119 : decode cX0_init 119 = .ok (.new 67, 3) := dk_187 0 67 (dk_at dksX0_init_5 4 rfl rfl)
theorem dX0_init_122 : decode cX0_init 122 = .ok (.dup, 1) := dk_89 (dk_at dksX0_init_5 7 rfl rfl)
theorem dX0_init_123 : decode cX0_init 123 = .ok (.invokespecial 85, 3) := dk_183 0 85 (dk_at dksX0_init_5 8 rfl rfl)
theorem dX0_init_126 : decode cX0_init 126 = .ok (.aastore, 1) := dk_83 (dk_at dksX0_init_5 11 rfl rfl)
theorem dX0_init_127 : decode cX0_init 127 = .ok (.iinc 1 1, 3) := dk_132 1 1 (dk_at dksX0_init_5 12 rfl rfl)
theorem dX0_init_130 : decode cX0_init 130 = .ok (.goto (-21), 3) := dk_167 255 235 (dk_at dksX0_init_5 15 rfl rfl)
theorem dX0_init_133 : decode cX0_init 133 = .ok (.return_, 1) := dk_177 (dk_at dksX0_init_5 18 rfl rfl)
abbrev cX0_cell : ByteArray := prog_1_method_15_code
def yX0_cell : MethodName := ⟨RX0, "cell", "(III)I"⟩
def dkwX0_cell_3 : List UInt8 := [27, 46, 54, 5, 25, 4, 27, 29, 79, 21, 5, 172, 58, 4, 42, 25, 4, 182, 0, 118, 172]
abbrev dktX0_cell_3 : List UInt8 := dkwX0_cell_3 ++ []
def dkwX0_cell_2 : List UInt8 := [154, 0, 13, 42, 180, 0, 46, 180, 0, 112, 167, 0, 10, 42, 180, 0, 46, 180, 0, 115, 58, 4, 25, 4]
abbrev dktX0_cell_2 : List UInt8 := dkwX0_cell_2 ++ dktX0_cell_3
def dkwX0_cell_1 : List UInt8 := [16, 9, 167, 0, 5, 16, 99, 184, 0, 91, 153, 0, 7, 4, 167, 0, 4, 3, 4, 182, 0, 102, 28]
abbrev dktX0_cell_1 : List UInt8 := dkwX0_cell_1 ++ dktX0_cell_2
def dkwX0_cell_0 : List UInt8 := [42, 27, 184, 0, 108, 153, 0, 35, 28, 3, 4, 184, 0, 91, 153, 0, 26, 29, 3, 28, 154, 0, 8]
abbrev dktX0_cell_0 : List UInt8 := dkwX0_cell_0 ++ dktX0_cell_1
theorem dksX0_cell_0 : cX0_cell.data.toList.drop 0 = dktX0_cell_0 := by decide +kernel
theorem dksX0_cell_1 : cX0_cell.data.toList.drop 23 = dktX0_cell_1 := dk_seg dksX0_cell_0 23 rfl rfl
theorem dksX0_cell_2 : cX0_cell.data.toList.drop 46 = dktX0_cell_2 := dk_seg dksX0_cell_1 23 rfl rfl
theorem dksX0_cell_3 : cX0_cell.data.toList.drop 70 = dktX0_cell_3 := dk_seg dksX0_cell_2 24 rfl rfl
theorem dX0_cell_0 : decode cX0_cell 0 = .ok (.aload_n 0, 1) := dk_42 (dk_at dksX0_cell_0 0 rfl rfl)
theorem dX0_cell_1 : decode cX0_cell 1 = .ok (.iload_n 1, 1) := dk_27 (dk_at dksX0_cell_0 1 rfl rfl)
theorem dX0_cell_2 : decode cX0_cell 2 = .ok (.invokestatic 108, 3) := dk_184 0 108 (dk_at dksX0_cell_0 2 rfl rfl)
theorem dX0_cell_5 : decode cX0_cell 5 = .ok (.ifCond .eq 35, 3) := dk_153 0 35 (dk_at dksX0_cell_0 5 rfl rfl)
theorem dX0_cell_8 : decode cX0_cell 8 = .ok (.iload_n 2, 1) := dk_28 (dk_at dksX0_cell_0 8 rfl rfl)
theorem dX0_cell_9 : decode cX0_cell 9 = .ok (.iconst 0, 1) := dk_3 (dk_at dksX0_cell_0 9 rfl rfl)
theorem dX0_cell_10 : decode cX0_cell 10 = .ok (.iconst 1, 1) := dk_4 (dk_at dksX0_cell_0 10 rfl rfl)
theorem dX0_cell_11 : decode cX0_cell 11 = .ok (.invokestatic 91, 3) := dk_184 0 91 (dk_at dksX0_cell_0 11 rfl rfl)
theorem dX0_cell_14 : decode cX0_cell 14 = .ok (.ifCond .eq 26, 3) := dk_153 0 26 (dk_at dksX0_cell_0 14 rfl rfl)
theorem dX0_cell_17 : decode cX0_cell 17 = .ok (.iload_n 3, 1) := dk_29 (dk_at dksX0_cell_0 17 rfl rfl)
theorem dX0_cell_18 : decode cX0_cell 18 = .ok (.iconst 0, 1) := dk_3 (dk_at dksX0_cell_0 18 rfl rfl)
theorem dX0_cell_19 : decode cX0_cell 19 = .ok (.iload_n 2, 1) := dk_28 (dk_at dksX0_cell_0 19 rfl rfl)
theorem dX0_cell_20 : decode cX0_cell 20 = .ok (.ifCond .ne 8, 3) := dk_154 0 8 (dk_at dksX0_cell_0 20 rfl rfl)
theorem dX0_cell_23 : decode cX0_cell 23 = .ok (.bipush 9, 2) := dk_16 9 (dk_at dksX0_cell_1 0 rfl rfl)
theorem dX0_cell_25 : decode cX0_cell 25 = .ok (.goto 5, 3) := dk_167 0 5 (dk_at dksX0_cell_1 2 rfl rfl)
theorem dX0_cell_28 : decode cX0_cell 28 = .ok (.bipush 99, 2) := dk_16 99 (dk_at dksX0_cell_1 5 rfl rfl)
theorem dX0_cell_30 : decode cX0_cell 30 = .ok (.invokestatic 91, 3) := dk_184 0 91 (dk_at dksX0_cell_1 7 rfl rfl)
theorem dX0_cell_33 : decode cX0_cell 33 = .ok (.ifCond .eq 7, 3) := dk_153 0 7 (dk_at dksX0_cell_1 10 rfl rfl)
theorem dX0_cell_36 : decode cX0_cell 36 = .ok (.iconst 1, 1) := dk_4 (dk_at dksX0_cell_1 13 rfl rfl)
theorem dX0_cell_37 : decode cX0_cell 37 = .ok (.goto 4, 3) := dk_167 0 4 (dk_at dksX0_cell_1 14 rfl rfl)
theorem dX0_cell_40 : decode cX0_cell 40 = .ok (.iconst 0, 1) := dk_3 (dk_at dksX0_cell_1 17 rfl rfl)
theorem dX0_cell_41 : decode cX0_cell 41 = .ok (.iconst 1, 1) := dk_4 (dk_at dksX0_cell_1 18 rfl rfl)
theorem dX0_cell_42 : decode cX0_cell 42 = .ok (.invokevirtual 102, 3) := dk_182 0 102 (dk_at dksX0_cell_1 19 rfl rfl)
theorem dX0_cell_45 : decode cX0_cell 45 = .ok (.iload_n 2, 1) := dk_28 (dk_at dksX0_cell_1 22 rfl rfl)
theorem dX0_cell_46 : decode cX0_cell 46 = .ok (.ifCond .ne 13, 3) := dk_154 0 13 (dk_at dksX0_cell_2 0 rfl rfl)
theorem dX0_cell_49 : decode cX0_cell 49 = .ok (.aload_n 0, 1) := dk_42 (dk_at dksX0_cell_2 3 rfl rfl)
theorem dX0_cell_50 : decode cX0_cell 50 = .ok (.getfield 46, 3) := dk_180 0 46 (dk_at dksX0_cell_2 4 rfl rfl)
theorem dX0_cell_53 : decode cX0_cell 53 = .ok (.getfield 112, 3) := dk_180 0 112 (dk_at dksX0_cell_2 7 rfl rfl)
theorem dX0_cell_56 : decode cX0_cell 56 = .ok (.goto 10, 3) := dk_167 0 10 (dk_at dksX0_cell_2 10 rfl rfl)
theorem dX0_cell_59 : decode cX0_cell 59 = .ok (.aload_n 0, 1) := dk_42 (dk_at dksX0_cell_2 13 rfl rfl)
theorem dX0_cell_60 : decode cX0_cell 60 = .ok (.getfield 46, 3) := dk_180 0 46 (dk_at dksX0_cell_2 14 rfl rfl)
theorem dX0_cell_63 : decode cX0_cell 63 = .ok (.getfield 115, 3) := dk_180 0 115 (dk_at dksX0_cell_2 17 rfl rfl)
theorem dX0_cell_66 : decode cX0_cell 66 = .ok (.astore 4, 2) := dk_58 4 (dk_at dksX0_cell_2 20 rfl rfl)
theorem dX0_cell_68 : decode cX0_cell 68 = .ok (.aload 4, 2) := dk_25 4 (dk_at dksX0_cell_2 22 rfl rfl)
theorem dX0_cell_70 : decode cX0_cell 70 = .ok (.iload_n 1, 1) := dk_27 (dk_at dksX0_cell_3 0 rfl rfl)
theorem dX0_cell_71 : decode cX0_cell 71 = .ok (.iaload, 1) := dk_46 (dk_at dksX0_cell_3 1 rfl rfl)
theorem dX0_cell_72 : decode cX0_cell 72 = .ok (.istore 5, 2) := dk_54 5 (dk_at dksX0_cell_3 2 rfl rfl)
theorem dX0_cell_74 : decode cX0_cell 74 = .ok (.aload 4, 2) := dk_25 4 (dk_at dksX0_cell_3 4 rfl rfl)
theorem dX0_cell_76 : decode cX0_cell 76 = .ok (.iload_n 1, 1) := dk_27 (dk_at dksX0_cell_3 6 rfl rfl)
theorem dX0_cell_77 : decode cX0_cell 77 = .ok (.iload_n 3, 1) := dk_29 (dk_at dksX0_cell_3 7 rfl rfl)
theorem dX0_cell_78 : decode cX0_cell 78 = .ok (.iastore, 1) := dk_79 (dk_at dksX0_cell_3 8 rfl rfl)
theorem dX0_cell_79 : decode cX0_cell 79 = .ok (.iload 5, 2) := dk_21 5 (dk_at dksX0_cell_3 9 rfl rfl)
theorem dX0_cell_81 : decode cX0_cell 81 = .ok (.ireturn, 1) := dk_172 (dk_at dksX0_cell_3 11 rfl rfl)
theorem dX0_cell_82 : decode cX0_cell 82 = .ok (.astore 4, 2) := dk_58 4 (dk_at dksX0_cell_3 12 rfl rfl)
theorem dX0_cell_84 : decode cX0_cell 84 = .ok (.aload_n 0, 1) := dk_42 (dk_at dksX0_cell_3 14 rfl rfl)
theorem dX0_cell_85 : decode cX0_cell 85 = .ok (.aload 4, 2) := dk_25 4 (dk_at dksX0_cell_3 15 rfl rfl)
theorem dX0_cell_87 : decode cX0_cell 87 = .ok (.invokevirtual 118, 3) := dk_182 0 118 (dk_at dksX0_cell_3 17 rfl rfl)
theorem dX0_cell_90 : decode cX0_cell 90 = .ok (.ireturn, 1) := dk_172 (dk_at dksX0_cell_3 20 rfl rfl)
abbrev cX0_isCell : ByteArray := prog_1_method_7_code
def yX0_isCell : MethodName := ⟨RX0, "isCell", "(I)Z"⟩
def dkwX0_isCell_0 : List UInt8 := [26, 3, 16, 24, 184, 0, 91, 172]
abbrev dktX0_isCell_0 : List UInt8 := dkwX0_isCell_0 ++ []
theorem dksX0_isCell_0 : cX0_isCell.data.toList.drop 0 = dktX0_isCell_0 := by decide +kernel
theorem dX0_isCell_0 : decode cX0_isCell 0 = .ok (.iload_n 0, 1) := dk_26 (dk_at dksX0_isCell_0 0 rfl rfl)
theorem dX0_isCell_1 : decode cX0_isCell 1 = .ok (.iconst 0, 1) := dk_3 (dk_at dksX0_isCell_0 1 rfl rfl)
theorem dX0_isCell_2 : decode cX0_isCell 2 = .ok (.bipush 24, 2) := dk_16 24 (dk_at dksX0_isCell_0 2 rfl rfl)
theorem dX0_isCell_4 : decode cX0_isCell 4 = .ok (.invokestatic 91, 3) := dk_184 0 91 (dk_at dksX0_isCell_0 4 rfl rfl)
theorem dX0_isCell_7 : decode cX0_isCell 7 = .ok (.ireturn, 1) := dk_172 (dk_at dksX0_isCell_0 7 rfl rfl)
abbrev cX0_in : ByteArray := prog_1_method_1_code
def yX0_in : MethodName := ⟨RX0, "in", "(III)Z"⟩
def dkwX0_in_0 : List UInt8 := [26, 27, 161, 0, 12, 26, 28, 163, 0, 7, 4, 167, 0, 4, 3, 172]
abbrev dktX0_in_0 : List UInt8 := dkwX0_in_0 ++ []
theorem dksX0_in_0 : cX0_in.data.toList.drop 0 = dktX0_in_0 := by decide +kernel
theorem dX0_in_0 : decode cX0_in 0 = .ok (.iload_n 0, 1) := dk_26 (dk_at dksX0_in_0 0 rfl rfl)
theorem dX0_in_1 : decode cX0_in 1 = .ok (.iload_n 1, 1) := dk_27 (dk_at dksX0_in_0 1 rfl rfl)
theorem dX0_in_2 : decode cX0_in 2 = .ok (.if_icmp .lt 12, 3) := dk_161 0 12 (dk_at dksX0_in_0 2 rfl rfl)
theorem dX0_in_5 : decode cX0_in 5 = .ok (.iload_n 0, 1) := dk_26 (dk_at dksX0_in_0 5 rfl rfl)
theorem dX0_in_6 : decode cX0_in 6 = .ok (.iload_n 2, 1) := dk_28 (dk_at dksX0_in_0 6 rfl rfl)
theorem dX0_in_7 : decode cX0_in 7 = .ok (.if_icmp .gt 7, 3) := dk_163 0 7 (dk_at dksX0_in_0 7 rfl rfl)
theorem dX0_in_10 : decode cX0_in 10 = .ok (.iconst 1, 1) := dk_4 (dk_at dksX0_in_0 10 rfl rfl)
theorem dX0_in_11 : decode cX0_in 11 = .ok (.goto 4, 3) := dk_167 0 4 (dk_at dksX0_in_0 11 rfl rfl)
theorem dX0_in_14 : decode cX0_in 14 = .ok (.iconst 0, 1) := dk_3 (dk_at dksX0_in_0 14 rfl rfl)
theorem dX0_in_15 : decode cX0_in 15 = .ok (.ireturn, 1) := dk_172 (dk_at dksX0_in_0 15 rfl rfl)
abbrev cX0_need : ByteArray := prog_1_method_3_code
def yX0_need : MethodName := ⟨RX0, "need", "(ZI)V"⟩
def dkwX0_need_0 : List UInt8 := [27, 154, 0, 12, 42, 180, 0, 1, 28, 182, 0, 7, 191, 177]
abbrev dktX0_need_0 : List UInt8 := dkwX0_need_0 ++ []
theorem dksX0_need_0 : cX0_need.data.toList.drop 0 = dktX0_need_0 := by decide +kernel
theorem dX0_need_0 : decode cX0_need 0 = .ok (.iload_n 1, 1) := dk_27 (dk_at dksX0_need_0 0 rfl rfl)
theorem dX0_need_1 : decode cX0_need 1 = .ok (.ifCond .ne 12, 3) := dk_154 0 12 (dk_at dksX0_need_0 1 rfl rfl)
theorem dX0_need_4 : decode cX0_need 4 = .ok (.aload_n 0, 1) := dk_42 (dk_at dksX0_need_0 4 rfl rfl)
theorem dX0_need_5 : decode cX0_need 5 = .ok (.getfield 1, 3) := dk_180 0 1 (dk_at dksX0_need_0 5 rfl rfl)
theorem dX0_need_8 : decode cX0_need 8 = .ok (.iload_n 2, 1) := dk_28 (dk_at dksX0_need_0 8 rfl rfl)
theorem dX0_need_9 : decode cX0_need 9 = .ok (.invokevirtual 7, 3) := dk_182 0 7 (dk_at dksX0_need_0 9 rfl rfl)
theorem dX0_need_12 : decode cX0_need 12 = .ok (.athrow, 1) := dk_191 (dk_at dksX0_need_0 12 rfl rfl)
theorem dX0_need_13 : decode cX0_need 13 = .ok (.return_, 1) := dk_177 (dk_at dksX0_need_0 13 rfl rfl)
abbrev cX0_finds : ByteArray := prog_1_method_6_code
def yX0_finds : MethodName := ⟨RX0, "finds", "(LMeadowMilk$Finding;)I"⟩
def dkwX0_finds_0 : List UInt8 := [42, 180, 0, 63, 43, 180, 0, 86, 92, 46, 4, 96, 79, 18, 90, 43, 180, 0, 86, 100, 172]
abbrev dktX0_finds_0 : List UInt8 := dkwX0_finds_0 ++ []
theorem dksX0_finds_0 : cX0_finds.data.toList.drop 0 = dktX0_finds_0 := by decide +kernel
theorem dX0_finds_0 : decode cX0_finds 0 = .ok (.aload_n 0, 1) := dk_42 (dk_at dksX0_finds_0 0 rfl rfl)
theorem dX0_finds_1 : decode cX0_finds 1 = .ok (.getfield 63, 3) := dk_180 0 63 (dk_at dksX0_finds_0 1 rfl rfl)
theorem dX0_finds_4 : decode cX0_finds 4 = .ok (.aload_n 1, 1) := dk_43 (dk_at dksX0_finds_0 4 rfl rfl)
theorem dX0_finds_5 : decode cX0_finds 5 = .ok (.getfield 86, 3) := dk_180 0 86 (dk_at dksX0_finds_0 5 rfl rfl)
theorem dX0_finds_8 : decode cX0_finds 8 = .ok (.dup2, 1) := dk_92 (dk_at dksX0_finds_0 8 rfl rfl)
theorem dX0_finds_9 : decode cX0_finds 9 = .ok (.iaload, 1) := dk_46 (dk_at dksX0_finds_0 9 rfl rfl)
theorem dX0_finds_10 : decode cX0_finds 10 = .ok (.iconst 1, 1) := dk_4 (dk_at dksX0_finds_0 10 rfl rfl)
theorem dX0_finds_11 : decode cX0_finds 11 = .ok (.iadd, 1) := dk_96 (dk_at dksX0_finds_0 11 rfl rfl)
theorem dX0_finds_12 : decode cX0_finds 12 = .ok (.iastore, 1) := dk_79 (dk_at dksX0_finds_0 12 rfl rfl)
theorem dX0_finds_13 : decode cX0_finds 13 = .ok (.ldc 90, 2) := dk_18 90 (dk_at dksX0_finds_0 13 rfl rfl)
theorem dX0_finds_15 : decode cX0_finds 15 = .ok (.aload_n 1, 1) := dk_43 (dk_at dksX0_finds_0 15 rfl rfl)
theorem dX0_finds_16 : decode cX0_finds 16 = .ok (.getfield 86, 3) := dk_180 0 86 (dk_at dksX0_finds_0 16 rfl rfl)
theorem dX0_finds_19 : decode cX0_finds 19 = .ok (.isub, 1) := dk_100 (dk_at dksX0_finds_0 19 rfl rfl)
theorem dX0_finds_20 : decode cX0_finds 20 = .ok (.ireturn, 1) := dk_172 (dk_at dksX0_finds_0 20 rfl rfl)
abbrev cX0_ofCell : ByteArray := prog_1_method_16_code
def yX0_ofCell : MethodName := ⟨RX0, "ofCell", "(II)I"⟩
def dkwX0_ofCell_5 : List UInt8 := [180, 0, 46, 27, 182, 0, 125, 172, 78, 42, 45, 182, 0, 118, 172]
abbrev dktX0_ofCell_5 : List UInt8 := dkwX0_ofCell_5 ++ []
def dkwX0_ofCell_4 : List UInt8 := [42, 180, 0, 46, 180, 0, 115, 27, 46, 167, 0, 20, 28, 5, 160, 0, 7, 29, 167, 0, 11, 42]
abbrev dktX0_ofCell_4 : List UInt8 := dkwX0_ofCell_4 ++ dktX0_ofCell_5
def dkwX0_ofCell_3 : List UInt8 := [167, 255, 219, 28, 154, 0, 15, 42, 180, 0, 46, 180, 0, 112, 27, 46, 167, 0, 37, 28, 4, 160, 0, 15]
abbrev dktX0_ofCell_3 : List UInt8 := dkwX0_ofCell_3 ++ dktX0_ofCell_4
def dkwX0_ofCell_2 : List UInt8 := [180, 0, 46, 180, 0, 122, 21, 4, 46, 27, 160, 0, 7, 4, 167, 0, 4, 3, 96, 62, 132, 4, 1]
abbrev dktX0_ofCell_2 : List UInt8 := dkwX0_ofCell_2 ++ dktX0_ofCell_3
def dkwX0_ofCell_1 : List UInt8 := [182, 0, 102, 3, 62, 3, 54, 4, 21, 4, 42, 180, 0, 46, 180, 0, 95, 162, 0, 31, 29, 42]
abbrev dktX0_ofCell_1 : List UInt8 := dkwX0_ofCell_1 ++ dktX0_ofCell_2
def dkwX0_ofCell_0 : List UInt8 := [42, 27, 184, 0, 108, 153, 0, 16, 28, 3, 6, 184, 0, 91, 153, 0, 7, 4, 167, 0, 4, 3, 4]
abbrev dktX0_ofCell_0 : List UInt8 := dkwX0_ofCell_0 ++ dktX0_ofCell_1
theorem dksX0_ofCell_0 : cX0_ofCell.data.toList.drop 0 = dktX0_ofCell_0 := by decide +kernel
theorem dksX0_ofCell_1 : cX0_ofCell.data.toList.drop 23 = dktX0_ofCell_1 := dk_seg dksX0_ofCell_0 23 rfl rfl
theorem dksX0_ofCell_2 : cX0_ofCell.data.toList.drop 45 = dktX0_ofCell_2 := dk_seg dksX0_ofCell_1 22 rfl rfl
theorem dksX0_ofCell_3 : cX0_ofCell.data.toList.drop 68 = dktX0_ofCell_3 := dk_seg dksX0_ofCell_2 23 rfl rfl
theorem dksX0_ofCell_4 : cX0_ofCell.data.toList.drop 92 = dktX0_ofCell_4 := dk_seg dksX0_ofCell_3 24 rfl rfl
theorem dksX0_ofCell_5 : cX0_ofCell.data.toList.drop 114 = dktX0_ofCell_5 := dk_seg dksX0_ofCell_4 22 rfl rfl
theorem dX0_ofCell_0 : decode cX0_ofCell 0 = .ok (.aload_n 0, 1) := dk_42 (dk_at dksX0_ofCell_0 0 rfl rfl)
theorem dX0_ofCell_1 : decode cX0_ofCell 1 = .ok (.iload_n 1, 1) := dk_27 (dk_at dksX0_ofCell_0 1 rfl rfl)
theorem dX0_ofCell_2 : decode cX0_ofCell 2 = .ok (.invokestatic 108, 3) := dk_184 0 108 (dk_at dksX0_ofCell_0 2 rfl rfl)
theorem dX0_ofCell_5 : decode cX0_ofCell 5 = .ok (.ifCond .eq 16, 3) := dk_153 0 16 (dk_at dksX0_ofCell_0 5 rfl rfl)
theorem dX0_ofCell_8 : decode cX0_ofCell 8 = .ok (.iload_n 2, 1) := dk_28 (dk_at dksX0_ofCell_0 8 rfl rfl)
theorem dX0_ofCell_9 : decode cX0_ofCell 9 = .ok (.iconst 0, 1) := dk_3 (dk_at dksX0_ofCell_0 9 rfl rfl)
theorem dX0_ofCell_10 : decode cX0_ofCell 10 = .ok (.iconst 3, 1) := dk_6 (dk_at dksX0_ofCell_0 10 rfl rfl)
theorem dX0_ofCell_11 : decode cX0_ofCell 11 = .ok (.invokestatic 91, 3) := dk_184 0 91 (dk_at dksX0_ofCell_0 11 rfl rfl)
theorem dX0_ofCell_14 : decode cX0_ofCell 14 = .ok (.ifCond .eq 7, 3) := dk_153 0 7 (dk_at dksX0_ofCell_0 14 rfl rfl)
theorem dX0_ofCell_17 : decode cX0_ofCell 17 = .ok (.iconst 1, 1) := dk_4 (dk_at dksX0_ofCell_0 17 rfl rfl)
theorem dX0_ofCell_18 : decode cX0_ofCell 18 = .ok (.goto 4, 3) := dk_167 0 4 (dk_at dksX0_ofCell_0 18 rfl rfl)
theorem dX0_ofCell_21 : decode cX0_ofCell 21 = .ok (.iconst 0, 1) := dk_3 (dk_at dksX0_ofCell_0 21 rfl rfl)
theorem dX0_ofCell_22 : decode cX0_ofCell 22 = .ok (.iconst 1, 1) := dk_4 (dk_at dksX0_ofCell_0 22 rfl rfl)
theorem dX0_ofCell_23 : decode cX0_ofCell 23 = .ok (.invokevirtual 102, 3) := dk_182 0 102 (dk_at dksX0_ofCell_1 0 rfl rfl)
theorem dX0_ofCell_26 : decode cX0_ofCell 26 = .ok (.iconst 0, 1) := dk_3 (dk_at dksX0_ofCell_1 3 rfl rfl)
theorem dX0_ofCell_27 : decode cX0_ofCell 27 = .ok (.istore_n 3, 1) := dk_62 (dk_at dksX0_ofCell_1 4 rfl rfl)
theorem dX0_ofCell_28 : decode cX0_ofCell 28 = .ok (.iconst 0, 1) := dk_3 (dk_at dksX0_ofCell_1 5 rfl rfl)
theorem dX0_ofCell_29 : decode cX0_ofCell 29 = .ok (.istore 4, 2) := dk_54 4 (dk_at dksX0_ofCell_1 6 rfl rfl)
theorem dX0_ofCell_31 : decode cX0_ofCell 31 = .ok (.iload 4, 2) := dk_21 4 (dk_at dksX0_ofCell_1 8 rfl rfl)
theorem dX0_ofCell_33 : decode cX0_ofCell 33 = .ok (.aload_n 0, 1) := dk_42 (dk_at dksX0_ofCell_1 10 rfl rfl)
theorem dX0_ofCell_34 : decode cX0_ofCell 34 = .ok (.getfield 46, 3) := dk_180 0 46 (dk_at dksX0_ofCell_1 11 rfl rfl)
theorem dX0_ofCell_37 : decode cX0_ofCell 37 = .ok (.getfield 95, 3) := dk_180 0 95 (dk_at dksX0_ofCell_1 14 rfl rfl)
theorem dX0_ofCell_40 : decode cX0_ofCell 40 = .ok (.if_icmp .ge 31, 3) := dk_162 0 31 (dk_at dksX0_ofCell_1 17 rfl rfl)
theorem dX0_ofCell_43 : decode cX0_ofCell 43 = .ok (.iload_n 3, 1) := dk_29 (dk_at dksX0_ofCell_1 20 rfl rfl)
theorem dX0_ofCell_44 : decode cX0_ofCell 44 = .ok (.aload_n 0, 1) := dk_42 (dk_at dksX0_ofCell_1 21 rfl rfl)
theorem dX0_ofCell_45 : decode cX0_ofCell 45 = .ok (.getfield 46, 3) := dk_180 0 46 (dk_at dksX0_ofCell_2 0 rfl rfl)
theorem dX0_ofCell_48 : decode cX0_ofCell 48 = .ok (.getfield 122, 3) := dk_180 0 122 (dk_at dksX0_ofCell_2 3 rfl rfl)
theorem dX0_ofCell_51 : decode cX0_ofCell 51 = .ok (.iload 4, 2) := dk_21 4 (dk_at dksX0_ofCell_2 6 rfl rfl)
theorem dX0_ofCell_53 : decode cX0_ofCell 53 = .ok (.iaload, 1) := dk_46 (dk_at dksX0_ofCell_2 8 rfl rfl)
theorem dX0_ofCell_54 : decode cX0_ofCell 54 = .ok (.iload_n 1, 1) := dk_27 (dk_at dksX0_ofCell_2 9 rfl rfl)
theorem dX0_ofCell_55 : decode cX0_ofCell 55 = .ok (.if_icmp .ne 7, 3) := dk_160 0 7 (dk_at dksX0_ofCell_2 10 rfl rfl)
theorem dX0_ofCell_58 : decode cX0_ofCell 58 = .ok (.iconst 1, 1) := dk_4 (dk_at dksX0_ofCell_2 13 rfl rfl)
theorem dX0_ofCell_59 : decode cX0_ofCell 59 = .ok (.goto 4, 3) := dk_167 0 4 (dk_at dksX0_ofCell_2 14 rfl rfl)
theorem dX0_ofCell_62 : decode cX0_ofCell 62 = .ok (.iconst 0, 1) := dk_3 (dk_at dksX0_ofCell_2 17 rfl rfl)
theorem dX0_ofCell_63 : decode cX0_ofCell 63 = .ok (.iadd, 1) := dk_96 (dk_at dksX0_ofCell_2 18 rfl rfl)
theorem dX0_ofCell_64 : decode cX0_ofCell 64 = .ok (.istore_n 3, 1) := dk_62 (dk_at dksX0_ofCell_2 19 rfl rfl)
theorem dX0_ofCell_65 : decode cX0_ofCell 65 = .ok (.iinc 4 1, 3) := dk_132 4 1 (dk_at dksX0_ofCell_2 20 rfl rfl)
theorem dX0_ofCell_68 : decode cX0_ofCell 68 = .ok (.goto (-37), 3) := dk_167 255 219 (dk_at dksX0_ofCell_3 0 rfl rfl)
theorem dX0_ofCell_71 : decode cX0_ofCell 71 = .ok (.iload_n 2, 1) := dk_28 (dk_at dksX0_ofCell_3 3 rfl rfl)
theorem dX0_ofCell_72 : decode cX0_ofCell 72 = .ok (.ifCond .ne 15, 3) := dk_154 0 15 (dk_at dksX0_ofCell_3 4 rfl rfl)
theorem dX0_ofCell_75 : decode cX0_ofCell 75 = .ok (.aload_n 0, 1) := dk_42 (dk_at dksX0_ofCell_3 7 rfl rfl)
theorem dX0_ofCell_76 : decode cX0_ofCell 76 = .ok (.getfield 46, 3) := dk_180 0 46 (dk_at dksX0_ofCell_3 8 rfl rfl)
theorem dX0_ofCell_79 : decode cX0_ofCell 79 = .ok (.getfield 112, 3) := dk_180 0 112 (dk_at dksX0_ofCell_3 11 rfl rfl)
theorem dX0_ofCell_82 : decode cX0_ofCell 82 = .ok (.iload_n 1, 1) := dk_27 (dk_at dksX0_ofCell_3 14 rfl rfl)
theorem dX0_ofCell_83 : decode cX0_ofCell 83 = .ok (.iaload, 1) := dk_46 (dk_at dksX0_ofCell_3 15 rfl rfl)
theorem dX0_ofCell_84 : decode cX0_ofCell 84 = .ok (.goto 37, 3) := dk_167 0 37 (dk_at dksX0_ofCell_3 16 rfl rfl)
theorem dX0_ofCell_87 : decode cX0_ofCell 87 = .ok (.iload_n 2, 1) := dk_28 (dk_at dksX0_ofCell_3 19 rfl rfl)
theorem dX0_ofCell_88 : decode cX0_ofCell 88 = .ok (.iconst 1, 1) := dk_4 (dk_at dksX0_ofCell_3 20 rfl rfl)
theorem dX0_ofCell_89 : decode cX0_ofCell 89 = .ok (.if_icmp .ne 15, 3) := dk_160 0 15 (dk_at dksX0_ofCell_3 21 rfl rfl)
theorem dX0_ofCell_92 : decode cX0_ofCell 92 = .ok (.aload_n 0, 1) := dk_42 (dk_at dksX0_ofCell_4 0 rfl rfl)
theorem dX0_ofCell_93 : decode cX0_ofCell 93 = .ok (.getfield 46, 3) := dk_180 0 46 (dk_at dksX0_ofCell_4 1 rfl rfl)
theorem dX0_ofCell_96 : decode cX0_ofCell 96 = .ok (.getfield 115, 3) := dk_180 0 115 (dk_at dksX0_ofCell_4 4 rfl rfl)
theorem dX0_ofCell_99 : decode cX0_ofCell 99 = .ok (.iload_n 1, 1) := dk_27 (dk_at dksX0_ofCell_4 7 rfl rfl)
theorem dX0_ofCell_100 : decode cX0_ofCell 100 = .ok (.iaload, 1) := dk_46 (dk_at dksX0_ofCell_4 8 rfl rfl)
theorem dX0_ofCell_101 : decode cX0_ofCell 101 = .ok (.goto 20, 3) := dk_167 0 20 (dk_at dksX0_ofCell_4 9 rfl rfl)
theorem dX0_ofCell_104 : decode cX0_ofCell 104 = .ok (.iload_n 2, 1) := dk_28 (dk_at dksX0_ofCell_4 12 rfl rfl)
theorem dX0_ofCell_105 : decode cX0_ofCell 105 = .ok (.iconst 2, 1) := dk_5 (dk_at dksX0_ofCell_4 13 rfl rfl)
theorem dX0_ofCell_106 : decode cX0_ofCell 106 = .ok (.if_icmp .ne 7, 3) := dk_160 0 7 (dk_at dksX0_ofCell_4 14 rfl rfl)
theorem dX0_ofCell_109 : decode cX0_ofCell 109 = .ok (.iload_n 3, 1) := dk_29 (dk_at dksX0_ofCell_4 17 rfl rfl)
theorem dX0_ofCell_110 : decode cX0_ofCell 110 = .ok (.goto 11, 3) := dk_167 0 11 (dk_at dksX0_ofCell_4 18 rfl rfl)
theorem dX0_ofCell_113 : decode cX0_ofCell 113 = .ok (.aload_n 0, 1) := dk_42 (dk_at dksX0_ofCell_4 21 rfl rfl)
theorem dX0_ofCell_114 : decode cX0_ofCell 114 = .ok (.getfield 46, 3) := dk_180 0 46 (dk_at dksX0_ofCell_5 0 rfl rfl)
theorem dX0_ofCell_117 : decode cX0_ofCell 117 = .ok (.iload_n 1, 1) := dk_27 (dk_at dksX0_ofCell_5 3 rfl rfl)
theorem dX0_ofCell_118 : decode cX0_ofCell 118 = .ok (.invokevirtual 125, 3) := dk_182 0 125 (dk_at dksX0_ofCell_5 4 rfl rfl)
theorem dX0_ofCell_121 : decode cX0_ofCell 121 = .ok (.ireturn, 1) := dk_172 (dk_at dksX0_ofCell_5 7 rfl rfl)
theorem dX0_ofCell_122 : decode cX0_ofCell 122 = .ok (.astore_n 3, 1) := dk_78 (dk_at dksX0_ofCell_5 8 rfl rfl)
theorem dX0_ofCell_123 : decode cX0_ofCell 123 = .ok (.aload_n 0, 1) := dk_42 (dk_at dksX0_ofCell_5 9 rfl rfl)
theorem dX0_ofCell_124 : decode cX0_ofCell 124 = .ok (.aload_n 3, 1) := dk_45 (dk_at dksX0_ofCell_5 10 rfl rfl)
theorem dX0_ofCell_125 : decode cX0_ofCell 125 = .ok (.invokevirtual 118, 3) := dk_182 0 118 (dk_at dksX0_ofCell_5 11 rfl rfl)
theorem dX0_ofCell_128 : decode cX0_ofCell 128 = .ok (.ireturn, 1) := dk_172 (dk_at dksX0_ofCell_5 14 rfl rfl)
abbrev cX0_grows : ByteArray := prog_1_method_17_code
def yX0_grows : MethodName := ⟨RX0, "grows", "(I)I"⟩
def dkwX0_grows_1 : List UInt8 := [27, 181, 0, 129, 28, 172, 77, 42, 44, 182, 0, 118, 172]
abbrev dktX0_grows_1 : List UInt8 := dkwX0_grows_1 ++ []
def dkwX0_grows_0 : List UInt8 := [42, 27, 3, 16, 9, 184, 0, 91, 4, 182, 0, 102, 42, 180, 0, 46, 180, 0, 129, 61, 42, 180, 0, 46]
abbrev dktX0_grows_0 : List UInt8 := dkwX0_grows_0 ++ dktX0_grows_1
theorem dksX0_grows_0 : cX0_grows.data.toList.drop 0 = dktX0_grows_0 := by decide +kernel
theorem dksX0_grows_1 : cX0_grows.data.toList.drop 24 = dktX0_grows_1 := dk_seg dksX0_grows_0 24 rfl rfl
theorem dX0_grows_0 : decode cX0_grows 0 = .ok (.aload_n 0, 1) := dk_42 (dk_at dksX0_grows_0 0 rfl rfl)
theorem dX0_grows_1 : decode cX0_grows 1 = .ok (.iload_n 1, 1) := dk_27 (dk_at dksX0_grows_0 1 rfl rfl)
theorem dX0_grows_2 : decode cX0_grows 2 = .ok (.iconst 0, 1) := dk_3 (dk_at dksX0_grows_0 2 rfl rfl)
theorem dX0_grows_3 : decode cX0_grows 3 = .ok (.bipush 9, 2) := dk_16 9 (dk_at dksX0_grows_0 3 rfl rfl)
theorem dX0_grows_5 : decode cX0_grows 5 = .ok (.invokestatic 91, 3) := dk_184 0 91 (dk_at dksX0_grows_0 5 rfl rfl)
theorem dX0_grows_8 : decode cX0_grows 8 = .ok (.iconst 1, 1) := dk_4 (dk_at dksX0_grows_0 8 rfl rfl)
theorem dX0_grows_9 : decode cX0_grows 9 = .ok (.invokevirtual 102, 3) := dk_182 0 102 (dk_at dksX0_grows_0 9 rfl rfl)
theorem dX0_grows_12 : decode cX0_grows 12 = .ok (.aload_n 0, 1) := dk_42 (dk_at dksX0_grows_0 12 rfl rfl)
theorem dX0_grows_13 : decode cX0_grows 13 = .ok (.getfield 46, 3) := dk_180 0 46 (dk_at dksX0_grows_0 13 rfl rfl)
theorem dX0_grows_16 : decode cX0_grows 16 = .ok (.getfield 129, 3) := dk_180 0 129 (dk_at dksX0_grows_0 16 rfl rfl)
theorem dX0_grows_19 : decode cX0_grows 19 = .ok (.istore_n 2, 1) := dk_61 (dk_at dksX0_grows_0 19 rfl rfl)
theorem dX0_grows_20 : decode cX0_grows 20 = .ok (.aload_n 0, 1) := dk_42 (dk_at dksX0_grows_0 20 rfl rfl)
theorem dX0_grows_21 : decode cX0_grows 21 = .ok (.getfield 46, 3) := dk_180 0 46 (dk_at dksX0_grows_0 21 rfl rfl)
theorem dX0_grows_24 : decode cX0_grows 24 = .ok (.iload_n 1, 1) := dk_27 (dk_at dksX0_grows_1 0 rfl rfl)
theorem dX0_grows_25 : decode cX0_grows 25 = .ok (.putfield 129, 3) := dk_181 0 129 (dk_at dksX0_grows_1 1 rfl rfl)
theorem dX0_grows_28 : decode cX0_grows 28 = .ok (.iload_n 2, 1) := dk_28 (dk_at dksX0_grows_1 4 rfl rfl)
theorem dX0_grows_29 : decode cX0_grows 29 = .ok (.ireturn, 1) := dk_172 (dk_at dksX0_grows_1 5 rfl rfl)
theorem dX0_grows_30 : decode cX0_grows 30 = .ok (.astore_n 2, 1) := dk_77 (dk_at dksX0_grows_1 6 rfl rfl)
theorem dX0_grows_31 : decode cX0_grows 31 = .ok (.aload_n 0, 1) := dk_42 (dk_at dksX0_grows_1 7 rfl rfl)
theorem dX0_grows_32 : decode cX0_grows 32 = .ok (.aload_n 2, 1) := dk_44 (dk_at dksX0_grows_1 8 rfl rfl)
theorem dX0_grows_33 : decode cX0_grows 33 = .ok (.invokevirtual 118, 3) := dk_182 0 118 (dk_at dksX0_grows_1 9 rfl rfl)
theorem dX0_grows_36 : decode cX0_grows 36 = .ok (.ireturn, 1) := dk_172 (dk_at dksX0_grows_1 12 rfl rfl)
abbrev cX0_cow : ByteArray := prog_1_method_18_code
def yX0_cow : MethodName := ⟨RX0, "cow", "(II)I"⟩
def dkwX0_cow_5 : List UInt8 := [182, 0, 118, 172]
abbrev dktX0_cow_5 : List UInt8 := dkwX0_cow_5 ++ []
def dkwX0_cow_4 : List UInt8 := [180, 0, 143, 29, 3, 79, 42, 180, 0, 46, 89, 180, 0, 95, 4, 96, 181, 0, 95, 29, 172, 78, 42, 45]
abbrev dktX0_cow_4 : List UInt8 := dkwX0_cow_4 ++ dktX0_cow_5
def dkwX0_cow_3 : List UInt8 := [27, 16, 10, 112, 184, 0, 139, 83, 42, 180, 0, 46, 180, 0, 122, 29, 28, 79, 42, 180, 0, 46]
abbrev dktX0_cow_3 : List UInt8 := dkwX0_cow_3 ++ dktX0_cow_4
def dkwX0_cow_2 : List UInt8 := [180, 0, 46, 180, 0, 95, 62, 42, 180, 0, 46, 180, 0, 135, 29, 27, 16, 10, 108, 42, 180, 0, 59, 29]
abbrev dktX0_cow_2 : List UInt8 := dkwX0_cow_2 ++ dktX0_cow_3
def dkwX0_cow_1 : List UInt8 := [42, 42, 180, 0, 46, 180, 0, 95, 8, 162, 0, 7, 4, 167, 0, 4, 3, 7, 182, 0, 102, 42]
abbrev dktX0_cow_1 : List UInt8 := dkwX0_cow_1 ++ dktX0_cow_2
def dkwX0_cow_0 : List UInt8 := [42, 27, 184, 0, 132, 153, 0, 14, 28, 184, 0, 108, 153, 0, 7, 4, 167, 0, 4, 3, 4, 182, 0, 102]
abbrev dktX0_cow_0 : List UInt8 := dkwX0_cow_0 ++ dktX0_cow_1
theorem dksX0_cow_0 : cX0_cow.data.toList.drop 0 = dktX0_cow_0 := by decide +kernel
theorem dksX0_cow_1 : cX0_cow.data.toList.drop 24 = dktX0_cow_1 := dk_seg dksX0_cow_0 24 rfl rfl
theorem dksX0_cow_2 : cX0_cow.data.toList.drop 46 = dktX0_cow_2 := dk_seg dksX0_cow_1 22 rfl rfl
theorem dksX0_cow_3 : cX0_cow.data.toList.drop 70 = dktX0_cow_3 := dk_seg dksX0_cow_2 24 rfl rfl
theorem dksX0_cow_4 : cX0_cow.data.toList.drop 92 = dktX0_cow_4 := dk_seg dksX0_cow_3 22 rfl rfl
theorem dksX0_cow_5 : cX0_cow.data.toList.drop 116 = dktX0_cow_5 := dk_seg dksX0_cow_4 24 rfl rfl
theorem dX0_cow_0 : decode cX0_cow 0 = .ok (.aload_n 0, 1) := dk_42 (dk_at dksX0_cow_0 0 rfl rfl)
theorem dX0_cow_1 : decode cX0_cow 1 = .ok (.iload_n 1, 1) := dk_27 (dk_at dksX0_cow_0 1 rfl rfl)
theorem dX0_cow_2 : decode cX0_cow 2 = .ok (.invokestatic 132, 3) := dk_184 0 132 (dk_at dksX0_cow_0 2 rfl rfl)
theorem dX0_cow_5 : decode cX0_cow 5 = .ok (.ifCond .eq 14, 3) := dk_153 0 14 (dk_at dksX0_cow_0 5 rfl rfl)
theorem dX0_cow_8 : decode cX0_cow 8 = .ok (.iload_n 2, 1) := dk_28 (dk_at dksX0_cow_0 8 rfl rfl)
theorem dX0_cow_9 : decode cX0_cow 9 = .ok (.invokestatic 108, 3) := dk_184 0 108 (dk_at dksX0_cow_0 9 rfl rfl)
theorem dX0_cow_12 : decode cX0_cow 12 = .ok (.ifCond .eq 7, 3) := dk_153 0 7 (dk_at dksX0_cow_0 12 rfl rfl)
theorem dX0_cow_15 : decode cX0_cow 15 = .ok (.iconst 1, 1) := dk_4 (dk_at dksX0_cow_0 15 rfl rfl)
theorem dX0_cow_16 : decode cX0_cow 16 = .ok (.goto 4, 3) := dk_167 0 4 (dk_at dksX0_cow_0 16 rfl rfl)
theorem dX0_cow_19 : decode cX0_cow 19 = .ok (.iconst 0, 1) := dk_3 (dk_at dksX0_cow_0 19 rfl rfl)
theorem dX0_cow_20 : decode cX0_cow 20 = .ok (.iconst 1, 1) := dk_4 (dk_at dksX0_cow_0 20 rfl rfl)
theorem dX0_cow_21 : decode cX0_cow 21 = .ok (.invokevirtual 102, 3) := dk_182 0 102 (dk_at dksX0_cow_0 21 rfl rfl)
theorem dX0_cow_24 : decode cX0_cow 24 = .ok (.aload_n 0, 1) := dk_42 (dk_at dksX0_cow_1 0 rfl rfl)
theorem dX0_cow_25 : decode cX0_cow 25 = .ok (.aload_n 0, 1) := dk_42 (dk_at dksX0_cow_1 1 rfl rfl)
theorem dX0_cow_26 : decode cX0_cow 26 = .ok (.getfield 46, 3) := dk_180 0 46 (dk_at dksX0_cow_1 2 rfl rfl)
theorem dX0_cow_29 : decode cX0_cow 29 = .ok (.getfield 95, 3) := dk_180 0 95 (dk_at dksX0_cow_1 5 rfl rfl)
theorem dX0_cow_32 : decode cX0_cow 32 = .ok (.iconst 5, 1) := dk_8 (dk_at dksX0_cow_1 8 rfl rfl)
theorem dX0_cow_33 : decode cX0_cow 33 = .ok (.if_icmp .ge 7, 3) := dk_162 0 7 (dk_at dksX0_cow_1 9 rfl rfl)
theorem dX0_cow_36 : decode cX0_cow 36 = .ok (.iconst 1, 1) := dk_4 (dk_at dksX0_cow_1 12 rfl rfl)
theorem dX0_cow_37 : decode cX0_cow 37 = .ok (.goto 4, 3) := dk_167 0 4 (dk_at dksX0_cow_1 13 rfl rfl)
theorem dX0_cow_40 : decode cX0_cow 40 = .ok (.iconst 0, 1) := dk_3 (dk_at dksX0_cow_1 16 rfl rfl)
theorem dX0_cow_41 : decode cX0_cow 41 = .ok (.iconst 4, 1) := dk_7 (dk_at dksX0_cow_1 17 rfl rfl)
theorem dX0_cow_42 : decode cX0_cow 42 = .ok (.invokevirtual 102, 3) := dk_182 0 102 (dk_at dksX0_cow_1 18 rfl rfl)
theorem dX0_cow_45 : decode cX0_cow 45 = .ok (.aload_n 0, 1) := dk_42 (dk_at dksX0_cow_1 21 rfl rfl)
theorem dX0_cow_46 : decode cX0_cow 46 = .ok (.getfield 46, 3) := dk_180 0 46 (dk_at dksX0_cow_2 0 rfl rfl)
theorem dX0_cow_49 : decode cX0_cow 49 = .ok (.getfield 95, 3) := dk_180 0 95 (dk_at dksX0_cow_2 3 rfl rfl)
theorem dX0_cow_52 : decode cX0_cow 52 = .ok (.istore_n 3, 1) := dk_62 (dk_at dksX0_cow_2 6 rfl rfl)
theorem dX0_cow_53 : decode cX0_cow 53 = .ok (.aload_n 0, 1) := dk_42 (dk_at dksX0_cow_2 7 rfl rfl)
theorem dX0_cow_54 : decode cX0_cow 54 = .ok (.getfield 46, 3) := dk_180 0 46 (dk_at dksX0_cow_2 8 rfl rfl)
theorem dX0_cow_57 : decode cX0_cow 57 = .ok (.getfield 135, 3) := dk_180 0 135 (dk_at dksX0_cow_2 11 rfl rfl)
theorem dX0_cow_60 : decode cX0_cow 60 = .ok (.iload_n 3, 1) := dk_29 (dk_at dksX0_cow_2 14 rfl rfl)
theorem dX0_cow_61 : decode cX0_cow 61 = .ok (.iload_n 1, 1) := dk_27 (dk_at dksX0_cow_2 15 rfl rfl)
theorem dX0_cow_62 : decode cX0_cow 62 = .ok (.bipush 10, 2) := dk_16 10 (dk_at dksX0_cow_2 16 rfl rfl)
theorem dX0_cow_64 : decode cX0_cow 64 = .ok (.idiv, 1) := dk_108 (dk_at dksX0_cow_2 18 rfl rfl)
theorem dX0_cow_65 : decode cX0_cow 65 = .ok (.aload_n 0, 1) := dk_42 (dk_at dksX0_cow_2 19 rfl rfl)
theorem dX0_cow_66 : decode cX0_cow 66 = .ok (.getfield 59, 3) := dk_180 0 59 (dk_at dksX0_cow_2 20 rfl rfl)
theorem dX0_cow_69 : decode cX0_cow 69 = .ok (.iload_n 3, 1) := dk_29 (dk_at dksX0_cow_2 23 rfl rfl)
theorem dX0_cow_70 : decode cX0_cow 70 = .ok (.iload_n 1, 1) := dk_27 (dk_at dksX0_cow_3 0 rfl rfl)
theorem dX0_cow_71 : decode cX0_cow 71 = .ok (.bipush 10, 2) := dk_16 10 (dk_at dksX0_cow_3 1 rfl rfl)
theorem dX0_cow_73 : decode cX0_cow 73 = .ok (.irem, 1) := dk_112 (dk_at dksX0_cow_3 3 rfl rfl)
theorem dX0_cow_74 : decode cX0_cow 74 = .ok (.invokestatic 139, 3) := dk_184 0 139 (dk_at dksX0_cow_3 4 rfl rfl)
theorem dX0_cow_77 : decode cX0_cow 77 = .ok (.aastore, 1) := dk_83 (dk_at dksX0_cow_3 7 rfl rfl)
theorem dX0_cow_78 : decode cX0_cow 78 = .ok (.aload_n 0, 1) := dk_42 (dk_at dksX0_cow_3 8 rfl rfl)
theorem dX0_cow_79 : decode cX0_cow 79 = .ok (.getfield 46, 3) := dk_180 0 46 (dk_at dksX0_cow_3 9 rfl rfl)
theorem dX0_cow_82 : decode cX0_cow 82 = .ok (.getfield 122, 3) := dk_180 0 122 (dk_at dksX0_cow_3 12 rfl rfl)
theorem dX0_cow_85 : decode cX0_cow 85 = .ok (.iload_n 3, 1) := dk_29 (dk_at dksX0_cow_3 15 rfl rfl)
theorem dX0_cow_86 : decode cX0_cow 86 = .ok (.iload_n 2, 1) := dk_28 (dk_at dksX0_cow_3 16 rfl rfl)
theorem dX0_cow_87 : decode cX0_cow 87 = .ok (.iastore, 1) := dk_79 (dk_at dksX0_cow_3 17 rfl rfl)
theorem dX0_cow_88 : decode cX0_cow 88 = .ok (.aload_n 0, 1) := dk_42 (dk_at dksX0_cow_3 18 rfl rfl)
theorem dX0_cow_89 : decode cX0_cow 89 = .ok (.getfield 46, 3) := dk_180 0 46 (dk_at dksX0_cow_3 19 rfl rfl)
theorem dX0_cow_92 : decode cX0_cow 92 = .ok (.getfield 143, 3) := dk_180 0 143 (dk_at dksX0_cow_4 0 rfl rfl)
theorem dX0_cow_95 : decode cX0_cow 95 = .ok (.iload_n 3, 1) := dk_29 (dk_at dksX0_cow_4 3 rfl rfl)
theorem dX0_cow_96 : decode cX0_cow 96 = .ok (.iconst 0, 1) := dk_3 (dk_at dksX0_cow_4 4 rfl rfl)
theorem dX0_cow_97 : decode cX0_cow 97 = .ok (.iastore, 1) := dk_79 (dk_at dksX0_cow_4 5 rfl rfl)
theorem dX0_cow_98 : decode cX0_cow 98 = .ok (.aload_n 0, 1) := dk_42 (dk_at dksX0_cow_4 6 rfl rfl)
theorem dX0_cow_99 : decode cX0_cow 99 = .ok (.getfield 46, 3) := dk_180 0 46 (dk_at dksX0_cow_4 7 rfl rfl)
theorem dX0_cow_102 : decode cX0_cow 102 = .ok (.dup, 1) := dk_89 (dk_at dksX0_cow_4 10 rfl rfl)
theorem dX0_cow_103 : decode cX0_cow 103 = .ok (.getfield 95, 3) := dk_180 0 95 (dk_at dksX0_cow_4 11 rfl rfl)
theorem dX0_cow_106 : decode cX0_cow 106 = .ok (.iconst 1, 1) := dk_4 (dk_at dksX0_cow_4 14 rfl rfl)
theorem dX0_cow_107 : decode cX0_cow 107 = .ok (.iadd, 1) := dk_96 (dk_at dksX0_cow_4 15 rfl rfl)
theorem dX0_cow_108 : decode cX0_cow 108 = .ok (.putfield 95, 3) := dk_181 0 95 (dk_at dksX0_cow_4 16 rfl rfl)
theorem dX0_cow_111 : decode cX0_cow 111 = .ok (.iload_n 3, 1) := dk_29 (dk_at dksX0_cow_4 19 rfl rfl)
theorem dX0_cow_112 : decode cX0_cow 112 = .ok (.ireturn, 1) := dk_172 (dk_at dksX0_cow_4 20 rfl rfl)
theorem dX0_cow_113 : decode cX0_cow 113 = .ok (.astore_n 3, 1) := dk_78 (dk_at dksX0_cow_4 21 rfl rfl)
theorem dX0_cow_114 : decode cX0_cow 114 = .ok (.aload_n 0, 1) := dk_42 (dk_at dksX0_cow_4 22 rfl rfl)
theorem dX0_cow_115 : decode cX0_cow 115 = .ok (.aload_n 3, 1) := dk_45 (dk_at dksX0_cow_4 23 rfl rfl)
theorem dX0_cow_116 : decode cX0_cow 116 = .ok (.invokevirtual 118, 3) := dk_182 0 118 (dk_at dksX0_cow_5 0 rfl rfl)
theorem dX0_cow_119 : decode cX0_cow 119 = .ok (.ireturn, 1) := dk_172 (dk_at dksX0_cow_5 3 rfl rfl)
abbrev cX0_isKind : ByteArray := prog_1_method_10_code
def yX0_isKind : MethodName := ⟨RX0, "isKind", "(I)Z"⟩
def dkwX0_isKind_0 : List UInt8 := [26, 3, 16, 69, 184, 0, 91, 172]
abbrev dktX0_isKind_0 : List UInt8 := dkwX0_isKind_0 ++ []
theorem dksX0_isKind_0 : cX0_isKind.data.toList.drop 0 = dktX0_isKind_0 := by decide +kernel
theorem dX0_isKind_0 : decode cX0_isKind 0 = .ok (.iload_n 0, 1) := dk_26 (dk_at dksX0_isKind_0 0 rfl rfl)
theorem dX0_isKind_1 : decode cX0_isKind 1 = .ok (.iconst 0, 1) := dk_3 (dk_at dksX0_isKind_0 1 rfl rfl)
theorem dX0_isKind_2 : decode cX0_isKind 2 = .ok (.bipush 69, 2) := dk_16 69 (dk_at dksX0_isKind_0 2 rfl rfl)
theorem dX0_isKind_4 : decode cX0_isKind 4 = .ok (.invokestatic 91, 3) := dk_184 0 91 (dk_at dksX0_isKind_0 4 rfl rfl)
theorem dX0_isKind_7 : decode cX0_isKind 7 = .ok (.ireturn, 1) := dk_172 (dk_at dksX0_isKind_0 7 rfl rfl)
abbrev cX0_cowOf : ByteArray := prog_1_method_4_code
def yX0_cowOf : MethodName := ⟨RX0, "cowOf", "(ILMeadowMilk$Trace;II)LMeadowMilk$Cow;"⟩
def dkwX0_cowOf_5 : List UInt8 := [187, 0, 34, 89, 43, 28, 29, 183, 0, 36, 176]
abbrev dktX0_cowOf_5 : List UInt8 := dkwX0_cowOf_5 ++ []
def dkwX0_cowOf_4 : List UInt8 := [187, 0, 28, 89, 43, 28, 29, 183, 0, 30, 176, 187, 0, 31, 89, 43, 28, 29, 183, 0, 33, 176]
abbrev dktX0_cowOf_4 : List UInt8 := dkwX0_cowOf_4 ++ dktX0_cowOf_5
def dkwX0_cowOf_3 : List UInt8 := [187, 0, 22, 89, 43, 28, 29, 183, 0, 24, 176, 187, 0, 25, 89, 43, 28, 29, 183, 0, 27, 176]
abbrev dktX0_cowOf_3 : List UInt8 := dkwX0_cowOf_3 ++ dktX0_cowOf_4
def dkwX0_cowOf_2 : List UInt8 := [187, 0, 13, 89, 43, 28, 29, 183, 0, 15, 176, 187, 0, 19, 89, 43, 28, 29, 183, 0, 21, 176]
abbrev dktX0_cowOf_2 : List UInt8 := dkwX0_cowOf_2 ++ dktX0_cowOf_3
def dkwX0_cowOf_1 : List UInt8 := [170, 0, 0, 0, 0, 0, 105, 0, 0, 0, 1, 0, 0, 0, 6, 0, 0, 0, 39, 0, 0, 0, 50, 0, 0, 0, 61, 0, 0, 0, 72, 0, 0, 0, 83, 0, 0, 0, 94]
abbrev dktX0_cowOf_1 : List UInt8 := dkwX0_cowOf_1 ++ dktX0_cowOf_2
def dkwX0_cowOf_0 : List UInt8 := [26]
abbrev dktX0_cowOf_0 : List UInt8 := dkwX0_cowOf_0 ++ dktX0_cowOf_1
theorem dksX0_cowOf_0 : cX0_cowOf.data.toList.drop 0 = dktX0_cowOf_0 := by decide +kernel
theorem dksX0_cowOf_1 : cX0_cowOf.data.toList.drop 1 = dktX0_cowOf_1 := dk_seg dksX0_cowOf_0 1 rfl rfl
theorem dksX0_cowOf_2 : cX0_cowOf.data.toList.drop 40 = dktX0_cowOf_2 := dk_seg dksX0_cowOf_1 39 rfl rfl
theorem dksX0_cowOf_3 : cX0_cowOf.data.toList.drop 62 = dktX0_cowOf_3 := dk_seg dksX0_cowOf_2 22 rfl rfl
theorem dksX0_cowOf_4 : cX0_cowOf.data.toList.drop 84 = dktX0_cowOf_4 := dk_seg dksX0_cowOf_3 22 rfl rfl
theorem dksX0_cowOf_5 : cX0_cowOf.data.toList.drop 106 = dktX0_cowOf_5 := dk_seg dksX0_cowOf_4 22 rfl rfl
theorem dX0_cowOf_0 : decode cX0_cowOf 0 = .ok (.iload_n 0, 1) := dk_26 (dk_at dksX0_cowOf_0 0 rfl rfl)
theorem dX0_cowOf_1 : decode cX0_cowOf 1 = .ok (.tableswitch 105 1 6 #[39, 50, 61, 72, 83, 94], 39) := by decide +kernel
theorem dX0_cowOf_40 : decode cX0_cowOf 40 = .ok (.new 13, 3) := dk_187 0 13 (dk_at dksX0_cowOf_2 0 rfl rfl)
theorem dX0_cowOf_43 : decode cX0_cowOf 43 = .ok (.dup, 1) := dk_89 (dk_at dksX0_cowOf_2 3 rfl rfl)
theorem dX0_cowOf_44 : decode cX0_cowOf 44 = .ok (.aload_n 1, 1) := dk_43 (dk_at dksX0_cowOf_2 4 rfl rfl)
theorem dX0_cowOf_45 : decode cX0_cowOf 45 = .ok (.iload_n 2, 1) := dk_28 (dk_at dksX0_cowOf_2 5 rfl rfl)
theorem dX0_cowOf_46 : decode cX0_cowOf 46 = .ok (.iload_n 3, 1) := dk_29 (dk_at dksX0_cowOf_2 6 rfl rfl)
theorem dX0_cowOf_47 : decode cX0_cowOf 47 = .ok (.invokespecial 15, 3) := dk_183 0 15 (dk_at dksX0_cowOf_2 7 rfl rfl)
theorem dX0_cowOf_50 : decode cX0_cowOf 50 = .ok (.areturn, 1) := dk_176 (dk_at dksX0_cowOf_2 10 rfl rfl)
theorem dX0_cowOf_51 : decode cX0_cowOf 51 = .ok (.new 19, 3) := dk_187 0 19 (dk_at dksX0_cowOf_2 11 rfl rfl)
theorem dX0_cowOf_54 : decode cX0_cowOf 54 = .ok (.dup, 1) := dk_89 (dk_at dksX0_cowOf_2 14 rfl rfl)
theorem dX0_cowOf_55 : decode cX0_cowOf 55 = .ok (.aload_n 1, 1) := dk_43 (dk_at dksX0_cowOf_2 15 rfl rfl)
theorem dX0_cowOf_56 : decode cX0_cowOf 56 = .ok (.iload_n 2, 1) := dk_28 (dk_at dksX0_cowOf_2 16 rfl rfl)
theorem dX0_cowOf_57 : decode cX0_cowOf 57 = .ok (.iload_n 3, 1) := dk_29 (dk_at dksX0_cowOf_2 17 rfl rfl)
theorem dX0_cowOf_58 : decode cX0_cowOf 58 = .ok (.invokespecial 21, 3) := dk_183 0 21 (dk_at dksX0_cowOf_2 18 rfl rfl)
theorem dX0_cowOf_61 : decode cX0_cowOf 61 = .ok (.areturn, 1) := dk_176 (dk_at dksX0_cowOf_2 21 rfl rfl)
theorem dX0_cowOf_62 : decode cX0_cowOf 62 = .ok (.new 22, 3) := dk_187 0 22 (dk_at dksX0_cowOf_3 0 rfl rfl)
theorem dX0_cowOf_65 : decode cX0_cowOf 65 = .ok (.dup, 1) := dk_89 (dk_at dksX0_cowOf_3 3 rfl rfl)
theorem dX0_cowOf_66 : decode cX0_cowOf 66 = .ok (.aload_n 1, 1) := dk_43 (dk_at dksX0_cowOf_3 4 rfl rfl)
theorem dX0_cowOf_67 : decode cX0_cowOf 67 = .ok (.iload_n 2, 1) := dk_28 (dk_at dksX0_cowOf_3 5 rfl rfl)
theorem dX0_cowOf_68 : decode cX0_cowOf 68 = .ok (.iload_n 3, 1) := dk_29 (dk_at dksX0_cowOf_3 6 rfl rfl)
theorem dX0_cowOf_69 : decode cX0_cowOf 69 = .ok (.invokespecial 24, 3) := dk_183 0 24 (dk_at dksX0_cowOf_3 7 rfl rfl)
theorem dX0_cowOf_72 : decode cX0_cowOf 72 = .ok (.areturn, 1) := dk_176 (dk_at dksX0_cowOf_3 10 rfl rfl)
theorem dX0_cowOf_73 : decode cX0_cowOf 73 = .ok (.new 25, 3) := dk_187 0 25 (dk_at dksX0_cowOf_3 11 rfl rfl)
theorem dX0_cowOf_76 : decode cX0_cowOf 76 = .ok (.dup, 1) := dk_89 (dk_at dksX0_cowOf_3 14 rfl rfl)
theorem dX0_cowOf_77 : decode cX0_cowOf 77 = .ok (.aload_n 1, 1) := dk_43 (dk_at dksX0_cowOf_3 15 rfl rfl)
theorem dX0_cowOf_78 : decode cX0_cowOf 78 = .ok (.iload_n 2, 1) := dk_28 (dk_at dksX0_cowOf_3 16 rfl rfl)
theorem dX0_cowOf_79 : decode cX0_cowOf 79 = .ok (.iload_n 3, 1) := dk_29 (dk_at dksX0_cowOf_3 17 rfl rfl)
theorem dX0_cowOf_80 : decode cX0_cowOf 80 = .ok (.invokespecial 27, 3) := dk_183 0 27 (dk_at dksX0_cowOf_3 18 rfl rfl)
theorem dX0_cowOf_83 : decode cX0_cowOf 83 = .ok (.areturn, 1) := dk_176 (dk_at dksX0_cowOf_3 21 rfl rfl)
theorem dX0_cowOf_84 : decode cX0_cowOf 84 = .ok (.new 28, 3) := dk_187 0 28 (dk_at dksX0_cowOf_4 0 rfl rfl)
theorem dX0_cowOf_87 : decode cX0_cowOf 87 = .ok (.dup, 1) := dk_89 (dk_at dksX0_cowOf_4 3 rfl rfl)
theorem dX0_cowOf_88 : decode cX0_cowOf 88 = .ok (.aload_n 1, 1) := dk_43 (dk_at dksX0_cowOf_4 4 rfl rfl)
theorem dX0_cowOf_89 : decode cX0_cowOf 89 = .ok (.iload_n 2, 1) := dk_28 (dk_at dksX0_cowOf_4 5 rfl rfl)
theorem dX0_cowOf_90 : decode cX0_cowOf 90 = .ok (.iload_n 3, 1) := dk_29 (dk_at dksX0_cowOf_4 6 rfl rfl)
theorem dX0_cowOf_91 : decode cX0_cowOf 91 = .ok (.invokespecial 30, 3) := dk_183 0 30 (dk_at dksX0_cowOf_4 7 rfl rfl)
theorem dX0_cowOf_94 : decode cX0_cowOf 94 = .ok (.areturn, 1) := dk_176 (dk_at dksX0_cowOf_4 10 rfl rfl)
theorem dX0_cowOf_95 : decode cX0_cowOf 95 = .ok (.new 31, 3) := dk_187 0 31 (dk_at dksX0_cowOf_4 11 rfl rfl)
theorem dX0_cowOf_98 : decode cX0_cowOf 98 = .ok (.dup, 1) := dk_89 (dk_at dksX0_cowOf_4 14 rfl rfl)
theorem dX0_cowOf_99 : decode cX0_cowOf 99 = .ok (.aload_n 1, 1) := dk_43 (dk_at dksX0_cowOf_4 15 rfl rfl)
theorem dX0_cowOf_100 : decode cX0_cowOf 100 = .ok (.iload_n 2, 1) := dk_28 (dk_at dksX0_cowOf_4 16 rfl rfl)
theorem dX0_cowOf_101 : decode cX0_cowOf 101 = .ok (.iload_n 3, 1) := dk_29 (dk_at dksX0_cowOf_4 17 rfl rfl)
theorem dX0_cowOf_102 : decode cX0_cowOf 102 = .ok (.invokespecial 33, 3) := dk_183 0 33 (dk_at dksX0_cowOf_4 18 rfl rfl)
theorem dX0_cowOf_105 : decode cX0_cowOf 105 = .ok (.areturn, 1) := dk_176 (dk_at dksX0_cowOf_4 21 rfl rfl)
theorem dX0_cowOf_106 : decode cX0_cowOf 106 = .ok (.new 34, 3) := dk_187 0 34 (dk_at dksX0_cowOf_5 0 rfl rfl)
theorem dX0_cowOf_109 : decode cX0_cowOf 109 = .ok (.dup, 1) := dk_89 (dk_at dksX0_cowOf_5 3 rfl rfl)
theorem dX0_cowOf_110 : decode cX0_cowOf 110 = .ok (.aload_n 1, 1) := dk_43 (dk_at dksX0_cowOf_5 4 rfl rfl)
theorem dX0_cowOf_111 : decode cX0_cowOf 111 = .ok (.iload_n 2, 1) := dk_28 (dk_at dksX0_cowOf_5 5 rfl rfl)
theorem dX0_cowOf_112 : decode cX0_cowOf 112 = .ok (.iload_n 3, 1) := dk_29 (dk_at dksX0_cowOf_5 6 rfl rfl)
theorem dX0_cowOf_113 : decode cX0_cowOf 113 = .ok (.invokespecial 36, 3) := dk_183 0 36 (dk_at dksX0_cowOf_5 7 rfl rfl)
theorem dX0_cowOf_116 : decode cX0_cowOf 116 = .ok (.areturn, 1) := dk_176 (dk_at dksX0_cowOf_5 10 rfl rfl)
abbrev cX0_ofCow : ByteArray := prog_1_method_20_code
def yX0_ofCow : MethodName := ⟨RX0, "ofCow", "(II)I"⟩
def dkwX0_ofCow_4 : List UInt8 := [180, 0, 46, 180, 0, 122, 27, 46, 182, 0, 166, 172, 78, 42, 45, 182, 0, 118, 172]
abbrev dktX0_ofCow_4 : List UInt8 := dkwX0_ofCow_4 ++ []
def dkwX0_ofCow_3 : List UInt8 := [180, 0, 143, 27, 46, 172, 45, 182, 0, 160, 172, 45, 182, 0, 163, 172, 42, 180, 0, 46, 27, 42]
abbrev dktX0_ofCow_3 : List UInt8 := dkwX0_ofCow_3 ++ dktX0_ofCow_4
def dkwX0_ofCow_2 : List UInt8 := [45, 182, 0, 153, 172, 45, 180, 0, 157, 172, 42, 180, 0, 46, 180, 0, 122, 27, 46, 172, 42, 180, 0, 46]
abbrev dktX0_ofCow_2 : List UInt8 := dkwX0_ofCow_2 ++ dktX0_ofCow_3
def dkwX0_ofCow_1 : List UInt8 := [170, 0, 0, 0, 0, 78, 0, 0, 0, 0, 0, 0, 0, 5, 0, 0, 0, 38, 0, 0, 0, 43, 0, 0, 0, 48, 0, 0, 0, 58, 0, 0, 0, 68, 0, 0, 0, 73]
abbrev dktX0_ofCow_1 : List UInt8 := dkwX0_ofCow_1 ++ dktX0_ofCow_2
def dkwX0_ofCow_0 : List UInt8 := [42, 27, 28, 3, 16, 6, 184, 0, 91, 182, 0, 149, 78, 28]
abbrev dktX0_ofCow_0 : List UInt8 := dkwX0_ofCow_0 ++ dktX0_ofCow_1
theorem dksX0_ofCow_0 : cX0_ofCow.data.toList.drop 0 = dktX0_ofCow_0 := by decide +kernel
theorem dksX0_ofCow_1 : cX0_ofCow.data.toList.drop 14 = dktX0_ofCow_1 := dk_seg dksX0_ofCow_0 14 rfl rfl
theorem dksX0_ofCow_2 : cX0_ofCow.data.toList.drop 52 = dktX0_ofCow_2 := dk_seg dksX0_ofCow_1 38 rfl rfl
theorem dksX0_ofCow_3 : cX0_ofCow.data.toList.drop 76 = dktX0_ofCow_3 := dk_seg dksX0_ofCow_2 24 rfl rfl
theorem dksX0_ofCow_4 : cX0_ofCow.data.toList.drop 98 = dktX0_ofCow_4 := dk_seg dksX0_ofCow_3 22 rfl rfl
theorem dX0_ofCow_0 : decode cX0_ofCow 0 = .ok (.aload_n 0, 1) := dk_42 (dk_at dksX0_ofCow_0 0 rfl rfl)
theorem dX0_ofCow_1 : decode cX0_ofCow 1 = .ok (.iload_n 1, 1) := dk_27 (dk_at dksX0_ofCow_0 1 rfl rfl)
theorem dX0_ofCow_2 : decode cX0_ofCow 2 = .ok (.iload_n 2, 1) := dk_28 (dk_at dksX0_ofCow_0 2 rfl rfl)
theorem dX0_ofCow_3 : decode cX0_ofCow 3 = .ok (.iconst 0, 1) := dk_3 (dk_at dksX0_ofCow_0 3 rfl rfl)
theorem dX0_ofCow_4 : decode cX0_ofCow 4 = .ok (.bipush 6, 2) := dk_16 6 (dk_at dksX0_ofCow_0 4 rfl rfl)
theorem dX0_ofCow_6 : decode cX0_ofCow 6 = .ok (.invokestatic 91, 3) := dk_184 0 91 (dk_at dksX0_ofCow_0 6 rfl rfl)
theorem dX0_ofCow_9 : decode cX0_ofCow 9 = .ok (.invokevirtual 149, 3) := dk_182 0 149 (dk_at dksX0_ofCow_0 9 rfl rfl)
theorem dX0_ofCow_12 : decode cX0_ofCow 12 = .ok (.astore_n 3, 1) := dk_78 (dk_at dksX0_ofCow_0 12 rfl rfl)
theorem dX0_ofCow_13 : decode cX0_ofCow 13 = .ok (.iload_n 2, 1) := dk_28 (dk_at dksX0_ofCow_0 13 rfl rfl)
theorem dX0_ofCow_14 : decode cX0_ofCow 14 = .ok (.tableswitch 78 0 5 #[38, 43, 48, 58, 68, 73], 38) := by decide +kernel
theorem dX0_ofCow_52 : decode cX0_ofCow 52 = .ok (.aload_n 3, 1) := dk_45 (dk_at dksX0_ofCow_2 0 rfl rfl)
theorem dX0_ofCow_53 : decode cX0_ofCow 53 = .ok (.invokevirtual 153, 3) := dk_182 0 153 (dk_at dksX0_ofCow_2 1 rfl rfl)
theorem dX0_ofCow_56 : decode cX0_ofCow 56 = .ok (.ireturn, 1) := dk_172 (dk_at dksX0_ofCow_2 4 rfl rfl)
theorem dX0_ofCow_57 : decode cX0_ofCow 57 = .ok (.aload_n 3, 1) := dk_45 (dk_at dksX0_ofCow_2 5 rfl rfl)
theorem dX0_ofCow_58 : decode cX0_ofCow 58 = .ok (.getfield 157, 3) := dk_180 0 157 (dk_at dksX0_ofCow_2 6 rfl rfl)
theorem dX0_ofCow_61 : decode cX0_ofCow 61 = .ok (.ireturn, 1) := dk_172 (dk_at dksX0_ofCow_2 9 rfl rfl)
theorem dX0_ofCow_62 : decode cX0_ofCow 62 = .ok (.aload_n 0, 1) := dk_42 (dk_at dksX0_ofCow_2 10 rfl rfl)
theorem dX0_ofCow_63 : decode cX0_ofCow 63 = .ok (.getfield 46, 3) := dk_180 0 46 (dk_at dksX0_ofCow_2 11 rfl rfl)
theorem dX0_ofCow_66 : decode cX0_ofCow 66 = .ok (.getfield 122, 3) := dk_180 0 122 (dk_at dksX0_ofCow_2 14 rfl rfl)
theorem dX0_ofCow_69 : decode cX0_ofCow 69 = .ok (.iload_n 1, 1) := dk_27 (dk_at dksX0_ofCow_2 17 rfl rfl)
theorem dX0_ofCow_70 : decode cX0_ofCow 70 = .ok (.iaload, 1) := dk_46 (dk_at dksX0_ofCow_2 18 rfl rfl)
theorem dX0_ofCow_71 : decode cX0_ofCow 71 = .ok (.ireturn, 1) := dk_172 (dk_at dksX0_ofCow_2 19 rfl rfl)
theorem dX0_ofCow_72 : decode cX0_ofCow 72 = .ok (.aload_n 0, 1) := dk_42 (dk_at dksX0_ofCow_2 20 rfl rfl)
theorem dX0_ofCow_73 : decode cX0_ofCow 73 = .ok (.getfield 46, 3) := dk_180 0 46 (dk_at dksX0_ofCow_2 21 rfl rfl)
theorem dX0_ofCow_76 : decode cX0_ofCow 76 = .ok (.getfield 143, 3) := dk_180 0 143 (dk_at dksX0_ofCow_3 0 rfl rfl)
theorem dX0_ofCow_79 : decode cX0_ofCow 79 = .ok (.iload_n 1, 1) := dk_27 (dk_at dksX0_ofCow_3 3 rfl rfl)
theorem dX0_ofCow_80 : decode cX0_ofCow 80 = .ok (.iaload, 1) := dk_46 (dk_at dksX0_ofCow_3 4 rfl rfl)
theorem dX0_ofCow_81 : decode cX0_ofCow 81 = .ok (.ireturn, 1) := dk_172 (dk_at dksX0_ofCow_3 5 rfl rfl)
theorem dX0_ofCow_82 : decode cX0_ofCow 82 = .ok (.aload_n 3, 1) := dk_45 (dk_at dksX0_ofCow_3 6 rfl rfl)
theorem dX0_ofCow_83 : decode cX0_ofCow 83 = .ok (.invokevirtual 160, 3) := dk_182 0 160 (dk_at dksX0_ofCow_3 7 rfl rfl)
theorem dX0_ofCow_86 : decode cX0_ofCow 86 = .ok (.ireturn, 1) := dk_172 (dk_at dksX0_ofCow_3 10 rfl rfl)
theorem dX0_ofCow_87 : decode cX0_ofCow 87 = .ok (.aload_n 3, 1) := dk_45 (dk_at dksX0_ofCow_3 11 rfl rfl)
theorem dX0_ofCow_88 : decode cX0_ofCow 88 = .ok (.invokevirtual 163, 3) := dk_182 0 163 (dk_at dksX0_ofCow_3 12 rfl rfl)
theorem dX0_ofCow_91 : decode cX0_ofCow 91 = .ok (.ireturn, 1) := dk_172 (dk_at dksX0_ofCow_3 15 rfl rfl)
theorem dX0_ofCow_92 : decode cX0_ofCow 92 = .ok (.aload_n 0, 1) := dk_42 (dk_at dksX0_ofCow_3 16 rfl rfl)
theorem dX0_ofCow_93 : decode cX0_ofCow 93 = .ok (.getfield 46, 3) := dk_180 0 46 (dk_at dksX0_ofCow_3 17 rfl rfl)
theorem dX0_ofCow_96 : decode cX0_ofCow 96 = .ok (.iload_n 1, 1) := dk_27 (dk_at dksX0_ofCow_3 20 rfl rfl)
theorem dX0_ofCow_97 : decode cX0_ofCow 97 = .ok (.aload_n 0, 1) := dk_42 (dk_at dksX0_ofCow_3 21 rfl rfl)
theorem dX0_ofCow_98 : decode cX0_ofCow 98 = .ok (.getfield 46, 3) := dk_180 0 46 (dk_at dksX0_ofCow_4 0 rfl rfl)
theorem dX0_ofCow_101 : decode cX0_ofCow 101 = .ok (.getfield 122, 3) := dk_180 0 122 (dk_at dksX0_ofCow_4 3 rfl rfl)
theorem dX0_ofCow_104 : decode cX0_ofCow 104 = .ok (.iload_n 1, 1) := dk_27 (dk_at dksX0_ofCow_4 6 rfl rfl)
theorem dX0_ofCow_105 : decode cX0_ofCow 105 = .ok (.iaload, 1) := dk_46 (dk_at dksX0_ofCow_4 7 rfl rfl)
theorem dX0_ofCow_106 : decode cX0_ofCow 106 = .ok (.invokevirtual 166, 3) := dk_182 0 166 (dk_at dksX0_ofCow_4 8 rfl rfl)
theorem dX0_ofCow_109 : decode cX0_ofCow 109 = .ok (.ireturn, 1) := dk_172 (dk_at dksX0_ofCow_4 11 rfl rfl)
theorem dX0_ofCow_110 : decode cX0_ofCow 110 = .ok (.astore_n 3, 1) := dk_78 (dk_at dksX0_ofCow_4 12 rfl rfl)
theorem dX0_ofCow_111 : decode cX0_ofCow 111 = .ok (.aload_n 0, 1) := dk_42 (dk_at dksX0_ofCow_4 13 rfl rfl)
theorem dX0_ofCow_112 : decode cX0_ofCow 112 = .ok (.aload_n 3, 1) := dk_45 (dk_at dksX0_ofCow_4 14 rfl rfl)
theorem dX0_ofCow_113 : decode cX0_ofCow 113 = .ok (.invokevirtual 118, 3) := dk_182 0 118 (dk_at dksX0_ofCow_4 15 rfl rfl)
theorem dX0_ofCow_116 : decode cX0_ofCow 116 = .ok (.ireturn, 1) := dk_172 (dk_at dksX0_ofCow_4 18 rfl rfl)
abbrev cX0_cowAt : ByteArray := prog_1_method_19_code
def yX0_cowAt : MethodName := ⟨RX0, "cowAt", "(IZ)LMeadowMilk$Cow;"⟩
def dkwX0_cowAt_1 : List UInt8 := [180, 0, 46, 180, 0, 135, 27, 50, 176]
abbrev dktX0_cowAt_1 : List UInt8 := dkwX0_cowAt_1 ++ []
def dkwX0_cowAt_0 : List UInt8 := [42, 42, 27, 182, 0, 146, 153, 0, 11, 28, 153, 0, 7, 4, 167, 0, 4, 3, 4, 182, 0, 102, 42]
abbrev dktX0_cowAt_0 : List UInt8 := dkwX0_cowAt_0 ++ dktX0_cowAt_1
theorem dksX0_cowAt_0 : cX0_cowAt.data.toList.drop 0 = dktX0_cowAt_0 := by decide +kernel
theorem dksX0_cowAt_1 : cX0_cowAt.data.toList.drop 23 = dktX0_cowAt_1 := dk_seg dksX0_cowAt_0 23 rfl rfl
theorem dX0_cowAt_0 : decode cX0_cowAt 0 = .ok (.aload_n 0, 1) := dk_42 (dk_at dksX0_cowAt_0 0 rfl rfl)
theorem dX0_cowAt_1 : decode cX0_cowAt 1 = .ok (.aload_n 0, 1) := dk_42 (dk_at dksX0_cowAt_0 1 rfl rfl)
theorem dX0_cowAt_2 : decode cX0_cowAt 2 = .ok (.iload_n 1, 1) := dk_27 (dk_at dksX0_cowAt_0 2 rfl rfl)
theorem dX0_cowAt_3 : decode cX0_cowAt 3 = .ok (.invokevirtual 146, 3) := dk_182 0 146 (dk_at dksX0_cowAt_0 3 rfl rfl)
theorem dX0_cowAt_6 : decode cX0_cowAt 6 = .ok (.ifCond .eq 11, 3) := dk_153 0 11 (dk_at dksX0_cowAt_0 6 rfl rfl)
theorem dX0_cowAt_9 : decode cX0_cowAt 9 = .ok (.iload_n 2, 1) := dk_28 (dk_at dksX0_cowAt_0 9 rfl rfl)
theorem dX0_cowAt_10 : decode cX0_cowAt 10 = .ok (.ifCond .eq 7, 3) := dk_153 0 7 (dk_at dksX0_cowAt_0 10 rfl rfl)
theorem dX0_cowAt_13 : decode cX0_cowAt 13 = .ok (.iconst 1, 1) := dk_4 (dk_at dksX0_cowAt_0 13 rfl rfl)
theorem dX0_cowAt_14 : decode cX0_cowAt 14 = .ok (.goto 4, 3) := dk_167 0 4 (dk_at dksX0_cowAt_0 14 rfl rfl)
theorem dX0_cowAt_17 : decode cX0_cowAt 17 = .ok (.iconst 0, 1) := dk_3 (dk_at dksX0_cowAt_0 17 rfl rfl)
theorem dX0_cowAt_18 : decode cX0_cowAt 18 = .ok (.iconst 1, 1) := dk_4 (dk_at dksX0_cowAt_0 18 rfl rfl)
theorem dX0_cowAt_19 : decode cX0_cowAt 19 = .ok (.invokevirtual 102, 3) := dk_182 0 102 (dk_at dksX0_cowAt_0 19 rfl rfl)
theorem dX0_cowAt_22 : decode cX0_cowAt 22 = .ok (.aload_n 0, 1) := dk_42 (dk_at dksX0_cowAt_0 22 rfl rfl)
theorem dX0_cowAt_23 : decode cX0_cowAt 23 = .ok (.getfield 46, 3) := dk_180 0 46 (dk_at dksX0_cowAt_1 0 rfl rfl)
theorem dX0_cowAt_26 : decode cX0_cowAt 26 = .ok (.getfield 135, 3) := dk_180 0 135 (dk_at dksX0_cowAt_1 3 rfl rfl)
theorem dX0_cowAt_29 : decode cX0_cowAt 29 = .ok (.iload_n 1, 1) := dk_27 (dk_at dksX0_cowAt_1 6 rfl rfl)
theorem dX0_cowAt_30 : decode cX0_cowAt 30 = .ok (.aaload, 1) := dk_50 (dk_at dksX0_cowAt_1 7 rfl rfl)
theorem dX0_cowAt_31 : decode cX0_cowAt 31 = .ok (.areturn, 1) := dk_176 (dk_at dksX0_cowAt_1 8 rfl rfl)
abbrev cX0_isCow : ByteArray := prog_1_method_8_code
def yX0_isCow : MethodName := ⟨RX0, "isCow", "(I)Z"⟩
def dkwX0_isCow_0 : List UInt8 := [27, 3, 42, 180, 0, 46, 180, 0, 95, 4, 100, 184, 0, 91, 172]
abbrev dktX0_isCow_0 : List UInt8 := dkwX0_isCow_0 ++ []
theorem dksX0_isCow_0 : cX0_isCow.data.toList.drop 0 = dktX0_isCow_0 := by decide +kernel
theorem dX0_isCow_0 : decode cX0_isCow 0 = .ok (.iload_n 1, 1) := dk_27 (dk_at dksX0_isCow_0 0 rfl rfl)
theorem dX0_isCow_1 : decode cX0_isCow 1 = .ok (.iconst 0, 1) := dk_3 (dk_at dksX0_isCow_0 1 rfl rfl)
theorem dX0_isCow_2 : decode cX0_isCow 2 = .ok (.aload_n 0, 1) := dk_42 (dk_at dksX0_isCow_0 2 rfl rfl)
theorem dX0_isCow_3 : decode cX0_isCow 3 = .ok (.getfield 46, 3) := dk_180 0 46 (dk_at dksX0_isCow_0 3 rfl rfl)
theorem dX0_isCow_6 : decode cX0_isCow 6 = .ok (.getfield 95, 3) := dk_180 0 95 (dk_at dksX0_isCow_0 6 rfl rfl)
theorem dX0_isCow_9 : decode cX0_isCow 9 = .ok (.iconst 1, 1) := dk_4 (dk_at dksX0_isCow_0 9 rfl rfl)
theorem dX0_isCow_10 : decode cX0_isCow 10 = .ok (.isub, 1) := dk_100 (dk_at dksX0_isCow_0 10 rfl rfl)
theorem dX0_isCow_11 : decode cX0_isCow 11 = .ok (.invokestatic 91, 3) := dk_184 0 91 (dk_at dksX0_isCow_0 11 rfl rfl)
theorem dX0_isCow_14 : decode cX0_isCow 14 = .ok (.ireturn, 1) := dk_172 (dk_at dksX0_isCow_0 14 rfl rfl)
abbrev cX0_hasBit : ByteArray := prog_1_method_2_code
def yX0_hasBit : MethodName := ⟨RX0, "hasBit", "(II)Z"⟩
def dkwX0_hasBit_0 : List UInt8 := [26, 27, 122, 4, 126, 4, 160, 0, 7, 4, 167, 0, 4, 3, 172]
abbrev dktX0_hasBit_0 : List UInt8 := dkwX0_hasBit_0 ++ []
theorem dksX0_hasBit_0 : cX0_hasBit.data.toList.drop 0 = dktX0_hasBit_0 := by decide +kernel
theorem dX0_hasBit_0 : decode cX0_hasBit 0 = .ok (.iload_n 0, 1) := dk_26 (dk_at dksX0_hasBit_0 0 rfl rfl)
theorem dX0_hasBit_1 : decode cX0_hasBit 1 = .ok (.iload_n 1, 1) := dk_27 (dk_at dksX0_hasBit_0 1 rfl rfl)
theorem dX0_hasBit_2 : decode cX0_hasBit 2 = .ok (.ishr, 1) := dk_122 (dk_at dksX0_hasBit_0 2 rfl rfl)
theorem dX0_hasBit_3 : decode cX0_hasBit 3 = .ok (.iconst 1, 1) := dk_4 (dk_at dksX0_hasBit_0 3 rfl rfl)
theorem dX0_hasBit_4 : decode cX0_hasBit 4 = .ok (.iand, 1) := dk_126 (dk_at dksX0_hasBit_0 4 rfl rfl)
theorem dX0_hasBit_5 : decode cX0_hasBit 5 = .ok (.iconst 1, 1) := dk_4 (dk_at dksX0_hasBit_0 5 rfl rfl)
theorem dX0_hasBit_6 : decode cX0_hasBit 6 = .ok (.if_icmp .ne 7, 3) := dk_160 0 7 (dk_at dksX0_hasBit_0 6 rfl rfl)
theorem dX0_hasBit_9 : decode cX0_hasBit 9 = .ok (.iconst 1, 1) := dk_4 (dk_at dksX0_hasBit_0 9 rfl rfl)
theorem dX0_hasBit_10 : decode cX0_hasBit 10 = .ok (.goto 4, 3) := dk_167 0 4 (dk_at dksX0_hasBit_0 10 rfl rfl)
theorem dX0_hasBit_13 : decode cX0_hasBit 13 = .ok (.iconst 0, 1) := dk_3 (dk_at dksX0_hasBit_0 13 rfl rfl)
theorem dX0_hasBit_14 : decode cX0_hasBit 14 = .ok (.ireturn, 1) := dk_172 (dk_at dksX0_hasBit_0 14 rfl rfl)
abbrev cX0_milk : ByteArray := prog_1_method_21_code
def yX0_milk : MethodName := ⟨RX0, "milk", "(II)I"⟩
def dkwX0_milk_2 : List UInt8 := [180, 0, 46, 27, 28, 182, 0, 170, 172, 78, 42, 45, 182, 0, 118, 172]
abbrev dktX0_milk_2 : List UInt8 := dkwX0_milk_2 ++ []
def dkwX0_milk_1 : List UInt8 := [42, 180, 0, 46, 180, 0, 143, 27, 46, 162, 0, 7, 4, 167, 0, 4, 3, 5, 182, 0, 102, 42]
abbrev dktX0_milk_1 : List UInt8 := dkwX0_milk_1 ++ dktX0_milk_2
def dkwX0_milk_0 : List UInt8 := [42, 42, 27, 182, 0, 146, 153, 0, 11, 28, 155, 0, 7, 4, 167, 0, 4, 3, 4, 182, 0, 102, 42, 28]
abbrev dktX0_milk_0 : List UInt8 := dkwX0_milk_0 ++ dktX0_milk_1
theorem dksX0_milk_0 : cX0_milk.data.toList.drop 0 = dktX0_milk_0 := by decide +kernel
theorem dksX0_milk_1 : cX0_milk.data.toList.drop 24 = dktX0_milk_1 := dk_seg dksX0_milk_0 24 rfl rfl
theorem dksX0_milk_2 : cX0_milk.data.toList.drop 46 = dktX0_milk_2 := dk_seg dksX0_milk_1 22 rfl rfl
theorem dX0_milk_0 : decode cX0_milk 0 = .ok (.aload_n 0, 1) := dk_42 (dk_at dksX0_milk_0 0 rfl rfl)
theorem dX0_milk_1 : decode cX0_milk 1 = .ok (.aload_n 0, 1) := dk_42 (dk_at dksX0_milk_0 1 rfl rfl)
theorem dX0_milk_2 : decode cX0_milk 2 = .ok (.iload_n 1, 1) := dk_27 (dk_at dksX0_milk_0 2 rfl rfl)
theorem dX0_milk_3 : decode cX0_milk 3 = .ok (.invokevirtual 146, 3) := dk_182 0 146 (dk_at dksX0_milk_0 3 rfl rfl)
theorem dX0_milk_6 : decode cX0_milk 6 = .ok (.ifCond .eq 11, 3) := dk_153 0 11 (dk_at dksX0_milk_0 6 rfl rfl)
theorem dX0_milk_9 : decode cX0_milk 9 = .ok (.iload_n 2, 1) := dk_28 (dk_at dksX0_milk_0 9 rfl rfl)
theorem dX0_milk_10 : decode cX0_milk 10 = .ok (.ifCond .lt 7, 3) := dk_155 0 7 (dk_at dksX0_milk_0 10 rfl rfl)
theorem dX0_milk_13 : decode cX0_milk 13 = .ok (.iconst 1, 1) := dk_4 (dk_at dksX0_milk_0 13 rfl rfl)
theorem dX0_milk_14 : decode cX0_milk 14 = .ok (.goto 4, 3) := dk_167 0 4 (dk_at dksX0_milk_0 14 rfl rfl)
theorem dX0_milk_17 : decode cX0_milk 17 = .ok (.iconst 0, 1) := dk_3 (dk_at dksX0_milk_0 17 rfl rfl)
theorem dX0_milk_18 : decode cX0_milk 18 = .ok (.iconst 1, 1) := dk_4 (dk_at dksX0_milk_0 18 rfl rfl)
theorem dX0_milk_19 : decode cX0_milk 19 = .ok (.invokevirtual 102, 3) := dk_182 0 102 (dk_at dksX0_milk_0 19 rfl rfl)
theorem dX0_milk_22 : decode cX0_milk 22 = .ok (.aload_n 0, 1) := dk_42 (dk_at dksX0_milk_0 22 rfl rfl)
theorem dX0_milk_23 : decode cX0_milk 23 = .ok (.iload_n 2, 1) := dk_28 (dk_at dksX0_milk_0 23 rfl rfl)
theorem dX0_milk_24 : decode cX0_milk 24 = .ok (.aload_n 0, 1) := dk_42 (dk_at dksX0_milk_1 0 rfl rfl)
theorem dX0_milk_25 : decode cX0_milk 25 = .ok (.getfield 46, 3) := dk_180 0 46 (dk_at dksX0_milk_1 1 rfl rfl)
theorem dX0_milk_28 : decode cX0_milk 28 = .ok (.getfield 143, 3) := dk_180 0 143 (dk_at dksX0_milk_1 4 rfl rfl)
theorem dX0_milk_31 : decode cX0_milk 31 = .ok (.iload_n 1, 1) := dk_27 (dk_at dksX0_milk_1 7 rfl rfl)
theorem dX0_milk_32 : decode cX0_milk 32 = .ok (.iaload, 1) := dk_46 (dk_at dksX0_milk_1 8 rfl rfl)
theorem dX0_milk_33 : decode cX0_milk 33 = .ok (.if_icmp .ge 7, 3) := dk_162 0 7 (dk_at dksX0_milk_1 9 rfl rfl)
theorem dX0_milk_36 : decode cX0_milk 36 = .ok (.iconst 1, 1) := dk_4 (dk_at dksX0_milk_1 12 rfl rfl)
theorem dX0_milk_37 : decode cX0_milk 37 = .ok (.goto 4, 3) := dk_167 0 4 (dk_at dksX0_milk_1 13 rfl rfl)
theorem dX0_milk_40 : decode cX0_milk 40 = .ok (.iconst 0, 1) := dk_3 (dk_at dksX0_milk_1 16 rfl rfl)
theorem dX0_milk_41 : decode cX0_milk 41 = .ok (.iconst 2, 1) := dk_5 (dk_at dksX0_milk_1 17 rfl rfl)
theorem dX0_milk_42 : decode cX0_milk 42 = .ok (.invokevirtual 102, 3) := dk_182 0 102 (dk_at dksX0_milk_1 18 rfl rfl)
theorem dX0_milk_45 : decode cX0_milk 45 = .ok (.aload_n 0, 1) := dk_42 (dk_at dksX0_milk_1 21 rfl rfl)
theorem dX0_milk_46 : decode cX0_milk 46 = .ok (.getfield 46, 3) := dk_180 0 46 (dk_at dksX0_milk_2 0 rfl rfl)
theorem dX0_milk_49 : decode cX0_milk 49 = .ok (.iload_n 1, 1) := dk_27 (dk_at dksX0_milk_2 3 rfl rfl)
theorem dX0_milk_50 : decode cX0_milk 50 = .ok (.iload_n 2, 1) := dk_28 (dk_at dksX0_milk_2 4 rfl rfl)
theorem dX0_milk_51 : decode cX0_milk 51 = .ok (.invokevirtual 170, 3) := dk_182 0 170 (dk_at dksX0_milk_2 5 rfl rfl)
theorem dX0_milk_54 : decode cX0_milk 54 = .ok (.ireturn, 1) := dk_172 (dk_at dksX0_milk_2 8 rfl rfl)
theorem dX0_milk_55 : decode cX0_milk 55 = .ok (.astore_n 3, 1) := dk_78 (dk_at dksX0_milk_2 9 rfl rfl)
theorem dX0_milk_56 : decode cX0_milk 56 = .ok (.aload_n 0, 1) := dk_42 (dk_at dksX0_milk_2 10 rfl rfl)
theorem dX0_milk_57 : decode cX0_milk 57 = .ok (.aload_n 3, 1) := dk_45 (dk_at dksX0_milk_2 11 rfl rfl)
theorem dX0_milk_58 : decode cX0_milk 58 = .ok (.invokevirtual 118, 3) := dk_182 0 118 (dk_at dksX0_milk_2 12 rfl rfl)
theorem dX0_milk_61 : decode cX0_milk 61 = .ok (.ireturn, 1) := dk_172 (dk_at dksX0_milk_2 15 rfl rfl)
abbrev cX0_become : ByteArray := prog_1_method_22_code
def yX0_become : MethodName := ⟨RX0, "become", "(II)I"⟩
def dkwX0_become_1 : List UInt8 := [180, 0, 59, 27, 28, 16, 10, 112, 184, 0, 139, 83, 45, 182, 0, 153, 172, 78, 42, 45, 182, 0, 118, 172]
abbrev dktX0_become_1 : List UInt8 := dkwX0_become_1 ++ []
def dkwX0_become_0 : List UInt8 := [42, 27, 28, 184, 0, 132, 182, 0, 149, 78, 42, 180, 0, 46, 180, 0, 135, 27, 28, 16, 10, 108, 42]
abbrev dktX0_become_0 : List UInt8 := dkwX0_become_0 ++ dktX0_become_1
theorem dksX0_become_0 : cX0_become.data.toList.drop 0 = dktX0_become_0 := by decide +kernel
theorem dksX0_become_1 : cX0_become.data.toList.drop 23 = dktX0_become_1 := dk_seg dksX0_become_0 23 rfl rfl
theorem dX0_become_0 : decode cX0_become 0 = .ok (.aload_n 0, 1) := dk_42 (dk_at dksX0_become_0 0 rfl rfl)
theorem dX0_become_1 : decode cX0_become 1 = .ok (.iload_n 1, 1) := dk_27 (dk_at dksX0_become_0 1 rfl rfl)
theorem dX0_become_2 : decode cX0_become 2 = .ok (.iload_n 2, 1) := dk_28 (dk_at dksX0_become_0 2 rfl rfl)
theorem dX0_become_3 : decode cX0_become 3 = .ok (.invokestatic 132, 3) := dk_184 0 132 (dk_at dksX0_become_0 3 rfl rfl)
theorem dX0_become_6 : decode cX0_become 6 = .ok (.invokevirtual 149, 3) := dk_182 0 149 (dk_at dksX0_become_0 6 rfl rfl)
theorem dX0_become_9 : decode cX0_become 9 = .ok (.astore_n 3, 1) := dk_78 (dk_at dksX0_become_0 9 rfl rfl)
theorem dX0_become_10 : decode cX0_become 10 = .ok (.aload_n 0, 1) := dk_42 (dk_at dksX0_become_0 10 rfl rfl)
theorem dX0_become_11 : decode cX0_become 11 = .ok (.getfield 46, 3) := dk_180 0 46 (dk_at dksX0_become_0 11 rfl rfl)
theorem dX0_become_14 : decode cX0_become 14 = .ok (.getfield 135, 3) := dk_180 0 135 (dk_at dksX0_become_0 14 rfl rfl)
theorem dX0_become_17 : decode cX0_become 17 = .ok (.iload_n 1, 1) := dk_27 (dk_at dksX0_become_0 17 rfl rfl)
theorem dX0_become_18 : decode cX0_become 18 = .ok (.iload_n 2, 1) := dk_28 (dk_at dksX0_become_0 18 rfl rfl)
theorem dX0_become_19 : decode cX0_become 19 = .ok (.bipush 10, 2) := dk_16 10 (dk_at dksX0_become_0 19 rfl rfl)
theorem dX0_become_21 : decode cX0_become 21 = .ok (.idiv, 1) := dk_108 (dk_at dksX0_become_0 21 rfl rfl)
theorem dX0_become_22 : decode cX0_become 22 = .ok (.aload_n 0, 1) := dk_42 (dk_at dksX0_become_0 22 rfl rfl)
theorem dX0_become_23 : decode cX0_become 23 = .ok (.getfield 59, 3) := dk_180 0 59 (dk_at dksX0_become_1 0 rfl rfl)
theorem dX0_become_26 : decode cX0_become 26 = .ok (.iload_n 1, 1) := dk_27 (dk_at dksX0_become_1 3 rfl rfl)
theorem dX0_become_27 : decode cX0_become 27 = .ok (.iload_n 2, 1) := dk_28 (dk_at dksX0_become_1 4 rfl rfl)
theorem dX0_become_28 : decode cX0_become 28 = .ok (.bipush 10, 2) := dk_16 10 (dk_at dksX0_become_1 5 rfl rfl)
theorem dX0_become_30 : decode cX0_become 30 = .ok (.irem, 1) := dk_112 (dk_at dksX0_become_1 7 rfl rfl)
theorem dX0_become_31 : decode cX0_become 31 = .ok (.invokestatic 139, 3) := dk_184 0 139 (dk_at dksX0_become_1 8 rfl rfl)
theorem dX0_become_34 : decode cX0_become 34 = .ok (.aastore, 1) := dk_83 (dk_at dksX0_become_1 11 rfl rfl)
theorem dX0_become_35 : decode cX0_become 35 = .ok (.aload_n 3, 1) := dk_45 (dk_at dksX0_become_1 12 rfl rfl)
theorem dX0_become_36 : decode cX0_become 36 = .ok (.invokevirtual 153, 3) := dk_182 0 153 (dk_at dksX0_become_1 13 rfl rfl)
theorem dX0_become_39 : decode cX0_become 39 = .ok (.ireturn, 1) := dk_172 (dk_at dksX0_become_1 16 rfl rfl)
theorem dX0_become_40 : decode cX0_become 40 = .ok (.astore_n 3, 1) := dk_78 (dk_at dksX0_become_1 17 rfl rfl)
theorem dX0_become_41 : decode cX0_become 41 = .ok (.aload_n 0, 1) := dk_42 (dk_at dksX0_become_1 18 rfl rfl)
theorem dX0_become_42 : decode cX0_become 42 = .ok (.aload_n 3, 1) := dk_45 (dk_at dksX0_become_1 19 rfl rfl)
theorem dX0_become_43 : decode cX0_become 43 = .ok (.invokevirtual 118, 3) := dk_182 0 118 (dk_at dksX0_become_1 20 rfl rfl)
theorem dX0_become_46 : decode cX0_become 46 = .ok (.ireturn, 1) := dk_172 (dk_at dksX0_become_1 23 rfl rfl)
abbrev cX0_as : ByteArray := prog_1_method_23_code
def yX0_as : MethodName := ⟨RX0, "as", "(II)I"⟩
def dkwX0_as_1 : List UInt8 := [180, 0, 157, 172, 78, 42, 45, 182, 0, 118, 172]
abbrev dktX0_as_1 : List UInt8 := dkwX0_as_1 ++ []
def dkwX0_as_0 : List UInt8 := [42, 27, 28, 3, 16, 6, 184, 0, 91, 182, 0, 149, 78, 42, 45, 28, 182, 0, 173, 8, 182, 0, 102, 45]
abbrev dktX0_as_0 : List UInt8 := dkwX0_as_0 ++ dktX0_as_1
theorem dksX0_as_0 : cX0_as.data.toList.drop 0 = dktX0_as_0 := by decide +kernel
theorem dksX0_as_1 : cX0_as.data.toList.drop 24 = dktX0_as_1 := dk_seg dksX0_as_0 24 rfl rfl
theorem dX0_as_0 : decode cX0_as 0 = .ok (.aload_n 0, 1) := dk_42 (dk_at dksX0_as_0 0 rfl rfl)
theorem dX0_as_1 : decode cX0_as 1 = .ok (.iload_n 1, 1) := dk_27 (dk_at dksX0_as_0 1 rfl rfl)
theorem dX0_as_2 : decode cX0_as 2 = .ok (.iload_n 2, 1) := dk_28 (dk_at dksX0_as_0 2 rfl rfl)
theorem dX0_as_3 : decode cX0_as 3 = .ok (.iconst 0, 1) := dk_3 (dk_at dksX0_as_0 3 rfl rfl)
theorem dX0_as_4 : decode cX0_as 4 = .ok (.bipush 6, 2) := dk_16 6 (dk_at dksX0_as_0 4 rfl rfl)
theorem dX0_as_6 : decode cX0_as 6 = .ok (.invokestatic 91, 3) := dk_184 0 91 (dk_at dksX0_as_0 6 rfl rfl)
theorem dX0_as_9 : decode cX0_as 9 = .ok (.invokevirtual 149, 3) := dk_182 0 149 (dk_at dksX0_as_0 9 rfl rfl)
theorem dX0_as_12 : decode cX0_as 12 = .ok (.astore_n 3, 1) := dk_78 (dk_at dksX0_as_0 12 rfl rfl)
theorem dX0_as_13 : decode cX0_as 13 = .ok (.aload_n 0, 1) := dk_42 (dk_at dksX0_as_0 13 rfl rfl)
theorem dX0_as_14 : decode cX0_as 14 = .ok (.aload_n 3, 1) := dk_45 (dk_at dksX0_as_0 14 rfl rfl)
theorem dX0_as_15 : decode cX0_as 15 = .ok (.iload_n 2, 1) := dk_28 (dk_at dksX0_as_0 15 rfl rfl)
theorem dX0_as_16 : decode cX0_as 16 = .ok (.invokevirtual 173, 3) := dk_182 0 173 (dk_at dksX0_as_0 16 rfl rfl)
theorem dX0_as_19 : decode cX0_as 19 = .ok (.iconst 5, 1) := dk_8 (dk_at dksX0_as_0 19 rfl rfl)
theorem dX0_as_20 : decode cX0_as 20 = .ok (.invokevirtual 102, 3) := dk_182 0 102 (dk_at dksX0_as_0 20 rfl rfl)
theorem dX0_as_23 : decode cX0_as 23 = .ok (.aload_n 3, 1) := dk_45 (dk_at dksX0_as_0 23 rfl rfl)
theorem dX0_as_24 : decode cX0_as 24 = .ok (.getfield 157, 3) := dk_180 0 157 (dk_at dksX0_as_1 0 rfl rfl)
theorem dX0_as_27 : decode cX0_as 27 = .ok (.ireturn, 1) := dk_172 (dk_at dksX0_as_1 3 rfl rfl)
theorem dX0_as_28 : decode cX0_as 28 = .ok (.astore_n 3, 1) := dk_78 (dk_at dksX0_as_1 4 rfl rfl)
theorem dX0_as_29 : decode cX0_as 29 = .ok (.aload_n 0, 1) := dk_42 (dk_at dksX0_as_1 5 rfl rfl)
theorem dX0_as_30 : decode cX0_as 30 = .ok (.aload_n 3, 1) := dk_45 (dk_at dksX0_as_1 6 rfl rfl)
theorem dX0_as_31 : decode cX0_as 31 = .ok (.invokevirtual 118, 3) := dk_182 0 118 (dk_at dksX0_as_1 7 rfl rfl)
theorem dX0_as_34 : decode cX0_as 34 = .ok (.ireturn, 1) := dk_172 (dk_at dksX0_as_1 10 rfl rfl)
abbrev cX0_put : ByteArray := prog_1_method_24_code
def yX0_put : MethodName := ⟨RX0, "put", "(II)I"⟩
def dkwX0_put_2 : List UInt8 := [172, 78, 42, 45, 182, 0, 118, 172]
abbrev dktX0_put_2 : List UInt8 := dkwX0_put_2 ++ []
def dkwX0_put_1 : List UInt8 := [182, 0, 102, 42, 180, 0, 46, 180, 0, 122, 27, 46, 62, 42, 180, 0, 46, 180, 0, 122, 27, 28, 79, 29]
abbrev dktX0_put_1 : List UInt8 := dkwX0_put_1 ++ dktX0_put_2
def dkwX0_put_0 : List UInt8 := [42, 42, 27, 182, 0, 146, 153, 0, 14, 28, 184, 0, 108, 153, 0, 7, 4, 167, 0, 4, 3, 4]
abbrev dktX0_put_0 : List UInt8 := dkwX0_put_0 ++ dktX0_put_1
theorem dksX0_put_0 : cX0_put.data.toList.drop 0 = dktX0_put_0 := by decide +kernel
theorem dksX0_put_1 : cX0_put.data.toList.drop 22 = dktX0_put_1 := dk_seg dksX0_put_0 22 rfl rfl
theorem dksX0_put_2 : cX0_put.data.toList.drop 46 = dktX0_put_2 := dk_seg dksX0_put_1 24 rfl rfl
theorem dX0_put_0 : decode cX0_put 0 = .ok (.aload_n 0, 1) := dk_42 (dk_at dksX0_put_0 0 rfl rfl)
theorem dX0_put_1 : decode cX0_put 1 = .ok (.aload_n 0, 1) := dk_42 (dk_at dksX0_put_0 1 rfl rfl)
theorem dX0_put_2 : decode cX0_put 2 = .ok (.iload_n 1, 1) := dk_27 (dk_at dksX0_put_0 2 rfl rfl)
theorem dX0_put_3 : decode cX0_put 3 = .ok (.invokevirtual 146, 3) := dk_182 0 146 (dk_at dksX0_put_0 3 rfl rfl)
theorem dX0_put_6 : decode cX0_put 6 = .ok (.ifCond .eq 14, 3) := dk_153 0 14 (dk_at dksX0_put_0 6 rfl rfl)
theorem dX0_put_9 : decode cX0_put 9 = .ok (.iload_n 2, 1) := dk_28 (dk_at dksX0_put_0 9 rfl rfl)
theorem dX0_put_10 : decode cX0_put 10 = .ok (.invokestatic 108, 3) := dk_184 0 108 (dk_at dksX0_put_0 10 rfl rfl)
theorem dX0_put_13 : decode cX0_put 13 = .ok (.ifCond .eq 7, 3) := dk_153 0 7 (dk_at dksX0_put_0 13 rfl rfl)
theorem dX0_put_16 : decode cX0_put 16 = .ok (.iconst 1, 1) := dk_4 (dk_at dksX0_put_0 16 rfl rfl)
theorem dX0_put_17 : decode cX0_put 17 = .ok (.goto 4, 3) := dk_167 0 4 (dk_at dksX0_put_0 17 rfl rfl)
theorem dX0_put_20 : decode cX0_put 20 = .ok (.iconst 0, 1) := dk_3 (dk_at dksX0_put_0 20 rfl rfl)
theorem dX0_put_21 : decode cX0_put 21 = .ok (.iconst 1, 1) := dk_4 (dk_at dksX0_put_0 21 rfl rfl)
theorem dX0_put_22 : decode cX0_put 22 = .ok (.invokevirtual 102, 3) := dk_182 0 102 (dk_at dksX0_put_1 0 rfl rfl)
theorem dX0_put_25 : decode cX0_put 25 = .ok (.aload_n 0, 1) := dk_42 (dk_at dksX0_put_1 3 rfl rfl)
theorem dX0_put_26 : decode cX0_put 26 = .ok (.getfield 46, 3) := dk_180 0 46 (dk_at dksX0_put_1 4 rfl rfl)
theorem dX0_put_29 : decode cX0_put 29 = .ok (.getfield 122, 3) := dk_180 0 122 (dk_at dksX0_put_1 7 rfl rfl)
theorem dX0_put_32 : decode cX0_put 32 = .ok (.iload_n 1, 1) := dk_27 (dk_at dksX0_put_1 10 rfl rfl)
theorem dX0_put_33 : decode cX0_put 33 = .ok (.iaload, 1) := dk_46 (dk_at dksX0_put_1 11 rfl rfl)
theorem dX0_put_34 : decode cX0_put 34 = .ok (.istore_n 3, 1) := dk_62 (dk_at dksX0_put_1 12 rfl rfl)
theorem dX0_put_35 : decode cX0_put 35 = .ok (.aload_n 0, 1) := dk_42 (dk_at dksX0_put_1 13 rfl rfl)
theorem dX0_put_36 : decode cX0_put 36 = .ok (.getfield 46, 3) := dk_180 0 46 (dk_at dksX0_put_1 14 rfl rfl)
theorem dX0_put_39 : decode cX0_put 39 = .ok (.getfield 122, 3) := dk_180 0 122 (dk_at dksX0_put_1 17 rfl rfl)
theorem dX0_put_42 : decode cX0_put 42 = .ok (.iload_n 1, 1) := dk_27 (dk_at dksX0_put_1 20 rfl rfl)
theorem dX0_put_43 : decode cX0_put 43 = .ok (.iload_n 2, 1) := dk_28 (dk_at dksX0_put_1 21 rfl rfl)
theorem dX0_put_44 : decode cX0_put 44 = .ok (.iastore, 1) := dk_79 (dk_at dksX0_put_1 22 rfl rfl)
theorem dX0_put_45 : decode cX0_put 45 = .ok (.iload_n 3, 1) := dk_29 (dk_at dksX0_put_1 23 rfl rfl)
theorem dX0_put_46 : decode cX0_put 46 = .ok (.ireturn, 1) := dk_172 (dk_at dksX0_put_2 0 rfl rfl)
theorem dX0_put_47 : decode cX0_put 47 = .ok (.astore_n 3, 1) := dk_78 (dk_at dksX0_put_2 1 rfl rfl)
theorem dX0_put_48 : decode cX0_put 48 = .ok (.aload_n 0, 1) := dk_42 (dk_at dksX0_put_2 2 rfl rfl)
theorem dX0_put_49 : decode cX0_put 49 = .ok (.aload_n 3, 1) := dk_45 (dk_at dksX0_put_2 3 rfl rfl)
theorem dX0_put_50 : decode cX0_put 50 = .ok (.invokevirtual 118, 3) := dk_182 0 118 (dk_at dksX0_put_2 4 rfl rfl)
theorem dX0_put_53 : decode cX0_put 53 = .ok (.ireturn, 1) := dk_172 (dk_at dksX0_put_2 7 rfl rfl)
abbrev cX0_dry : ByteArray := prog_1_method_25_code
def yX0_dry : MethodName := ⟨RX0, "dry", "(I)I"⟩
def dkwX0_dry_1 : List UInt8 := [180, 0, 143, 27, 3, 79, 28, 172, 77, 42, 44, 182, 0, 118, 172]
abbrev dktX0_dry_1 : List UInt8 := dkwX0_dry_1 ++ []
def dkwX0_dry_0 : List UInt8 := [42, 42, 27, 182, 0, 146, 4, 182, 0, 102, 42, 180, 0, 46, 180, 0, 143, 27, 46, 61, 42, 180, 0, 46]
abbrev dktX0_dry_0 : List UInt8 := dkwX0_dry_0 ++ dktX0_dry_1
theorem dksX0_dry_0 : cX0_dry.data.toList.drop 0 = dktX0_dry_0 := by decide +kernel
theorem dksX0_dry_1 : cX0_dry.data.toList.drop 24 = dktX0_dry_1 := dk_seg dksX0_dry_0 24 rfl rfl
theorem dX0_dry_0 : decode cX0_dry 0 = .ok (.aload_n 0, 1) := dk_42 (dk_at dksX0_dry_0 0 rfl rfl)
theorem dX0_dry_1 : decode cX0_dry 1 = .ok (.aload_n 0, 1) := dk_42 (dk_at dksX0_dry_0 1 rfl rfl)
theorem dX0_dry_2 : decode cX0_dry 2 = .ok (.iload_n 1, 1) := dk_27 (dk_at dksX0_dry_0 2 rfl rfl)
theorem dX0_dry_3 : decode cX0_dry 3 = .ok (.invokevirtual 146, 3) := dk_182 0 146 (dk_at dksX0_dry_0 3 rfl rfl)
theorem dX0_dry_6 : decode cX0_dry 6 = .ok (.iconst 1, 1) := dk_4 (dk_at dksX0_dry_0 6 rfl rfl)
theorem dX0_dry_7 : decode cX0_dry 7 = .ok (.invokevirtual 102, 3) := dk_182 0 102 (dk_at dksX0_dry_0 7 rfl rfl)
theorem dX0_dry_10 : decode cX0_dry 10 = .ok (.aload_n 0, 1) := dk_42 (dk_at dksX0_dry_0 10 rfl rfl)
theorem dX0_dry_11 : decode cX0_dry 11 = .ok (.getfield 46, 3) := dk_180 0 46 (dk_at dksX0_dry_0 11 rfl rfl)
theorem dX0_dry_14 : decode cX0_dry 14 = .ok (.getfield 143, 3) := dk_180 0 143 (dk_at dksX0_dry_0 14 rfl rfl)
theorem dX0_dry_17 : decode cX0_dry 17 = .ok (.iload_n 1, 1) := dk_27 (dk_at dksX0_dry_0 17 rfl rfl)
theorem dX0_dry_18 : decode cX0_dry 18 = .ok (.iaload, 1) := dk_46 (dk_at dksX0_dry_0 18 rfl rfl)
theorem dX0_dry_19 : decode cX0_dry 19 = .ok (.istore_n 2, 1) := dk_61 (dk_at dksX0_dry_0 19 rfl rfl)
theorem dX0_dry_20 : decode cX0_dry 20 = .ok (.aload_n 0, 1) := dk_42 (dk_at dksX0_dry_0 20 rfl rfl)
theorem dX0_dry_21 : decode cX0_dry 21 = .ok (.getfield 46, 3) := dk_180 0 46 (dk_at dksX0_dry_0 21 rfl rfl)
theorem dX0_dry_24 : decode cX0_dry 24 = .ok (.getfield 143, 3) := dk_180 0 143 (dk_at dksX0_dry_1 0 rfl rfl)
theorem dX0_dry_27 : decode cX0_dry 27 = .ok (.iload_n 1, 1) := dk_27 (dk_at dksX0_dry_1 3 rfl rfl)
theorem dX0_dry_28 : decode cX0_dry 28 = .ok (.iconst 0, 1) := dk_3 (dk_at dksX0_dry_1 4 rfl rfl)
theorem dX0_dry_29 : decode cX0_dry 29 = .ok (.iastore, 1) := dk_79 (dk_at dksX0_dry_1 5 rfl rfl)
theorem dX0_dry_30 : decode cX0_dry 30 = .ok (.iload_n 2, 1) := dk_28 (dk_at dksX0_dry_1 6 rfl rfl)
theorem dX0_dry_31 : decode cX0_dry 31 = .ok (.ireturn, 1) := dk_172 (dk_at dksX0_dry_1 7 rfl rfl)
theorem dX0_dry_32 : decode cX0_dry 32 = .ok (.astore_n 2, 1) := dk_77 (dk_at dksX0_dry_1 8 rfl rfl)
theorem dX0_dry_33 : decode cX0_dry 33 = .ok (.aload_n 0, 1) := dk_42 (dk_at dksX0_dry_1 9 rfl rfl)
theorem dX0_dry_34 : decode cX0_dry 34 = .ok (.aload_n 2, 1) := dk_44 (dk_at dksX0_dry_1 10 rfl rfl)
theorem dX0_dry_35 : decode cX0_dry 35 = .ok (.invokevirtual 118, 3) := dk_182 0 118 (dk_at dksX0_dry_1 11 rfl rfl)
theorem dX0_dry_38 : decode cX0_dry 38 = .ok (.ireturn, 1) := dk_172 (dk_at dksX0_dry_1 14 rfl rfl)
abbrev cX0_feed : ByteArray := prog_1_method_26_code
def yX0_feed : MethodName := ⟨RX0, "feed", "(JI)I"⟩
def dkwX0_feed_4 : List UInt8 := [180, 0, 176, 172, 58, 4, 42, 25, 4, 182, 0, 118, 172]
abbrev dktX0_feed_4 : List UInt8 := dkwX0_feed_4 ++ []
def dkwX0_feed_3 : List UInt8 := [180, 0, 46, 89, 180, 0, 176, 4, 96, 181, 0, 176, 132, 4, 1, 167, 255, 210, 42, 180, 0, 46]
abbrev dktX0_feed_3 : List UInt8 := dkwX0_feed_3 ++ dktX0_feed_4
def dkwX0_feed_2 : List UInt8 := [180, 0, 46, 180, 0, 179, 42, 180, 0, 46, 180, 0, 176, 31, 16, 8, 21, 4, 104, 123, 136, 145, 84, 42]
abbrev dktX0_feed_2 : List UInt8 := dkwX0_feed_2 ++ dktX0_feed_3
def dkwX0_feed_1 : List UInt8 := [163, 0, 7, 4, 167, 0, 4, 3, 7, 182, 0, 102, 3, 54, 4, 21, 4, 29, 162, 0, 46, 42]
abbrev dktX0_feed_1 : List UInt8 := dkwX0_feed_1 ++ dktX0_feed_2
def dkwX0_feed_0 : List UInt8 := [42, 29, 4, 16, 8, 184, 0, 91, 4, 182, 0, 102, 42, 42, 180, 0, 46, 180, 0, 176, 29, 96, 16, 50]
abbrev dktX0_feed_0 : List UInt8 := dkwX0_feed_0 ++ dktX0_feed_1
theorem dksX0_feed_0 : cX0_feed.data.toList.drop 0 = dktX0_feed_0 := by decide +kernel
theorem dksX0_feed_1 : cX0_feed.data.toList.drop 24 = dktX0_feed_1 := dk_seg dksX0_feed_0 24 rfl rfl
theorem dksX0_feed_2 : cX0_feed.data.toList.drop 46 = dktX0_feed_2 := dk_seg dksX0_feed_1 22 rfl rfl
theorem dksX0_feed_3 : cX0_feed.data.toList.drop 70 = dktX0_feed_3 := dk_seg dksX0_feed_2 24 rfl rfl
theorem dksX0_feed_4 : cX0_feed.data.toList.drop 92 = dktX0_feed_4 := dk_seg dksX0_feed_3 22 rfl rfl
theorem dX0_feed_0 : decode cX0_feed 0 = .ok (.aload_n 0, 1) := dk_42 (dk_at dksX0_feed_0 0 rfl rfl)
theorem dX0_feed_1 : decode cX0_feed 1 = .ok (.iload_n 3, 1) := dk_29 (dk_at dksX0_feed_0 1 rfl rfl)
theorem dX0_feed_2 : decode cX0_feed 2 = .ok (.iconst 1, 1) := dk_4 (dk_at dksX0_feed_0 2 rfl rfl)
theorem dX0_feed_3 : decode cX0_feed 3 = .ok (.bipush 8, 2) := dk_16 8 (dk_at dksX0_feed_0 3 rfl rfl)
theorem dX0_feed_5 : decode cX0_feed 5 = .ok (.invokestatic 91, 3) := dk_184 0 91 (dk_at dksX0_feed_0 5 rfl rfl)
theorem dX0_feed_8 : decode cX0_feed 8 = .ok (.iconst 1, 1) := dk_4 (dk_at dksX0_feed_0 8 rfl rfl)
theorem dX0_feed_9 : decode cX0_feed 9 = .ok (.invokevirtual 102, 3) := dk_182 0 102 (dk_at dksX0_feed_0 9 rfl rfl)
theorem dX0_feed_12 : decode cX0_feed 12 = .ok (.aload_n 0, 1) := dk_42 (dk_at dksX0_feed_0 12 rfl rfl)
theorem dX0_feed_13 : decode cX0_feed 13 = .ok (.aload_n 0, 1) := dk_42 (dk_at dksX0_feed_0 13 rfl rfl)
theorem dX0_feed_14 : decode cX0_feed 14 = .ok (.getfield 46, 3) := dk_180 0 46 (dk_at dksX0_feed_0 14 rfl rfl)
theorem dX0_feed_17 : decode cX0_feed 17 = .ok (.getfield 176, 3) := dk_180 0 176 (dk_at dksX0_feed_0 17 rfl rfl)
theorem dX0_feed_20 : decode cX0_feed 20 = .ok (.iload_n 3, 1) := dk_29 (dk_at dksX0_feed_0 20 rfl rfl)
theorem dX0_feed_21 : decode cX0_feed 21 = .ok (.iadd, 1) := dk_96 (dk_at dksX0_feed_0 21 rfl rfl)
theorem dX0_feed_22 : decode cX0_feed 22 = .ok (.bipush 50, 2) := dk_16 50 (dk_at dksX0_feed_0 22 rfl rfl)
theorem dX0_feed_24 : decode cX0_feed 24 = .ok (.if_icmp .gt 7, 3) := dk_163 0 7 (dk_at dksX0_feed_1 0 rfl rfl)
theorem dX0_feed_27 : decode cX0_feed 27 = .ok (.iconst 1, 1) := dk_4 (dk_at dksX0_feed_1 3 rfl rfl)
theorem dX0_feed_28 : decode cX0_feed 28 = .ok (.goto 4, 3) := dk_167 0 4 (dk_at dksX0_feed_1 4 rfl rfl)
theorem dX0_feed_31 : decode cX0_feed 31 = .ok (.iconst 0, 1) := dk_3 (dk_at dksX0_feed_1 7 rfl rfl)
theorem dX0_feed_32 : decode cX0_feed 32 = .ok (.iconst 4, 1) := dk_7 (dk_at dksX0_feed_1 8 rfl rfl)
theorem dX0_feed_33 : decode cX0_feed 33 = .ok (.invokevirtual 102, 3) := dk_182 0 102 (dk_at dksX0_feed_1 9 rfl rfl)
theorem dX0_feed_36 : decode cX0_feed 36 = .ok (.iconst 0, 1) := dk_3 (dk_at dksX0_feed_1 12 rfl rfl)
theorem dX0_feed_37 : decode cX0_feed 37 = .ok (.istore 4, 2) := dk_54 4 (dk_at dksX0_feed_1 13 rfl rfl)
theorem dX0_feed_39 : decode cX0_feed 39 = .ok (.iload 4, 2) := dk_21 4 (dk_at dksX0_feed_1 15 rfl rfl)
theorem dX0_feed_41 : decode cX0_feed 41 = .ok (.iload_n 3, 1) := dk_29 (dk_at dksX0_feed_1 17 rfl rfl)
theorem dX0_feed_42 : decode cX0_feed 42 = .ok (.if_icmp .ge 46, 3) := dk_162 0 46 (dk_at dksX0_feed_1 18 rfl rfl)
theorem dX0_feed_45 : decode cX0_feed 45 = .ok (.aload_n 0, 1) := dk_42 (dk_at dksX0_feed_1 21 rfl rfl)
theorem dX0_feed_46 : decode cX0_feed 46 = .ok (.getfield 46, 3) := dk_180 0 46 (dk_at dksX0_feed_2 0 rfl rfl)
theorem dX0_feed_49 : decode cX0_feed 49 = .ok (.getfield 179, 3) := dk_180 0 179 (dk_at dksX0_feed_2 3 rfl rfl)
theorem dX0_feed_52 : decode cX0_feed 52 = .ok (.aload_n 0, 1) := dk_42 (dk_at dksX0_feed_2 6 rfl rfl)
theorem dX0_feed_53 : decode cX0_feed 53 = .ok (.getfield 46, 3) := dk_180 0 46 (dk_at dksX0_feed_2 7 rfl rfl)
theorem dX0_feed_56 : decode cX0_feed 56 = .ok (.getfield 176, 3) := dk_180 0 176 (dk_at dksX0_feed_2 10 rfl rfl)
theorem dX0_feed_59 : decode cX0_feed 59 = .ok (.lload_n 1, 1) := dk_31 (dk_at dksX0_feed_2 13 rfl rfl)
theorem dX0_feed_60 : decode cX0_feed 60 = .ok (.bipush 8, 2) := dk_16 8 (dk_at dksX0_feed_2 14 rfl rfl)
theorem dX0_feed_62 : decode cX0_feed 62 = .ok (.iload 4, 2) := dk_21 4 (dk_at dksX0_feed_2 16 rfl rfl)
theorem dX0_feed_64 : decode cX0_feed 64 = .ok (.imul, 1) := dk_104 (dk_at dksX0_feed_2 18 rfl rfl)
theorem dX0_feed_65 : decode cX0_feed 65 = .ok (.lshr, 1) := dk_123 (dk_at dksX0_feed_2 19 rfl rfl)
theorem dX0_feed_66 : decode cX0_feed 66 = .ok (.l2i, 1) := dk_136 (dk_at dksX0_feed_2 20 rfl rfl)
theorem dX0_feed_67 : decode cX0_feed 67 = .ok (.i2b, 1) := dk_145 (dk_at dksX0_feed_2 21 rfl rfl)
theorem dX0_feed_68 : decode cX0_feed 68 = .ok (.bastore, 1) := dk_84 (dk_at dksX0_feed_2 22 rfl rfl)
theorem dX0_feed_69 : decode cX0_feed 69 = .ok (.aload_n 0, 1) := dk_42 (dk_at dksX0_feed_2 23 rfl rfl)
theorem dX0_feed_70 : decode cX0_feed 70 = .ok (.getfield 46, 3) := dk_180 0 46 (dk_at dksX0_feed_3 0 rfl rfl)
theorem dX0_feed_73 : decode cX0_feed 73 = .ok (.dup, 1) := dk_89 (dk_at dksX0_feed_3 3 rfl rfl)
theorem dX0_feed_74 : decode cX0_feed 74 = .ok (.getfield 176, 3) := dk_180 0 176 (dk_at dksX0_feed_3 4 rfl rfl)
theorem dX0_feed_77 : decode cX0_feed 77 = .ok (.iconst 1, 1) := dk_4 (dk_at dksX0_feed_3 7 rfl rfl)
theorem dX0_feed_78 : decode cX0_feed 78 = .ok (.iadd, 1) := dk_96 (dk_at dksX0_feed_3 8 rfl rfl)
theorem dX0_feed_79 : decode cX0_feed 79 = .ok (.putfield 176, 3) := dk_181 0 176 (dk_at dksX0_feed_3 9 rfl rfl)
theorem dX0_feed_82 : decode cX0_feed 82 = .ok (.iinc 4 1, 3) := dk_132 4 1 (dk_at dksX0_feed_3 12 rfl rfl)
theorem dX0_feed_85 : decode cX0_feed 85 = .ok (.goto (-46), 3) := dk_167 255 210 (dk_at dksX0_feed_3 15 rfl rfl)
theorem dX0_feed_88 : decode cX0_feed 88 = .ok (.aload_n 0, 1) := dk_42 (dk_at dksX0_feed_3 18 rfl rfl)
theorem dX0_feed_89 : decode cX0_feed 89 = .ok (.getfield 46, 3) := dk_180 0 46 (dk_at dksX0_feed_3 19 rfl rfl)
theorem dX0_feed_92 : decode cX0_feed 92 = .ok (.getfield 176, 3) := dk_180 0 176 (dk_at dksX0_feed_4 0 rfl rfl)
theorem dX0_feed_95 : decode cX0_feed 95 = .ok (.ireturn, 1) := dk_172 (dk_at dksX0_feed_4 3 rfl rfl)
theorem dX0_feed_96 : decode cX0_feed 96 = .ok (.astore 4, 2) := dk_58 4 (dk_at dksX0_feed_4 4 rfl rfl)
theorem dX0_feed_98 : decode cX0_feed 98 = .ok (.aload_n 0, 1) := dk_42 (dk_at dksX0_feed_4 6 rfl rfl)
theorem dX0_feed_99 : decode cX0_feed 99 = .ok (.aload 4, 2) := dk_25 4 (dk_at dksX0_feed_4 7 rfl rfl)
theorem dX0_feed_101 : decode cX0_feed 101 = .ok (.invokevirtual 118, 3) := dk_182 0 118 (dk_at dksX0_feed_4 9 rfl rfl)
theorem dX0_feed_104 : decode cX0_feed 104 = .ok (.ireturn, 1) := dk_172 (dk_at dksX0_feed_4 12 rfl rfl)
abbrev cX0_text : ByteArray := prog_1_method_27_code
def yX0_text : MethodName := ⟨RX0, "text", "(I)I"⟩
def dkwX0_text_3 : List UInt8 := [180, 0, 202, 100, 172, 77, 42, 44, 182, 0, 118, 172]
abbrev dktX0_text_3 : List UInt8 := dkwX0_text_3 ++ []
def dkwX0_text_2 : List UInt8 := [18, 191, 42, 180, 0, 46, 180, 0, 179, 28, 183, 0, 193, 182, 0, 196, 83, 4, 172, 77, 16, 246, 44]
abbrev dktX0_text_2 : List UInt8 := dkwX0_text_2 ++ dktX0_text_3
def dkwX0_text_1 : List UInt8 := [181, 0, 176, 42, 180, 0, 46, 180, 0, 183, 27, 187, 0, 187, 89, 27, 154, 0, 8, 18, 189, 167, 0, 5]
abbrev dktX0_text_1 : List UInt8 := dkwX0_text_1 ++ dktX0_text_2
def dkwX0_text_0 : List UInt8 := [42, 27, 3, 4, 184, 0, 91, 4, 182, 0, 102, 42, 180, 0, 46, 180, 0, 176, 61, 42, 180, 0, 46, 3]
abbrev dktX0_text_0 : List UInt8 := dkwX0_text_0 ++ dktX0_text_1
theorem dksX0_text_0 : cX0_text.data.toList.drop 0 = dktX0_text_0 := by decide +kernel
theorem dksX0_text_1 : cX0_text.data.toList.drop 24 = dktX0_text_1 := dk_seg dksX0_text_0 24 rfl rfl
theorem dksX0_text_2 : cX0_text.data.toList.drop 48 = dktX0_text_2 := dk_seg dksX0_text_1 24 rfl rfl
theorem dksX0_text_3 : cX0_text.data.toList.drop 71 = dktX0_text_3 := dk_seg dksX0_text_2 23 rfl rfl
theorem dX0_text_0 : decode cX0_text 0 = .ok (.aload_n 0, 1) := dk_42 (dk_at dksX0_text_0 0 rfl rfl)
theorem dX0_text_1 : decode cX0_text 1 = .ok (.iload_n 1, 1) := dk_27 (dk_at dksX0_text_0 1 rfl rfl)
theorem dX0_text_2 : decode cX0_text 2 = .ok (.iconst 0, 1) := dk_3 (dk_at dksX0_text_0 2 rfl rfl)
theorem dX0_text_3 : decode cX0_text 3 = .ok (.iconst 1, 1) := dk_4 (dk_at dksX0_text_0 3 rfl rfl)
theorem dX0_text_4 : decode cX0_text 4 = .ok (.invokestatic 91, 3) := dk_184 0 91 (dk_at dksX0_text_0 4 rfl rfl)
theorem dX0_text_7 : decode cX0_text 7 = .ok (.iconst 1, 1) := dk_4 (dk_at dksX0_text_0 7 rfl rfl)
theorem dX0_text_8 : decode cX0_text 8 = .ok (.invokevirtual 102, 3) := dk_182 0 102 (dk_at dksX0_text_0 8 rfl rfl)
theorem dX0_text_11 : decode cX0_text 11 = .ok (.aload_n 0, 1) := dk_42 (dk_at dksX0_text_0 11 rfl rfl)
theorem dX0_text_12 : decode cX0_text 12 = .ok (.getfield 46, 3) := dk_180 0 46 (dk_at dksX0_text_0 12 rfl rfl)
theorem dX0_text_15 : decode cX0_text 15 = .ok (.getfield 176, 3) := dk_180 0 176 (dk_at dksX0_text_0 15 rfl rfl)
theorem dX0_text_18 : decode cX0_text 18 = .ok (.istore_n 2, 1) := dk_61 (dk_at dksX0_text_0 18 rfl rfl)
theorem dX0_text_19 : decode cX0_text 19 = .ok (.aload_n 0, 1) := dk_42 (dk_at dksX0_text_0 19 rfl rfl)
theorem dX0_text_20 : decode cX0_text 20 = .ok (.getfield 46, 3) := dk_180 0 46 (dk_at dksX0_text_0 20 rfl rfl)
theorem dX0_text_23 : decode cX0_text 23 = .ok (.iconst 0, 1) := dk_3 (dk_at dksX0_text_0 23 rfl rfl)
theorem dX0_text_24 : decode cX0_text 24 = .ok (.putfield 176, 3) := dk_181 0 176 (dk_at dksX0_text_1 0 rfl rfl)
theorem dX0_text_27 : decode cX0_text 27 = .ok (.aload_n 0, 1) := dk_42 (dk_at dksX0_text_1 3 rfl rfl)
theorem dX0_text_28 : decode cX0_text 28 = .ok (.getfield 46, 3) := dk_180 0 46 (dk_at dksX0_text_1 4 rfl rfl)
theorem dX0_text_31 : decode cX0_text 31 = .ok (.getfield 183, 3) := dk_180 0 183 (dk_at dksX0_text_1 7 rfl rfl)
theorem dX0_text_34 : decode cX0_text 34 = .ok (.iload_n 1, 1) := dk_27 (dk_at dksX0_text_1 10 rfl rfl)
theorem dX0_text_35 : decode cX0_text 35 = .ok (.new 187, 3) := dk_187 0 187 (dk_at dksX0_text_1 11 rfl rfl)
theorem dX0_text_38 : decode cX0_text 38 = .ok (.dup, 1) := dk_89 (dk_at dksX0_text_1 14 rfl rfl)
theorem dX0_text_39 : decode cX0_text 39 = .ok (.iload_n 1, 1) := dk_27 (dk_at dksX0_text_1 15 rfl rfl)
theorem dX0_text_40 : decode cX0_text 40 = .ok (.ifCond .ne 8, 3) := dk_154 0 8 (dk_at dksX0_text_1 16 rfl rfl)
theorem dX0_text_43 : decode cX0_text 43 = .ok (.ldc 189, 2) := dk_18 189 (dk_at dksX0_text_1 19 rfl rfl)
theorem dX0_text_45 : decode cX0_text 45 = .ok (.goto 5, 3) := dk_167 0 5 (dk_at dksX0_text_1 21 rfl rfl)
theorem dX0_text_48 : decode cX0_text 48 = .ok (.ldc 191, 2) := dk_18 191 (dk_at dksX0_text_2 0 rfl rfl)
theorem dX0_text_50 : decode cX0_text 50 = .ok (.aload_n 0, 1) := dk_42 (dk_at dksX0_text_2 2 rfl rfl)
theorem dX0_text_51 : decode cX0_text 51 = .ok (.getfield 46, 3) := dk_180 0 46 (dk_at dksX0_text_2 3 rfl rfl)
theorem dX0_text_54 : decode cX0_text 54 = .ok (.getfield 179, 3) := dk_180 0 179 (dk_at dksX0_text_2 6 rfl rfl)
theorem dX0_text_57 : decode cX0_text 57 = .ok (.iload_n 2, 1) := dk_28 (dk_at dksX0_text_2 9 rfl rfl)
theorem dX0_text_58 : decode cX0_text 58 = .ok (.invokespecial 193, 3) := dk_183 0 193 (dk_at dksX0_text_2 10 rfl rfl)
theorem dX0_text_61 : decode cX0_text 61 = .ok (.invokevirtual 196, 3) := dk_182 0 196 (dk_at dksX0_text_2 13 rfl rfl)
theorem dX0_text_64 : decode cX0_text 64 = .ok (.aastore, 1) := dk_83 (dk_at dksX0_text_2 16 rfl rfl)
theorem dX0_text_65 : decode cX0_text 65 = .ok (.iconst 1, 1) := dk_4 (dk_at dksX0_text_2 17 rfl rfl)
theorem dX0_text_66 : decode cX0_text 66 = .ok (.ireturn, 1) := dk_172 (dk_at dksX0_text_2 18 rfl rfl)
theorem dX0_text_67 : decode cX0_text 67 = .ok (.astore_n 2, 1) := dk_77 (dk_at dksX0_text_2 19 rfl rfl)
theorem dX0_text_68 : decode cX0_text 68 = .ok (.bipush (-10), 2) := dk_16 246 (dk_at dksX0_text_2 20 rfl rfl)
theorem dX0_text_70 : decode cX0_text 70 = .ok (.aload_n 2, 1) := dk_44 (dk_at dksX0_text_2 22 rfl rfl)
theorem dX0_text_71 : decode cX0_text 71 = .ok (.getfield 202, 3) := dk_180 0 202 (dk_at dksX0_text_3 0 rfl rfl)
theorem dX0_text_74 : decode cX0_text 74 = .ok (.isub, 1) := dk_100 (dk_at dksX0_text_3 3 rfl rfl)
theorem dX0_text_75 : decode cX0_text 75 = .ok (.ireturn, 1) := dk_172 (dk_at dksX0_text_3 4 rfl rfl)
theorem dX0_text_76 : decode cX0_text 76 = .ok (.astore_n 2, 1) := dk_77 (dk_at dksX0_text_3 5 rfl rfl)
theorem dX0_text_77 : decode cX0_text 77 = .ok (.aload_n 0, 1) := dk_42 (dk_at dksX0_text_3 6 rfl rfl)
theorem dX0_text_78 : decode cX0_text 78 = .ok (.aload_n 2, 1) := dk_44 (dk_at dksX0_text_3 7 rfl rfl)
theorem dX0_text_79 : decode cX0_text 79 = .ok (.invokevirtual 118, 3) := dk_182 0 118 (dk_at dksX0_text_3 8 rfl rfl)
theorem dX0_text_82 : decode cX0_text 82 = .ok (.ireturn, 1) := dk_172 (dk_at dksX0_text_3 11 rfl rfl)
abbrev cX0_law : ByteArray := prog_1_method_28_code
def yX0_law : MethodName := ⟨RX0, "law", "(IIII)I"⟩
def dkwX0_law_2 : List UInt8 := [182, 0, 118, 172]
abbrev dktX0_law_2 : List UInt8 := dkwX0_law_2 ++ []
def dkwX0_law_1 : List UInt8 := [182, 0, 205, 167, 0, 14, 42, 180, 0, 46, 28, 29, 21, 4, 182, 0, 209, 172, 58, 5, 42, 25, 5]
abbrev dktX0_law_1 : List UInt8 := dkwX0_law_1 ++ dktX0_law_2
def dkwX0_law_0 : List UInt8 := [42, 27, 3, 4, 184, 0, 91, 4, 182, 0, 102, 27, 154, 0, 17, 42, 180, 0, 46, 28, 29, 21, 4]
abbrev dktX0_law_0 : List UInt8 := dkwX0_law_0 ++ dktX0_law_1
theorem dksX0_law_0 : cX0_law.data.toList.drop 0 = dktX0_law_0 := by decide +kernel
theorem dksX0_law_1 : cX0_law.data.toList.drop 23 = dktX0_law_1 := dk_seg dksX0_law_0 23 rfl rfl
theorem dksX0_law_2 : cX0_law.data.toList.drop 46 = dktX0_law_2 := dk_seg dksX0_law_1 23 rfl rfl
theorem dX0_law_0 : decode cX0_law 0 = .ok (.aload_n 0, 1) := dk_42 (dk_at dksX0_law_0 0 rfl rfl)
theorem dX0_law_1 : decode cX0_law 1 = .ok (.iload_n 1, 1) := dk_27 (dk_at dksX0_law_0 1 rfl rfl)
theorem dX0_law_2 : decode cX0_law 2 = .ok (.iconst 0, 1) := dk_3 (dk_at dksX0_law_0 2 rfl rfl)
theorem dX0_law_3 : decode cX0_law 3 = .ok (.iconst 1, 1) := dk_4 (dk_at dksX0_law_0 3 rfl rfl)
theorem dX0_law_4 : decode cX0_law 4 = .ok (.invokestatic 91, 3) := dk_184 0 91 (dk_at dksX0_law_0 4 rfl rfl)
theorem dX0_law_7 : decode cX0_law 7 = .ok (.iconst 1, 1) := dk_4 (dk_at dksX0_law_0 7 rfl rfl)
theorem dX0_law_8 : decode cX0_law 8 = .ok (.invokevirtual 102, 3) := dk_182 0 102 (dk_at dksX0_law_0 8 rfl rfl)
theorem dX0_law_11 : decode cX0_law 11 = .ok (.iload_n 1, 1) := dk_27 (dk_at dksX0_law_0 11 rfl rfl)
theorem dX0_law_12 : decode cX0_law 12 = .ok (.ifCond .ne 17, 3) := dk_154 0 17 (dk_at dksX0_law_0 12 rfl rfl)
theorem dX0_law_15 : decode cX0_law 15 = .ok (.aload_n 0, 1) := dk_42 (dk_at dksX0_law_0 15 rfl rfl)
theorem dX0_law_16 : decode cX0_law 16 = .ok (.getfield 46, 3) := dk_180 0 46 (dk_at dksX0_law_0 16 rfl rfl)
theorem dX0_law_19 : decode cX0_law 19 = .ok (.iload_n 2, 1) := dk_28 (dk_at dksX0_law_0 19 rfl rfl)
theorem dX0_law_20 : decode cX0_law 20 = .ok (.iload_n 3, 1) := dk_29 (dk_at dksX0_law_0 20 rfl rfl)
theorem dX0_law_21 : decode cX0_law 21 = .ok (.iload 4, 2) := dk_21 4 (dk_at dksX0_law_0 21 rfl rfl)
theorem dX0_law_23 : decode cX0_law 23 = .ok (.invokevirtual 205, 3) := dk_182 0 205 (dk_at dksX0_law_1 0 rfl rfl)
theorem dX0_law_26 : decode cX0_law 26 = .ok (.goto 14, 3) := dk_167 0 14 (dk_at dksX0_law_1 3 rfl rfl)
theorem dX0_law_29 : decode cX0_law 29 = .ok (.aload_n 0, 1) := dk_42 (dk_at dksX0_law_1 6 rfl rfl)
theorem dX0_law_30 : decode cX0_law 30 = .ok (.getfield 46, 3) := dk_180 0 46 (dk_at dksX0_law_1 7 rfl rfl)
theorem dX0_law_33 : decode cX0_law 33 = .ok (.iload_n 2, 1) := dk_28 (dk_at dksX0_law_1 10 rfl rfl)
theorem dX0_law_34 : decode cX0_law 34 = .ok (.iload_n 3, 1) := dk_29 (dk_at dksX0_law_1 11 rfl rfl)
theorem dX0_law_35 : decode cX0_law 35 = .ok (.iload 4, 2) := dk_21 4 (dk_at dksX0_law_1 12 rfl rfl)
theorem dX0_law_37 : decode cX0_law 37 = .ok (.invokevirtual 209, 3) := dk_182 0 209 (dk_at dksX0_law_1 14 rfl rfl)
theorem dX0_law_40 : decode cX0_law 40 = .ok (.ireturn, 1) := dk_172 (dk_at dksX0_law_1 17 rfl rfl)
theorem dX0_law_41 : decode cX0_law 41 = .ok (.astore 5, 2) := dk_58 5 (dk_at dksX0_law_1 18 rfl rfl)
theorem dX0_law_43 : decode cX0_law 43 = .ok (.aload_n 0, 1) := dk_42 (dk_at dksX0_law_1 20 rfl rfl)
theorem dX0_law_44 : decode cX0_law 44 = .ok (.aload 5, 2) := dk_25 5 (dk_at dksX0_law_1 21 rfl rfl)
theorem dX0_law_46 : decode cX0_law 46 = .ok (.invokevirtual 118, 3) := dk_182 0 118 (dk_at dksX0_law_2 0 rfl rfl)
theorem dX0_law_49 : decode cX0_law 49 = .ok (.ireturn, 1) := dk_172 (dk_at dksX0_law_2 3 rfl rfl)
abbrev cX0_days : ByteArray := prog_1_method_29_code
def yX0_days : MethodName := ⟨RX0, "days", "(I)I"⟩
def dkwX0_days_2 : List UInt8 := [180, 0, 46, 182, 0, 219, 172, 77, 42, 44, 182, 0, 118, 172]
abbrev dktX0_days_2 : List UInt8 := dkwX0_days_2 ++ []
def dkwX0_days_1 : List UInt8 := [17, 39, 15, 163, 0, 7, 4, 167, 0, 4, 3, 6, 182, 0, 102, 42, 180, 0, 46, 27, 182, 0, 215, 42]
abbrev dktX0_days_1 : List UInt8 := dkwX0_days_1 ++ dktX0_days_2
def dkwX0_days_0 : List UInt8 := [42, 27, 4, 16, 100, 184, 0, 91, 4, 182, 0, 102, 42, 42, 180, 0, 46, 180, 0, 212, 27, 96]
abbrev dktX0_days_0 : List UInt8 := dkwX0_days_0 ++ dktX0_days_1
theorem dksX0_days_0 : cX0_days.data.toList.drop 0 = dktX0_days_0 := by decide +kernel
theorem dksX0_days_1 : cX0_days.data.toList.drop 22 = dktX0_days_1 := dk_seg dksX0_days_0 22 rfl rfl
theorem dksX0_days_2 : cX0_days.data.toList.drop 46 = dktX0_days_2 := dk_seg dksX0_days_1 24 rfl rfl
theorem dX0_days_0 : decode cX0_days 0 = .ok (.aload_n 0, 1) := dk_42 (dk_at dksX0_days_0 0 rfl rfl)
theorem dX0_days_1 : decode cX0_days 1 = .ok (.iload_n 1, 1) := dk_27 (dk_at dksX0_days_0 1 rfl rfl)
theorem dX0_days_2 : decode cX0_days 2 = .ok (.iconst 1, 1) := dk_4 (dk_at dksX0_days_0 2 rfl rfl)
theorem dX0_days_3 : decode cX0_days 3 = .ok (.bipush 100, 2) := dk_16 100 (dk_at dksX0_days_0 3 rfl rfl)
theorem dX0_days_5 : decode cX0_days 5 = .ok (.invokestatic 91, 3) := dk_184 0 91 (dk_at dksX0_days_0 5 rfl rfl)
theorem dX0_days_8 : decode cX0_days 8 = .ok (.iconst 1, 1) := dk_4 (dk_at dksX0_days_0 8 rfl rfl)
theorem dX0_days_9 : decode cX0_days 9 = .ok (.invokevirtual 102, 3) := dk_182 0 102 (dk_at dksX0_days_0 9 rfl rfl)
theorem dX0_days_12 : decode cX0_days 12 = .ok (.aload_n 0, 1) := dk_42 (dk_at dksX0_days_0 12 rfl rfl)
theorem dX0_days_13 : decode cX0_days 13 = .ok (.aload_n 0, 1) := dk_42 (dk_at dksX0_days_0 13 rfl rfl)
theorem dX0_days_14 : decode cX0_days 14 = .ok (.getfield 46, 3) := dk_180 0 46 (dk_at dksX0_days_0 14 rfl rfl)
theorem dX0_days_17 : decode cX0_days 17 = .ok (.getfield 212, 3) := dk_180 0 212 (dk_at dksX0_days_0 17 rfl rfl)
theorem dX0_days_20 : decode cX0_days 20 = .ok (.iload_n 1, 1) := dk_27 (dk_at dksX0_days_0 20 rfl rfl)
theorem dX0_days_21 : decode cX0_days 21 = .ok (.iadd, 1) := dk_96 (dk_at dksX0_days_0 21 rfl rfl)
theorem dX0_days_22 : decode cX0_days 22 = .ok (.sipush 9999, 3) := dk_17 39 15 (dk_at dksX0_days_1 0 rfl rfl)
theorem dX0_days_25 : decode cX0_days 25 = .ok (.if_icmp .gt 7, 3) := dk_163 0 7 (dk_at dksX0_days_1 3 rfl rfl)
theorem dX0_days_28 : decode cX0_days 28 = .ok (.iconst 1, 1) := dk_4 (dk_at dksX0_days_1 6 rfl rfl)
theorem dX0_days_29 : decode cX0_days 29 = .ok (.goto 4, 3) := dk_167 0 4 (dk_at dksX0_days_1 7 rfl rfl)
theorem dX0_days_32 : decode cX0_days 32 = .ok (.iconst 0, 1) := dk_3 (dk_at dksX0_days_1 10 rfl rfl)
theorem dX0_days_33 : decode cX0_days 33 = .ok (.iconst 3, 1) := dk_6 (dk_at dksX0_days_1 11 rfl rfl)
theorem dX0_days_34 : decode cX0_days 34 = .ok (.invokevirtual 102, 3) := dk_182 0 102 (dk_at dksX0_days_1 12 rfl rfl)
theorem dX0_days_37 : decode cX0_days 37 = .ok (.aload_n 0, 1) := dk_42 (dk_at dksX0_days_1 15 rfl rfl)
theorem dX0_days_38 : decode cX0_days 38 = .ok (.getfield 46, 3) := dk_180 0 46 (dk_at dksX0_days_1 16 rfl rfl)
theorem dX0_days_41 : decode cX0_days 41 = .ok (.iload_n 1, 1) := dk_27 (dk_at dksX0_days_1 19 rfl rfl)
theorem dX0_days_42 : decode cX0_days 42 = .ok (.invokevirtual 215, 3) := dk_182 0 215 (dk_at dksX0_days_1 20 rfl rfl)
theorem dX0_days_45 : decode cX0_days 45 = .ok (.aload_n 0, 1) := dk_42 (dk_at dksX0_days_1 23 rfl rfl)
theorem dX0_days_46 : decode cX0_days 46 = .ok (.getfield 46, 3) := dk_180 0 46 (dk_at dksX0_days_2 0 rfl rfl)
theorem dX0_days_49 : decode cX0_days 49 = .ok (.invokevirtual 219, 3) := dk_182 0 219 (dk_at dksX0_days_2 3 rfl rfl)
theorem dX0_days_52 : decode cX0_days 52 = .ok (.ireturn, 1) := dk_172 (dk_at dksX0_days_2 6 rfl rfl)
theorem dX0_days_53 : decode cX0_days 53 = .ok (.astore_n 2, 1) := dk_77 (dk_at dksX0_days_2 7 rfl rfl)
theorem dX0_days_54 : decode cX0_days 54 = .ok (.aload_n 0, 1) := dk_42 (dk_at dksX0_days_2 8 rfl rfl)
theorem dX0_days_55 : decode cX0_days 55 = .ok (.aload_n 2, 1) := dk_44 (dk_at dksX0_days_2 9 rfl rfl)
theorem dX0_days_56 : decode cX0_days 56 = .ok (.invokevirtual 118, 3) := dk_182 0 118 (dk_at dksX0_days_2 10 rfl rfl)
theorem dX0_days_59 : decode cX0_days 59 = .ok (.ireturn, 1) := dk_172 (dk_at dksX0_days_2 13 rfl rfl)
abbrev cX0_loose : ByteArray := prog_1_method_30_code
def yX0_loose : MethodName := ⟨RX0, "loose", "(I)I"⟩
def dkwX0_loose_3 : List UInt8 := [182, 0, 118, 172]
abbrev dktX0_loose_3 : List UInt8 := dkwX0_loose_3 ++ []
def dkwX0_loose_2 : List UInt8 := [180, 0, 46, 182, 0, 222, 132, 2, 1, 167, 255, 241, 42, 180, 0, 46, 182, 0, 219, 172, 77, 42, 44]
abbrev dktX0_loose_2 : List UInt8 := dkwX0_loose_2 ++ dktX0_loose_3
def dkwX0_loose_1 : List UInt8 := [17, 39, 15, 163, 0, 7, 4, 167, 0, 4, 3, 6, 182, 0, 102, 3, 61, 28, 27, 162, 0, 16, 42]
abbrev dktX0_loose_1 : List UInt8 := dkwX0_loose_1 ++ dktX0_loose_2
def dkwX0_loose_0 : List UInt8 := [42, 27, 4, 16, 40, 184, 0, 91, 4, 182, 0, 102, 42, 42, 180, 0, 46, 180, 0, 212, 27, 96]
abbrev dktX0_loose_0 : List UInt8 := dkwX0_loose_0 ++ dktX0_loose_1
theorem dksX0_loose_0 : cX0_loose.data.toList.drop 0 = dktX0_loose_0 := by decide +kernel
theorem dksX0_loose_1 : cX0_loose.data.toList.drop 22 = dktX0_loose_1 := dk_seg dksX0_loose_0 22 rfl rfl
theorem dksX0_loose_2 : cX0_loose.data.toList.drop 45 = dktX0_loose_2 := dk_seg dksX0_loose_1 23 rfl rfl
theorem dksX0_loose_3 : cX0_loose.data.toList.drop 68 = dktX0_loose_3 := dk_seg dksX0_loose_2 23 rfl rfl
theorem dX0_loose_0 : decode cX0_loose 0 = .ok (.aload_n 0, 1) := dk_42 (dk_at dksX0_loose_0 0 rfl rfl)
theorem dX0_loose_1 : decode cX0_loose 1 = .ok (.iload_n 1, 1) := dk_27 (dk_at dksX0_loose_0 1 rfl rfl)
theorem dX0_loose_2 : decode cX0_loose 2 = .ok (.iconst 1, 1) := dk_4 (dk_at dksX0_loose_0 2 rfl rfl)
theorem dX0_loose_3 : decode cX0_loose 3 = .ok (.bipush 40, 2) := dk_16 40 (dk_at dksX0_loose_0 3 rfl rfl)
theorem dX0_loose_5 : decode cX0_loose 5 = .ok (.invokestatic 91, 3) := dk_184 0 91 (dk_at dksX0_loose_0 5 rfl rfl)
theorem dX0_loose_8 : decode cX0_loose 8 = .ok (.iconst 1, 1) := dk_4 (dk_at dksX0_loose_0 8 rfl rfl)
theorem dX0_loose_9 : decode cX0_loose 9 = .ok (.invokevirtual 102, 3) := dk_182 0 102 (dk_at dksX0_loose_0 9 rfl rfl)
theorem dX0_loose_12 : decode cX0_loose 12 = .ok (.aload_n 0, 1) := dk_42 (dk_at dksX0_loose_0 12 rfl rfl)
theorem dX0_loose_13 : decode cX0_loose 13 = .ok (.aload_n 0, 1) := dk_42 (dk_at dksX0_loose_0 13 rfl rfl)
theorem dX0_loose_14 : decode cX0_loose 14 = .ok (.getfield 46, 3) := dk_180 0 46 (dk_at dksX0_loose_0 14 rfl rfl)
theorem dX0_loose_17 : decode cX0_loose 17 = .ok (.getfield 212, 3) := dk_180 0 212 (dk_at dksX0_loose_0 17 rfl rfl)
theorem dX0_loose_20 : decode cX0_loose 20 = .ok (.iload_n 1, 1) := dk_27 (dk_at dksX0_loose_0 20 rfl rfl)
theorem dX0_loose_21 : decode cX0_loose 21 = .ok (.iadd, 1) := dk_96 (dk_at dksX0_loose_0 21 rfl rfl)
theorem dX0_loose_22 : decode cX0_loose 22 = .ok (.sipush 9999, 3) := dk_17 39 15 (dk_at dksX0_loose_1 0 rfl rfl)
theorem dX0_loose_25 : decode cX0_loose 25 = .ok (.if_icmp .gt 7, 3) := dk_163 0 7 (dk_at dksX0_loose_1 3 rfl rfl)
theorem dX0_loose_28 : decode cX0_loose 28 = .ok (.iconst 1, 1) := dk_4 (dk_at dksX0_loose_1 6 rfl rfl)
theorem dX0_loose_29 : decode cX0_loose 29 = .ok (.goto 4, 3) := dk_167 0 4 (dk_at dksX0_loose_1 7 rfl rfl)
theorem dX0_loose_32 : decode cX0_loose 32 = .ok (.iconst 0, 1) := dk_3 (dk_at dksX0_loose_1 10 rfl rfl)
theorem dX0_loose_33 : decode cX0_loose 33 = .ok (.iconst 3, 1) := dk_6 (dk_at dksX0_loose_1 11 rfl rfl)
theorem dX0_loose_34 : decode cX0_loose 34 = .ok (.invokevirtual 102, 3) := dk_182 0 102 (dk_at dksX0_loose_1 12 rfl rfl)
theorem dX0_loose_37 : decode cX0_loose 37 = .ok (.iconst 0, 1) := dk_3 (dk_at dksX0_loose_1 15 rfl rfl)
theorem dX0_loose_38 : decode cX0_loose 38 = .ok (.istore_n 2, 1) := dk_61 (dk_at dksX0_loose_1 16 rfl rfl)
theorem dX0_loose_39 : decode cX0_loose 39 = .ok (.iload_n 2, 1) := dk_28 (dk_at dksX0_loose_1 17 rfl rfl)
theorem dX0_loose_40 : decode cX0_loose 40 = .ok (.iload_n 1, 1) := dk_27 (dk_at dksX0_loose_1 18 rfl rfl)
theorem dX0_loose_41 : decode cX0_loose 41 = .ok (.if_icmp .ge 16, 3) := dk_162 0 16 (dk_at dksX0_loose_1 19 rfl rfl)
theorem dX0_loose_44 : decode cX0_loose 44 = .ok (.aload_n 0, 1) := dk_42 (dk_at dksX0_loose_1 22 rfl rfl)
theorem dX0_loose_45 : decode cX0_loose 45 = .ok (.getfield 46, 3) := dk_180 0 46 (dk_at dksX0_loose_2 0 rfl rfl)
theorem dX0_loose_48 : decode cX0_loose 48 = .ok (.invokevirtual 222, 3) := dk_182 0 222 (dk_at dksX0_loose_2 3 rfl rfl)
theorem dX0_loose_51 : decode cX0_loose 51 = .ok (.iinc 2 1, 3) := dk_132 2 1 (dk_at dksX0_loose_2 6 rfl rfl)
theorem dX0_loose_54 : decode cX0_loose 54 = .ok (.goto (-15), 3) := dk_167 255 241 (dk_at dksX0_loose_2 9 rfl rfl)
theorem dX0_loose_57 : decode cX0_loose 57 = .ok (.aload_n 0, 1) := dk_42 (dk_at dksX0_loose_2 12 rfl rfl)
theorem dX0_loose_58 : decode cX0_loose 58 = .ok (.getfield 46, 3) := dk_180 0 46 (dk_at dksX0_loose_2 13 rfl rfl)
theorem dX0_loose_61 : decode cX0_loose 61 = .ok (.invokevirtual 219, 3) := dk_182 0 219 (dk_at dksX0_loose_2 16 rfl rfl)
theorem dX0_loose_64 : decode cX0_loose 64 = .ok (.ireturn, 1) := dk_172 (dk_at dksX0_loose_2 19 rfl rfl)
theorem dX0_loose_65 : decode cX0_loose 65 = .ok (.astore_n 2, 1) := dk_77 (dk_at dksX0_loose_2 20 rfl rfl)
theorem dX0_loose_66 : decode cX0_loose 66 = .ok (.aload_n 0, 1) := dk_42 (dk_at dksX0_loose_2 21 rfl rfl)
theorem dX0_loose_67 : decode cX0_loose 67 = .ok (.aload_n 2, 1) := dk_44 (dk_at dksX0_loose_2 22 rfl rfl)
theorem dX0_loose_68 : decode cX0_loose 68 = .ok (.invokevirtual 118, 3) := dk_182 0 118 (dk_at dksX0_loose_3 0 rfl rfl)
theorem dX0_loose_71 : decode cX0_loose 71 = .ok (.ireturn, 1) := dk_172 (dk_at dksX0_loose_3 3 rfl rfl)
abbrev cX0_taste : ByteArray := prog_1_method_31_code
def yX0_taste : MethodName := ⟨RX0, "taste", "(II)I"⟩
def dkwX0_taste_1 : List UInt8 := [182, 0, 102, 42, 180, 0, 46, 27, 28, 182, 0, 228, 172, 78, 42, 45, 182, 0, 118, 172]
abbrev dktX0_taste_1 : List UInt8 := dkwX0_taste_1 ++ []
def dkwX0_taste_0 : List UInt8 := [42, 42, 27, 182, 0, 225, 153, 0, 14, 28, 184, 0, 108, 153, 0, 7, 4, 167, 0, 4, 3, 4]
abbrev dktX0_taste_0 : List UInt8 := dkwX0_taste_0 ++ dktX0_taste_1
theorem dksX0_taste_0 : cX0_taste.data.toList.drop 0 = dktX0_taste_0 := by decide +kernel
theorem dksX0_taste_1 : cX0_taste.data.toList.drop 22 = dktX0_taste_1 := dk_seg dksX0_taste_0 22 rfl rfl
theorem dX0_taste_0 : decode cX0_taste 0 = .ok (.aload_n 0, 1) := dk_42 (dk_at dksX0_taste_0 0 rfl rfl)
theorem dX0_taste_1 : decode cX0_taste 1 = .ok (.aload_n 0, 1) := dk_42 (dk_at dksX0_taste_0 1 rfl rfl)
theorem dX0_taste_2 : decode cX0_taste 2 = .ok (.iload_n 1, 1) := dk_27 (dk_at dksX0_taste_0 2 rfl rfl)
theorem dX0_taste_3 : decode cX0_taste 3 = .ok (.invokevirtual 225, 3) := dk_182 0 225 (dk_at dksX0_taste_0 3 rfl rfl)
theorem dX0_taste_6 : decode cX0_taste 6 = .ok (.ifCond .eq 14, 3) := dk_153 0 14 (dk_at dksX0_taste_0 6 rfl rfl)
theorem dX0_taste_9 : decode cX0_taste 9 = .ok (.iload_n 2, 1) := dk_28 (dk_at dksX0_taste_0 9 rfl rfl)
theorem dX0_taste_10 : decode cX0_taste 10 = .ok (.invokestatic 108, 3) := dk_184 0 108 (dk_at dksX0_taste_0 10 rfl rfl)
theorem dX0_taste_13 : decode cX0_taste 13 = .ok (.ifCond .eq 7, 3) := dk_153 0 7 (dk_at dksX0_taste_0 13 rfl rfl)
theorem dX0_taste_16 : decode cX0_taste 16 = .ok (.iconst 1, 1) := dk_4 (dk_at dksX0_taste_0 16 rfl rfl)
theorem dX0_taste_17 : decode cX0_taste 17 = .ok (.goto 4, 3) := dk_167 0 4 (dk_at dksX0_taste_0 17 rfl rfl)
theorem dX0_taste_20 : decode cX0_taste 20 = .ok (.iconst 0, 1) := dk_3 (dk_at dksX0_taste_0 20 rfl rfl)
theorem dX0_taste_21 : decode cX0_taste 21 = .ok (.iconst 1, 1) := dk_4 (dk_at dksX0_taste_0 21 rfl rfl)
theorem dX0_taste_22 : decode cX0_taste 22 = .ok (.invokevirtual 102, 3) := dk_182 0 102 (dk_at dksX0_taste_1 0 rfl rfl)
theorem dX0_taste_25 : decode cX0_taste 25 = .ok (.aload_n 0, 1) := dk_42 (dk_at dksX0_taste_1 3 rfl rfl)
theorem dX0_taste_26 : decode cX0_taste 26 = .ok (.getfield 46, 3) := dk_180 0 46 (dk_at dksX0_taste_1 4 rfl rfl)
theorem dX0_taste_29 : decode cX0_taste 29 = .ok (.iload_n 1, 1) := dk_27 (dk_at dksX0_taste_1 7 rfl rfl)
theorem dX0_taste_30 : decode cX0_taste 30 = .ok (.iload_n 2, 1) := dk_28 (dk_at dksX0_taste_1 8 rfl rfl)
theorem dX0_taste_31 : decode cX0_taste 31 = .ok (.invokevirtual 228, 3) := dk_182 0 228 (dk_at dksX0_taste_1 9 rfl rfl)
theorem dX0_taste_34 : decode cX0_taste 34 = .ok (.ireturn, 1) := dk_172 (dk_at dksX0_taste_1 12 rfl rfl)
theorem dX0_taste_35 : decode cX0_taste 35 = .ok (.astore_n 3, 1) := dk_78 (dk_at dksX0_taste_1 13 rfl rfl)
theorem dX0_taste_36 : decode cX0_taste 36 = .ok (.aload_n 0, 1) := dk_42 (dk_at dksX0_taste_1 14 rfl rfl)
theorem dX0_taste_37 : decode cX0_taste 37 = .ok (.aload_n 3, 1) := dk_45 (dk_at dksX0_taste_1 15 rfl rfl)
theorem dX0_taste_38 : decode cX0_taste 38 = .ok (.invokevirtual 118, 3) := dk_182 0 118 (dk_at dksX0_taste_1 16 rfl rfl)
theorem dX0_taste_41 : decode cX0_taste 41 = .ok (.ireturn, 1) := dk_172 (dk_at dksX0_taste_1 19 rfl rfl)
abbrev cX0_isJug : ByteArray := prog_1_method_9_code
def yX0_isJug : MethodName := ⟨RX0, "isJug", "(I)Z"⟩
def dkwX0_isJug_0 : List UInt8 := [27, 4, 4, 42, 180, 0, 46, 180, 0, 95, 120, 4, 100, 184, 0, 91, 172]
abbrev dktX0_isJug_0 : List UInt8 := dkwX0_isJug_0 ++ []
theorem dksX0_isJug_0 : cX0_isJug.data.toList.drop 0 = dktX0_isJug_0 := by decide +kernel
theorem dX0_isJug_0 : decode cX0_isJug 0 = .ok (.iload_n 1, 1) := dk_27 (dk_at dksX0_isJug_0 0 rfl rfl)
theorem dX0_isJug_1 : decode cX0_isJug 1 = .ok (.iconst 1, 1) := dk_4 (dk_at dksX0_isJug_0 1 rfl rfl)
theorem dX0_isJug_2 : decode cX0_isJug 2 = .ok (.iconst 1, 1) := dk_4 (dk_at dksX0_isJug_0 2 rfl rfl)
theorem dX0_isJug_3 : decode cX0_isJug 3 = .ok (.aload_n 0, 1) := dk_42 (dk_at dksX0_isJug_0 3 rfl rfl)
theorem dX0_isJug_4 : decode cX0_isJug 4 = .ok (.getfield 46, 3) := dk_180 0 46 (dk_at dksX0_isJug_0 4 rfl rfl)
theorem dX0_isJug_7 : decode cX0_isJug 7 = .ok (.getfield 95, 3) := dk_180 0 95 (dk_at dksX0_isJug_0 7 rfl rfl)
theorem dX0_isJug_10 : decode cX0_isJug 10 = .ok (.ishl, 1) := dk_120 (dk_at dksX0_isJug_0 10 rfl rfl)
theorem dX0_isJug_11 : decode cX0_isJug 11 = .ok (.iconst 1, 1) := dk_4 (dk_at dksX0_isJug_0 11 rfl rfl)
theorem dX0_isJug_12 : decode cX0_isJug 12 = .ok (.isub, 1) := dk_100 (dk_at dksX0_isJug_0 12 rfl rfl)
theorem dX0_isJug_13 : decode cX0_isJug 13 = .ok (.invokestatic 91, 3) := dk_184 0 91 (dk_at dksX0_isJug_0 13 rfl rfl)
theorem dX0_isJug_16 : decode cX0_isJug 16 = .ok (.ireturn, 1) := dk_172 (dk_at dksX0_isJug_0 16 rfl rfl)
abbrev cX0_known : ByteArray := prog_1_method_32_code
def yX0_known : MethodName := ⟨RX0, "known", "(II)I"⟩
def dkwX0_known_2 : List UInt8 := [182, 0, 235, 172, 78, 42, 45, 182, 0, 118, 172]
abbrev dktX0_known_2 : List UInt8 := dkwX0_known_2 ++ []
def dkwX0_known_1 : List UInt8 := [4, 182, 0, 102, 42, 180, 0, 53, 42, 180, 0, 46, 182, 0, 231, 28, 182, 0, 215, 42, 180, 0, 53, 27]
abbrev dktX0_known_1 : List UInt8 := dkwX0_known_1 ++ dktX0_known_2
def dkwX0_known_0 : List UInt8 := [42, 42, 27, 182, 0, 225, 153, 0, 17, 28, 3, 16, 100, 184, 0, 91, 153, 0, 7, 4, 167, 0, 4, 3]
abbrev dktX0_known_0 : List UInt8 := dkwX0_known_0 ++ dktX0_known_1
theorem dksX0_known_0 : cX0_known.data.toList.drop 0 = dktX0_known_0 := by decide +kernel
theorem dksX0_known_1 : cX0_known.data.toList.drop 24 = dktX0_known_1 := dk_seg dksX0_known_0 24 rfl rfl
theorem dksX0_known_2 : cX0_known.data.toList.drop 48 = dktX0_known_2 := dk_seg dksX0_known_1 24 rfl rfl
theorem dX0_known_0 : decode cX0_known 0 = .ok (.aload_n 0, 1) := dk_42 (dk_at dksX0_known_0 0 rfl rfl)
theorem dX0_known_1 : decode cX0_known 1 = .ok (.aload_n 0, 1) := dk_42 (dk_at dksX0_known_0 1 rfl rfl)
theorem dX0_known_2 : decode cX0_known 2 = .ok (.iload_n 1, 1) := dk_27 (dk_at dksX0_known_0 2 rfl rfl)
theorem dX0_known_3 : decode cX0_known 3 = .ok (.invokevirtual 225, 3) := dk_182 0 225 (dk_at dksX0_known_0 3 rfl rfl)
theorem dX0_known_6 : decode cX0_known 6 = .ok (.ifCond .eq 17, 3) := dk_153 0 17 (dk_at dksX0_known_0 6 rfl rfl)
theorem dX0_known_9 : decode cX0_known 9 = .ok (.iload_n 2, 1) := dk_28 (dk_at dksX0_known_0 9 rfl rfl)
theorem dX0_known_10 : decode cX0_known 10 = .ok (.iconst 0, 1) := dk_3 (dk_at dksX0_known_0 10 rfl rfl)
theorem dX0_known_11 : decode cX0_known 11 = .ok (.bipush 100, 2) := dk_16 100 (dk_at dksX0_known_0 11 rfl rfl)
theorem dX0_known_13 : decode cX0_known 13 = .ok (.invokestatic 91, 3) := dk_184 0 91 (dk_at dksX0_known_0 13 rfl rfl)
theorem dX0_known_16 : decode cX0_known 16 = .ok (.ifCond .eq 7, 3) := dk_153 0 7 (dk_at dksX0_known_0 16 rfl rfl)
theorem dX0_known_19 : decode cX0_known 19 = .ok (.iconst 1, 1) := dk_4 (dk_at dksX0_known_0 19 rfl rfl)
theorem dX0_known_20 : decode cX0_known 20 = .ok (.goto 4, 3) := dk_167 0 4 (dk_at dksX0_known_0 20 rfl rfl)
theorem dX0_known_23 : decode cX0_known 23 = .ok (.iconst 0, 1) := dk_3 (dk_at dksX0_known_0 23 rfl rfl)
theorem dX0_known_24 : decode cX0_known 24 = .ok (.iconst 1, 1) := dk_4 (dk_at dksX0_known_1 0 rfl rfl)
theorem dX0_known_25 : decode cX0_known 25 = .ok (.invokevirtual 102, 3) := dk_182 0 102 (dk_at dksX0_known_1 1 rfl rfl)
theorem dX0_known_28 : decode cX0_known 28 = .ok (.aload_n 0, 1) := dk_42 (dk_at dksX0_known_1 4 rfl rfl)
theorem dX0_known_29 : decode cX0_known 29 = .ok (.getfield 53, 3) := dk_180 0 53 (dk_at dksX0_known_1 5 rfl rfl)
theorem dX0_known_32 : decode cX0_known 32 = .ok (.aload_n 0, 1) := dk_42 (dk_at dksX0_known_1 8 rfl rfl)
theorem dX0_known_33 : decode cX0_known 33 = .ok (.getfield 46, 3) := dk_180 0 46 (dk_at dksX0_known_1 9 rfl rfl)
theorem dX0_known_36 : decode cX0_known 36 = .ok (.invokevirtual 231, 3) := dk_182 0 231 (dk_at dksX0_known_1 12 rfl rfl)
theorem dX0_known_39 : decode cX0_known 39 = .ok (.iload_n 2, 1) := dk_28 (dk_at dksX0_known_1 15 rfl rfl)
theorem dX0_known_40 : decode cX0_known 40 = .ok (.invokevirtual 215, 3) := dk_182 0 215 (dk_at dksX0_known_1 16 rfl rfl)
theorem dX0_known_43 : decode cX0_known 43 = .ok (.aload_n 0, 1) := dk_42 (dk_at dksX0_known_1 19 rfl rfl)
theorem dX0_known_44 : decode cX0_known 44 = .ok (.getfield 53, 3) := dk_180 0 53 (dk_at dksX0_known_1 20 rfl rfl)
theorem dX0_known_47 : decode cX0_known 47 = .ok (.iload_n 1, 1) := dk_27 (dk_at dksX0_known_1 23 rfl rfl)
theorem dX0_known_48 : decode cX0_known 48 = .ok (.invokevirtual 235, 3) := dk_182 0 235 (dk_at dksX0_known_2 0 rfl rfl)
theorem dX0_known_51 : decode cX0_known 51 = .ok (.ireturn, 1) := dk_172 (dk_at dksX0_known_2 3 rfl rfl)
theorem dX0_known_52 : decode cX0_known 52 = .ok (.astore_n 3, 1) := dk_78 (dk_at dksX0_known_2 4 rfl rfl)
theorem dX0_known_53 : decode cX0_known 53 = .ok (.aload_n 0, 1) := dk_42 (dk_at dksX0_known_2 5 rfl rfl)
theorem dX0_known_54 : decode cX0_known 54 = .ok (.aload_n 3, 1) := dk_45 (dk_at dksX0_known_2 6 rfl rfl)
theorem dX0_known_55 : decode cX0_known 55 = .ok (.invokevirtual 118, 3) := dk_182 0 118 (dk_at dksX0_known_2 7 rfl rfl)
theorem dX0_known_58 : decode cX0_known 58 = .ok (.ireturn, 1) := dk_172 (dk_at dksX0_known_2 10 rfl rfl)
abbrev cX0_comes : ByteArray := prog_1_method_34_code
def yX0_comes : MethodName := ⟨RX0, "comes", "(II)I"⟩
def dkwX0_comes_0 : List UInt8 := [42, 27, 28, 4, 182, 0, 241, 172, 78, 42, 45, 182, 0, 118, 172]
abbrev dktX0_comes_0 : List UInt8 := dkwX0_comes_0 ++ []
theorem dksX0_comes_0 : cX0_comes.data.toList.drop 0 = dktX0_comes_0 := by decide +kernel
theorem dX0_comes_0 : decode cX0_comes 0 = .ok (.aload_n 0, 1) := dk_42 (dk_at dksX0_comes_0 0 rfl rfl)
theorem dX0_comes_1 : decode cX0_comes 1 = .ok (.iload_n 1, 1) := dk_27 (dk_at dksX0_comes_0 1 rfl rfl)
theorem dX0_comes_2 : decode cX0_comes 2 = .ok (.iload_n 2, 1) := dk_28 (dk_at dksX0_comes_0 2 rfl rfl)
theorem dX0_comes_3 : decode cX0_comes 3 = .ok (.iconst 1, 1) := dk_4 (dk_at dksX0_comes_0 3 rfl rfl)
theorem dX0_comes_4 : decode cX0_comes 4 = .ok (.invokevirtual 241, 3) := dk_182 0 241 (dk_at dksX0_comes_0 4 rfl rfl)
theorem dX0_comes_7 : decode cX0_comes 7 = .ok (.ireturn, 1) := dk_172 (dk_at dksX0_comes_0 7 rfl rfl)
theorem dX0_comes_8 : decode cX0_comes 8 = .ok (.astore_n 3, 1) := dk_78 (dk_at dksX0_comes_0 8 rfl rfl)
theorem dX0_comes_9 : decode cX0_comes 9 = .ok (.aload_n 0, 1) := dk_42 (dk_at dksX0_comes_0 9 rfl rfl)
theorem dX0_comes_10 : decode cX0_comes 10 = .ok (.aload_n 3, 1) := dk_45 (dk_at dksX0_comes_0 10 rfl rfl)
theorem dX0_comes_11 : decode cX0_comes 11 = .ok (.invokevirtual 118, 3) := dk_182 0 118 (dk_at dksX0_comes_0 11 rfl rfl)
theorem dX0_comes_14 : decode cX0_comes 14 = .ok (.ireturn, 1) := dk_172 (dk_at dksX0_comes_0 14 rfl rfl)
abbrev cX0_firstBy : ByteArray := prog_1_method_33_code
def yX0_firstBy : MethodName := ⟨RX0, "firstBy", "(IIZ)I"⟩
def dkwX0_firstBy_4 : List UInt8 := [167, 0, 4, 3, 5, 182, 0, 102, 21, 4, 172]
abbrev dktX0_firstBy_4 : List UInt8 := dkwX0_firstBy_4 ++ []
def dkwX0_firstBy_3 : List UInt8 := [42, 180, 0, 53, 182, 0, 238, 132, 4, 1, 167, 255, 218, 42, 21, 4, 16, 100, 163, 0, 7, 4]
abbrev dktX0_firstBy_3 : List UInt8 := dkwX0_firstBy_3 ++ dktX0_firstBy_4
def dkwX0_firstBy_2 : List UInt8 := [163, 0, 37, 42, 180, 0, 53, 27, 28, 182, 0, 228, 158, 0, 7, 4, 167, 0, 4, 3, 29, 159, 0, 16]
abbrev dktX0_firstBy_2 : List UInt8 := dkwX0_firstBy_2 ++ dktX0_firstBy_3
def dkwX0_firstBy_1 : List UInt8 := [182, 0, 102, 42, 180, 0, 53, 42, 180, 0, 46, 182, 0, 231, 87, 3, 54, 4, 21, 4, 16, 100]
abbrev dktX0_firstBy_1 : List UInt8 := dkwX0_firstBy_1 ++ dktX0_firstBy_2
def dkwX0_firstBy_0 : List UInt8 := [42, 42, 27, 182, 0, 225, 153, 0, 14, 28, 184, 0, 108, 153, 0, 7, 4, 167, 0, 4, 3, 4]
abbrev dktX0_firstBy_0 : List UInt8 := dkwX0_firstBy_0 ++ dktX0_firstBy_1
theorem dksX0_firstBy_0 : cX0_firstBy.data.toList.drop 0 = dktX0_firstBy_0 := by decide +kernel
theorem dksX0_firstBy_1 : cX0_firstBy.data.toList.drop 22 = dktX0_firstBy_1 := dk_seg dksX0_firstBy_0 22 rfl rfl
theorem dksX0_firstBy_2 : cX0_firstBy.data.toList.drop 44 = dktX0_firstBy_2 := dk_seg dksX0_firstBy_1 22 rfl rfl
theorem dksX0_firstBy_3 : cX0_firstBy.data.toList.drop 68 = dktX0_firstBy_3 := dk_seg dksX0_firstBy_2 24 rfl rfl
theorem dksX0_firstBy_4 : cX0_firstBy.data.toList.drop 90 = dktX0_firstBy_4 := dk_seg dksX0_firstBy_3 22 rfl rfl
theorem dX0_firstBy_0 : decode cX0_firstBy 0 = .ok (.aload_n 0, 1) := dk_42 (dk_at dksX0_firstBy_0 0 rfl rfl)
theorem dX0_firstBy_1 : decode cX0_firstBy 1 = .ok (.aload_n 0, 1) := dk_42 (dk_at dksX0_firstBy_0 1 rfl rfl)
theorem dX0_firstBy_2 : decode cX0_firstBy 2 = .ok (.iload_n 1, 1) := dk_27 (dk_at dksX0_firstBy_0 2 rfl rfl)
theorem dX0_firstBy_3 : decode cX0_firstBy 3 = .ok (.invokevirtual 225, 3) := dk_182 0 225 (dk_at dksX0_firstBy_0 3 rfl rfl)
theorem dX0_firstBy_6 : decode cX0_firstBy 6 = .ok (.ifCond .eq 14, 3) := dk_153 0 14 (dk_at dksX0_firstBy_0 6 rfl rfl)
theorem dX0_firstBy_9 : decode cX0_firstBy 9 = .ok (.iload_n 2, 1) := dk_28 (dk_at dksX0_firstBy_0 9 rfl rfl)
theorem dX0_firstBy_10 : decode cX0_firstBy 10 = .ok (.invokestatic 108, 3) := dk_184 0 108 (dk_at dksX0_firstBy_0 10 rfl rfl)
theorem dX0_firstBy_13 : decode cX0_firstBy 13 = .ok (.ifCond .eq 7, 3) := dk_153 0 7 (dk_at dksX0_firstBy_0 13 rfl rfl)
theorem dX0_firstBy_16 : decode cX0_firstBy 16 = .ok (.iconst 1, 1) := dk_4 (dk_at dksX0_firstBy_0 16 rfl rfl)
theorem dX0_firstBy_17 : decode cX0_firstBy 17 = .ok (.goto 4, 3) := dk_167 0 4 (dk_at dksX0_firstBy_0 17 rfl rfl)
theorem dX0_firstBy_20 : decode cX0_firstBy 20 = .ok (.iconst 0, 1) := dk_3 (dk_at dksX0_firstBy_0 20 rfl rfl)
theorem dX0_firstBy_21 : decode cX0_firstBy 21 = .ok (.iconst 1, 1) := dk_4 (dk_at dksX0_firstBy_0 21 rfl rfl)
theorem dX0_firstBy_22 : decode cX0_firstBy 22 = .ok (.invokevirtual 102, 3) := dk_182 0 102 (dk_at dksX0_firstBy_1 0 rfl rfl)
theorem dX0_firstBy_25 : decode cX0_firstBy 25 = .ok (.aload_n 0, 1) := dk_42 (dk_at dksX0_firstBy_1 3 rfl rfl)
theorem dX0_firstBy_26 : decode cX0_firstBy 26 = .ok (.getfield 53, 3) := dk_180 0 53 (dk_at dksX0_firstBy_1 4 rfl rfl)
theorem dX0_firstBy_29 : decode cX0_firstBy 29 = .ok (.aload_n 0, 1) := dk_42 (dk_at dksX0_firstBy_1 7 rfl rfl)
theorem dX0_firstBy_30 : decode cX0_firstBy 30 = .ok (.getfield 46, 3) := dk_180 0 46 (dk_at dksX0_firstBy_1 8 rfl rfl)
theorem dX0_firstBy_33 : decode cX0_firstBy 33 = .ok (.invokevirtual 231, 3) := dk_182 0 231 (dk_at dksX0_firstBy_1 11 rfl rfl)
theorem dX0_firstBy_36 : decode cX0_firstBy 36 = .ok (.pop, 1) := dk_87 (dk_at dksX0_firstBy_1 14 rfl rfl)
theorem dX0_firstBy_37 : decode cX0_firstBy 37 = .ok (.iconst 0, 1) := dk_3 (dk_at dksX0_firstBy_1 15 rfl rfl)
theorem dX0_firstBy_38 : decode cX0_firstBy 38 = .ok (.istore 4, 2) := dk_54 4 (dk_at dksX0_firstBy_1 16 rfl rfl)
theorem dX0_firstBy_40 : decode cX0_firstBy 40 = .ok (.iload 4, 2) := dk_21 4 (dk_at dksX0_firstBy_1 18 rfl rfl)
theorem dX0_firstBy_42 : decode cX0_firstBy 42 = .ok (.bipush 100, 2) := dk_16 100 (dk_at dksX0_firstBy_1 20 rfl rfl)
theorem dX0_firstBy_44 : decode cX0_firstBy 44 = .ok (.if_icmp .gt 37, 3) := dk_163 0 37 (dk_at dksX0_firstBy_2 0 rfl rfl)
theorem dX0_firstBy_47 : decode cX0_firstBy 47 = .ok (.aload_n 0, 1) := dk_42 (dk_at dksX0_firstBy_2 3 rfl rfl)
theorem dX0_firstBy_48 : decode cX0_firstBy 48 = .ok (.getfield 53, 3) := dk_180 0 53 (dk_at dksX0_firstBy_2 4 rfl rfl)
theorem dX0_firstBy_51 : decode cX0_firstBy 51 = .ok (.iload_n 1, 1) := dk_27 (dk_at dksX0_firstBy_2 7 rfl rfl)
theorem dX0_firstBy_52 : decode cX0_firstBy 52 = .ok (.iload_n 2, 1) := dk_28 (dk_at dksX0_firstBy_2 8 rfl rfl)
theorem dX0_firstBy_53 : decode cX0_firstBy 53 = .ok (.invokevirtual 228, 3) := dk_182 0 228 (dk_at dksX0_firstBy_2 9 rfl rfl)
theorem dX0_firstBy_56 : decode cX0_firstBy 56 = .ok (.ifCond .le 7, 3) := dk_158 0 7 (dk_at dksX0_firstBy_2 12 rfl rfl)
theorem dX0_firstBy_59 : decode cX0_firstBy 59 = .ok (.iconst 1, 1) := dk_4 (dk_at dksX0_firstBy_2 15 rfl rfl)
theorem dX0_firstBy_60 : decode cX0_firstBy 60 = .ok (.goto 4, 3) := dk_167 0 4 (dk_at dksX0_firstBy_2 16 rfl rfl)
theorem dX0_firstBy_63 : decode cX0_firstBy 63 = .ok (.iconst 0, 1) := dk_3 (dk_at dksX0_firstBy_2 19 rfl rfl)
theorem dX0_firstBy_64 : decode cX0_firstBy 64 = .ok (.iload_n 3, 1) := dk_29 (dk_at dksX0_firstBy_2 20 rfl rfl)
theorem dX0_firstBy_65 : decode cX0_firstBy 65 = .ok (.if_icmp .eq 16, 3) := dk_159 0 16 (dk_at dksX0_firstBy_2 21 rfl rfl)
theorem dX0_firstBy_68 : decode cX0_firstBy 68 = .ok (.aload_n 0, 1) := dk_42 (dk_at dksX0_firstBy_3 0 rfl rfl)
theorem dX0_firstBy_69 : decode cX0_firstBy 69 = .ok (.getfield 53, 3) := dk_180 0 53 (dk_at dksX0_firstBy_3 1 rfl rfl)
theorem dX0_firstBy_72 : decode cX0_firstBy 72 = .ok (.invokevirtual 238, 3) := dk_182 0 238 (dk_at dksX0_firstBy_3 4 rfl rfl)
theorem dX0_firstBy_75 : decode cX0_firstBy 75 = .ok (.iinc 4 1, 3) := dk_132 4 1 (dk_at dksX0_firstBy_3 7 rfl rfl)
theorem dX0_firstBy_78 : decode cX0_firstBy 78 = .ok (.goto (-38), 3) := dk_167 255 218 (dk_at dksX0_firstBy_3 10 rfl rfl)
theorem dX0_firstBy_81 : decode cX0_firstBy 81 = .ok (.aload_n 0, 1) := dk_42 (dk_at dksX0_firstBy_3 13 rfl rfl)
theorem dX0_firstBy_82 : decode cX0_firstBy 82 = .ok (.iload 4, 2) := dk_21 4 (dk_at dksX0_firstBy_3 14 rfl rfl)
theorem dX0_firstBy_84 : decode cX0_firstBy 84 = .ok (.bipush 100, 2) := dk_16 100 (dk_at dksX0_firstBy_3 16 rfl rfl)
theorem dX0_firstBy_86 : decode cX0_firstBy 86 = .ok (.if_icmp .gt 7, 3) := dk_163 0 7 (dk_at dksX0_firstBy_3 18 rfl rfl)
theorem dX0_firstBy_89 : decode cX0_firstBy 89 = .ok (.iconst 1, 1) := dk_4 (dk_at dksX0_firstBy_3 21 rfl rfl)
theorem dX0_firstBy_90 : decode cX0_firstBy 90 = .ok (.goto 4, 3) := dk_167 0 4 (dk_at dksX0_firstBy_4 0 rfl rfl)
theorem dX0_firstBy_93 : decode cX0_firstBy 93 = .ok (.iconst 0, 1) := dk_3 (dk_at dksX0_firstBy_4 3 rfl rfl)
theorem dX0_firstBy_94 : decode cX0_firstBy 94 = .ok (.iconst 2, 1) := dk_5 (dk_at dksX0_firstBy_4 4 rfl rfl)
theorem dX0_firstBy_95 : decode cX0_firstBy 95 = .ok (.invokevirtual 102, 3) := dk_182 0 102 (dk_at dksX0_firstBy_4 5 rfl rfl)
theorem dX0_firstBy_98 : decode cX0_firstBy 98 = .ok (.iload 4, 2) := dk_21 4 (dk_at dksX0_firstBy_4 8 rfl rfl)
theorem dX0_firstBy_100 : decode cX0_firstBy 100 = .ok (.ireturn, 1) := dk_172 (dk_at dksX0_firstBy_4 10 rfl rfl)
abbrev cX0_lost : ByteArray := prog_1_method_35_code
def yX0_lost : MethodName := ⟨RX0, "lost", "(II)I"⟩
def dkwX0_lost_0 : List UInt8 := [42, 27, 28, 3, 182, 0, 241, 172, 78, 42, 45, 182, 0, 118, 172]
abbrev dktX0_lost_0 : List UInt8 := dkwX0_lost_0 ++ []
theorem dksX0_lost_0 : cX0_lost.data.toList.drop 0 = dktX0_lost_0 := by decide +kernel
theorem dX0_lost_0 : decode cX0_lost 0 = .ok (.aload_n 0, 1) := dk_42 (dk_at dksX0_lost_0 0 rfl rfl)
theorem dX0_lost_1 : decode cX0_lost 1 = .ok (.iload_n 1, 1) := dk_27 (dk_at dksX0_lost_0 1 rfl rfl)
theorem dX0_lost_2 : decode cX0_lost 2 = .ok (.iload_n 2, 1) := dk_28 (dk_at dksX0_lost_0 2 rfl rfl)
theorem dX0_lost_3 : decode cX0_lost 3 = .ok (.iconst 0, 1) := dk_3 (dk_at dksX0_lost_0 3 rfl rfl)
theorem dX0_lost_4 : decode cX0_lost 4 = .ok (.invokevirtual 241, 3) := dk_182 0 241 (dk_at dksX0_lost_0 4 rfl rfl)
theorem dX0_lost_7 : decode cX0_lost 7 = .ok (.ireturn, 1) := dk_172 (dk_at dksX0_lost_0 7 rfl rfl)
theorem dX0_lost_8 : decode cX0_lost 8 = .ok (.astore_n 3, 1) := dk_78 (dk_at dksX0_lost_0 8 rfl rfl)
theorem dX0_lost_9 : decode cX0_lost 9 = .ok (.aload_n 0, 1) := dk_42 (dk_at dksX0_lost_0 9 rfl rfl)
theorem dX0_lost_10 : decode cX0_lost 10 = .ok (.aload_n 3, 1) := dk_45 (dk_at dksX0_lost_0 10 rfl rfl)
theorem dX0_lost_11 : decode cX0_lost 11 = .ok (.invokevirtual 118, 3) := dk_182 0 118 (dk_at dksX0_lost_0 11 rfl rfl)
theorem dX0_lost_14 : decode cX0_lost 14 = .ok (.ireturn, 1) := dk_172 (dk_at dksX0_lost_0 14 rfl rfl)
abbrev cX0_least : ByteArray := prog_1_method_36_code
def yX0_least : MethodName := ⟨RX0, "least", "(I)I"⟩
def dkwX0_least_4 : List UInt8 := [3, 5, 182, 0, 102, 28, 172, 77, 42, 44, 182, 0, 118, 172]
abbrev dktX0_least_4 : List UInt8 := dkwX0_least_4 ++ []
def dkwX0_least_3 : List UInt8 := [154, 0, 7, 29, 167, 0, 4, 28, 61, 132, 3, 1, 167, 255, 192, 42, 28, 158, 0, 7, 4, 167, 0, 4]
abbrev dktX0_least_3 : List UInt8 := dkwX0_least_3 ++ dktX0_least_4
def dkwX0_least_2 : List UInt8 := [167, 0, 4, 3, 54, 4, 21, 4, 153, 0, 22, 27, 42, 180, 0, 46, 29, 182, 0, 235, 2, 130, 126]
abbrev dktX0_least_2 : List UInt8 := dkwX0_least_2 ++ dktX0_least_3
def dkwX0_least_1 : List UInt8 := [180, 0, 95, 120, 162, 0, 57, 28, 153, 0, 14, 29, 184, 0, 246, 28, 184, 0, 246, 162, 0, 7, 4]
abbrev dktX0_least_1 : List UInt8 := dkwX0_least_1 ++ dktX0_least_2
def dkwX0_least_0 : List UInt8 := [42, 27, 3, 18, 245, 184, 0, 91, 4, 182, 0, 102, 3, 61, 4, 62, 29, 4, 42, 180, 0, 46]
abbrev dktX0_least_0 : List UInt8 := dkwX0_least_0 ++ dktX0_least_1
theorem dksX0_least_0 : cX0_least.data.toList.drop 0 = dktX0_least_0 := by decide +kernel
theorem dksX0_least_1 : cX0_least.data.toList.drop 22 = dktX0_least_1 := dk_seg dksX0_least_0 22 rfl rfl
theorem dksX0_least_2 : cX0_least.data.toList.drop 45 = dktX0_least_2 := dk_seg dksX0_least_1 23 rfl rfl
theorem dksX0_least_3 : cX0_least.data.toList.drop 68 = dktX0_least_3 := dk_seg dksX0_least_2 23 rfl rfl
theorem dksX0_least_4 : cX0_least.data.toList.drop 92 = dktX0_least_4 := dk_seg dksX0_least_3 24 rfl rfl
theorem dX0_least_0 : decode cX0_least 0 = .ok (.aload_n 0, 1) := dk_42 (dk_at dksX0_least_0 0 rfl rfl)
theorem dX0_least_1 : decode cX0_least 1 = .ok (.iload_n 1, 1) := dk_27 (dk_at dksX0_least_0 1 rfl rfl)
theorem dX0_least_2 : decode cX0_least 2 = .ok (.iconst 0, 1) := dk_3 (dk_at dksX0_least_0 2 rfl rfl)
theorem dX0_least_3 : decode cX0_least 3 = .ok (.ldc 245, 2) := dk_18 245 (dk_at dksX0_least_0 3 rfl rfl)
theorem dX0_least_5 : decode cX0_least 5 = .ok (.invokestatic 91, 3) := dk_184 0 91 (dk_at dksX0_least_0 5 rfl rfl)
theorem dX0_least_8 : decode cX0_least 8 = .ok (.iconst 1, 1) := dk_4 (dk_at dksX0_least_0 8 rfl rfl)
theorem dX0_least_9 : decode cX0_least 9 = .ok (.invokevirtual 102, 3) := dk_182 0 102 (dk_at dksX0_least_0 9 rfl rfl)
theorem dX0_least_12 : decode cX0_least 12 = .ok (.iconst 0, 1) := dk_3 (dk_at dksX0_least_0 12 rfl rfl)
theorem dX0_least_13 : decode cX0_least 13 = .ok (.istore_n 2, 1) := dk_61 (dk_at dksX0_least_0 13 rfl rfl)
theorem dX0_least_14 : decode cX0_least 14 = .ok (.iconst 1, 1) := dk_4 (dk_at dksX0_least_0 14 rfl rfl)
theorem dX0_least_15 : decode cX0_least 15 = .ok (.istore_n 3, 1) := dk_62 (dk_at dksX0_least_0 15 rfl rfl)
theorem dX0_least_16 : decode cX0_least 16 = .ok (.iload_n 3, 1) := dk_29 (dk_at dksX0_least_0 16 rfl rfl)
theorem dX0_least_17 : decode cX0_least 17 = .ok (.iconst 1, 1) := dk_4 (dk_at dksX0_least_0 17 rfl rfl)
theorem dX0_least_18 : decode cX0_least 18 = .ok (.aload_n 0, 1) := dk_42 (dk_at dksX0_least_0 18 rfl rfl)
theorem dX0_least_19 : decode cX0_least 19 = .ok (.getfield 46, 3) := dk_180 0 46 (dk_at dksX0_least_0 19 rfl rfl)
theorem dX0_least_22 : decode cX0_least 22 = .ok (.getfield 95, 3) := dk_180 0 95 (dk_at dksX0_least_1 0 rfl rfl)
theorem dX0_least_25 : decode cX0_least 25 = .ok (.ishl, 1) := dk_120 (dk_at dksX0_least_1 3 rfl rfl)
theorem dX0_least_26 : decode cX0_least 26 = .ok (.if_icmp .ge 57, 3) := dk_162 0 57 (dk_at dksX0_least_1 4 rfl rfl)
theorem dX0_least_29 : decode cX0_least 29 = .ok (.iload_n 2, 1) := dk_28 (dk_at dksX0_least_1 7 rfl rfl)
theorem dX0_least_30 : decode cX0_least 30 = .ok (.ifCond .eq 14, 3) := dk_153 0 14 (dk_at dksX0_least_1 8 rfl rfl)
theorem dX0_least_33 : decode cX0_least 33 = .ok (.iload_n 3, 1) := dk_29 (dk_at dksX0_least_1 11 rfl rfl)
theorem dX0_least_34 : decode cX0_least 34 = .ok (.invokestatic 246, 3) := dk_184 0 246 (dk_at dksX0_least_1 12 rfl rfl)
theorem dX0_least_37 : decode cX0_least 37 = .ok (.iload_n 2, 1) := dk_28 (dk_at dksX0_least_1 15 rfl rfl)
theorem dX0_least_38 : decode cX0_least 38 = .ok (.invokestatic 246, 3) := dk_184 0 246 (dk_at dksX0_least_1 16 rfl rfl)
theorem dX0_least_41 : decode cX0_least 41 = .ok (.if_icmp .ge 7, 3) := dk_162 0 7 (dk_at dksX0_least_1 19 rfl rfl)
theorem dX0_least_44 : decode cX0_least 44 = .ok (.iconst 1, 1) := dk_4 (dk_at dksX0_least_1 22 rfl rfl)
theorem dX0_least_45 : decode cX0_least 45 = .ok (.goto 4, 3) := dk_167 0 4 (dk_at dksX0_least_2 0 rfl rfl)
theorem dX0_least_48 : decode cX0_least 48 = .ok (.iconst 0, 1) := dk_3 (dk_at dksX0_least_2 3 rfl rfl)
theorem dX0_least_49 : decode cX0_least 49 = .ok (.istore 4, 2) := dk_54 4 (dk_at dksX0_least_2 4 rfl rfl)
theorem dX0_least_51 : decode cX0_least 51 = .ok (.iload 4, 2) := dk_21 4 (dk_at dksX0_least_2 6 rfl rfl)
theorem dX0_least_53 : decode cX0_least 53 = .ok (.ifCond .eq 22, 3) := dk_153 0 22 (dk_at dksX0_least_2 8 rfl rfl)
theorem dX0_least_56 : decode cX0_least 56 = .ok (.iload_n 1, 1) := dk_27 (dk_at dksX0_least_2 11 rfl rfl)
theorem dX0_least_57 : decode cX0_least 57 = .ok (.aload_n 0, 1) := dk_42 (dk_at dksX0_least_2 12 rfl rfl)
theorem dX0_least_58 : decode cX0_least 58 = .ok (.getfield 46, 3) := dk_180 0 46 (dk_at dksX0_least_2 13 rfl rfl)
theorem dX0_least_61 : decode cX0_least 61 = .ok (.iload_n 3, 1) := dk_29 (dk_at dksX0_least_2 16 rfl rfl)
theorem dX0_least_62 : decode cX0_least 62 = .ok (.invokevirtual 235, 3) := dk_182 0 235 (dk_at dksX0_least_2 17 rfl rfl)
theorem dX0_least_65 : decode cX0_least 65 = .ok (.iconst (-1), 1) := dk_2 (dk_at dksX0_least_2 20 rfl rfl)
theorem dX0_least_66 : decode cX0_least 66 = .ok (.ixor, 1) := dk_130 (dk_at dksX0_least_2 21 rfl rfl)
theorem dX0_least_67 : decode cX0_least 67 = .ok (.iand, 1) := dk_126 (dk_at dksX0_least_2 22 rfl rfl)
theorem dX0_least_68 : decode cX0_least 68 = .ok (.ifCond .ne 7, 3) := dk_154 0 7 (dk_at dksX0_least_3 0 rfl rfl)
theorem dX0_least_71 : decode cX0_least 71 = .ok (.iload_n 3, 1) := dk_29 (dk_at dksX0_least_3 3 rfl rfl)
theorem dX0_least_72 : decode cX0_least 72 = .ok (.goto 4, 3) := dk_167 0 4 (dk_at dksX0_least_3 4 rfl rfl)
theorem dX0_least_75 : decode cX0_least 75 = .ok (.iload_n 2, 1) := dk_28 (dk_at dksX0_least_3 7 rfl rfl)
theorem dX0_least_76 : decode cX0_least 76 = .ok (.istore_n 2, 1) := dk_61 (dk_at dksX0_least_3 8 rfl rfl)
theorem dX0_least_77 : decode cX0_least 77 = .ok (.iinc 3 1, 3) := dk_132 3 1 (dk_at dksX0_least_3 9 rfl rfl)
theorem dX0_least_80 : decode cX0_least 80 = .ok (.goto (-64), 3) := dk_167 255 192 (dk_at dksX0_least_3 12 rfl rfl)
theorem dX0_least_83 : decode cX0_least 83 = .ok (.aload_n 0, 1) := dk_42 (dk_at dksX0_least_3 15 rfl rfl)
theorem dX0_least_84 : decode cX0_least 84 = .ok (.iload_n 2, 1) := dk_28 (dk_at dksX0_least_3 16 rfl rfl)
theorem dX0_least_85 : decode cX0_least 85 = .ok (.ifCond .le 7, 3) := dk_158 0 7 (dk_at dksX0_least_3 17 rfl rfl)
theorem dX0_least_88 : decode cX0_least 88 = .ok (.iconst 1, 1) := dk_4 (dk_at dksX0_least_3 20 rfl rfl)
theorem dX0_least_89 : decode cX0_least 89 = .ok (.goto 4, 3) := dk_167 0 4 (dk_at dksX0_least_3 21 rfl rfl)
theorem dX0_least_92 : decode cX0_least 92 = .ok (.iconst 0, 1) := dk_3 (dk_at dksX0_least_4 0 rfl rfl)
theorem dX0_least_93 : decode cX0_least 93 = .ok (.iconst 2, 1) := dk_5 (dk_at dksX0_least_4 1 rfl rfl)
theorem dX0_least_94 : decode cX0_least 94 = .ok (.invokevirtual 102, 3) := dk_182 0 102 (dk_at dksX0_least_4 2 rfl rfl)
theorem dX0_least_97 : decode cX0_least 97 = .ok (.iload_n 2, 1) := dk_28 (dk_at dksX0_least_4 5 rfl rfl)
theorem dX0_least_98 : decode cX0_least 98 = .ok (.ireturn, 1) := dk_172 (dk_at dksX0_least_4 6 rfl rfl)
theorem dX0_least_99 : decode cX0_least 99 = .ok (.astore_n 2, 1) := dk_77 (dk_at dksX0_least_4 7 rfl rfl)
theorem dX0_least_100 : decode cX0_least 100 = .ok (.aload_n 0, 1) := dk_42 (dk_at dksX0_least_4 8 rfl rfl)
theorem dX0_least_101 : decode cX0_least 101 = .ok (.aload_n 2, 1) := dk_44 (dk_at dksX0_least_4 9 rfl rfl)
theorem dX0_least_102 : decode cX0_least 102 = .ok (.invokevirtual 118, 3) := dk_182 0 118 (dk_at dksX0_least_4 10 rfl rfl)
theorem dX0_least_105 : decode cX0_least 105 = .ok (.ireturn, 1) := dk_172 (dk_at dksX0_least_4 13 rfl rfl)
abbrev cX0_borders : ByteArray := prog_1_method_37_code
def yX0_borders : MethodName := ⟨RX0, "borders", "(II)I"⟩
def dkwX0_borders_6 : List UInt8 := [21, 5, 172, 78, 42, 45, 182, 0, 118, 172]
abbrev dktX0_borders_6 : List UInt8 := dkwX0_borders_6 ++ []
def dkwX0_borders_5 : List UInt8 := [153, 0, 7, 4, 167, 0, 4, 3, 96, 54, 5, 132, 7, 1, 167, 255, 194, 132, 6, 1, 167, 255, 178]
abbrev dktX0_borders_5 : List UInt8 := dkwX0_borders_5 ++ dktX0_borders_6
def dkwX0_borders_4 : List UInt8 := [184, 0, 255, 54, 8, 21, 5, 21, 8, 2, 159, 0, 21, 21, 4, 29, 2, 130, 126, 21, 8, 184, 0, 251]
abbrev dktX0_borders_4 : List UInt8 := dkwX0_borders_4 ++ dktX0_borders_5
def dkwX0_borders_3 : List UInt8 := [21, 7, 8, 162, 0, 62, 29, 21, 4, 2, 130, 126, 21, 6, 184, 0, 251, 153, 0, 48, 21, 6, 21, 7]
abbrev dktX0_borders_3 : List UInt8 := dkwX0_borders_3 ++ dktX0_borders_4
def dkwX0_borders_2 : List UInt8 := [28, 120, 182, 0, 235, 54, 4, 3, 54, 5, 3, 54, 6, 21, 6, 16, 25, 162, 0, 77, 4, 54, 7]
abbrev dktX0_borders_2 : List UInt8 := dkwX0_borders_2 ++ dktX0_borders_3
def dkwX0_borders_1 : List UInt8 := [167, 0, 4, 3, 4, 182, 0, 102, 42, 180, 0, 46, 4, 27, 120, 182, 0, 235, 62, 42, 180, 0, 46, 4]
abbrev dktX0_borders_1 : List UInt8 := dkwX0_borders_1 ++ dktX0_borders_2
def dkwX0_borders_0 : List UInt8 := [42, 42, 27, 182, 0, 146, 153, 0, 20, 42, 28, 182, 0, 146, 153, 0, 12, 27, 28, 159, 0, 7, 4]
abbrev dktX0_borders_0 : List UInt8 := dkwX0_borders_0 ++ dktX0_borders_1
theorem dksX0_borders_0 : cX0_borders.data.toList.drop 0 = dktX0_borders_0 := by decide +kernel
theorem dksX0_borders_1 : cX0_borders.data.toList.drop 23 = dktX0_borders_1 := dk_seg dksX0_borders_0 23 rfl rfl
theorem dksX0_borders_2 : cX0_borders.data.toList.drop 47 = dktX0_borders_2 := dk_seg dksX0_borders_1 24 rfl rfl
theorem dksX0_borders_3 : cX0_borders.data.toList.drop 70 = dktX0_borders_3 := dk_seg dksX0_borders_2 23 rfl rfl
theorem dksX0_borders_4 : cX0_borders.data.toList.drop 94 = dktX0_borders_4 := dk_seg dksX0_borders_3 24 rfl rfl
theorem dksX0_borders_5 : cX0_borders.data.toList.drop 118 = dktX0_borders_5 := dk_seg dksX0_borders_4 24 rfl rfl
theorem dksX0_borders_6 : cX0_borders.data.toList.drop 141 = dktX0_borders_6 := dk_seg dksX0_borders_5 23 rfl rfl
theorem dX0_borders_0 : decode cX0_borders 0 = .ok (.aload_n 0, 1) := dk_42 (dk_at dksX0_borders_0 0 rfl rfl)
theorem dX0_borders_1 : decode cX0_borders 1 = .ok (.aload_n 0, 1) := dk_42 (dk_at dksX0_borders_0 1 rfl rfl)
theorem dX0_borders_2 : decode cX0_borders 2 = .ok (.iload_n 1, 1) := dk_27 (dk_at dksX0_borders_0 2 rfl rfl)
theorem dX0_borders_3 : decode cX0_borders 3 = .ok (.invokevirtual 146, 3) := dk_182 0 146 (dk_at dksX0_borders_0 3 rfl rfl)
theorem dX0_borders_6 : decode cX0_borders 6 = .ok (.ifCond .eq 20, 3) := dk_153 0 20 (dk_at dksX0_borders_0 6 rfl rfl)
theorem dX0_borders_9 : decode cX0_borders 9 = .ok (.aload_n 0, 1) := dk_42 (dk_at dksX0_borders_0 9 rfl rfl)
theorem dX0_borders_10 : decode cX0_borders 10 = .ok (.iload_n 2, 1) := dk_28 (dk_at dksX0_borders_0 10 rfl rfl)
theorem dX0_borders_11 : decode cX0_borders 11 = .ok (.invokevirtual 146, 3) := dk_182 0 146 (dk_at dksX0_borders_0 11 rfl rfl)
theorem dX0_borders_14 : decode cX0_borders 14 = .ok (.ifCond .eq 12, 3) := dk_153 0 12 (dk_at dksX0_borders_0 14 rfl rfl)
theorem dX0_borders_17 : decode cX0_borders 17 = .ok (.iload_n 1, 1) := dk_27 (dk_at dksX0_borders_0 17 rfl rfl)
theorem dX0_borders_18 : decode cX0_borders 18 = .ok (.iload_n 2, 1) := dk_28 (dk_at dksX0_borders_0 18 rfl rfl)
theorem dX0_borders_19 : decode cX0_borders 19 = .ok (.if_icmp .eq 7, 3) := dk_159 0 7 (dk_at dksX0_borders_0 19 rfl rfl)
theorem dX0_borders_22 : decode cX0_borders 22 = .ok (.iconst 1, 1) := dk_4 (dk_at dksX0_borders_0 22 rfl rfl)
theorem dX0_borders_23 : decode cX0_borders 23 = .ok (.goto 4, 3) := dk_167 0 4 (dk_at dksX0_borders_1 0 rfl rfl)
theorem dX0_borders_26 : decode cX0_borders 26 = .ok (.iconst 0, 1) := dk_3 (dk_at dksX0_borders_1 3 rfl rfl)
theorem dX0_borders_27 : decode cX0_borders 27 = .ok (.iconst 1, 1) := dk_4 (dk_at dksX0_borders_1 4 rfl rfl)
theorem dX0_borders_28 : decode cX0_borders 28 = .ok (.invokevirtual 102, 3) := dk_182 0 102 (dk_at dksX0_borders_1 5 rfl rfl)
theorem dX0_borders_31 : decode cX0_borders 31 = .ok (.aload_n 0, 1) := dk_42 (dk_at dksX0_borders_1 8 rfl rfl)
theorem dX0_borders_32 : decode cX0_borders 32 = .ok (.getfield 46, 3) := dk_180 0 46 (dk_at dksX0_borders_1 9 rfl rfl)
theorem dX0_borders_35 : decode cX0_borders 35 = .ok (.iconst 1, 1) := dk_4 (dk_at dksX0_borders_1 12 rfl rfl)
theorem dX0_borders_36 : decode cX0_borders 36 = .ok (.iload_n 1, 1) := dk_27 (dk_at dksX0_borders_1 13 rfl rfl)
theorem dX0_borders_37 : decode cX0_borders 37 = .ok (.ishl, 1) := dk_120 (dk_at dksX0_borders_1 14 rfl rfl)
theorem dX0_borders_38 : decode cX0_borders 38 = .ok (.invokevirtual 235, 3) := dk_182 0 235 (dk_at dksX0_borders_1 15 rfl rfl)
theorem dX0_borders_41 : decode cX0_borders 41 = .ok (.istore_n 3, 1) := dk_62 (dk_at dksX0_borders_1 18 rfl rfl)
theorem dX0_borders_42 : decode cX0_borders 42 = .ok (.aload_n 0, 1) := dk_42 (dk_at dksX0_borders_1 19 rfl rfl)
theorem dX0_borders_43 : decode cX0_borders 43 = .ok (.getfield 46, 3) := dk_180 0 46 (dk_at dksX0_borders_1 20 rfl rfl)
theorem dX0_borders_46 : decode cX0_borders 46 = .ok (.iconst 1, 1) := dk_4 (dk_at dksX0_borders_1 23 rfl rfl)
theorem dX0_borders_47 : decode cX0_borders 47 = .ok (.iload_n 2, 1) := dk_28 (dk_at dksX0_borders_2 0 rfl rfl)
theorem dX0_borders_48 : decode cX0_borders 48 = .ok (.ishl, 1) := dk_120 (dk_at dksX0_borders_2 1 rfl rfl)
theorem dX0_borders_49 : decode cX0_borders 49 = .ok (.invokevirtual 235, 3) := dk_182 0 235 (dk_at dksX0_borders_2 2 rfl rfl)
theorem dX0_borders_52 : decode cX0_borders 52 = .ok (.istore 4, 2) := dk_54 4 (dk_at dksX0_borders_2 5 rfl rfl)
theorem dX0_borders_54 : decode cX0_borders 54 = .ok (.iconst 0, 1) := dk_3 (dk_at dksX0_borders_2 7 rfl rfl)
theorem dX0_borders_55 : decode cX0_borders 55 = .ok (.istore 5, 2) := dk_54 5 (dk_at dksX0_borders_2 8 rfl rfl)
theorem dX0_borders_57 : decode cX0_borders 57 = .ok (.iconst 0, 1) := dk_3 (dk_at dksX0_borders_2 10 rfl rfl)
theorem dX0_borders_58 : decode cX0_borders 58 = .ok (.istore 6, 2) := dk_54 6 (dk_at dksX0_borders_2 11 rfl rfl)
theorem dX0_borders_60 : decode cX0_borders 60 = .ok (.iload 6, 2) := dk_21 6 (dk_at dksX0_borders_2 13 rfl rfl)
theorem dX0_borders_62 : decode cX0_borders 62 = .ok (.bipush 25, 2) := dk_16 25 (dk_at dksX0_borders_2 15 rfl rfl)
theorem dX0_borders_64 : decode cX0_borders 64 = .ok (.if_icmp .ge 77, 3) := dk_162 0 77 (dk_at dksX0_borders_2 17 rfl rfl)
theorem dX0_borders_67 : decode cX0_borders 67 = .ok (.iconst 1, 1) := dk_4 (dk_at dksX0_borders_2 20 rfl rfl)
theorem dX0_borders_68 : decode cX0_borders 68 = .ok (.istore 7, 2) := dk_54 7 (dk_at dksX0_borders_2 21 rfl rfl)
theorem dX0_borders_70 : decode cX0_borders 70 = .ok (.iload 7, 2) := dk_21 7 (dk_at dksX0_borders_3 0 rfl rfl)
theorem dX0_borders_72 : decode cX0_borders 72 = .ok (.iconst 5, 1) := dk_8 (dk_at dksX0_borders_3 2 rfl rfl)
theorem dX0_borders_73 : decode cX0_borders 73 = .ok (.if_icmp .ge 62, 3) := dk_162 0 62 (dk_at dksX0_borders_3 3 rfl rfl)
theorem dX0_borders_76 : decode cX0_borders 76 = .ok (.iload_n 3, 1) := dk_29 (dk_at dksX0_borders_3 6 rfl rfl)
theorem dX0_borders_77 : decode cX0_borders 77 = .ok (.iload 4, 2) := dk_21 4 (dk_at dksX0_borders_3 7 rfl rfl)
theorem dX0_borders_79 : decode cX0_borders 79 = .ok (.iconst (-1), 1) := dk_2 (dk_at dksX0_borders_3 9 rfl rfl)
theorem dX0_borders_80 : decode cX0_borders 80 = .ok (.ixor, 1) := dk_130 (dk_at dksX0_borders_3 10 rfl rfl)
theorem dX0_borders_81 : decode cX0_borders 81 = .ok (.iand, 1) := dk_126 (dk_at dksX0_borders_3 11 rfl rfl)
theorem dX0_borders_82 : decode cX0_borders 82 = .ok (.iload 6, 2) := dk_21 6 (dk_at dksX0_borders_3 12 rfl rfl)
theorem dX0_borders_84 : decode cX0_borders 84 = .ok (.invokestatic 251, 3) := dk_184 0 251 (dk_at dksX0_borders_3 14 rfl rfl)
theorem dX0_borders_87 : decode cX0_borders 87 = .ok (.ifCond .eq 48, 3) := dk_153 0 48 (dk_at dksX0_borders_3 17 rfl rfl)
theorem dX0_borders_90 : decode cX0_borders 90 = .ok (.iload 6, 2) := dk_21 6 (dk_at dksX0_borders_3 20 rfl rfl)
theorem dX0_borders_92 : decode cX0_borders 92 = .ok (.iload 7, 2) := dk_21 7 (dk_at dksX0_borders_3 22 rfl rfl)
theorem dX0_borders_94 : decode cX0_borders 94 = .ok (.invokestatic 255, 3) := dk_184 0 255 (dk_at dksX0_borders_4 0 rfl rfl)
theorem dX0_borders_97 : decode cX0_borders 97 = .ok (.istore 8, 2) := dk_54 8 (dk_at dksX0_borders_4 3 rfl rfl)
theorem dX0_borders_99 : decode cX0_borders 99 = .ok (.iload 5, 2) := dk_21 5 (dk_at dksX0_borders_4 5 rfl rfl)
theorem dX0_borders_101 : decode cX0_borders 101 = .ok (.iload 8, 2) := dk_21 8 (dk_at dksX0_borders_4 7 rfl rfl)
theorem dX0_borders_103 : decode cX0_borders 103 = .ok (.iconst (-1), 1) := dk_2 (dk_at dksX0_borders_4 9 rfl rfl)
theorem dX0_borders_104 : decode cX0_borders 104 = .ok (.if_icmp .eq 21, 3) := dk_159 0 21 (dk_at dksX0_borders_4 10 rfl rfl)
theorem dX0_borders_107 : decode cX0_borders 107 = .ok (.iload 4, 2) := dk_21 4 (dk_at dksX0_borders_4 13 rfl rfl)
theorem dX0_borders_109 : decode cX0_borders 109 = .ok (.iload_n 3, 1) := dk_29 (dk_at dksX0_borders_4 15 rfl rfl)
theorem dX0_borders_110 : decode cX0_borders 110 = .ok (.iconst (-1), 1) := dk_2 (dk_at dksX0_borders_4 16 rfl rfl)
theorem dX0_borders_111 : decode cX0_borders 111 = .ok (.ixor, 1) := dk_130 (dk_at dksX0_borders_4 17 rfl rfl)
theorem dX0_borders_112 : decode cX0_borders 112 = .ok (.iand, 1) := dk_126 (dk_at dksX0_borders_4 18 rfl rfl)
theorem dX0_borders_113 : decode cX0_borders 113 = .ok (.iload 8, 2) := dk_21 8 (dk_at dksX0_borders_4 19 rfl rfl)
theorem dX0_borders_115 : decode cX0_borders 115 = .ok (.invokestatic 251, 3) := dk_184 0 251 (dk_at dksX0_borders_4 21 rfl rfl)
theorem dX0_borders_118 : decode cX0_borders 118 = .ok (.ifCond .eq 7, 3) := dk_153 0 7 (dk_at dksX0_borders_5 0 rfl rfl)
theorem dX0_borders_121 : decode cX0_borders 121 = .ok (.iconst 1, 1) := dk_4 (dk_at dksX0_borders_5 3 rfl rfl)
theorem dX0_borders_122 : decode cX0_borders 122 = .ok (.goto 4, 3) := dk_167 0 4 (dk_at dksX0_borders_5 4 rfl rfl)
theorem dX0_borders_125 : decode cX0_borders 125 = .ok (.iconst 0, 1) := dk_3 (dk_at dksX0_borders_5 7 rfl rfl)
theorem dX0_borders_126 : decode cX0_borders 126 = .ok (.iadd, 1) := dk_96 (dk_at dksX0_borders_5 8 rfl rfl)
theorem dX0_borders_127 : decode cX0_borders 127 = .ok (.istore 5, 2) := dk_54 5 (dk_at dksX0_borders_5 9 rfl rfl)
theorem dX0_borders_129 : decode cX0_borders 129 = .ok (.iinc 7 1, 3) := dk_132 7 1 (dk_at dksX0_borders_5 11 rfl rfl)
theorem dX0_borders_132 : decode cX0_borders 132 = .ok (.goto (-62), 3) := dk_167 255 194 (dk_at dksX0_borders_5 14 rfl rfl)
theorem dX0_borders_135 : decode cX0_borders 135 = .ok (.iinc 6 1, 3) := dk_132 6 1 (dk_at dksX0_borders_5 17 rfl rfl)
theorem dX0_borders_138 : decode cX0_borders 138 = .ok (.goto (-78), 3) := dk_167 255 178 (dk_at dksX0_borders_5 20 rfl rfl)
theorem dX0_borders_141 : decode cX0_borders 141 = .ok (.iload 5, 2) := dk_21 5 (dk_at dksX0_borders_6 0 rfl rfl)
theorem dX0_borders_143 : decode cX0_borders 143 = .ok (.ireturn, 1) := dk_172 (dk_at dksX0_borders_6 2 rfl rfl)
theorem dX0_borders_144 : decode cX0_borders 144 = .ok (.astore_n 3, 1) := dk_78 (dk_at dksX0_borders_6 3 rfl rfl)
theorem dX0_borders_145 : decode cX0_borders 145 = .ok (.aload_n 0, 1) := dk_42 (dk_at dksX0_borders_6 4 rfl rfl)
theorem dX0_borders_146 : decode cX0_borders 146 = .ok (.aload_n 3, 1) := dk_45 (dk_at dksX0_borders_6 5 rfl rfl)
theorem dX0_borders_147 : decode cX0_borders 147 = .ok (.invokevirtual 118, 3) := dk_182 0 118 (dk_at dksX0_borders_6 6 rfl rfl)
theorem dX0_borders_150 : decode cX0_borders 150 = .ok (.ireturn, 1) := dk_172 (dk_at dksX0_borders_6 9 rfl rfl)
abbrev cX0_then : ByteArray := prog_1_method_38_code
def yX0_then : MethodName := ⟨RX0, "then", "(III)I"⟩
def dkwX0_then_4 : List UInt8 := [182, 0, 118, 172]
abbrev dktX0_then_4 : List UInt8 := dkwX0_then_4 ++ []
def dkwX0_then_3 : List UInt8 := [180, 0, 53, 180, 0, 115, 42, 180, 0, 53, 180, 0, 122, 28, 46, 46, 172, 58, 4, 42, 25, 4]
abbrev dktX0_then_3 : List UInt8 := dkwX0_then_3 ++ dktX0_then_4
def dkwX0_then_2 : List UInt8 := [182, 0, 231, 27, 182, 0, 215, 29, 154, 0, 15, 42, 180, 0, 53, 180, 0, 122, 28, 46, 167, 0, 20, 42]
abbrev dktX0_then_2 : List UInt8 := dkwX0_then_2 ++ dktX0_then_3
def dkwX0_then_1 : List UInt8 := [184, 0, 91, 153, 0, 7, 4, 167, 0, 4, 3, 4, 182, 0, 102, 42, 180, 0, 53, 42, 180, 0, 46]
abbrev dktX0_then_1 : List UInt8 := dkwX0_then_1 ++ dktX0_then_2
def dkwX0_then_0 : List UInt8 := [42, 27, 3, 16, 100, 184, 0, 91, 153, 0, 24, 42, 28, 182, 0, 146, 153, 0, 16, 29, 3, 4]
abbrev dktX0_then_0 : List UInt8 := dkwX0_then_0 ++ dktX0_then_1
theorem dksX0_then_0 : cX0_then.data.toList.drop 0 = dktX0_then_0 := by decide +kernel
theorem dksX0_then_1 : cX0_then.data.toList.drop 22 = dktX0_then_1 := dk_seg dksX0_then_0 22 rfl rfl
theorem dksX0_then_2 : cX0_then.data.toList.drop 45 = dktX0_then_2 := dk_seg dksX0_then_1 23 rfl rfl
theorem dksX0_then_3 : cX0_then.data.toList.drop 69 = dktX0_then_3 := dk_seg dksX0_then_2 24 rfl rfl
theorem dksX0_then_4 : cX0_then.data.toList.drop 91 = dktX0_then_4 := dk_seg dksX0_then_3 22 rfl rfl
theorem dX0_then_0 : decode cX0_then 0 = .ok (.aload_n 0, 1) := dk_42 (dk_at dksX0_then_0 0 rfl rfl)
theorem dX0_then_1 : decode cX0_then 1 = .ok (.iload_n 1, 1) := dk_27 (dk_at dksX0_then_0 1 rfl rfl)
theorem dX0_then_2 : decode cX0_then 2 = .ok (.iconst 0, 1) := dk_3 (dk_at dksX0_then_0 2 rfl rfl)
theorem dX0_then_3 : decode cX0_then 3 = .ok (.bipush 100, 2) := dk_16 100 (dk_at dksX0_then_0 3 rfl rfl)
theorem dX0_then_5 : decode cX0_then 5 = .ok (.invokestatic 91, 3) := dk_184 0 91 (dk_at dksX0_then_0 5 rfl rfl)
theorem dX0_then_8 : decode cX0_then 8 = .ok (.ifCond .eq 24, 3) := dk_153 0 24 (dk_at dksX0_then_0 8 rfl rfl)
theorem dX0_then_11 : decode cX0_then 11 = .ok (.aload_n 0, 1) := dk_42 (dk_at dksX0_then_0 11 rfl rfl)
theorem dX0_then_12 : decode cX0_then 12 = .ok (.iload_n 2, 1) := dk_28 (dk_at dksX0_then_0 12 rfl rfl)
theorem dX0_then_13 : decode cX0_then 13 = .ok (.invokevirtual 146, 3) := dk_182 0 146 (dk_at dksX0_then_0 13 rfl rfl)
theorem dX0_then_16 : decode cX0_then 16 = .ok (.ifCond .eq 16, 3) := dk_153 0 16 (dk_at dksX0_then_0 16 rfl rfl)
theorem dX0_then_19 : decode cX0_then 19 = .ok (.iload_n 3, 1) := dk_29 (dk_at dksX0_then_0 19 rfl rfl)
theorem dX0_then_20 : decode cX0_then 20 = .ok (.iconst 0, 1) := dk_3 (dk_at dksX0_then_0 20 rfl rfl)
theorem dX0_then_21 : decode cX0_then 21 = .ok (.iconst 1, 1) := dk_4 (dk_at dksX0_then_0 21 rfl rfl)
theorem dX0_then_22 : decode cX0_then 22 = .ok (.invokestatic 91, 3) := dk_184 0 91 (dk_at dksX0_then_1 0 rfl rfl)
theorem dX0_then_25 : decode cX0_then 25 = .ok (.ifCond .eq 7, 3) := dk_153 0 7 (dk_at dksX0_then_1 3 rfl rfl)
theorem dX0_then_28 : decode cX0_then 28 = .ok (.iconst 1, 1) := dk_4 (dk_at dksX0_then_1 6 rfl rfl)
theorem dX0_then_29 : decode cX0_then 29 = .ok (.goto 4, 3) := dk_167 0 4 (dk_at dksX0_then_1 7 rfl rfl)
theorem dX0_then_32 : decode cX0_then 32 = .ok (.iconst 0, 1) := dk_3 (dk_at dksX0_then_1 10 rfl rfl)
theorem dX0_then_33 : decode cX0_then 33 = .ok (.iconst 1, 1) := dk_4 (dk_at dksX0_then_1 11 rfl rfl)
theorem dX0_then_34 : decode cX0_then 34 = .ok (.invokevirtual 102, 3) := dk_182 0 102 (dk_at dksX0_then_1 12 rfl rfl)
theorem dX0_then_37 : decode cX0_then 37 = .ok (.aload_n 0, 1) := dk_42 (dk_at dksX0_then_1 15 rfl rfl)
theorem dX0_then_38 : decode cX0_then 38 = .ok (.getfield 53, 3) := dk_180 0 53 (dk_at dksX0_then_1 16 rfl rfl)
theorem dX0_then_41 : decode cX0_then 41 = .ok (.aload_n 0, 1) := dk_42 (dk_at dksX0_then_1 19 rfl rfl)
theorem dX0_then_42 : decode cX0_then 42 = .ok (.getfield 46, 3) := dk_180 0 46 (dk_at dksX0_then_1 20 rfl rfl)
theorem dX0_then_45 : decode cX0_then 45 = .ok (.invokevirtual 231, 3) := dk_182 0 231 (dk_at dksX0_then_2 0 rfl rfl)
theorem dX0_then_48 : decode cX0_then 48 = .ok (.iload_n 1, 1) := dk_27 (dk_at dksX0_then_2 3 rfl rfl)
theorem dX0_then_49 : decode cX0_then 49 = .ok (.invokevirtual 215, 3) := dk_182 0 215 (dk_at dksX0_then_2 4 rfl rfl)
theorem dX0_then_52 : decode cX0_then 52 = .ok (.iload_n 3, 1) := dk_29 (dk_at dksX0_then_2 7 rfl rfl)
theorem dX0_then_53 : decode cX0_then 53 = .ok (.ifCond .ne 15, 3) := dk_154 0 15 (dk_at dksX0_then_2 8 rfl rfl)
theorem dX0_then_56 : decode cX0_then 56 = .ok (.aload_n 0, 1) := dk_42 (dk_at dksX0_then_2 11 rfl rfl)
theorem dX0_then_57 : decode cX0_then 57 = .ok (.getfield 53, 3) := dk_180 0 53 (dk_at dksX0_then_2 12 rfl rfl)
theorem dX0_then_60 : decode cX0_then 60 = .ok (.getfield 122, 3) := dk_180 0 122 (dk_at dksX0_then_2 15 rfl rfl)
theorem dX0_then_63 : decode cX0_then 63 = .ok (.iload_n 2, 1) := dk_28 (dk_at dksX0_then_2 18 rfl rfl)
theorem dX0_then_64 : decode cX0_then 64 = .ok (.iaload, 1) := dk_46 (dk_at dksX0_then_2 19 rfl rfl)
theorem dX0_then_65 : decode cX0_then 65 = .ok (.goto 20, 3) := dk_167 0 20 (dk_at dksX0_then_2 20 rfl rfl)
theorem dX0_then_68 : decode cX0_then 68 = .ok (.aload_n 0, 1) := dk_42 (dk_at dksX0_then_2 23 rfl rfl)
theorem dX0_then_69 : decode cX0_then 69 = .ok (.getfield 53, 3) := dk_180 0 53 (dk_at dksX0_then_3 0 rfl rfl)
theorem dX0_then_72 : decode cX0_then 72 = .ok (.getfield 115, 3) := dk_180 0 115 (dk_at dksX0_then_3 3 rfl rfl)
theorem dX0_then_75 : decode cX0_then 75 = .ok (.aload_n 0, 1) := dk_42 (dk_at dksX0_then_3 6 rfl rfl)
theorem dX0_then_76 : decode cX0_then 76 = .ok (.getfield 53, 3) := dk_180 0 53 (dk_at dksX0_then_3 7 rfl rfl)
theorem dX0_then_79 : decode cX0_then 79 = .ok (.getfield 122, 3) := dk_180 0 122 (dk_at dksX0_then_3 10 rfl rfl)
theorem dX0_then_82 : decode cX0_then 82 = .ok (.iload_n 2, 1) := dk_28 (dk_at dksX0_then_3 13 rfl rfl)
theorem dX0_then_83 : decode cX0_then 83 = .ok (.iaload, 1) := dk_46 (dk_at dksX0_then_3 14 rfl rfl)
theorem dX0_then_84 : decode cX0_then 84 = .ok (.iaload, 1) := dk_46 (dk_at dksX0_then_3 15 rfl rfl)
theorem dX0_then_85 : decode cX0_then 85 = .ok (.ireturn, 1) := dk_172 (dk_at dksX0_then_3 16 rfl rfl)
theorem dX0_then_86 : decode cX0_then 86 = .ok (.astore 4, 2) := dk_58 4 (dk_at dksX0_then_3 17 rfl rfl)
theorem dX0_then_88 : decode cX0_then 88 = .ok (.aload_n 0, 1) := dk_42 (dk_at dksX0_then_3 19 rfl rfl)
theorem dX0_then_89 : decode cX0_then 89 = .ok (.aload 4, 2) := dk_25 4 (dk_at dksX0_then_3 20 rfl rfl)
theorem dX0_then_91 : decode cX0_then 91 = .ok (.invokevirtual 118, 3) := dk_182 0 118 (dk_at dksX0_then_4 0 rfl rfl)
theorem dX0_then_94 : decode cX0_then 94 = .ok (.ireturn, 1) := dk_172 (dk_at dksX0_then_4 3 rfl rfl)
abbrev cX0_walked : ByteArray := prog_1_method_40_code
def yX0_walked : MethodName := ⟨RX0, "walked", "(II)I"⟩
def dkwX0_walked_9 : List UInt8 := [42, 45, 182, 0, 118, 172]
abbrev dktX0_walked_9 : List UInt8 := dkwX0_walked_9 ++ []
def dkwX0_walked_8 : List UInt8 := [184, 1, 33, 54, 6, 132, 7, 1, 167, 255, 205, 28, 154, 0, 8, 21, 6, 167, 0, 5, 21, 5, 172, 78]
abbrev dktX0_walked_8 : List UInt8 := dkwX0_walked_8 ++ dktX0_walked_9
def dkwX0_walked_7 : List UInt8 := [4, 21, 7, 120, 167, 0, 4, 3, 128, 54, 5, 19, 1, 32, 21, 6, 42, 180, 0, 73, 21, 7, 46, 96]
abbrev dktX0_walked_7 : List UInt8 := dkwX0_walked_7 ++ dktX0_walked_8
def dkwX0_walked_6 : List UInt8 := [54, 6, 3, 54, 7, 21, 7, 16, 25, 162, 0, 50, 21, 5, 42, 180, 0, 73, 21, 7, 46, 158, 0, 10]
abbrev dktX0_walked_6 : List UInt8 := dkwX0_walked_6 ++ dktX0_walked_7
def dkwX0_walked_5 : List UInt8 := [155, 0, 19, 42, 45, 21, 5, 182, 1, 26, 182, 1, 29, 132, 5, 255, 167, 255, 238, 3, 54, 5, 3]
abbrev dktX0_walked_5 : List UInt8 := dkwX0_walked_5 ++ dktX0_walked_6
def dkwX0_walked_4 : List UInt8 := [4, 167, 0, 4, 3, 79, 132, 5, 1, 167, 255, 219, 45, 182, 1, 23, 5, 100, 54, 5, 21, 5]
abbrev dktX0_walked_4 : List UInt8 := dkwX0_walked_4 ++ dktX0_walked_5
def dkwX0_walked_3 : List UInt8 := [162, 0, 36, 42, 180, 0, 73, 21, 5, 42, 180, 0, 46, 180, 0, 112, 21, 5, 46, 21, 4, 160, 0, 7]
abbrev dktX0_walked_3 : List UInt8 := dkwX0_walked_3 ++ dktX0_walked_4
def dkwX0_walked_2 : List UInt8 := [182, 0, 102, 45, 45, 182, 1, 23, 4, 100, 182, 1, 26, 54, 4, 3, 54, 5, 21, 5, 16, 25]
abbrev dktX0_walked_2 : List UInt8 := dkwX0_walked_2 ++ dktX0_walked_3
def dkwX0_walked_1 : List UInt8 := [182, 0, 102, 42, 27, 182, 1, 19, 78, 42, 45, 182, 1, 23, 158, 0, 7, 4, 167, 0, 4, 3, 5]
abbrev dktX0_walked_1 : List UInt8 := dkwX0_walked_1 ++ dktX0_walked_2
def dkwX0_walked_0 : List UInt8 := [42, 27, 184, 1, 16, 153, 0, 16, 28, 3, 4, 184, 0, 91, 153, 0, 7, 4, 167, 0, 4, 3, 4]
abbrev dktX0_walked_0 : List UInt8 := dkwX0_walked_0 ++ dktX0_walked_1
theorem dksX0_walked_0 : cX0_walked.data.toList.drop 0 = dktX0_walked_0 := by decide +kernel
theorem dksX0_walked_1 : cX0_walked.data.toList.drop 23 = dktX0_walked_1 := dk_seg dksX0_walked_0 23 rfl rfl
theorem dksX0_walked_2 : cX0_walked.data.toList.drop 46 = dktX0_walked_2 := dk_seg dksX0_walked_1 23 rfl rfl
theorem dksX0_walked_3 : cX0_walked.data.toList.drop 68 = dktX0_walked_3 := dk_seg dksX0_walked_2 22 rfl rfl
theorem dksX0_walked_4 : cX0_walked.data.toList.drop 92 = dktX0_walked_4 := dk_seg dksX0_walked_3 24 rfl rfl
theorem dksX0_walked_5 : cX0_walked.data.toList.drop 114 = dktX0_walked_5 := dk_seg dksX0_walked_4 22 rfl rfl
theorem dksX0_walked_6 : cX0_walked.data.toList.drop 137 = dktX0_walked_6 := dk_seg dksX0_walked_5 23 rfl rfl
theorem dksX0_walked_7 : cX0_walked.data.toList.drop 161 = dktX0_walked_7 := dk_seg dksX0_walked_6 24 rfl rfl
theorem dksX0_walked_8 : cX0_walked.data.toList.drop 185 = dktX0_walked_8 := dk_seg dksX0_walked_7 24 rfl rfl
theorem dksX0_walked_9 : cX0_walked.data.toList.drop 209 = dktX0_walked_9 := dk_seg dksX0_walked_8 24 rfl rfl
theorem dX0_walked_0 : decode cX0_walked 0 = .ok (.aload_n 0, 1) := dk_42 (dk_at dksX0_walked_0 0 rfl rfl)
theorem dX0_walked_1 : decode cX0_walked 1 = .ok (.iload_n 1, 1) := dk_27 (dk_at dksX0_walked_0 1 rfl rfl)
theorem dX0_walked_2 : decode cX0_walked 2 = .ok (.invokestatic 272, 3) := dk_184 1 16 (dk_at dksX0_walked_0 2 rfl rfl)
theorem dX0_walked_5 : decode cX0_walked 5 = .ok (.ifCond .eq 16, 3) := dk_153 0 16 (dk_at dksX0_walked_0 5 rfl rfl)
theorem dX0_walked_8 : decode cX0_walked 8 = .ok (.iload_n 2, 1) := dk_28 (dk_at dksX0_walked_0 8 rfl rfl)
theorem dX0_walked_9 : decode cX0_walked 9 = .ok (.iconst 0, 1) := dk_3 (dk_at dksX0_walked_0 9 rfl rfl)
theorem dX0_walked_10 : decode cX0_walked 10 = .ok (.iconst 1, 1) := dk_4 (dk_at dksX0_walked_0 10 rfl rfl)
theorem dX0_walked_11 : decode cX0_walked 11 = .ok (.invokestatic 91, 3) := dk_184 0 91 (dk_at dksX0_walked_0 11 rfl rfl)
theorem dX0_walked_14 : decode cX0_walked 14 = .ok (.ifCond .eq 7, 3) := dk_153 0 7 (dk_at dksX0_walked_0 14 rfl rfl)
theorem dX0_walked_17 : decode cX0_walked 17 = .ok (.iconst 1, 1) := dk_4 (dk_at dksX0_walked_0 17 rfl rfl)
theorem dX0_walked_18 : decode cX0_walked 18 = .ok (.goto 4, 3) := dk_167 0 4 (dk_at dksX0_walked_0 18 rfl rfl)
theorem dX0_walked_21 : decode cX0_walked 21 = .ok (.iconst 0, 1) := dk_3 (dk_at dksX0_walked_0 21 rfl rfl)
theorem dX0_walked_22 : decode cX0_walked 22 = .ok (.iconst 1, 1) := dk_4 (dk_at dksX0_walked_0 22 rfl rfl)
theorem dX0_walked_23 : decode cX0_walked 23 = .ok (.invokevirtual 102, 3) := dk_182 0 102 (dk_at dksX0_walked_1 0 rfl rfl)
theorem dX0_walked_26 : decode cX0_walked 26 = .ok (.aload_n 0, 1) := dk_42 (dk_at dksX0_walked_1 3 rfl rfl)
theorem dX0_walked_27 : decode cX0_walked 27 = .ok (.iload_n 1, 1) := dk_27 (dk_at dksX0_walked_1 4 rfl rfl)
theorem dX0_walked_28 : decode cX0_walked 28 = .ok (.invokevirtual 275, 3) := dk_182 1 19 (dk_at dksX0_walked_1 5 rfl rfl)
theorem dX0_walked_31 : decode cX0_walked 31 = .ok (.astore_n 3, 1) := dk_78 (dk_at dksX0_walked_1 8 rfl rfl)
theorem dX0_walked_32 : decode cX0_walked 32 = .ok (.aload_n 0, 1) := dk_42 (dk_at dksX0_walked_1 9 rfl rfl)
theorem dX0_walked_33 : decode cX0_walked 33 = .ok (.aload_n 3, 1) := dk_45 (dk_at dksX0_walked_1 10 rfl rfl)
theorem dX0_walked_34 : decode cX0_walked 34 = .ok (.invokevirtual 279, 3) := dk_182 1 23 (dk_at dksX0_walked_1 11 rfl rfl)
theorem dX0_walked_37 : decode cX0_walked 37 = .ok (.ifCond .le 7, 3) := dk_158 0 7 (dk_at dksX0_walked_1 14 rfl rfl)
theorem dX0_walked_40 : decode cX0_walked 40 = .ok (.iconst 1, 1) := dk_4 (dk_at dksX0_walked_1 17 rfl rfl)
theorem dX0_walked_41 : decode cX0_walked 41 = .ok (.goto 4, 3) := dk_167 0 4 (dk_at dksX0_walked_1 18 rfl rfl)
theorem dX0_walked_44 : decode cX0_walked 44 = .ok (.iconst 0, 1) := dk_3 (dk_at dksX0_walked_1 21 rfl rfl)
theorem dX0_walked_45 : decode cX0_walked 45 = .ok (.iconst 2, 1) := dk_5 (dk_at dksX0_walked_1 22 rfl rfl)
theorem dX0_walked_46 : decode cX0_walked 46 = .ok (.invokevirtual 102, 3) := dk_182 0 102 (dk_at dksX0_walked_2 0 rfl rfl)
theorem dX0_walked_49 : decode cX0_walked 49 = .ok (.aload_n 3, 1) := dk_45 (dk_at dksX0_walked_2 3 rfl rfl)
theorem dX0_walked_50 : decode cX0_walked 50 = .ok (.aload_n 3, 1) := dk_45 (dk_at dksX0_walked_2 4 rfl rfl)
theorem dX0_walked_51 : decode cX0_walked 51 = .ok (.invokevirtual 279, 3) := dk_182 1 23 (dk_at dksX0_walked_2 5 rfl rfl)
theorem dX0_walked_54 : decode cX0_walked 54 = .ok (.iconst 1, 1) := dk_4 (dk_at dksX0_walked_2 8 rfl rfl)
theorem dX0_walked_55 : decode cX0_walked 55 = .ok (.isub, 1) := dk_100 (dk_at dksX0_walked_2 9 rfl rfl)
theorem dX0_walked_56 : decode cX0_walked 56 = .ok (.invokevirtual 282, 3) := dk_182 1 26 (dk_at dksX0_walked_2 10 rfl rfl)
theorem dX0_walked_59 : decode cX0_walked 59 = .ok (.istore 4, 2) := dk_54 4 (dk_at dksX0_walked_2 13 rfl rfl)
theorem dX0_walked_61 : decode cX0_walked 61 = .ok (.iconst 0, 1) := dk_3 (dk_at dksX0_walked_2 15 rfl rfl)
theorem dX0_walked_62 : decode cX0_walked 62 = .ok (.istore 5, 2) := dk_54 5 (dk_at dksX0_walked_2 16 rfl rfl)
theorem dX0_walked_64 : decode cX0_walked 64 = .ok (.iload 5, 2) := dk_21 5 (dk_at dksX0_walked_2 18 rfl rfl)
theorem dX0_walked_66 : decode cX0_walked 66 = .ok (.bipush 25, 2) := dk_16 25 (dk_at dksX0_walked_2 20 rfl rfl)
theorem dX0_walked_68 : decode cX0_walked 68 = .ok (.if_icmp .ge 36, 3) := dk_162 0 36 (dk_at dksX0_walked_3 0 rfl rfl)
theorem dX0_walked_71 : decode cX0_walked 71 = .ok (.aload_n 0, 1) := dk_42 (dk_at dksX0_walked_3 3 rfl rfl)
theorem dX0_walked_72 : decode cX0_walked 72 = .ok (.getfield 73, 3) := dk_180 0 73 (dk_at dksX0_walked_3 4 rfl rfl)
theorem dX0_walked_75 : decode cX0_walked 75 = .ok (.iload 5, 2) := dk_21 5 (dk_at dksX0_walked_3 7 rfl rfl)
theorem dX0_walked_77 : decode cX0_walked 77 = .ok (.aload_n 0, 1) := dk_42 (dk_at dksX0_walked_3 9 rfl rfl)
theorem dX0_walked_78 : decode cX0_walked 78 = .ok (.getfield 46, 3) := dk_180 0 46 (dk_at dksX0_walked_3 10 rfl rfl)
theorem dX0_walked_81 : decode cX0_walked 81 = .ok (.getfield 112, 3) := dk_180 0 112 (dk_at dksX0_walked_3 13 rfl rfl)
theorem dX0_walked_84 : decode cX0_walked 84 = .ok (.iload 5, 2) := dk_21 5 (dk_at dksX0_walked_3 16 rfl rfl)
theorem dX0_walked_86 : decode cX0_walked 86 = .ok (.iaload, 1) := dk_46 (dk_at dksX0_walked_3 18 rfl rfl)
theorem dX0_walked_87 : decode cX0_walked 87 = .ok (.iload 4, 2) := dk_21 4 (dk_at dksX0_walked_3 19 rfl rfl)
theorem dX0_walked_89 : decode cX0_walked 89 = .ok (.if_icmp .ne 7, 3) := dk_160 0 7 (dk_at dksX0_walked_3 21 rfl rfl)
theorem dX0_walked_92 : decode cX0_walked 92 = .ok (.iconst 1, 1) := dk_4 (dk_at dksX0_walked_4 0 rfl rfl)
theorem dX0_walked_93 : decode cX0_walked 93 = .ok (.goto 4, 3) := dk_167 0 4 (dk_at dksX0_walked_4 1 rfl rfl)
theorem dX0_walked_96 : decode cX0_walked 96 = .ok (.iconst 0, 1) := dk_3 (dk_at dksX0_walked_4 4 rfl rfl)
theorem dX0_walked_97 : decode cX0_walked 97 = .ok (.iastore, 1) := dk_79 (dk_at dksX0_walked_4 5 rfl rfl)
theorem dX0_walked_98 : decode cX0_walked 98 = .ok (.iinc 5 1, 3) := dk_132 5 1 (dk_at dksX0_walked_4 6 rfl rfl)
theorem dX0_walked_101 : decode cX0_walked 101 = .ok (.goto (-37), 3) := dk_167 255 219 (dk_at dksX0_walked_4 9 rfl rfl)
theorem dX0_walked_104 : decode cX0_walked 104 = .ok (.aload_n 3, 1) := dk_45 (dk_at dksX0_walked_4 12 rfl rfl)
theorem dX0_walked_105 : decode cX0_walked 105 = .ok (.invokevirtual 279, 3) := dk_182 1 23 (dk_at dksX0_walked_4 13 rfl rfl)
theorem dX0_walked_108 : decode cX0_walked 108 = .ok (.iconst 2, 1) := dk_5 (dk_at dksX0_walked_4 16 rfl rfl)
theorem dX0_walked_109 : decode cX0_walked 109 = .ok (.isub, 1) := dk_100 (dk_at dksX0_walked_4 17 rfl rfl)
theorem dX0_walked_110 : decode cX0_walked 110 = .ok (.istore 5, 2) := dk_54 5 (dk_at dksX0_walked_4 18 rfl rfl)
theorem dX0_walked_112 : decode cX0_walked 112 = .ok (.iload 5, 2) := dk_21 5 (dk_at dksX0_walked_4 20 rfl rfl)
theorem dX0_walked_114 : decode cX0_walked 114 = .ok (.ifCond .lt 19, 3) := dk_155 0 19 (dk_at dksX0_walked_5 0 rfl rfl)
theorem dX0_walked_117 : decode cX0_walked 117 = .ok (.aload_n 0, 1) := dk_42 (dk_at dksX0_walked_5 3 rfl rfl)
theorem dX0_walked_118 : decode cX0_walked 118 = .ok (.aload_n 3, 1) := dk_45 (dk_at dksX0_walked_5 4 rfl rfl)
theorem dX0_walked_119 : decode cX0_walked 119 = .ok (.iload 5, 2) := dk_21 5 (dk_at dksX0_walked_5 5 rfl rfl)
theorem dX0_walked_121 : decode cX0_walked 121 = .ok (.invokevirtual 282, 3) := dk_182 1 26 (dk_at dksX0_walked_5 7 rfl rfl)
theorem dX0_walked_124 : decode cX0_walked 124 = .ok (.invokevirtual 285, 3) := dk_182 1 29 (dk_at dksX0_walked_5 10 rfl rfl)
theorem dX0_walked_127 : decode cX0_walked 127 = .ok (.iinc 5 (-1), 3) := dk_132 5 255 (dk_at dksX0_walked_5 13 rfl rfl)
theorem dX0_walked_130 : decode cX0_walked 130 = .ok (.goto (-18), 3) := dk_167 255 238 (dk_at dksX0_walked_5 16 rfl rfl)
theorem dX0_walked_133 : decode cX0_walked 133 = .ok (.iconst 0, 1) := dk_3 (dk_at dksX0_walked_5 19 rfl rfl)
theorem dX0_walked_134 : decode cX0_walked 134 = .ok (.istore 5, 2) := dk_54 5 (dk_at dksX0_walked_5 20 rfl rfl)
theorem dX0_walked_136 : decode cX0_walked 136 = .ok (.iconst 0, 1) := dk_3 (dk_at dksX0_walked_5 22 rfl rfl)
theorem dX0_walked_137 : decode cX0_walked 137 = .ok (.istore 6, 2) := dk_54 6 (dk_at dksX0_walked_6 0 rfl rfl)
theorem dX0_walked_139 : decode cX0_walked 139 = .ok (.iconst 0, 1) := dk_3 (dk_at dksX0_walked_6 2 rfl rfl)
theorem dX0_walked_140 : decode cX0_walked 140 = .ok (.istore 7, 2) := dk_54 7 (dk_at dksX0_walked_6 3 rfl rfl)
theorem dX0_walked_142 : decode cX0_walked 142 = .ok (.iload 7, 2) := dk_21 7 (dk_at dksX0_walked_6 5 rfl rfl)
theorem dX0_walked_144 : decode cX0_walked 144 = .ok (.bipush 25, 2) := dk_16 25 (dk_at dksX0_walked_6 7 rfl rfl)
theorem dX0_walked_146 : decode cX0_walked 146 = .ok (.if_icmp .ge 50, 3) := dk_162 0 50 (dk_at dksX0_walked_6 9 rfl rfl)
theorem dX0_walked_149 : decode cX0_walked 149 = .ok (.iload 5, 2) := dk_21 5 (dk_at dksX0_walked_6 12 rfl rfl)
theorem dX0_walked_151 : decode cX0_walked 151 = .ok (.aload_n 0, 1) := dk_42 (dk_at dksX0_walked_6 14 rfl rfl)
theorem dX0_walked_152 : decode cX0_walked 152 = .ok (.getfield 73, 3) := dk_180 0 73 (dk_at dksX0_walked_6 15 rfl rfl)
theorem dX0_walked_155 : decode cX0_walked 155 = .ok (.iload 7, 2) := dk_21 7 (dk_at dksX0_walked_6 18 rfl rfl)
theorem dX0_walked_157 : decode cX0_walked 157 = .ok (.iaload, 1) := dk_46 (dk_at dksX0_walked_6 20 rfl rfl)
theorem dX0_walked_158 : decode cX0_walked 158 = .ok (.ifCond .le 10, 3) := dk_158 0 10 (dk_at dksX0_walked_6 21 rfl rfl)
theorem dX0_walked_161 : decode cX0_walked 161 = .ok (.iconst 1, 1) := dk_4 (dk_at dksX0_walked_7 0 rfl rfl)
theorem dX0_walked_162 : decode cX0_walked 162 = .ok (.iload 7, 2) := dk_21 7 (dk_at dksX0_walked_7 1 rfl rfl)
theorem dX0_walked_164 : decode cX0_walked 164 = .ok (.ishl, 1) := dk_120 (dk_at dksX0_walked_7 3 rfl rfl)
theorem dX0_walked_165 : decode cX0_walked 165 = .ok (.goto 4, 3) := dk_167 0 4 (dk_at dksX0_walked_7 4 rfl rfl)
theorem dX0_walked_168 : decode cX0_walked 168 = .ok (.iconst 0, 1) := dk_3 (dk_at dksX0_walked_7 7 rfl rfl)
theorem dX0_walked_169 : decode cX0_walked 169 = .ok (.ior, 1) := dk_128 (dk_at dksX0_walked_7 8 rfl rfl)
theorem dX0_walked_170 : decode cX0_walked 170 = .ok (.istore 5, 2) := dk_54 5 (dk_at dksX0_walked_7 9 rfl rfl)
theorem dX0_walked_172 : decode cX0_walked 172 = .ok (.ldc_w 288, 3) := dk_19 1 32 (dk_at dksX0_walked_7 11 rfl rfl)
theorem dX0_walked_175 : decode cX0_walked 175 = .ok (.iload 6, 2) := dk_21 6 (dk_at dksX0_walked_7 14 rfl rfl)
theorem dX0_walked_177 : decode cX0_walked 177 = .ok (.aload_n 0, 1) := dk_42 (dk_at dksX0_walked_7 16 rfl rfl)
theorem dX0_walked_178 : decode cX0_walked 178 = .ok (.getfield 73, 3) := dk_180 0 73 (dk_at dksX0_walked_7 17 rfl rfl)
theorem dX0_walked_181 : decode cX0_walked 181 = .ok (.iload 7, 2) := dk_21 7 (dk_at dksX0_walked_7 20 rfl rfl)
theorem dX0_walked_183 : decode cX0_walked 183 = .ok (.iaload, 1) := dk_46 (dk_at dksX0_walked_7 22 rfl rfl)
theorem dX0_walked_184 : decode cX0_walked 184 = .ok (.iadd, 1) := dk_96 (dk_at dksX0_walked_7 23 rfl rfl)
theorem dX0_walked_185 : decode cX0_walked 185 = .ok (.invokestatic 289, 3) := dk_184 1 33 (dk_at dksX0_walked_8 0 rfl rfl)
theorem dX0_walked_188 : decode cX0_walked 188 = .ok (.istore 6, 2) := dk_54 6 (dk_at dksX0_walked_8 3 rfl rfl)
theorem dX0_walked_190 : decode cX0_walked 190 = .ok (.iinc 7 1, 3) := dk_132 7 1 (dk_at dksX0_walked_8 5 rfl rfl)
theorem dX0_walked_193 : decode cX0_walked 193 = .ok (.goto (-51), 3) := dk_167 255 205 (dk_at dksX0_walked_8 8 rfl rfl)
theorem dX0_walked_196 : decode cX0_walked 196 = .ok (.iload_n 2, 1) := dk_28 (dk_at dksX0_walked_8 11 rfl rfl)
theorem dX0_walked_197 : decode cX0_walked 197 = .ok (.ifCond .ne 8, 3) := dk_154 0 8 (dk_at dksX0_walked_8 12 rfl rfl)
theorem dX0_walked_200 : decode cX0_walked 200 = .ok (.iload 6, 2) := dk_21 6 (dk_at dksX0_walked_8 15 rfl rfl)
theorem dX0_walked_202 : decode cX0_walked 202 = .ok (.goto 5, 3) := dk_167 0 5 (dk_at dksX0_walked_8 17 rfl rfl)
theorem dX0_walked_205 : decode cX0_walked 205 = .ok (.iload 5, 2) := dk_21 5 (dk_at dksX0_walked_8 20 rfl rfl)
theorem dX0_walked_207 : decode cX0_walked 207 = .ok (.ireturn, 1) := dk_172 (dk_at dksX0_walked_8 22 rfl rfl)
theorem dX0_walked_208 : decode cX0_walked 208 = .ok (.astore_n 3, 1) := dk_78 (dk_at dksX0_walked_8 23 rfl rfl)
theorem dX0_walked_209 : decode cX0_walked 209 = .ok (.aload_n 0, 1) := dk_42 (dk_at dksX0_walked_9 0 rfl rfl)
theorem dX0_walked_210 : decode cX0_walked 210 = .ok (.aload_n 3, 1) := dk_45 (dk_at dksX0_walked_9 1 rfl rfl)
theorem dX0_walked_211 : decode cX0_walked 211 = .ok (.invokevirtual 118, 3) := dk_182 0 118 (dk_at dksX0_walked_9 2 rfl rfl)
theorem dX0_walked_214 : decode cX0_walked 214 = .ok (.ireturn, 1) := dk_172 (dk_at dksX0_walked_9 5 rfl rfl)
abbrev cX0_isSheet : ByteArray := prog_1_method_12_code
def yX0_isSheet : MethodName := ⟨RX0, "isSheet", "(I)Z"⟩
def dkwX0_isSheet_0 : List UInt8 := [26, 3, 6, 184, 0, 91, 172]
abbrev dktX0_isSheet_0 : List UInt8 := dkwX0_isSheet_0 ++ []
theorem dksX0_isSheet_0 : cX0_isSheet.data.toList.drop 0 = dktX0_isSheet_0 := by decide +kernel
theorem dX0_isSheet_0 : decode cX0_isSheet 0 = .ok (.iload_n 0, 1) := dk_26 (dk_at dksX0_isSheet_0 0 rfl rfl)
theorem dX0_isSheet_1 : decode cX0_isSheet 1 = .ok (.iconst 0, 1) := dk_3 (dk_at dksX0_isSheet_0 1 rfl rfl)
theorem dX0_isSheet_2 : decode cX0_isSheet 2 = .ok (.iconst 3, 1) := dk_6 (dk_at dksX0_isSheet_0 2 rfl rfl)
theorem dX0_isSheet_3 : decode cX0_isSheet 3 = .ok (.invokestatic 91, 3) := dk_184 0 91 (dk_at dksX0_isSheet_0 3 rfl rfl)
theorem dX0_isSheet_6 : decode cX0_isSheet 6 = .ok (.ireturn, 1) := dk_172 (dk_at dksX0_isSheet_0 6 rfl rfl)
abbrev cX0_sheetAt : ByteArray := prog_1_method_14_code
def yX0_sheetAt : MethodName := ⟨RX0, "sheetAt", "(I)LMeadowMilk$Sheet;"⟩
def dkwX0_sheetAt_1 : List UInt8 := [180, 0, 69, 27, 50, 180, 0, 98, 192, 0, 106, 176]
abbrev dktX0_sheetAt_1 : List UInt8 := dkwX0_sheetAt_1 ++ []
def dkwX0_sheetAt_0 : List UInt8 := [42, 42, 180, 0, 69, 27, 50, 180, 0, 98, 198, 0, 7, 4, 167, 0, 4, 3, 5, 182, 0, 102, 42]
abbrev dktX0_sheetAt_0 : List UInt8 := dkwX0_sheetAt_0 ++ dktX0_sheetAt_1
theorem dksX0_sheetAt_0 : cX0_sheetAt.data.toList.drop 0 = dktX0_sheetAt_0 := by decide +kernel
theorem dksX0_sheetAt_1 : cX0_sheetAt.data.toList.drop 23 = dktX0_sheetAt_1 := dk_seg dksX0_sheetAt_0 23 rfl rfl
theorem dX0_sheetAt_0 : decode cX0_sheetAt 0 = .ok (.aload_n 0, 1) := dk_42 (dk_at dksX0_sheetAt_0 0 rfl rfl)
theorem dX0_sheetAt_1 : decode cX0_sheetAt 1 = .ok (.aload_n 0, 1) := dk_42 (dk_at dksX0_sheetAt_0 1 rfl rfl)
theorem dX0_sheetAt_2 : decode cX0_sheetAt 2 = .ok (.getfield 69, 3) := dk_180 0 69 (dk_at dksX0_sheetAt_0 2 rfl rfl)
theorem dX0_sheetAt_5 : decode cX0_sheetAt 5 = .ok (.iload_n 1, 1) := dk_27 (dk_at dksX0_sheetAt_0 5 rfl rfl)
theorem dX0_sheetAt_6 : decode cX0_sheetAt 6 = .ok (.aaload, 1) := dk_50 (dk_at dksX0_sheetAt_0 6 rfl rfl)
theorem dX0_sheetAt_7 : decode cX0_sheetAt 7 = .ok (.getfield 98, 3) := dk_180 0 98 (dk_at dksX0_sheetAt_0 7 rfl rfl)
theorem dX0_sheetAt_10 : decode cX0_sheetAt 10 = .ok (.ifnull 7, 3) := dk_198 0 7 (dk_at dksX0_sheetAt_0 10 rfl rfl)
theorem dX0_sheetAt_13 : decode cX0_sheetAt 13 = .ok (.iconst 1, 1) := dk_4 (dk_at dksX0_sheetAt_0 13 rfl rfl)
theorem dX0_sheetAt_14 : decode cX0_sheetAt 14 = .ok (.goto 4, 3) := dk_167 0 4 (dk_at dksX0_sheetAt_0 14 rfl rfl)
theorem dX0_sheetAt_17 : decode cX0_sheetAt 17 = .ok (.iconst 0, 1) := dk_3 (dk_at dksX0_sheetAt_0 17 rfl rfl)
theorem dX0_sheetAt_18 : decode cX0_sheetAt 18 = .ok (.iconst 2, 1) := dk_5 (dk_at dksX0_sheetAt_0 18 rfl rfl)
theorem dX0_sheetAt_19 : decode cX0_sheetAt 19 = .ok (.invokevirtual 102, 3) := dk_182 0 102 (dk_at dksX0_sheetAt_0 19 rfl rfl)
theorem dX0_sheetAt_22 : decode cX0_sheetAt 22 = .ok (.aload_n 0, 1) := dk_42 (dk_at dksX0_sheetAt_0 22 rfl rfl)
theorem dX0_sheetAt_23 : decode cX0_sheetAt 23 = .ok (.getfield 69, 3) := dk_180 0 69 (dk_at dksX0_sheetAt_1 0 rfl rfl)
theorem dX0_sheetAt_26 : decode cX0_sheetAt 26 = .ok (.iload_n 1, 1) := dk_27 (dk_at dksX0_sheetAt_1 3 rfl rfl)
theorem dX0_sheetAt_27 : decode cX0_sheetAt 27 = .ok (.aaload, 1) := dk_50 (dk_at dksX0_sheetAt_1 4 rfl rfl)
theorem dX0_sheetAt_28 : decode cX0_sheetAt 28 = .ok (.getfield 98, 3) := dk_180 0 98 (dk_at dksX0_sheetAt_1 5 rfl rfl)
theorem dX0_sheetAt_31 : decode cX0_sheetAt 31 = .ok (.checkcast 106, 3) := dk_192 0 106 (dk_at dksX0_sheetAt_1 8 rfl rfl)
theorem dX0_sheetAt_34 : decode cX0_sheetAt 34 = .ok (.areturn, 1) := dk_176 (dk_at dksX0_sheetAt_1 11 rfl rfl)
abbrev cX0_walksBack : ByteArray := prog_1_method_39_code
def yX0_walksBack : MethodName := ⟨RX0, "walksBack", "(I)V"⟩
def dkwX0_walksBack_4 : List UInt8 := [132, 2, 1, 167, 255, 174, 177]
abbrev dktX0_walksBack_4 : List UInt8 := dkwX0_walksBack_4 ++ []
def dkwX0_walksBack_3 : List UInt8 := [46, 133, 97, 66, 132, 5, 1, 167, 255, 205, 42, 180, 0, 73, 28, 20, 1, 8, 33, 184, 1, 10, 136, 79]
abbrev dktX0_walksBack_3 : List UInt8 := dkwX0_walksBack_3 ++ dktX0_walksBack_4
def dkwX0_walksBack_2 : List UInt8 := [21, 5, 184, 0, 255, 54, 6, 33, 21, 6, 2, 160, 0, 7, 9, 167, 0, 11, 42, 180, 0, 76, 21, 6]
abbrev dktX0_walksBack_2 : List UInt8 := dkwX0_walksBack_2 ++ dktX0_walksBack_3
def dkwX0_walksBack_1 : List UInt8 := [66, 3, 54, 5, 21, 5, 8, 162, 0, 51, 42, 180, 0, 46, 180, 0, 112, 28, 46, 27, 160, 0, 38, 28]
abbrev dktX0_walksBack_1 : List UInt8 := dkwX0_walksBack_1 ++ dktX0_walksBack_2
def dkwX0_walksBack_0 : List UInt8 := [42, 180, 0, 73, 3, 42, 180, 0, 76, 3, 16, 25, 184, 1, 2, 3, 61, 28, 16, 25, 162, 0, 82, 9]
abbrev dktX0_walksBack_0 : List UInt8 := dkwX0_walksBack_0 ++ dktX0_walksBack_1
theorem dksX0_walksBack_0 : cX0_walksBack.data.toList.drop 0 = dktX0_walksBack_0 := by decide +kernel
theorem dksX0_walksBack_1 : cX0_walksBack.data.toList.drop 24 = dktX0_walksBack_1 := dk_seg dksX0_walksBack_0 24 rfl rfl
theorem dksX0_walksBack_2 : cX0_walksBack.data.toList.drop 48 = dktX0_walksBack_2 := dk_seg dksX0_walksBack_1 24 rfl rfl
theorem dksX0_walksBack_3 : cX0_walksBack.data.toList.drop 72 = dktX0_walksBack_3 := dk_seg dksX0_walksBack_2 24 rfl rfl
theorem dksX0_walksBack_4 : cX0_walksBack.data.toList.drop 96 = dktX0_walksBack_4 := dk_seg dksX0_walksBack_3 24 rfl rfl
theorem dX0_walksBack_0 : decode cX0_walksBack 0 = .ok (.aload_n 0, 1) := dk_42 (dk_at dksX0_walksBack_0 0 rfl rfl)
theorem dX0_walksBack_1 : decode cX0_walksBack 1 = .ok (.getfield 73, 3) := dk_180 0 73 (dk_at dksX0_walksBack_0 1 rfl rfl)
theorem dX0_walksBack_4 : decode cX0_walksBack 4 = .ok (.iconst 0, 1) := dk_3 (dk_at dksX0_walksBack_0 4 rfl rfl)
theorem dX0_walksBack_5 : decode cX0_walksBack 5 = .ok (.aload_n 0, 1) := dk_42 (dk_at dksX0_walksBack_0 5 rfl rfl)
theorem dX0_walksBack_6 : decode cX0_walksBack 6 = .ok (.getfield 76, 3) := dk_180 0 76 (dk_at dksX0_walksBack_0 6 rfl rfl)
theorem dX0_walksBack_9 : decode cX0_walksBack 9 = .ok (.iconst 0, 1) := dk_3 (dk_at dksX0_walksBack_0 9 rfl rfl)
theorem dX0_walksBack_10 : decode cX0_walksBack 10 = .ok (.bipush 25, 2) := dk_16 25 (dk_at dksX0_walksBack_0 10 rfl rfl)
theorem dX0_walksBack_12 : decode cX0_walksBack 12 = .ok (.invokestatic 258, 3) := dk_184 1 2 (dk_at dksX0_walksBack_0 12 rfl rfl)
theorem dX0_walksBack_15 : decode cX0_walksBack 15 = .ok (.iconst 0, 1) := dk_3 (dk_at dksX0_walksBack_0 15 rfl rfl)
theorem dX0_walksBack_16 : decode cX0_walksBack 16 = .ok (.istore_n 2, 1) := dk_61 (dk_at dksX0_walksBack_0 16 rfl rfl)
theorem dX0_walksBack_17 : decode cX0_walksBack 17 = .ok (.iload_n 2, 1) := dk_28 (dk_at dksX0_walksBack_0 17 rfl rfl)
theorem dX0_walksBack_18 : decode cX0_walksBack 18 = .ok (.bipush 25, 2) := dk_16 25 (dk_at dksX0_walksBack_0 18 rfl rfl)
theorem dX0_walksBack_20 : decode cX0_walksBack 20 = .ok (.if_icmp .ge 82, 3) := dk_162 0 82 (dk_at dksX0_walksBack_0 20 rfl rfl)
theorem dX0_walksBack_23 : decode cX0_walksBack 23 = .ok (.lconst 0, 1) := dk_9 (dk_at dksX0_walksBack_0 23 rfl rfl)
theorem dX0_walksBack_24 : decode cX0_walksBack 24 = .ok (.lstore_n 3, 1) := dk_66 (dk_at dksX0_walksBack_1 0 rfl rfl)
theorem dX0_walksBack_25 : decode cX0_walksBack 25 = .ok (.iconst 0, 1) := dk_3 (dk_at dksX0_walksBack_1 1 rfl rfl)
theorem dX0_walksBack_26 : decode cX0_walksBack 26 = .ok (.istore 5, 2) := dk_54 5 (dk_at dksX0_walksBack_1 2 rfl rfl)
theorem dX0_walksBack_28 : decode cX0_walksBack 28 = .ok (.iload 5, 2) := dk_21 5 (dk_at dksX0_walksBack_1 4 rfl rfl)
theorem dX0_walksBack_30 : decode cX0_walksBack 30 = .ok (.iconst 5, 1) := dk_8 (dk_at dksX0_walksBack_1 6 rfl rfl)
theorem dX0_walksBack_31 : decode cX0_walksBack 31 = .ok (.if_icmp .ge 51, 3) := dk_162 0 51 (dk_at dksX0_walksBack_1 7 rfl rfl)
theorem dX0_walksBack_34 : decode cX0_walksBack 34 = .ok (.aload_n 0, 1) := dk_42 (dk_at dksX0_walksBack_1 10 rfl rfl)
theorem dX0_walksBack_35 : decode cX0_walksBack 35 = .ok (.getfield 46, 3) := dk_180 0 46 (dk_at dksX0_walksBack_1 11 rfl rfl)
theorem dX0_walksBack_38 : decode cX0_walksBack 38 = .ok (.getfield 112, 3) := dk_180 0 112 (dk_at dksX0_walksBack_1 14 rfl rfl)
theorem dX0_walksBack_41 : decode cX0_walksBack 41 = .ok (.iload_n 2, 1) := dk_28 (dk_at dksX0_walksBack_1 17 rfl rfl)
theorem dX0_walksBack_42 : decode cX0_walksBack 42 = .ok (.iaload, 1) := dk_46 (dk_at dksX0_walksBack_1 18 rfl rfl)
theorem dX0_walksBack_43 : decode cX0_walksBack 43 = .ok (.iload_n 1, 1) := dk_27 (dk_at dksX0_walksBack_1 19 rfl rfl)
theorem dX0_walksBack_44 : decode cX0_walksBack 44 = .ok (.if_icmp .ne 38, 3) := dk_160 0 38 (dk_at dksX0_walksBack_1 20 rfl rfl)
theorem dX0_walksBack_47 : decode cX0_walksBack 47 = .ok (.iload_n 2, 1) := dk_28 (dk_at dksX0_walksBack_1 23 rfl rfl)
theorem dX0_walksBack_48 : decode cX0_walksBack 48 = .ok (.iload 5, 2) := dk_21 5 (dk_at dksX0_walksBack_2 0 rfl rfl)
theorem dX0_walksBack_50 : decode cX0_walksBack 50 = .ok (.invokestatic 255, 3) := dk_184 0 255 (dk_at dksX0_walksBack_2 2 rfl rfl)
theorem dX0_walksBack_53 : decode cX0_walksBack 53 = .ok (.istore 6, 2) := dk_54 6 (dk_at dksX0_walksBack_2 5 rfl rfl)
theorem dX0_walksBack_55 : decode cX0_walksBack 55 = .ok (.lload_n 3, 1) := dk_33 (dk_at dksX0_walksBack_2 7 rfl rfl)
theorem dX0_walksBack_56 : decode cX0_walksBack 56 = .ok (.iload 6, 2) := dk_21 6 (dk_at dksX0_walksBack_2 8 rfl rfl)
theorem dX0_walksBack_58 : decode cX0_walksBack 58 = .ok (.iconst (-1), 1) := dk_2 (dk_at dksX0_walksBack_2 10 rfl rfl)
theorem dX0_walksBack_59 : decode cX0_walksBack 59 = .ok (.if_icmp .ne 7, 3) := dk_160 0 7 (dk_at dksX0_walksBack_2 11 rfl rfl)
theorem dX0_walksBack_62 : decode cX0_walksBack 62 = .ok (.lconst 0, 1) := dk_9 (dk_at dksX0_walksBack_2 14 rfl rfl)
theorem dX0_walksBack_63 : decode cX0_walksBack 63 = .ok (.goto 11, 3) := dk_167 0 11 (dk_at dksX0_walksBack_2 15 rfl rfl)
theorem dX0_walksBack_66 : decode cX0_walksBack 66 = .ok (.aload_n 0, 1) := dk_42 (dk_at dksX0_walksBack_2 18 rfl rfl)
theorem dX0_walksBack_67 : decode cX0_walksBack 67 = .ok (.getfield 76, 3) := dk_180 0 76 (dk_at dksX0_walksBack_2 19 rfl rfl)
theorem dX0_walksBack_70 : decode cX0_walksBack 70 = .ok (.iload 6, 2) := dk_21 6 (dk_at dksX0_walksBack_2 22 rfl rfl)
theorem dX0_walksBack_72 : decode cX0_walksBack 72 = .ok (.iaload, 1) := dk_46 (dk_at dksX0_walksBack_3 0 rfl rfl)
theorem dX0_walksBack_73 : decode cX0_walksBack 73 = .ok (.i2l, 1) := dk_133 (dk_at dksX0_walksBack_3 1 rfl rfl)
theorem dX0_walksBack_74 : decode cX0_walksBack 74 = .ok (.ladd, 1) := dk_97 (dk_at dksX0_walksBack_3 2 rfl rfl)
theorem dX0_walksBack_75 : decode cX0_walksBack 75 = .ok (.lstore_n 3, 1) := dk_66 (dk_at dksX0_walksBack_3 3 rfl rfl)
theorem dX0_walksBack_76 : decode cX0_walksBack 76 = .ok (.iinc 5 1, 3) := dk_132 5 1 (dk_at dksX0_walksBack_3 4 rfl rfl)
theorem dX0_walksBack_79 : decode cX0_walksBack 79 = .ok (.goto (-51), 3) := dk_167 255 205 (dk_at dksX0_walksBack_3 7 rfl rfl)
theorem dX0_walksBack_82 : decode cX0_walksBack 82 = .ok (.aload_n 0, 1) := dk_42 (dk_at dksX0_walksBack_3 10 rfl rfl)
theorem dX0_walksBack_83 : decode cX0_walksBack 83 = .ok (.getfield 73, 3) := dk_180 0 73 (dk_at dksX0_walksBack_3 11 rfl rfl)
theorem dX0_walksBack_86 : decode cX0_walksBack 86 = .ok (.iload_n 2, 1) := dk_28 (dk_at dksX0_walksBack_3 14 rfl rfl)
theorem dX0_walksBack_87 : decode cX0_walksBack 87 = .ok (.ldc2_w 264, 3) := dk_20 1 8 (dk_at dksX0_walksBack_3 15 rfl rfl)
theorem dX0_walksBack_90 : decode cX0_walksBack 90 = .ok (.lload_n 3, 1) := dk_33 (dk_at dksX0_walksBack_3 18 rfl rfl)
theorem dX0_walksBack_91 : decode cX0_walksBack 91 = .ok (.invokestatic 266, 3) := dk_184 1 10 (dk_at dksX0_walksBack_3 19 rfl rfl)
theorem dX0_walksBack_94 : decode cX0_walksBack 94 = .ok (.l2i, 1) := dk_136 (dk_at dksX0_walksBack_3 22 rfl rfl)
theorem dX0_walksBack_95 : decode cX0_walksBack 95 = .ok (.iastore, 1) := dk_79 (dk_at dksX0_walksBack_3 23 rfl rfl)
theorem dX0_walksBack_96 : decode cX0_walksBack 96 = .ok (.iinc 2 1, 3) := dk_132 2 1 (dk_at dksX0_walksBack_4 0 rfl rfl)
theorem dX0_walksBack_99 : decode cX0_walksBack 99 = .ok (.goto (-82), 3) := dk_167 255 174 (dk_at dksX0_walksBack_4 3 rfl rfl)
theorem dX0_walksBack_102 : decode cX0_walksBack 102 = .ok (.return_, 1) := dk_177 (dk_at dksX0_walksBack_4 6 rfl rfl)
abbrev cX0_well : ByteArray := prog_1_method_41_code
def yX0_well : MethodName := ⟨RX0, "well", "(I)I"⟩
def dkwX0_well_3 : List UInt8 := [182, 0, 118, 172]
abbrev dktX0_well_3 : List UInt8 := dkwX0_well_3 ++ []
def dkwX0_well_2 : List UInt8 := [180, 0, 46, 29, 182, 1, 35, 2, 130, 126, 61, 132, 3, 1, 167, 255, 210, 28, 172, 77, 42, 44]
abbrev dktX0_well_2 : List UInt8 := dkwX0_well_2 ++ dktX0_well_3
def dkwX0_well_1 : List UInt8 := [162, 0, 41, 28, 27, 29, 184, 0, 251, 153, 0, 14, 42, 180, 0, 46, 29, 182, 1, 35, 167, 0, 13, 42]
abbrev dktX0_well_1 : List UInt8 := dkwX0_well_1 ++ dktX0_well_2
def dkwX0_well_0 : List UInt8 := [42, 42, 27, 182, 0, 225, 4, 182, 0, 102, 18, 245, 61, 3, 62, 29, 42, 180, 0, 46, 180, 0, 95]
abbrev dktX0_well_0 : List UInt8 := dkwX0_well_0 ++ dktX0_well_1
theorem dksX0_well_0 : cX0_well.data.toList.drop 0 = dktX0_well_0 := by decide +kernel
theorem dksX0_well_1 : cX0_well.data.toList.drop 23 = dktX0_well_1 := dk_seg dksX0_well_0 23 rfl rfl
theorem dksX0_well_2 : cX0_well.data.toList.drop 47 = dktX0_well_2 := dk_seg dksX0_well_1 24 rfl rfl
theorem dksX0_well_3 : cX0_well.data.toList.drop 69 = dktX0_well_3 := dk_seg dksX0_well_2 22 rfl rfl
theorem dX0_well_0 : decode cX0_well 0 = .ok (.aload_n 0, 1) := dk_42 (dk_at dksX0_well_0 0 rfl rfl)
theorem dX0_well_1 : decode cX0_well 1 = .ok (.aload_n 0, 1) := dk_42 (dk_at dksX0_well_0 1 rfl rfl)
theorem dX0_well_2 : decode cX0_well 2 = .ok (.iload_n 1, 1) := dk_27 (dk_at dksX0_well_0 2 rfl rfl)
theorem dX0_well_3 : decode cX0_well 3 = .ok (.invokevirtual 225, 3) := dk_182 0 225 (dk_at dksX0_well_0 3 rfl rfl)
theorem dX0_well_6 : decode cX0_well 6 = .ok (.iconst 1, 1) := dk_4 (dk_at dksX0_well_0 6 rfl rfl)
theorem dX0_well_7 : decode cX0_well 7 = .ok (.invokevirtual 102, 3) := dk_182 0 102 (dk_at dksX0_well_0 7 rfl rfl)
theorem dX0_well_10 : decode cX0_well 10 = .ok (.ldc 245, 2) := dk_18 245 (dk_at dksX0_well_0 10 rfl rfl)
theorem dX0_well_12 : decode cX0_well 12 = .ok (.istore_n 2, 1) := dk_61 (dk_at dksX0_well_0 12 rfl rfl)
theorem dX0_well_13 : decode cX0_well 13 = .ok (.iconst 0, 1) := dk_3 (dk_at dksX0_well_0 13 rfl rfl)
theorem dX0_well_14 : decode cX0_well 14 = .ok (.istore_n 3, 1) := dk_62 (dk_at dksX0_well_0 14 rfl rfl)
theorem dX0_well_15 : decode cX0_well 15 = .ok (.iload_n 3, 1) := dk_29 (dk_at dksX0_well_0 15 rfl rfl)
theorem dX0_well_16 : decode cX0_well 16 = .ok (.aload_n 0, 1) := dk_42 (dk_at dksX0_well_0 16 rfl rfl)
theorem dX0_well_17 : decode cX0_well 17 = .ok (.getfield 46, 3) := dk_180 0 46 (dk_at dksX0_well_0 17 rfl rfl)
theorem dX0_well_20 : decode cX0_well 20 = .ok (.getfield 95, 3) := dk_180 0 95 (dk_at dksX0_well_0 20 rfl rfl)
theorem dX0_well_23 : decode cX0_well 23 = .ok (.if_icmp .ge 41, 3) := dk_162 0 41 (dk_at dksX0_well_1 0 rfl rfl)
theorem dX0_well_26 : decode cX0_well 26 = .ok (.iload_n 2, 1) := dk_28 (dk_at dksX0_well_1 3 rfl rfl)
theorem dX0_well_27 : decode cX0_well 27 = .ok (.iload_n 1, 1) := dk_27 (dk_at dksX0_well_1 4 rfl rfl)
theorem dX0_well_28 : decode cX0_well 28 = .ok (.iload_n 3, 1) := dk_29 (dk_at dksX0_well_1 5 rfl rfl)
theorem dX0_well_29 : decode cX0_well 29 = .ok (.invokestatic 251, 3) := dk_184 0 251 (dk_at dksX0_well_1 6 rfl rfl)
theorem dX0_well_32 : decode cX0_well 32 = .ok (.ifCond .eq 14, 3) := dk_153 0 14 (dk_at dksX0_well_1 9 rfl rfl)
theorem dX0_well_35 : decode cX0_well 35 = .ok (.aload_n 0, 1) := dk_42 (dk_at dksX0_well_1 12 rfl rfl)
theorem dX0_well_36 : decode cX0_well 36 = .ok (.getfield 46, 3) := dk_180 0 46 (dk_at dksX0_well_1 13 rfl rfl)
theorem dX0_well_39 : decode cX0_well 39 = .ok (.iload_n 3, 1) := dk_29 (dk_at dksX0_well_1 16 rfl rfl)
theorem dX0_well_40 : decode cX0_well 40 = .ok (.invokevirtual 291, 3) := dk_182 1 35 (dk_at dksX0_well_1 17 rfl rfl)
theorem dX0_well_43 : decode cX0_well 43 = .ok (.goto 13, 3) := dk_167 0 13 (dk_at dksX0_well_1 20 rfl rfl)
theorem dX0_well_46 : decode cX0_well 46 = .ok (.aload_n 0, 1) := dk_42 (dk_at dksX0_well_1 23 rfl rfl)
theorem dX0_well_47 : decode cX0_well 47 = .ok (.getfield 46, 3) := dk_180 0 46 (dk_at dksX0_well_2 0 rfl rfl)
theorem dX0_well_50 : decode cX0_well 50 = .ok (.iload_n 3, 1) := dk_29 (dk_at dksX0_well_2 3 rfl rfl)
theorem dX0_well_51 : decode cX0_well 51 = .ok (.invokevirtual 291, 3) := dk_182 1 35 (dk_at dksX0_well_2 4 rfl rfl)
theorem dX0_well_54 : decode cX0_well 54 = .ok (.iconst (-1), 1) := dk_2 (dk_at dksX0_well_2 7 rfl rfl)
theorem dX0_well_55 : decode cX0_well 55 = .ok (.ixor, 1) := dk_130 (dk_at dksX0_well_2 8 rfl rfl)
theorem dX0_well_56 : decode cX0_well 56 = .ok (.iand, 1) := dk_126 (dk_at dksX0_well_2 9 rfl rfl)
theorem dX0_well_57 : decode cX0_well 57 = .ok (.istore_n 2, 1) := dk_61 (dk_at dksX0_well_2 10 rfl rfl)
theorem dX0_well_58 : decode cX0_well 58 = .ok (.iinc 3 1, 3) := dk_132 3 1 (dk_at dksX0_well_2 11 rfl rfl)
theorem dX0_well_61 : decode cX0_well 61 = .ok (.goto (-46), 3) := dk_167 255 210 (dk_at dksX0_well_2 14 rfl rfl)
theorem dX0_well_64 : decode cX0_well 64 = .ok (.iload_n 2, 1) := dk_28 (dk_at dksX0_well_2 17 rfl rfl)
theorem dX0_well_65 : decode cX0_well 65 = .ok (.ireturn, 1) := dk_172 (dk_at dksX0_well_2 18 rfl rfl)
theorem dX0_well_66 : decode cX0_well 66 = .ok (.astore_n 2, 1) := dk_77 (dk_at dksX0_well_2 19 rfl rfl)
theorem dX0_well_67 : decode cX0_well 67 = .ok (.aload_n 0, 1) := dk_42 (dk_at dksX0_well_2 20 rfl rfl)
theorem dX0_well_68 : decode cX0_well 68 = .ok (.aload_n 2, 1) := dk_44 (dk_at dksX0_well_2 21 rfl rfl)
theorem dX0_well_69 : decode cX0_well 69 = .ok (.invokevirtual 118, 3) := dk_182 0 118 (dk_at dksX0_well_3 0 rfl rfl)
theorem dX0_well_72 : decode cX0_well 72 = .ok (.ireturn, 1) := dk_172 (dk_at dksX0_well_3 3 rfl rfl)
abbrev cX0_hays : ByteArray := prog_1_method_43_code
def yX0_hays : MethodName := ⟨RX0, "hays", "(III)I"⟩
def dkwX0_hays_5 : List UInt8 := [180, 0, 79, 28, 46, 172, 58, 4, 42, 25, 4, 182, 0, 118, 172]
abbrev dktX0_hays_5 : List UInt8 := dkwX0_hays_5 ++ []
def dkwX0_hays_4 : List UInt8 := [167, 255, 242, 42, 42, 180, 0, 79, 28, 46, 2, 159, 0, 7, 4, 167, 0, 4, 3, 5, 182, 0, 102, 42]
abbrev dktX0_hays_4 : List UInt8 := dkwX0_hays_4 ++ dktX0_hays_5
def dkwX0_hays_3 : List UInt8 := [79, 132, 4, 1, 167, 255, 220, 3, 54, 4, 21, 4, 29, 162, 0, 14, 42, 27, 182, 1, 38, 132, 4, 1]
abbrev dktX0_hays_3 : List UInt8 := dkwX0_hays_3 ++ dktX0_hays_4
def dkwX0_hays_2 : List UInt8 := [180, 0, 79, 21, 4, 21, 4, 42, 180, 0, 46, 180, 0, 122, 27, 46, 160, 0, 7, 3, 167, 0, 4, 2]
abbrev dktX0_hays_2 : List UInt8 := dkwX0_hays_2 ++ dktX0_hays_3
def dkwX0_hays_1 : List UInt8 := [153, 0, 7, 4, 167, 0, 4, 3, 4, 182, 0, 102, 3, 54, 4, 21, 4, 16, 25, 162, 0, 35, 42]
abbrev dktX0_hays_1 : List UInt8 := dkwX0_hays_1 ++ dktX0_hays_2
def dkwX0_hays_0 : List UInt8 := [42, 42, 27, 182, 0, 146, 153, 0, 24, 28, 184, 0, 108, 153, 0, 17, 29, 4, 16, 30, 184, 0, 91]
abbrev dktX0_hays_0 : List UInt8 := dkwX0_hays_0 ++ dktX0_hays_1
theorem dksX0_hays_0 : cX0_hays.data.toList.drop 0 = dktX0_hays_0 := by decide +kernel
theorem dksX0_hays_1 : cX0_hays.data.toList.drop 23 = dktX0_hays_1 := dk_seg dksX0_hays_0 23 rfl rfl
theorem dksX0_hays_2 : cX0_hays.data.toList.drop 46 = dktX0_hays_2 := dk_seg dksX0_hays_1 23 rfl rfl
theorem dksX0_hays_3 : cX0_hays.data.toList.drop 70 = dktX0_hays_3 := dk_seg dksX0_hays_2 24 rfl rfl
theorem dksX0_hays_4 : cX0_hays.data.toList.drop 94 = dktX0_hays_4 := dk_seg dksX0_hays_3 24 rfl rfl
theorem dksX0_hays_5 : cX0_hays.data.toList.drop 118 = dktX0_hays_5 := dk_seg dksX0_hays_4 24 rfl rfl
theorem dX0_hays_0 : decode cX0_hays 0 = .ok (.aload_n 0, 1) := dk_42 (dk_at dksX0_hays_0 0 rfl rfl)
theorem dX0_hays_1 : decode cX0_hays 1 = .ok (.aload_n 0, 1) := dk_42 (dk_at dksX0_hays_0 1 rfl rfl)
theorem dX0_hays_2 : decode cX0_hays 2 = .ok (.iload_n 1, 1) := dk_27 (dk_at dksX0_hays_0 2 rfl rfl)
theorem dX0_hays_3 : decode cX0_hays 3 = .ok (.invokevirtual 146, 3) := dk_182 0 146 (dk_at dksX0_hays_0 3 rfl rfl)
theorem dX0_hays_6 : decode cX0_hays 6 = .ok (.ifCond .eq 24, 3) := dk_153 0 24 (dk_at dksX0_hays_0 6 rfl rfl)
theorem dX0_hays_9 : decode cX0_hays 9 = .ok (.iload_n 2, 1) := dk_28 (dk_at dksX0_hays_0 9 rfl rfl)
theorem dX0_hays_10 : decode cX0_hays 10 = .ok (.invokestatic 108, 3) := dk_184 0 108 (dk_at dksX0_hays_0 10 rfl rfl)
theorem dX0_hays_13 : decode cX0_hays 13 = .ok (.ifCond .eq 17, 3) := dk_153 0 17 (dk_at dksX0_hays_0 13 rfl rfl)
theorem dX0_hays_16 : decode cX0_hays 16 = .ok (.iload_n 3, 1) := dk_29 (dk_at dksX0_hays_0 16 rfl rfl)
theorem dX0_hays_17 : decode cX0_hays 17 = .ok (.iconst 1, 1) := dk_4 (dk_at dksX0_hays_0 17 rfl rfl)
theorem dX0_hays_18 : decode cX0_hays 18 = .ok (.bipush 30, 2) := dk_16 30 (dk_at dksX0_hays_0 18 rfl rfl)
theorem dX0_hays_20 : decode cX0_hays 20 = .ok (.invokestatic 91, 3) := dk_184 0 91 (dk_at dksX0_hays_0 20 rfl rfl)
theorem dX0_hays_23 : decode cX0_hays 23 = .ok (.ifCond .eq 7, 3) := dk_153 0 7 (dk_at dksX0_hays_1 0 rfl rfl)
theorem dX0_hays_26 : decode cX0_hays 26 = .ok (.iconst 1, 1) := dk_4 (dk_at dksX0_hays_1 3 rfl rfl)
theorem dX0_hays_27 : decode cX0_hays 27 = .ok (.goto 4, 3) := dk_167 0 4 (dk_at dksX0_hays_1 4 rfl rfl)
theorem dX0_hays_30 : decode cX0_hays 30 = .ok (.iconst 0, 1) := dk_3 (dk_at dksX0_hays_1 7 rfl rfl)
theorem dX0_hays_31 : decode cX0_hays 31 = .ok (.iconst 1, 1) := dk_4 (dk_at dksX0_hays_1 8 rfl rfl)
theorem dX0_hays_32 : decode cX0_hays 32 = .ok (.invokevirtual 102, 3) := dk_182 0 102 (dk_at dksX0_hays_1 9 rfl rfl)
theorem dX0_hays_35 : decode cX0_hays 35 = .ok (.iconst 0, 1) := dk_3 (dk_at dksX0_hays_1 12 rfl rfl)
theorem dX0_hays_36 : decode cX0_hays 36 = .ok (.istore 4, 2) := dk_54 4 (dk_at dksX0_hays_1 13 rfl rfl)
theorem dX0_hays_38 : decode cX0_hays 38 = .ok (.iload 4, 2) := dk_21 4 (dk_at dksX0_hays_1 15 rfl rfl)
theorem dX0_hays_40 : decode cX0_hays 40 = .ok (.bipush 25, 2) := dk_16 25 (dk_at dksX0_hays_1 17 rfl rfl)
theorem dX0_hays_42 : decode cX0_hays 42 = .ok (.if_icmp .ge 35, 3) := dk_162 0 35 (dk_at dksX0_hays_1 19 rfl rfl)
theorem dX0_hays_45 : decode cX0_hays 45 = .ok (.aload_n 0, 1) := dk_42 (dk_at dksX0_hays_1 22 rfl rfl)
theorem dX0_hays_46 : decode cX0_hays 46 = .ok (.getfield 79, 3) := dk_180 0 79 (dk_at dksX0_hays_2 0 rfl rfl)
theorem dX0_hays_49 : decode cX0_hays 49 = .ok (.iload 4, 2) := dk_21 4 (dk_at dksX0_hays_2 3 rfl rfl)
theorem dX0_hays_51 : decode cX0_hays 51 = .ok (.iload 4, 2) := dk_21 4 (dk_at dksX0_hays_2 5 rfl rfl)
theorem dX0_hays_53 : decode cX0_hays 53 = .ok (.aload_n 0, 1) := dk_42 (dk_at dksX0_hays_2 7 rfl rfl)
theorem dX0_hays_54 : decode cX0_hays 54 = .ok (.getfield 46, 3) := dk_180 0 46 (dk_at dksX0_hays_2 8 rfl rfl)
theorem dX0_hays_57 : decode cX0_hays 57 = .ok (.getfield 122, 3) := dk_180 0 122 (dk_at dksX0_hays_2 11 rfl rfl)
theorem dX0_hays_60 : decode cX0_hays 60 = .ok (.iload_n 1, 1) := dk_27 (dk_at dksX0_hays_2 14 rfl rfl)
theorem dX0_hays_61 : decode cX0_hays 61 = .ok (.iaload, 1) := dk_46 (dk_at dksX0_hays_2 15 rfl rfl)
theorem dX0_hays_62 : decode cX0_hays 62 = .ok (.if_icmp .ne 7, 3) := dk_160 0 7 (dk_at dksX0_hays_2 16 rfl rfl)
theorem dX0_hays_65 : decode cX0_hays 65 = .ok (.iconst 0, 1) := dk_3 (dk_at dksX0_hays_2 19 rfl rfl)
theorem dX0_hays_66 : decode cX0_hays 66 = .ok (.goto 4, 3) := dk_167 0 4 (dk_at dksX0_hays_2 20 rfl rfl)
theorem dX0_hays_69 : decode cX0_hays 69 = .ok (.iconst (-1), 1) := dk_2 (dk_at dksX0_hays_2 23 rfl rfl)
theorem dX0_hays_70 : decode cX0_hays 70 = .ok (.iastore, 1) := dk_79 (dk_at dksX0_hays_3 0 rfl rfl)
theorem dX0_hays_71 : decode cX0_hays 71 = .ok (.iinc 4 1, 3) := dk_132 4 1 (dk_at dksX0_hays_3 1 rfl rfl)
theorem dX0_hays_74 : decode cX0_hays 74 = .ok (.goto (-36), 3) := dk_167 255 220 (dk_at dksX0_hays_3 4 rfl rfl)
theorem dX0_hays_77 : decode cX0_hays 77 = .ok (.iconst 0, 1) := dk_3 (dk_at dksX0_hays_3 7 rfl rfl)
theorem dX0_hays_78 : decode cX0_hays 78 = .ok (.istore 4, 2) := dk_54 4 (dk_at dksX0_hays_3 8 rfl rfl)
theorem dX0_hays_80 : decode cX0_hays 80 = .ok (.iload 4, 2) := dk_21 4 (dk_at dksX0_hays_3 10 rfl rfl)
theorem dX0_hays_82 : decode cX0_hays 82 = .ok (.iload_n 3, 1) := dk_29 (dk_at dksX0_hays_3 12 rfl rfl)
theorem dX0_hays_83 : decode cX0_hays 83 = .ok (.if_icmp .ge 14, 3) := dk_162 0 14 (dk_at dksX0_hays_3 13 rfl rfl)
theorem dX0_hays_86 : decode cX0_hays 86 = .ok (.aload_n 0, 1) := dk_42 (dk_at dksX0_hays_3 16 rfl rfl)
theorem dX0_hays_87 : decode cX0_hays 87 = .ok (.iload_n 1, 1) := dk_27 (dk_at dksX0_hays_3 17 rfl rfl)
theorem dX0_hays_88 : decode cX0_hays 88 = .ok (.invokevirtual 294, 3) := dk_182 1 38 (dk_at dksX0_hays_3 18 rfl rfl)
theorem dX0_hays_91 : decode cX0_hays 91 = .ok (.iinc 4 1, 3) := dk_132 4 1 (dk_at dksX0_hays_3 21 rfl rfl)
theorem dX0_hays_94 : decode cX0_hays 94 = .ok (.goto (-14), 3) := dk_167 255 242 (dk_at dksX0_hays_4 0 rfl rfl)
theorem dX0_hays_97 : decode cX0_hays 97 = .ok (.aload_n 0, 1) := dk_42 (dk_at dksX0_hays_4 3 rfl rfl)
theorem dX0_hays_98 : decode cX0_hays 98 = .ok (.aload_n 0, 1) := dk_42 (dk_at dksX0_hays_4 4 rfl rfl)
theorem dX0_hays_99 : decode cX0_hays 99 = .ok (.getfield 79, 3) := dk_180 0 79 (dk_at dksX0_hays_4 5 rfl rfl)
theorem dX0_hays_102 : decode cX0_hays 102 = .ok (.iload_n 2, 1) := dk_28 (dk_at dksX0_hays_4 8 rfl rfl)
theorem dX0_hays_103 : decode cX0_hays 103 = .ok (.iaload, 1) := dk_46 (dk_at dksX0_hays_4 9 rfl rfl)
theorem dX0_hays_104 : decode cX0_hays 104 = .ok (.iconst (-1), 1) := dk_2 (dk_at dksX0_hays_4 10 rfl rfl)
theorem dX0_hays_105 : decode cX0_hays 105 = .ok (.if_icmp .eq 7, 3) := dk_159 0 7 (dk_at dksX0_hays_4 11 rfl rfl)
theorem dX0_hays_108 : decode cX0_hays 108 = .ok (.iconst 1, 1) := dk_4 (dk_at dksX0_hays_4 14 rfl rfl)
theorem dX0_hays_109 : decode cX0_hays 109 = .ok (.goto 4, 3) := dk_167 0 4 (dk_at dksX0_hays_4 15 rfl rfl)
theorem dX0_hays_112 : decode cX0_hays 112 = .ok (.iconst 0, 1) := dk_3 (dk_at dksX0_hays_4 18 rfl rfl)
theorem dX0_hays_113 : decode cX0_hays 113 = .ok (.iconst 2, 1) := dk_5 (dk_at dksX0_hays_4 19 rfl rfl)
theorem dX0_hays_114 : decode cX0_hays 114 = .ok (.invokevirtual 102, 3) := dk_182 0 102 (dk_at dksX0_hays_4 20 rfl rfl)
theorem dX0_hays_117 : decode cX0_hays 117 = .ok (.aload_n 0, 1) := dk_42 (dk_at dksX0_hays_4 23 rfl rfl)
theorem dX0_hays_118 : decode cX0_hays 118 = .ok (.getfield 79, 3) := dk_180 0 79 (dk_at dksX0_hays_5 0 rfl rfl)
theorem dX0_hays_121 : decode cX0_hays 121 = .ok (.iload_n 2, 1) := dk_28 (dk_at dksX0_hays_5 3 rfl rfl)
theorem dX0_hays_122 : decode cX0_hays 122 = .ok (.iaload, 1) := dk_46 (dk_at dksX0_hays_5 4 rfl rfl)
theorem dX0_hays_123 : decode cX0_hays 123 = .ok (.ireturn, 1) := dk_172 (dk_at dksX0_hays_5 5 rfl rfl)
theorem dX0_hays_124 : decode cX0_hays 124 = .ok (.astore 4, 2) := dk_58 4 (dk_at dksX0_hays_5 6 rfl rfl)
theorem dX0_hays_126 : decode cX0_hays 126 = .ok (.aload_n 0, 1) := dk_42 (dk_at dksX0_hays_5 8 rfl rfl)
theorem dX0_hays_127 : decode cX0_hays 127 = .ok (.aload 4, 2) := dk_25 4 (dk_at dksX0_hays_5 9 rfl rfl)
theorem dX0_hays_129 : decode cX0_hays 129 = .ok (.invokevirtual 118, 3) := dk_182 0 118 (dk_at dksX0_hays_5 11 rfl rfl)
theorem dX0_hays_132 : decode cX0_hays 132 = .ok (.ireturn, 1) := dk_172 (dk_at dksX0_hays_5 14 rfl rfl)
abbrev cX0_leads : ByteArray := prog_1_method_42_code
def yX0_leads : MethodName := ⟨RX0, "leads", "(I)V"⟩
def dkwX0_leads_6 : List UInt8 := [132, 2, 1, 167, 255, 132, 42, 180, 0, 82, 3, 42, 180, 0, 79, 3, 16, 25, 184, 1, 2, 177]
abbrev dktX0_leads_6 : List UInt8 := dkwX0_leads_6 ++ []
def dkwX0_leads_5 : List UInt8 := [180, 0, 82, 21, 5, 46, 162, 0, 12, 42, 180, 0, 82, 21, 5, 21, 6, 79, 132, 4, 1, 167, 255, 171]
abbrev dktX0_leads_5 : List UInt8 := dkwX0_leads_5 ++ dktX0_leads_6
def dkwX0_leads_4 : List UInt8 := [4, 96, 54, 6, 21, 5, 2, 159, 0, 35, 42, 180, 0, 82, 21, 5, 46, 2, 159, 0, 15, 21, 6, 42]
abbrev dktX0_leads_4 : List UInt8 := dkwX0_leads_4 ++ dktX0_leads_5
def dkwX0_leads_3 : List UInt8 := [28, 21, 4, 184, 0, 255, 54, 5, 42, 180, 0, 79, 28, 46, 21, 4, 29, 160, 0, 7, 3, 167, 0, 4]
abbrev dktX0_leads_3 : List UInt8 := dkwX0_leads_3 ++ dktX0_leads_4
def dkwX0_leads_2 : List UInt8 := [28, 182, 0, 166, 62, 3, 54, 4, 21, 4, 8, 162, 0, 85, 42, 180, 0, 79, 28, 46, 2, 159, 0, 75]
abbrev dktX0_leads_2 : List UInt8 := dkwX0_leads_2 ++ dktX0_leads_3
def dkwX0_leads_1 : List UInt8 := [16, 25, 162, 0, 124, 42, 180, 0, 79, 28, 46, 2, 160, 0, 7, 3, 167, 0, 12, 42, 180, 0, 46, 27]
abbrev dktX0_leads_1 : List UInt8 := dkwX0_leads_1 ++ dktX0_leads_2
def dkwX0_leads_0 : List UInt8 := [3, 61, 28, 16, 25, 162, 0, 16, 42, 180, 0, 82, 28, 2, 79, 132, 2, 1, 167, 255, 240, 3, 61, 28]
abbrev dktX0_leads_0 : List UInt8 := dkwX0_leads_0 ++ dktX0_leads_1
theorem dksX0_leads_0 : cX0_leads.data.toList.drop 0 = dktX0_leads_0 := by decide +kernel
theorem dksX0_leads_1 : cX0_leads.data.toList.drop 24 = dktX0_leads_1 := dk_seg dksX0_leads_0 24 rfl rfl
theorem dksX0_leads_2 : cX0_leads.data.toList.drop 48 = dktX0_leads_2 := dk_seg dksX0_leads_1 24 rfl rfl
theorem dksX0_leads_3 : cX0_leads.data.toList.drop 72 = dktX0_leads_3 := dk_seg dksX0_leads_2 24 rfl rfl
theorem dksX0_leads_4 : cX0_leads.data.toList.drop 96 = dktX0_leads_4 := dk_seg dksX0_leads_3 24 rfl rfl
theorem dksX0_leads_5 : cX0_leads.data.toList.drop 120 = dktX0_leads_5 := dk_seg dksX0_leads_4 24 rfl rfl
theorem dksX0_leads_6 : cX0_leads.data.toList.drop 144 = dktX0_leads_6 := dk_seg dksX0_leads_5 24 rfl rfl
theorem dX0_leads_0 : decode cX0_leads 0 = .ok (.iconst 0, 1) := dk_3 (dk_at dksX0_leads_0 0 rfl rfl)
theorem dX0_leads_1 : decode cX0_leads 1 = .ok (.istore_n 2, 1) := dk_61 (dk_at dksX0_leads_0 1 rfl rfl)
theorem dX0_leads_2 : decode cX0_leads 2 = .ok (.iload_n 2, 1) := dk_28 (dk_at dksX0_leads_0 2 rfl rfl)
theorem dX0_leads_3 : decode cX0_leads 3 = .ok (.bipush 25, 2) := dk_16 25 (dk_at dksX0_leads_0 3 rfl rfl)
theorem dX0_leads_5 : decode cX0_leads 5 = .ok (.if_icmp .ge 16, 3) := dk_162 0 16 (dk_at dksX0_leads_0 5 rfl rfl)
theorem dX0_leads_8 : decode cX0_leads 8 = .ok (.aload_n 0, 1) := dk_42 (dk_at dksX0_leads_0 8 rfl rfl)
theorem dX0_leads_9 : decode cX0_leads 9 = .ok (.getfield 82, 3) := dk_180 0 82 (dk_at dksX0_leads_0 9 rfl rfl)
theorem dX0_leads_12 : decode cX0_leads 12 = .ok (.iload_n 2, 1) := dk_28 (dk_at dksX0_leads_0 12 rfl rfl)
theorem dX0_leads_13 : decode cX0_leads 13 = .ok (.iconst (-1), 1) := dk_2 (dk_at dksX0_leads_0 13 rfl rfl)
theorem dX0_leads_14 : decode cX0_leads 14 = .ok (.iastore, 1) := dk_79 (dk_at dksX0_leads_0 14 rfl rfl)
theorem dX0_leads_15 : decode cX0_leads 15 = .ok (.iinc 2 1, 3) := dk_132 2 1 (dk_at dksX0_leads_0 15 rfl rfl)
theorem dX0_leads_18 : decode cX0_leads 18 = .ok (.goto (-16), 3) := dk_167 255 240 (dk_at dksX0_leads_0 18 rfl rfl)
theorem dX0_leads_21 : decode cX0_leads 21 = .ok (.iconst 0, 1) := dk_3 (dk_at dksX0_leads_0 21 rfl rfl)
theorem dX0_leads_22 : decode cX0_leads 22 = .ok (.istore_n 2, 1) := dk_61 (dk_at dksX0_leads_0 22 rfl rfl)
theorem dX0_leads_23 : decode cX0_leads 23 = .ok (.iload_n 2, 1) := dk_28 (dk_at dksX0_leads_0 23 rfl rfl)
theorem dX0_leads_24 : decode cX0_leads 24 = .ok (.bipush 25, 2) := dk_16 25 (dk_at dksX0_leads_1 0 rfl rfl)
theorem dX0_leads_26 : decode cX0_leads 26 = .ok (.if_icmp .ge 124, 3) := dk_162 0 124 (dk_at dksX0_leads_1 2 rfl rfl)
theorem dX0_leads_29 : decode cX0_leads 29 = .ok (.aload_n 0, 1) := dk_42 (dk_at dksX0_leads_1 5 rfl rfl)
theorem dX0_leads_30 : decode cX0_leads 30 = .ok (.getfield 79, 3) := dk_180 0 79 (dk_at dksX0_leads_1 6 rfl rfl)
theorem dX0_leads_33 : decode cX0_leads 33 = .ok (.iload_n 2, 1) := dk_28 (dk_at dksX0_leads_1 9 rfl rfl)
theorem dX0_leads_34 : decode cX0_leads 34 = .ok (.iaload, 1) := dk_46 (dk_at dksX0_leads_1 10 rfl rfl)
theorem dX0_leads_35 : decode cX0_leads 35 = .ok (.iconst (-1), 1) := dk_2 (dk_at dksX0_leads_1 11 rfl rfl)
theorem dX0_leads_36 : decode cX0_leads 36 = .ok (.if_icmp .ne 7, 3) := dk_160 0 7 (dk_at dksX0_leads_1 12 rfl rfl)
theorem dX0_leads_39 : decode cX0_leads 39 = .ok (.iconst 0, 1) := dk_3 (dk_at dksX0_leads_1 15 rfl rfl)
theorem dX0_leads_40 : decode cX0_leads 40 = .ok (.goto 12, 3) := dk_167 0 12 (dk_at dksX0_leads_1 16 rfl rfl)
theorem dX0_leads_43 : decode cX0_leads 43 = .ok (.aload_n 0, 1) := dk_42 (dk_at dksX0_leads_1 19 rfl rfl)
theorem dX0_leads_44 : decode cX0_leads 44 = .ok (.getfield 46, 3) := dk_180 0 46 (dk_at dksX0_leads_1 20 rfl rfl)
theorem dX0_leads_47 : decode cX0_leads 47 = .ok (.iload_n 1, 1) := dk_27 (dk_at dksX0_leads_1 23 rfl rfl)
theorem dX0_leads_48 : decode cX0_leads 48 = .ok (.iload_n 2, 1) := dk_28 (dk_at dksX0_leads_2 0 rfl rfl)
theorem dX0_leads_49 : decode cX0_leads 49 = .ok (.invokevirtual 166, 3) := dk_182 0 166 (dk_at dksX0_leads_2 1 rfl rfl)
theorem dX0_leads_52 : decode cX0_leads 52 = .ok (.istore_n 3, 1) := dk_62 (dk_at dksX0_leads_2 4 rfl rfl)
theorem dX0_leads_53 : decode cX0_leads 53 = .ok (.iconst 0, 1) := dk_3 (dk_at dksX0_leads_2 5 rfl rfl)
theorem dX0_leads_54 : decode cX0_leads 54 = .ok (.istore 4, 2) := dk_54 4 (dk_at dksX0_leads_2 6 rfl rfl)
theorem dX0_leads_56 : decode cX0_leads 56 = .ok (.iload 4, 2) := dk_21 4 (dk_at dksX0_leads_2 8 rfl rfl)
theorem dX0_leads_58 : decode cX0_leads 58 = .ok (.iconst 5, 1) := dk_8 (dk_at dksX0_leads_2 10 rfl rfl)
theorem dX0_leads_59 : decode cX0_leads 59 = .ok (.if_icmp .ge 85, 3) := dk_162 0 85 (dk_at dksX0_leads_2 11 rfl rfl)
theorem dX0_leads_62 : decode cX0_leads 62 = .ok (.aload_n 0, 1) := dk_42 (dk_at dksX0_leads_2 14 rfl rfl)
theorem dX0_leads_63 : decode cX0_leads 63 = .ok (.getfield 79, 3) := dk_180 0 79 (dk_at dksX0_leads_2 15 rfl rfl)
theorem dX0_leads_66 : decode cX0_leads 66 = .ok (.iload_n 2, 1) := dk_28 (dk_at dksX0_leads_2 18 rfl rfl)
theorem dX0_leads_67 : decode cX0_leads 67 = .ok (.iaload, 1) := dk_46 (dk_at dksX0_leads_2 19 rfl rfl)
theorem dX0_leads_68 : decode cX0_leads 68 = .ok (.iconst (-1), 1) := dk_2 (dk_at dksX0_leads_2 20 rfl rfl)
theorem dX0_leads_69 : decode cX0_leads 69 = .ok (.if_icmp .eq 75, 3) := dk_159 0 75 (dk_at dksX0_leads_2 21 rfl rfl)
theorem dX0_leads_72 : decode cX0_leads 72 = .ok (.iload_n 2, 1) := dk_28 (dk_at dksX0_leads_3 0 rfl rfl)
theorem dX0_leads_73 : decode cX0_leads 73 = .ok (.iload 4, 2) := dk_21 4 (dk_at dksX0_leads_3 1 rfl rfl)
theorem dX0_leads_75 : decode cX0_leads 75 = .ok (.invokestatic 255, 3) := dk_184 0 255 (dk_at dksX0_leads_3 3 rfl rfl)
theorem dX0_leads_78 : decode cX0_leads 78 = .ok (.istore 5, 2) := dk_54 5 (dk_at dksX0_leads_3 6 rfl rfl)
theorem dX0_leads_80 : decode cX0_leads 80 = .ok (.aload_n 0, 1) := dk_42 (dk_at dksX0_leads_3 8 rfl rfl)
theorem dX0_leads_81 : decode cX0_leads 81 = .ok (.getfield 79, 3) := dk_180 0 79 (dk_at dksX0_leads_3 9 rfl rfl)
theorem dX0_leads_84 : decode cX0_leads 84 = .ok (.iload_n 2, 1) := dk_28 (dk_at dksX0_leads_3 12 rfl rfl)
theorem dX0_leads_85 : decode cX0_leads 85 = .ok (.iaload, 1) := dk_46 (dk_at dksX0_leads_3 13 rfl rfl)
theorem dX0_leads_86 : decode cX0_leads 86 = .ok (.iload 4, 2) := dk_21 4 (dk_at dksX0_leads_3 14 rfl rfl)
theorem dX0_leads_88 : decode cX0_leads 88 = .ok (.iload_n 3, 1) := dk_29 (dk_at dksX0_leads_3 16 rfl rfl)
theorem dX0_leads_89 : decode cX0_leads 89 = .ok (.if_icmp .ne 7, 3) := dk_160 0 7 (dk_at dksX0_leads_3 17 rfl rfl)
theorem dX0_leads_92 : decode cX0_leads 92 = .ok (.iconst 0, 1) := dk_3 (dk_at dksX0_leads_3 20 rfl rfl)
theorem dX0_leads_93 : decode cX0_leads 93 = .ok (.goto 4, 3) := dk_167 0 4 (dk_at dksX0_leads_3 21 rfl rfl)
theorem dX0_leads_96 : decode cX0_leads 96 = .ok (.iconst 1, 1) := dk_4 (dk_at dksX0_leads_4 0 rfl rfl)
theorem dX0_leads_97 : decode cX0_leads 97 = .ok (.iadd, 1) := dk_96 (dk_at dksX0_leads_4 1 rfl rfl)
theorem dX0_leads_98 : decode cX0_leads 98 = .ok (.istore 6, 2) := dk_54 6 (dk_at dksX0_leads_4 2 rfl rfl)
theorem dX0_leads_100 : decode cX0_leads 100 = .ok (.iload 5, 2) := dk_21 5 (dk_at dksX0_leads_4 4 rfl rfl)
theorem dX0_leads_102 : decode cX0_leads 102 = .ok (.iconst (-1), 1) := dk_2 (dk_at dksX0_leads_4 6 rfl rfl)
theorem dX0_leads_103 : decode cX0_leads 103 = .ok (.if_icmp .eq 35, 3) := dk_159 0 35 (dk_at dksX0_leads_4 7 rfl rfl)
theorem dX0_leads_106 : decode cX0_leads 106 = .ok (.aload_n 0, 1) := dk_42 (dk_at dksX0_leads_4 10 rfl rfl)
theorem dX0_leads_107 : decode cX0_leads 107 = .ok (.getfield 82, 3) := dk_180 0 82 (dk_at dksX0_leads_4 11 rfl rfl)
theorem dX0_leads_110 : decode cX0_leads 110 = .ok (.iload 5, 2) := dk_21 5 (dk_at dksX0_leads_4 14 rfl rfl)
theorem dX0_leads_112 : decode cX0_leads 112 = .ok (.iaload, 1) := dk_46 (dk_at dksX0_leads_4 16 rfl rfl)
theorem dX0_leads_113 : decode cX0_leads 113 = .ok (.iconst (-1), 1) := dk_2 (dk_at dksX0_leads_4 17 rfl rfl)
theorem dX0_leads_114 : decode cX0_leads 114 = .ok (.if_icmp .eq 15, 3) := dk_159 0 15 (dk_at dksX0_leads_4 18 rfl rfl)
theorem dX0_leads_117 : decode cX0_leads 117 = .ok (.iload 6, 2) := dk_21 6 (dk_at dksX0_leads_4 21 rfl rfl)
theorem dX0_leads_119 : decode cX0_leads 119 = .ok (.aload_n 0, 1) := dk_42 (dk_at dksX0_leads_4 23 rfl rfl)
theorem dX0_leads_120 : decode cX0_leads 120 = .ok (.getfield 82, 3) := dk_180 0 82 (dk_at dksX0_leads_5 0 rfl rfl)
theorem dX0_leads_123 : decode cX0_leads 123 = .ok (.iload 5, 2) := dk_21 5 (dk_at dksX0_leads_5 3 rfl rfl)
theorem dX0_leads_125 : decode cX0_leads 125 = .ok (.iaload, 1) := dk_46 (dk_at dksX0_leads_5 5 rfl rfl)
theorem dX0_leads_126 : decode cX0_leads 126 = .ok (.if_icmp .ge 12, 3) := dk_162 0 12 (dk_at dksX0_leads_5 6 rfl rfl)
theorem dX0_leads_129 : decode cX0_leads 129 = .ok (.aload_n 0, 1) := dk_42 (dk_at dksX0_leads_5 9 rfl rfl)
theorem dX0_leads_130 : decode cX0_leads 130 = .ok (.getfield 82, 3) := dk_180 0 82 (dk_at dksX0_leads_5 10 rfl rfl)
theorem dX0_leads_133 : decode cX0_leads 133 = .ok (.iload 5, 2) := dk_21 5 (dk_at dksX0_leads_5 13 rfl rfl)
theorem dX0_leads_135 : decode cX0_leads 135 = .ok (.iload 6, 2) := dk_21 6 (dk_at dksX0_leads_5 15 rfl rfl)
theorem dX0_leads_137 : decode cX0_leads 137 = .ok (.iastore, 1) := dk_79 (dk_at dksX0_leads_5 17 rfl rfl)
theorem dX0_leads_138 : decode cX0_leads 138 = .ok (.iinc 4 1, 3) := dk_132 4 1 (dk_at dksX0_leads_5 18 rfl rfl)
theorem dX0_leads_141 : decode cX0_leads 141 = .ok (.goto (-85), 3) := dk_167 255 171 (dk_at dksX0_leads_5 21 rfl rfl)
theorem dX0_leads_144 : decode cX0_leads 144 = .ok (.iinc 2 1, 3) := dk_132 2 1 (dk_at dksX0_leads_6 0 rfl rfl)
theorem dX0_leads_147 : decode cX0_leads 147 = .ok (.goto (-124), 3) := dk_167 255 132 (dk_at dksX0_leads_6 3 rfl rfl)
theorem dX0_leads_150 : decode cX0_leads 150 = .ok (.aload_n 0, 1) := dk_42 (dk_at dksX0_leads_6 6 rfl rfl)
theorem dX0_leads_151 : decode cX0_leads 151 = .ok (.getfield 82, 3) := dk_180 0 82 (dk_at dksX0_leads_6 7 rfl rfl)
theorem dX0_leads_154 : decode cX0_leads 154 = .ok (.iconst 0, 1) := dk_3 (dk_at dksX0_leads_6 10 rfl rfl)
theorem dX0_leads_155 : decode cX0_leads 155 = .ok (.aload_n 0, 1) := dk_42 (dk_at dksX0_leads_6 11 rfl rfl)
theorem dX0_leads_156 : decode cX0_leads 156 = .ok (.getfield 79, 3) := dk_180 0 79 (dk_at dksX0_leads_6 12 rfl rfl)
theorem dX0_leads_159 : decode cX0_leads 159 = .ok (.iconst 0, 1) := dk_3 (dk_at dksX0_leads_6 15 rfl rfl)
theorem dX0_leads_160 : decode cX0_leads 160 = .ok (.bipush 25, 2) := dk_16 25 (dk_at dksX0_leads_6 16 rfl rfl)
theorem dX0_leads_162 : decode cX0_leads 162 = .ok (.invokestatic 258, 3) := dk_184 1 2 (dk_at dksX0_leads_6 18 rfl rfl)
theorem dX0_leads_165 : decode cX0_leads 165 = .ok (.return_, 1) := dk_177 (dk_at dksX0_leads_6 21 rfl rfl)
abbrev cX0_near : ByteArray := prog_1_method_45_code
def yX0_near : MethodName := ⟨RX0, "near", "(I)I"⟩
def dkwX0_near_3 : List UInt8 := [162, 0, 7, 29, 167, 0, 4, 28, 61, 132, 3, 1, 167, 255, 207, 28, 172, 77, 42, 44, 182, 0, 118, 172]
abbrev dktX0_near_3 : List UInt8 := dkwX0_near_3 ++ []
def dkwX0_near_2 : List UInt8 := [180, 0, 122, 29, 46, 27, 184, 1, 44, 42, 180, 0, 46, 180, 0, 122, 28, 46, 27, 184, 1, 44]
abbrev dktX0_near_2 : List UInt8 := dkwX0_near_2 ++ dktX0_near_3
def dkwX0_near_1 : List UInt8 := [3, 5, 182, 0, 102, 3, 61, 4, 62, 29, 42, 180, 0, 46, 180, 0, 95, 162, 0, 44, 42, 180, 0, 46]
abbrev dktX0_near_1 : List UInt8 := dkwX0_near_1 ++ dktX0_near_2
def dkwX0_near_0 : List UInt8 := [42, 27, 184, 0, 108, 4, 182, 0, 102, 42, 42, 180, 0, 46, 180, 0, 95, 158, 0, 7, 4, 167, 0, 4]
abbrev dktX0_near_0 : List UInt8 := dkwX0_near_0 ++ dktX0_near_1
theorem dksX0_near_0 : cX0_near.data.toList.drop 0 = dktX0_near_0 := by decide +kernel
theorem dksX0_near_1 : cX0_near.data.toList.drop 24 = dktX0_near_1 := dk_seg dksX0_near_0 24 rfl rfl
theorem dksX0_near_2 : cX0_near.data.toList.drop 48 = dktX0_near_2 := dk_seg dksX0_near_1 24 rfl rfl
theorem dksX0_near_3 : cX0_near.data.toList.drop 70 = dktX0_near_3 := dk_seg dksX0_near_2 22 rfl rfl
theorem dX0_near_0 : decode cX0_near 0 = .ok (.aload_n 0, 1) := dk_42 (dk_at dksX0_near_0 0 rfl rfl)
theorem dX0_near_1 : decode cX0_near 1 = .ok (.iload_n 1, 1) := dk_27 (dk_at dksX0_near_0 1 rfl rfl)
theorem dX0_near_2 : decode cX0_near 2 = .ok (.invokestatic 108, 3) := dk_184 0 108 (dk_at dksX0_near_0 2 rfl rfl)
theorem dX0_near_5 : decode cX0_near 5 = .ok (.iconst 1, 1) := dk_4 (dk_at dksX0_near_0 5 rfl rfl)
theorem dX0_near_6 : decode cX0_near 6 = .ok (.invokevirtual 102, 3) := dk_182 0 102 (dk_at dksX0_near_0 6 rfl rfl)
theorem dX0_near_9 : decode cX0_near 9 = .ok (.aload_n 0, 1) := dk_42 (dk_at dksX0_near_0 9 rfl rfl)
theorem dX0_near_10 : decode cX0_near 10 = .ok (.aload_n 0, 1) := dk_42 (dk_at dksX0_near_0 10 rfl rfl)
theorem dX0_near_11 : decode cX0_near 11 = .ok (.getfield 46, 3) := dk_180 0 46 (dk_at dksX0_near_0 11 rfl rfl)
theorem dX0_near_14 : decode cX0_near 14 = .ok (.getfield 95, 3) := dk_180 0 95 (dk_at dksX0_near_0 14 rfl rfl)
theorem dX0_near_17 : decode cX0_near 17 = .ok (.ifCond .le 7, 3) := dk_158 0 7 (dk_at dksX0_near_0 17 rfl rfl)
theorem dX0_near_20 : decode cX0_near 20 = .ok (.iconst 1, 1) := dk_4 (dk_at dksX0_near_0 20 rfl rfl)
theorem dX0_near_21 : decode cX0_near 21 = .ok (.goto 4, 3) := dk_167 0 4 (dk_at dksX0_near_0 21 rfl rfl)
theorem dX0_near_24 : decode cX0_near 24 = .ok (.iconst 0, 1) := dk_3 (dk_at dksX0_near_1 0 rfl rfl)
theorem dX0_near_25 : decode cX0_near 25 = .ok (.iconst 2, 1) := dk_5 (dk_at dksX0_near_1 1 rfl rfl)
theorem dX0_near_26 : decode cX0_near 26 = .ok (.invokevirtual 102, 3) := dk_182 0 102 (dk_at dksX0_near_1 2 rfl rfl)
theorem dX0_near_29 : decode cX0_near 29 = .ok (.iconst 0, 1) := dk_3 (dk_at dksX0_near_1 5 rfl rfl)
theorem dX0_near_30 : decode cX0_near 30 = .ok (.istore_n 2, 1) := dk_61 (dk_at dksX0_near_1 6 rfl rfl)
theorem dX0_near_31 : decode cX0_near 31 = .ok (.iconst 1, 1) := dk_4 (dk_at dksX0_near_1 7 rfl rfl)
theorem dX0_near_32 : decode cX0_near 32 = .ok (.istore_n 3, 1) := dk_62 (dk_at dksX0_near_1 8 rfl rfl)
theorem dX0_near_33 : decode cX0_near 33 = .ok (.iload_n 3, 1) := dk_29 (dk_at dksX0_near_1 9 rfl rfl)
theorem dX0_near_34 : decode cX0_near 34 = .ok (.aload_n 0, 1) := dk_42 (dk_at dksX0_near_1 10 rfl rfl)
theorem dX0_near_35 : decode cX0_near 35 = .ok (.getfield 46, 3) := dk_180 0 46 (dk_at dksX0_near_1 11 rfl rfl)
theorem dX0_near_38 : decode cX0_near 38 = .ok (.getfield 95, 3) := dk_180 0 95 (dk_at dksX0_near_1 14 rfl rfl)
theorem dX0_near_41 : decode cX0_near 41 = .ok (.if_icmp .ge 44, 3) := dk_162 0 44 (dk_at dksX0_near_1 17 rfl rfl)
theorem dX0_near_44 : decode cX0_near 44 = .ok (.aload_n 0, 1) := dk_42 (dk_at dksX0_near_1 20 rfl rfl)
theorem dX0_near_45 : decode cX0_near 45 = .ok (.getfield 46, 3) := dk_180 0 46 (dk_at dksX0_near_1 21 rfl rfl)
theorem dX0_near_48 : decode cX0_near 48 = .ok (.getfield 122, 3) := dk_180 0 122 (dk_at dksX0_near_2 0 rfl rfl)
theorem dX0_near_51 : decode cX0_near 51 = .ok (.iload_n 3, 1) := dk_29 (dk_at dksX0_near_2 3 rfl rfl)
theorem dX0_near_52 : decode cX0_near 52 = .ok (.iaload, 1) := dk_46 (dk_at dksX0_near_2 4 rfl rfl)
theorem dX0_near_53 : decode cX0_near 53 = .ok (.iload_n 1, 1) := dk_27 (dk_at dksX0_near_2 5 rfl rfl)
theorem dX0_near_54 : decode cX0_near 54 = .ok (.invokestatic 300, 3) := dk_184 1 44 (dk_at dksX0_near_2 6 rfl rfl)
theorem dX0_near_57 : decode cX0_near 57 = .ok (.aload_n 0, 1) := dk_42 (dk_at dksX0_near_2 9 rfl rfl)
theorem dX0_near_58 : decode cX0_near 58 = .ok (.getfield 46, 3) := dk_180 0 46 (dk_at dksX0_near_2 10 rfl rfl)
theorem dX0_near_61 : decode cX0_near 61 = .ok (.getfield 122, 3) := dk_180 0 122 (dk_at dksX0_near_2 13 rfl rfl)
theorem dX0_near_64 : decode cX0_near 64 = .ok (.iload_n 2, 1) := dk_28 (dk_at dksX0_near_2 16 rfl rfl)
theorem dX0_near_65 : decode cX0_near 65 = .ok (.iaload, 1) := dk_46 (dk_at dksX0_near_2 17 rfl rfl)
theorem dX0_near_66 : decode cX0_near 66 = .ok (.iload_n 1, 1) := dk_27 (dk_at dksX0_near_2 18 rfl rfl)
theorem dX0_near_67 : decode cX0_near 67 = .ok (.invokestatic 300, 3) := dk_184 1 44 (dk_at dksX0_near_2 19 rfl rfl)
theorem dX0_near_70 : decode cX0_near 70 = .ok (.if_icmp .ge 7, 3) := dk_162 0 7 (dk_at dksX0_near_3 0 rfl rfl)
theorem dX0_near_73 : decode cX0_near 73 = .ok (.iload_n 3, 1) := dk_29 (dk_at dksX0_near_3 3 rfl rfl)
theorem dX0_near_74 : decode cX0_near 74 = .ok (.goto 4, 3) := dk_167 0 4 (dk_at dksX0_near_3 4 rfl rfl)
theorem dX0_near_77 : decode cX0_near 77 = .ok (.iload_n 2, 1) := dk_28 (dk_at dksX0_near_3 7 rfl rfl)
theorem dX0_near_78 : decode cX0_near 78 = .ok (.istore_n 2, 1) := dk_61 (dk_at dksX0_near_3 8 rfl rfl)
theorem dX0_near_79 : decode cX0_near 79 = .ok (.iinc 3 1, 3) := dk_132 3 1 (dk_at dksX0_near_3 9 rfl rfl)
theorem dX0_near_82 : decode cX0_near 82 = .ok (.goto (-49), 3) := dk_167 255 207 (dk_at dksX0_near_3 12 rfl rfl)
theorem dX0_near_85 : decode cX0_near 85 = .ok (.iload_n 2, 1) := dk_28 (dk_at dksX0_near_3 15 rfl rfl)
theorem dX0_near_86 : decode cX0_near 86 = .ok (.ireturn, 1) := dk_172 (dk_at dksX0_near_3 16 rfl rfl)
theorem dX0_near_87 : decode cX0_near 87 = .ok (.astore_n 2, 1) := dk_77 (dk_at dksX0_near_3 17 rfl rfl)
theorem dX0_near_88 : decode cX0_near 88 = .ok (.aload_n 0, 1) := dk_42 (dk_at dksX0_near_3 18 rfl rfl)
theorem dX0_near_89 : decode cX0_near 89 = .ok (.aload_n 2, 1) := dk_44 (dk_at dksX0_near_3 19 rfl rfl)
theorem dX0_near_90 : decode cX0_near 90 = .ok (.invokevirtual 118, 3) := dk_182 0 118 (dk_at dksX0_near_3 20 rfl rfl)
theorem dX0_near_93 : decode cX0_near 93 = .ok (.ireturn, 1) := dk_172 (dk_at dksX0_near_3 23 rfl rfl)
abbrev cX0_far : ByteArray := prog_1_method_44_code
def yX0_far : MethodName := ⟨RX0, "far", "(II)I"⟩
def dkwX0_far_0 : List UInt8 := [26, 8, 108, 27, 8, 108, 100, 184, 1, 41, 26, 8, 112, 27, 8, 112, 100, 184, 1, 41, 96, 172]
abbrev dktX0_far_0 : List UInt8 := dkwX0_far_0 ++ []
theorem dksX0_far_0 : cX0_far.data.toList.drop 0 = dktX0_far_0 := by decide +kernel
theorem dX0_far_0 : decode cX0_far 0 = .ok (.iload_n 0, 1) := dk_26 (dk_at dksX0_far_0 0 rfl rfl)
theorem dX0_far_1 : decode cX0_far 1 = .ok (.iconst 5, 1) := dk_8 (dk_at dksX0_far_0 1 rfl rfl)
theorem dX0_far_2 : decode cX0_far 2 = .ok (.idiv, 1) := dk_108 (dk_at dksX0_far_0 2 rfl rfl)
theorem dX0_far_3 : decode cX0_far 3 = .ok (.iload_n 1, 1) := dk_27 (dk_at dksX0_far_0 3 rfl rfl)
theorem dX0_far_4 : decode cX0_far 4 = .ok (.iconst 5, 1) := dk_8 (dk_at dksX0_far_0 4 rfl rfl)
theorem dX0_far_5 : decode cX0_far 5 = .ok (.idiv, 1) := dk_108 (dk_at dksX0_far_0 5 rfl rfl)
theorem dX0_far_6 : decode cX0_far 6 = .ok (.isub, 1) := dk_100 (dk_at dksX0_far_0 6 rfl rfl)
theorem dX0_far_7 : decode cX0_far 7 = .ok (.invokestatic 297, 3) := dk_184 1 41 (dk_at dksX0_far_0 7 rfl rfl)
theorem dX0_far_10 : decode cX0_far 10 = .ok (.iload_n 0, 1) := dk_26 (dk_at dksX0_far_0 10 rfl rfl)
theorem dX0_far_11 : decode cX0_far 11 = .ok (.iconst 5, 1) := dk_8 (dk_at dksX0_far_0 11 rfl rfl)
theorem dX0_far_12 : decode cX0_far 12 = .ok (.irem, 1) := dk_112 (dk_at dksX0_far_0 12 rfl rfl)
theorem dX0_far_13 : decode cX0_far 13 = .ok (.iload_n 1, 1) := dk_27 (dk_at dksX0_far_0 13 rfl rfl)
theorem dX0_far_14 : decode cX0_far 14 = .ok (.iconst 5, 1) := dk_8 (dk_at dksX0_far_0 14 rfl rfl)
theorem dX0_far_15 : decode cX0_far 15 = .ok (.irem, 1) := dk_112 (dk_at dksX0_far_0 15 rfl rfl)
theorem dX0_far_16 : decode cX0_far 16 = .ok (.isub, 1) := dk_100 (dk_at dksX0_far_0 16 rfl rfl)
theorem dX0_far_17 : decode cX0_far 17 = .ok (.invokestatic 297, 3) := dk_184 1 41 (dk_at dksX0_far_0 17 rfl rfl)
theorem dX0_far_20 : decode cX0_far 20 = .ok (.iadd, 1) := dk_96 (dk_at dksX0_far_0 20 rfl rfl)
theorem dX0_far_21 : decode cX0_far 21 = .ok (.ireturn, 1) := dk_172 (dk_at dksX0_far_0 21 rfl rfl)
abbrev cX0_seed : ByteArray := prog_1_method_46_code
def yX0_seed : MethodName := ⟨RX0, "seed", "(I)I"⟩
def dkwX0_seed_0 : List UInt8 := [42, 180, 0, 46, 180, 1, 47, 61, 42, 180, 0, 46, 27, 181, 1, 47, 28, 172]
abbrev dktX0_seed_0 : List UInt8 := dkwX0_seed_0 ++ []
theorem dksX0_seed_0 : cX0_seed.data.toList.drop 0 = dktX0_seed_0 := by decide +kernel
theorem dX0_seed_0 : decode cX0_seed 0 = .ok (.aload_n 0, 1) := dk_42 (dk_at dksX0_seed_0 0 rfl rfl)
theorem dX0_seed_1 : decode cX0_seed 1 = .ok (.getfield 46, 3) := dk_180 0 46 (dk_at dksX0_seed_0 1 rfl rfl)
theorem dX0_seed_4 : decode cX0_seed 4 = .ok (.getfield 303, 3) := dk_180 1 47 (dk_at dksX0_seed_0 4 rfl rfl)
theorem dX0_seed_7 : decode cX0_seed 7 = .ok (.istore_n 2, 1) := dk_61 (dk_at dksX0_seed_0 7 rfl rfl)
theorem dX0_seed_8 : decode cX0_seed 8 = .ok (.aload_n 0, 1) := dk_42 (dk_at dksX0_seed_0 8 rfl rfl)
theorem dX0_seed_9 : decode cX0_seed 9 = .ok (.getfield 46, 3) := dk_180 0 46 (dk_at dksX0_seed_0 9 rfl rfl)
theorem dX0_seed_12 : decode cX0_seed 12 = .ok (.iload_n 1, 1) := dk_27 (dk_at dksX0_seed_0 12 rfl rfl)
theorem dX0_seed_13 : decode cX0_seed 13 = .ok (.putfield 303, 3) := dk_181 1 47 (dk_at dksX0_seed_0 13 rfl rfl)
theorem dX0_seed_16 : decode cX0_seed 16 = .ok (.iload_n 2, 1) := dk_28 (dk_at dksX0_seed_0 16 rfl rfl)
theorem dX0_seed_17 : decode cX0_seed 17 = .ok (.ireturn, 1) := dk_172 (dk_at dksX0_seed_0 17 rfl rfl)
abbrev cX0_voice : ByteArray := prog_1_method_47_code
def yX0_voice : MethodName := ⟨RX0, "voice", "(III)I"⟩
def dkwX0_voice_3 : List UInt8 := [185, 1, 62, 2, 0, 172, 25, 4, 29, 185, 1, 67, 2, 0, 172, 58, 4, 42, 25, 4, 182, 0, 118, 172]
abbrev dktX0_voice_3 : List UInt8 := dkwX0_voice_3 ++ []
def dkwX0_voice_2 : List UInt8 := [25, 4, 29, 185, 1, 52, 2, 0, 172, 25, 4, 29, 185, 1, 57, 2, 0, 172, 25, 4, 29]
abbrev dktX0_voice_2 : List UInt8 := dkwX0_voice_2 ++ dktX0_voice_3
def dkwX0_voice_1 : List UInt8 := [170, 0, 0, 0, 0, 53, 0, 0, 0, 0, 0, 0, 0, 2, 0, 0, 0, 26, 0, 0, 0, 35, 0, 0, 0, 44]
abbrev dktX0_voice_1 : List UInt8 := dkwX0_voice_1 ++ dktX0_voice_2
def dkwX0_voice_0 : List UInt8 := [42, 27, 28, 3, 6, 184, 0, 91, 182, 0, 149, 58, 4, 42, 180, 0, 59, 3, 181, 1, 50, 28]
abbrev dktX0_voice_0 : List UInt8 := dkwX0_voice_0 ++ dktX0_voice_1
theorem dksX0_voice_0 : cX0_voice.data.toList.drop 0 = dktX0_voice_0 := by decide +kernel
theorem dksX0_voice_1 : cX0_voice.data.toList.drop 22 = dktX0_voice_1 := dk_seg dksX0_voice_0 22 rfl rfl
theorem dksX0_voice_2 : cX0_voice.data.toList.drop 48 = dktX0_voice_2 := dk_seg dksX0_voice_1 26 rfl rfl
theorem dksX0_voice_3 : cX0_voice.data.toList.drop 69 = dktX0_voice_3 := dk_seg dksX0_voice_2 21 rfl rfl
theorem dX0_voice_0 : decode cX0_voice 0 = .ok (.aload_n 0, 1) := dk_42 (dk_at dksX0_voice_0 0 rfl rfl)
theorem dX0_voice_1 : decode cX0_voice 1 = .ok (.iload_n 1, 1) := dk_27 (dk_at dksX0_voice_0 1 rfl rfl)
theorem dX0_voice_2 : decode cX0_voice 2 = .ok (.iload_n 2, 1) := dk_28 (dk_at dksX0_voice_0 2 rfl rfl)
theorem dX0_voice_3 : decode cX0_voice 3 = .ok (.iconst 0, 1) := dk_3 (dk_at dksX0_voice_0 3 rfl rfl)
theorem dX0_voice_4 : decode cX0_voice 4 = .ok (.iconst 3, 1) := dk_6 (dk_at dksX0_voice_0 4 rfl rfl)
theorem dX0_voice_5 : decode cX0_voice 5 = .ok (.invokestatic 91, 3) := dk_184 0 91 (dk_at dksX0_voice_0 5 rfl rfl)
theorem dX0_voice_8 : decode cX0_voice 8 = .ok (.invokevirtual 149, 3) := dk_182 0 149 (dk_at dksX0_voice_0 8 rfl rfl)
theorem dX0_voice_11 : decode cX0_voice 11 = .ok (.astore 4, 2) := dk_58 4 (dk_at dksX0_voice_0 11 rfl rfl)
theorem dX0_voice_13 : decode cX0_voice 13 = .ok (.aload_n 0, 1) := dk_42 (dk_at dksX0_voice_0 13 rfl rfl)
theorem dX0_voice_14 : decode cX0_voice 14 = .ok (.getfield 59, 3) := dk_180 0 59 (dk_at dksX0_voice_0 14 rfl rfl)
theorem dX0_voice_17 : decode cX0_voice 17 = .ok (.iconst 0, 1) := dk_3 (dk_at dksX0_voice_0 17 rfl rfl)
theorem dX0_voice_18 : decode cX0_voice 18 = .ok (.putfield 306, 3) := dk_181 1 50 (dk_at dksX0_voice_0 18 rfl rfl)
theorem dX0_voice_21 : decode cX0_voice 21 = .ok (.iload_n 2, 1) := dk_28 (dk_at dksX0_voice_0 21 rfl rfl)
theorem dX0_voice_22 : decode cX0_voice 22 = .ok (.tableswitch 53 0 2 #[26, 35, 44], 26) := by decide +kernel
theorem dX0_voice_48 : decode cX0_voice 48 = .ok (.aload 4, 2) := dk_25 4 (dk_at dksX0_voice_2 0 rfl rfl)
theorem dX0_voice_50 : decode cX0_voice 50 = .ok (.iload_n 3, 1) := dk_29 (dk_at dksX0_voice_2 2 rfl rfl)
theorem dX0_voice_51 : decode cX0_voice 51 = .ok (.invokeinterface 308 2, 5) := by decide +kernel
theorem dX0_voice_56 : decode cX0_voice 56 = .ok (.ireturn, 1) := dk_172 (dk_at dksX0_voice_2 8 rfl rfl)
theorem dX0_voice_57 : decode cX0_voice 57 = .ok (.aload 4, 2) := dk_25 4 (dk_at dksX0_voice_2 9 rfl rfl)
theorem dX0_voice_59 : decode cX0_voice 59 = .ok (.iload_n 3, 1) := dk_29 (dk_at dksX0_voice_2 11 rfl rfl)
theorem dX0_voice_60 : decode cX0_voice 60 = .ok (.invokeinterface 313 2, 5) := by decide +kernel
theorem dX0_voice_65 : decode cX0_voice 65 = .ok (.ireturn, 1) := dk_172 (dk_at dksX0_voice_2 17 rfl rfl)
theorem dX0_voice_66 : decode cX0_voice 66 = .ok (.aload 4, 2) := dk_25 4 (dk_at dksX0_voice_2 18 rfl rfl)
theorem dX0_voice_68 : decode cX0_voice 68 = .ok (.iload_n 3, 1) := dk_29 (dk_at dksX0_voice_2 20 rfl rfl)
theorem dX0_voice_69 : decode cX0_voice 69 = .ok (.invokeinterface 318 2, 5) := by decide +kernel
theorem dX0_voice_74 : decode cX0_voice 74 = .ok (.ireturn, 1) := dk_172 (dk_at dksX0_voice_3 5 rfl rfl)
theorem dX0_voice_75 : decode cX0_voice 75 = .ok (.aload 4, 2) := dk_25 4 (dk_at dksX0_voice_3 6 rfl rfl)
theorem dX0_voice_77 : decode cX0_voice 77 = .ok (.iload_n 3, 1) := dk_29 (dk_at dksX0_voice_3 8 rfl rfl)
theorem dX0_voice_78 : decode cX0_voice 78 = .ok (.invokeinterface 323 2, 5) := by decide +kernel
theorem dX0_voice_83 : decode cX0_voice 83 = .ok (.ireturn, 1) := dk_172 (dk_at dksX0_voice_3 14 rfl rfl)
theorem dX0_voice_84 : decode cX0_voice 84 = .ok (.astore 4, 2) := dk_58 4 (dk_at dksX0_voice_3 15 rfl rfl)
theorem dX0_voice_86 : decode cX0_voice 86 = .ok (.aload_n 0, 1) := dk_42 (dk_at dksX0_voice_3 17 rfl rfl)
theorem dX0_voice_87 : decode cX0_voice 87 = .ok (.aload 4, 2) := dk_25 4 (dk_at dksX0_voice_3 18 rfl rfl)
theorem dX0_voice_89 : decode cX0_voice 89 = .ok (.invokevirtual 118, 3) := dk_182 0 118 (dk_at dksX0_voice_3 20 rfl rfl)
theorem dX0_voice_92 : decode cX0_voice 92 = .ok (.ireturn, 1) := dk_172 (dk_at dksX0_voice_3 23 rfl rfl)
abbrev cX0_trace : ByteArray := prog_1_method_48_code
def yX0_trace : MethodName := ⟨RX0, "trace", "(I)I"⟩
def dkwX0_trace_1 : List UInt8 := [180, 1, 72, 27, 46, 172, 77, 42, 44, 182, 0, 118, 172]
abbrev dktX0_trace_1 : List UInt8 := dkwX0_trace_1 ++ []
def dkwX0_trace_0 : List UInt8 := [42, 27, 3, 42, 180, 0, 59, 180, 1, 50, 4, 100, 184, 0, 91, 5, 182, 0, 102, 42, 180, 0, 59]
abbrev dktX0_trace_0 : List UInt8 := dkwX0_trace_0 ++ dktX0_trace_1
theorem dksX0_trace_0 : cX0_trace.data.toList.drop 0 = dktX0_trace_0 := by decide +kernel
theorem dksX0_trace_1 : cX0_trace.data.toList.drop 23 = dktX0_trace_1 := dk_seg dksX0_trace_0 23 rfl rfl
theorem dX0_trace_0 : decode cX0_trace 0 = .ok (.aload_n 0, 1) := dk_42 (dk_at dksX0_trace_0 0 rfl rfl)
theorem dX0_trace_1 : decode cX0_trace 1 = .ok (.iload_n 1, 1) := dk_27 (dk_at dksX0_trace_0 1 rfl rfl)
theorem dX0_trace_2 : decode cX0_trace 2 = .ok (.iconst 0, 1) := dk_3 (dk_at dksX0_trace_0 2 rfl rfl)
theorem dX0_trace_3 : decode cX0_trace 3 = .ok (.aload_n 0, 1) := dk_42 (dk_at dksX0_trace_0 3 rfl rfl)
theorem dX0_trace_4 : decode cX0_trace 4 = .ok (.getfield 59, 3) := dk_180 0 59 (dk_at dksX0_trace_0 4 rfl rfl)
theorem dX0_trace_7 : decode cX0_trace 7 = .ok (.getfield 306, 3) := dk_180 1 50 (dk_at dksX0_trace_0 7 rfl rfl)
theorem dX0_trace_10 : decode cX0_trace 10 = .ok (.iconst 1, 1) := dk_4 (dk_at dksX0_trace_0 10 rfl rfl)
theorem dX0_trace_11 : decode cX0_trace 11 = .ok (.isub, 1) := dk_100 (dk_at dksX0_trace_0 11 rfl rfl)
theorem dX0_trace_12 : decode cX0_trace 12 = .ok (.invokestatic 91, 3) := dk_184 0 91 (dk_at dksX0_trace_0 12 rfl rfl)
theorem dX0_trace_15 : decode cX0_trace 15 = .ok (.iconst 2, 1) := dk_5 (dk_at dksX0_trace_0 15 rfl rfl)
theorem dX0_trace_16 : decode cX0_trace 16 = .ok (.invokevirtual 102, 3) := dk_182 0 102 (dk_at dksX0_trace_0 16 rfl rfl)
theorem dX0_trace_19 : decode cX0_trace 19 = .ok (.aload_n 0, 1) := dk_42 (dk_at dksX0_trace_0 19 rfl rfl)
theorem dX0_trace_20 : decode cX0_trace 20 = .ok (.getfield 59, 3) := dk_180 0 59 (dk_at dksX0_trace_0 20 rfl rfl)
theorem dX0_trace_23 : decode cX0_trace 23 = .ok (.getfield 328, 3) := dk_180 1 72 (dk_at dksX0_trace_1 0 rfl rfl)
theorem dX0_trace_26 : decode cX0_trace 26 = .ok (.iload_n 1, 1) := dk_27 (dk_at dksX0_trace_1 3 rfl rfl)
theorem dX0_trace_27 : decode cX0_trace 27 = .ok (.iaload, 1) := dk_46 (dk_at dksX0_trace_1 4 rfl rfl)
theorem dX0_trace_28 : decode cX0_trace 28 = .ok (.ireturn, 1) := dk_172 (dk_at dksX0_trace_1 5 rfl rfl)
theorem dX0_trace_29 : decode cX0_trace 29 = .ok (.astore_n 2, 1) := dk_77 (dk_at dksX0_trace_1 6 rfl rfl)
theorem dX0_trace_30 : decode cX0_trace 30 = .ok (.aload_n 0, 1) := dk_42 (dk_at dksX0_trace_1 7 rfl rfl)
theorem dX0_trace_31 : decode cX0_trace 31 = .ok (.aload_n 2, 1) := dk_44 (dk_at dksX0_trace_1 8 rfl rfl)
theorem dX0_trace_32 : decode cX0_trace 32 = .ok (.invokevirtual 118, 3) := dk_182 0 118 (dk_at dksX0_trace_1 9 rfl rfl)
theorem dX0_trace_35 : decode cX0_trace 35 = .ok (.ireturn, 1) := dk_172 (dk_at dksX0_trace_1 12 rfl rfl)
abbrev cX0_marks : ByteArray := prog_1_method_49_code
def yX0_marks : MethodName := ⟨RX0, "marks", "(I)I"⟩
def dkwX0_marks_3 : List UInt8 := [182, 0, 118, 172]
abbrev dktX0_marks_3 : List UInt8 := dkwX0_marks_3 ++ []
def dkwX0_marks_2 : List UInt8 := [180, 0, 46, 180, 0, 112, 29, 44, 29, 182, 1, 26, 79, 132, 3, 1, 167, 255, 213, 29, 172, 77, 42, 44]
abbrev dktX0_marks_2 : List UInt8 := dkwX0_marks_2 ++ dktX0_marks_3
def dkwX0_marks_1 : List UInt8 := [162, 0, 41, 29, 184, 0, 108, 153, 0, 34, 44, 29, 182, 1, 26, 184, 1, 75, 153, 0, 23, 42]
abbrev dktX0_marks_1 : List UInt8 := dkwX0_marks_1 ++ dktX0_marks_2
def dkwX0_marks_0 : List UInt8 := [42, 27, 184, 1, 16, 4, 182, 0, 102, 42, 27, 182, 1, 19, 77, 3, 62, 29, 44, 182, 1, 23]
abbrev dktX0_marks_0 : List UInt8 := dkwX0_marks_0 ++ dktX0_marks_1
theorem dksX0_marks_0 : cX0_marks.data.toList.drop 0 = dktX0_marks_0 := by decide +kernel
theorem dksX0_marks_1 : cX0_marks.data.toList.drop 22 = dktX0_marks_1 := dk_seg dksX0_marks_0 22 rfl rfl
theorem dksX0_marks_2 : cX0_marks.data.toList.drop 44 = dktX0_marks_2 := dk_seg dksX0_marks_1 22 rfl rfl
theorem dksX0_marks_3 : cX0_marks.data.toList.drop 68 = dktX0_marks_3 := dk_seg dksX0_marks_2 24 rfl rfl
theorem dX0_marks_0 : decode cX0_marks 0 = .ok (.aload_n 0, 1) := dk_42 (dk_at dksX0_marks_0 0 rfl rfl)
theorem dX0_marks_1 : decode cX0_marks 1 = .ok (.iload_n 1, 1) := dk_27 (dk_at dksX0_marks_0 1 rfl rfl)
theorem dX0_marks_2 : decode cX0_marks 2 = .ok (.invokestatic 272, 3) := dk_184 1 16 (dk_at dksX0_marks_0 2 rfl rfl)
theorem dX0_marks_5 : decode cX0_marks 5 = .ok (.iconst 1, 1) := dk_4 (dk_at dksX0_marks_0 5 rfl rfl)
theorem dX0_marks_6 : decode cX0_marks 6 = .ok (.invokevirtual 102, 3) := dk_182 0 102 (dk_at dksX0_marks_0 6 rfl rfl)
theorem dX0_marks_9 : decode cX0_marks 9 = .ok (.aload_n 0, 1) := dk_42 (dk_at dksX0_marks_0 9 rfl rfl)
theorem dX0_marks_10 : decode cX0_marks 10 = .ok (.iload_n 1, 1) := dk_27 (dk_at dksX0_marks_0 10 rfl rfl)
theorem dX0_marks_11 : decode cX0_marks 11 = .ok (.invokevirtual 275, 3) := dk_182 1 19 (dk_at dksX0_marks_0 11 rfl rfl)
theorem dX0_marks_14 : decode cX0_marks 14 = .ok (.astore_n 2, 1) := dk_77 (dk_at dksX0_marks_0 14 rfl rfl)
theorem dX0_marks_15 : decode cX0_marks 15 = .ok (.iconst 0, 1) := dk_3 (dk_at dksX0_marks_0 15 rfl rfl)
theorem dX0_marks_16 : decode cX0_marks 16 = .ok (.istore_n 3, 1) := dk_62 (dk_at dksX0_marks_0 16 rfl rfl)
theorem dX0_marks_17 : decode cX0_marks 17 = .ok (.iload_n 3, 1) := dk_29 (dk_at dksX0_marks_0 17 rfl rfl)
theorem dX0_marks_18 : decode cX0_marks 18 = .ok (.aload_n 2, 1) := dk_44 (dk_at dksX0_marks_0 18 rfl rfl)
theorem dX0_marks_19 : decode cX0_marks 19 = .ok (.invokevirtual 279, 3) := dk_182 1 23 (dk_at dksX0_marks_0 19 rfl rfl)
theorem dX0_marks_22 : decode cX0_marks 22 = .ok (.if_icmp .ge 41, 3) := dk_162 0 41 (dk_at dksX0_marks_1 0 rfl rfl)
theorem dX0_marks_25 : decode cX0_marks 25 = .ok (.iload_n 3, 1) := dk_29 (dk_at dksX0_marks_1 3 rfl rfl)
theorem dX0_marks_26 : decode cX0_marks 26 = .ok (.invokestatic 108, 3) := dk_184 0 108 (dk_at dksX0_marks_1 4 rfl rfl)
theorem dX0_marks_29 : decode cX0_marks 29 = .ok (.ifCond .eq 34, 3) := dk_153 0 34 (dk_at dksX0_marks_1 7 rfl rfl)
theorem dX0_marks_32 : decode cX0_marks 32 = .ok (.aload_n 2, 1) := dk_44 (dk_at dksX0_marks_1 10 rfl rfl)
theorem dX0_marks_33 : decode cX0_marks 33 = .ok (.iload_n 3, 1) := dk_29 (dk_at dksX0_marks_1 11 rfl rfl)
theorem dX0_marks_34 : decode cX0_marks 34 = .ok (.invokevirtual 282, 3) := dk_182 1 26 (dk_at dksX0_marks_1 12 rfl rfl)
theorem dX0_marks_37 : decode cX0_marks 37 = .ok (.invokestatic 331, 3) := dk_184 1 75 (dk_at dksX0_marks_1 15 rfl rfl)
theorem dX0_marks_40 : decode cX0_marks 40 = .ok (.ifCond .eq 23, 3) := dk_153 0 23 (dk_at dksX0_marks_1 18 rfl rfl)
theorem dX0_marks_43 : decode cX0_marks 43 = .ok (.aload_n 0, 1) := dk_42 (dk_at dksX0_marks_1 21 rfl rfl)
theorem dX0_marks_44 : decode cX0_marks 44 = .ok (.getfield 46, 3) := dk_180 0 46 (dk_at dksX0_marks_2 0 rfl rfl)
theorem dX0_marks_47 : decode cX0_marks 47 = .ok (.getfield 112, 3) := dk_180 0 112 (dk_at dksX0_marks_2 3 rfl rfl)
theorem dX0_marks_50 : decode cX0_marks 50 = .ok (.iload_n 3, 1) := dk_29 (dk_at dksX0_marks_2 6 rfl rfl)
theorem dX0_marks_51 : decode cX0_marks 51 = .ok (.aload_n 2, 1) := dk_44 (dk_at dksX0_marks_2 7 rfl rfl)
theorem dX0_marks_52 : decode cX0_marks 52 = .ok (.iload_n 3, 1) := dk_29 (dk_at dksX0_marks_2 8 rfl rfl)
theorem dX0_marks_53 : decode cX0_marks 53 = .ok (.invokevirtual 282, 3) := dk_182 1 26 (dk_at dksX0_marks_2 9 rfl rfl)
theorem dX0_marks_56 : decode cX0_marks 56 = .ok (.iastore, 1) := dk_79 (dk_at dksX0_marks_2 12 rfl rfl)
theorem dX0_marks_57 : decode cX0_marks 57 = .ok (.iinc 3 1, 3) := dk_132 3 1 (dk_at dksX0_marks_2 13 rfl rfl)
theorem dX0_marks_60 : decode cX0_marks 60 = .ok (.goto (-43), 3) := dk_167 255 213 (dk_at dksX0_marks_2 16 rfl rfl)
theorem dX0_marks_63 : decode cX0_marks 63 = .ok (.iload_n 3, 1) := dk_29 (dk_at dksX0_marks_2 19 rfl rfl)
theorem dX0_marks_64 : decode cX0_marks 64 = .ok (.ireturn, 1) := dk_172 (dk_at dksX0_marks_2 20 rfl rfl)
theorem dX0_marks_65 : decode cX0_marks 65 = .ok (.astore_n 2, 1) := dk_77 (dk_at dksX0_marks_2 21 rfl rfl)
theorem dX0_marks_66 : decode cX0_marks 66 = .ok (.aload_n 0, 1) := dk_42 (dk_at dksX0_marks_2 22 rfl rfl)
theorem dX0_marks_67 : decode cX0_marks 67 = .ok (.aload_n 2, 1) := dk_44 (dk_at dksX0_marks_2 23 rfl rfl)
theorem dX0_marks_68 : decode cX0_marks 68 = .ok (.invokevirtual 118, 3) := dk_182 0 118 (dk_at dksX0_marks_3 0 rfl rfl)
theorem dX0_marks_71 : decode cX0_marks 71 = .ok (.ireturn, 1) := dk_172 (dk_at dksX0_marks_3 3 rfl rfl)
abbrev cX0_isMark : ByteArray := prog_1_method_11_code
def yX0_isMark : MethodName := ⟨RX0, "isMark", "(I)Z"⟩
def dkwX0_isMark_0 : List UInt8 := [26, 3, 16, 9, 184, 0, 91, 172]
abbrev dktX0_isMark_0 : List UInt8 := dkwX0_isMark_0 ++ []
theorem dksX0_isMark_0 : cX0_isMark.data.toList.drop 0 = dktX0_isMark_0 := by decide +kernel
theorem dX0_isMark_0 : decode cX0_isMark 0 = .ok (.iload_n 0, 1) := dk_26 (dk_at dksX0_isMark_0 0 rfl rfl)
theorem dX0_isMark_1 : decode cX0_isMark 1 = .ok (.iconst 0, 1) := dk_3 (dk_at dksX0_isMark_0 1 rfl rfl)
theorem dX0_isMark_2 : decode cX0_isMark 2 = .ok (.bipush 9, 2) := dk_16 9 (dk_at dksX0_isMark_0 2 rfl rfl)
theorem dX0_isMark_4 : decode cX0_isMark 4 = .ok (.invokestatic 91, 3) := dk_184 0 91 (dk_at dksX0_isMark_0 4 rfl rfl)
theorem dX0_isMark_7 : decode cX0_isMark 7 = .ok (.ireturn, 1) := dk_172 (dk_at dksX0_isMark_0 7 rfl rfl)
abbrev cX0_judge : ByteArray := prog_1_method_50_code
def yX0_judge : MethodName := ⟨RX0, "judge", "(II)I"⟩
def dkwX0_judge_5 : List UInt8 := [172]
abbrev dktX0_judge_5 : List UInt8 := dkwX0_judge_5 ++ []
def dkwX0_judge_4 : List UInt8 := [180, 0, 46, 180, 0, 143, 28, 46, 160, 0, 7, 2, 167, 0, 5, 21, 4, 172, 78, 42, 45, 182, 0, 118]
abbrev dktX0_judge_4 : List UInt8 := dkwX0_judge_4 ++ dktX0_judge_5
def dkwX0_judge_3 : List UInt8 := [182, 0, 170, 160, 0, 9, 132, 4, 1, 167, 255, 211, 21, 4, 45, 182, 1, 23, 160, 0, 21, 21, 4, 42]
abbrev dktX0_judge_3 : List UInt8 := dkwX0_judge_3 ++ dktX0_judge_4
def dkwX0_judge_2 : List UInt8 := [180, 0, 46, 180, 0, 143, 28, 46, 162, 0, 28, 45, 21, 4, 182, 1, 26, 42, 180, 0, 46, 28, 21, 4]
abbrev dktX0_judge_2 : List UInt8 := dkwX0_judge_2 ++ dktX0_judge_3
def dkwX0_judge_1 : List UInt8 := [182, 0, 102, 42, 27, 182, 1, 19, 78, 3, 54, 4, 21, 4, 45, 182, 1, 23, 162, 0, 42, 21, 4, 42]
abbrev dktX0_judge_1 : List UInt8 := dkwX0_judge_1 ++ dktX0_judge_2
def dkwX0_judge_0 : List UInt8 := [42, 27, 184, 1, 16, 153, 0, 15, 42, 28, 182, 0, 146, 153, 0, 7, 4, 167, 0, 4, 3, 4]
abbrev dktX0_judge_0 : List UInt8 := dkwX0_judge_0 ++ dktX0_judge_1
theorem dksX0_judge_0 : cX0_judge.data.toList.drop 0 = dktX0_judge_0 := by decide +kernel
theorem dksX0_judge_1 : cX0_judge.data.toList.drop 22 = dktX0_judge_1 := dk_seg dksX0_judge_0 22 rfl rfl
theorem dksX0_judge_2 : cX0_judge.data.toList.drop 46 = dktX0_judge_2 := dk_seg dksX0_judge_1 24 rfl rfl
theorem dksX0_judge_3 : cX0_judge.data.toList.drop 70 = dktX0_judge_3 := dk_seg dksX0_judge_2 24 rfl rfl
theorem dksX0_judge_4 : cX0_judge.data.toList.drop 94 = dktX0_judge_4 := dk_seg dksX0_judge_3 24 rfl rfl
theorem dksX0_judge_5 : cX0_judge.data.toList.drop 118 = dktX0_judge_5 := dk_seg dksX0_judge_4 24 rfl rfl
theorem dX0_judge_0 : decode cX0_judge 0 = .ok (.aload_n 0, 1) := dk_42 (dk_at dksX0_judge_0 0 rfl rfl)
theorem dX0_judge_1 : decode cX0_judge 1 = .ok (.iload_n 1, 1) := dk_27 (dk_at dksX0_judge_0 1 rfl rfl)
theorem dX0_judge_2 : decode cX0_judge 2 = .ok (.invokestatic 272, 3) := dk_184 1 16 (dk_at dksX0_judge_0 2 rfl rfl)
theorem dX0_judge_5 : decode cX0_judge 5 = .ok (.ifCond .eq 15, 3) := dk_153 0 15 (dk_at dksX0_judge_0 5 rfl rfl)
theorem dX0_judge_8 : decode cX0_judge 8 = .ok (.aload_n 0, 1) := dk_42 (dk_at dksX0_judge_0 8 rfl rfl)
theorem dX0_judge_9 : decode cX0_judge 9 = .ok (.iload_n 2, 1) := dk_28 (dk_at dksX0_judge_0 9 rfl rfl)
theorem dX0_judge_10 : decode cX0_judge 10 = .ok (.invokevirtual 146, 3) := dk_182 0 146 (dk_at dksX0_judge_0 10 rfl rfl)
theorem dX0_judge_13 : decode cX0_judge 13 = .ok (.ifCond .eq 7, 3) := dk_153 0 7 (dk_at dksX0_judge_0 13 rfl rfl)
theorem dX0_judge_16 : decode cX0_judge 16 = .ok (.iconst 1, 1) := dk_4 (dk_at dksX0_judge_0 16 rfl rfl)
theorem dX0_judge_17 : decode cX0_judge 17 = .ok (.goto 4, 3) := dk_167 0 4 (dk_at dksX0_judge_0 17 rfl rfl)
theorem dX0_judge_20 : decode cX0_judge 20 = .ok (.iconst 0, 1) := dk_3 (dk_at dksX0_judge_0 20 rfl rfl)
theorem dX0_judge_21 : decode cX0_judge 21 = .ok (.iconst 1, 1) := dk_4 (dk_at dksX0_judge_0 21 rfl rfl)
theorem dX0_judge_22 : decode cX0_judge 22 = .ok (.invokevirtual 102, 3) := dk_182 0 102 (dk_at dksX0_judge_1 0 rfl rfl)
theorem dX0_judge_25 : decode cX0_judge 25 = .ok (.aload_n 0, 1) := dk_42 (dk_at dksX0_judge_1 3 rfl rfl)
theorem dX0_judge_26 : decode cX0_judge 26 = .ok (.iload_n 1, 1) := dk_27 (dk_at dksX0_judge_1 4 rfl rfl)
theorem dX0_judge_27 : decode cX0_judge 27 = .ok (.invokevirtual 275, 3) := dk_182 1 19 (dk_at dksX0_judge_1 5 rfl rfl)
theorem dX0_judge_30 : decode cX0_judge 30 = .ok (.astore_n 3, 1) := dk_78 (dk_at dksX0_judge_1 8 rfl rfl)
theorem dX0_judge_31 : decode cX0_judge 31 = .ok (.iconst 0, 1) := dk_3 (dk_at dksX0_judge_1 9 rfl rfl)
theorem dX0_judge_32 : decode cX0_judge 32 = .ok (.istore 4, 2) := dk_54 4 (dk_at dksX0_judge_1 10 rfl rfl)
theorem dX0_judge_34 : decode cX0_judge 34 = .ok (.iload 4, 2) := dk_21 4 (dk_at dksX0_judge_1 12 rfl rfl)
theorem dX0_judge_36 : decode cX0_judge 36 = .ok (.aload_n 3, 1) := dk_45 (dk_at dksX0_judge_1 14 rfl rfl)
theorem dX0_judge_37 : decode cX0_judge 37 = .ok (.invokevirtual 279, 3) := dk_182 1 23 (dk_at dksX0_judge_1 15 rfl rfl)
theorem dX0_judge_40 : decode cX0_judge 40 = .ok (.if_icmp .ge 42, 3) := dk_162 0 42 (dk_at dksX0_judge_1 18 rfl rfl)
theorem dX0_judge_43 : decode cX0_judge 43 = .ok (.iload 4, 2) := dk_21 4 (dk_at dksX0_judge_1 21 rfl rfl)
theorem dX0_judge_45 : decode cX0_judge 45 = .ok (.aload_n 0, 1) := dk_42 (dk_at dksX0_judge_1 23 rfl rfl)
theorem dX0_judge_46 : decode cX0_judge 46 = .ok (.getfield 46, 3) := dk_180 0 46 (dk_at dksX0_judge_2 0 rfl rfl)
theorem dX0_judge_49 : decode cX0_judge 49 = .ok (.getfield 143, 3) := dk_180 0 143 (dk_at dksX0_judge_2 3 rfl rfl)
theorem dX0_judge_52 : decode cX0_judge 52 = .ok (.iload_n 2, 1) := dk_28 (dk_at dksX0_judge_2 6 rfl rfl)
theorem dX0_judge_53 : decode cX0_judge 53 = .ok (.iaload, 1) := dk_46 (dk_at dksX0_judge_2 7 rfl rfl)
theorem dX0_judge_54 : decode cX0_judge 54 = .ok (.if_icmp .ge 28, 3) := dk_162 0 28 (dk_at dksX0_judge_2 8 rfl rfl)
theorem dX0_judge_57 : decode cX0_judge 57 = .ok (.aload_n 3, 1) := dk_45 (dk_at dksX0_judge_2 11 rfl rfl)
theorem dX0_judge_58 : decode cX0_judge 58 = .ok (.iload 4, 2) := dk_21 4 (dk_at dksX0_judge_2 12 rfl rfl)
theorem dX0_judge_60 : decode cX0_judge 60 = .ok (.invokevirtual 282, 3) := dk_182 1 26 (dk_at dksX0_judge_2 14 rfl rfl)
theorem dX0_judge_63 : decode cX0_judge 63 = .ok (.aload_n 0, 1) := dk_42 (dk_at dksX0_judge_2 17 rfl rfl)
theorem dX0_judge_64 : decode cX0_judge 64 = .ok (.getfield 46, 3) := dk_180 0 46 (dk_at dksX0_judge_2 18 rfl rfl)
theorem dX0_judge_67 : decode cX0_judge 67 = .ok (.iload_n 2, 1) := dk_28 (dk_at dksX0_judge_2 21 rfl rfl)
theorem dX0_judge_68 : decode cX0_judge 68 = .ok (.iload 4, 2) := dk_21 4 (dk_at dksX0_judge_2 22 rfl rfl)
theorem dX0_judge_70 : decode cX0_judge 70 = .ok (.invokevirtual 170, 3) := dk_182 0 170 (dk_at dksX0_judge_3 0 rfl rfl)
theorem dX0_judge_73 : decode cX0_judge 73 = .ok (.if_icmp .ne 9, 3) := dk_160 0 9 (dk_at dksX0_judge_3 3 rfl rfl)
theorem dX0_judge_76 : decode cX0_judge 76 = .ok (.iinc 4 1, 3) := dk_132 4 1 (dk_at dksX0_judge_3 6 rfl rfl)
theorem dX0_judge_79 : decode cX0_judge 79 = .ok (.goto (-45), 3) := dk_167 255 211 (dk_at dksX0_judge_3 9 rfl rfl)
theorem dX0_judge_82 : decode cX0_judge 82 = .ok (.iload 4, 2) := dk_21 4 (dk_at dksX0_judge_3 12 rfl rfl)
theorem dX0_judge_84 : decode cX0_judge 84 = .ok (.aload_n 3, 1) := dk_45 (dk_at dksX0_judge_3 14 rfl rfl)
theorem dX0_judge_85 : decode cX0_judge 85 = .ok (.invokevirtual 279, 3) := dk_182 1 23 (dk_at dksX0_judge_3 15 rfl rfl)
theorem dX0_judge_88 : decode cX0_judge 88 = .ok (.if_icmp .ne 21, 3) := dk_160 0 21 (dk_at dksX0_judge_3 18 rfl rfl)
theorem dX0_judge_91 : decode cX0_judge 91 = .ok (.iload 4, 2) := dk_21 4 (dk_at dksX0_judge_3 21 rfl rfl)
theorem dX0_judge_93 : decode cX0_judge 93 = .ok (.aload_n 0, 1) := dk_42 (dk_at dksX0_judge_3 23 rfl rfl)
theorem dX0_judge_94 : decode cX0_judge 94 = .ok (.getfield 46, 3) := dk_180 0 46 (dk_at dksX0_judge_4 0 rfl rfl)
theorem dX0_judge_97 : decode cX0_judge 97 = .ok (.getfield 143, 3) := dk_180 0 143 (dk_at dksX0_judge_4 3 rfl rfl)
theorem dX0_judge_100 : decode cX0_judge 100 = .ok (.iload_n 2, 1) := dk_28 (dk_at dksX0_judge_4 6 rfl rfl)
theorem dX0_judge_101 : decode cX0_judge 101 = .ok (.iaload, 1) := dk_46 (dk_at dksX0_judge_4 7 rfl rfl)
theorem dX0_judge_102 : decode cX0_judge 102 = .ok (.if_icmp .ne 7, 3) := dk_160 0 7 (dk_at dksX0_judge_4 8 rfl rfl)
theorem dX0_judge_105 : decode cX0_judge 105 = .ok (.iconst (-1), 1) := dk_2 (dk_at dksX0_judge_4 11 rfl rfl)
theorem dX0_judge_106 : decode cX0_judge 106 = .ok (.goto 5, 3) := dk_167 0 5 (dk_at dksX0_judge_4 12 rfl rfl)
theorem dX0_judge_109 : decode cX0_judge 109 = .ok (.iload 4, 2) := dk_21 4 (dk_at dksX0_judge_4 15 rfl rfl)
theorem dX0_judge_111 : decode cX0_judge 111 = .ok (.ireturn, 1) := dk_172 (dk_at dksX0_judge_4 17 rfl rfl)
theorem dX0_judge_112 : decode cX0_judge 112 = .ok (.astore_n 3, 1) := dk_78 (dk_at dksX0_judge_4 18 rfl rfl)
theorem dX0_judge_113 : decode cX0_judge 113 = .ok (.aload_n 0, 1) := dk_42 (dk_at dksX0_judge_4 19 rfl rfl)
theorem dX0_judge_114 : decode cX0_judge 114 = .ok (.aload_n 3, 1) := dk_45 (dk_at dksX0_judge_4 20 rfl rfl)
theorem dX0_judge_115 : decode cX0_judge 115 = .ok (.invokevirtual 118, 3) := dk_182 0 118 (dk_at dksX0_judge_4 21 rfl rfl)
theorem dX0_judge_118 : decode cX0_judge 118 = .ok (.ireturn, 1) := dk_172 (dk_at dksX0_judge_5 0 rfl rfl)
abbrev cX0_sheet : ByteArray := prog_1_method_51_code
def yX0_sheet : MethodName := ⟨RX0, "sheet", "(III)I"⟩
def dkwX0_sheet_5 : List UInt8 := [29, 183, 1, 90, 181, 0, 98, 4, 172, 58, 4, 42, 25, 4, 182, 0, 118, 172]
abbrev dktX0_sheet_5 : List UInt8 := dkwX0_sheet_5 ++ []
def dkwX0_sheet_4 : List UInt8 := [167, 0, 28, 28, 16, 16, 160, 0, 14, 187, 1, 85, 89, 29, 183, 1, 87, 167, 0, 11, 187, 1, 88, 89]
abbrev dktX0_sheet_4 : List UInt8 := dkwX0_sheet_4 ++ dktX0_sheet_5
def dkwX0_sheet_3 : List UInt8 := [4, 182, 0, 102, 42, 180, 0, 69, 27, 50, 28, 16, 8, 160, 0, 14, 187, 1, 81, 89, 29, 183, 1, 83]
abbrev dktX0_sheet_3 : List UInt8 := dkwX0_sheet_3 ++ dktX0_sheet_4
def dkwX0_sheet_2 : List UInt8 := [155, 0, 7, 4, 167, 0, 4, 3, 6, 182, 0, 102, 42, 29, 16, 40, 163, 0, 7, 4, 167, 0, 4, 3]
abbrev dktX0_sheet_2 : List UInt8 := dkwX0_sheet_2 ++ dktX0_sheet_3
def dkwX0_sheet_1 : List UInt8 := [4, 182, 0, 102, 28, 154, 0, 15, 42, 180, 0, 69, 27, 50, 1, 181, 0, 98, 4, 172, 42, 29]
abbrev dktX0_sheet_1 : List UInt8 := dkwX0_sheet_1 ++ dktX0_sheet_2
def dkwX0_sheet_0 : List UInt8 := [42, 27, 184, 1, 16, 153, 0, 18, 28, 153, 0, 10, 28, 184, 1, 78, 153, 0, 7, 4, 167, 0, 4, 3]
abbrev dktX0_sheet_0 : List UInt8 := dkwX0_sheet_0 ++ dktX0_sheet_1
theorem dksX0_sheet_0 : cX0_sheet.data.toList.drop 0 = dktX0_sheet_0 := by decide +kernel
theorem dksX0_sheet_1 : cX0_sheet.data.toList.drop 24 = dktX0_sheet_1 := dk_seg dksX0_sheet_0 24 rfl rfl
theorem dksX0_sheet_2 : cX0_sheet.data.toList.drop 46 = dktX0_sheet_2 := dk_seg dksX0_sheet_1 22 rfl rfl
theorem dksX0_sheet_3 : cX0_sheet.data.toList.drop 70 = dktX0_sheet_3 := dk_seg dksX0_sheet_2 24 rfl rfl
theorem dksX0_sheet_4 : cX0_sheet.data.toList.drop 94 = dktX0_sheet_4 := dk_seg dksX0_sheet_3 24 rfl rfl
theorem dksX0_sheet_5 : cX0_sheet.data.toList.drop 118 = dktX0_sheet_5 := dk_seg dksX0_sheet_4 24 rfl rfl
theorem dX0_sheet_0 : decode cX0_sheet 0 = .ok (.aload_n 0, 1) := dk_42 (dk_at dksX0_sheet_0 0 rfl rfl)
theorem dX0_sheet_1 : decode cX0_sheet 1 = .ok (.iload_n 1, 1) := dk_27 (dk_at dksX0_sheet_0 1 rfl rfl)
theorem dX0_sheet_2 : decode cX0_sheet 2 = .ok (.invokestatic 272, 3) := dk_184 1 16 (dk_at dksX0_sheet_0 2 rfl rfl)
theorem dX0_sheet_5 : decode cX0_sheet 5 = .ok (.ifCond .eq 18, 3) := dk_153 0 18 (dk_at dksX0_sheet_0 5 rfl rfl)
theorem dX0_sheet_8 : decode cX0_sheet 8 = .ok (.iload_n 2, 1) := dk_28 (dk_at dksX0_sheet_0 8 rfl rfl)
theorem dX0_sheet_9 : decode cX0_sheet 9 = .ok (.ifCond .eq 10, 3) := dk_153 0 10 (dk_at dksX0_sheet_0 9 rfl rfl)
theorem dX0_sheet_12 : decode cX0_sheet 12 = .ok (.iload_n 2, 1) := dk_28 (dk_at dksX0_sheet_0 12 rfl rfl)
theorem dX0_sheet_13 : decode cX0_sheet 13 = .ok (.invokestatic 334, 3) := dk_184 1 78 (dk_at dksX0_sheet_0 13 rfl rfl)
theorem dX0_sheet_16 : decode cX0_sheet 16 = .ok (.ifCond .eq 7, 3) := dk_153 0 7 (dk_at dksX0_sheet_0 16 rfl rfl)
theorem dX0_sheet_19 : decode cX0_sheet 19 = .ok (.iconst 1, 1) := dk_4 (dk_at dksX0_sheet_0 19 rfl rfl)
theorem dX0_sheet_20 : decode cX0_sheet 20 = .ok (.goto 4, 3) := dk_167 0 4 (dk_at dksX0_sheet_0 20 rfl rfl)
theorem dX0_sheet_23 : decode cX0_sheet 23 = .ok (.iconst 0, 1) := dk_3 (dk_at dksX0_sheet_0 23 rfl rfl)
theorem dX0_sheet_24 : decode cX0_sheet 24 = .ok (.iconst 1, 1) := dk_4 (dk_at dksX0_sheet_1 0 rfl rfl)
theorem dX0_sheet_25 : decode cX0_sheet 25 = .ok (.invokevirtual 102, 3) := dk_182 0 102 (dk_at dksX0_sheet_1 1 rfl rfl)
theorem dX0_sheet_28 : decode cX0_sheet 28 = .ok (.iload_n 2, 1) := dk_28 (dk_at dksX0_sheet_1 4 rfl rfl)
theorem dX0_sheet_29 : decode cX0_sheet 29 = .ok (.ifCond .ne 15, 3) := dk_154 0 15 (dk_at dksX0_sheet_1 5 rfl rfl)
theorem dX0_sheet_32 : decode cX0_sheet 32 = .ok (.aload_n 0, 1) := dk_42 (dk_at dksX0_sheet_1 8 rfl rfl)
theorem dX0_sheet_33 : decode cX0_sheet 33 = .ok (.getfield 69, 3) := dk_180 0 69 (dk_at dksX0_sheet_1 9 rfl rfl)
theorem dX0_sheet_36 : decode cX0_sheet 36 = .ok (.iload_n 1, 1) := dk_27 (dk_at dksX0_sheet_1 12 rfl rfl)
theorem dX0_sheet_37 : decode cX0_sheet 37 = .ok (.aaload, 1) := dk_50 (dk_at dksX0_sheet_1 13 rfl rfl)
theorem dX0_sheet_38 : decode cX0_sheet 38 = .ok (.aconst_null, 1) := dk_1 (dk_at dksX0_sheet_1 14 rfl rfl)
theorem dX0_sheet_39 : decode cX0_sheet 39 = .ok (.putfield 98, 3) := dk_181 0 98 (dk_at dksX0_sheet_1 15 rfl rfl)
theorem dX0_sheet_42 : decode cX0_sheet 42 = .ok (.iconst 1, 1) := dk_4 (dk_at dksX0_sheet_1 18 rfl rfl)
theorem dX0_sheet_43 : decode cX0_sheet 43 = .ok (.ireturn, 1) := dk_172 (dk_at dksX0_sheet_1 19 rfl rfl)
theorem dX0_sheet_44 : decode cX0_sheet 44 = .ok (.aload_n 0, 1) := dk_42 (dk_at dksX0_sheet_1 20 rfl rfl)
theorem dX0_sheet_45 : decode cX0_sheet 45 = .ok (.iload_n 3, 1) := dk_29 (dk_at dksX0_sheet_1 21 rfl rfl)
theorem dX0_sheet_46 : decode cX0_sheet 46 = .ok (.ifCond .lt 7, 3) := dk_155 0 7 (dk_at dksX0_sheet_2 0 rfl rfl)
theorem dX0_sheet_49 : decode cX0_sheet 49 = .ok (.iconst 1, 1) := dk_4 (dk_at dksX0_sheet_2 3 rfl rfl)
theorem dX0_sheet_50 : decode cX0_sheet 50 = .ok (.goto 4, 3) := dk_167 0 4 (dk_at dksX0_sheet_2 4 rfl rfl)
theorem dX0_sheet_53 : decode cX0_sheet 53 = .ok (.iconst 0, 1) := dk_3 (dk_at dksX0_sheet_2 7 rfl rfl)
theorem dX0_sheet_54 : decode cX0_sheet 54 = .ok (.iconst 3, 1) := dk_6 (dk_at dksX0_sheet_2 8 rfl rfl)
theorem dX0_sheet_55 : decode cX0_sheet 55 = .ok (.invokevirtual 102, 3) := dk_182 0 102 (dk_at dksX0_sheet_2 9 rfl rfl)
theorem dX0_sheet_58 : decode cX0_sheet 58 = .ok (.aload_n 0, 1) := dk_42 (dk_at dksX0_sheet_2 12 rfl rfl)
theorem dX0_sheet_59 : decode cX0_sheet 59 = .ok (.iload_n 3, 1) := dk_29 (dk_at dksX0_sheet_2 13 rfl rfl)
theorem dX0_sheet_60 : decode cX0_sheet 60 = .ok (.bipush 40, 2) := dk_16 40 (dk_at dksX0_sheet_2 14 rfl rfl)
theorem dX0_sheet_62 : decode cX0_sheet 62 = .ok (.if_icmp .gt 7, 3) := dk_163 0 7 (dk_at dksX0_sheet_2 16 rfl rfl)
theorem dX0_sheet_65 : decode cX0_sheet 65 = .ok (.iconst 1, 1) := dk_4 (dk_at dksX0_sheet_2 19 rfl rfl)
theorem dX0_sheet_66 : decode cX0_sheet 66 = .ok (.goto 4, 3) := dk_167 0 4 (dk_at dksX0_sheet_2 20 rfl rfl)
theorem dX0_sheet_69 : decode cX0_sheet 69 = .ok (.iconst 0, 1) := dk_3 (dk_at dksX0_sheet_2 23 rfl rfl)
theorem dX0_sheet_70 : decode cX0_sheet 70 = .ok (.iconst 1, 1) := dk_4 (dk_at dksX0_sheet_3 0 rfl rfl)
theorem dX0_sheet_71 : decode cX0_sheet 71 = .ok (.invokevirtual 102, 3) := dk_182 0 102 (dk_at dksX0_sheet_3 1 rfl rfl)
theorem dX0_sheet_74 : decode cX0_sheet 74 = .ok (.aload_n 0, 1) := dk_42 (dk_at dksX0_sheet_3 4 rfl rfl)
theorem dX0_sheet_75 : decode cX0_sheet 75 = .ok (.getfield 69, 3) := dk_180 0 69 (dk_at dksX0_sheet_3 5 rfl rfl)
theorem dX0_sheet_78 : decode cX0_sheet 78 = .ok (.iload_n 1, 1) := dk_27 (dk_at dksX0_sheet_3 8 rfl rfl)
theorem dX0_sheet_79 : decode cX0_sheet 79 = .ok (.aaload, 1) := dk_50 (dk_at dksX0_sheet_3 9 rfl rfl)
theorem dX0_sheet_80 : decode cX0_sheet 80 = .ok (.iload_n 2, 1) := dk_28 (dk_at dksX0_sheet_3 10 rfl rfl)
theorem dX0_sheet_81 : decode cX0_sheet 81 = .ok (.bipush 8, 2) := dk_16 8 (dk_at dksX0_sheet_3 11 rfl rfl)
theorem dX0_sheet_83 : decode cX0_sheet 83 = .ok (.if_icmp .ne 14, 3) := dk_160 0 14 (dk_at dksX0_sheet_3 13 rfl rfl)
theorem dX0_sheet_86 : decode cX0_sheet 86 = .ok (.new 337, 3) := dk_187 1 81 (dk_at dksX0_sheet_3 16 rfl rfl)
theorem dX0_sheet_89 : decode cX0_sheet 89 = .ok (.dup, 1) := dk_89 (dk_at dksX0_sheet_3 19 rfl rfl)
theorem dX0_sheet_90 : decode cX0_sheet 90 = .ok (.iload_n 3, 1) := dk_29 (dk_at dksX0_sheet_3 20 rfl rfl)
theorem dX0_sheet_91 : decode cX0_sheet 91 = .ok (.invokespecial 339, 3) := dk_183 1 83 (dk_at dksX0_sheet_3 21 rfl rfl)
theorem dX0_sheet_94 : decode cX0_sheet 94 = .ok (.goto 28, 3) := dk_167 0 28 (dk_at dksX0_sheet_4 0 rfl rfl)
theorem dX0_sheet_97 : decode cX0_sheet 97 = .ok (.iload_n 2, 1) := dk_28 (dk_at dksX0_sheet_4 3 rfl rfl)
theorem dX0_sheet_98 : decode cX0_sheet 98 = .ok (.bipush 16, 2) := dk_16 16 (dk_at dksX0_sheet_4 4 rfl rfl)
theorem dX0_sheet_100 : decode cX0_sheet 100 = .ok (.if_icmp .ne 14, 3) := dk_160 0 14 (dk_at dksX0_sheet_4 6 rfl rfl)
theorem dX0_sheet_103 : decode cX0_sheet 103 = .ok (.new 341, 3) := dk_187 1 85 (dk_at dksX0_sheet_4 9 rfl rfl)
theorem dX0_sheet_106 : decode cX0_sheet 106 = .ok (.dup, 1) := dk_89 (dk_at dksX0_sheet_4 12 rfl rfl)
theorem dX0_sheet_107 : decode cX0_sheet 107 = .ok (.iload_n 3, 1) := dk_29 (dk_at dksX0_sheet_4 13 rfl rfl)
theorem dX0_sheet_108 : decode cX0_sheet 108 = .ok (.invokespecial 343, 3) := dk_183 1 87 (dk_at dksX0_sheet_4 14 rfl rfl)
theorem dX0_sheet_111 : decode cX0_sheet 111 = .ok (.goto 11, 3) := dk_167 0 11 (dk_at dksX0_sheet_4 17 rfl rfl)
theorem dX0_sheet_114 : decode cX0_sheet 114 = .ok (.new 344, 3) := dk_187 1 88 (dk_at dksX0_sheet_4 20 rfl rfl)
theorem dX0_sheet_117 : decode cX0_sheet 117 = .ok (.dup, 1) := dk_89 (dk_at dksX0_sheet_4 23 rfl rfl)
theorem dX0_sheet_118 : decode cX0_sheet 118 = .ok (.iload_n 3, 1) := dk_29 (dk_at dksX0_sheet_5 0 rfl rfl)
theorem dX0_sheet_119 : decode cX0_sheet 119 = .ok (.invokespecial 346, 3) := dk_183 1 90 (dk_at dksX0_sheet_5 1 rfl rfl)
theorem dX0_sheet_122 : decode cX0_sheet 122 = .ok (.putfield 98, 3) := dk_181 0 98 (dk_at dksX0_sheet_5 4 rfl rfl)
theorem dX0_sheet_125 : decode cX0_sheet 125 = .ok (.iconst 1, 1) := dk_4 (dk_at dksX0_sheet_5 7 rfl rfl)
theorem dX0_sheet_126 : decode cX0_sheet 126 = .ok (.ireturn, 1) := dk_172 (dk_at dksX0_sheet_5 8 rfl rfl)
theorem dX0_sheet_127 : decode cX0_sheet 127 = .ok (.astore 4, 2) := dk_58 4 (dk_at dksX0_sheet_5 9 rfl rfl)
theorem dX0_sheet_129 : decode cX0_sheet 129 = .ok (.aload_n 0, 1) := dk_42 (dk_at dksX0_sheet_5 11 rfl rfl)
theorem dX0_sheet_130 : decode cX0_sheet 130 = .ok (.aload 4, 2) := dk_25 4 (dk_at dksX0_sheet_5 12 rfl rfl)
theorem dX0_sheet_132 : decode cX0_sheet 132 = .ok (.invokevirtual 118, 3) := dk_182 0 118 (dk_at dksX0_sheet_5 14 rfl rfl)
theorem dX0_sheet_135 : decode cX0_sheet 135 = .ok (.ireturn, 1) := dk_172 (dk_at dksX0_sheet_5 17 rfl rfl)
abbrev cX0_isWidth : ByteArray := prog_1_method_13_code
def yX0_isWidth : MethodName := ⟨RX0, "isWidth", "(I)Z"⟩
def dkwX0_isWidth_0 : List UInt8 := [26, 16, 8, 159, 0, 15, 26, 16, 16, 159, 0, 9, 26, 16, 32, 160, 0, 7, 4, 167, 0, 4, 3, 172]
abbrev dktX0_isWidth_0 : List UInt8 := dkwX0_isWidth_0 ++ []
theorem dksX0_isWidth_0 : cX0_isWidth.data.toList.drop 0 = dktX0_isWidth_0 := by decide +kernel
theorem dX0_isWidth_0 : decode cX0_isWidth 0 = .ok (.iload_n 0, 1) := dk_26 (dk_at dksX0_isWidth_0 0 rfl rfl)
theorem dX0_isWidth_1 : decode cX0_isWidth 1 = .ok (.bipush 8, 2) := dk_16 8 (dk_at dksX0_isWidth_0 1 rfl rfl)
theorem dX0_isWidth_3 : decode cX0_isWidth 3 = .ok (.if_icmp .eq 15, 3) := dk_159 0 15 (dk_at dksX0_isWidth_0 3 rfl rfl)
theorem dX0_isWidth_6 : decode cX0_isWidth 6 = .ok (.iload_n 0, 1) := dk_26 (dk_at dksX0_isWidth_0 6 rfl rfl)
theorem dX0_isWidth_7 : decode cX0_isWidth 7 = .ok (.bipush 16, 2) := dk_16 16 (dk_at dksX0_isWidth_0 7 rfl rfl)
theorem dX0_isWidth_9 : decode cX0_isWidth 9 = .ok (.if_icmp .eq 9, 3) := dk_159 0 9 (dk_at dksX0_isWidth_0 9 rfl rfl)
theorem dX0_isWidth_12 : decode cX0_isWidth 12 = .ok (.iload_n 0, 1) := dk_26 (dk_at dksX0_isWidth_0 12 rfl rfl)
theorem dX0_isWidth_13 : decode cX0_isWidth 13 = .ok (.bipush 32, 2) := dk_16 32 (dk_at dksX0_isWidth_0 13 rfl rfl)
theorem dX0_isWidth_15 : decode cX0_isWidth 15 = .ok (.if_icmp .ne 7, 3) := dk_160 0 7 (dk_at dksX0_isWidth_0 15 rfl rfl)
theorem dX0_isWidth_18 : decode cX0_isWidth 18 = .ok (.iconst 1, 1) := dk_4 (dk_at dksX0_isWidth_0 18 rfl rfl)
theorem dX0_isWidth_19 : decode cX0_isWidth 19 = .ok (.goto 4, 3) := dk_167 0 4 (dk_at dksX0_isWidth_0 19 rfl rfl)
theorem dX0_isWidth_22 : decode cX0_isWidth 22 = .ok (.iconst 0, 1) := dk_3 (dk_at dksX0_isWidth_0 22 rfl rfl)
theorem dX0_isWidth_23 : decode cX0_isWidth 23 = .ok (.ireturn, 1) := dk_172 (dk_at dksX0_isWidth_0 23 rfl rfl)
abbrev cX0_write : ByteArray := prog_1_method_52_code
def yX0_write : MethodName := ⟨RX0, "write", "(III)I"⟩
def dkwX0_write_2 : List UInt8 := [182, 0, 118, 172]
abbrev dktX0_write_2 : List UInt8 := dkwX0_write_2 ++ []
def dkwX0_write_1 : List UInt8 := [4, 100, 184, 0, 91, 4, 182, 0, 102, 25, 4, 28, 29, 182, 1, 91, 4, 172, 58, 4, 42, 25, 4]
abbrev dktX0_write_1 : List UInt8 := dkwX0_write_1 ++ dktX0_write_2
def dkwX0_write_0 : List UInt8 := [42, 27, 184, 1, 16, 4, 182, 0, 102, 42, 27, 182, 1, 19, 58, 4, 42, 28, 3, 25, 4, 182, 1, 23]
abbrev dktX0_write_0 : List UInt8 := dkwX0_write_0 ++ dktX0_write_1
theorem dksX0_write_0 : cX0_write.data.toList.drop 0 = dktX0_write_0 := by decide +kernel
theorem dksX0_write_1 : cX0_write.data.toList.drop 24 = dktX0_write_1 := dk_seg dksX0_write_0 24 rfl rfl
theorem dksX0_write_2 : cX0_write.data.toList.drop 47 = dktX0_write_2 := dk_seg dksX0_write_1 23 rfl rfl
theorem dX0_write_0 : decode cX0_write 0 = .ok (.aload_n 0, 1) := dk_42 (dk_at dksX0_write_0 0 rfl rfl)
theorem dX0_write_1 : decode cX0_write 1 = .ok (.iload_n 1, 1) := dk_27 (dk_at dksX0_write_0 1 rfl rfl)
theorem dX0_write_2 : decode cX0_write 2 = .ok (.invokestatic 272, 3) := dk_184 1 16 (dk_at dksX0_write_0 2 rfl rfl)
theorem dX0_write_5 : decode cX0_write 5 = .ok (.iconst 1, 1) := dk_4 (dk_at dksX0_write_0 5 rfl rfl)
theorem dX0_write_6 : decode cX0_write 6 = .ok (.invokevirtual 102, 3) := dk_182 0 102 (dk_at dksX0_write_0 6 rfl rfl)
theorem dX0_write_9 : decode cX0_write 9 = .ok (.aload_n 0, 1) := dk_42 (dk_at dksX0_write_0 9 rfl rfl)
theorem dX0_write_10 : decode cX0_write 10 = .ok (.iload_n 1, 1) := dk_27 (dk_at dksX0_write_0 10 rfl rfl)
theorem dX0_write_11 : decode cX0_write 11 = .ok (.invokevirtual 275, 3) := dk_182 1 19 (dk_at dksX0_write_0 11 rfl rfl)
theorem dX0_write_14 : decode cX0_write 14 = .ok (.astore 4, 2) := dk_58 4 (dk_at dksX0_write_0 14 rfl rfl)
theorem dX0_write_16 : decode cX0_write 16 = .ok (.aload_n 0, 1) := dk_42 (dk_at dksX0_write_0 16 rfl rfl)
theorem dX0_write_17 : decode cX0_write 17 = .ok (.iload_n 2, 1) := dk_28 (dk_at dksX0_write_0 17 rfl rfl)
theorem dX0_write_18 : decode cX0_write 18 = .ok (.iconst 0, 1) := dk_3 (dk_at dksX0_write_0 18 rfl rfl)
theorem dX0_write_19 : decode cX0_write 19 = .ok (.aload 4, 2) := dk_25 4 (dk_at dksX0_write_0 19 rfl rfl)
theorem dX0_write_21 : decode cX0_write 21 = .ok (.invokevirtual 279, 3) := dk_182 1 23 (dk_at dksX0_write_0 21 rfl rfl)
theorem dX0_write_24 : decode cX0_write 24 = .ok (.iconst 1, 1) := dk_4 (dk_at dksX0_write_1 0 rfl rfl)
theorem dX0_write_25 : decode cX0_write 25 = .ok (.isub, 1) := dk_100 (dk_at dksX0_write_1 1 rfl rfl)
theorem dX0_write_26 : decode cX0_write 26 = .ok (.invokestatic 91, 3) := dk_184 0 91 (dk_at dksX0_write_1 2 rfl rfl)
theorem dX0_write_29 : decode cX0_write 29 = .ok (.iconst 1, 1) := dk_4 (dk_at dksX0_write_1 5 rfl rfl)
theorem dX0_write_30 : decode cX0_write 30 = .ok (.invokevirtual 102, 3) := dk_182 0 102 (dk_at dksX0_write_1 6 rfl rfl)
theorem dX0_write_33 : decode cX0_write 33 = .ok (.aload 4, 2) := dk_25 4 (dk_at dksX0_write_1 9 rfl rfl)
theorem dX0_write_35 : decode cX0_write 35 = .ok (.iload_n 2, 1) := dk_28 (dk_at dksX0_write_1 11 rfl rfl)
theorem dX0_write_36 : decode cX0_write 36 = .ok (.iload_n 3, 1) := dk_29 (dk_at dksX0_write_1 12 rfl rfl)
theorem dX0_write_37 : decode cX0_write 37 = .ok (.invokevirtual 347, 3) := dk_182 1 91 (dk_at dksX0_write_1 13 rfl rfl)
theorem dX0_write_40 : decode cX0_write 40 = .ok (.iconst 1, 1) := dk_4 (dk_at dksX0_write_1 16 rfl rfl)
theorem dX0_write_41 : decode cX0_write 41 = .ok (.ireturn, 1) := dk_172 (dk_at dksX0_write_1 17 rfl rfl)
theorem dX0_write_42 : decode cX0_write 42 = .ok (.astore 4, 2) := dk_58 4 (dk_at dksX0_write_1 18 rfl rfl)
theorem dX0_write_44 : decode cX0_write 44 = .ok (.aload_n 0, 1) := dk_42 (dk_at dksX0_write_1 20 rfl rfl)
theorem dX0_write_45 : decode cX0_write 45 = .ok (.aload 4, 2) := dk_25 4 (dk_at dksX0_write_1 21 rfl rfl)
theorem dX0_write_47 : decode cX0_write 47 = .ok (.invokevirtual 118, 3) := dk_182 0 118 (dk_at dksX0_write_2 0 rfl rfl)
theorem dX0_write_50 : decode cX0_write 50 = .ok (.ireturn, 1) := dk_172 (dk_at dksX0_write_2 3 rfl rfl)
abbrev cX0_move : ByteArray := prog_1_method_53_code
def yX0_move : MethodName := ⟨RX0, "move", "(IIIII)I"⟩
def dkwX0_move_6 : List UInt8 := [96, 46, 182, 1, 91, 132, 9, 1, 167, 255, 229, 21, 5, 172, 58, 6, 42, 25, 6, 182, 0, 118, 172]
abbrev dktX0_move_6 : List UInt8 := dkwX0_move_6 ++ []
def dkwX0_move_5 : List UInt8 := [58, 8, 3, 54, 9, 21, 9, 21, 5, 162, 0, 26, 25, 7, 21, 4, 21, 9, 96, 25, 8, 28, 21, 9]
abbrev dktX0_move_5 : List UInt8 := dkwX0_move_5 ++ dktX0_move_6
def dkwX0_move_4 : List UInt8 := [182, 1, 23, 21, 5, 100, 163, 0, 7, 4, 167, 0, 4, 3, 4, 182, 0, 102, 25, 6, 182, 1, 98]
abbrev dktX0_move_4 : List UInt8 := dkwX0_move_4 ++ dktX0_move_5
def dkwX0_move_3 : List UInt8 := [155, 0, 37, 21, 4, 155, 0, 32, 28, 25, 6, 182, 1, 23, 21, 5, 100, 163, 0, 20, 21, 4, 25, 7]
abbrev dktX0_move_3 : List UInt8 := dkwX0_move_3 ++ dktX0_move_4
def dkwX0_move_2 : List UInt8 := [182, 1, 95, 160, 0, 7, 4, 167, 0, 4, 3, 8, 182, 0, 102, 42, 21, 5, 155, 0, 41, 28]
abbrev dktX0_move_2 : List UInt8 := dkwX0_move_2 ++ dktX0_move_3
def dkwX0_move_1 : List UInt8 := [42, 27, 182, 1, 19, 58, 6, 42, 29, 182, 1, 19, 58, 7, 42, 25, 6, 182, 1, 95, 25, 7]
abbrev dktX0_move_1 : List UInt8 := dkwX0_move_1 ++ dktX0_move_2
def dkwX0_move_0 : List UInt8 := [42, 27, 184, 1, 16, 153, 0, 14, 29, 184, 1, 16, 153, 0, 7, 4, 167, 0, 4, 3, 4, 182, 0, 102]
abbrev dktX0_move_0 : List UInt8 := dkwX0_move_0 ++ dktX0_move_1
theorem dksX0_move_0 : cX0_move.data.toList.drop 0 = dktX0_move_0 := by decide +kernel
theorem dksX0_move_1 : cX0_move.data.toList.drop 24 = dktX0_move_1 := dk_seg dksX0_move_0 24 rfl rfl
theorem dksX0_move_2 : cX0_move.data.toList.drop 46 = dktX0_move_2 := dk_seg dksX0_move_1 22 rfl rfl
theorem dksX0_move_3 : cX0_move.data.toList.drop 68 = dktX0_move_3 := dk_seg dksX0_move_2 22 rfl rfl
theorem dksX0_move_4 : cX0_move.data.toList.drop 92 = dktX0_move_4 := dk_seg dksX0_move_3 24 rfl rfl
theorem dksX0_move_5 : cX0_move.data.toList.drop 115 = dktX0_move_5 := dk_seg dksX0_move_4 23 rfl rfl
theorem dksX0_move_6 : cX0_move.data.toList.drop 139 = dktX0_move_6 := dk_seg dksX0_move_5 24 rfl rfl
theorem dX0_move_0 : decode cX0_move 0 = .ok (.aload_n 0, 1) := dk_42 (dk_at dksX0_move_0 0 rfl rfl)
theorem dX0_move_1 : decode cX0_move 1 = .ok (.iload_n 1, 1) := dk_27 (dk_at dksX0_move_0 1 rfl rfl)
theorem dX0_move_2 : decode cX0_move 2 = .ok (.invokestatic 272, 3) := dk_184 1 16 (dk_at dksX0_move_0 2 rfl rfl)
theorem dX0_move_5 : decode cX0_move 5 = .ok (.ifCond .eq 14, 3) := dk_153 0 14 (dk_at dksX0_move_0 5 rfl rfl)
theorem dX0_move_8 : decode cX0_move 8 = .ok (.iload_n 3, 1) := dk_29 (dk_at dksX0_move_0 8 rfl rfl)
theorem dX0_move_9 : decode cX0_move 9 = .ok (.invokestatic 272, 3) := dk_184 1 16 (dk_at dksX0_move_0 9 rfl rfl)
theorem dX0_move_12 : decode cX0_move 12 = .ok (.ifCond .eq 7, 3) := dk_153 0 7 (dk_at dksX0_move_0 12 rfl rfl)
theorem dX0_move_15 : decode cX0_move 15 = .ok (.iconst 1, 1) := dk_4 (dk_at dksX0_move_0 15 rfl rfl)
theorem dX0_move_16 : decode cX0_move 16 = .ok (.goto 4, 3) := dk_167 0 4 (dk_at dksX0_move_0 16 rfl rfl)
theorem dX0_move_19 : decode cX0_move 19 = .ok (.iconst 0, 1) := dk_3 (dk_at dksX0_move_0 19 rfl rfl)
theorem dX0_move_20 : decode cX0_move 20 = .ok (.iconst 1, 1) := dk_4 (dk_at dksX0_move_0 20 rfl rfl)
theorem dX0_move_21 : decode cX0_move 21 = .ok (.invokevirtual 102, 3) := dk_182 0 102 (dk_at dksX0_move_0 21 rfl rfl)
theorem dX0_move_24 : decode cX0_move 24 = .ok (.aload_n 0, 1) := dk_42 (dk_at dksX0_move_1 0 rfl rfl)
theorem dX0_move_25 : decode cX0_move 25 = .ok (.iload_n 1, 1) := dk_27 (dk_at dksX0_move_1 1 rfl rfl)
theorem dX0_move_26 : decode cX0_move 26 = .ok (.invokevirtual 275, 3) := dk_182 1 19 (dk_at dksX0_move_1 2 rfl rfl)
theorem dX0_move_29 : decode cX0_move 29 = .ok (.astore 6, 2) := dk_58 6 (dk_at dksX0_move_1 5 rfl rfl)
theorem dX0_move_31 : decode cX0_move 31 = .ok (.aload_n 0, 1) := dk_42 (dk_at dksX0_move_1 7 rfl rfl)
theorem dX0_move_32 : decode cX0_move 32 = .ok (.iload_n 3, 1) := dk_29 (dk_at dksX0_move_1 8 rfl rfl)
theorem dX0_move_33 : decode cX0_move 33 = .ok (.invokevirtual 275, 3) := dk_182 1 19 (dk_at dksX0_move_1 9 rfl rfl)
theorem dX0_move_36 : decode cX0_move 36 = .ok (.astore 7, 2) := dk_58 7 (dk_at dksX0_move_1 12 rfl rfl)
theorem dX0_move_38 : decode cX0_move 38 = .ok (.aload_n 0, 1) := dk_42 (dk_at dksX0_move_1 14 rfl rfl)
theorem dX0_move_39 : decode cX0_move 39 = .ok (.aload 6, 2) := dk_25 6 (dk_at dksX0_move_1 15 rfl rfl)
theorem dX0_move_41 : decode cX0_move 41 = .ok (.invokevirtual 351, 3) := dk_182 1 95 (dk_at dksX0_move_1 17 rfl rfl)
theorem dX0_move_44 : decode cX0_move 44 = .ok (.aload 7, 2) := dk_25 7 (dk_at dksX0_move_1 20 rfl rfl)
theorem dX0_move_46 : decode cX0_move 46 = .ok (.invokevirtual 351, 3) := dk_182 1 95 (dk_at dksX0_move_2 0 rfl rfl)
theorem dX0_move_49 : decode cX0_move 49 = .ok (.if_icmp .ne 7, 3) := dk_160 0 7 (dk_at dksX0_move_2 3 rfl rfl)
theorem dX0_move_52 : decode cX0_move 52 = .ok (.iconst 1, 1) := dk_4 (dk_at dksX0_move_2 6 rfl rfl)
theorem dX0_move_53 : decode cX0_move 53 = .ok (.goto 4, 3) := dk_167 0 4 (dk_at dksX0_move_2 7 rfl rfl)
theorem dX0_move_56 : decode cX0_move 56 = .ok (.iconst 0, 1) := dk_3 (dk_at dksX0_move_2 10 rfl rfl)
theorem dX0_move_57 : decode cX0_move 57 = .ok (.iconst 5, 1) := dk_8 (dk_at dksX0_move_2 11 rfl rfl)
theorem dX0_move_58 : decode cX0_move 58 = .ok (.invokevirtual 102, 3) := dk_182 0 102 (dk_at dksX0_move_2 12 rfl rfl)
theorem dX0_move_61 : decode cX0_move 61 = .ok (.aload_n 0, 1) := dk_42 (dk_at dksX0_move_2 15 rfl rfl)
theorem dX0_move_62 : decode cX0_move 62 = .ok (.iload 5, 2) := dk_21 5 (dk_at dksX0_move_2 16 rfl rfl)
theorem dX0_move_64 : decode cX0_move 64 = .ok (.ifCond .lt 41, 3) := dk_155 0 41 (dk_at dksX0_move_2 18 rfl rfl)
theorem dX0_move_67 : decode cX0_move 67 = .ok (.iload_n 2, 1) := dk_28 (dk_at dksX0_move_2 21 rfl rfl)
theorem dX0_move_68 : decode cX0_move 68 = .ok (.ifCond .lt 37, 3) := dk_155 0 37 (dk_at dksX0_move_3 0 rfl rfl)
theorem dX0_move_71 : decode cX0_move 71 = .ok (.iload 4, 2) := dk_21 4 (dk_at dksX0_move_3 3 rfl rfl)
theorem dX0_move_73 : decode cX0_move 73 = .ok (.ifCond .lt 32, 3) := dk_155 0 32 (dk_at dksX0_move_3 5 rfl rfl)
theorem dX0_move_76 : decode cX0_move 76 = .ok (.iload_n 2, 1) := dk_28 (dk_at dksX0_move_3 8 rfl rfl)
theorem dX0_move_77 : decode cX0_move 77 = .ok (.aload 6, 2) := dk_25 6 (dk_at dksX0_move_3 9 rfl rfl)
theorem dX0_move_79 : decode cX0_move 79 = .ok (.invokevirtual 279, 3) := dk_182 1 23 (dk_at dksX0_move_3 11 rfl rfl)
theorem dX0_move_82 : decode cX0_move 82 = .ok (.iload 5, 2) := dk_21 5 (dk_at dksX0_move_3 14 rfl rfl)
theorem dX0_move_84 : decode cX0_move 84 = .ok (.isub, 1) := dk_100 (dk_at dksX0_move_3 16 rfl rfl)
theorem dX0_move_85 : decode cX0_move 85 = .ok (.if_icmp .gt 20, 3) := dk_163 0 20 (dk_at dksX0_move_3 17 rfl rfl)
theorem dX0_move_88 : decode cX0_move 88 = .ok (.iload 4, 2) := dk_21 4 (dk_at dksX0_move_3 20 rfl rfl)
theorem dX0_move_90 : decode cX0_move 90 = .ok (.aload 7, 2) := dk_25 7 (dk_at dksX0_move_3 22 rfl rfl)
theorem dX0_move_92 : decode cX0_move 92 = .ok (.invokevirtual 279, 3) := dk_182 1 23 (dk_at dksX0_move_4 0 rfl rfl)
theorem dX0_move_95 : decode cX0_move 95 = .ok (.iload 5, 2) := dk_21 5 (dk_at dksX0_move_4 3 rfl rfl)
theorem dX0_move_97 : decode cX0_move 97 = .ok (.isub, 1) := dk_100 (dk_at dksX0_move_4 5 rfl rfl)
theorem dX0_move_98 : decode cX0_move 98 = .ok (.if_icmp .gt 7, 3) := dk_163 0 7 (dk_at dksX0_move_4 6 rfl rfl)
theorem dX0_move_101 : decode cX0_move 101 = .ok (.iconst 1, 1) := dk_4 (dk_at dksX0_move_4 9 rfl rfl)
theorem dX0_move_102 : decode cX0_move 102 = .ok (.goto 4, 3) := dk_167 0 4 (dk_at dksX0_move_4 10 rfl rfl)
theorem dX0_move_105 : decode cX0_move 105 = .ok (.iconst 0, 1) := dk_3 (dk_at dksX0_move_4 13 rfl rfl)
theorem dX0_move_106 : decode cX0_move 106 = .ok (.iconst 1, 1) := dk_4 (dk_at dksX0_move_4 14 rfl rfl)
theorem dX0_move_107 : decode cX0_move 107 = .ok (.invokevirtual 102, 3) := dk_182 0 102 (dk_at dksX0_move_4 15 rfl rfl)
theorem dX0_move_110 : decode cX0_move 110 = .ok (.aload 6, 2) := dk_25 6 (dk_at dksX0_move_4 18 rfl rfl)
theorem dX0_move_112 : decode cX0_move 112 = .ok (.invokevirtual 354, 3) := dk_182 1 98 (dk_at dksX0_move_4 20 rfl rfl)
theorem dX0_move_115 : decode cX0_move 115 = .ok (.astore 8, 2) := dk_58 8 (dk_at dksX0_move_5 0 rfl rfl)
theorem dX0_move_117 : decode cX0_move 117 = .ok (.iconst 0, 1) := dk_3 (dk_at dksX0_move_5 2 rfl rfl)
theorem dX0_move_118 : decode cX0_move 118 = .ok (.istore 9, 2) := dk_54 9 (dk_at dksX0_move_5 3 rfl rfl)
theorem dX0_move_120 : decode cX0_move 120 = .ok (.iload 9, 2) := dk_21 9 (dk_at dksX0_move_5 5 rfl rfl)
theorem dX0_move_122 : decode cX0_move 122 = .ok (.iload 5, 2) := dk_21 5 (dk_at dksX0_move_5 7 rfl rfl)
theorem dX0_move_124 : decode cX0_move 124 = .ok (.if_icmp .ge 26, 3) := dk_162 0 26 (dk_at dksX0_move_5 9 rfl rfl)
theorem dX0_move_127 : decode cX0_move 127 = .ok (.aload 7, 2) := dk_25 7 (dk_at dksX0_move_5 12 rfl rfl)
theorem dX0_move_129 : decode cX0_move 129 = .ok (.iload 4, 2) := dk_21 4 (dk_at dksX0_move_5 14 rfl rfl)
theorem dX0_move_131 : decode cX0_move 131 = .ok (.iload 9, 2) := dk_21 9 (dk_at dksX0_move_5 16 rfl rfl)
theorem dX0_move_133 : decode cX0_move 133 = .ok (.iadd, 1) := dk_96 (dk_at dksX0_move_5 18 rfl rfl)
theorem dX0_move_134 : decode cX0_move 134 = .ok (.aload 8, 2) := dk_25 8 (dk_at dksX0_move_5 19 rfl rfl)
theorem dX0_move_136 : decode cX0_move 136 = .ok (.iload_n 2, 1) := dk_28 (dk_at dksX0_move_5 21 rfl rfl)
theorem dX0_move_137 : decode cX0_move 137 = .ok (.iload 9, 2) := dk_21 9 (dk_at dksX0_move_5 22 rfl rfl)
theorem dX0_move_139 : decode cX0_move 139 = .ok (.iadd, 1) := dk_96 (dk_at dksX0_move_6 0 rfl rfl)
theorem dX0_move_140 : decode cX0_move 140 = .ok (.iaload, 1) := dk_46 (dk_at dksX0_move_6 1 rfl rfl)
theorem dX0_move_141 : decode cX0_move 141 = .ok (.invokevirtual 347, 3) := dk_182 1 91 (dk_at dksX0_move_6 2 rfl rfl)
theorem dX0_move_144 : decode cX0_move 144 = .ok (.iinc 9 1, 3) := dk_132 9 1 (dk_at dksX0_move_6 5 rfl rfl)
theorem dX0_move_147 : decode cX0_move 147 = .ok (.goto (-27), 3) := dk_167 255 229 (dk_at dksX0_move_6 8 rfl rfl)
theorem dX0_move_150 : decode cX0_move 150 = .ok (.iload 5, 2) := dk_21 5 (dk_at dksX0_move_6 11 rfl rfl)
theorem dX0_move_152 : decode cX0_move 152 = .ok (.ireturn, 1) := dk_172 (dk_at dksX0_move_6 13 rfl rfl)
theorem dX0_move_153 : decode cX0_move 153 = .ok (.astore 6, 2) := dk_58 6 (dk_at dksX0_move_6 14 rfl rfl)
theorem dX0_move_155 : decode cX0_move 155 = .ok (.aload_n 0, 1) := dk_42 (dk_at dksX0_move_6 16 rfl rfl)
theorem dX0_move_156 : decode cX0_move 156 = .ok (.aload 6, 2) := dk_25 6 (dk_at dksX0_move_6 17 rfl rfl)
theorem dX0_move_158 : decode cX0_move 158 = .ok (.invokevirtual 118, 3) := dk_182 0 118 (dk_at dksX0_move_6 19 rfl rfl)
theorem dX0_move_161 : decode cX0_move 161 = .ok (.ireturn, 1) := dk_172 (dk_at dksX0_move_6 22 rfl rfl)
abbrev cX0_image : ByteArray := prog_1_method_54_code
def yX0_image : MethodName := ⟨RX0, "image", "()I"⟩
def dkwX0_image_1 : List UInt8 := [180, 1, 102, 172]
abbrev dktX0_image_1 : List UInt8 := dkwX0_image_1 ++ []
def dkwX0_image_0 : List UInt8 := [42, 180, 0, 50, 42, 180, 0, 46, 182, 0, 231, 76, 42, 89, 180, 1, 102, 4, 96, 181, 1, 102, 42]
abbrev dktX0_image_0 : List UInt8 := dkwX0_image_0 ++ dktX0_image_1
theorem dksX0_image_0 : cX0_image.data.toList.drop 0 = dktX0_image_0 := by decide +kernel
theorem dksX0_image_1 : cX0_image.data.toList.drop 23 = dktX0_image_1 := dk_seg dksX0_image_0 23 rfl rfl
theorem dX0_image_0 : decode cX0_image 0 = .ok (.aload_n 0, 1) := dk_42 (dk_at dksX0_image_0 0 rfl rfl)
theorem dX0_image_1 : decode cX0_image 1 = .ok (.getfield 50, 3) := dk_180 0 50 (dk_at dksX0_image_0 1 rfl rfl)
theorem dX0_image_4 : decode cX0_image 4 = .ok (.aload_n 0, 1) := dk_42 (dk_at dksX0_image_0 4 rfl rfl)
theorem dX0_image_5 : decode cX0_image 5 = .ok (.getfield 46, 3) := dk_180 0 46 (dk_at dksX0_image_0 5 rfl rfl)
theorem dX0_image_8 : decode cX0_image 8 = .ok (.invokevirtual 231, 3) := dk_182 0 231 (dk_at dksX0_image_0 8 rfl rfl)
theorem dX0_image_11 : decode cX0_image 11 = .ok (.astore_n 1, 1) := dk_76 (dk_at dksX0_image_0 11 rfl rfl)
theorem dX0_image_12 : decode cX0_image 12 = .ok (.aload_n 0, 1) := dk_42 (dk_at dksX0_image_0 12 rfl rfl)
theorem dX0_image_13 : decode cX0_image 13 = .ok (.dup, 1) := dk_89 (dk_at dksX0_image_0 13 rfl rfl)
theorem dX0_image_14 : decode cX0_image 14 = .ok (.getfield 358, 3) := dk_180 1 102 (dk_at dksX0_image_0 14 rfl rfl)
theorem dX0_image_17 : decode cX0_image 17 = .ok (.iconst 1, 1) := dk_4 (dk_at dksX0_image_0 17 rfl rfl)
theorem dX0_image_18 : decode cX0_image 18 = .ok (.iadd, 1) := dk_96 (dk_at dksX0_image_0 18 rfl rfl)
theorem dX0_image_19 : decode cX0_image 19 = .ok (.putfield 358, 3) := dk_181 1 102 (dk_at dksX0_image_0 19 rfl rfl)
theorem dX0_image_22 : decode cX0_image 22 = .ok (.aload_n 0, 1) := dk_42 (dk_at dksX0_image_0 22 rfl rfl)
theorem dX0_image_23 : decode cX0_image 23 = .ok (.getfield 358, 3) := dk_180 1 102 (dk_at dksX0_image_1 0 rfl rfl)
theorem dX0_image_26 : decode cX0_image 26 = .ok (.ireturn, 1) := dk_172 (dk_at dksX0_image_1 3 rfl rfl)
abbrev cX0_restore : ByteArray := prog_1_method_55_code
def yX0_restore : MethodName := ⟨RX0, "restore", "()I"⟩
def dkwX0_restore_1 : List UInt8 := [180, 0, 50, 182, 0, 231, 180, 0, 212, 172, 76, 42, 43, 182, 0, 118, 172]
abbrev dktX0_restore_1 : List UInt8 := dkwX0_restore_1 ++ []
def dkwX0_restore_0 : List UInt8 := [42, 42, 180, 1, 102, 158, 0, 7, 4, 167, 0, 4, 3, 5, 182, 0, 102, 42, 180, 0, 46, 42]
abbrev dktX0_restore_0 : List UInt8 := dkwX0_restore_0 ++ dktX0_restore_1
theorem dksX0_restore_0 : cX0_restore.data.toList.drop 0 = dktX0_restore_0 := by decide +kernel
theorem dksX0_restore_1 : cX0_restore.data.toList.drop 22 = dktX0_restore_1 := dk_seg dksX0_restore_0 22 rfl rfl
theorem dX0_restore_0 : decode cX0_restore 0 = .ok (.aload_n 0, 1) := dk_42 (dk_at dksX0_restore_0 0 rfl rfl)
theorem dX0_restore_1 : decode cX0_restore 1 = .ok (.aload_n 0, 1) := dk_42 (dk_at dksX0_restore_0 1 rfl rfl)
theorem dX0_restore_2 : decode cX0_restore 2 = .ok (.getfield 358, 3) := dk_180 1 102 (dk_at dksX0_restore_0 2 rfl rfl)
theorem dX0_restore_5 : decode cX0_restore 5 = .ok (.ifCond .le 7, 3) := dk_158 0 7 (dk_at dksX0_restore_0 5 rfl rfl)
theorem dX0_restore_8 : decode cX0_restore 8 = .ok (.iconst 1, 1) := dk_4 (dk_at dksX0_restore_0 8 rfl rfl)
theorem dX0_restore_9 : decode cX0_restore 9 = .ok (.goto 4, 3) := dk_167 0 4 (dk_at dksX0_restore_0 9 rfl rfl)
theorem dX0_restore_12 : decode cX0_restore 12 = .ok (.iconst 0, 1) := dk_3 (dk_at dksX0_restore_0 12 rfl rfl)
theorem dX0_restore_13 : decode cX0_restore 13 = .ok (.iconst 2, 1) := dk_5 (dk_at dksX0_restore_0 13 rfl rfl)
theorem dX0_restore_14 : decode cX0_restore 14 = .ok (.invokevirtual 102, 3) := dk_182 0 102 (dk_at dksX0_restore_0 14 rfl rfl)
theorem dX0_restore_17 : decode cX0_restore 17 = .ok (.aload_n 0, 1) := dk_42 (dk_at dksX0_restore_0 17 rfl rfl)
theorem dX0_restore_18 : decode cX0_restore 18 = .ok (.getfield 46, 3) := dk_180 0 46 (dk_at dksX0_restore_0 18 rfl rfl)
theorem dX0_restore_21 : decode cX0_restore 21 = .ok (.aload_n 0, 1) := dk_42 (dk_at dksX0_restore_0 21 rfl rfl)
theorem dX0_restore_22 : decode cX0_restore 22 = .ok (.getfield 50, 3) := dk_180 0 50 (dk_at dksX0_restore_1 0 rfl rfl)
theorem dX0_restore_25 : decode cX0_restore 25 = .ok (.invokevirtual 231, 3) := dk_182 0 231 (dk_at dksX0_restore_1 3 rfl rfl)
theorem dX0_restore_28 : decode cX0_restore 28 = .ok (.getfield 212, 3) := dk_180 0 212 (dk_at dksX0_restore_1 6 rfl rfl)
theorem dX0_restore_31 : decode cX0_restore 31 = .ok (.ireturn, 1) := dk_172 (dk_at dksX0_restore_1 9 rfl rfl)
theorem dX0_restore_32 : decode cX0_restore 32 = .ok (.astore_n 1, 1) := dk_76 (dk_at dksX0_restore_1 10 rfl rfl)
theorem dX0_restore_33 : decode cX0_restore 33 = .ok (.aload_n 0, 1) := dk_42 (dk_at dksX0_restore_1 11 rfl rfl)
theorem dX0_restore_34 : decode cX0_restore 34 = .ok (.aload_n 1, 1) := dk_43 (dk_at dksX0_restore_1 12 rfl rfl)
theorem dX0_restore_35 : decode cX0_restore 35 = .ok (.invokevirtual 118, 3) := dk_182 0 118 (dk_at dksX0_restore_1 13 rfl rfl)
theorem dX0_restore_38 : decode cX0_restore 38 = .ok (.ireturn, 1) := dk_172 (dk_at dksX0_restore_1 16 rfl rfl)
abbrev cX0_tell : ByteArray := prog_1_method_56_code
def yX0_tell : MethodName := ⟨RX0, "tell", "(I)I"⟩
def dkwX0_tell_2 : List UInt8 := [96, 181, 1, 105, 42, 180, 0, 46, 180, 1, 105, 172, 77, 42, 44, 182, 0, 118, 172]
abbrev dktX0_tell_2 : List UInt8 := dkwX0_tell_2 ++ []
def dkwX0_tell_1 : List UInt8 := [180, 0, 46, 180, 1, 108, 42, 180, 0, 46, 180, 1, 105, 27, 79, 42, 180, 0, 46, 89, 180, 1, 105, 4]
abbrev dktX0_tell_1 : List UInt8 := dkwX0_tell_1 ++ dktX0_tell_2
def dkwX0_tell_0 : List UInt8 := [42, 42, 180, 0, 46, 180, 1, 105, 16, 20, 162, 0, 7, 4, 167, 0, 4, 3, 7, 182, 0, 102, 42]
abbrev dktX0_tell_0 : List UInt8 := dkwX0_tell_0 ++ dktX0_tell_1
theorem dksX0_tell_0 : cX0_tell.data.toList.drop 0 = dktX0_tell_0 := by decide +kernel
theorem dksX0_tell_1 : cX0_tell.data.toList.drop 23 = dktX0_tell_1 := dk_seg dksX0_tell_0 23 rfl rfl
theorem dksX0_tell_2 : cX0_tell.data.toList.drop 47 = dktX0_tell_2 := dk_seg dksX0_tell_1 24 rfl rfl
theorem dX0_tell_0 : decode cX0_tell 0 = .ok (.aload_n 0, 1) := dk_42 (dk_at dksX0_tell_0 0 rfl rfl)
theorem dX0_tell_1 : decode cX0_tell 1 = .ok (.aload_n 0, 1) := dk_42 (dk_at dksX0_tell_0 1 rfl rfl)
theorem dX0_tell_2 : decode cX0_tell 2 = .ok (.getfield 46, 3) := dk_180 0 46 (dk_at dksX0_tell_0 2 rfl rfl)
theorem dX0_tell_5 : decode cX0_tell 5 = .ok (.getfield 361, 3) := dk_180 1 105 (dk_at dksX0_tell_0 5 rfl rfl)
theorem dX0_tell_8 : decode cX0_tell 8 = .ok (.bipush 20, 2) := dk_16 20 (dk_at dksX0_tell_0 8 rfl rfl)
theorem dX0_tell_10 : decode cX0_tell 10 = .ok (.if_icmp .ge 7, 3) := dk_162 0 7 (dk_at dksX0_tell_0 10 rfl rfl)
theorem dX0_tell_13 : decode cX0_tell 13 = .ok (.iconst 1, 1) := dk_4 (dk_at dksX0_tell_0 13 rfl rfl)
theorem dX0_tell_14 : decode cX0_tell 14 = .ok (.goto 4, 3) := dk_167 0 4 (dk_at dksX0_tell_0 14 rfl rfl)
theorem dX0_tell_17 : decode cX0_tell 17 = .ok (.iconst 0, 1) := dk_3 (dk_at dksX0_tell_0 17 rfl rfl)
theorem dX0_tell_18 : decode cX0_tell 18 = .ok (.iconst 4, 1) := dk_7 (dk_at dksX0_tell_0 18 rfl rfl)
theorem dX0_tell_19 : decode cX0_tell 19 = .ok (.invokevirtual 102, 3) := dk_182 0 102 (dk_at dksX0_tell_0 19 rfl rfl)
theorem dX0_tell_22 : decode cX0_tell 22 = .ok (.aload_n 0, 1) := dk_42 (dk_at dksX0_tell_0 22 rfl rfl)
theorem dX0_tell_23 : decode cX0_tell 23 = .ok (.getfield 46, 3) := dk_180 0 46 (dk_at dksX0_tell_1 0 rfl rfl)
theorem dX0_tell_26 : decode cX0_tell 26 = .ok (.getfield 364, 3) := dk_180 1 108 (dk_at dksX0_tell_1 3 rfl rfl)
theorem dX0_tell_29 : decode cX0_tell 29 = .ok (.aload_n 0, 1) := dk_42 (dk_at dksX0_tell_1 6 rfl rfl)
theorem dX0_tell_30 : decode cX0_tell 30 = .ok (.getfield 46, 3) := dk_180 0 46 (dk_at dksX0_tell_1 7 rfl rfl)
theorem dX0_tell_33 : decode cX0_tell 33 = .ok (.getfield 361, 3) := dk_180 1 105 (dk_at dksX0_tell_1 10 rfl rfl)
theorem dX0_tell_36 : decode cX0_tell 36 = .ok (.iload_n 1, 1) := dk_27 (dk_at dksX0_tell_1 13 rfl rfl)
theorem dX0_tell_37 : decode cX0_tell 37 = .ok (.iastore, 1) := dk_79 (dk_at dksX0_tell_1 14 rfl rfl)
theorem dX0_tell_38 : decode cX0_tell 38 = .ok (.aload_n 0, 1) := dk_42 (dk_at dksX0_tell_1 15 rfl rfl)
theorem dX0_tell_39 : decode cX0_tell 39 = .ok (.getfield 46, 3) := dk_180 0 46 (dk_at dksX0_tell_1 16 rfl rfl)
theorem dX0_tell_42 : decode cX0_tell 42 = .ok (.dup, 1) := dk_89 (dk_at dksX0_tell_1 19 rfl rfl)
theorem dX0_tell_43 : decode cX0_tell 43 = .ok (.getfield 361, 3) := dk_180 1 105 (dk_at dksX0_tell_1 20 rfl rfl)
theorem dX0_tell_46 : decode cX0_tell 46 = .ok (.iconst 1, 1) := dk_4 (dk_at dksX0_tell_1 23 rfl rfl)
theorem dX0_tell_47 : decode cX0_tell 47 = .ok (.iadd, 1) := dk_96 (dk_at dksX0_tell_2 0 rfl rfl)
theorem dX0_tell_48 : decode cX0_tell 48 = .ok (.putfield 361, 3) := dk_181 1 105 (dk_at dksX0_tell_2 1 rfl rfl)
theorem dX0_tell_51 : decode cX0_tell 51 = .ok (.aload_n 0, 1) := dk_42 (dk_at dksX0_tell_2 4 rfl rfl)
theorem dX0_tell_52 : decode cX0_tell 52 = .ok (.getfield 46, 3) := dk_180 0 46 (dk_at dksX0_tell_2 5 rfl rfl)
theorem dX0_tell_55 : decode cX0_tell 55 = .ok (.getfield 361, 3) := dk_180 1 105 (dk_at dksX0_tell_2 8 rfl rfl)
theorem dX0_tell_58 : decode cX0_tell 58 = .ok (.ireturn, 1) := dk_172 (dk_at dksX0_tell_2 11 rfl rfl)
theorem dX0_tell_59 : decode cX0_tell 59 = .ok (.astore_n 2, 1) := dk_77 (dk_at dksX0_tell_2 12 rfl rfl)
theorem dX0_tell_60 : decode cX0_tell 60 = .ok (.aload_n 0, 1) := dk_42 (dk_at dksX0_tell_2 13 rfl rfl)
theorem dX0_tell_61 : decode cX0_tell 61 = .ok (.aload_n 2, 1) := dk_44 (dk_at dksX0_tell_2 14 rfl rfl)
theorem dX0_tell_62 : decode cX0_tell 62 = .ok (.invokevirtual 118, 3) := dk_182 0 118 (dk_at dksX0_tell_2 15 rfl rfl)
theorem dX0_tell_65 : decode cX0_tell 65 = .ok (.ireturn, 1) := dk_172 (dk_at dksX0_tell_2 18 rfl rfl)
abbrev cX0_check : ByteArray := prog_1_method_57_code
def yX0_check : MethodName := ⟨RX0, "check", "()I"⟩
def dkwX0_check_4 : List UInt8 := [4, 28, 96, 172]
abbrev dktX0_check_4 : List UInt8 := dkwX0_check_4 ++ []
def dkwX0_check_3 : List UInt8 := [62, 28, 29, 153, 0, 7, 4, 167, 0, 4, 3, 96, 61, 167, 255, 203, 29, 153, 0, 7, 3, 167, 0, 6]
abbrev dktX0_check_3 : List UInt8 := dkwX0_check_3 ++ dktX0_check_4
def dkwX0_check_2 : List UInt8 := [42, 180, 0, 46, 180, 1, 108, 28, 46, 42, 180, 0, 53, 182, 0, 219, 160, 0, 7, 4, 167, 0, 4, 3]
abbrev dktX0_check_2 : List UInt8 := dkwX0_check_2 ++ dktX0_check_3
def dkwX0_check_1 : List UInt8 := [182, 0, 231, 87, 3, 61, 4, 62, 28, 27, 162, 0, 54, 29, 153, 0, 50, 42, 180, 0, 53, 182, 0, 238]
abbrev dktX0_check_1 : List UInt8 := dkwX0_check_1 ++ dktX0_check_2
def dkwX0_check_0 : List UInt8 := [42, 180, 0, 46, 180, 1, 105, 60, 42, 180, 0, 46, 3, 181, 1, 105, 42, 180, 0, 53, 42, 180, 0, 46]
abbrev dktX0_check_0 : List UInt8 := dkwX0_check_0 ++ dktX0_check_1
theorem dksX0_check_0 : cX0_check.data.toList.drop 0 = dktX0_check_0 := by decide +kernel
theorem dksX0_check_1 : cX0_check.data.toList.drop 24 = dktX0_check_1 := dk_seg dksX0_check_0 24 rfl rfl
theorem dksX0_check_2 : cX0_check.data.toList.drop 48 = dktX0_check_2 := dk_seg dksX0_check_1 24 rfl rfl
theorem dksX0_check_3 : cX0_check.data.toList.drop 72 = dktX0_check_3 := dk_seg dksX0_check_2 24 rfl rfl
theorem dksX0_check_4 : cX0_check.data.toList.drop 96 = dktX0_check_4 := dk_seg dksX0_check_3 24 rfl rfl
theorem dX0_check_0 : decode cX0_check 0 = .ok (.aload_n 0, 1) := dk_42 (dk_at dksX0_check_0 0 rfl rfl)
theorem dX0_check_1 : decode cX0_check 1 = .ok (.getfield 46, 3) := dk_180 0 46 (dk_at dksX0_check_0 1 rfl rfl)
theorem dX0_check_4 : decode cX0_check 4 = .ok (.getfield 361, 3) := dk_180 1 105 (dk_at dksX0_check_0 4 rfl rfl)
theorem dX0_check_7 : decode cX0_check 7 = .ok (.istore_n 1, 1) := dk_60 (dk_at dksX0_check_0 7 rfl rfl)
theorem dX0_check_8 : decode cX0_check 8 = .ok (.aload_n 0, 1) := dk_42 (dk_at dksX0_check_0 8 rfl rfl)
theorem dX0_check_9 : decode cX0_check 9 = .ok (.getfield 46, 3) := dk_180 0 46 (dk_at dksX0_check_0 9 rfl rfl)
theorem dX0_check_12 : decode cX0_check 12 = .ok (.iconst 0, 1) := dk_3 (dk_at dksX0_check_0 12 rfl rfl)
theorem dX0_check_13 : decode cX0_check 13 = .ok (.putfield 361, 3) := dk_181 1 105 (dk_at dksX0_check_0 13 rfl rfl)
theorem dX0_check_16 : decode cX0_check 16 = .ok (.aload_n 0, 1) := dk_42 (dk_at dksX0_check_0 16 rfl rfl)
theorem dX0_check_17 : decode cX0_check 17 = .ok (.getfield 53, 3) := dk_180 0 53 (dk_at dksX0_check_0 17 rfl rfl)
theorem dX0_check_20 : decode cX0_check 20 = .ok (.aload_n 0, 1) := dk_42 (dk_at dksX0_check_0 20 rfl rfl)
theorem dX0_check_21 : decode cX0_check 21 = .ok (.getfield 46, 3) := dk_180 0 46 (dk_at dksX0_check_0 21 rfl rfl)
theorem dX0_check_24 : decode cX0_check 24 = .ok (.invokevirtual 231, 3) := dk_182 0 231 (dk_at dksX0_check_1 0 rfl rfl)
theorem dX0_check_27 : decode cX0_check 27 = .ok (.pop, 1) := dk_87 (dk_at dksX0_check_1 3 rfl rfl)
theorem dX0_check_28 : decode cX0_check 28 = .ok (.iconst 0, 1) := dk_3 (dk_at dksX0_check_1 4 rfl rfl)
theorem dX0_check_29 : decode cX0_check 29 = .ok (.istore_n 2, 1) := dk_61 (dk_at dksX0_check_1 5 rfl rfl)
theorem dX0_check_30 : decode cX0_check 30 = .ok (.iconst 1, 1) := dk_4 (dk_at dksX0_check_1 6 rfl rfl)
theorem dX0_check_31 : decode cX0_check 31 = .ok (.istore_n 3, 1) := dk_62 (dk_at dksX0_check_1 7 rfl rfl)
theorem dX0_check_32 : decode cX0_check 32 = .ok (.iload_n 2, 1) := dk_28 (dk_at dksX0_check_1 8 rfl rfl)
theorem dX0_check_33 : decode cX0_check 33 = .ok (.iload_n 1, 1) := dk_27 (dk_at dksX0_check_1 9 rfl rfl)
theorem dX0_check_34 : decode cX0_check 34 = .ok (.if_icmp .ge 54, 3) := dk_162 0 54 (dk_at dksX0_check_1 10 rfl rfl)
theorem dX0_check_37 : decode cX0_check 37 = .ok (.iload_n 3, 1) := dk_29 (dk_at dksX0_check_1 13 rfl rfl)
theorem dX0_check_38 : decode cX0_check 38 = .ok (.ifCond .eq 50, 3) := dk_153 0 50 (dk_at dksX0_check_1 14 rfl rfl)
theorem dX0_check_41 : decode cX0_check 41 = .ok (.aload_n 0, 1) := dk_42 (dk_at dksX0_check_1 17 rfl rfl)
theorem dX0_check_42 : decode cX0_check 42 = .ok (.getfield 53, 3) := dk_180 0 53 (dk_at dksX0_check_1 18 rfl rfl)
theorem dX0_check_45 : decode cX0_check 45 = .ok (.invokevirtual 238, 3) := dk_182 0 238 (dk_at dksX0_check_1 21 rfl rfl)
theorem dX0_check_48 : decode cX0_check 48 = .ok (.aload_n 0, 1) := dk_42 (dk_at dksX0_check_2 0 rfl rfl)
theorem dX0_check_49 : decode cX0_check 49 = .ok (.getfield 46, 3) := dk_180 0 46 (dk_at dksX0_check_2 1 rfl rfl)
theorem dX0_check_52 : decode cX0_check 52 = .ok (.getfield 364, 3) := dk_180 1 108 (dk_at dksX0_check_2 4 rfl rfl)
theorem dX0_check_55 : decode cX0_check 55 = .ok (.iload_n 2, 1) := dk_28 (dk_at dksX0_check_2 7 rfl rfl)
theorem dX0_check_56 : decode cX0_check 56 = .ok (.iaload, 1) := dk_46 (dk_at dksX0_check_2 8 rfl rfl)
theorem dX0_check_57 : decode cX0_check 57 = .ok (.aload_n 0, 1) := dk_42 (dk_at dksX0_check_2 9 rfl rfl)
theorem dX0_check_58 : decode cX0_check 58 = .ok (.getfield 53, 3) := dk_180 0 53 (dk_at dksX0_check_2 10 rfl rfl)
theorem dX0_check_61 : decode cX0_check 61 = .ok (.invokevirtual 219, 3) := dk_182 0 219 (dk_at dksX0_check_2 13 rfl rfl)
theorem dX0_check_64 : decode cX0_check 64 = .ok (.if_icmp .ne 7, 3) := dk_160 0 7 (dk_at dksX0_check_2 16 rfl rfl)
theorem dX0_check_67 : decode cX0_check 67 = .ok (.iconst 1, 1) := dk_4 (dk_at dksX0_check_2 19 rfl rfl)
theorem dX0_check_68 : decode cX0_check 68 = .ok (.goto 4, 3) := dk_167 0 4 (dk_at dksX0_check_2 20 rfl rfl)
theorem dX0_check_71 : decode cX0_check 71 = .ok (.iconst 0, 1) := dk_3 (dk_at dksX0_check_2 23 rfl rfl)
theorem dX0_check_72 : decode cX0_check 72 = .ok (.istore_n 3, 1) := dk_62 (dk_at dksX0_check_3 0 rfl rfl)
theorem dX0_check_73 : decode cX0_check 73 = .ok (.iload_n 2, 1) := dk_28 (dk_at dksX0_check_3 1 rfl rfl)
theorem dX0_check_74 : decode cX0_check 74 = .ok (.iload_n 3, 1) := dk_29 (dk_at dksX0_check_3 2 rfl rfl)
theorem dX0_check_75 : decode cX0_check 75 = .ok (.ifCond .eq 7, 3) := dk_153 0 7 (dk_at dksX0_check_3 3 rfl rfl)
theorem dX0_check_78 : decode cX0_check 78 = .ok (.iconst 1, 1) := dk_4 (dk_at dksX0_check_3 6 rfl rfl)
theorem dX0_check_79 : decode cX0_check 79 = .ok (.goto 4, 3) := dk_167 0 4 (dk_at dksX0_check_3 7 rfl rfl)
theorem dX0_check_82 : decode cX0_check 82 = .ok (.iconst 0, 1) := dk_3 (dk_at dksX0_check_3 10 rfl rfl)
theorem dX0_check_83 : decode cX0_check 83 = .ok (.iadd, 1) := dk_96 (dk_at dksX0_check_3 11 rfl rfl)
theorem dX0_check_84 : decode cX0_check 84 = .ok (.istore_n 2, 1) := dk_61 (dk_at dksX0_check_3 12 rfl rfl)
theorem dX0_check_85 : decode cX0_check 85 = .ok (.goto (-53), 3) := dk_167 255 203 (dk_at dksX0_check_3 13 rfl rfl)
theorem dX0_check_88 : decode cX0_check 88 = .ok (.iload_n 3, 1) := dk_29 (dk_at dksX0_check_3 16 rfl rfl)
theorem dX0_check_89 : decode cX0_check 89 = .ok (.ifCond .eq 7, 3) := dk_153 0 7 (dk_at dksX0_check_3 17 rfl rfl)
theorem dX0_check_92 : decode cX0_check 92 = .ok (.iconst 0, 1) := dk_3 (dk_at dksX0_check_3 20 rfl rfl)
theorem dX0_check_93 : decode cX0_check 93 = .ok (.goto 6, 3) := dk_167 0 6 (dk_at dksX0_check_3 21 rfl rfl)
theorem dX0_check_96 : decode cX0_check 96 = .ok (.iconst 1, 1) := dk_4 (dk_at dksX0_check_4 0 rfl rfl)
theorem dX0_check_97 : decode cX0_check 97 = .ok (.iload_n 2, 1) := dk_28 (dk_at dksX0_check_4 1 rfl rfl)
theorem dX0_check_98 : decode cX0_check 98 = .ok (.iadd, 1) := dk_96 (dk_at dksX0_check_4 2 rfl rfl)
theorem dX0_check_99 : decode cX0_check 99 = .ok (.ireturn, 1) := dk_172 (dk_at dksX0_check_4 3 rfl rfl)
abbrev cX0_count : ByteArray := prog_1_method_58_code
def yX0_count : MethodName := ⟨RX0, "count", "(I)I"⟩
def dkwX0_count_4 : List UInt8 := [42, 180, 0, 59, 180, 1, 50, 172, 42, 180, 0, 46, 180, 1, 47, 172, 77, 42, 44, 182, 0, 118, 172]
abbrev dktX0_count_4 : List UInt8 := dkwX0_count_4 ++ []
def dkwX0_count_3 : List UInt8 := [42, 180, 0, 46, 180, 0, 129, 172, 42, 180, 0, 46, 180, 0, 176, 172, 42, 180, 0, 46, 180, 1, 105, 172]
abbrev dktX0_count_3 : List UInt8 := dkwX0_count_3 ++ dktX0_count_4
def dkwX0_count_2 : List UInt8 := [42, 180, 0, 46, 180, 0, 95, 172, 42, 180, 0, 46, 180, 0, 212, 172, 42, 180, 0, 46, 182, 0, 219, 172]
abbrev dktX0_count_2 : List UInt8 := dkwX0_count_2 ++ dktX0_count_3
def dkwX0_count_1 : List UInt8 := [170, 0, 0, 0, 0, 0, 99, 0, 0, 0, 0, 0, 0, 0, 6, 0, 0, 0, 43, 0, 0, 0, 51, 0, 0, 0, 59, 0, 0, 0, 67, 0, 0, 0, 75, 0, 0, 0, 83, 0, 0, 0, 91]
abbrev dktX0_count_1 : List UInt8 := dkwX0_count_1 ++ dktX0_count_2
def dkwX0_count_0 : List UInt8 := [42, 27, 3, 16, 7, 184, 0, 91, 4, 182, 0, 102, 27]
abbrev dktX0_count_0 : List UInt8 := dkwX0_count_0 ++ dktX0_count_1
theorem dksX0_count_0 : cX0_count.data.toList.drop 0 = dktX0_count_0 := by decide +kernel
theorem dksX0_count_1 : cX0_count.data.toList.drop 13 = dktX0_count_1 := dk_seg dksX0_count_0 13 rfl rfl
theorem dksX0_count_2 : cX0_count.data.toList.drop 56 = dktX0_count_2 := dk_seg dksX0_count_1 43 rfl rfl
theorem dksX0_count_3 : cX0_count.data.toList.drop 80 = dktX0_count_3 := dk_seg dksX0_count_2 24 rfl rfl
theorem dksX0_count_4 : cX0_count.data.toList.drop 104 = dktX0_count_4 := dk_seg dksX0_count_3 24 rfl rfl
theorem dX0_count_0 : decode cX0_count 0 = .ok (.aload_n 0, 1) := dk_42 (dk_at dksX0_count_0 0 rfl rfl)
theorem dX0_count_1 : decode cX0_count 1 = .ok (.iload_n 1, 1) := dk_27 (dk_at dksX0_count_0 1 rfl rfl)
theorem dX0_count_2 : decode cX0_count 2 = .ok (.iconst 0, 1) := dk_3 (dk_at dksX0_count_0 2 rfl rfl)
theorem dX0_count_3 : decode cX0_count 3 = .ok (.bipush 7, 2) := dk_16 7 (dk_at dksX0_count_0 3 rfl rfl)
theorem dX0_count_5 : decode cX0_count 5 = .ok (.invokestatic 91, 3) := dk_184 0 91 (dk_at dksX0_count_0 5 rfl rfl)
theorem dX0_count_8 : decode cX0_count 8 = .ok (.iconst 1, 1) := dk_4 (dk_at dksX0_count_0 8 rfl rfl)
theorem dX0_count_9 : decode cX0_count 9 = .ok (.invokevirtual 102, 3) := dk_182 0 102 (dk_at dksX0_count_0 9 rfl rfl)
theorem dX0_count_12 : decode cX0_count 12 = .ok (.iload_n 1, 1) := dk_27 (dk_at dksX0_count_0 12 rfl rfl)
theorem dX0_count_13 : decode cX0_count 13 = .ok (.tableswitch 99 0 6 #[43, 51, 59, 67, 75, 83, 91], 43) := by decide +kernel
theorem dX0_count_56 : decode cX0_count 56 = .ok (.aload_n 0, 1) := dk_42 (dk_at dksX0_count_2 0 rfl rfl)
theorem dX0_count_57 : decode cX0_count 57 = .ok (.getfield 46, 3) := dk_180 0 46 (dk_at dksX0_count_2 1 rfl rfl)
theorem dX0_count_60 : decode cX0_count 60 = .ok (.getfield 95, 3) := dk_180 0 95 (dk_at dksX0_count_2 4 rfl rfl)
theorem dX0_count_63 : decode cX0_count 63 = .ok (.ireturn, 1) := dk_172 (dk_at dksX0_count_2 7 rfl rfl)
theorem dX0_count_64 : decode cX0_count 64 = .ok (.aload_n 0, 1) := dk_42 (dk_at dksX0_count_2 8 rfl rfl)
theorem dX0_count_65 : decode cX0_count 65 = .ok (.getfield 46, 3) := dk_180 0 46 (dk_at dksX0_count_2 9 rfl rfl)
theorem dX0_count_68 : decode cX0_count 68 = .ok (.getfield 212, 3) := dk_180 0 212 (dk_at dksX0_count_2 12 rfl rfl)
theorem dX0_count_71 : decode cX0_count 71 = .ok (.ireturn, 1) := dk_172 (dk_at dksX0_count_2 15 rfl rfl)
theorem dX0_count_72 : decode cX0_count 72 = .ok (.aload_n 0, 1) := dk_42 (dk_at dksX0_count_2 16 rfl rfl)
theorem dX0_count_73 : decode cX0_count 73 = .ok (.getfield 46, 3) := dk_180 0 46 (dk_at dksX0_count_2 17 rfl rfl)
theorem dX0_count_76 : decode cX0_count 76 = .ok (.invokevirtual 219, 3) := dk_182 0 219 (dk_at dksX0_count_2 20 rfl rfl)
theorem dX0_count_79 : decode cX0_count 79 = .ok (.ireturn, 1) := dk_172 (dk_at dksX0_count_2 23 rfl rfl)
theorem dX0_count_80 : decode cX0_count 80 = .ok (.aload_n 0, 1) := dk_42 (dk_at dksX0_count_3 0 rfl rfl)
theorem dX0_count_81 : decode cX0_count 81 = .ok (.getfield 46, 3) := dk_180 0 46 (dk_at dksX0_count_3 1 rfl rfl)
theorem dX0_count_84 : decode cX0_count 84 = .ok (.getfield 129, 3) := dk_180 0 129 (dk_at dksX0_count_3 4 rfl rfl)
theorem dX0_count_87 : decode cX0_count 87 = .ok (.ireturn, 1) := dk_172 (dk_at dksX0_count_3 7 rfl rfl)
theorem dX0_count_88 : decode cX0_count 88 = .ok (.aload_n 0, 1) := dk_42 (dk_at dksX0_count_3 8 rfl rfl)
theorem dX0_count_89 : decode cX0_count 89 = .ok (.getfield 46, 3) := dk_180 0 46 (dk_at dksX0_count_3 9 rfl rfl)
theorem dX0_count_92 : decode cX0_count 92 = .ok (.getfield 176, 3) := dk_180 0 176 (dk_at dksX0_count_3 12 rfl rfl)
theorem dX0_count_95 : decode cX0_count 95 = .ok (.ireturn, 1) := dk_172 (dk_at dksX0_count_3 15 rfl rfl)
theorem dX0_count_96 : decode cX0_count 96 = .ok (.aload_n 0, 1) := dk_42 (dk_at dksX0_count_3 16 rfl rfl)
theorem dX0_count_97 : decode cX0_count 97 = .ok (.getfield 46, 3) := dk_180 0 46 (dk_at dksX0_count_3 17 rfl rfl)
theorem dX0_count_100 : decode cX0_count 100 = .ok (.getfield 361, 3) := dk_180 1 105 (dk_at dksX0_count_3 20 rfl rfl)
theorem dX0_count_103 : decode cX0_count 103 = .ok (.ireturn, 1) := dk_172 (dk_at dksX0_count_3 23 rfl rfl)
theorem dX0_count_104 : decode cX0_count 104 = .ok (.aload_n 0, 1) := dk_42 (dk_at dksX0_count_4 0 rfl rfl)
theorem dX0_count_105 : decode cX0_count 105 = .ok (.getfield 59, 3) := dk_180 0 59 (dk_at dksX0_count_4 1 rfl rfl)
theorem dX0_count_108 : decode cX0_count 108 = .ok (.getfield 306, 3) := dk_180 1 50 (dk_at dksX0_count_4 4 rfl rfl)
theorem dX0_count_111 : decode cX0_count 111 = .ok (.ireturn, 1) := dk_172 (dk_at dksX0_count_4 7 rfl rfl)
theorem dX0_count_112 : decode cX0_count 112 = .ok (.aload_n 0, 1) := dk_42 (dk_at dksX0_count_4 8 rfl rfl)
theorem dX0_count_113 : decode cX0_count 113 = .ok (.getfield 46, 3) := dk_180 0 46 (dk_at dksX0_count_4 9 rfl rfl)
theorem dX0_count_116 : decode cX0_count 116 = .ok (.getfield 303, 3) := dk_180 1 47 (dk_at dksX0_count_4 12 rfl rfl)
theorem dX0_count_119 : decode cX0_count 119 = .ok (.ireturn, 1) := dk_172 (dk_at dksX0_count_4 15 rfl rfl)
theorem dX0_count_120 : decode cX0_count 120 = .ok (.astore_n 2, 1) := dk_77 (dk_at dksX0_count_4 16 rfl rfl)
theorem dX0_count_121 : decode cX0_count 121 = .ok (.aload_n 0, 1) := dk_42 (dk_at dksX0_count_4 17 rfl rfl)
theorem dX0_count_122 : decode cX0_count 122 = .ok (.aload_n 2, 1) := dk_44 (dk_at dksX0_count_4 18 rfl rfl)
theorem dX0_count_123 : decode cX0_count 123 = .ok (.invokevirtual 118, 3) := dk_182 0 118 (dk_at dksX0_count_4 19 rfl rfl)
theorem dX0_count_126 : decode cX0_count 126 = .ok (.ireturn, 1) := dk_172 (dk_at dksX0_count_4 22 rfl rfl)
abbrev cX0_told : ByteArray := prog_1_method_59_code
def yX0_told : MethodName := ⟨RX0, "told", "(I)I"⟩
def dkwX0_told_1 : List UInt8 := [172]
abbrev dktX0_told_1 : List UInt8 := dkwX0_told_1 ++ []
def dkwX0_told_0 : List UInt8 := [42, 27, 4, 8, 184, 0, 91, 4, 182, 0, 102, 42, 180, 0, 63, 27, 46, 172, 77, 42, 44, 182, 0, 118]
abbrev dktX0_told_0 : List UInt8 := dkwX0_told_0 ++ dktX0_told_1
theorem dksX0_told_0 : cX0_told.data.toList.drop 0 = dktX0_told_0 := by decide +kernel
theorem dksX0_told_1 : cX0_told.data.toList.drop 24 = dktX0_told_1 := dk_seg dksX0_told_0 24 rfl rfl
theorem dX0_told_0 : decode cX0_told 0 = .ok (.aload_n 0, 1) := dk_42 (dk_at dksX0_told_0 0 rfl rfl)
theorem dX0_told_1 : decode cX0_told 1 = .ok (.iload_n 1, 1) := dk_27 (dk_at dksX0_told_0 1 rfl rfl)
theorem dX0_told_2 : decode cX0_told 2 = .ok (.iconst 1, 1) := dk_4 (dk_at dksX0_told_0 2 rfl rfl)
theorem dX0_told_3 : decode cX0_told 3 = .ok (.iconst 5, 1) := dk_8 (dk_at dksX0_told_0 3 rfl rfl)
theorem dX0_told_4 : decode cX0_told 4 = .ok (.invokestatic 91, 3) := dk_184 0 91 (dk_at dksX0_told_0 4 rfl rfl)
theorem dX0_told_7 : decode cX0_told 7 = .ok (.iconst 1, 1) := dk_4 (dk_at dksX0_told_0 7 rfl rfl)
theorem dX0_told_8 : decode cX0_told 8 = .ok (.invokevirtual 102, 3) := dk_182 0 102 (dk_at dksX0_told_0 8 rfl rfl)
theorem dX0_told_11 : decode cX0_told 11 = .ok (.aload_n 0, 1) := dk_42 (dk_at dksX0_told_0 11 rfl rfl)
theorem dX0_told_12 : decode cX0_told 12 = .ok (.getfield 63, 3) := dk_180 0 63 (dk_at dksX0_told_0 12 rfl rfl)
theorem dX0_told_15 : decode cX0_told 15 = .ok (.iload_n 1, 1) := dk_27 (dk_at dksX0_told_0 15 rfl rfl)
theorem dX0_told_16 : decode cX0_told 16 = .ok (.iaload, 1) := dk_46 (dk_at dksX0_told_0 16 rfl rfl)
theorem dX0_told_17 : decode cX0_told 17 = .ok (.ireturn, 1) := dk_172 (dk_at dksX0_told_0 17 rfl rfl)
theorem dX0_told_18 : decode cX0_told 18 = .ok (.astore_n 2, 1) := dk_77 (dk_at dksX0_told_0 18 rfl rfl)
theorem dX0_told_19 : decode cX0_told 19 = .ok (.aload_n 0, 1) := dk_42 (dk_at dksX0_told_0 19 rfl rfl)
theorem dX0_told_20 : decode cX0_told 20 = .ok (.aload_n 2, 1) := dk_44 (dk_at dksX0_told_0 20 rfl rfl)
theorem dX0_told_21 : decode cX0_told 21 = .ok (.invokevirtual 118, 3) := dk_182 0 118 (dk_at dksX0_told_0 21 rfl rfl)
theorem dX0_told_24 : decode cX0_told 24 = .ok (.ireturn, 1) := dk_172 (dk_at dksX0_told_1 0 rfl rfl)
theorem q61 : (Jvm.Cond.initialized "MeadowMilk") ∈ lw_all := lw_g (lw_at lw_m1 1 rfl) rfl
theorem q98 : (Jvm.Cond.instantiable "MeadowMilk" (12 : Nat)) ∈ lw_all := lw_g (lw_at lw_m1 38 rfl) rfl
theorem q100 : (Jvm.Cond.instanceMethod ({ cls := "MeadowMilk", name := "<init>", desc := "()V" } : Jvm.MethodName)) ∈ lw_all := lw_g (lw_at lw_m1 40 rfl) rfl
theorem q101 : (Jvm.Cond.code ({ cls := "MeadowMilk", name := "<init>", desc := "()V" } : Jvm.MethodName) prog_1_method_5_code (2 : Nat) (Option.none : Option Jvm.ClassFile.FieldType)) ∈ lw_all := lw_g (lw_at lw_m1 41 rfl) rfl
theorem q102 : (Jvm.Cond.methodLink "MeadowMilk" (37 : Nat) ({ cls := "java/lang/Object", name := "<init>", desc := "()V" } : Jvm.MethodName)) ∈ lw_all := lw_g (lw_at lw_m1 42 rfl) rfl
theorem q105 : (Jvm.Cond.classLink "MeadowMilk" (8 : Nat) "MeadowMilk$Finding") ∈ lw_all := lw_g (lw_at lw_m1 45 rfl) rfl
theorem q145 : (Jvm.Cond.methodLink "MeadowMilk" (42 : Nat) ({ cls := "MeadowMilk$Finding", name := "<init>", desc := "()V" } : Jvm.MethodName)) ∈ lw_all := lw_g (lw_at lw_m1 85 rfl) rfl
theorem q158 : (Jvm.Cond.fieldLinkNest "MeadowMilk" (86 : Nat) "MeadowMilk$Finding" "code" "I" "MeadowMilk") ∈ lw_tbl := lw_at lw_m1 98 rfl
theorem q174 : (Jvm.Cond.classLink "MeadowMilk" (43 : Nat) "MeadowMilk$Meadow") ∈ lw_all := lw_g (lw_at lw_m1 114 rfl) rfl
theorem q176 : (Jvm.Cond.methodLink "MeadowMilk" (45 : Nat) ({ cls := "MeadowMilk$Meadow", name := "<init>", desc := "()V" } : Jvm.MethodName)) ∈ lw_all := lw_g (lw_at lw_m1 116 rfl) rfl
theorem q198 : (Jvm.Cond.fieldLinkNest "MeadowMilk" (112 : Nat) "MeadowMilk$Meadow" "mark" "[I" "MeadowMilk") ∈ lw_tbl := lw_at lw_m1 138 rfl
theorem q200 : (Jvm.Cond.fieldLinkNest "MeadowMilk" (115 : Nat) "MeadowMilk$Meadow" "grass" "[I" "MeadowMilk") ∈ lw_tbl := lw_at lw_m1 140 rfl
theorem q202 : (Jvm.Cond.fieldLinkNest "MeadowMilk" (129 : Nat) "MeadowMilk$Meadow" "grows" "I" "MeadowMilk") ∈ lw_tbl := lw_at lw_m1 142 rfl
theorem q204 : (Jvm.Cond.fieldLinkNest "MeadowMilk" (95 : Nat) "MeadowMilk$Meadow" "cows" "I" "MeadowMilk") ∈ lw_tbl := lw_at lw_m1 144 rfl
theorem q206 : (Jvm.Cond.fieldLinkNest "MeadowMilk" (135 : Nat) "MeadowMilk$Meadow" "cow" "[LMeadowMilk$Cow;" "MeadowMilk") ∈ lw_tbl := lw_at lw_m1 146 rfl
theorem q208 : (Jvm.Cond.fieldLinkNest "MeadowMilk" (122 : Nat) "MeadowMilk$Meadow" "at" "[I" "MeadowMilk") ∈ lw_tbl := lw_at lw_m1 148 rfl
theorem q211 : (Jvm.Cond.fieldLinkNest "MeadowMilk" (143 : Nat) "MeadowMilk$Meadow" "many" "[I" "MeadowMilk") ∈ lw_tbl := lw_at lw_m1 151 rfl
theorem q213 : (Jvm.Cond.fieldLinkNest "MeadowMilk" (212 : Nat) "MeadowMilk$Meadow" "day" "I" "MeadowMilk") ∈ lw_tbl := lw_at lw_m1 153 rfl
theorem q215 : (Jvm.Cond.fieldLinkNest "MeadowMilk" (183 : Nat) "MeadowMilk$Meadow" "text" "[LMeadowMilk$Term;" "MeadowMilk") ∈ lw_tbl := lw_at lw_m1 155 rfl
theorem q217 : (Jvm.Cond.fieldLinkNest "MeadowMilk" (303 : Nat) "MeadowMilk$Meadow" "z" "I" "MeadowMilk") ∈ lw_tbl := lw_at lw_m1 157 rfl
theorem q219 : (Jvm.Cond.fieldLinkNest "MeadowMilk" (179 : Nat) "MeadowMilk$Meadow" "tape" "[B" "MeadowMilk") ∈ lw_tbl := lw_at lw_m1 159 rfl
theorem q221 : (Jvm.Cond.fieldLinkNest "MeadowMilk" (176 : Nat) "MeadowMilk$Meadow" "taped" "I" "MeadowMilk") ∈ lw_tbl := lw_at lw_m1 161 rfl
theorem q223 : (Jvm.Cond.fieldLinkNest "MeadowMilk" (364 : Nat) "MeadowMilk$Meadow" "waiting" "[I" "MeadowMilk") ∈ lw_tbl := lw_at lw_m1 163 rfl
theorem q225 : (Jvm.Cond.fieldLinkNest "MeadowMilk" (361 : Nat) "MeadowMilk$Meadow" "waits" "I" "MeadowMilk") ∈ lw_tbl := lw_at lw_m1 165 rfl
theorem q260 : (Jvm.Cond.classLink "MeadowMilk" (56 : Nat) "MeadowMilk$Trace") ∈ lw_all := lw_g (lw_at lw_m1 200 rfl) rfl
theorem q262 : (Jvm.Cond.methodLinkNest "MeadowMilk" (58 : Nat) ({ cls := "MeadowMilk$Trace", name := "<init>", desc := "()V" } : Jvm.MethodName) "MeadowMilk") ∈ lw_tbl := lw_at lw_m1 202 rfl
theorem q267 : (Jvm.Cond.fieldLinkNest "MeadowMilk" (328 : Nat) "MeadowMilk$Trace" "ran" "[I" "MeadowMilk") ∈ lw_tbl := lw_at lw_m1 207 rfl
theorem q269 : (Jvm.Cond.fieldLinkNest "MeadowMilk" (306 : Nat) "MeadowMilk$Trace" "many" "I" "MeadowMilk") ∈ lw_tbl := lw_at lw_m1 209 rfl
theorem q275 : (Jvm.Cond.classLink "MeadowMilk" (67 : Nat) "MeadowMilk$Shelf") ∈ lw_all := lw_g (lw_at lw_m1 215 rfl) rfl
theorem q278 : (Jvm.Cond.methodLinkNest "MeadowMilk" (85 : Nat) ({ cls := "MeadowMilk$Shelf", name := "<init>", desc := "()V" } : Jvm.MethodName) "MeadowMilk") ∈ lw_tbl := lw_at lw_m1 218 rfl
theorem q282 : (Jvm.Cond.fieldLinkNest "MeadowMilk" (98 : Nat) "MeadowMilk$Shelf" "held" "Ljava/lang/Object;" "MeadowMilk") ∈ lw_tbl := lw_at lw_m1 222 rfl
theorem q286 : (Jvm.Cond.fieldLink "MeadowMilk" (1 : Nat) "MeadowMilk" "finding" "LMeadowMilk$Finding;") ∈ lw_all := lw_g (lw_at lw_m1 226 rfl) rfl
theorem q287 : (Jvm.Cond.fieldLink "MeadowMilk" (46 : Nat) "MeadowMilk" "meadow" "LMeadowMilk$Meadow;") ∈ lw_all := lw_g (lw_at lw_m1 227 rfl) rfl
theorem q288 : (Jvm.Cond.fieldLink "MeadowMilk" (50 : Nat) "MeadowMilk" "image" "LMeadowMilk$Meadow;") ∈ lw_all := lw_g (lw_at lw_m1 228 rfl) rfl
theorem q289 : (Jvm.Cond.fieldLink "MeadowMilk" (53 : Nat) "MeadowMilk" "tried" "LMeadowMilk$Meadow;") ∈ lw_all := lw_g (lw_at lw_m1 229 rfl) rfl
theorem q290 : (Jvm.Cond.fieldLink "MeadowMilk" (358 : Nat) "MeadowMilk" "images" "I") ∈ lw_all := lw_g (lw_at lw_m1 230 rfl) rfl
theorem q291 : (Jvm.Cond.fieldLink "MeadowMilk" (59 : Nat) "MeadowMilk" "trace" "LMeadowMilk$Trace;") ∈ lw_all := lw_g (lw_at lw_m1 231 rfl) rfl
theorem q292 : (Jvm.Cond.fieldLink "MeadowMilk" (63 : Nat) "MeadowMilk" "errors" "[I") ∈ lw_all := lw_g (lw_at lw_m1 232 rfl) rfl
theorem q293 : (Jvm.Cond.fieldLink "MeadowMilk" (69 : Nat) "MeadowMilk" "sheets" "[LMeadowMilk$Shelf;") ∈ lw_all := lw_g (lw_at lw_m1 233 rfl) rfl
theorem q294 : (Jvm.Cond.fieldLink "MeadowMilk" (73 : Nat) "MeadowMilk" "walks" "[I") ∈ lw_all := lw_g (lw_at lw_m1 234 rfl) rfl
theorem q295 : (Jvm.Cond.fieldLink "MeadowMilk" (76 : Nat) "MeadowMilk" "behind" "[I") ∈ lw_all := lw_g (lw_at lw_m1 235 rfl) rfl
theorem q296 : (Jvm.Cond.fieldLink "MeadowMilk" (79 : Nat) "MeadowMilk" "hays" "[I") ∈ lw_all := lw_g (lw_at lw_m1 236 rfl) rfl
theorem q297 : (Jvm.Cond.fieldLink "MeadowMilk" (82 : Nat) "MeadowMilk" "haysThen" "[I") ∈ lw_all := lw_g (lw_at lw_m1 237 rfl) rfl
theorem q298 : (Jvm.Cond.laysFinal "MeadowMilk" "MeadowMilk" "finding" "LMeadowMilk$Finding;") ∈ lw_all := lw_g (lw_at lw_m1 238 rfl) rfl
theorem q299 : (Jvm.Cond.soleField "MeadowMilk" "finding") ∈ lw_all := lw_g (lw_at lw_m1 239 rfl) rfl
theorem q300 : (Jvm.Cond.laysFinal "MeadowMilk" "MeadowMilk" "meadow" "LMeadowMilk$Meadow;") ∈ lw_all := lw_g (lw_at lw_m2 0 rfl) rfl
theorem q301 : (Jvm.Cond.soleField "MeadowMilk" "meadow") ∈ lw_all := lw_g (lw_at lw_m2 1 rfl) rfl
theorem q302 : (Jvm.Cond.laysFinal "MeadowMilk" "MeadowMilk" "image" "LMeadowMilk$Meadow;") ∈ lw_all := lw_g (lw_at lw_m2 2 rfl) rfl
theorem q303 : (Jvm.Cond.soleField "MeadowMilk" "image") ∈ lw_all := lw_g (lw_at lw_m2 3 rfl) rfl
theorem q304 : (Jvm.Cond.laysFinal "MeadowMilk" "MeadowMilk" "tried" "LMeadowMilk$Meadow;") ∈ lw_all := lw_g (lw_at lw_m2 4 rfl) rfl
theorem q305 : (Jvm.Cond.soleField "MeadowMilk" "tried") ∈ lw_all := lw_g (lw_at lw_m2 5 rfl) rfl
theorem q306 : (Jvm.Cond.lays "MeadowMilk" "MeadowMilk" "images" "I") ∈ lw_all := lw_g (lw_at lw_m2 6 rfl) rfl
theorem q307 : (Jvm.Cond.soleField "MeadowMilk" "images") ∈ lw_all := lw_g (lw_at lw_m2 7 rfl) rfl
theorem q308 : (Jvm.Cond.laysFinal "MeadowMilk" "MeadowMilk" "trace" "LMeadowMilk$Trace;") ∈ lw_all := lw_g (lw_at lw_m2 8 rfl) rfl
theorem q309 : (Jvm.Cond.soleField "MeadowMilk" "trace") ∈ lw_all := lw_g (lw_at lw_m2 9 rfl) rfl
theorem q310 : (Jvm.Cond.laysFinal "MeadowMilk" "MeadowMilk" "errors" "[I") ∈ lw_all := lw_g (lw_at lw_m2 10 rfl) rfl
theorem q311 : (Jvm.Cond.soleField "MeadowMilk" "errors") ∈ lw_all := lw_g (lw_at lw_m2 11 rfl) rfl
theorem q312 : (Jvm.Cond.laysFinal "MeadowMilk" "MeadowMilk" "sheets" "[LMeadowMilk$Shelf;") ∈ lw_all := lw_g (lw_at lw_m2 12 rfl) rfl
theorem q313 : (Jvm.Cond.soleField "MeadowMilk" "sheets") ∈ lw_all := lw_g (lw_at lw_m2 13 rfl) rfl
theorem q314 : (Jvm.Cond.laysFinal "MeadowMilk" "MeadowMilk" "walks" "[I") ∈ lw_all := lw_g (lw_at lw_m2 14 rfl) rfl
theorem q315 : (Jvm.Cond.soleField "MeadowMilk" "walks") ∈ lw_all := lw_g (lw_at lw_m2 15 rfl) rfl
theorem q316 : (Jvm.Cond.laysFinal "MeadowMilk" "MeadowMilk" "behind" "[I") ∈ lw_all := lw_g (lw_at lw_m2 16 rfl) rfl
theorem q317 : (Jvm.Cond.soleField "MeadowMilk" "behind") ∈ lw_all := lw_g (lw_at lw_m2 17 rfl) rfl
theorem q318 : (Jvm.Cond.laysFinal "MeadowMilk" "MeadowMilk" "hays" "[I") ∈ lw_all := lw_g (lw_at lw_m2 18 rfl) rfl
theorem q319 : (Jvm.Cond.soleField "MeadowMilk" "hays") ∈ lw_all := lw_g (lw_at lw_m2 19 rfl) rfl
theorem q320 : (Jvm.Cond.laysFinal "MeadowMilk" "MeadowMilk" "haysThen" "[I") ∈ lw_all := lw_g (lw_at lw_m2 20 rfl) rfl
theorem q321 : (Jvm.Cond.soleField "MeadowMilk" "haysThen") ∈ lw_all := lw_g (lw_at lw_m2 21 rfl) rfl
theorem q322 : (Jvm.Cond.superclass "MeadowMilk" "java/lang/Object") ∈ lw_all := lw_g (lw_at lw_m2 22 rfl) rfl
theorem q324 : (Jvm.Cond.instanceMethod ({ cls := "MeadowMilk", name := "cell", desc := "(III)I" } : Jvm.MethodName)) ∈ lw_all := lw_g (lw_at lw_m2 24 rfl) rfl
theorem q325 : (Jvm.Cond.selects "MeadowMilk" ({ cls := "MeadowMilk", name := "cell", desc := "(III)I" } : Jvm.MethodName) ({ cls := "MeadowMilk", name := "cell", desc := "(III)I" } : Jvm.MethodName)) ∈ lw_all := lw_g (lw_at lw_m2 25 rfl) rfl
theorem q326 : (Jvm.Cond.codeWith ({ cls := "MeadowMilk", name := "cell", desc := "(III)I" } : Jvm.MethodName) prog_1_method_15_code (6 : Nat) (Option.some Jvm.ClassFile.FieldType.int) [((0 : Nat), (81 : Nat), (82 : Nat), (8 : Nat))]) ∈ lw_all := lw_g (lw_at lw_m2 26 rfl) rfl
theorem q327 : (Jvm.Cond.methodLink "MeadowMilk" (108 : Nat) ({ cls := "MeadowMilk", name := "isCell", desc := "(I)Z" } : Jvm.MethodName)) ∈ lw_all := lw_g (lw_at lw_m2 27 rfl) rfl
theorem q328 : (Jvm.Cond.static ({ cls := "MeadowMilk", name := "isCell", desc := "(I)Z" } : Jvm.MethodName)) ∈ lw_all := lw_g (lw_at lw_m2 28 rfl) rfl
theorem q329 : (Jvm.Cond.code ({ cls := "MeadowMilk", name := "isCell", desc := "(I)Z" } : Jvm.MethodName) prog_1_method_7_code (1 : Nat) (Option.some Jvm.ClassFile.FieldType.boolean)) ∈ lw_all := lw_g (lw_at lw_m2 29 rfl) rfl
theorem q330 : (Jvm.Cond.methodLink "MeadowMilk" (91 : Nat) ({ cls := "MeadowMilk", name := "in", desc := "(III)Z" } : Jvm.MethodName)) ∈ lw_all := lw_g (lw_at lw_m2 30 rfl) rfl
theorem q331 : (Jvm.Cond.static ({ cls := "MeadowMilk", name := "in", desc := "(III)Z" } : Jvm.MethodName)) ∈ lw_all := lw_g (lw_at lw_m2 31 rfl) rfl
theorem q332 : (Jvm.Cond.code ({ cls := "MeadowMilk", name := "in", desc := "(III)Z" } : Jvm.MethodName) prog_1_method_1_code (3 : Nat) (Option.some Jvm.ClassFile.FieldType.boolean)) ∈ lw_all := lw_g (lw_at lw_m2 32 rfl) rfl
theorem q333 : (Jvm.Cond.methodLink "MeadowMilk" (102 : Nat) ({ cls := "MeadowMilk", name := "need", desc := "(ZI)V" } : Jvm.MethodName)) ∈ lw_all := lw_g (lw_at lw_m2 33 rfl) rfl
theorem q334 : (Jvm.Cond.privateMethod ({ cls := "MeadowMilk", name := "need", desc := "(ZI)V" } : Jvm.MethodName)) ∈ lw_tbl := lw_at lw_m2 34 rfl
theorem q335 : (Jvm.Cond.instanceMethod ({ cls := "MeadowMilk", name := "need", desc := "(ZI)V" } : Jvm.MethodName)) ∈ lw_all := lw_g (lw_at lw_m2 35 rfl) rfl
theorem q336 : (Jvm.Cond.code ({ cls := "MeadowMilk", name := "need", desc := "(ZI)V" } : Jvm.MethodName) prog_1_method_3_code (3 : Nat) (Option.none : Option Jvm.ClassFile.FieldType)) ∈ lw_all := lw_g (lw_at lw_m2 36 rfl) rfl
theorem q337 : (Jvm.Cond.methodLink "MeadowMilk" (7 : Nat) ({ cls := "MeadowMilk$Finding", name := "of", desc := "(I)LMeadowMilk$Finding;" } : Jvm.MethodName)) ∈ lw_all := lw_g (lw_at lw_m2 37 rfl) rfl
theorem q341 : (Jvm.Cond.methodLink "MeadowMilk" (118 : Nat) ({ cls := "MeadowMilk", name := "finds", desc := "(LMeadowMilk$Finding;)I" } : Jvm.MethodName)) ∈ lw_all := lw_g (lw_at lw_m2 41 rfl) rfl
theorem q342 : (Jvm.Cond.privateMethod ({ cls := "MeadowMilk", name := "finds", desc := "(LMeadowMilk$Finding;)I" } : Jvm.MethodName)) ∈ lw_tbl := lw_at lw_m2 42 rfl
theorem q343 : (Jvm.Cond.instanceMethod ({ cls := "MeadowMilk", name := "finds", desc := "(LMeadowMilk$Finding;)I" } : Jvm.MethodName)) ∈ lw_all := lw_g (lw_at lw_m2 43 rfl) rfl
theorem q344 : (Jvm.Cond.code ({ cls := "MeadowMilk", name := "finds", desc := "(LMeadowMilk$Finding;)I" } : Jvm.MethodName) prog_1_method_6_code (2 : Nat) (Option.some Jvm.ClassFile.FieldType.int)) ∈ lw_all := lw_g (lw_at lw_m2 44 rfl) rfl
theorem q345 : (Jvm.Cond.constant "MeadowMilk" (90 : Nat) (-1000000000 : Int32)) ∈ lw_all := lw_g (lw_at lw_m2 45 rfl) rfl
theorem q347 : (Jvm.Cond.instanceMethod ({ cls := "MeadowMilk", name := "ofCell", desc := "(II)I" } : Jvm.MethodName)) ∈ lw_all := lw_g (lw_at lw_m2 47 rfl) rfl
theorem q348 : (Jvm.Cond.selects "MeadowMilk" ({ cls := "MeadowMilk", name := "ofCell", desc := "(II)I" } : Jvm.MethodName) ({ cls := "MeadowMilk", name := "ofCell", desc := "(II)I" } : Jvm.MethodName)) ∈ lw_all := lw_g (lw_at lw_m2 48 rfl) rfl
theorem q349 : (Jvm.Cond.codeWith ({ cls := "MeadowMilk", name := "ofCell", desc := "(II)I" } : Jvm.MethodName) prog_1_method_16_code (5 : Nat) (Option.some Jvm.ClassFile.FieldType.int) [((0 : Nat), (121 : Nat), (122 : Nat), (8 : Nat))]) ∈ lw_all := lw_g (lw_at lw_m2 49 rfl) rfl
theorem q350 : (Jvm.Cond.methodLink "MeadowMilk" (125 : Nat) ({ cls := "MeadowMilk$Meadow", name := "draws", desc := "(I)I" } : Jvm.MethodName)) ∈ lw_all := lw_g (lw_at lw_m2 50 rfl) rfl
theorem q392 : (Jvm.Cond.instanceMethod ({ cls := "MeadowMilk", name := "grows", desc := "(I)I" } : Jvm.MethodName)) ∈ lw_all := lw_g (lw_at lw_m2 92 rfl) rfl
theorem q393 : (Jvm.Cond.selects "MeadowMilk" ({ cls := "MeadowMilk", name := "grows", desc := "(I)I" } : Jvm.MethodName) ({ cls := "MeadowMilk", name := "grows", desc := "(I)I" } : Jvm.MethodName)) ∈ lw_all := lw_g (lw_at lw_m2 93 rfl) rfl
theorem q394 : (Jvm.Cond.codeWith ({ cls := "MeadowMilk", name := "grows", desc := "(I)I" } : Jvm.MethodName) prog_1_method_17_code (3 : Nat) (Option.some Jvm.ClassFile.FieldType.int) [((0 : Nat), (29 : Nat), (30 : Nat), (8 : Nat))]) ∈ lw_all := lw_g (lw_at lw_m2 94 rfl) rfl
theorem q396 : (Jvm.Cond.instanceMethod ({ cls := "MeadowMilk", name := "cow", desc := "(II)I" } : Jvm.MethodName)) ∈ lw_all := lw_g (lw_at lw_m2 96 rfl) rfl
theorem q397 : (Jvm.Cond.selects "MeadowMilk" ({ cls := "MeadowMilk", name := "cow", desc := "(II)I" } : Jvm.MethodName) ({ cls := "MeadowMilk", name := "cow", desc := "(II)I" } : Jvm.MethodName)) ∈ lw_all := lw_g (lw_at lw_m2 97 rfl) rfl
theorem q398 : (Jvm.Cond.codeWith ({ cls := "MeadowMilk", name := "cow", desc := "(II)I" } : Jvm.MethodName) prog_1_method_18_code (4 : Nat) (Option.some Jvm.ClassFile.FieldType.int) [((0 : Nat), (112 : Nat), (113 : Nat), (8 : Nat))]) ∈ lw_all := lw_g (lw_at lw_m2 98 rfl) rfl
theorem q399 : (Jvm.Cond.methodLink "MeadowMilk" (132 : Nat) ({ cls := "MeadowMilk", name := "isKind", desc := "(I)Z" } : Jvm.MethodName)) ∈ lw_all := lw_g (lw_at lw_m2 99 rfl) rfl
theorem q400 : (Jvm.Cond.static ({ cls := "MeadowMilk", name := "isKind", desc := "(I)Z" } : Jvm.MethodName)) ∈ lw_all := lw_g (lw_at lw_m2 100 rfl) rfl
theorem q401 : (Jvm.Cond.code ({ cls := "MeadowMilk", name := "isKind", desc := "(I)Z" } : Jvm.MethodName) prog_1_method_10_code (1 : Nat) (Option.some Jvm.ClassFile.FieldType.boolean)) ∈ lw_all := lw_g (lw_at lw_m2 101 rfl) rfl
theorem q402 : (Jvm.Cond.methodLink "MeadowMilk" (139 : Nat) ({ cls := "MeadowMilk", name := "cowOf", desc := "(ILMeadowMilk$Trace;II)LMeadowMilk$Cow;" } : Jvm.MethodName)) ∈ lw_all := lw_g (lw_at lw_m2 102 rfl) rfl
theorem q403 : (Jvm.Cond.static ({ cls := "MeadowMilk", name := "cowOf", desc := "(ILMeadowMilk$Trace;II)LMeadowMilk$Cow;" } : Jvm.MethodName)) ∈ lw_all := lw_g (lw_at lw_m2 103 rfl) rfl
theorem q404 : (Jvm.Cond.code ({ cls := "MeadowMilk", name := "cowOf", desc := "(ILMeadowMilk$Trace;II)LMeadowMilk$Cow;" } : Jvm.MethodName) prog_1_method_4_code (4 : Nat) (Option.some (Jvm.ClassFile.FieldType.object "MeadowMilk$Cow"))) ∈ lw_all := lw_g (lw_at lw_m2 104 rfl) rfl
theorem q405 : (Jvm.Cond.classLink "MeadowMilk" (13 : Nat) "MeadowMilk$Goat") ∈ lw_all := lw_g (lw_at lw_m2 105 rfl) rfl
theorem q407 : (Jvm.Cond.methodLink "MeadowMilk" (15 : Nat) ({ cls := "MeadowMilk$Goat", name := "<init>", desc := "(LMeadowMilk$Trace;II)V" } : Jvm.MethodName)) ∈ lw_all := lw_g (lw_at lw_m2 107 rfl) rfl
theorem q439 : (Jvm.Cond.fieldLink "MeadowMilk" (157 : Nat) "MeadowMilk$Cow" "m" "I") ∈ lw_all := lw_g (lw_at lw_m2 139 rfl) rfl
theorem q447 : (Jvm.Cond.classLink "MeadowMilk" (19 : Nat) "MeadowMilk$Wanderer") ∈ lw_all := lw_g (lw_at lw_m2 147 rfl) rfl
theorem q449 : (Jvm.Cond.methodLink "MeadowMilk" (21 : Nat) ({ cls := "MeadowMilk$Wanderer", name := "<init>", desc := "(LMeadowMilk$Trace;II)V" } : Jvm.MethodName)) ∈ lw_all := lw_g (lw_at lw_m2 149 rfl) rfl
theorem q457 : (Jvm.Cond.classLink "MeadowMilk" (22 : Nat) "MeadowMilk$Homely") ∈ lw_all := lw_g (lw_at lw_m2 157 rfl) rfl
theorem q459 : (Jvm.Cond.methodLink "MeadowMilk" (24 : Nat) ({ cls := "MeadowMilk$Homely", name := "<init>", desc := "(LMeadowMilk$Trace;II)V" } : Jvm.MethodName)) ∈ lw_all := lw_g (lw_at lw_m2 159 rfl) rfl
theorem q467 : (Jvm.Cond.classLink "MeadowMilk" (25 : Nat) "MeadowMilk$Kid") ∈ lw_all := lw_g (lw_at lw_m2 167 rfl) rfl
theorem q469 : (Jvm.Cond.methodLink "MeadowMilk" (27 : Nat) ({ cls := "MeadowMilk$Kid", name := "<init>", desc := "(LMeadowMilk$Trace;II)V" } : Jvm.MethodName)) ∈ lw_all := lw_g (lw_at lw_m2 169 rfl) rfl
theorem q477 : (Jvm.Cond.classLink "MeadowMilk" (28 : Nat) "MeadowMilk$Scout") ∈ lw_all := lw_g (lw_at lw_m2 177 rfl) rfl
theorem q479 : (Jvm.Cond.methodLink "MeadowMilk" (30 : Nat) ({ cls := "MeadowMilk$Scout", name := "<init>", desc := "(LMeadowMilk$Trace;II)V" } : Jvm.MethodName)) ∈ lw_all := lw_g (lw_at lw_m2 179 rfl) rfl
theorem q487 : (Jvm.Cond.classLink "MeadowMilk" (31 : Nat) "MeadowMilk$Ruminant") ∈ lw_all := lw_g (lw_at lw_m2 187 rfl) rfl
theorem q489 : (Jvm.Cond.methodLink "MeadowMilk" (33 : Nat) ({ cls := "MeadowMilk$Ruminant", name := "<init>", desc := "(LMeadowMilk$Trace;II)V" } : Jvm.MethodName)) ∈ lw_all := lw_g (lw_at lw_m2 189 rfl) rfl
theorem q497 : (Jvm.Cond.classLink "MeadowMilk" (34 : Nat) "MeadowMilk$Cow") ∈ lw_all := lw_g (lw_at lw_m2 197 rfl) rfl
theorem q499 : (Jvm.Cond.methodLink "MeadowMilk" (36 : Nat) ({ cls := "MeadowMilk$Cow", name := "<init>", desc := "(LMeadowMilk$Trace;II)V" } : Jvm.MethodName)) ∈ lw_all := lw_g (lw_at lw_m2 199 rfl) rfl
theorem q505 : (Jvm.Cond.instanceMethod ({ cls := "MeadowMilk", name := "ofCow", desc := "(II)I" } : Jvm.MethodName)) ∈ lw_all := lw_g (lw_at lw_m2 205 rfl) rfl
theorem q506 : (Jvm.Cond.selects "MeadowMilk" ({ cls := "MeadowMilk", name := "ofCow", desc := "(II)I" } : Jvm.MethodName) ({ cls := "MeadowMilk", name := "ofCow", desc := "(II)I" } : Jvm.MethodName)) ∈ lw_all := lw_g (lw_at lw_m2 206 rfl) rfl
theorem q507 : (Jvm.Cond.codeWith ({ cls := "MeadowMilk", name := "ofCow", desc := "(II)I" } : Jvm.MethodName) prog_1_method_20_code (4 : Nat) (Option.some Jvm.ClassFile.FieldType.int) [((0 : Nat), (56 : Nat), (110 : Nat), (8 : Nat)), ((57 : Nat), (61 : Nat), (110 : Nat), (8 : Nat)), ((62 : Nat), (71 : Nat), (110 : Nat), (8 : Nat)), ((72 : Nat), (81 : Nat), (110 : Nat), (8 : Nat)), ((82 : Nat), (86 : Nat), (110 : Nat), (8 : Nat)), ((87 : Nat), (91 : Nat), (110 : Nat), (8 : Nat)), ((92 : Nat), (109 : Nat), (110 : Nat), (8 : Nat))]) ∈ lw_all := lw_g (lw_at lw_m2 207 rfl) rfl
theorem q508 : (Jvm.Cond.methodLink "MeadowMilk" (149 : Nat) ({ cls := "MeadowMilk", name := "cowAt", desc := "(IZ)LMeadowMilk$Cow;" } : Jvm.MethodName)) ∈ lw_all := lw_g (lw_at lw_m2 208 rfl) rfl
theorem q509 : (Jvm.Cond.privateMethod ({ cls := "MeadowMilk", name := "cowAt", desc := "(IZ)LMeadowMilk$Cow;" } : Jvm.MethodName)) ∈ lw_tbl := lw_at lw_m2 209 rfl
theorem q510 : (Jvm.Cond.instanceMethod ({ cls := "MeadowMilk", name := "cowAt", desc := "(IZ)LMeadowMilk$Cow;" } : Jvm.MethodName)) ∈ lw_all := lw_g (lw_at lw_m2 210 rfl) rfl
theorem q511 : (Jvm.Cond.code ({ cls := "MeadowMilk", name := "cowAt", desc := "(IZ)LMeadowMilk$Cow;" } : Jvm.MethodName) prog_1_method_19_code (3 : Nat) (Option.some (Jvm.ClassFile.FieldType.object "MeadowMilk$Cow"))) ∈ lw_all := lw_g (lw_at lw_m2 211 rfl) rfl
theorem q512 : (Jvm.Cond.methodLink "MeadowMilk" (146 : Nat) ({ cls := "MeadowMilk", name := "isCow", desc := "(I)Z" } : Jvm.MethodName)) ∈ lw_all := lw_g (lw_at lw_m2 212 rfl) rfl
theorem q513 : (Jvm.Cond.privateMethod ({ cls := "MeadowMilk", name := "isCow", desc := "(I)Z" } : Jvm.MethodName)) ∈ lw_tbl := lw_at lw_m2 213 rfl
theorem q514 : (Jvm.Cond.instanceMethod ({ cls := "MeadowMilk", name := "isCow", desc := "(I)Z" } : Jvm.MethodName)) ∈ lw_all := lw_g (lw_at lw_m2 214 rfl) rfl
theorem q515 : (Jvm.Cond.code ({ cls := "MeadowMilk", name := "isCow", desc := "(I)Z" } : Jvm.MethodName) prog_1_method_8_code (2 : Nat) (Option.some Jvm.ClassFile.FieldType.boolean)) ∈ lw_all := lw_g (lw_at lw_m2 215 rfl) rfl
theorem q516 : (Jvm.Cond.methodLink "MeadowMilk" (153 : Nat) ({ cls := "MeadowMilk$Cow", name := "kind", desc := "()I" } : Jvm.MethodName)) ∈ lw_all := lw_g (lw_at lw_m2 216 rfl) rfl
theorem q539 : (Jvm.Cond.methodLink "MeadowMilk" (160 : Nat) ({ cls := "MeadowMilk$Cow", name := "eaten", desc := "()I" } : Jvm.MethodName)) ∈ lw_all := lw_g (lw_at lw_m2 239 rfl) rfl
theorem q557 : (Jvm.Cond.methodLink "MeadowMilk" (163 : Nat) ({ cls := "MeadowMilk$Cow", name := "span", desc := "()I" } : Jvm.MethodName)) ∈ lw_all := lw_g (lw_at lw_m3 17 rfl) rfl
theorem q574 : (Jvm.Cond.methodLink "MeadowMilk" (166 : Nat) ({ cls := "MeadowMilk$Meadow", name := "wayOf", desc := "(II)I" } : Jvm.MethodName)) ∈ lw_all := lw_g (lw_at lw_m3 34 rfl) rfl
theorem q591 : (Jvm.Cond.static ({ cls := "MeadowMilk", name := "hasBit", desc := "(II)Z" } : Jvm.MethodName)) ∈ lw_all := lw_g (lw_at lw_m3 51 rfl) rfl
theorem q592 : (Jvm.Cond.code ({ cls := "MeadowMilk", name := "hasBit", desc := "(II)Z" } : Jvm.MethodName) prog_1_method_2_code (2 : Nat) (Option.some Jvm.ClassFile.FieldType.boolean)) ∈ lw_all := lw_g (lw_at lw_m3 52 rfl) rfl
theorem q623 : (Jvm.Cond.instanceMethod ({ cls := "MeadowMilk", name := "milk", desc := "(II)I" } : Jvm.MethodName)) ∈ lw_all := lw_g (lw_at lw_m3 83 rfl) rfl
theorem q624 : (Jvm.Cond.selects "MeadowMilk" ({ cls := "MeadowMilk", name := "milk", desc := "(II)I" } : Jvm.MethodName) ({ cls := "MeadowMilk", name := "milk", desc := "(II)I" } : Jvm.MethodName)) ∈ lw_all := lw_g (lw_at lw_m3 84 rfl) rfl
theorem q625 : (Jvm.Cond.codeWith ({ cls := "MeadowMilk", name := "milk", desc := "(II)I" } : Jvm.MethodName) prog_1_method_21_code (4 : Nat) (Option.some Jvm.ClassFile.FieldType.int) [((0 : Nat), (54 : Nat), (55 : Nat), (8 : Nat))]) ∈ lw_all := lw_g (lw_at lw_m3 85 rfl) rfl
theorem q626 : (Jvm.Cond.methodLink "MeadowMilk" (170 : Nat) ({ cls := "MeadowMilk$Meadow", name := "milkAt", desc := "(II)I" } : Jvm.MethodName)) ∈ lw_all := lw_g (lw_at lw_m3 86 rfl) rfl
theorem q628 : (Jvm.Cond.instanceMethod ({ cls := "MeadowMilk", name := "become", desc := "(II)I" } : Jvm.MethodName)) ∈ lw_all := lw_g (lw_at lw_m3 88 rfl) rfl
theorem q629 : (Jvm.Cond.selects "MeadowMilk" ({ cls := "MeadowMilk", name := "become", desc := "(II)I" } : Jvm.MethodName) ({ cls := "MeadowMilk", name := "become", desc := "(II)I" } : Jvm.MethodName)) ∈ lw_all := lw_g (lw_at lw_m3 89 rfl) rfl
theorem q630 : (Jvm.Cond.codeWith ({ cls := "MeadowMilk", name := "become", desc := "(II)I" } : Jvm.MethodName) prog_1_method_22_code (4 : Nat) (Option.some Jvm.ClassFile.FieldType.int) [((0 : Nat), (39 : Nat), (40 : Nat), (8 : Nat))]) ∈ lw_all := lw_g (lw_at lw_m3 90 rfl) rfl
theorem q632 : (Jvm.Cond.instanceMethod ({ cls := "MeadowMilk", name := "as", desc := "(II)I" } : Jvm.MethodName)) ∈ lw_all := lw_g (lw_at lw_m3 92 rfl) rfl
theorem q633 : (Jvm.Cond.selects "MeadowMilk" ({ cls := "MeadowMilk", name := "as", desc := "(II)I" } : Jvm.MethodName) ({ cls := "MeadowMilk", name := "as", desc := "(II)I" } : Jvm.MethodName)) ∈ lw_all := lw_g (lw_at lw_m3 93 rfl) rfl
theorem q634 : (Jvm.Cond.codeWith ({ cls := "MeadowMilk", name := "as", desc := "(II)I" } : Jvm.MethodName) prog_1_method_23_code (4 : Nat) (Option.some Jvm.ClassFile.FieldType.int) [((0 : Nat), (27 : Nat), (28 : Nat), (8 : Nat))]) ∈ lw_all := lw_g (lw_at lw_m3 94 rfl) rfl
theorem q635 : (Jvm.Cond.methodLink "MeadowMilk" (173 : Nat) ({ cls := "MeadowMilk$Cow", name := "isOf", desc := "(I)Z" } : Jvm.MethodName)) ∈ lw_all := lw_g (lw_at lw_m3 95 rfl) rfl
theorem q665 : (Jvm.Cond.instanceMethod ({ cls := "MeadowMilk", name := "put", desc := "(II)I" } : Jvm.MethodName)) ∈ lw_all := lw_g (lw_at lw_m3 125 rfl) rfl
theorem q666 : (Jvm.Cond.selects "MeadowMilk" ({ cls := "MeadowMilk", name := "put", desc := "(II)I" } : Jvm.MethodName) ({ cls := "MeadowMilk", name := "put", desc := "(II)I" } : Jvm.MethodName)) ∈ lw_all := lw_g (lw_at lw_m3 126 rfl) rfl
theorem q667 : (Jvm.Cond.codeWith ({ cls := "MeadowMilk", name := "put", desc := "(II)I" } : Jvm.MethodName) prog_1_method_24_code (4 : Nat) (Option.some Jvm.ClassFile.FieldType.int) [((0 : Nat), (46 : Nat), (47 : Nat), (8 : Nat))]) ∈ lw_all := lw_g (lw_at lw_m3 127 rfl) rfl
theorem q669 : (Jvm.Cond.instanceMethod ({ cls := "MeadowMilk", name := "dry", desc := "(I)I" } : Jvm.MethodName)) ∈ lw_all := lw_g (lw_at lw_m3 129 rfl) rfl
theorem q670 : (Jvm.Cond.selects "MeadowMilk" ({ cls := "MeadowMilk", name := "dry", desc := "(I)I" } : Jvm.MethodName) ({ cls := "MeadowMilk", name := "dry", desc := "(I)I" } : Jvm.MethodName)) ∈ lw_all := lw_g (lw_at lw_m3 130 rfl) rfl
theorem q671 : (Jvm.Cond.codeWith ({ cls := "MeadowMilk", name := "dry", desc := "(I)I" } : Jvm.MethodName) prog_1_method_25_code (3 : Nat) (Option.some Jvm.ClassFile.FieldType.int) [((0 : Nat), (31 : Nat), (32 : Nat), (8 : Nat))]) ∈ lw_all := lw_g (lw_at lw_m3 131 rfl) rfl
theorem q673 : (Jvm.Cond.instanceMethod ({ cls := "MeadowMilk", name := "feed", desc := "(JI)I" } : Jvm.MethodName)) ∈ lw_all := lw_g (lw_at lw_m3 133 rfl) rfl
theorem q674 : (Jvm.Cond.selects "MeadowMilk" ({ cls := "MeadowMilk", name := "feed", desc := "(JI)I" } : Jvm.MethodName) ({ cls := "MeadowMilk", name := "feed", desc := "(JI)I" } : Jvm.MethodName)) ∈ lw_all := lw_g (lw_at lw_m3 134 rfl) rfl
theorem q675 : (Jvm.Cond.codeWith ({ cls := "MeadowMilk", name := "feed", desc := "(JI)I" } : Jvm.MethodName) prog_1_method_26_code (5 : Nat) (Option.some Jvm.ClassFile.FieldType.int) [((0 : Nat), (95 : Nat), (96 : Nat), (8 : Nat))]) ∈ lw_all := lw_g (lw_at lw_m3 135 rfl) rfl
theorem q677 : (Jvm.Cond.instanceMethod ({ cls := "MeadowMilk", name := "text", desc := "(I)I" } : Jvm.MethodName)) ∈ lw_all := lw_g (lw_at lw_m3 137 rfl) rfl
theorem q678 : (Jvm.Cond.selects "MeadowMilk" ({ cls := "MeadowMilk", name := "text", desc := "(I)I" } : Jvm.MethodName) ({ cls := "MeadowMilk", name := "text", desc := "(I)I" } : Jvm.MethodName)) ∈ lw_all := lw_g (lw_at lw_m3 138 rfl) rfl
theorem q679 : (Jvm.Cond.codeWith ({ cls := "MeadowMilk", name := "text", desc := "(I)I" } : Jvm.MethodName) prog_1_method_27_code (3 : Nat) (Option.some Jvm.ClassFile.FieldType.int) [((0 : Nat), (66 : Nat), (67 : Nat), (200 : Nat)), ((0 : Nat), (66 : Nat), (76 : Nat), (8 : Nat))]) ∈ lw_all := lw_g (lw_at lw_m3 139 rfl) rfl
theorem q680 : (Jvm.Cond.classLink "MeadowMilk" (200 : Nat) "MeadowMilk$Fault") ∈ lw_all := lw_g (lw_at lw_m3 140 rfl) rfl
theorem q681 : (Jvm.Cond.classLink "MeadowMilk" (187 : Nat) "MeadowMilk$Reader") ∈ lw_all := lw_g (lw_at lw_m3 141 rfl) rfl
theorem q683 : (Jvm.Cond.stringRef "MeadowMilk" (189 : Nat) "gkd") ∈ lw_tbl := lw_at lw_m3 143 rfl
theorem q684 : (Jvm.Cond.stringRef "MeadowMilk" (191 : Nat) "kan") ∈ lw_tbl := lw_at lw_m3 144 rfl
theorem q685 : (Jvm.Cond.methodLink "MeadowMilk" (193 : Nat) ({ cls := "MeadowMilk$Reader", name := "<init>", desc := "(Ljava/lang/String;[BI)V" } : Jvm.MethodName)) ∈ lw_all := lw_g (lw_at lw_m3 145 rfl) rfl
theorem q705 : (Jvm.Cond.methodLink "MeadowMilk" (196 : Nat) ({ cls := "MeadowMilk$Reader", name := "read", desc := "()LMeadowMilk$Term;" } : Jvm.MethodName)) ∈ lw_all := lw_g (lw_at lw_m3 165 rfl) rfl
theorem q859 : (Jvm.Cond.fieldLinkNest "MeadowMilk" (202 : Nat) "MeadowMilk$Fault" "place" "I" "MeadowMilk") ∈ lw_tbl := lw_at lw_m4 79 rfl
theorem q908 : (Jvm.Cond.instanceMethod ({ cls := "MeadowMilk", name := "law", desc := "(IIII)I" } : Jvm.MethodName)) ∈ lw_all := lw_g (lw_at lw_m4 128 rfl) rfl
theorem q909 : (Jvm.Cond.selects "MeadowMilk" ({ cls := "MeadowMilk", name := "law", desc := "(IIII)I" } : Jvm.MethodName) ({ cls := "MeadowMilk", name := "law", desc := "(IIII)I" } : Jvm.MethodName)) ∈ lw_all := lw_g (lw_at lw_m4 129 rfl) rfl
theorem q910 : (Jvm.Cond.codeWith ({ cls := "MeadowMilk", name := "law", desc := "(IIII)I" } : Jvm.MethodName) prog_1_method_28_code (6 : Nat) (Option.some Jvm.ClassFile.FieldType.int) [((0 : Nat), (40 : Nat), (41 : Nat), (8 : Nat))]) ∈ lw_all := lw_g (lw_at lw_m4 130 rfl) rfl
theorem q911 : (Jvm.Cond.methodLink "MeadowMilk" (205 : Nat) ({ cls := "MeadowMilk$Meadow", name := "drawnBy", desc := "(III)I" } : Jvm.MethodName)) ∈ lw_all := lw_g (lw_at lw_m4 131 rfl) rfl
theorem q912 : (Jvm.Cond.methodLink "MeadowMilk" (209 : Nat) ({ cls := "MeadowMilk$Meadow", name := "tasteBy", desc := "(III)I" } : Jvm.MethodName)) ∈ lw_all := lw_g (lw_at lw_m4 132 rfl) rfl
theorem q917 : (Jvm.Cond.instanceMethod ({ cls := "MeadowMilk", name := "days", desc := "(I)I" } : Jvm.MethodName)) ∈ lw_all := lw_g (lw_at lw_m4 137 rfl) rfl
theorem q918 : (Jvm.Cond.selects "MeadowMilk" ({ cls := "MeadowMilk", name := "days", desc := "(I)I" } : Jvm.MethodName) ({ cls := "MeadowMilk", name := "days", desc := "(I)I" } : Jvm.MethodName)) ∈ lw_all := lw_g (lw_at lw_m4 138 rfl) rfl
theorem q919 : (Jvm.Cond.codeWith ({ cls := "MeadowMilk", name := "days", desc := "(I)I" } : Jvm.MethodName) prog_1_method_29_code (3 : Nat) (Option.some Jvm.ClassFile.FieldType.int) [((0 : Nat), (52 : Nat), (53 : Nat), (8 : Nat))]) ∈ lw_all := lw_g (lw_at lw_m4 139 rfl) rfl
theorem q920 : (Jvm.Cond.methodLink "MeadowMilk" (215 : Nat) ({ cls := "MeadowMilk$Meadow", name := "goes", desc := "(I)V" } : Jvm.MethodName)) ∈ lw_all := lw_g (lw_at lw_m4 140 rfl) rfl
theorem q935 : (Jvm.Cond.methodLink "MeadowMilk" (219 : Nat) ({ cls := "MeadowMilk$Meadow", name := "allGrass", desc := "()I" } : Jvm.MethodName)) ∈ lw_all := lw_g (lw_at lw_m4 155 rfl) rfl
theorem q940 : (Jvm.Cond.instanceMethod ({ cls := "MeadowMilk", name := "loose", desc := "(I)I" } : Jvm.MethodName)) ∈ lw_all := lw_g (lw_at lw_m4 160 rfl) rfl
theorem q941 : (Jvm.Cond.selects "MeadowMilk" ({ cls := "MeadowMilk", name := "loose", desc := "(I)I" } : Jvm.MethodName) ({ cls := "MeadowMilk", name := "loose", desc := "(I)I" } : Jvm.MethodName)) ∈ lw_all := lw_g (lw_at lw_m4 161 rfl) rfl
theorem q942 : (Jvm.Cond.codeWith ({ cls := "MeadowMilk", name := "loose", desc := "(I)I" } : Jvm.MethodName) prog_1_method_30_code (3 : Nat) (Option.some Jvm.ClassFile.FieldType.int) [((0 : Nat), (64 : Nat), (65 : Nat), (8 : Nat))]) ∈ lw_all := lw_g (lw_at lw_m4 162 rfl) rfl
theorem q943 : (Jvm.Cond.methodLink "MeadowMilk" (222 : Nat) ({ cls := "MeadowMilk$Meadow", name := "goesLoose", desc := "()V" } : Jvm.MethodName)) ∈ lw_all := lw_g (lw_at lw_m4 163 rfl) rfl
theorem q953 : (Jvm.Cond.instanceMethod ({ cls := "MeadowMilk", name := "taste", desc := "(II)I" } : Jvm.MethodName)) ∈ lw_all := lw_g (lw_at lw_m4 173 rfl) rfl
theorem q954 : (Jvm.Cond.selects "MeadowMilk" ({ cls := "MeadowMilk", name := "taste", desc := "(II)I" } : Jvm.MethodName) ({ cls := "MeadowMilk", name := "taste", desc := "(II)I" } : Jvm.MethodName)) ∈ lw_all := lw_g (lw_at lw_m4 174 rfl) rfl
theorem q955 : (Jvm.Cond.codeWith ({ cls := "MeadowMilk", name := "taste", desc := "(II)I" } : Jvm.MethodName) prog_1_method_31_code (4 : Nat) (Option.some Jvm.ClassFile.FieldType.int) [((0 : Nat), (34 : Nat), (35 : Nat), (8 : Nat))]) ∈ lw_all := lw_g (lw_at lw_m4 175 rfl) rfl
theorem q956 : (Jvm.Cond.methodLink "MeadowMilk" (225 : Nat) ({ cls := "MeadowMilk", name := "isJug", desc := "(I)Z" } : Jvm.MethodName)) ∈ lw_all := lw_g (lw_at lw_m4 176 rfl) rfl
theorem q957 : (Jvm.Cond.privateMethod ({ cls := "MeadowMilk", name := "isJug", desc := "(I)Z" } : Jvm.MethodName)) ∈ lw_tbl := lw_at lw_m4 177 rfl
theorem q958 : (Jvm.Cond.instanceMethod ({ cls := "MeadowMilk", name := "isJug", desc := "(I)Z" } : Jvm.MethodName)) ∈ lw_all := lw_g (lw_at lw_m4 178 rfl) rfl
theorem q959 : (Jvm.Cond.code ({ cls := "MeadowMilk", name := "isJug", desc := "(I)Z" } : Jvm.MethodName) prog_1_method_9_code (2 : Nat) (Option.some Jvm.ClassFile.FieldType.boolean)) ∈ lw_all := lw_g (lw_at lw_m4 179 rfl) rfl
theorem q960 : (Jvm.Cond.methodLink "MeadowMilk" (228 : Nat) ({ cls := "MeadowMilk$Meadow", name := "taste", desc := "(II)I" } : Jvm.MethodName)) ∈ lw_all := lw_g (lw_at lw_m4 180 rfl) rfl
theorem q972 : (Jvm.Cond.instanceMethod ({ cls := "MeadowMilk", name := "known", desc := "(II)I" } : Jvm.MethodName)) ∈ lw_all := lw_g (lw_at lw_m4 192 rfl) rfl
theorem q973 : (Jvm.Cond.selects "MeadowMilk" ({ cls := "MeadowMilk", name := "known", desc := "(II)I" } : Jvm.MethodName) ({ cls := "MeadowMilk", name := "known", desc := "(II)I" } : Jvm.MethodName)) ∈ lw_all := lw_g (lw_at lw_m4 193 rfl) rfl
theorem q974 : (Jvm.Cond.codeWith ({ cls := "MeadowMilk", name := "known", desc := "(II)I" } : Jvm.MethodName) prog_1_method_32_code (4 : Nat) (Option.some Jvm.ClassFile.FieldType.int) [((0 : Nat), (51 : Nat), (52 : Nat), (8 : Nat))]) ∈ lw_all := lw_g (lw_at lw_m4 194 rfl) rfl
theorem q975 : (Jvm.Cond.methodLink "MeadowMilk" (231 : Nat) ({ cls := "MeadowMilk$Meadow", name := "become", desc := "(LMeadowMilk$Meadow;)LMeadowMilk$Meadow;" } : Jvm.MethodName)) ∈ lw_all := lw_g (lw_at lw_m4 195 rfl) rfl
theorem q982 : (Jvm.Cond.methodLink "MeadowMilk" (235 : Nat) ({ cls := "MeadowMilk$Meadow", name := "known", desc := "(I)I" } : Jvm.MethodName)) ∈ lw_all := lw_g (lw_at lw_m4 202 rfl) rfl
theorem q988 : (Jvm.Cond.instanceMethod ({ cls := "MeadowMilk", name := "comes", desc := "(II)I" } : Jvm.MethodName)) ∈ lw_all := lw_g (lw_at lw_m4 208 rfl) rfl
theorem q989 : (Jvm.Cond.selects "MeadowMilk" ({ cls := "MeadowMilk", name := "comes", desc := "(II)I" } : Jvm.MethodName) ({ cls := "MeadowMilk", name := "comes", desc := "(II)I" } : Jvm.MethodName)) ∈ lw_all := lw_g (lw_at lw_m4 209 rfl) rfl
theorem q990 : (Jvm.Cond.codeWith ({ cls := "MeadowMilk", name := "comes", desc := "(II)I" } : Jvm.MethodName) prog_1_method_34_code (4 : Nat) (Option.some Jvm.ClassFile.FieldType.int) [((0 : Nat), (7 : Nat), (8 : Nat), (8 : Nat))]) ∈ lw_all := lw_g (lw_at lw_m4 210 rfl) rfl
theorem q991 : (Jvm.Cond.methodLink "MeadowMilk" (241 : Nat) ({ cls := "MeadowMilk", name := "firstBy", desc := "(IIZ)I" } : Jvm.MethodName)) ∈ lw_all := lw_g (lw_at lw_m4 211 rfl) rfl
theorem q992 : (Jvm.Cond.privateMethod ({ cls := "MeadowMilk", name := "firstBy", desc := "(IIZ)I" } : Jvm.MethodName)) ∈ lw_tbl := lw_at lw_m4 212 rfl
theorem q993 : (Jvm.Cond.instanceMethod ({ cls := "MeadowMilk", name := "firstBy", desc := "(IIZ)I" } : Jvm.MethodName)) ∈ lw_all := lw_g (lw_at lw_m4 213 rfl) rfl
theorem q994 : (Jvm.Cond.code ({ cls := "MeadowMilk", name := "firstBy", desc := "(IIZ)I" } : Jvm.MethodName) prog_1_method_33_code (5 : Nat) (Option.some Jvm.ClassFile.FieldType.int)) ∈ lw_all := lw_g (lw_at lw_m4 214 rfl) rfl
theorem q995 : (Jvm.Cond.methodLink "MeadowMilk" (238 : Nat) ({ cls := "MeadowMilk$Meadow", name := "passes", desc := "()V" } : Jvm.MethodName)) ∈ lw_all := lw_g (lw_at lw_m4 215 rfl) rfl
theorem q997 : (Jvm.Cond.instanceMethod ({ cls := "MeadowMilk", name := "lost", desc := "(II)I" } : Jvm.MethodName)) ∈ lw_all := lw_g (lw_at lw_m4 217 rfl) rfl
theorem q998 : (Jvm.Cond.selects "MeadowMilk" ({ cls := "MeadowMilk", name := "lost", desc := "(II)I" } : Jvm.MethodName) ({ cls := "MeadowMilk", name := "lost", desc := "(II)I" } : Jvm.MethodName)) ∈ lw_all := lw_g (lw_at lw_m4 218 rfl) rfl
theorem q999 : (Jvm.Cond.codeWith ({ cls := "MeadowMilk", name := "lost", desc := "(II)I" } : Jvm.MethodName) prog_1_method_35_code (4 : Nat) (Option.some Jvm.ClassFile.FieldType.int) [((0 : Nat), (7 : Nat), (8 : Nat), (8 : Nat))]) ∈ lw_all := lw_g (lw_at lw_m4 219 rfl) rfl
theorem q1001 : (Jvm.Cond.instanceMethod ({ cls := "MeadowMilk", name := "least", desc := "(I)I" } : Jvm.MethodName)) ∈ lw_all := lw_g (lw_at lw_m4 221 rfl) rfl
theorem q1002 : (Jvm.Cond.selects "MeadowMilk" ({ cls := "MeadowMilk", name := "least", desc := "(I)I" } : Jvm.MethodName) ({ cls := "MeadowMilk", name := "least", desc := "(I)I" } : Jvm.MethodName)) ∈ lw_all := lw_g (lw_at lw_m4 222 rfl) rfl
theorem q1003 : (Jvm.Cond.codeWith ({ cls := "MeadowMilk", name := "least", desc := "(I)I" } : Jvm.MethodName) prog_1_method_36_code (5 : Nat) (Option.some Jvm.ClassFile.FieldType.int) [((0 : Nat), (98 : Nat), (99 : Nat), (8 : Nat))]) ∈ lw_all := lw_g (lw_at lw_m4 223 rfl) rfl
theorem q1004 : (Jvm.Cond.constant "MeadowMilk" (245 : Nat) (33554431 : Int32)) ∈ lw_all := lw_g (lw_at lw_m4 224 rfl) rfl
theorem q1005 : (Jvm.Cond.methodLink "MeadowMilk" (246 : Nat) ({ cls := "java/lang/Integer", name := "bitCount", desc := "(I)I" } : Jvm.MethodName)) ∈ lw_all := lw_g (lw_at lw_m4 225 rfl) rfl
theorem q1007 : (Jvm.Cond.instanceMethod ({ cls := "MeadowMilk", name := "borders", desc := "(II)I" } : Jvm.MethodName)) ∈ lw_all := lw_g (lw_at lw_m4 227 rfl) rfl
theorem q1008 : (Jvm.Cond.selects "MeadowMilk" ({ cls := "MeadowMilk", name := "borders", desc := "(II)I" } : Jvm.MethodName) ({ cls := "MeadowMilk", name := "borders", desc := "(II)I" } : Jvm.MethodName)) ∈ lw_all := lw_g (lw_at lw_m4 228 rfl) rfl
theorem q1009 : (Jvm.Cond.codeWith ({ cls := "MeadowMilk", name := "borders", desc := "(II)I" } : Jvm.MethodName) prog_1_method_37_code (9 : Nat) (Option.some Jvm.ClassFile.FieldType.int) [((0 : Nat), (143 : Nat), (144 : Nat), (8 : Nat))]) ∈ lw_all := lw_g (lw_at lw_m4 229 rfl) rfl
theorem q1010 : (Jvm.Cond.methodLink "MeadowMilk" (251 : Nat) ({ cls := "MeadowMilk", name := "hasBit", desc := "(II)Z" } : Jvm.MethodName)) ∈ lw_all := lw_g (lw_at lw_m4 230 rfl) rfl
theorem q1011 : (Jvm.Cond.methodLink "MeadowMilk" (255 : Nat) ({ cls := "MeadowMilk$Meadow", name := "next", desc := "(II)I" } : Jvm.MethodName)) ∈ lw_all := lw_g (lw_at lw_m4 231 rfl) rfl
theorem q1013 : (Jvm.Cond.instanceMethod ({ cls := "MeadowMilk", name := "then", desc := "(III)I" } : Jvm.MethodName)) ∈ lw_all := lw_g (lw_at lw_m4 233 rfl) rfl
theorem q1014 : (Jvm.Cond.selects "MeadowMilk" ({ cls := "MeadowMilk", name := "then", desc := "(III)I" } : Jvm.MethodName) ({ cls := "MeadowMilk", name := "then", desc := "(III)I" } : Jvm.MethodName)) ∈ lw_all := lw_g (lw_at lw_m4 234 rfl) rfl
theorem q1015 : (Jvm.Cond.codeWith ({ cls := "MeadowMilk", name := "then", desc := "(III)I" } : Jvm.MethodName) prog_1_method_38_code (5 : Nat) (Option.some Jvm.ClassFile.FieldType.int) [((0 : Nat), (85 : Nat), (86 : Nat), (8 : Nat))]) ∈ lw_all := lw_g (lw_at lw_m4 235 rfl) rfl
theorem q1017 : (Jvm.Cond.instanceMethod ({ cls := "MeadowMilk", name := "walked", desc := "(II)I" } : Jvm.MethodName)) ∈ lw_all := lw_g (lw_at lw_m4 237 rfl) rfl
theorem q1018 : (Jvm.Cond.selects "MeadowMilk" ({ cls := "MeadowMilk", name := "walked", desc := "(II)I" } : Jvm.MethodName) ({ cls := "MeadowMilk", name := "walked", desc := "(II)I" } : Jvm.MethodName)) ∈ lw_all := lw_g (lw_at lw_m4 238 rfl) rfl
theorem q1019 : (Jvm.Cond.codeWith ({ cls := "MeadowMilk", name := "walked", desc := "(II)I" } : Jvm.MethodName) prog_1_method_40_code (8 : Nat) (Option.some Jvm.ClassFile.FieldType.int) [((0 : Nat), (207 : Nat), (208 : Nat), (8 : Nat))]) ∈ lw_all := lw_g (lw_at lw_m4 239 rfl) rfl
theorem q1020 : (Jvm.Cond.methodLink "MeadowMilk" (272 : Nat) ({ cls := "MeadowMilk", name := "isSheet", desc := "(I)Z" } : Jvm.MethodName)) ∈ lw_all := lw_g (lw_at lw_m5 0 rfl) rfl
theorem q1021 : (Jvm.Cond.static ({ cls := "MeadowMilk", name := "isSheet", desc := "(I)Z" } : Jvm.MethodName)) ∈ lw_all := lw_g (lw_at lw_m5 1 rfl) rfl
theorem q1022 : (Jvm.Cond.code ({ cls := "MeadowMilk", name := "isSheet", desc := "(I)Z" } : Jvm.MethodName) prog_1_method_12_code (1 : Nat) (Option.some Jvm.ClassFile.FieldType.boolean)) ∈ lw_all := lw_g (lw_at lw_m5 2 rfl) rfl
theorem q1023 : (Jvm.Cond.methodLink "MeadowMilk" (275 : Nat) ({ cls := "MeadowMilk", name := "sheetAt", desc := "(I)LMeadowMilk$Sheet;" } : Jvm.MethodName)) ∈ lw_all := lw_g (lw_at lw_m5 3 rfl) rfl
theorem q1024 : (Jvm.Cond.privateMethod ({ cls := "MeadowMilk", name := "sheetAt", desc := "(I)LMeadowMilk$Sheet;" } : Jvm.MethodName)) ∈ lw_tbl := lw_at lw_m5 4 rfl
theorem q1025 : (Jvm.Cond.instanceMethod ({ cls := "MeadowMilk", name := "sheetAt", desc := "(I)LMeadowMilk$Sheet;" } : Jvm.MethodName)) ∈ lw_all := lw_g (lw_at lw_m5 5 rfl) rfl
theorem q1026 : (Jvm.Cond.code ({ cls := "MeadowMilk", name := "sheetAt", desc := "(I)LMeadowMilk$Sheet;" } : Jvm.MethodName) prog_1_method_14_code (2 : Nat) (Option.some (Jvm.ClassFile.FieldType.object "MeadowMilk$Sheet"))) ∈ lw_all := lw_g (lw_at lw_m5 6 rfl) rfl
theorem q1027 : (Jvm.Cond.classLink "MeadowMilk" (106 : Nat) "MeadowMilk$Sheet") ∈ lw_all := lw_g (lw_at lw_m5 7 rfl) rfl
theorem q1028 : (Jvm.Cond.methodLink "MeadowMilk" (279 : Nat) ({ cls := "MeadowMilk$Sheet", name := "size", desc := "()I" } : Jvm.MethodName)) ∈ lw_all := lw_g (lw_at lw_m5 8 rfl) rfl
theorem q1040 : (Jvm.Cond.methodLink "MeadowMilk" (282 : Nat) ({ cls := "MeadowMilk$Sheet", name := "get", desc := "(I)I" } : Jvm.MethodName)) ∈ lw_all := lw_g (lw_at lw_m5 20 rfl) rfl
theorem q1052 : (Jvm.Cond.methodLink "MeadowMilk" (285 : Nat) ({ cls := "MeadowMilk", name := "walksBack", desc := "(I)V" } : Jvm.MethodName)) ∈ lw_all := lw_g (lw_at lw_m5 32 rfl) rfl
theorem q1053 : (Jvm.Cond.privateMethod ({ cls := "MeadowMilk", name := "walksBack", desc := "(I)V" } : Jvm.MethodName)) ∈ lw_tbl := lw_at lw_m5 33 rfl
theorem q1054 : (Jvm.Cond.instanceMethod ({ cls := "MeadowMilk", name := "walksBack", desc := "(I)V" } : Jvm.MethodName)) ∈ lw_all := lw_g (lw_at lw_m5 34 rfl) rfl
theorem q1055 : (Jvm.Cond.code ({ cls := "MeadowMilk", name := "walksBack", desc := "(I)V" } : Jvm.MethodName) prog_1_method_39_code (7 : Nat) (Option.none : Option Jvm.ClassFile.FieldType)) ∈ lw_all := lw_g (lw_at lw_m5 35 rfl) rfl
theorem q1056 : (Jvm.Cond.methodLink "MeadowMilk" (258 : Nat) ({ cls := "java/lang/System", name := "arraycopy", desc := "(Ljava/lang/Object;ILjava/lang/Object;II)V" } : Jvm.MethodName)) ∈ lw_all := lw_g (lw_at lw_m5 36 rfl) rfl
theorem q1057 : (Jvm.Cond.constantLong "MeadowMilk" (264 : Nat) (999999 : Int64)) ∈ lw_all := lw_g (lw_at lw_m5 37 rfl) rfl
theorem q1058 : (Jvm.Cond.methodLink "MeadowMilk" (266 : Nat) ({ cls := "java/lang/Math", name := "min", desc := "(JJ)J" } : Jvm.MethodName)) ∈ lw_all := lw_g (lw_at lw_m5 38 rfl) rfl
theorem q1061 : (Jvm.Cond.constant "MeadowMilk" (288 : Nat) (999999 : Int32)) ∈ lw_all := lw_g (lw_at lw_m5 41 rfl) rfl
theorem q1062 : (Jvm.Cond.methodLink "MeadowMilk" (289 : Nat) ({ cls := "java/lang/Math", name := "min", desc := "(II)I" } : Jvm.MethodName)) ∈ lw_all := lw_g (lw_at lw_m5 42 rfl) rfl
theorem q1064 : (Jvm.Cond.instanceMethod ({ cls := "MeadowMilk", name := "well", desc := "(I)I" } : Jvm.MethodName)) ∈ lw_all := lw_g (lw_at lw_m5 44 rfl) rfl
theorem q1065 : (Jvm.Cond.selects "MeadowMilk" ({ cls := "MeadowMilk", name := "well", desc := "(I)I" } : Jvm.MethodName) ({ cls := "MeadowMilk", name := "well", desc := "(I)I" } : Jvm.MethodName)) ∈ lw_all := lw_g (lw_at lw_m5 45 rfl) rfl
theorem q1066 : (Jvm.Cond.codeWith ({ cls := "MeadowMilk", name := "well", desc := "(I)I" } : Jvm.MethodName) prog_1_method_41_code (4 : Nat) (Option.some Jvm.ClassFile.FieldType.int) [((0 : Nat), (65 : Nat), (66 : Nat), (8 : Nat))]) ∈ lw_all := lw_g (lw_at lw_m5 46 rfl) rfl
theorem q1067 : (Jvm.Cond.methodLink "MeadowMilk" (291 : Nat) ({ cls := "MeadowMilk$Meadow", name := "walked", desc := "(I)I" } : Jvm.MethodName)) ∈ lw_all := lw_g (lw_at lw_m5 47 rfl) rfl
theorem q1069 : (Jvm.Cond.instanceMethod ({ cls := "MeadowMilk", name := "hays", desc := "(III)I" } : Jvm.MethodName)) ∈ lw_all := lw_g (lw_at lw_m5 49 rfl) rfl
theorem q1070 : (Jvm.Cond.selects "MeadowMilk" ({ cls := "MeadowMilk", name := "hays", desc := "(III)I" } : Jvm.MethodName) ({ cls := "MeadowMilk", name := "hays", desc := "(III)I" } : Jvm.MethodName)) ∈ lw_all := lw_g (lw_at lw_m5 50 rfl) rfl
theorem q1071 : (Jvm.Cond.codeWith ({ cls := "MeadowMilk", name := "hays", desc := "(III)I" } : Jvm.MethodName) prog_1_method_43_code (5 : Nat) (Option.some Jvm.ClassFile.FieldType.int) [((0 : Nat), (123 : Nat), (124 : Nat), (8 : Nat))]) ∈ lw_all := lw_g (lw_at lw_m5 51 rfl) rfl
theorem q1072 : (Jvm.Cond.methodLink "MeadowMilk" (294 : Nat) ({ cls := "MeadowMilk", name := "leads", desc := "(I)V" } : Jvm.MethodName)) ∈ lw_all := lw_g (lw_at lw_m5 52 rfl) rfl
theorem q1073 : (Jvm.Cond.privateMethod ({ cls := "MeadowMilk", name := "leads", desc := "(I)V" } : Jvm.MethodName)) ∈ lw_tbl := lw_at lw_m5 53 rfl
theorem q1074 : (Jvm.Cond.instanceMethod ({ cls := "MeadowMilk", name := "leads", desc := "(I)V" } : Jvm.MethodName)) ∈ lw_all := lw_g (lw_at lw_m5 54 rfl) rfl
theorem q1075 : (Jvm.Cond.code ({ cls := "MeadowMilk", name := "leads", desc := "(I)V" } : Jvm.MethodName) prog_1_method_42_code (7 : Nat) (Option.none : Option Jvm.ClassFile.FieldType)) ∈ lw_all := lw_g (lw_at lw_m5 55 rfl) rfl
theorem q1077 : (Jvm.Cond.instanceMethod ({ cls := "MeadowMilk", name := "near", desc := "(I)I" } : Jvm.MethodName)) ∈ lw_all := lw_g (lw_at lw_m5 57 rfl) rfl
theorem q1078 : (Jvm.Cond.selects "MeadowMilk" ({ cls := "MeadowMilk", name := "near", desc := "(I)I" } : Jvm.MethodName) ({ cls := "MeadowMilk", name := "near", desc := "(I)I" } : Jvm.MethodName)) ∈ lw_all := lw_g (lw_at lw_m5 58 rfl) rfl
theorem q1079 : (Jvm.Cond.codeWith ({ cls := "MeadowMilk", name := "near", desc := "(I)I" } : Jvm.MethodName) prog_1_method_45_code (4 : Nat) (Option.some Jvm.ClassFile.FieldType.int) [((0 : Nat), (86 : Nat), (87 : Nat), (8 : Nat))]) ∈ lw_all := lw_g (lw_at lw_m5 59 rfl) rfl
theorem q1080 : (Jvm.Cond.methodLink "MeadowMilk" (300 : Nat) ({ cls := "MeadowMilk", name := "far", desc := "(II)I" } : Jvm.MethodName)) ∈ lw_all := lw_g (lw_at lw_m5 60 rfl) rfl
theorem q1081 : (Jvm.Cond.static ({ cls := "MeadowMilk", name := "far", desc := "(II)I" } : Jvm.MethodName)) ∈ lw_all := lw_g (lw_at lw_m5 61 rfl) rfl
theorem q1082 : (Jvm.Cond.code ({ cls := "MeadowMilk", name := "far", desc := "(II)I" } : Jvm.MethodName) prog_1_method_44_code (2 : Nat) (Option.some Jvm.ClassFile.FieldType.int)) ∈ lw_all := lw_g (lw_at lw_m5 62 rfl) rfl
theorem q1083 : (Jvm.Cond.methodLink "MeadowMilk" (297 : Nat) ({ cls := "java/lang/Math", name := "abs", desc := "(I)I" } : Jvm.MethodName)) ∈ lw_all := lw_g (lw_at lw_m5 63 rfl) rfl
theorem q1087 : (Jvm.Cond.instanceMethod ({ cls := "MeadowMilk", name := "seed", desc := "(I)I" } : Jvm.MethodName)) ∈ lw_all := lw_g (lw_at lw_m5 67 rfl) rfl
theorem q1088 : (Jvm.Cond.selects "MeadowMilk" ({ cls := "MeadowMilk", name := "seed", desc := "(I)I" } : Jvm.MethodName) ({ cls := "MeadowMilk", name := "seed", desc := "(I)I" } : Jvm.MethodName)) ∈ lw_all := lw_g (lw_at lw_m5 68 rfl) rfl
theorem q1089 : (Jvm.Cond.code ({ cls := "MeadowMilk", name := "seed", desc := "(I)I" } : Jvm.MethodName) prog_1_method_46_code (3 : Nat) (Option.some Jvm.ClassFile.FieldType.int)) ∈ lw_all := lw_g (lw_at lw_m5 69 rfl) rfl
theorem q1091 : (Jvm.Cond.instanceMethod ({ cls := "MeadowMilk", name := "voice", desc := "(III)I" } : Jvm.MethodName)) ∈ lw_all := lw_g (lw_at lw_m5 71 rfl) rfl
theorem q1092 : (Jvm.Cond.selects "MeadowMilk" ({ cls := "MeadowMilk", name := "voice", desc := "(III)I" } : Jvm.MethodName) ({ cls := "MeadowMilk", name := "voice", desc := "(III)I" } : Jvm.MethodName)) ∈ lw_all := lw_g (lw_at lw_m5 72 rfl) rfl
theorem q1093 : (Jvm.Cond.codeWith ({ cls := "MeadowMilk", name := "voice", desc := "(III)I" } : Jvm.MethodName) prog_1_method_47_code (5 : Nat) (Option.some Jvm.ClassFile.FieldType.int) [((0 : Nat), (56 : Nat), (84 : Nat), (8 : Nat)), ((57 : Nat), (65 : Nat), (84 : Nat), (8 : Nat)), ((66 : Nat), (74 : Nat), (84 : Nat), (8 : Nat)), ((75 : Nat), (83 : Nat), (84 : Nat), (8 : Nat))]) ∈ lw_all := lw_g (lw_at lw_m5 73 rfl) rfl
theorem q1094 : (Jvm.Cond.interfaceEntry "MeadowMilk" (308 : Nat)) ∈ lw_tbl := lw_at lw_m5 74 rfl
theorem q1095 : (Jvm.Cond.methodLink "MeadowMilk" (308 : Nat) ({ cls := "MeadowMilk$Wants", name := "wants", desc := "(I)I" } : Jvm.MethodName)) ∈ lw_all := lw_g (lw_at lw_m5 75 rfl) rfl
theorem q1131 : (Jvm.Cond.interfaceEntry "MeadowMilk" (313 : Nat)) ∈ lw_tbl := lw_at lw_m5 111 rfl
theorem q1132 : (Jvm.Cond.methodLink "MeadowMilk" (313 : Nat) ({ cls := "MeadowMilk$Eats", name := "eats", desc := "(I)I" } : Jvm.MethodName)) ∈ lw_all := lw_g (lw_at lw_m5 112 rfl) rfl
theorem q1177 : (Jvm.Cond.interfaceEntry "MeadowMilk" (318 : Nat)) ∈ lw_tbl := lw_at lw_m5 157 rfl
theorem q1178 : (Jvm.Cond.methodLink "MeadowMilk" (318 : Nat) ({ cls := "MeadowMilk$Knows", name := "knows", desc := "(I)I" } : Jvm.MethodName)) ∈ lw_all := lw_g (lw_at lw_m5 158 rfl) rfl
theorem q1213 : (Jvm.Cond.interfaceEntry "MeadowMilk" (323 : Nat)) ∈ lw_tbl := lw_at lw_m5 193 rfl
theorem q1214 : (Jvm.Cond.methodLink "MeadowMilk" (323 : Nat) ({ cls := "MeadowMilk$Tells", name := "tells", desc := "(I)I" } : Jvm.MethodName)) ∈ lw_all := lw_g (lw_at lw_m5 194 rfl) rfl
theorem q1264 : (Jvm.Cond.instanceMethod ({ cls := "MeadowMilk", name := "trace", desc := "(I)I" } : Jvm.MethodName)) ∈ lw_all := lw_g (lw_at lw_m6 4 rfl) rfl
theorem q1265 : (Jvm.Cond.selects "MeadowMilk" ({ cls := "MeadowMilk", name := "trace", desc := "(I)I" } : Jvm.MethodName) ({ cls := "MeadowMilk", name := "trace", desc := "(I)I" } : Jvm.MethodName)) ∈ lw_all := lw_g (lw_at lw_m6 5 rfl) rfl
theorem q1266 : (Jvm.Cond.codeWith ({ cls := "MeadowMilk", name := "trace", desc := "(I)I" } : Jvm.MethodName) prog_1_method_48_code (3 : Nat) (Option.some Jvm.ClassFile.FieldType.int) [((0 : Nat), (28 : Nat), (29 : Nat), (8 : Nat))]) ∈ lw_all := lw_g (lw_at lw_m6 6 rfl) rfl
theorem q1268 : (Jvm.Cond.instanceMethod ({ cls := "MeadowMilk", name := "marks", desc := "(I)I" } : Jvm.MethodName)) ∈ lw_all := lw_g (lw_at lw_m6 8 rfl) rfl
theorem q1269 : (Jvm.Cond.selects "MeadowMilk" ({ cls := "MeadowMilk", name := "marks", desc := "(I)I" } : Jvm.MethodName) ({ cls := "MeadowMilk", name := "marks", desc := "(I)I" } : Jvm.MethodName)) ∈ lw_all := lw_g (lw_at lw_m6 9 rfl) rfl
theorem q1270 : (Jvm.Cond.codeWith ({ cls := "MeadowMilk", name := "marks", desc := "(I)I" } : Jvm.MethodName) prog_1_method_49_code (4 : Nat) (Option.some Jvm.ClassFile.FieldType.int) [((0 : Nat), (64 : Nat), (65 : Nat), (8 : Nat))]) ∈ lw_all := lw_g (lw_at lw_m6 10 rfl) rfl
theorem q1271 : (Jvm.Cond.methodLink "MeadowMilk" (331 : Nat) ({ cls := "MeadowMilk", name := "isMark", desc := "(I)Z" } : Jvm.MethodName)) ∈ lw_all := lw_g (lw_at lw_m6 11 rfl) rfl
theorem q1272 : (Jvm.Cond.static ({ cls := "MeadowMilk", name := "isMark", desc := "(I)Z" } : Jvm.MethodName)) ∈ lw_all := lw_g (lw_at lw_m6 12 rfl) rfl
theorem q1273 : (Jvm.Cond.code ({ cls := "MeadowMilk", name := "isMark", desc := "(I)Z" } : Jvm.MethodName) prog_1_method_11_code (1 : Nat) (Option.some Jvm.ClassFile.FieldType.boolean)) ∈ lw_all := lw_g (lw_at lw_m6 13 rfl) rfl
theorem q1275 : (Jvm.Cond.instanceMethod ({ cls := "MeadowMilk", name := "judge", desc := "(II)I" } : Jvm.MethodName)) ∈ lw_all := lw_g (lw_at lw_m6 15 rfl) rfl
theorem q1276 : (Jvm.Cond.selects "MeadowMilk" ({ cls := "MeadowMilk", name := "judge", desc := "(II)I" } : Jvm.MethodName) ({ cls := "MeadowMilk", name := "judge", desc := "(II)I" } : Jvm.MethodName)) ∈ lw_all := lw_g (lw_at lw_m6 16 rfl) rfl
theorem q1277 : (Jvm.Cond.codeWith ({ cls := "MeadowMilk", name := "judge", desc := "(II)I" } : Jvm.MethodName) prog_1_method_50_code (5 : Nat) (Option.some Jvm.ClassFile.FieldType.int) [((0 : Nat), (111 : Nat), (112 : Nat), (8 : Nat))]) ∈ lw_all := lw_g (lw_at lw_m6 17 rfl) rfl
theorem q1279 : (Jvm.Cond.instanceMethod ({ cls := "MeadowMilk", name := "sheet", desc := "(III)I" } : Jvm.MethodName)) ∈ lw_all := lw_g (lw_at lw_m6 19 rfl) rfl
theorem q1280 : (Jvm.Cond.selects "MeadowMilk" ({ cls := "MeadowMilk", name := "sheet", desc := "(III)I" } : Jvm.MethodName) ({ cls := "MeadowMilk", name := "sheet", desc := "(III)I" } : Jvm.MethodName)) ∈ lw_all := lw_g (lw_at lw_m6 20 rfl) rfl
theorem q1281 : (Jvm.Cond.codeWith ({ cls := "MeadowMilk", name := "sheet", desc := "(III)I" } : Jvm.MethodName) prog_1_method_51_code (5 : Nat) (Option.some Jvm.ClassFile.FieldType.int) [((0 : Nat), (43 : Nat), (127 : Nat), (8 : Nat)), ((44 : Nat), (126 : Nat), (127 : Nat), (8 : Nat))]) ∈ lw_all := lw_g (lw_at lw_m6 21 rfl) rfl
theorem q1282 : (Jvm.Cond.methodLink "MeadowMilk" (334 : Nat) ({ cls := "MeadowMilk", name := "isWidth", desc := "(I)Z" } : Jvm.MethodName)) ∈ lw_all := lw_g (lw_at lw_m6 22 rfl) rfl
theorem q1283 : (Jvm.Cond.static ({ cls := "MeadowMilk", name := "isWidth", desc := "(I)Z" } : Jvm.MethodName)) ∈ lw_all := lw_g (lw_at lw_m6 23 rfl) rfl
theorem q1284 : (Jvm.Cond.code ({ cls := "MeadowMilk", name := "isWidth", desc := "(I)Z" } : Jvm.MethodName) prog_1_method_13_code (1 : Nat) (Option.some Jvm.ClassFile.FieldType.boolean)) ∈ lw_all := lw_g (lw_at lw_m6 24 rfl) rfl
theorem q1285 : (Jvm.Cond.classLink "MeadowMilk" (337 : Nat) "MeadowMilk$Bytes") ∈ lw_all := lw_g (lw_at lw_m6 25 rfl) rfl
theorem q1287 : (Jvm.Cond.methodLink "MeadowMilk" (339 : Nat) ({ cls := "MeadowMilk$Bytes", name := "<init>", desc := "(I)V" } : Jvm.MethodName)) ∈ lw_all := lw_g (lw_at lw_m6 27 rfl) rfl
theorem q1298 : (Jvm.Cond.classLink "MeadowMilk" (341 : Nat) "MeadowMilk$Shorts") ∈ lw_all := lw_g (lw_at lw_m6 38 rfl) rfl
theorem q1300 : (Jvm.Cond.methodLink "MeadowMilk" (343 : Nat) ({ cls := "MeadowMilk$Shorts", name := "<init>", desc := "(I)V" } : Jvm.MethodName)) ∈ lw_all := lw_g (lw_at lw_m6 40 rfl) rfl
theorem q1309 : (Jvm.Cond.classLink "MeadowMilk" (344 : Nat) "MeadowMilk$Ints") ∈ lw_all := lw_g (lw_at lw_m6 49 rfl) rfl
theorem q1311 : (Jvm.Cond.methodLink "MeadowMilk" (346 : Nat) ({ cls := "MeadowMilk$Ints", name := "<init>", desc := "(I)V" } : Jvm.MethodName)) ∈ lw_all := lw_g (lw_at lw_m6 51 rfl) rfl
theorem q1320 : (Jvm.Cond.instanceMethod ({ cls := "MeadowMilk", name := "write", desc := "(III)I" } : Jvm.MethodName)) ∈ lw_all := lw_g (lw_at lw_m6 60 rfl) rfl
theorem q1321 : (Jvm.Cond.selects "MeadowMilk" ({ cls := "MeadowMilk", name := "write", desc := "(III)I" } : Jvm.MethodName) ({ cls := "MeadowMilk", name := "write", desc := "(III)I" } : Jvm.MethodName)) ∈ lw_all := lw_g (lw_at lw_m6 61 rfl) rfl
theorem q1322 : (Jvm.Cond.codeWith ({ cls := "MeadowMilk", name := "write", desc := "(III)I" } : Jvm.MethodName) prog_1_method_52_code (5 : Nat) (Option.some Jvm.ClassFile.FieldType.int) [((0 : Nat), (41 : Nat), (42 : Nat), (8 : Nat))]) ∈ lw_all := lw_g (lw_at lw_m6 62 rfl) rfl
theorem q1323 : (Jvm.Cond.methodLink "MeadowMilk" (347 : Nat) ({ cls := "MeadowMilk$Sheet", name := "put", desc := "(II)V" } : Jvm.MethodName)) ∈ lw_all := lw_g (lw_at lw_m6 63 rfl) rfl
theorem q1336 : (Jvm.Cond.instanceMethod ({ cls := "MeadowMilk", name := "move", desc := "(IIIII)I" } : Jvm.MethodName)) ∈ lw_all := lw_g (lw_at lw_m6 76 rfl) rfl
theorem q1337 : (Jvm.Cond.selects "MeadowMilk" ({ cls := "MeadowMilk", name := "move", desc := "(IIIII)I" } : Jvm.MethodName) ({ cls := "MeadowMilk", name := "move", desc := "(IIIII)I" } : Jvm.MethodName)) ∈ lw_all := lw_g (lw_at lw_m6 77 rfl) rfl
theorem q1338 : (Jvm.Cond.codeWith ({ cls := "MeadowMilk", name := "move", desc := "(IIIII)I" } : Jvm.MethodName) prog_1_method_53_code (10 : Nat) (Option.some Jvm.ClassFile.FieldType.int) [((0 : Nat), (152 : Nat), (153 : Nat), (8 : Nat))]) ∈ lw_all := lw_g (lw_at lw_m6 78 rfl) rfl
theorem q1339 : (Jvm.Cond.methodLink "MeadowMilk" (351 : Nat) ({ cls := "MeadowMilk$Sheet", name := "width", desc := "()I" } : Jvm.MethodName)) ∈ lw_all := lw_g (lw_at lw_m6 79 rfl) rfl
theorem q1351 : (Jvm.Cond.methodLink "MeadowMilk" (354 : Nat) ({ cls := "MeadowMilk$Sheet", name := "row", desc := "()[I" } : Jvm.MethodName)) ∈ lw_all := lw_g (lw_at lw_m6 91 rfl) rfl
theorem q1361 : (Jvm.Cond.instanceMethod ({ cls := "MeadowMilk", name := "image", desc := "()I" } : Jvm.MethodName)) ∈ lw_all := lw_g (lw_at lw_m6 101 rfl) rfl
theorem q1362 : (Jvm.Cond.selects "MeadowMilk" ({ cls := "MeadowMilk", name := "image", desc := "()I" } : Jvm.MethodName) ({ cls := "MeadowMilk", name := "image", desc := "()I" } : Jvm.MethodName)) ∈ lw_all := lw_g (lw_at lw_m6 102 rfl) rfl
theorem q1363 : (Jvm.Cond.code ({ cls := "MeadowMilk", name := "image", desc := "()I" } : Jvm.MethodName) prog_1_method_54_code (2 : Nat) (Option.some Jvm.ClassFile.FieldType.int)) ∈ lw_all := lw_g (lw_at lw_m6 103 rfl) rfl
theorem q1365 : (Jvm.Cond.instanceMethod ({ cls := "MeadowMilk", name := "restore", desc := "()I" } : Jvm.MethodName)) ∈ lw_all := lw_g (lw_at lw_m6 105 rfl) rfl
theorem q1366 : (Jvm.Cond.selects "MeadowMilk" ({ cls := "MeadowMilk", name := "restore", desc := "()I" } : Jvm.MethodName) ({ cls := "MeadowMilk", name := "restore", desc := "()I" } : Jvm.MethodName)) ∈ lw_all := lw_g (lw_at lw_m6 106 rfl) rfl
theorem q1367 : (Jvm.Cond.codeWith ({ cls := "MeadowMilk", name := "restore", desc := "()I" } : Jvm.MethodName) prog_1_method_55_code (2 : Nat) (Option.some Jvm.ClassFile.FieldType.int) [((0 : Nat), (31 : Nat), (32 : Nat), (8 : Nat))]) ∈ lw_all := lw_g (lw_at lw_m6 107 rfl) rfl
theorem q1369 : (Jvm.Cond.instanceMethod ({ cls := "MeadowMilk", name := "tell", desc := "(I)I" } : Jvm.MethodName)) ∈ lw_all := lw_g (lw_at lw_m6 109 rfl) rfl
theorem q1370 : (Jvm.Cond.selects "MeadowMilk" ({ cls := "MeadowMilk", name := "tell", desc := "(I)I" } : Jvm.MethodName) ({ cls := "MeadowMilk", name := "tell", desc := "(I)I" } : Jvm.MethodName)) ∈ lw_all := lw_g (lw_at lw_m6 110 rfl) rfl
theorem q1371 : (Jvm.Cond.codeWith ({ cls := "MeadowMilk", name := "tell", desc := "(I)I" } : Jvm.MethodName) prog_1_method_56_code (3 : Nat) (Option.some Jvm.ClassFile.FieldType.int) [((0 : Nat), (58 : Nat), (59 : Nat), (8 : Nat))]) ∈ lw_all := lw_g (lw_at lw_m6 111 rfl) rfl
theorem q1373 : (Jvm.Cond.instanceMethod ({ cls := "MeadowMilk", name := "check", desc := "()I" } : Jvm.MethodName)) ∈ lw_all := lw_g (lw_at lw_m6 113 rfl) rfl
theorem q1374 : (Jvm.Cond.selects "MeadowMilk" ({ cls := "MeadowMilk", name := "check", desc := "()I" } : Jvm.MethodName) ({ cls := "MeadowMilk", name := "check", desc := "()I" } : Jvm.MethodName)) ∈ lw_all := lw_g (lw_at lw_m6 114 rfl) rfl
theorem q1375 : (Jvm.Cond.code ({ cls := "MeadowMilk", name := "check", desc := "()I" } : Jvm.MethodName) prog_1_method_57_code (4 : Nat) (Option.some Jvm.ClassFile.FieldType.int)) ∈ lw_all := lw_g (lw_at lw_m6 115 rfl) rfl
theorem q1377 : (Jvm.Cond.instanceMethod ({ cls := "MeadowMilk", name := "count", desc := "(I)I" } : Jvm.MethodName)) ∈ lw_all := lw_g (lw_at lw_m6 117 rfl) rfl
theorem q1378 : (Jvm.Cond.selects "MeadowMilk" ({ cls := "MeadowMilk", name := "count", desc := "(I)I" } : Jvm.MethodName) ({ cls := "MeadowMilk", name := "count", desc := "(I)I" } : Jvm.MethodName)) ∈ lw_all := lw_g (lw_at lw_m6 118 rfl) rfl
theorem q1379 : (Jvm.Cond.codeWith ({ cls := "MeadowMilk", name := "count", desc := "(I)I" } : Jvm.MethodName) prog_1_method_58_code (3 : Nat) (Option.some Jvm.ClassFile.FieldType.int) [((0 : Nat), (63 : Nat), (120 : Nat), (8 : Nat)), ((64 : Nat), (71 : Nat), (120 : Nat), (8 : Nat)), ((72 : Nat), (79 : Nat), (120 : Nat), (8 : Nat)), ((80 : Nat), (87 : Nat), (120 : Nat), (8 : Nat)), ((88 : Nat), (95 : Nat), (120 : Nat), (8 : Nat)), ((96 : Nat), (103 : Nat), (120 : Nat), (8 : Nat)), ((104 : Nat), (111 : Nat), (120 : Nat), (8 : Nat)), ((112 : Nat), (119 : Nat), (120 : Nat), (8 : Nat))]) ∈ lw_all := lw_g (lw_at lw_m6 119 rfl) rfl
theorem q1381 : (Jvm.Cond.instanceMethod ({ cls := "MeadowMilk", name := "told", desc := "(I)I" } : Jvm.MethodName)) ∈ lw_all := lw_g (lw_at lw_m6 121 rfl) rfl
theorem q1382 : (Jvm.Cond.selects "MeadowMilk" ({ cls := "MeadowMilk", name := "told", desc := "(I)I" } : Jvm.MethodName) ({ cls := "MeadowMilk", name := "told", desc := "(I)I" } : Jvm.MethodName)) ∈ lw_all := lw_g (lw_at lw_m6 122 rfl) rfl
theorem q1383 : (Jvm.Cond.codeWith ({ cls := "MeadowMilk", name := "told", desc := "(I)I" } : Jvm.MethodName) prog_1_method_59_code (3 : Nat) (Option.some Jvm.ClassFile.FieldType.int) [((0 : Nat), (17 : Nat), (18 : Nat), (8 : Nat))]) ∈ lw_all := lw_g (lw_at lw_m6 123 rfl) rfl
theorem in_X0 : ∀ w ∈ wsX00, w ∈ lw_all := lw_in wsX00 [298, 300, 302, 304, 306, 308, 310, 312, 314, 316, 318, 320] (by decide +kernel) (by decide +kernel)
