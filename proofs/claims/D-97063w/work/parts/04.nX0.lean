/-! LevelCellars -/
set_option maxRecDepth 100000
def RX0 : String := "LevelCellars"
def TX0 : u_T := fun k => match k with
  | 0 => ("LevelCellars", "going", "[I", true)
  | 1 => ("LevelCellars", "now", "LLevelCellars$Town;", false)
  | 2 => ("LevelCellars", "spare", "LLevelCellars$Town;", true)
  | 3 => ("LevelCellars", "image", "LLevelCellars$Town;", true)
  | 4 => ("LevelCellars", "hasImage", "Z", false)
  | 5 => ("LevelCellars", "named", "[I", true)
  | 6 => ("LevelCellars", "tape", "[B", true)
  | 7 => ("LevelCellars", "taped", "I", false)
  | 8 => ("LevelCellars", "token", "I", false)
  | 9 => ("LevelCellars", "begin", "I", false)
  | 10 => ("LevelCellars", "behind", "I", false)
  | 11 => ("LevelCellars", "value", "I", false)
  | 12 => ("LevelCellars", "parens", "I", false)
  | 13 => ("LevelCellars", "nots", "I", false)
  | 14 => ("LevelCellars", "words", "I", false)
  | 15 => ("LevelCellars", "key", "I", false)
  | 16 => ("LevelCellars", "sheets", "[LLevelCellars$Holder;", true)
  | 17 => ("LevelCellars", "slots", "[LLevelCellars$Holder;", true)
  | 18 => ("LevelCellars", "waits", "[I", true)
  | 19 => ("LevelCellars", "waiting", "I", false)
  | 20 => ("LevelCellars", "asked", "I", false)
  | _ => ("LevelCellars", "isLike", "Z", false)
def tyX0 : Nat → FieldType := fun k => match k with
  | 0 => .array .int
  | 1 => .object "LevelCellars$Town"
  | 2 => .object "LevelCellars$Town"
  | 3 => .object "LevelCellars$Town"
  | 4 => .boolean
  | 5 => .array .int
  | 6 => .array .byte
  | 7 => .int
  | 8 => .int
  | 9 => .int
  | 10 => .int
  | 11 => .int
  | 12 => .int
  | 13 => .int
  | 14 => .int
  | 15 => .int
  | 16 => .array (.object "LevelCellars$Holder")
  | 17 => .array (.object "LevelCellars$Holder")
  | 18 => .array .int
  | 19 => .int
  | 20 => .int
  | _ => .boolean
abbrev wsX00 : List Cond := u_ws RX0 TX0 22
set_option maxRecDepth 100000 in
theorem nmX0 : ∀ a, a < 22 → ∀ b, b < 22 → a ≠ b → (TX0 a).2.1 ≠ (TX0 b).2.1 := by decide +kernel
set_option maxRecDepth 100000 in
theorem tyX0_ok : ∀ k, k < 22 → parseFieldDescriptor (TX0 k).2.2.1 = some (tyX0 k) := by decide +kernel
abbrev cX0_init : ByteArray := prog_1_method_7_code
def yX0_init : MethodName := ⟨RX0, "<init>", "()V"⟩
def dkwX0_init_5 : List UInt8 := [162, 0, 22, 42, 180, 0, 81, 27, 187, 0, 75, 89, 183, 0, 87, 83, 132, 1, 1, 167, 255, 235, 177]
abbrev dktX0_init_5 : List UInt8 := dkwX0_init_5 ++ []
def dkwX0_init_4 : List UInt8 := [180, 0, 77, 27, 187, 0, 75, 89, 183, 0, 87, 83, 132, 1, 1, 167, 255, 235, 3, 60, 27, 8]
abbrev dktX0_init_4 : List UInt8 := dkwX0_init_4 ++ dktX0_init_5
def dkwX0_init_3 : List UInt8 := [42, 8, 189, 0, 75, 181, 0, 81, 42, 16, 60, 188, 10, 181, 0, 84, 3, 60, 27, 7, 162, 0, 22, 42]
abbrev dktX0_init_3 : List UInt8 := dkwX0_init_3 ++ dktX0_init_4
def dkwX0_init_2 : List UInt8 := [17, 0, 128, 188, 10, 181, 0, 68, 42, 16, 96, 188, 8, 181, 0, 71, 42, 7, 189, 0, 75, 181, 0, 77]
abbrev dktX0_init_2 : List UInt8 := dkwX0_init_2 ++ dktX0_init_3
def dkwX0_init_1 : List UInt8 := [187, 0, 55, 89, 42, 183, 0, 57, 181, 0, 62, 42, 187, 0, 55, 89, 42, 183, 0, 57, 181, 0, 65, 42]
abbrev dktX0_init_1 : List UInt8 := dkwX0_init_1 ++ dktX0_init_2
def dkwX0_init_0 : List UInt8 := [42, 183, 0, 46, 42, 6, 188, 10, 181, 0, 51, 42, 187, 0, 55, 89, 42, 183, 0, 57, 181, 0, 58, 42]
abbrev dktX0_init_0 : List UInt8 := dkwX0_init_0 ++ dktX0_init_1
theorem dksX0_init_0 : cX0_init.data.toList.drop 0 = dktX0_init_0 := by decide +kernel
theorem dksX0_init_1 : cX0_init.data.toList.drop 24 = dktX0_init_1 := dk_seg dksX0_init_0 24 rfl rfl
theorem dksX0_init_2 : cX0_init.data.toList.drop 48 = dktX0_init_2 := dk_seg dksX0_init_1 24 rfl rfl
theorem dksX0_init_3 : cX0_init.data.toList.drop 72 = dktX0_init_3 := dk_seg dksX0_init_2 24 rfl rfl
theorem dksX0_init_4 : cX0_init.data.toList.drop 96 = dktX0_init_4 := dk_seg dksX0_init_3 24 rfl rfl
theorem dksX0_init_5 : cX0_init.data.toList.drop 118 = dktX0_init_5 := dk_seg dksX0_init_4 22 rfl rfl
theorem dX0_init_0 : decode cX0_init 0 = .ok (.aload_n 0, 1) := dk_42 (dk_at dksX0_init_0 0 rfl rfl)
theorem dX0_init_1 : decode cX0_init 1 = .ok (.invokespecial 46, 3) := dk_183 0 46 (dk_at dksX0_init_0 1 rfl rfl)
theorem dX0_init_4 : decode cX0_init 4 = .ok (.aload_n 0, 1) := dk_42 (dk_at dksX0_init_0 4 rfl rfl)
theorem dX0_init_5 : decode cX0_init 5 = .ok (.iconst 3, 1) := dk_6 (dk_at dksX0_init_0 5 rfl rfl)
theorem dX0_init_6 : decode cX0_init 6 = .ok (.newarray .int, 2) := dk_188_10 (dk_at dksX0_init_0 6 rfl rfl)
theorem dX0_init_8 : decode cX0_init 8 = .ok (.putfield 51, 3) := dk_181 0 51 (dk_at dksX0_init_0 8 rfl rfl)
theorem dX0_init_11 : decode cX0_init 11 = .ok (.aload_n 0, 1) := dk_42 (dk_at dksX0_init_0 11 rfl rfl)
theorem dX0_init_12 : decode cX0_init 12 = .ok (.new 55, 3) := dk_187 0 55 (dk_at dksX0_init_0 12 rfl rfl)
theorem dX0_init_15 : decode cX0_init 15 = .ok (.dup, 1) := dk_89 (dk_at dksX0_init_0 15 rfl rfl)
theorem dX0_init_16 : decode cX0_init 16 = .ok (.aload_n 0, 1) := dk_42 (dk_at dksX0_init_0 16 rfl rfl)
theorem dX0_init_17 : decode cX0_init 17 = .ok (.invokespecial 57, 3) := dk_183 0 57 (dk_at dksX0_init_0 17 rfl rfl)
theorem dX0_init_20 : decode cX0_init 20 = .ok (.putfield 58, 3) := dk_181 0 58 (dk_at dksX0_init_0 20 rfl rfl)
theorem dX0_init_23 : decode cX0_init 23 = .ok (.aload_n 0, 1) := dk_42 (dk_at dksX0_init_0 23 rfl rfl)
theorem dX0_init_24 : decode cX0_init 24 = .ok (.new 55, 3) := dk_187 0 55 (dk_at dksX0_init_1 0 rfl rfl)
theorem dX0_init_27 : decode cX0_init 27 = .ok (.dup, 1) := dk_89 (dk_at dksX0_init_1 3 rfl rfl)
theorem dX0_init_28 : decode cX0_init 28 = .ok (.aload_n 0, 1) := dk_42 (dk_at dksX0_init_1 4 rfl rfl)
theorem dX0_init_29 : decode cX0_init 29 = .ok (.invokespecial 57, 3) := dk_183 0 57 (dk_at dksX0_init_1 5 rfl rfl)
theorem dX0_init_32 : decode cX0_init 32 = .ok (.putfield 62, 3) := dk_181 0 62 (dk_at dksX0_init_1 8 rfl rfl)
theorem dX0_init_35 : decode cX0_init 35 = .ok (.aload_n 0, 1) := dk_42 (dk_at dksX0_init_1 11 rfl rfl)
theorem dX0_init_36 : decode cX0_init 36 = .ok (.new 55, 3) := dk_187 0 55 (dk_at dksX0_init_1 12 rfl rfl)
theorem dX0_init_39 : decode cX0_init 39 = .ok (.dup, 1) := dk_89 (dk_at dksX0_init_1 15 rfl rfl)
theorem dX0_init_40 : decode cX0_init 40 = .ok (.aload_n 0, 1) := dk_42 (dk_at dksX0_init_1 16 rfl rfl)
theorem dX0_init_41 : decode cX0_init 41 = .ok (.invokespecial 57, 3) := dk_183 0 57 (dk_at dksX0_init_1 17 rfl rfl)
theorem dX0_init_44 : decode cX0_init 44 = .ok (.putfield 65, 3) := dk_181 0 65 (dk_at dksX0_init_1 20 rfl rfl)
theorem dX0_init_47 : decode cX0_init 47 = .ok (.aload_n 0, 1) := dk_42 (dk_at dksX0_init_1 23 rfl rfl)
theorem dX0_init_48 : decode cX0_init 48 = .ok (.sipush 128, 3) := dk_17 0 128 (dk_at dksX0_init_2 0 rfl rfl)
theorem dX0_init_51 : decode cX0_init 51 = .ok (.newarray .int, 2) := dk_188_10 (dk_at dksX0_init_2 3 rfl rfl)
theorem dX0_init_53 : decode cX0_init 53 = .ok (.putfield 68, 3) := dk_181 0 68 (dk_at dksX0_init_2 5 rfl rfl)
theorem dX0_init_56 : decode cX0_init 56 = .ok (.aload_n 0, 1) := dk_42 (dk_at dksX0_init_2 8 rfl rfl)
theorem dX0_init_57 : decode cX0_init 57 = .ok (.bipush 96, 2) := dk_16 96 (dk_at dksX0_init_2 9 rfl rfl)
theorem dX0_init_59 : decode cX0_init 59 = .ok (.newarray .byte, 2) := dk_188_8 (dk_at dksX0_init_2 11 rfl rfl)
theorem dX0_init_61 : decode cX0_init 61 = .ok (.putfield 71, 3) := dk_181 0 71 (dk_at dksX0_init_2 13 rfl rfl)
theorem dX0_init_64 : decode cX0_init 64 = .ok (.aload_n 0, 1) := dk_42 (dk_at dksX0_init_2 16 rfl rfl)
theorem dX0_init_65 : decode cX0_init 65 = .ok (.iconst 4, 1) := dk_7 (dk_at dksX0_init_2 17 rfl rfl)
theorem dX0_init_66 : decode cX0_init 66 = .ok (.anewarray 75, 3) := dk_189 0 75 (dk_at dksX0_init_2 18 rfl rfl)
theorem dX0_init_69 : decode cX0_init 69 = .ok (.putfield 77, 3) := dk_181 0 77 (dk_at dksX0_init_2 21 rfl rfl)
theorem dX0_init_72 : decode cX0_init 72 = .ok (.aload_n 0, 1) := dk_42 (dk_at dksX0_init_3 0 rfl rfl)
theorem dX0_init_73 : decode cX0_init 73 = .ok (.iconst 5, 1) := dk_8 (dk_at dksX0_init_3 1 rfl rfl)
theorem dX0_init_74 : decode cX0_init 74 = .ok (.anewarray 75, 3) := dk_189 0 75 (dk_at dksX0_init_3 2 rfl rfl)
theorem dX0_init_77 : decode cX0_init 77 = .ok (.putfield 81, 3) := dk_181 0 81 (dk_at dksX0_init_3 5 rfl rfl)
theorem dX0_init_80 : decode cX0_init 80 = .ok (.aload_n 0, 1) := dk_42 (dk_at dksX0_init_3 8 rfl rfl)
theorem dX0_init_81 : decode cX0_init 81 = .ok (.bipush 60, 2) := dk_16 60 (dk_at dksX0_init_3 9 rfl rfl)
theorem dX0_init_83 : decode cX0_init 83 = .ok (.newarray .int, 2) := dk_188_10 (dk_at dksX0_init_3 11 rfl rfl)
theorem dX0_init_85 : decode cX0_init 85 = .ok (.putfield 84, 3) := dk_181 0 84 (dk_at dksX0_init_3 13 rfl rfl)
theorem dX0_init_88 : decode cX0_init 88 = .ok (.iconst 0, 1) := dk_3 (dk_at dksX0_init_3 16 rfl rfl)
theorem dX0_init_89 : decode cX0_init 89 = .ok (.istore_n 1, 1) := dk_60 (dk_at dksX0_init_3 17 rfl rfl)
theorem dX0_init_90 : decode cX0_init 90 = .ok (.iload_n 1, 1) := dk_27 (dk_at dksX0_init_3 18 rfl rfl)
theorem dX0_init_91 : decode cX0_init 91 = .ok (.iconst 4, 1) := dk_7 (dk_at dksX0_init_3 19 rfl rfl)
theorem dX0_init_92 : decode cX0_init 92 = .ok (.if_icmp .ge 22, 3) := dk_162 0 22 (dk_at dksX0_init_3 20 rfl rfl)
theorem dX0_init_95 : decode cX0_init 95 = .ok (.aload_n 0, 1) := dk_42 (dk_at dksX0_init_3 23 rfl rfl)
theorem dX0_init_96 : decode cX0_init 96 = .ok (.getfield 77, 3) := dk_180 0 77 (dk_at dksX0_init_4 0 rfl rfl)
theorem dX0_init_99 : decode cX0_init 99 = .ok (.iload_n 1, 1) := dk_27 (dk_at dksX0_init_4 3 rfl rfl)
theorem dX0_init_100 : decode cX0_init 100 = .ok (.new 75, 3) := dk_187 0 75 (dk_at dksX0_init_4 4 rfl rfl)
theorem dX0_init_103 : decode cX0_init 103 = .ok (.dup, 1) := dk_89 (dk_at dksX0_init_4 7 rfl rfl)
theorem dX0_init_104 : decode cX0_init 104 = .ok (.invokespecial 87, 3) := dk_183 0 87 (dk_at dksX0_init_4 8 rfl rfl)
theorem dX0_init_107 : decode cX0_init 107 = .ok (.aastore, 1) := dk_83 (dk_at dksX0_init_4 11 rfl rfl)
theorem dX0_init_108 : decode cX0_init 108 = .ok (.iinc 1 1, 3) := dk_132 1 1 (dk_at dksX0_init_4 12 rfl rfl)
theorem dX0_init_111 : decode cX0_init 111 = .ok (.goto (-21), 3) := dk_167 255 235 (dk_at dksX0_init_4 15 rfl rfl)
theorem dX0_init_114 : decode cX0_init 114 = .ok (.iconst 0, 1) := dk_3 (dk_at dksX0_init_4 18 rfl rfl)
theorem dX0_init_115 : decode cX0_init 115 = .ok (.istore_n 1, 1) := dk_60 (dk_at dksX0_init_4 19 rfl rfl)
theorem dX0_init_116 : decode cX0_init 116 = .ok (.iload_n 1, 1) := dk_27 (dk_at dksX0_init_4 20 rfl rfl)
theorem dX0_init_117 : decode cX0_init 117 = .ok (.iconst 5, 1) := dk_8 (dk_at dksX0_init_4 21 rfl rfl)
theorem dX0_init_118 : decode cX0_init 118 = .ok (.if_icmp .ge 22, 3) := dk_162 0 22 (dk_at dksX0_init_5 0 rfl rfl)
theorem dX0_init_121 : decode cX0_init 121 = .ok (.aload_n 0, 1) := dk_42 (dk_at dksX0_init_5 3 rfl rfl)
theorem dX0_init_122 : decode cX0_init 122 = .ok (.getfield 81, 3) := dk_180 0 81 (dk_at dksX0_init_5 4 rfl rfl)
theorem dX0_init_125 : decode cX0_init 125 = .ok (.iload_n 1, 1) := dk_27 (dk_at dksX0_init_5 7 rfl rfl)
theorem dX0_init_126 : decode cX0_init 126 = .ok (.new 75, 3) := dk_187 0 75 (dk_at dksX0_init_5 8 rfl rfl)
theorem dX0_init_129 : decode cX0_init 129 = .ok (.dup, 1) := dk_89 (dk_at dksX0_init_5 11 rfl rfl)
theorem dX0_init_130 : decode cX0_init 130 = .ok (.invokespecial 87, 3) := dk_183 0 87 (dk_at dksX0_init_5 12 rfl rfl)
theorem dX0_init_133 : decode cX0_init 133 = .ok (.aastore, 1) := dk_83 (dk_at dksX0_init_5 15 rfl rfl)
theorem dX0_init_134 : decode cX0_init 134 = .ok (.iinc 1 1, 3) := dk_132 1 1 (dk_at dksX0_init_5 16 rfl rfl)
theorem dX0_init_137 : decode cX0_init 137 = .ok (.goto (-21), 3) := dk_167 255 235 (dk_at dksX0_init_5 19 rfl rfl)
theorem dX0_init_140 : decode cX0_init 140 = .ok (.return_, 1) := dk_177 (dk_at dksX0_init_5 22 rfl rfl)
abbrev cX0_cellar : ByteArray := prog_1_method_12_code
def yX0_cellar : MethodName := ⟨RX0, "cellar", "(III)I"⟩
def dkwX0_cellar_3 : List UInt8 := [172]
abbrev dktX0_cellar_3 : List UInt8 := dkwX0_cellar_3 ++ []
def dkwX0_cellar_2 : List UInt8 := [160, 0, 6, 18, 110, 172, 42, 27, 28, 29, 182, 0, 111, 58, 4, 42, 180, 0, 58, 180, 0, 92, 4, 100]
abbrev dktX0_cellar_2 : List UInt8 := dkwX0_cellar_2 ++ dktX0_cellar_3
def dkwX0_cellar_1 : List UInt8 := [29, 133, 10, 20, 0, 107, 184, 0, 96, 154, 0, 6, 18, 109, 172, 42, 180, 0, 58, 180, 0, 92, 16, 8]
abbrev dktX0_cellar_1 : List UInt8 := dkwX0_cellar_1 ++ dktX0_cellar_2
def dkwX0_cellar_0 : List UInt8 := [27, 133, 9, 20, 0, 105, 184, 0, 96, 153, 0, 27, 28, 133, 9, 20, 0, 107, 184, 0, 96, 153, 0, 15]
abbrev dktX0_cellar_0 : List UInt8 := dkwX0_cellar_0 ++ dktX0_cellar_1
theorem dksX0_cellar_0 : cX0_cellar.data.toList.drop 0 = dktX0_cellar_0 := by decide +kernel
theorem dksX0_cellar_1 : cX0_cellar.data.toList.drop 24 = dktX0_cellar_1 := dk_seg dksX0_cellar_0 24 rfl rfl
theorem dksX0_cellar_2 : cX0_cellar.data.toList.drop 48 = dktX0_cellar_2 := dk_seg dksX0_cellar_1 24 rfl rfl
theorem dksX0_cellar_3 : cX0_cellar.data.toList.drop 72 = dktX0_cellar_3 := dk_seg dksX0_cellar_2 24 rfl rfl
theorem dX0_cellar_0 : decode cX0_cellar 0 = .ok (.iload_n 1, 1) := dk_27 (dk_at dksX0_cellar_0 0 rfl rfl)
theorem dX0_cellar_1 : decode cX0_cellar 1 = .ok (.i2l, 1) := dk_133 (dk_at dksX0_cellar_0 1 rfl rfl)
theorem dX0_cellar_2 : decode cX0_cellar 2 = .ok (.lconst 0, 1) := dk_9 (dk_at dksX0_cellar_0 2 rfl rfl)
theorem dX0_cellar_3 : decode cX0_cellar 3 = .ok (.ldc2_w 105, 3) := dk_20 0 105 (dk_at dksX0_cellar_0 3 rfl rfl)
theorem dX0_cellar_6 : decode cX0_cellar 6 = .ok (.invokestatic 96, 3) := dk_184 0 96 (dk_at dksX0_cellar_0 6 rfl rfl)
theorem dX0_cellar_9 : decode cX0_cellar 9 = .ok (.ifCond .eq 27, 3) := dk_153 0 27 (dk_at dksX0_cellar_0 9 rfl rfl)
theorem dX0_cellar_12 : decode cX0_cellar 12 = .ok (.iload_n 2, 1) := dk_28 (dk_at dksX0_cellar_0 12 rfl rfl)
theorem dX0_cellar_13 : decode cX0_cellar 13 = .ok (.i2l, 1) := dk_133 (dk_at dksX0_cellar_0 13 rfl rfl)
theorem dX0_cellar_14 : decode cX0_cellar 14 = .ok (.lconst 0, 1) := dk_9 (dk_at dksX0_cellar_0 14 rfl rfl)
theorem dX0_cellar_15 : decode cX0_cellar 15 = .ok (.ldc2_w 107, 3) := dk_20 0 107 (dk_at dksX0_cellar_0 15 rfl rfl)
theorem dX0_cellar_18 : decode cX0_cellar 18 = .ok (.invokestatic 96, 3) := dk_184 0 96 (dk_at dksX0_cellar_0 18 rfl rfl)
theorem dX0_cellar_21 : decode cX0_cellar 21 = .ok (.ifCond .eq 15, 3) := dk_153 0 15 (dk_at dksX0_cellar_0 21 rfl rfl)
theorem dX0_cellar_24 : decode cX0_cellar 24 = .ok (.iload_n 3, 1) := dk_29 (dk_at dksX0_cellar_1 0 rfl rfl)
theorem dX0_cellar_25 : decode cX0_cellar 25 = .ok (.i2l, 1) := dk_133 (dk_at dksX0_cellar_1 1 rfl rfl)
theorem dX0_cellar_26 : decode cX0_cellar 26 = .ok (.lconst 1, 1) := dk_10 (dk_at dksX0_cellar_1 2 rfl rfl)
theorem dX0_cellar_27 : decode cX0_cellar 27 = .ok (.ldc2_w 107, 3) := dk_20 0 107 (dk_at dksX0_cellar_1 3 rfl rfl)
theorem dX0_cellar_30 : decode cX0_cellar 30 = .ok (.invokestatic 96, 3) := dk_184 0 96 (dk_at dksX0_cellar_1 6 rfl rfl)
theorem dX0_cellar_33 : decode cX0_cellar 33 = .ok (.ifCond .ne 6, 3) := dk_154 0 6 (dk_at dksX0_cellar_1 9 rfl rfl)
theorem dX0_cellar_36 : decode cX0_cellar 36 = .ok (.ldc 109, 2) := dk_18 109 (dk_at dksX0_cellar_1 12 rfl rfl)
theorem dX0_cellar_38 : decode cX0_cellar 38 = .ok (.ireturn, 1) := dk_172 (dk_at dksX0_cellar_1 14 rfl rfl)
theorem dX0_cellar_39 : decode cX0_cellar 39 = .ok (.aload_n 0, 1) := dk_42 (dk_at dksX0_cellar_1 15 rfl rfl)
theorem dX0_cellar_40 : decode cX0_cellar 40 = .ok (.getfield 58, 3) := dk_180 0 58 (dk_at dksX0_cellar_1 16 rfl rfl)
theorem dX0_cellar_43 : decode cX0_cellar 43 = .ok (.getfield 92, 3) := dk_180 0 92 (dk_at dksX0_cellar_1 19 rfl rfl)
theorem dX0_cellar_46 : decode cX0_cellar 46 = .ok (.bipush 8, 2) := dk_16 8 (dk_at dksX0_cellar_1 22 rfl rfl)
theorem dX0_cellar_48 : decode cX0_cellar 48 = .ok (.if_icmp .ne 6, 3) := dk_160 0 6 (dk_at dksX0_cellar_2 0 rfl rfl)
theorem dX0_cellar_51 : decode cX0_cellar 51 = .ok (.ldc 110, 2) := dk_18 110 (dk_at dksX0_cellar_2 3 rfl rfl)
theorem dX0_cellar_53 : decode cX0_cellar 53 = .ok (.ireturn, 1) := dk_172 (dk_at dksX0_cellar_2 5 rfl rfl)
theorem dX0_cellar_54 : decode cX0_cellar 54 = .ok (.aload_n 0, 1) := dk_42 (dk_at dksX0_cellar_2 6 rfl rfl)
theorem dX0_cellar_55 : decode cX0_cellar 55 = .ok (.iload_n 1, 1) := dk_27 (dk_at dksX0_cellar_2 7 rfl rfl)
theorem dX0_cellar_56 : decode cX0_cellar 56 = .ok (.iload_n 2, 1) := dk_28 (dk_at dksX0_cellar_2 8 rfl rfl)
theorem dX0_cellar_57 : decode cX0_cellar 57 = .ok (.iload_n 3, 1) := dk_29 (dk_at dksX0_cellar_2 9 rfl rfl)
theorem dX0_cellar_58 : decode cX0_cellar 58 = .ok (.invokevirtual 111, 3) := dk_182 0 111 (dk_at dksX0_cellar_2 10 rfl rfl)
theorem dX0_cellar_61 : decode cX0_cellar 61 = .ok (.astore 4, 2) := dk_58 4 (dk_at dksX0_cellar_2 13 rfl rfl)
theorem dX0_cellar_63 : decode cX0_cellar 63 = .ok (.aload_n 0, 1) := dk_42 (dk_at dksX0_cellar_2 15 rfl rfl)
theorem dX0_cellar_64 : decode cX0_cellar 64 = .ok (.getfield 58, 3) := dk_180 0 58 (dk_at dksX0_cellar_2 16 rfl rfl)
theorem dX0_cellar_67 : decode cX0_cellar 67 = .ok (.getfield 92, 3) := dk_180 0 92 (dk_at dksX0_cellar_2 19 rfl rfl)
theorem dX0_cellar_70 : decode cX0_cellar 70 = .ok (.iconst 1, 1) := dk_4 (dk_at dksX0_cellar_2 22 rfl rfl)
theorem dX0_cellar_71 : decode cX0_cellar 71 = .ok (.isub, 1) := dk_100 (dk_at dksX0_cellar_2 23 rfl rfl)
theorem dX0_cellar_72 : decode cX0_cellar 72 = .ok (.ireturn, 1) := dk_172 (dk_at dksX0_cellar_3 0 rfl rfl)
abbrev cX0_isIn : ByteArray := prog_1_method_1_code
def yX0_isIn : MethodName := ⟨RX0, "isIn", "(JJJ)Z"⟩
def dkwX0_isIn_0 : List UInt8 := [30, 32, 148, 155, 0, 14, 30, 22, 4, 148, 157, 0, 7, 4, 167, 0, 4, 3, 172]
abbrev dktX0_isIn_0 : List UInt8 := dkwX0_isIn_0 ++ []
theorem dksX0_isIn_0 : cX0_isIn.data.toList.drop 0 = dktX0_isIn_0 := by decide +kernel
theorem dX0_isIn_0 : decode cX0_isIn 0 = .ok (.lload_n 0, 1) := dk_30 (dk_at dksX0_isIn_0 0 rfl rfl)
theorem dX0_isIn_1 : decode cX0_isIn 1 = .ok (.lload_n 2, 1) := dk_32 (dk_at dksX0_isIn_0 1 rfl rfl)
theorem dX0_isIn_2 : decode cX0_isIn 2 = .ok (.lcmp, 1) := dk_148 (dk_at dksX0_isIn_0 2 rfl rfl)
theorem dX0_isIn_3 : decode cX0_isIn 3 = .ok (.ifCond .lt 14, 3) := dk_155 0 14 (dk_at dksX0_isIn_0 3 rfl rfl)
theorem dX0_isIn_6 : decode cX0_isIn 6 = .ok (.lload_n 0, 1) := dk_30 (dk_at dksX0_isIn_0 6 rfl rfl)
theorem dX0_isIn_7 : decode cX0_isIn 7 = .ok (.lload 4, 2) := dk_22 4 (dk_at dksX0_isIn_0 7 rfl rfl)
theorem dX0_isIn_9 : decode cX0_isIn 9 = .ok (.lcmp, 1) := dk_148 (dk_at dksX0_isIn_0 9 rfl rfl)
theorem dX0_isIn_10 : decode cX0_isIn 10 = .ok (.ifCond .gt 7, 3) := dk_157 0 7 (dk_at dksX0_isIn_0 10 rfl rfl)
theorem dX0_isIn_13 : decode cX0_isIn 13 = .ok (.iconst 1, 1) := dk_4 (dk_at dksX0_isIn_0 13 rfl rfl)
theorem dX0_isIn_14 : decode cX0_isIn 14 = .ok (.goto 4, 3) := dk_167 0 4 (dk_at dksX0_isIn_0 14 rfl rfl)
theorem dX0_isIn_17 : decode cX0_isIn 17 = .ok (.iconst 0, 1) := dk_3 (dk_at dksX0_isIn_0 17 rfl rfl)
theorem dX0_isIn_18 : decode cX0_isIn 18 = .ok (.ireturn, 1) := dk_172 (dk_at dksX0_isIn_0 18 rfl rfl)
abbrev cX0_comes : ByteArray := prog_1_method_13_code
def yX0_comes : MethodName := ⟨RX0, "comes", "(III)LLevelCellars$Cellar;"⟩
def dkwX0_comes_2 : List UInt8 := [181, 0, 92, 25, 4, 176]
abbrev dktX0_comes_2 : List UInt8 := dkwX0_comes_2 ++ []
def dkwX0_comes_1 : List UInt8 := [180, 0, 121, 42, 180, 0, 58, 180, 0, 92, 25, 4, 83, 42, 180, 0, 58, 89, 180, 0, 92, 4, 96]
abbrev dktX0_comes_1 : List UInt8 := dkwX0_comes_1 ++ dktX0_comes_2
def dkwX0_comes_0 : List UInt8 := [42, 27, 182, 0, 38, 58, 4, 25, 4, 28, 181, 0, 115, 25, 4, 29, 181, 0, 118, 42, 180, 0, 58]
abbrev dktX0_comes_0 : List UInt8 := dkwX0_comes_0 ++ dktX0_comes_1
theorem dksX0_comes_0 : cX0_comes.data.toList.drop 0 = dktX0_comes_0 := by decide +kernel
theorem dksX0_comes_1 : cX0_comes.data.toList.drop 23 = dktX0_comes_1 := dk_seg dksX0_comes_0 23 rfl rfl
theorem dksX0_comes_2 : cX0_comes.data.toList.drop 46 = dktX0_comes_2 := dk_seg dksX0_comes_1 23 rfl rfl
theorem dX0_comes_0 : decode cX0_comes 0 = .ok (.aload_n 0, 1) := dk_42 (dk_at dksX0_comes_0 0 rfl rfl)
theorem dX0_comes_1 : decode cX0_comes 1 = .ok (.iload_n 1, 1) := dk_27 (dk_at dksX0_comes_0 1 rfl rfl)
theorem dX0_comes_2 : decode cX0_comes 2 = .ok (.invokevirtual 38, 3) := dk_182 0 38 (dk_at dksX0_comes_0 2 rfl rfl)
theorem dX0_comes_5 : decode cX0_comes 5 = .ok (.astore 4, 2) := dk_58 4 (dk_at dksX0_comes_0 5 rfl rfl)
theorem dX0_comes_7 : decode cX0_comes 7 = .ok (.aload 4, 2) := dk_25 4 (dk_at dksX0_comes_0 7 rfl rfl)
theorem dX0_comes_9 : decode cX0_comes 9 = .ok (.iload_n 2, 1) := dk_28 (dk_at dksX0_comes_0 9 rfl rfl)
theorem dX0_comes_10 : decode cX0_comes 10 = .ok (.putfield 115, 3) := dk_181 0 115 (dk_at dksX0_comes_0 10 rfl rfl)
theorem dX0_comes_13 : decode cX0_comes 13 = .ok (.aload 4, 2) := dk_25 4 (dk_at dksX0_comes_0 13 rfl rfl)
theorem dX0_comes_15 : decode cX0_comes 15 = .ok (.iload_n 3, 1) := dk_29 (dk_at dksX0_comes_0 15 rfl rfl)
theorem dX0_comes_16 : decode cX0_comes 16 = .ok (.putfield 118, 3) := dk_181 0 118 (dk_at dksX0_comes_0 16 rfl rfl)
theorem dX0_comes_19 : decode cX0_comes 19 = .ok (.aload_n 0, 1) := dk_42 (dk_at dksX0_comes_0 19 rfl rfl)
theorem dX0_comes_20 : decode cX0_comes 20 = .ok (.getfield 58, 3) := dk_180 0 58 (dk_at dksX0_comes_0 20 rfl rfl)
theorem dX0_comes_23 : decode cX0_comes 23 = .ok (.getfield 121, 3) := dk_180 0 121 (dk_at dksX0_comes_1 0 rfl rfl)
theorem dX0_comes_26 : decode cX0_comes 26 = .ok (.aload_n 0, 1) := dk_42 (dk_at dksX0_comes_1 3 rfl rfl)
theorem dX0_comes_27 : decode cX0_comes 27 = .ok (.getfield 58, 3) := dk_180 0 58 (dk_at dksX0_comes_1 4 rfl rfl)
theorem dX0_comes_30 : decode cX0_comes 30 = .ok (.getfield 92, 3) := dk_180 0 92 (dk_at dksX0_comes_1 7 rfl rfl)
theorem dX0_comes_33 : decode cX0_comes 33 = .ok (.aload 4, 2) := dk_25 4 (dk_at dksX0_comes_1 10 rfl rfl)
theorem dX0_comes_35 : decode cX0_comes 35 = .ok (.aastore, 1) := dk_83 (dk_at dksX0_comes_1 12 rfl rfl)
theorem dX0_comes_36 : decode cX0_comes 36 = .ok (.aload_n 0, 1) := dk_42 (dk_at dksX0_comes_1 13 rfl rfl)
theorem dX0_comes_37 : decode cX0_comes 37 = .ok (.getfield 58, 3) := dk_180 0 58 (dk_at dksX0_comes_1 14 rfl rfl)
theorem dX0_comes_40 : decode cX0_comes 40 = .ok (.dup, 1) := dk_89 (dk_at dksX0_comes_1 17 rfl rfl)
theorem dX0_comes_41 : decode cX0_comes 41 = .ok (.getfield 92, 3) := dk_180 0 92 (dk_at dksX0_comes_1 18 rfl rfl)
theorem dX0_comes_44 : decode cX0_comes 44 = .ok (.iconst 1, 1) := dk_4 (dk_at dksX0_comes_1 21 rfl rfl)
theorem dX0_comes_45 : decode cX0_comes 45 = .ok (.iadd, 1) := dk_96 (dk_at dksX0_comes_1 22 rfl rfl)
theorem dX0_comes_46 : decode cX0_comes 46 = .ok (.putfield 92, 3) := dk_181 0 92 (dk_at dksX0_comes_2 0 rfl rfl)
theorem dX0_comes_49 : decode cX0_comes 49 = .ok (.aload 4, 2) := dk_25 4 (dk_at dksX0_comes_2 3 rfl rfl)
theorem dX0_comes_51 : decode cX0_comes 51 = .ok (.areturn, 1) := dk_176 (dk_at dksX0_comes_2 5 rfl rfl)
abbrev cX0_made : ByteArray := prog_1_method_5_code
def yX0_made : MethodName := ⟨RX0, "made", "(I)LLevelCellars$Cellar;"⟩
def dkwX0_made_4 : List UInt8 := [187, 0, 31, 89, 42, 183, 0, 33, 176]
abbrev dktX0_made_4 : List UInt8 := dkwX0_made_4 ++ []
def dkwX0_made_3 : List UInt8 := [183, 0, 24, 176, 187, 0, 25, 89, 42, 183, 0, 27, 176, 187, 0, 28, 89, 42, 183, 0, 30, 176]
abbrev dktX0_made_3 : List UInt8 := dkwX0_made_3 ++ dktX0_made_4
def dkwX0_made_2 : List UInt8 := [187, 0, 13, 89, 42, 183, 0, 15, 176, 187, 0, 19, 89, 42, 183, 0, 21, 176, 187, 0, 22, 89, 42]
abbrev dktX0_made_2 : List UInt8 := dkwX0_made_2 ++ dktX0_made_3
def dkwX0_made_1 : List UInt8 := [170, 0, 0, 0, 0, 0, 80, 0, 0, 0, 0, 0, 0, 0, 4, 0, 0, 0, 35, 0, 0, 0, 44, 0, 0, 0, 53, 0, 0, 0, 62, 0, 0, 0, 71]
abbrev dktX0_made_1 : List UInt8 := dkwX0_made_1 ++ dktX0_made_2
def dkwX0_made_0 : List UInt8 := [27]
abbrev dktX0_made_0 : List UInt8 := dkwX0_made_0 ++ dktX0_made_1
theorem dksX0_made_0 : cX0_made.data.toList.drop 0 = dktX0_made_0 := by decide +kernel
theorem dksX0_made_1 : cX0_made.data.toList.drop 1 = dktX0_made_1 := dk_seg dksX0_made_0 1 rfl rfl
theorem dksX0_made_2 : cX0_made.data.toList.drop 36 = dktX0_made_2 := dk_seg dksX0_made_1 35 rfl rfl
theorem dksX0_made_3 : cX0_made.data.toList.drop 59 = dktX0_made_3 := dk_seg dksX0_made_2 23 rfl rfl
theorem dksX0_made_4 : cX0_made.data.toList.drop 81 = dktX0_made_4 := dk_seg dksX0_made_3 22 rfl rfl
theorem dX0_made_0 : decode cX0_made 0 = .ok (.iload_n 1, 1) := dk_27 (dk_at dksX0_made_0 0 rfl rfl)
theorem dX0_made_1 : decode cX0_made 1 = .ok (.tableswitch 80 0 4 #[35, 44, 53, 62, 71], 35) := by decide +kernel
theorem dX0_made_36 : decode cX0_made 36 = .ok (.new 13, 3) := dk_187 0 13 (dk_at dksX0_made_2 0 rfl rfl)
theorem dX0_made_39 : decode cX0_made 39 = .ok (.dup, 1) := dk_89 (dk_at dksX0_made_2 3 rfl rfl)
theorem dX0_made_40 : decode cX0_made 40 = .ok (.aload_n 0, 1) := dk_42 (dk_at dksX0_made_2 4 rfl rfl)
theorem dX0_made_41 : decode cX0_made 41 = .ok (.invokespecial 15, 3) := dk_183 0 15 (dk_at dksX0_made_2 5 rfl rfl)
theorem dX0_made_44 : decode cX0_made 44 = .ok (.areturn, 1) := dk_176 (dk_at dksX0_made_2 8 rfl rfl)
theorem dX0_made_45 : decode cX0_made 45 = .ok (.new 19, 3) := dk_187 0 19 (dk_at dksX0_made_2 9 rfl rfl)
theorem dX0_made_48 : decode cX0_made 48 = .ok (.dup, 1) := dk_89 (dk_at dksX0_made_2 12 rfl rfl)
theorem dX0_made_49 : decode cX0_made 49 = .ok (.aload_n 0, 1) := dk_42 (dk_at dksX0_made_2 13 rfl rfl)
theorem dX0_made_50 : decode cX0_made 50 = .ok (.invokespecial 21, 3) := dk_183 0 21 (dk_at dksX0_made_2 14 rfl rfl)
theorem dX0_made_53 : decode cX0_made 53 = .ok (.areturn, 1) := dk_176 (dk_at dksX0_made_2 17 rfl rfl)
theorem dX0_made_54 : decode cX0_made 54 = .ok (.new 22, 3) := dk_187 0 22 (dk_at dksX0_made_2 18 rfl rfl)
theorem dX0_made_57 : decode cX0_made 57 = .ok (.dup, 1) := dk_89 (dk_at dksX0_made_2 21 rfl rfl)
theorem dX0_made_58 : decode cX0_made 58 = .ok (.aload_n 0, 1) := dk_42 (dk_at dksX0_made_2 22 rfl rfl)
theorem dX0_made_59 : decode cX0_made 59 = .ok (.invokespecial 24, 3) := dk_183 0 24 (dk_at dksX0_made_3 0 rfl rfl)
theorem dX0_made_62 : decode cX0_made 62 = .ok (.areturn, 1) := dk_176 (dk_at dksX0_made_3 3 rfl rfl)
theorem dX0_made_63 : decode cX0_made 63 = .ok (.new 25, 3) := dk_187 0 25 (dk_at dksX0_made_3 4 rfl rfl)
theorem dX0_made_66 : decode cX0_made 66 = .ok (.dup, 1) := dk_89 (dk_at dksX0_made_3 7 rfl rfl)
theorem dX0_made_67 : decode cX0_made 67 = .ok (.aload_n 0, 1) := dk_42 (dk_at dksX0_made_3 8 rfl rfl)
theorem dX0_made_68 : decode cX0_made 68 = .ok (.invokespecial 27, 3) := dk_183 0 27 (dk_at dksX0_made_3 9 rfl rfl)
theorem dX0_made_71 : decode cX0_made 71 = .ok (.areturn, 1) := dk_176 (dk_at dksX0_made_3 12 rfl rfl)
theorem dX0_made_72 : decode cX0_made 72 = .ok (.new 28, 3) := dk_187 0 28 (dk_at dksX0_made_3 13 rfl rfl)
theorem dX0_made_75 : decode cX0_made 75 = .ok (.dup, 1) := dk_89 (dk_at dksX0_made_3 16 rfl rfl)
theorem dX0_made_76 : decode cX0_made 76 = .ok (.aload_n 0, 1) := dk_42 (dk_at dksX0_made_3 17 rfl rfl)
theorem dX0_made_77 : decode cX0_made 77 = .ok (.invokespecial 30, 3) := dk_183 0 30 (dk_at dksX0_made_3 18 rfl rfl)
theorem dX0_made_80 : decode cX0_made 80 = .ok (.areturn, 1) := dk_176 (dk_at dksX0_made_3 21 rfl rfl)
theorem dX0_made_81 : decode cX0_made 81 = .ok (.new 31, 3) := dk_187 0 31 (dk_at dksX0_made_4 0 rfl rfl)
theorem dX0_made_84 : decode cX0_made 84 = .ok (.dup, 1) := dk_89 (dk_at dksX0_made_4 3 rfl rfl)
theorem dX0_made_85 : decode cX0_made 85 = .ok (.aload_n 0, 1) := dk_42 (dk_at dksX0_made_4 4 rfl rfl)
theorem dX0_made_86 : decode cX0_made 86 = .ok (.invokespecial 33, 3) := dk_183 0 33 (dk_at dksX0_made_4 5 rfl rfl)
theorem dX0_made_89 : decode cX0_made 89 = .ok (.areturn, 1) := dk_176 (dk_at dksX0_made_4 8 rfl rfl)
abbrev cX0_told : ByteArray := prog_1_method_14_code
def yX0_told : MethodName := ⟨RX0, "told", "(II)I"⟩
def dkwX0_told_4 : List UInt8 := [46, 172, 18, 109, 172]
abbrev dktX0_told_4 : List UInt8 := dkwX0_told_4 ++ []
def dkwX0_told_3 : List UInt8 := [172, 45, 182, 0, 135, 172, 45, 182, 0, 138, 172, 45, 182, 0, 141, 172, 45, 180, 0, 144, 28, 16, 8, 100]
abbrev dktX0_told_3 : List UInt8 := dkwX0_told_3 ++ dktX0_told_4
def dkwX0_told_2 : List UInt8 := [45, 182, 0, 34, 172, 45, 180, 0, 115, 172, 45, 180, 0, 118, 172, 45, 182, 0, 129, 172, 45, 182, 0, 132]
abbrev dktX0_told_2 : List UInt8 := dkwX0_told_2 ++ dktX0_told_3
def dkwX0_told_1 : List UInt8 := [170, 0, 0, 0, 0, 108, 0, 0, 0, 0, 0, 0, 0, 10, 0, 0, 0, 58, 0, 0, 0, 63, 0, 0, 0, 68, 0, 0, 0, 73, 0, 0, 0, 78, 0, 0, 0, 83, 0, 0, 0, 88, 0, 0, 0, 93, 0, 0, 0, 98, 0, 0, 0, 98, 0, 0, 0, 98]
abbrev dktX0_told_1 : List UInt8 := dkwX0_told_1 ++ dktX0_told_2
def dkwX0_told_0 : List UInt8 := [42, 27, 182, 0, 125, 154, 0, 6, 18, 109, 172, 42, 180, 0, 58, 180, 0, 121, 27, 50, 78, 28]
abbrev dktX0_told_0 : List UInt8 := dkwX0_told_0 ++ dktX0_told_1
theorem dksX0_told_0 : cX0_told.data.toList.drop 0 = dktX0_told_0 := by decide +kernel
theorem dksX0_told_1 : cX0_told.data.toList.drop 22 = dktX0_told_1 := dk_seg dksX0_told_0 22 rfl rfl
theorem dksX0_told_2 : cX0_told.data.toList.drop 80 = dktX0_told_2 := dk_seg dksX0_told_1 58 rfl rfl
theorem dksX0_told_3 : cX0_told.data.toList.drop 104 = dktX0_told_3 := dk_seg dksX0_told_2 24 rfl rfl
theorem dksX0_told_4 : cX0_told.data.toList.drop 128 = dktX0_told_4 := dk_seg dksX0_told_3 24 rfl rfl
theorem dX0_told_0 : decode cX0_told 0 = .ok (.aload_n 0, 1) := dk_42 (dk_at dksX0_told_0 0 rfl rfl)
theorem dX0_told_1 : decode cX0_told 1 = .ok (.iload_n 1, 1) := dk_27 (dk_at dksX0_told_0 1 rfl rfl)
theorem dX0_told_2 : decode cX0_told 2 = .ok (.invokevirtual 125, 3) := dk_182 0 125 (dk_at dksX0_told_0 2 rfl rfl)
theorem dX0_told_5 : decode cX0_told 5 = .ok (.ifCond .ne 6, 3) := dk_154 0 6 (dk_at dksX0_told_0 5 rfl rfl)
theorem dX0_told_8 : decode cX0_told 8 = .ok (.ldc 109, 2) := dk_18 109 (dk_at dksX0_told_0 8 rfl rfl)
theorem dX0_told_10 : decode cX0_told 10 = .ok (.ireturn, 1) := dk_172 (dk_at dksX0_told_0 10 rfl rfl)
theorem dX0_told_11 : decode cX0_told 11 = .ok (.aload_n 0, 1) := dk_42 (dk_at dksX0_told_0 11 rfl rfl)
theorem dX0_told_12 : decode cX0_told 12 = .ok (.getfield 58, 3) := dk_180 0 58 (dk_at dksX0_told_0 12 rfl rfl)
theorem dX0_told_15 : decode cX0_told 15 = .ok (.getfield 121, 3) := dk_180 0 121 (dk_at dksX0_told_0 15 rfl rfl)
theorem dX0_told_18 : decode cX0_told 18 = .ok (.iload_n 1, 1) := dk_27 (dk_at dksX0_told_0 18 rfl rfl)
theorem dX0_told_19 : decode cX0_told 19 = .ok (.aaload, 1) := dk_50 (dk_at dksX0_told_0 19 rfl rfl)
theorem dX0_told_20 : decode cX0_told 20 = .ok (.astore_n 3, 1) := dk_78 (dk_at dksX0_told_0 20 rfl rfl)
theorem dX0_told_21 : decode cX0_told 21 = .ok (.iload_n 2, 1) := dk_28 (dk_at dksX0_told_0 21 rfl rfl)
theorem dX0_told_22 : decode cX0_told 22 = .ok (.tableswitch 108 0 10 #[58, 63, 68, 73, 78, 83, 88, 93, 98, 98, 98], 58) := by decide +kernel
theorem dX0_told_80 : decode cX0_told 80 = .ok (.aload_n 3, 1) := dk_45 (dk_at dksX0_told_2 0 rfl rfl)
theorem dX0_told_81 : decode cX0_told 81 = .ok (.invokevirtual 34, 3) := dk_182 0 34 (dk_at dksX0_told_2 1 rfl rfl)
theorem dX0_told_84 : decode cX0_told 84 = .ok (.ireturn, 1) := dk_172 (dk_at dksX0_told_2 4 rfl rfl)
theorem dX0_told_85 : decode cX0_told 85 = .ok (.aload_n 3, 1) := dk_45 (dk_at dksX0_told_2 5 rfl rfl)
theorem dX0_told_86 : decode cX0_told 86 = .ok (.getfield 115, 3) := dk_180 0 115 (dk_at dksX0_told_2 6 rfl rfl)
theorem dX0_told_89 : decode cX0_told 89 = .ok (.ireturn, 1) := dk_172 (dk_at dksX0_told_2 9 rfl rfl)
theorem dX0_told_90 : decode cX0_told 90 = .ok (.aload_n 3, 1) := dk_45 (dk_at dksX0_told_2 10 rfl rfl)
theorem dX0_told_91 : decode cX0_told 91 = .ok (.getfield 118, 3) := dk_180 0 118 (dk_at dksX0_told_2 11 rfl rfl)
theorem dX0_told_94 : decode cX0_told 94 = .ok (.ireturn, 1) := dk_172 (dk_at dksX0_told_2 14 rfl rfl)
theorem dX0_told_95 : decode cX0_told 95 = .ok (.aload_n 3, 1) := dk_45 (dk_at dksX0_told_2 15 rfl rfl)
theorem dX0_told_96 : decode cX0_told 96 = .ok (.invokevirtual 129, 3) := dk_182 0 129 (dk_at dksX0_told_2 16 rfl rfl)
theorem dX0_told_99 : decode cX0_told 99 = .ok (.ireturn, 1) := dk_172 (dk_at dksX0_told_2 19 rfl rfl)
theorem dX0_told_100 : decode cX0_told 100 = .ok (.aload_n 3, 1) := dk_45 (dk_at dksX0_told_2 20 rfl rfl)
theorem dX0_told_101 : decode cX0_told 101 = .ok (.invokevirtual 132, 3) := dk_182 0 132 (dk_at dksX0_told_2 21 rfl rfl)
theorem dX0_told_104 : decode cX0_told 104 = .ok (.ireturn, 1) := dk_172 (dk_at dksX0_told_3 0 rfl rfl)
theorem dX0_told_105 : decode cX0_told 105 = .ok (.aload_n 3, 1) := dk_45 (dk_at dksX0_told_3 1 rfl rfl)
theorem dX0_told_106 : decode cX0_told 106 = .ok (.invokevirtual 135, 3) := dk_182 0 135 (dk_at dksX0_told_3 2 rfl rfl)
theorem dX0_told_109 : decode cX0_told 109 = .ok (.ireturn, 1) := dk_172 (dk_at dksX0_told_3 5 rfl rfl)
theorem dX0_told_110 : decode cX0_told 110 = .ok (.aload_n 3, 1) := dk_45 (dk_at dksX0_told_3 6 rfl rfl)
theorem dX0_told_111 : decode cX0_told 111 = .ok (.invokevirtual 138, 3) := dk_182 0 138 (dk_at dksX0_told_3 7 rfl rfl)
theorem dX0_told_114 : decode cX0_told 114 = .ok (.ireturn, 1) := dk_172 (dk_at dksX0_told_3 10 rfl rfl)
theorem dX0_told_115 : decode cX0_told 115 = .ok (.aload_n 3, 1) := dk_45 (dk_at dksX0_told_3 11 rfl rfl)
theorem dX0_told_116 : decode cX0_told 116 = .ok (.invokevirtual 141, 3) := dk_182 0 141 (dk_at dksX0_told_3 12 rfl rfl)
theorem dX0_told_119 : decode cX0_told 119 = .ok (.ireturn, 1) := dk_172 (dk_at dksX0_told_3 15 rfl rfl)
theorem dX0_told_120 : decode cX0_told 120 = .ok (.aload_n 3, 1) := dk_45 (dk_at dksX0_told_3 16 rfl rfl)
theorem dX0_told_121 : decode cX0_told 121 = .ok (.getfield 144, 3) := dk_180 0 144 (dk_at dksX0_told_3 17 rfl rfl)
theorem dX0_told_124 : decode cX0_told 124 = .ok (.iload_n 2, 1) := dk_28 (dk_at dksX0_told_3 20 rfl rfl)
theorem dX0_told_125 : decode cX0_told 125 = .ok (.bipush 8, 2) := dk_16 8 (dk_at dksX0_told_3 21 rfl rfl)
theorem dX0_told_127 : decode cX0_told 127 = .ok (.isub, 1) := dk_100 (dk_at dksX0_told_3 23 rfl rfl)
theorem dX0_told_128 : decode cX0_told 128 = .ok (.iaload, 1) := dk_46 (dk_at dksX0_told_4 0 rfl rfl)
theorem dX0_told_129 : decode cX0_told 129 = .ok (.ireturn, 1) := dk_172 (dk_at dksX0_told_4 1 rfl rfl)
theorem dX0_told_130 : decode cX0_told 130 = .ok (.ldc 109, 2) := dk_18 109 (dk_at dksX0_told_4 2 rfl rfl)
theorem dX0_told_132 : decode cX0_told 132 = .ok (.ireturn, 1) := dk_172 (dk_at dksX0_told_4 4 rfl rfl)
abbrev cX0_isCellar : ByteArray := prog_1_method_9_code
def yX0_isCellar : MethodName := ⟨RX0, "isCellar", "(I)Z"⟩
def dkwX0_isCellar_0 : List UInt8 := [27, 133, 9, 42, 180, 0, 58, 180, 0, 92, 4, 100, 133, 184, 0, 96, 172]
abbrev dktX0_isCellar_0 : List UInt8 := dkwX0_isCellar_0 ++ []
theorem dksX0_isCellar_0 : cX0_isCellar.data.toList.drop 0 = dktX0_isCellar_0 := by decide +kernel
theorem dX0_isCellar_0 : decode cX0_isCellar 0 = .ok (.iload_n 1, 1) := dk_27 (dk_at dksX0_isCellar_0 0 rfl rfl)
theorem dX0_isCellar_1 : decode cX0_isCellar 1 = .ok (.i2l, 1) := dk_133 (dk_at dksX0_isCellar_0 1 rfl rfl)
theorem dX0_isCellar_2 : decode cX0_isCellar 2 = .ok (.lconst 0, 1) := dk_9 (dk_at dksX0_isCellar_0 2 rfl rfl)
theorem dX0_isCellar_3 : decode cX0_isCellar 3 = .ok (.aload_n 0, 1) := dk_42 (dk_at dksX0_isCellar_0 3 rfl rfl)
theorem dX0_isCellar_4 : decode cX0_isCellar 4 = .ok (.getfield 58, 3) := dk_180 0 58 (dk_at dksX0_isCellar_0 4 rfl rfl)
theorem dX0_isCellar_7 : decode cX0_isCellar 7 = .ok (.getfield 92, 3) := dk_180 0 92 (dk_at dksX0_isCellar_0 7 rfl rfl)
theorem dX0_isCellar_10 : decode cX0_isCellar 10 = .ok (.iconst 1, 1) := dk_4 (dk_at dksX0_isCellar_0 10 rfl rfl)
theorem dX0_isCellar_11 : decode cX0_isCellar 11 = .ok (.isub, 1) := dk_100 (dk_at dksX0_isCellar_0 11 rfl rfl)
theorem dX0_isCellar_12 : decode cX0_isCellar 12 = .ok (.i2l, 1) := dk_133 (dk_at dksX0_isCellar_0 12 rfl rfl)
theorem dX0_isCellar_13 : decode cX0_isCellar 13 = .ok (.invokestatic 96, 3) := dk_184 0 96 (dk_at dksX0_isCellar_0 13 rfl rfl)
theorem dX0_isCellar_16 : decode cX0_isCellar 16 = .ok (.ireturn, 1) := dk_172 (dk_at dksX0_isCellar_0 16 rfl rfl)
abbrev cX0_asBit : ByteArray := prog_1_method_4_code
def yX0_asBit : MethodName := ⟨RX0, "asBit", "(Z)I"⟩
def dkwX0_asBit_0 : List UInt8 := [26, 153, 0, 7, 4, 167, 0, 4, 3, 172]
abbrev dktX0_asBit_0 : List UInt8 := dkwX0_asBit_0 ++ []
theorem dksX0_asBit_0 : cX0_asBit.data.toList.drop 0 = dktX0_asBit_0 := by decide +kernel
theorem dX0_asBit_0 : decode cX0_asBit 0 = .ok (.iload_n 0, 1) := dk_26 (dk_at dksX0_asBit_0 0 rfl rfl)
theorem dX0_asBit_1 : decode cX0_asBit 1 = .ok (.ifCond .eq 7, 3) := dk_153 0 7 (dk_at dksX0_asBit_0 1 rfl rfl)
theorem dX0_asBit_4 : decode cX0_asBit 4 = .ok (.iconst 1, 1) := dk_4 (dk_at dksX0_asBit_0 4 rfl rfl)
theorem dX0_asBit_5 : decode cX0_asBit 5 = .ok (.goto 4, 3) := dk_167 0 4 (dk_at dksX0_asBit_0 5 rfl rfl)
theorem dX0_asBit_8 : decode cX0_asBit 8 = .ok (.iconst 0, 1) := dk_3 (dk_at dksX0_asBit_0 8 rfl rfl)
theorem dX0_asBit_9 : decode cX0_asBit 9 = .ok (.ireturn, 1) := dk_172 (dk_at dksX0_asBit_0 9 rfl rfl)
abbrev cX0_ruled : ByteArray := prog_1_method_61_code
def yX0_ruled : MethodName := ⟨RX0, "ruled", "(II)I"⟩
def dkwX0_ruled_1 : List UInt8 := [180, 1, 157, 185, 1, 161, 1, 0, 172]
abbrev dktX0_ruled_1 : List UInt8 := dkwX0_ruled_1 ++ []
def dkwX0_ruled_0 : List UInt8 := [42, 27, 182, 1, 154, 62, 29, 156, 0, 7, 28, 167, 0, 20, 42, 180, 0, 58, 180, 1, 145, 29, 50]
abbrev dktX0_ruled_0 : List UInt8 := dkwX0_ruled_0 ++ dktX0_ruled_1
theorem dksX0_ruled_0 : cX0_ruled.data.toList.drop 0 = dktX0_ruled_0 := by decide +kernel
theorem dksX0_ruled_1 : cX0_ruled.data.toList.drop 23 = dktX0_ruled_1 := dk_seg dksX0_ruled_0 23 rfl rfl
theorem dX0_ruled_0 : decode cX0_ruled 0 = .ok (.aload_n 0, 1) := dk_42 (dk_at dksX0_ruled_0 0 rfl rfl)
theorem dX0_ruled_1 : decode cX0_ruled 1 = .ok (.iload_n 1, 1) := dk_27 (dk_at dksX0_ruled_0 1 rfl rfl)
theorem dX0_ruled_2 : decode cX0_ruled 2 = .ok (.invokevirtual 410, 3) := dk_182 1 154 (dk_at dksX0_ruled_0 2 rfl rfl)
theorem dX0_ruled_5 : decode cX0_ruled 5 = .ok (.istore_n 3, 1) := dk_62 (dk_at dksX0_ruled_0 5 rfl rfl)
theorem dX0_ruled_6 : decode cX0_ruled 6 = .ok (.iload_n 3, 1) := dk_29 (dk_at dksX0_ruled_0 6 rfl rfl)
theorem dX0_ruled_7 : decode cX0_ruled 7 = .ok (.ifCond .ge 7, 3) := dk_156 0 7 (dk_at dksX0_ruled_0 7 rfl rfl)
theorem dX0_ruled_10 : decode cX0_ruled 10 = .ok (.iload_n 2, 1) := dk_28 (dk_at dksX0_ruled_0 10 rfl rfl)
theorem dX0_ruled_11 : decode cX0_ruled 11 = .ok (.goto 20, 3) := dk_167 0 20 (dk_at dksX0_ruled_0 11 rfl rfl)
theorem dX0_ruled_14 : decode cX0_ruled 14 = .ok (.aload_n 0, 1) := dk_42 (dk_at dksX0_ruled_0 14 rfl rfl)
theorem dX0_ruled_15 : decode cX0_ruled 15 = .ok (.getfield 58, 3) := dk_180 0 58 (dk_at dksX0_ruled_0 15 rfl rfl)
theorem dX0_ruled_18 : decode cX0_ruled 18 = .ok (.getfield 401, 3) := dk_180 1 145 (dk_at dksX0_ruled_0 18 rfl rfl)
theorem dX0_ruled_21 : decode cX0_ruled 21 = .ok (.iload_n 3, 1) := dk_29 (dk_at dksX0_ruled_0 21 rfl rfl)
theorem dX0_ruled_22 : decode cX0_ruled 22 = .ok (.aaload, 1) := dk_50 (dk_at dksX0_ruled_0 22 rfl rfl)
theorem dX0_ruled_23 : decode cX0_ruled 23 = .ok (.getfield 413, 3) := dk_180 1 157 (dk_at dksX0_ruled_1 0 rfl rfl)
theorem dX0_ruled_26 : decode cX0_ruled 26 = .ok (.invokeinterface 417 1, 5) := by decide +kernel
theorem dX0_ruled_31 : decode cX0_ruled 31 = .ok (.ireturn, 1) := dk_172 (dk_at dksX0_ruled_1 8 rfl rfl)
abbrev cX0_counts : ByteArray := prog_1_method_60_code
def yX0_counts : MethodName := ⟨RX0, "counts", "(I)I"⟩
def dkwX0_counts_1 : List UInt8 := [180, 1, 152, 27, 159, 0, 9, 132, 2, 255, 167, 255, 233, 28, 172]
abbrev dktX0_counts_1 : List UInt8 := dkwX0_counts_1 ++ []
def dkwX0_counts_0 : List UInt8 := [42, 180, 0, 58, 180, 1, 142, 4, 100, 61, 28, 155, 0, 25, 42, 180, 0, 58, 180, 1, 145, 28, 50]
abbrev dktX0_counts_0 : List UInt8 := dkwX0_counts_0 ++ dktX0_counts_1
theorem dksX0_counts_0 : cX0_counts.data.toList.drop 0 = dktX0_counts_0 := by decide +kernel
theorem dksX0_counts_1 : cX0_counts.data.toList.drop 23 = dktX0_counts_1 := dk_seg dksX0_counts_0 23 rfl rfl
theorem dX0_counts_0 : decode cX0_counts 0 = .ok (.aload_n 0, 1) := dk_42 (dk_at dksX0_counts_0 0 rfl rfl)
theorem dX0_counts_1 : decode cX0_counts 1 = .ok (.getfield 58, 3) := dk_180 0 58 (dk_at dksX0_counts_0 1 rfl rfl)
theorem dX0_counts_4 : decode cX0_counts 4 = .ok (.getfield 398, 3) := dk_180 1 142 (dk_at dksX0_counts_0 4 rfl rfl)
theorem dX0_counts_7 : decode cX0_counts 7 = .ok (.iconst 1, 1) := dk_4 (dk_at dksX0_counts_0 7 rfl rfl)
theorem dX0_counts_8 : decode cX0_counts 8 = .ok (.isub, 1) := dk_100 (dk_at dksX0_counts_0 8 rfl rfl)
theorem dX0_counts_9 : decode cX0_counts 9 = .ok (.istore_n 2, 1) := dk_61 (dk_at dksX0_counts_0 9 rfl rfl)
theorem dX0_counts_10 : decode cX0_counts 10 = .ok (.iload_n 2, 1) := dk_28 (dk_at dksX0_counts_0 10 rfl rfl)
theorem dX0_counts_11 : decode cX0_counts 11 = .ok (.ifCond .lt 25, 3) := dk_155 0 25 (dk_at dksX0_counts_0 11 rfl rfl)
theorem dX0_counts_14 : decode cX0_counts 14 = .ok (.aload_n 0, 1) := dk_42 (dk_at dksX0_counts_0 14 rfl rfl)
theorem dX0_counts_15 : decode cX0_counts 15 = .ok (.getfield 58, 3) := dk_180 0 58 (dk_at dksX0_counts_0 15 rfl rfl)
theorem dX0_counts_18 : decode cX0_counts 18 = .ok (.getfield 401, 3) := dk_180 1 145 (dk_at dksX0_counts_0 18 rfl rfl)
theorem dX0_counts_21 : decode cX0_counts 21 = .ok (.iload_n 2, 1) := dk_28 (dk_at dksX0_counts_0 21 rfl rfl)
theorem dX0_counts_22 : decode cX0_counts 22 = .ok (.aaload, 1) := dk_50 (dk_at dksX0_counts_0 22 rfl rfl)
theorem dX0_counts_23 : decode cX0_counts 23 = .ok (.getfield 408, 3) := dk_180 1 152 (dk_at dksX0_counts_1 0 rfl rfl)
theorem dX0_counts_26 : decode cX0_counts 26 = .ok (.iload_n 1, 1) := dk_27 (dk_at dksX0_counts_1 3 rfl rfl)
theorem dX0_counts_27 : decode cX0_counts 27 = .ok (.if_icmp .eq 9, 3) := dk_159 0 9 (dk_at dksX0_counts_1 4 rfl rfl)
theorem dX0_counts_30 : decode cX0_counts 30 = .ok (.iinc 2 (-1), 3) := dk_132 2 255 (dk_at dksX0_counts_1 7 rfl rfl)
theorem dX0_counts_33 : decode cX0_counts 33 = .ok (.goto (-23), 3) := dk_167 255 233 (dk_at dksX0_counts_1 10 rfl rfl)
theorem dX0_counts_36 : decode cX0_counts 36 = .ok (.iload_n 2, 1) := dk_28 (dk_at dksX0_counts_1 13 rfl rfl)
theorem dX0_counts_37 : decode cX0_counts 37 = .ok (.ireturn, 1) := dk_172 (dk_at dksX0_counts_1 14 rfl rfl)
abbrev cX0_heldIn : ByteArray := prog_1_method_3_code
def yX0_heldIn : MethodName := ⟨RX0, "heldIn", "(III)I"⟩
def dkwX0_heldIn_0 : List UInt8 := [27, 28, 26, 184, 0, 4, 184, 0, 10, 172]
abbrev dktX0_heldIn_0 : List UInt8 := dkwX0_heldIn_0 ++ []
theorem dksX0_heldIn_0 : cX0_heldIn.data.toList.drop 0 = dktX0_heldIn_0 := by decide +kernel
theorem dX0_heldIn_0 : decode cX0_heldIn 0 = .ok (.iload_n 1, 1) := dk_27 (dk_at dksX0_heldIn_0 0 rfl rfl)
theorem dX0_heldIn_1 : decode cX0_heldIn 1 = .ok (.iload_n 2, 1) := dk_28 (dk_at dksX0_heldIn_0 1 rfl rfl)
theorem dX0_heldIn_2 : decode cX0_heldIn 2 = .ok (.iload_n 0, 1) := dk_26 (dk_at dksX0_heldIn_0 2 rfl rfl)
theorem dX0_heldIn_3 : decode cX0_heldIn 3 = .ok (.invokestatic 4, 3) := dk_184 0 4 (dk_at dksX0_heldIn_0 3 rfl rfl)
theorem dX0_heldIn_6 : decode cX0_heldIn 6 = .ok (.invokestatic 10, 3) := dk_184 0 10 (dk_at dksX0_heldIn_0 6 rfl rfl)
theorem dX0_heldIn_9 : decode cX0_heldIn 9 = .ok (.ireturn, 1) := dk_172 (dk_at dksX0_heldIn_0 9 rfl rfl)
abbrev cX0_takes : ByteArray := prog_1_method_15_code
def yX0_takes : MethodName := ⟨RX0, "takes", "(II)I"⟩
def dkwX0_takes_1 : List UInt8 := [180, 0, 121, 27, 50, 28, 182, 0, 149, 167, 0, 5, 18, 109, 172]
abbrev dktX0_takes_1 : List UInt8 := dkwX0_takes_1 ++ []
def dkwX0_takes_0 : List UInt8 := [42, 27, 182, 0, 125, 153, 0, 31, 28, 133, 9, 20, 0, 147, 184, 0, 96, 153, 0, 19, 42, 180, 0, 58]
abbrev dktX0_takes_0 : List UInt8 := dkwX0_takes_0 ++ dktX0_takes_1
theorem dksX0_takes_0 : cX0_takes.data.toList.drop 0 = dktX0_takes_0 := by decide +kernel
theorem dksX0_takes_1 : cX0_takes.data.toList.drop 24 = dktX0_takes_1 := dk_seg dksX0_takes_0 24 rfl rfl
theorem dX0_takes_0 : decode cX0_takes 0 = .ok (.aload_n 0, 1) := dk_42 (dk_at dksX0_takes_0 0 rfl rfl)
theorem dX0_takes_1 : decode cX0_takes 1 = .ok (.iload_n 1, 1) := dk_27 (dk_at dksX0_takes_0 1 rfl rfl)
theorem dX0_takes_2 : decode cX0_takes 2 = .ok (.invokevirtual 125, 3) := dk_182 0 125 (dk_at dksX0_takes_0 2 rfl rfl)
theorem dX0_takes_5 : decode cX0_takes 5 = .ok (.ifCond .eq 31, 3) := dk_153 0 31 (dk_at dksX0_takes_0 5 rfl rfl)
theorem dX0_takes_8 : decode cX0_takes 8 = .ok (.iload_n 2, 1) := dk_28 (dk_at dksX0_takes_0 8 rfl rfl)
theorem dX0_takes_9 : decode cX0_takes 9 = .ok (.i2l, 1) := dk_133 (dk_at dksX0_takes_0 9 rfl rfl)
theorem dX0_takes_10 : decode cX0_takes 10 = .ok (.lconst 0, 1) := dk_9 (dk_at dksX0_takes_0 10 rfl rfl)
theorem dX0_takes_11 : decode cX0_takes 11 = .ok (.ldc2_w 147, 3) := dk_20 0 147 (dk_at dksX0_takes_0 11 rfl rfl)
theorem dX0_takes_14 : decode cX0_takes 14 = .ok (.invokestatic 96, 3) := dk_184 0 96 (dk_at dksX0_takes_0 14 rfl rfl)
theorem dX0_takes_17 : decode cX0_takes 17 = .ok (.ifCond .eq 19, 3) := dk_153 0 19 (dk_at dksX0_takes_0 17 rfl rfl)
theorem dX0_takes_20 : decode cX0_takes 20 = .ok (.aload_n 0, 1) := dk_42 (dk_at dksX0_takes_0 20 rfl rfl)
theorem dX0_takes_21 : decode cX0_takes 21 = .ok (.getfield 58, 3) := dk_180 0 58 (dk_at dksX0_takes_0 21 rfl rfl)
theorem dX0_takes_24 : decode cX0_takes 24 = .ok (.getfield 121, 3) := dk_180 0 121 (dk_at dksX0_takes_1 0 rfl rfl)
theorem dX0_takes_27 : decode cX0_takes 27 = .ok (.iload_n 1, 1) := dk_27 (dk_at dksX0_takes_1 3 rfl rfl)
theorem dX0_takes_28 : decode cX0_takes 28 = .ok (.aaload, 1) := dk_50 (dk_at dksX0_takes_1 4 rfl rfl)
theorem dX0_takes_29 : decode cX0_takes 29 = .ok (.iload_n 2, 1) := dk_28 (dk_at dksX0_takes_1 5 rfl rfl)
theorem dX0_takes_30 : decode cX0_takes 30 = .ok (.invokevirtual 149, 3) := dk_182 0 149 (dk_at dksX0_takes_1 6 rfl rfl)
theorem dX0_takes_33 : decode cX0_takes 33 = .ok (.goto 5, 3) := dk_167 0 5 (dk_at dksX0_takes_1 9 rfl rfl)
theorem dX0_takes_36 : decode cX0_takes 36 = .ok (.ldc 109, 2) := dk_18 109 (dk_at dksX0_takes_1 12 rfl rfl)
theorem dX0_takes_38 : decode cX0_takes 38 = .ok (.ireturn, 1) := dk_172 (dk_at dksX0_takes_1 14 rfl rfl)
abbrev cX0_as : ByteArray := prog_1_method_17_code
def yX0_as : MethodName := ⟨RX0, "as", "(II)I"⟩
def dkwX0_as_1 : List UInt8 := [180, 0, 58, 180, 0, 121, 27, 50, 28, 184, 0, 153, 180, 0, 118, 172, 78, 18, 159, 172]
abbrev dktX0_as_1 : List UInt8 := dkwX0_as_1 ++ []
def dkwX0_as_0 : List UInt8 := [42, 27, 182, 0, 125, 153, 0, 15, 28, 133, 9, 20, 0, 105, 184, 0, 96, 154, 0, 6, 18, 109, 172, 42]
abbrev dktX0_as_0 : List UInt8 := dkwX0_as_0 ++ dktX0_as_1
theorem dksX0_as_0 : cX0_as.data.toList.drop 0 = dktX0_as_0 := by decide +kernel
theorem dksX0_as_1 : cX0_as.data.toList.drop 24 = dktX0_as_1 := dk_seg dksX0_as_0 24 rfl rfl
theorem dX0_as_0 : decode cX0_as 0 = .ok (.aload_n 0, 1) := dk_42 (dk_at dksX0_as_0 0 rfl rfl)
theorem dX0_as_1 : decode cX0_as 1 = .ok (.iload_n 1, 1) := dk_27 (dk_at dksX0_as_0 1 rfl rfl)
theorem dX0_as_2 : decode cX0_as 2 = .ok (.invokevirtual 125, 3) := dk_182 0 125 (dk_at dksX0_as_0 2 rfl rfl)
theorem dX0_as_5 : decode cX0_as 5 = .ok (.ifCond .eq 15, 3) := dk_153 0 15 (dk_at dksX0_as_0 5 rfl rfl)
theorem dX0_as_8 : decode cX0_as 8 = .ok (.iload_n 2, 1) := dk_28 (dk_at dksX0_as_0 8 rfl rfl)
theorem dX0_as_9 : decode cX0_as 9 = .ok (.i2l, 1) := dk_133 (dk_at dksX0_as_0 9 rfl rfl)
theorem dX0_as_10 : decode cX0_as 10 = .ok (.lconst 0, 1) := dk_9 (dk_at dksX0_as_0 10 rfl rfl)
theorem dX0_as_11 : decode cX0_as 11 = .ok (.ldc2_w 105, 3) := dk_20 0 105 (dk_at dksX0_as_0 11 rfl rfl)
theorem dX0_as_14 : decode cX0_as 14 = .ok (.invokestatic 96, 3) := dk_184 0 96 (dk_at dksX0_as_0 14 rfl rfl)
theorem dX0_as_17 : decode cX0_as 17 = .ok (.ifCond .ne 6, 3) := dk_154 0 6 (dk_at dksX0_as_0 17 rfl rfl)
theorem dX0_as_20 : decode cX0_as 20 = .ok (.ldc 109, 2) := dk_18 109 (dk_at dksX0_as_0 20 rfl rfl)
theorem dX0_as_22 : decode cX0_as 22 = .ok (.ireturn, 1) := dk_172 (dk_at dksX0_as_0 22 rfl rfl)
theorem dX0_as_23 : decode cX0_as 23 = .ok (.aload_n 0, 1) := dk_42 (dk_at dksX0_as_0 23 rfl rfl)
theorem dX0_as_24 : decode cX0_as 24 = .ok (.getfield 58, 3) := dk_180 0 58 (dk_at dksX0_as_1 0 rfl rfl)
theorem dX0_as_27 : decode cX0_as 27 = .ok (.getfield 121, 3) := dk_180 0 121 (dk_at dksX0_as_1 3 rfl rfl)
theorem dX0_as_30 : decode cX0_as 30 = .ok (.iload_n 1, 1) := dk_27 (dk_at dksX0_as_1 6 rfl rfl)
theorem dX0_as_31 : decode cX0_as 31 = .ok (.aaload, 1) := dk_50 (dk_at dksX0_as_1 7 rfl rfl)
theorem dX0_as_32 : decode cX0_as 32 = .ok (.iload_n 2, 1) := dk_28 (dk_at dksX0_as_1 8 rfl rfl)
theorem dX0_as_33 : decode cX0_as 33 = .ok (.invokestatic 153, 3) := dk_184 0 153 (dk_at dksX0_as_1 9 rfl rfl)
theorem dX0_as_36 : decode cX0_as 36 = .ok (.getfield 118, 3) := dk_180 0 118 (dk_at dksX0_as_1 12 rfl rfl)
theorem dX0_as_39 : decode cX0_as 39 = .ok (.ireturn, 1) := dk_172 (dk_at dksX0_as_1 15 rfl rfl)
theorem dX0_as_40 : decode cX0_as 40 = .ok (.astore_n 3, 1) := dk_78 (dk_at dksX0_as_1 16 rfl rfl)
theorem dX0_as_41 : decode cX0_as 41 = .ok (.ldc 159, 2) := dk_18 159 (dk_at dksX0_as_1 17 rfl rfl)
theorem dX0_as_43 : decode cX0_as 43 = .ok (.ireturn, 1) := dk_172 (dk_at dksX0_as_1 19 rfl rfl)
abbrev cX0_takenFor : ByteArray := prog_1_method_16_code
def yX0_takenFor : MethodName := ⟨RX0, "takenFor", "(Ljava/lang/Object;I)LLevelCellars$Cellar;"⟩
def dkwX0_takenFor_3 : List UInt8 := [176, 42, 192, 0, 31, 176]
abbrev dktX0_takenFor_3 : List UInt8 := dkwX0_takenFor_3 ++ []
def dkwX0_takenFor_2 : List UInt8 := [42, 192, 0, 13, 176, 42, 192, 0, 19, 176, 42, 192, 0, 22, 176, 42, 192, 0, 25, 176, 42, 192, 0, 28]
abbrev dktX0_takenFor_2 : List UInt8 := dkwX0_takenFor_2 ++ dktX0_takenFor_3
def dkwX0_takenFor_1 : List UInt8 := [170, 0, 0, 0, 0, 0, 60, 0, 0, 0, 0, 0, 0, 0, 4, 0, 0, 0, 35, 0, 0, 0, 40, 0, 0, 0, 45, 0, 0, 0, 50, 0, 0, 0, 55]
abbrev dktX0_takenFor_1 : List UInt8 := dkwX0_takenFor_1 ++ dktX0_takenFor_2
def dkwX0_takenFor_0 : List UInt8 := [27]
abbrev dktX0_takenFor_0 : List UInt8 := dkwX0_takenFor_0 ++ dktX0_takenFor_1
theorem dksX0_takenFor_0 : cX0_takenFor.data.toList.drop 0 = dktX0_takenFor_0 := by decide +kernel
theorem dksX0_takenFor_1 : cX0_takenFor.data.toList.drop 1 = dktX0_takenFor_1 := dk_seg dksX0_takenFor_0 1 rfl rfl
theorem dksX0_takenFor_2 : cX0_takenFor.data.toList.drop 36 = dktX0_takenFor_2 := dk_seg dksX0_takenFor_1 35 rfl rfl
theorem dksX0_takenFor_3 : cX0_takenFor.data.toList.drop 60 = dktX0_takenFor_3 := dk_seg dksX0_takenFor_2 24 rfl rfl
theorem dX0_takenFor_0 : decode cX0_takenFor 0 = .ok (.iload_n 1, 1) := dk_27 (dk_at dksX0_takenFor_0 0 rfl rfl)
theorem dX0_takenFor_1 : decode cX0_takenFor 1 = .ok (.tableswitch 60 0 4 #[35, 40, 45, 50, 55], 35) := by decide +kernel
theorem dX0_takenFor_36 : decode cX0_takenFor 36 = .ok (.aload_n 0, 1) := dk_42 (dk_at dksX0_takenFor_2 0 rfl rfl)
theorem dX0_takenFor_37 : decode cX0_takenFor 37 = .ok (.checkcast 13, 3) := dk_192 0 13 (dk_at dksX0_takenFor_2 1 rfl rfl)
theorem dX0_takenFor_40 : decode cX0_takenFor 40 = .ok (.areturn, 1) := dk_176 (dk_at dksX0_takenFor_2 4 rfl rfl)
theorem dX0_takenFor_41 : decode cX0_takenFor 41 = .ok (.aload_n 0, 1) := dk_42 (dk_at dksX0_takenFor_2 5 rfl rfl)
theorem dX0_takenFor_42 : decode cX0_takenFor 42 = .ok (.checkcast 19, 3) := dk_192 0 19 (dk_at dksX0_takenFor_2 6 rfl rfl)
theorem dX0_takenFor_45 : decode cX0_takenFor 45 = .ok (.areturn, 1) := dk_176 (dk_at dksX0_takenFor_2 9 rfl rfl)
theorem dX0_takenFor_46 : decode cX0_takenFor 46 = .ok (.aload_n 0, 1) := dk_42 (dk_at dksX0_takenFor_2 10 rfl rfl)
theorem dX0_takenFor_47 : decode cX0_takenFor 47 = .ok (.checkcast 22, 3) := dk_192 0 22 (dk_at dksX0_takenFor_2 11 rfl rfl)
theorem dX0_takenFor_50 : decode cX0_takenFor 50 = .ok (.areturn, 1) := dk_176 (dk_at dksX0_takenFor_2 14 rfl rfl)
theorem dX0_takenFor_51 : decode cX0_takenFor 51 = .ok (.aload_n 0, 1) := dk_42 (dk_at dksX0_takenFor_2 15 rfl rfl)
theorem dX0_takenFor_52 : decode cX0_takenFor 52 = .ok (.checkcast 25, 3) := dk_192 0 25 (dk_at dksX0_takenFor_2 16 rfl rfl)
theorem dX0_takenFor_55 : decode cX0_takenFor 55 = .ok (.areturn, 1) := dk_176 (dk_at dksX0_takenFor_2 19 rfl rfl)
theorem dX0_takenFor_56 : decode cX0_takenFor 56 = .ok (.aload_n 0, 1) := dk_42 (dk_at dksX0_takenFor_2 20 rfl rfl)
theorem dX0_takenFor_57 : decode cX0_takenFor 57 = .ok (.checkcast 28, 3) := dk_192 0 28 (dk_at dksX0_takenFor_2 21 rfl rfl)
theorem dX0_takenFor_60 : decode cX0_takenFor 60 = .ok (.areturn, 1) := dk_176 (dk_at dksX0_takenFor_3 0 rfl rfl)
theorem dX0_takenFor_61 : decode cX0_takenFor 61 = .ok (.aload_n 0, 1) := dk_42 (dk_at dksX0_takenFor_3 1 rfl rfl)
theorem dX0_takenFor_62 : decode cX0_takenFor 62 = .ok (.checkcast 31, 3) := dk_192 0 31 (dk_at dksX0_takenFor_3 2 rfl rfl)
theorem dX0_takenFor_65 : decode cX0_takenFor 65 = .ok (.areturn, 1) := dk_176 (dk_at dksX0_takenFor_3 5 rfl rfl)
abbrev cX0_turns : ByteArray := prog_1_method_18_code
def yX0_turns : MethodName := ⟨RX0, "turns", "(II)I"⟩
def dkwX0_turns_2 : List UInt8 := [182, 0, 42, 83, 45, 182, 0, 34, 172]
abbrev dktX0_turns_2 : List UInt8 := dkwX0_turns_2 ++ []
def dkwX0_turns_1 : List UInt8 := [180, 0, 58, 180, 0, 121, 27, 50, 78, 42, 180, 0, 58, 180, 0, 121, 27, 42, 28, 182, 0, 38, 45]
abbrev dktX0_turns_1 : List UInt8 := dkwX0_turns_1 ++ dktX0_turns_2
def dkwX0_turns_0 : List UInt8 := [42, 27, 182, 0, 125, 153, 0, 15, 28, 133, 9, 20, 0, 105, 184, 0, 96, 154, 0, 6, 18, 109, 172, 42]
abbrev dktX0_turns_0 : List UInt8 := dkwX0_turns_0 ++ dktX0_turns_1
theorem dksX0_turns_0 : cX0_turns.data.toList.drop 0 = dktX0_turns_0 := by decide +kernel
theorem dksX0_turns_1 : cX0_turns.data.toList.drop 24 = dktX0_turns_1 := dk_seg dksX0_turns_0 24 rfl rfl
theorem dksX0_turns_2 : cX0_turns.data.toList.drop 47 = dktX0_turns_2 := dk_seg dksX0_turns_1 23 rfl rfl
theorem dX0_turns_0 : decode cX0_turns 0 = .ok (.aload_n 0, 1) := dk_42 (dk_at dksX0_turns_0 0 rfl rfl)
theorem dX0_turns_1 : decode cX0_turns 1 = .ok (.iload_n 1, 1) := dk_27 (dk_at dksX0_turns_0 1 rfl rfl)
theorem dX0_turns_2 : decode cX0_turns 2 = .ok (.invokevirtual 125, 3) := dk_182 0 125 (dk_at dksX0_turns_0 2 rfl rfl)
theorem dX0_turns_5 : decode cX0_turns 5 = .ok (.ifCond .eq 15, 3) := dk_153 0 15 (dk_at dksX0_turns_0 5 rfl rfl)
theorem dX0_turns_8 : decode cX0_turns 8 = .ok (.iload_n 2, 1) := dk_28 (dk_at dksX0_turns_0 8 rfl rfl)
theorem dX0_turns_9 : decode cX0_turns 9 = .ok (.i2l, 1) := dk_133 (dk_at dksX0_turns_0 9 rfl rfl)
theorem dX0_turns_10 : decode cX0_turns 10 = .ok (.lconst 0, 1) := dk_9 (dk_at dksX0_turns_0 10 rfl rfl)
theorem dX0_turns_11 : decode cX0_turns 11 = .ok (.ldc2_w 105, 3) := dk_20 0 105 (dk_at dksX0_turns_0 11 rfl rfl)
theorem dX0_turns_14 : decode cX0_turns 14 = .ok (.invokestatic 96, 3) := dk_184 0 96 (dk_at dksX0_turns_0 14 rfl rfl)
theorem dX0_turns_17 : decode cX0_turns 17 = .ok (.ifCond .ne 6, 3) := dk_154 0 6 (dk_at dksX0_turns_0 17 rfl rfl)
theorem dX0_turns_20 : decode cX0_turns 20 = .ok (.ldc 109, 2) := dk_18 109 (dk_at dksX0_turns_0 20 rfl rfl)
theorem dX0_turns_22 : decode cX0_turns 22 = .ok (.ireturn, 1) := dk_172 (dk_at dksX0_turns_0 22 rfl rfl)
theorem dX0_turns_23 : decode cX0_turns 23 = .ok (.aload_n 0, 1) := dk_42 (dk_at dksX0_turns_0 23 rfl rfl)
theorem dX0_turns_24 : decode cX0_turns 24 = .ok (.getfield 58, 3) := dk_180 0 58 (dk_at dksX0_turns_1 0 rfl rfl)
theorem dX0_turns_27 : decode cX0_turns 27 = .ok (.getfield 121, 3) := dk_180 0 121 (dk_at dksX0_turns_1 3 rfl rfl)
theorem dX0_turns_30 : decode cX0_turns 30 = .ok (.iload_n 1, 1) := dk_27 (dk_at dksX0_turns_1 6 rfl rfl)
theorem dX0_turns_31 : decode cX0_turns 31 = .ok (.aaload, 1) := dk_50 (dk_at dksX0_turns_1 7 rfl rfl)
theorem dX0_turns_32 : decode cX0_turns 32 = .ok (.astore_n 3, 1) := dk_78 (dk_at dksX0_turns_1 8 rfl rfl)
theorem dX0_turns_33 : decode cX0_turns 33 = .ok (.aload_n 0, 1) := dk_42 (dk_at dksX0_turns_1 9 rfl rfl)
theorem dX0_turns_34 : decode cX0_turns 34 = .ok (.getfield 58, 3) := dk_180 0 58 (dk_at dksX0_turns_1 10 rfl rfl)
theorem dX0_turns_37 : decode cX0_turns 37 = .ok (.getfield 121, 3) := dk_180 0 121 (dk_at dksX0_turns_1 13 rfl rfl)
theorem dX0_turns_40 : decode cX0_turns 40 = .ok (.iload_n 1, 1) := dk_27 (dk_at dksX0_turns_1 16 rfl rfl)
theorem dX0_turns_41 : decode cX0_turns 41 = .ok (.aload_n 0, 1) := dk_42 (dk_at dksX0_turns_1 17 rfl rfl)
theorem dX0_turns_42 : decode cX0_turns 42 = .ok (.iload_n 2, 1) := dk_28 (dk_at dksX0_turns_1 18 rfl rfl)
theorem dX0_turns_43 : decode cX0_turns 43 = .ok (.invokevirtual 38, 3) := dk_182 0 38 (dk_at dksX0_turns_1 19 rfl rfl)
theorem dX0_turns_46 : decode cX0_turns 46 = .ok (.aload_n 3, 1) := dk_45 (dk_at dksX0_turns_1 22 rfl rfl)
theorem dX0_turns_47 : decode cX0_turns 47 = .ok (.invokevirtual 42, 3) := dk_182 0 42 (dk_at dksX0_turns_2 0 rfl rfl)
theorem dX0_turns_50 : decode cX0_turns 50 = .ok (.aastore, 1) := dk_83 (dk_at dksX0_turns_2 3 rfl rfl)
theorem dX0_turns_51 : decode cX0_turns 51 = .ok (.aload_n 3, 1) := dk_45 (dk_at dksX0_turns_2 4 rfl rfl)
theorem dX0_turns_52 : decode cX0_turns 52 = .ok (.invokevirtual 34, 3) := dk_182 0 34 (dk_at dksX0_turns_2 5 rfl rfl)
theorem dX0_turns_55 : decode cX0_turns 55 = .ok (.ireturn, 1) := dk_172 (dk_at dksX0_turns_2 8 rfl rfl)
abbrev cX0_set : ByteArray := prog_1_method_20_code
def yX0_set : MethodName := ⟨RX0, "set", "(III)I"⟩
def dkwX0_set_4 : List UInt8 := [21, 4, 172]
abbrev dktX0_set_4 : List UInt8 := dkwX0_set_4 ++ []
def dkwX0_set_3 : List UInt8 := [180, 0, 118, 181, 0, 118, 28, 16, 8, 161, 0, 14, 25, 5, 180, 0, 144, 28, 16, 8, 100, 29, 79]
abbrev dktX0_set_3 : List UInt8 := dkwX0_set_3 ++ dktX0_set_4
def dkwX0_set_2 : List UInt8 := [167, 0, 8, 25, 5, 180, 0, 115, 181, 0, 115, 25, 5, 28, 5, 160, 0, 7, 29, 167, 0, 8, 25, 5]
abbrev dktX0_set_2 : List UInt8 := dkwX0_set_2 ++ dktX0_set_3
def dkwX0_set_1 : List UInt8 := [182, 0, 166, 54, 4, 42, 180, 0, 58, 180, 0, 121, 27, 50, 58, 5, 25, 5, 28, 4, 160, 0, 7, 29]
abbrev dktX0_set_1 : List UInt8 := dkwX0_set_1 ++ dktX0_set_2
def dkwX0_set_0 : List UInt8 := [42, 27, 182, 0, 125, 153, 0, 11, 28, 29, 184, 0, 162, 154, 0, 6, 18, 109, 172, 42, 27, 28]
abbrev dktX0_set_0 : List UInt8 := dkwX0_set_0 ++ dktX0_set_1
theorem dksX0_set_0 : cX0_set.data.toList.drop 0 = dktX0_set_0 := by decide +kernel
theorem dksX0_set_1 : cX0_set.data.toList.drop 22 = dktX0_set_1 := dk_seg dksX0_set_0 22 rfl rfl
theorem dksX0_set_2 : cX0_set.data.toList.drop 46 = dktX0_set_2 := dk_seg dksX0_set_1 24 rfl rfl
theorem dksX0_set_3 : cX0_set.data.toList.drop 70 = dktX0_set_3 := dk_seg dksX0_set_2 24 rfl rfl
theorem dksX0_set_4 : cX0_set.data.toList.drop 93 = dktX0_set_4 := dk_seg dksX0_set_3 23 rfl rfl
theorem dX0_set_0 : decode cX0_set 0 = .ok (.aload_n 0, 1) := dk_42 (dk_at dksX0_set_0 0 rfl rfl)
theorem dX0_set_1 : decode cX0_set 1 = .ok (.iload_n 1, 1) := dk_27 (dk_at dksX0_set_0 1 rfl rfl)
theorem dX0_set_2 : decode cX0_set 2 = .ok (.invokevirtual 125, 3) := dk_182 0 125 (dk_at dksX0_set_0 2 rfl rfl)
theorem dX0_set_5 : decode cX0_set 5 = .ok (.ifCond .eq 11, 3) := dk_153 0 11 (dk_at dksX0_set_0 5 rfl rfl)
theorem dX0_set_8 : decode cX0_set 8 = .ok (.iload_n 2, 1) := dk_28 (dk_at dksX0_set_0 8 rfl rfl)
theorem dX0_set_9 : decode cX0_set 9 = .ok (.iload_n 3, 1) := dk_29 (dk_at dksX0_set_0 9 rfl rfl)
theorem dX0_set_10 : decode cX0_set 10 = .ok (.invokestatic 162, 3) := dk_184 0 162 (dk_at dksX0_set_0 10 rfl rfl)
theorem dX0_set_13 : decode cX0_set 13 = .ok (.ifCond .ne 6, 3) := dk_154 0 6 (dk_at dksX0_set_0 13 rfl rfl)
theorem dX0_set_16 : decode cX0_set 16 = .ok (.ldc 109, 2) := dk_18 109 (dk_at dksX0_set_0 16 rfl rfl)
theorem dX0_set_18 : decode cX0_set 18 = .ok (.ireturn, 1) := dk_172 (dk_at dksX0_set_0 18 rfl rfl)
theorem dX0_set_19 : decode cX0_set 19 = .ok (.aload_n 0, 1) := dk_42 (dk_at dksX0_set_0 19 rfl rfl)
theorem dX0_set_20 : decode cX0_set 20 = .ok (.iload_n 1, 1) := dk_27 (dk_at dksX0_set_0 20 rfl rfl)
theorem dX0_set_21 : decode cX0_set 21 = .ok (.iload_n 2, 1) := dk_28 (dk_at dksX0_set_0 21 rfl rfl)
theorem dX0_set_22 : decode cX0_set 22 = .ok (.invokevirtual 166, 3) := dk_182 0 166 (dk_at dksX0_set_1 0 rfl rfl)
theorem dX0_set_25 : decode cX0_set 25 = .ok (.istore 4, 2) := dk_54 4 (dk_at dksX0_set_1 3 rfl rfl)
theorem dX0_set_27 : decode cX0_set 27 = .ok (.aload_n 0, 1) := dk_42 (dk_at dksX0_set_1 5 rfl rfl)
theorem dX0_set_28 : decode cX0_set 28 = .ok (.getfield 58, 3) := dk_180 0 58 (dk_at dksX0_set_1 6 rfl rfl)
theorem dX0_set_31 : decode cX0_set 31 = .ok (.getfield 121, 3) := dk_180 0 121 (dk_at dksX0_set_1 9 rfl rfl)
theorem dX0_set_34 : decode cX0_set 34 = .ok (.iload_n 1, 1) := dk_27 (dk_at dksX0_set_1 12 rfl rfl)
theorem dX0_set_35 : decode cX0_set 35 = .ok (.aaload, 1) := dk_50 (dk_at dksX0_set_1 13 rfl rfl)
theorem dX0_set_36 : decode cX0_set 36 = .ok (.astore 5, 2) := dk_58 5 (dk_at dksX0_set_1 14 rfl rfl)
theorem dX0_set_38 : decode cX0_set 38 = .ok (.aload 5, 2) := dk_25 5 (dk_at dksX0_set_1 16 rfl rfl)
theorem dX0_set_40 : decode cX0_set 40 = .ok (.iload_n 2, 1) := dk_28 (dk_at dksX0_set_1 18 rfl rfl)
theorem dX0_set_41 : decode cX0_set 41 = .ok (.iconst 1, 1) := dk_4 (dk_at dksX0_set_1 19 rfl rfl)
theorem dX0_set_42 : decode cX0_set 42 = .ok (.if_icmp .ne 7, 3) := dk_160 0 7 (dk_at dksX0_set_1 20 rfl rfl)
theorem dX0_set_45 : decode cX0_set 45 = .ok (.iload_n 3, 1) := dk_29 (dk_at dksX0_set_1 23 rfl rfl)
theorem dX0_set_46 : decode cX0_set 46 = .ok (.goto 8, 3) := dk_167 0 8 (dk_at dksX0_set_2 0 rfl rfl)
theorem dX0_set_49 : decode cX0_set 49 = .ok (.aload 5, 2) := dk_25 5 (dk_at dksX0_set_2 3 rfl rfl)
theorem dX0_set_51 : decode cX0_set 51 = .ok (.getfield 115, 3) := dk_180 0 115 (dk_at dksX0_set_2 5 rfl rfl)
theorem dX0_set_54 : decode cX0_set 54 = .ok (.putfield 115, 3) := dk_181 0 115 (dk_at dksX0_set_2 8 rfl rfl)
theorem dX0_set_57 : decode cX0_set 57 = .ok (.aload 5, 2) := dk_25 5 (dk_at dksX0_set_2 11 rfl rfl)
theorem dX0_set_59 : decode cX0_set 59 = .ok (.iload_n 2, 1) := dk_28 (dk_at dksX0_set_2 13 rfl rfl)
theorem dX0_set_60 : decode cX0_set 60 = .ok (.iconst 2, 1) := dk_5 (dk_at dksX0_set_2 14 rfl rfl)
theorem dX0_set_61 : decode cX0_set 61 = .ok (.if_icmp .ne 7, 3) := dk_160 0 7 (dk_at dksX0_set_2 15 rfl rfl)
theorem dX0_set_64 : decode cX0_set 64 = .ok (.iload_n 3, 1) := dk_29 (dk_at dksX0_set_2 18 rfl rfl)
theorem dX0_set_65 : decode cX0_set 65 = .ok (.goto 8, 3) := dk_167 0 8 (dk_at dksX0_set_2 19 rfl rfl)
theorem dX0_set_68 : decode cX0_set 68 = .ok (.aload 5, 2) := dk_25 5 (dk_at dksX0_set_2 22 rfl rfl)
theorem dX0_set_70 : decode cX0_set 70 = .ok (.getfield 118, 3) := dk_180 0 118 (dk_at dksX0_set_3 0 rfl rfl)
theorem dX0_set_73 : decode cX0_set 73 = .ok (.putfield 118, 3) := dk_181 0 118 (dk_at dksX0_set_3 3 rfl rfl)
theorem dX0_set_76 : decode cX0_set 76 = .ok (.iload_n 2, 1) := dk_28 (dk_at dksX0_set_3 6 rfl rfl)
theorem dX0_set_77 : decode cX0_set 77 = .ok (.bipush 8, 2) := dk_16 8 (dk_at dksX0_set_3 7 rfl rfl)
theorem dX0_set_79 : decode cX0_set 79 = .ok (.if_icmp .lt 14, 3) := dk_161 0 14 (dk_at dksX0_set_3 9 rfl rfl)
theorem dX0_set_82 : decode cX0_set 82 = .ok (.aload 5, 2) := dk_25 5 (dk_at dksX0_set_3 12 rfl rfl)
theorem dX0_set_84 : decode cX0_set 84 = .ok (.getfield 144, 3) := dk_180 0 144 (dk_at dksX0_set_3 14 rfl rfl)
theorem dX0_set_87 : decode cX0_set 87 = .ok (.iload_n 2, 1) := dk_28 (dk_at dksX0_set_3 17 rfl rfl)
theorem dX0_set_88 : decode cX0_set 88 = .ok (.bipush 8, 2) := dk_16 8 (dk_at dksX0_set_3 18 rfl rfl)
theorem dX0_set_90 : decode cX0_set 90 = .ok (.isub, 1) := dk_100 (dk_at dksX0_set_3 20 rfl rfl)
theorem dX0_set_91 : decode cX0_set 91 = .ok (.iload_n 3, 1) := dk_29 (dk_at dksX0_set_3 21 rfl rfl)
theorem dX0_set_92 : decode cX0_set 92 = .ok (.iastore, 1) := dk_79 (dk_at dksX0_set_3 22 rfl rfl)
theorem dX0_set_93 : decode cX0_set 93 = .ok (.iload 4, 2) := dk_21 4 (dk_at dksX0_set_4 0 rfl rfl)
theorem dX0_set_95 : decode cX0_set 95 = .ok (.ireturn, 1) := dk_172 (dk_at dksX0_set_4 2 rfl rfl)
abbrev cX0_mayBe : ByteArray := prog_1_method_19_code
def yX0_mayBe : MethodName := ⟨RX0, "mayBe", "(II)Z"⟩
def dkwX0_mayBe_3 : List UInt8 := [20, 0, 160, 184, 0, 96, 172, 3, 172]
abbrev dktX0_mayBe_3 : List UInt8 := dkwX0_mayBe_3 ++ []
def dkwX0_mayBe_2 : List UInt8 := [27, 133, 9, 20, 0, 107, 184, 0, 96, 172, 27, 133, 10, 20, 0, 107, 184, 0, 96, 172, 27, 133, 9]
abbrev dktX0_mayBe_2 : List UInt8 := dkwX0_mayBe_2 ++ dktX0_mayBe_3
def dkwX0_mayBe_1 : List UInt8 := [170, 0, 0, 0, 0, 0, 85, 0, 0, 0, 1, 0, 0, 0, 10, 0, 0, 0, 55, 0, 0, 0, 65, 0, 0, 0, 85, 0, 0, 0, 85, 0, 0, 0, 85, 0, 0, 0, 85, 0, 0, 0, 85, 0, 0, 0, 75, 0, 0, 0, 75, 0, 0, 0, 75]
abbrev dktX0_mayBe_1 : List UInt8 := dkwX0_mayBe_1 ++ dktX0_mayBe_2
def dkwX0_mayBe_0 : List UInt8 := [26]
abbrev dktX0_mayBe_0 : List UInt8 := dkwX0_mayBe_0 ++ dktX0_mayBe_1
theorem dksX0_mayBe_0 : cX0_mayBe.data.toList.drop 0 = dktX0_mayBe_0 := by decide +kernel
theorem dksX0_mayBe_1 : cX0_mayBe.data.toList.drop 1 = dktX0_mayBe_1 := dk_seg dksX0_mayBe_0 1 rfl rfl
theorem dksX0_mayBe_2 : cX0_mayBe.data.toList.drop 56 = dktX0_mayBe_2 := dk_seg dksX0_mayBe_1 55 rfl rfl
theorem dksX0_mayBe_3 : cX0_mayBe.data.toList.drop 79 = dktX0_mayBe_3 := dk_seg dksX0_mayBe_2 23 rfl rfl
theorem dX0_mayBe_0 : decode cX0_mayBe 0 = .ok (.iload_n 0, 1) := dk_26 (dk_at dksX0_mayBe_0 0 rfl rfl)
theorem dX0_mayBe_1 : decode cX0_mayBe 1 = .ok (.tableswitch 85 1 10 #[55, 65, 85, 85, 85, 85, 85, 75, 75, 75], 55) := by decide +kernel
theorem dX0_mayBe_56 : decode cX0_mayBe 56 = .ok (.iload_n 1, 1) := dk_27 (dk_at dksX0_mayBe_2 0 rfl rfl)
theorem dX0_mayBe_57 : decode cX0_mayBe 57 = .ok (.i2l, 1) := dk_133 (dk_at dksX0_mayBe_2 1 rfl rfl)
theorem dX0_mayBe_58 : decode cX0_mayBe 58 = .ok (.lconst 0, 1) := dk_9 (dk_at dksX0_mayBe_2 2 rfl rfl)
theorem dX0_mayBe_59 : decode cX0_mayBe 59 = .ok (.ldc2_w 107, 3) := dk_20 0 107 (dk_at dksX0_mayBe_2 3 rfl rfl)
theorem dX0_mayBe_62 : decode cX0_mayBe 62 = .ok (.invokestatic 96, 3) := dk_184 0 96 (dk_at dksX0_mayBe_2 6 rfl rfl)
theorem dX0_mayBe_65 : decode cX0_mayBe 65 = .ok (.ireturn, 1) := dk_172 (dk_at dksX0_mayBe_2 9 rfl rfl)
theorem dX0_mayBe_66 : decode cX0_mayBe 66 = .ok (.iload_n 1, 1) := dk_27 (dk_at dksX0_mayBe_2 10 rfl rfl)
theorem dX0_mayBe_67 : decode cX0_mayBe 67 = .ok (.i2l, 1) := dk_133 (dk_at dksX0_mayBe_2 11 rfl rfl)
theorem dX0_mayBe_68 : decode cX0_mayBe 68 = .ok (.lconst 1, 1) := dk_10 (dk_at dksX0_mayBe_2 12 rfl rfl)
theorem dX0_mayBe_69 : decode cX0_mayBe 69 = .ok (.ldc2_w 107, 3) := dk_20 0 107 (dk_at dksX0_mayBe_2 13 rfl rfl)
theorem dX0_mayBe_72 : decode cX0_mayBe 72 = .ok (.invokestatic 96, 3) := dk_184 0 96 (dk_at dksX0_mayBe_2 16 rfl rfl)
theorem dX0_mayBe_75 : decode cX0_mayBe 75 = .ok (.ireturn, 1) := dk_172 (dk_at dksX0_mayBe_2 19 rfl rfl)
theorem dX0_mayBe_76 : decode cX0_mayBe 76 = .ok (.iload_n 1, 1) := dk_27 (dk_at dksX0_mayBe_2 20 rfl rfl)
theorem dX0_mayBe_77 : decode cX0_mayBe 77 = .ok (.i2l, 1) := dk_133 (dk_at dksX0_mayBe_2 21 rfl rfl)
theorem dX0_mayBe_78 : decode cX0_mayBe 78 = .ok (.lconst 0, 1) := dk_9 (dk_at dksX0_mayBe_2 22 rfl rfl)
theorem dX0_mayBe_79 : decode cX0_mayBe 79 = .ok (.ldc2_w 160, 3) := dk_20 0 160 (dk_at dksX0_mayBe_3 0 rfl rfl)
theorem dX0_mayBe_82 : decode cX0_mayBe 82 = .ok (.invokestatic 96, 3) := dk_184 0 96 (dk_at dksX0_mayBe_3 3 rfl rfl)
theorem dX0_mayBe_85 : decode cX0_mayBe 85 = .ok (.ireturn, 1) := dk_172 (dk_at dksX0_mayBe_3 6 rfl rfl)
theorem dX0_mayBe_86 : decode cX0_mayBe 86 = .ok (.iconst 0, 1) := dk_3 (dk_at dksX0_mayBe_3 7 rfl rfl)
theorem dX0_mayBe_87 : decode cX0_mayBe 87 = .ok (.ireturn, 1) := dk_172 (dk_at dksX0_mayBe_3 8 rfl rfl)
abbrev cX0_pipe : ByteArray := prog_1_method_21_code
def yX0_pipe : MethodName := ⟨RX0, "pipe", "(III)I"⟩
def dkwX0_pipe_2 : List UInt8 := [18, 110, 172, 42, 180, 0, 58, 27, 28, 29, 182, 0, 171, 42, 180, 0, 58, 180, 0, 100, 4, 100, 172]
abbrev dktX0_pipe_2 : List UInt8 := dkwX0_pipe_2 ++ []
def dkwX0_pipe_1 : List UInt8 := [20, 0, 169, 184, 0, 96, 154, 0, 6, 18, 109, 172, 42, 180, 0, 58, 180, 0, 100, 16, 12, 160, 0, 6]
abbrev dktX0_pipe_1 : List UInt8 := dkwX0_pipe_1 ++ dktX0_pipe_2
def dkwX0_pipe_0 : List UInt8 := [42, 27, 182, 0, 125, 153, 0, 28, 42, 28, 182, 0, 125, 153, 0, 20, 27, 28, 159, 0, 15, 29, 133, 10]
abbrev dktX0_pipe_0 : List UInt8 := dkwX0_pipe_0 ++ dktX0_pipe_1
theorem dksX0_pipe_0 : cX0_pipe.data.toList.drop 0 = dktX0_pipe_0 := by decide +kernel
theorem dksX0_pipe_1 : cX0_pipe.data.toList.drop 24 = dktX0_pipe_1 := dk_seg dksX0_pipe_0 24 rfl rfl
theorem dksX0_pipe_2 : cX0_pipe.data.toList.drop 48 = dktX0_pipe_2 := dk_seg dksX0_pipe_1 24 rfl rfl
theorem dX0_pipe_0 : decode cX0_pipe 0 = .ok (.aload_n 0, 1) := dk_42 (dk_at dksX0_pipe_0 0 rfl rfl)
theorem dX0_pipe_1 : decode cX0_pipe 1 = .ok (.iload_n 1, 1) := dk_27 (dk_at dksX0_pipe_0 1 rfl rfl)
theorem dX0_pipe_2 : decode cX0_pipe 2 = .ok (.invokevirtual 125, 3) := dk_182 0 125 (dk_at dksX0_pipe_0 2 rfl rfl)
theorem dX0_pipe_5 : decode cX0_pipe 5 = .ok (.ifCond .eq 28, 3) := dk_153 0 28 (dk_at dksX0_pipe_0 5 rfl rfl)
theorem dX0_pipe_8 : decode cX0_pipe 8 = .ok (.aload_n 0, 1) := dk_42 (dk_at dksX0_pipe_0 8 rfl rfl)
theorem dX0_pipe_9 : decode cX0_pipe 9 = .ok (.iload_n 2, 1) := dk_28 (dk_at dksX0_pipe_0 9 rfl rfl)
theorem dX0_pipe_10 : decode cX0_pipe 10 = .ok (.invokevirtual 125, 3) := dk_182 0 125 (dk_at dksX0_pipe_0 10 rfl rfl)
theorem dX0_pipe_13 : decode cX0_pipe 13 = .ok (.ifCond .eq 20, 3) := dk_153 0 20 (dk_at dksX0_pipe_0 13 rfl rfl)
theorem dX0_pipe_16 : decode cX0_pipe 16 = .ok (.iload_n 1, 1) := dk_27 (dk_at dksX0_pipe_0 16 rfl rfl)
theorem dX0_pipe_17 : decode cX0_pipe 17 = .ok (.iload_n 2, 1) := dk_28 (dk_at dksX0_pipe_0 17 rfl rfl)
theorem dX0_pipe_18 : decode cX0_pipe 18 = .ok (.if_icmp .eq 15, 3) := dk_159 0 15 (dk_at dksX0_pipe_0 18 rfl rfl)
theorem dX0_pipe_21 : decode cX0_pipe 21 = .ok (.iload_n 3, 1) := dk_29 (dk_at dksX0_pipe_0 21 rfl rfl)
theorem dX0_pipe_22 : decode cX0_pipe 22 = .ok (.i2l, 1) := dk_133 (dk_at dksX0_pipe_0 22 rfl rfl)
theorem dX0_pipe_23 : decode cX0_pipe 23 = .ok (.lconst 1, 1) := dk_10 (dk_at dksX0_pipe_0 23 rfl rfl)
theorem dX0_pipe_24 : decode cX0_pipe 24 = .ok (.ldc2_w 169, 3) := dk_20 0 169 (dk_at dksX0_pipe_1 0 rfl rfl)
theorem dX0_pipe_27 : decode cX0_pipe 27 = .ok (.invokestatic 96, 3) := dk_184 0 96 (dk_at dksX0_pipe_1 3 rfl rfl)
theorem dX0_pipe_30 : decode cX0_pipe 30 = .ok (.ifCond .ne 6, 3) := dk_154 0 6 (dk_at dksX0_pipe_1 6 rfl rfl)
theorem dX0_pipe_33 : decode cX0_pipe 33 = .ok (.ldc 109, 2) := dk_18 109 (dk_at dksX0_pipe_1 9 rfl rfl)
theorem dX0_pipe_35 : decode cX0_pipe 35 = .ok (.ireturn, 1) := dk_172 (dk_at dksX0_pipe_1 11 rfl rfl)
theorem dX0_pipe_36 : decode cX0_pipe 36 = .ok (.aload_n 0, 1) := dk_42 (dk_at dksX0_pipe_1 12 rfl rfl)
theorem dX0_pipe_37 : decode cX0_pipe 37 = .ok (.getfield 58, 3) := dk_180 0 58 (dk_at dksX0_pipe_1 13 rfl rfl)
theorem dX0_pipe_40 : decode cX0_pipe 40 = .ok (.getfield 100, 3) := dk_180 0 100 (dk_at dksX0_pipe_1 16 rfl rfl)
theorem dX0_pipe_43 : decode cX0_pipe 43 = .ok (.bipush 12, 2) := dk_16 12 (dk_at dksX0_pipe_1 19 rfl rfl)
theorem dX0_pipe_45 : decode cX0_pipe 45 = .ok (.if_icmp .ne 6, 3) := dk_160 0 6 (dk_at dksX0_pipe_1 21 rfl rfl)
theorem dX0_pipe_48 : decode cX0_pipe 48 = .ok (.ldc 110, 2) := dk_18 110 (dk_at dksX0_pipe_2 0 rfl rfl)
theorem dX0_pipe_50 : decode cX0_pipe 50 = .ok (.ireturn, 1) := dk_172 (dk_at dksX0_pipe_2 2 rfl rfl)
theorem dX0_pipe_51 : decode cX0_pipe 51 = .ok (.aload_n 0, 1) := dk_42 (dk_at dksX0_pipe_2 3 rfl rfl)
theorem dX0_pipe_52 : decode cX0_pipe 52 = .ok (.getfield 58, 3) := dk_180 0 58 (dk_at dksX0_pipe_2 4 rfl rfl)
theorem dX0_pipe_55 : decode cX0_pipe 55 = .ok (.iload_n 1, 1) := dk_27 (dk_at dksX0_pipe_2 7 rfl rfl)
theorem dX0_pipe_56 : decode cX0_pipe 56 = .ok (.iload_n 2, 1) := dk_28 (dk_at dksX0_pipe_2 8 rfl rfl)
theorem dX0_pipe_57 : decode cX0_pipe 57 = .ok (.iload_n 3, 1) := dk_29 (dk_at dksX0_pipe_2 9 rfl rfl)
theorem dX0_pipe_58 : decode cX0_pipe 58 = .ok (.invokevirtual 171, 3) := dk_182 0 171 (dk_at dksX0_pipe_2 10 rfl rfl)
theorem dX0_pipe_61 : decode cX0_pipe 61 = .ok (.aload_n 0, 1) := dk_42 (dk_at dksX0_pipe_2 13 rfl rfl)
theorem dX0_pipe_62 : decode cX0_pipe 62 = .ok (.getfield 58, 3) := dk_180 0 58 (dk_at dksX0_pipe_2 14 rfl rfl)
theorem dX0_pipe_65 : decode cX0_pipe 65 = .ok (.getfield 100, 3) := dk_180 0 100 (dk_at dksX0_pipe_2 17 rfl rfl)
theorem dX0_pipe_68 : decode cX0_pipe 68 = .ok (.iconst 1, 1) := dk_4 (dk_at dksX0_pipe_2 20 rfl rfl)
theorem dX0_pipe_69 : decode cX0_pipe 69 = .ok (.isub, 1) := dk_100 (dk_at dksX0_pipe_2 21 rfl rfl)
theorem dX0_pipe_70 : decode cX0_pipe 70 = .ok (.ireturn, 1) := dk_172 (dk_at dksX0_pipe_2 22 rfl rfl)
abbrev cX0_pipeOf : ByteArray := prog_1_method_22_code
def yX0_pipeOf : MethodName := ⟨RX0, "pipeOf", "(II)I"⟩
def dkwX0_pipeOf_4 : List UInt8 := [182, 0, 195, 172, 18, 109, 172]
abbrev dktX0_pipeOf_4 : List UInt8 := dkwX0_pipeOf_4 ++ []
def dkwX0_pipeOf_3 : List UInt8 := [180, 0, 184, 27, 46, 172, 42, 180, 0, 58, 180, 0, 187, 27, 51, 184, 0, 191, 172, 42, 180, 0, 58, 27]
abbrev dktX0_pipeOf_3 : List UInt8 := dkwX0_pipeOf_3 ++ dktX0_pipeOf_4
def dkwX0_pipeOf_2 : List UInt8 := [42, 180, 0, 58, 180, 0, 178, 27, 46, 172, 42, 180, 0, 58, 180, 0, 181, 27, 46, 172, 42, 180, 0, 58]
abbrev dktX0_pipeOf_2 : List UInt8 := dkwX0_pipeOf_2 ++ dktX0_pipeOf_3
def dkwX0_pipeOf_1 : List UInt8 := [170, 0, 0, 0, 0, 0, 0, 88, 0, 0, 0, 0, 0, 0, 0, 4, 0, 0, 0, 36, 0, 0, 0, 46, 0, 0, 0, 56, 0, 0, 0, 66, 0, 0, 0, 79]
abbrev dktX0_pipeOf_1 : List UInt8 := dkwX0_pipeOf_1 ++ dktX0_pipeOf_2
def dkwX0_pipeOf_0 : List UInt8 := [42, 27, 182, 0, 175, 154, 0, 6, 18, 109, 172, 28]
abbrev dktX0_pipeOf_0 : List UInt8 := dkwX0_pipeOf_0 ++ dktX0_pipeOf_1
theorem dksX0_pipeOf_0 : cX0_pipeOf.data.toList.drop 0 = dktX0_pipeOf_0 := by decide +kernel
theorem dksX0_pipeOf_1 : cX0_pipeOf.data.toList.drop 12 = dktX0_pipeOf_1 := dk_seg dksX0_pipeOf_0 12 rfl rfl
theorem dksX0_pipeOf_2 : cX0_pipeOf.data.toList.drop 48 = dktX0_pipeOf_2 := dk_seg dksX0_pipeOf_1 36 rfl rfl
theorem dksX0_pipeOf_3 : cX0_pipeOf.data.toList.drop 72 = dktX0_pipeOf_3 := dk_seg dksX0_pipeOf_2 24 rfl rfl
theorem dksX0_pipeOf_4 : cX0_pipeOf.data.toList.drop 96 = dktX0_pipeOf_4 := dk_seg dksX0_pipeOf_3 24 rfl rfl
theorem dX0_pipeOf_0 : decode cX0_pipeOf 0 = .ok (.aload_n 0, 1) := dk_42 (dk_at dksX0_pipeOf_0 0 rfl rfl)
theorem dX0_pipeOf_1 : decode cX0_pipeOf 1 = .ok (.iload_n 1, 1) := dk_27 (dk_at dksX0_pipeOf_0 1 rfl rfl)
theorem dX0_pipeOf_2 : decode cX0_pipeOf 2 = .ok (.invokevirtual 175, 3) := dk_182 0 175 (dk_at dksX0_pipeOf_0 2 rfl rfl)
theorem dX0_pipeOf_5 : decode cX0_pipeOf 5 = .ok (.ifCond .ne 6, 3) := dk_154 0 6 (dk_at dksX0_pipeOf_0 5 rfl rfl)
theorem dX0_pipeOf_8 : decode cX0_pipeOf 8 = .ok (.ldc 109, 2) := dk_18 109 (dk_at dksX0_pipeOf_0 8 rfl rfl)
theorem dX0_pipeOf_10 : decode cX0_pipeOf 10 = .ok (.ireturn, 1) := dk_172 (dk_at dksX0_pipeOf_0 10 rfl rfl)
theorem dX0_pipeOf_11 : decode cX0_pipeOf 11 = .ok (.iload_n 2, 1) := dk_28 (dk_at dksX0_pipeOf_0 11 rfl rfl)
theorem dX0_pipeOf_12 : decode cX0_pipeOf 12 = .ok (.tableswitch 88 0 4 #[36, 46, 56, 66, 79], 36) := by decide +kernel
theorem dX0_pipeOf_48 : decode cX0_pipeOf 48 = .ok (.aload_n 0, 1) := dk_42 (dk_at dksX0_pipeOf_2 0 rfl rfl)
theorem dX0_pipeOf_49 : decode cX0_pipeOf 49 = .ok (.getfield 58, 3) := dk_180 0 58 (dk_at dksX0_pipeOf_2 1 rfl rfl)
theorem dX0_pipeOf_52 : decode cX0_pipeOf 52 = .ok (.getfield 178, 3) := dk_180 0 178 (dk_at dksX0_pipeOf_2 4 rfl rfl)
theorem dX0_pipeOf_55 : decode cX0_pipeOf 55 = .ok (.iload_n 1, 1) := dk_27 (dk_at dksX0_pipeOf_2 7 rfl rfl)
theorem dX0_pipeOf_56 : decode cX0_pipeOf 56 = .ok (.iaload, 1) := dk_46 (dk_at dksX0_pipeOf_2 8 rfl rfl)
theorem dX0_pipeOf_57 : decode cX0_pipeOf 57 = .ok (.ireturn, 1) := dk_172 (dk_at dksX0_pipeOf_2 9 rfl rfl)
theorem dX0_pipeOf_58 : decode cX0_pipeOf 58 = .ok (.aload_n 0, 1) := dk_42 (dk_at dksX0_pipeOf_2 10 rfl rfl)
theorem dX0_pipeOf_59 : decode cX0_pipeOf 59 = .ok (.getfield 58, 3) := dk_180 0 58 (dk_at dksX0_pipeOf_2 11 rfl rfl)
theorem dX0_pipeOf_62 : decode cX0_pipeOf 62 = .ok (.getfield 181, 3) := dk_180 0 181 (dk_at dksX0_pipeOf_2 14 rfl rfl)
theorem dX0_pipeOf_65 : decode cX0_pipeOf 65 = .ok (.iload_n 1, 1) := dk_27 (dk_at dksX0_pipeOf_2 17 rfl rfl)
theorem dX0_pipeOf_66 : decode cX0_pipeOf 66 = .ok (.iaload, 1) := dk_46 (dk_at dksX0_pipeOf_2 18 rfl rfl)
theorem dX0_pipeOf_67 : decode cX0_pipeOf 67 = .ok (.ireturn, 1) := dk_172 (dk_at dksX0_pipeOf_2 19 rfl rfl)
theorem dX0_pipeOf_68 : decode cX0_pipeOf 68 = .ok (.aload_n 0, 1) := dk_42 (dk_at dksX0_pipeOf_2 20 rfl rfl)
theorem dX0_pipeOf_69 : decode cX0_pipeOf 69 = .ok (.getfield 58, 3) := dk_180 0 58 (dk_at dksX0_pipeOf_2 21 rfl rfl)
theorem dX0_pipeOf_72 : decode cX0_pipeOf 72 = .ok (.getfield 184, 3) := dk_180 0 184 (dk_at dksX0_pipeOf_3 0 rfl rfl)
theorem dX0_pipeOf_75 : decode cX0_pipeOf 75 = .ok (.iload_n 1, 1) := dk_27 (dk_at dksX0_pipeOf_3 3 rfl rfl)
theorem dX0_pipeOf_76 : decode cX0_pipeOf 76 = .ok (.iaload, 1) := dk_46 (dk_at dksX0_pipeOf_3 4 rfl rfl)
theorem dX0_pipeOf_77 : decode cX0_pipeOf 77 = .ok (.ireturn, 1) := dk_172 (dk_at dksX0_pipeOf_3 5 rfl rfl)
theorem dX0_pipeOf_78 : decode cX0_pipeOf 78 = .ok (.aload_n 0, 1) := dk_42 (dk_at dksX0_pipeOf_3 6 rfl rfl)
theorem dX0_pipeOf_79 : decode cX0_pipeOf 79 = .ok (.getfield 58, 3) := dk_180 0 58 (dk_at dksX0_pipeOf_3 7 rfl rfl)
theorem dX0_pipeOf_82 : decode cX0_pipeOf 82 = .ok (.getfield 187, 3) := dk_180 0 187 (dk_at dksX0_pipeOf_3 10 rfl rfl)
theorem dX0_pipeOf_85 : decode cX0_pipeOf 85 = .ok (.iload_n 1, 1) := dk_27 (dk_at dksX0_pipeOf_3 13 rfl rfl)
theorem dX0_pipeOf_86 : decode cX0_pipeOf 86 = .ok (.baload, 1) := dk_51 (dk_at dksX0_pipeOf_3 14 rfl rfl)
theorem dX0_pipeOf_87 : decode cX0_pipeOf 87 = .ok (.invokestatic 191, 3) := dk_184 0 191 (dk_at dksX0_pipeOf_3 15 rfl rfl)
theorem dX0_pipeOf_90 : decode cX0_pipeOf 90 = .ok (.ireturn, 1) := dk_172 (dk_at dksX0_pipeOf_3 18 rfl rfl)
theorem dX0_pipeOf_91 : decode cX0_pipeOf 91 = .ok (.aload_n 0, 1) := dk_42 (dk_at dksX0_pipeOf_3 19 rfl rfl)
theorem dX0_pipeOf_92 : decode cX0_pipeOf 92 = .ok (.getfield 58, 3) := dk_180 0 58 (dk_at dksX0_pipeOf_3 20 rfl rfl)
theorem dX0_pipeOf_95 : decode cX0_pipeOf 95 = .ok (.iload_n 1, 1) := dk_27 (dk_at dksX0_pipeOf_3 23 rfl rfl)
theorem dX0_pipeOf_96 : decode cX0_pipeOf 96 = .ok (.invokevirtual 195, 3) := dk_182 0 195 (dk_at dksX0_pipeOf_4 0 rfl rfl)
theorem dX0_pipeOf_99 : decode cX0_pipeOf 99 = .ok (.ireturn, 1) := dk_172 (dk_at dksX0_pipeOf_4 3 rfl rfl)
theorem dX0_pipeOf_100 : decode cX0_pipeOf 100 = .ok (.ldc 109, 2) := dk_18 109 (dk_at dksX0_pipeOf_4 4 rfl rfl)
theorem dX0_pipeOf_102 : decode cX0_pipeOf 102 = .ok (.ireturn, 1) := dk_172 (dk_at dksX0_pipeOf_4 6 rfl rfl)
abbrev cX0_isPipe : ByteArray := prog_1_method_10_code
def yX0_isPipe : MethodName := ⟨RX0, "isPipe", "(I)Z"⟩
def dkwX0_isPipe_0 : List UInt8 := [27, 133, 9, 42, 180, 0, 58, 180, 0, 100, 4, 100, 133, 184, 0, 96, 172]
abbrev dktX0_isPipe_0 : List UInt8 := dkwX0_isPipe_0 ++ []
theorem dksX0_isPipe_0 : cX0_isPipe.data.toList.drop 0 = dktX0_isPipe_0 := by decide +kernel
theorem dX0_isPipe_0 : decode cX0_isPipe 0 = .ok (.iload_n 1, 1) := dk_27 (dk_at dksX0_isPipe_0 0 rfl rfl)
theorem dX0_isPipe_1 : decode cX0_isPipe 1 = .ok (.i2l, 1) := dk_133 (dk_at dksX0_isPipe_0 1 rfl rfl)
theorem dX0_isPipe_2 : decode cX0_isPipe 2 = .ok (.lconst 0, 1) := dk_9 (dk_at dksX0_isPipe_0 2 rfl rfl)
theorem dX0_isPipe_3 : decode cX0_isPipe 3 = .ok (.aload_n 0, 1) := dk_42 (dk_at dksX0_isPipe_0 3 rfl rfl)
theorem dX0_isPipe_4 : decode cX0_isPipe 4 = .ok (.getfield 58, 3) := dk_180 0 58 (dk_at dksX0_isPipe_0 4 rfl rfl)
theorem dX0_isPipe_7 : decode cX0_isPipe 7 = .ok (.getfield 100, 3) := dk_180 0 100 (dk_at dksX0_isPipe_0 7 rfl rfl)
theorem dX0_isPipe_10 : decode cX0_isPipe 10 = .ok (.iconst 1, 1) := dk_4 (dk_at dksX0_isPipe_0 10 rfl rfl)
theorem dX0_isPipe_11 : decode cX0_isPipe 11 = .ok (.isub, 1) := dk_100 (dk_at dksX0_isPipe_0 11 rfl rfl)
theorem dX0_isPipe_12 : decode cX0_isPipe 12 = .ok (.i2l, 1) := dk_133 (dk_at dksX0_isPipe_0 12 rfl rfl)
theorem dX0_isPipe_13 : decode cX0_isPipe 13 = .ok (.invokestatic 96, 3) := dk_184 0 96 (dk_at dksX0_isPipe_0 13 rfl rfl)
theorem dX0_isPipe_16 : decode cX0_isPipe 16 = .ok (.ireturn, 1) := dk_172 (dk_at dksX0_isPipe_0 16 rfl rfl)
abbrev cX0_cork : ByteArray := prog_1_method_23_code
def yX0_cork : MethodName := ⟨RX0, "cork", "(II)I"⟩
def dkwX0_cork_2 : List UInt8 := [160, 0, 7, 4, 167, 0, 4, 3, 84, 29, 172]
abbrev dktX0_cork_2 : List UInt8 := dkwX0_cork_2 ++ []
def dkwX0_cork_1 : List UInt8 := [180, 0, 58, 180, 0, 187, 27, 51, 184, 0, 191, 62, 42, 180, 0, 58, 180, 0, 187, 27, 28, 4]
abbrev dktX0_cork_1 : List UInt8 := dkwX0_cork_1 ++ dktX0_cork_2
def dkwX0_cork_0 : List UInt8 := [42, 27, 182, 0, 175, 153, 0, 13, 28, 133, 9, 10, 184, 0, 96, 154, 0, 6, 18, 109, 172, 42]
abbrev dktX0_cork_0 : List UInt8 := dkwX0_cork_0 ++ dktX0_cork_1
theorem dksX0_cork_0 : cX0_cork.data.toList.drop 0 = dktX0_cork_0 := by decide +kernel
theorem dksX0_cork_1 : cX0_cork.data.toList.drop 22 = dktX0_cork_1 := dk_seg dksX0_cork_0 22 rfl rfl
theorem dksX0_cork_2 : cX0_cork.data.toList.drop 44 = dktX0_cork_2 := dk_seg dksX0_cork_1 22 rfl rfl
theorem dX0_cork_0 : decode cX0_cork 0 = .ok (.aload_n 0, 1) := dk_42 (dk_at dksX0_cork_0 0 rfl rfl)
theorem dX0_cork_1 : decode cX0_cork 1 = .ok (.iload_n 1, 1) := dk_27 (dk_at dksX0_cork_0 1 rfl rfl)
theorem dX0_cork_2 : decode cX0_cork 2 = .ok (.invokevirtual 175, 3) := dk_182 0 175 (dk_at dksX0_cork_0 2 rfl rfl)
theorem dX0_cork_5 : decode cX0_cork 5 = .ok (.ifCond .eq 13, 3) := dk_153 0 13 (dk_at dksX0_cork_0 5 rfl rfl)
theorem dX0_cork_8 : decode cX0_cork 8 = .ok (.iload_n 2, 1) := dk_28 (dk_at dksX0_cork_0 8 rfl rfl)
theorem dX0_cork_9 : decode cX0_cork 9 = .ok (.i2l, 1) := dk_133 (dk_at dksX0_cork_0 9 rfl rfl)
theorem dX0_cork_10 : decode cX0_cork 10 = .ok (.lconst 0, 1) := dk_9 (dk_at dksX0_cork_0 10 rfl rfl)
theorem dX0_cork_11 : decode cX0_cork 11 = .ok (.lconst 1, 1) := dk_10 (dk_at dksX0_cork_0 11 rfl rfl)
theorem dX0_cork_12 : decode cX0_cork 12 = .ok (.invokestatic 96, 3) := dk_184 0 96 (dk_at dksX0_cork_0 12 rfl rfl)
theorem dX0_cork_15 : decode cX0_cork 15 = .ok (.ifCond .ne 6, 3) := dk_154 0 6 (dk_at dksX0_cork_0 15 rfl rfl)
theorem dX0_cork_18 : decode cX0_cork 18 = .ok (.ldc 109, 2) := dk_18 109 (dk_at dksX0_cork_0 18 rfl rfl)
theorem dX0_cork_20 : decode cX0_cork 20 = .ok (.ireturn, 1) := dk_172 (dk_at dksX0_cork_0 20 rfl rfl)
theorem dX0_cork_21 : decode cX0_cork 21 = .ok (.aload_n 0, 1) := dk_42 (dk_at dksX0_cork_0 21 rfl rfl)
theorem dX0_cork_22 : decode cX0_cork 22 = .ok (.getfield 58, 3) := dk_180 0 58 (dk_at dksX0_cork_1 0 rfl rfl)
theorem dX0_cork_25 : decode cX0_cork 25 = .ok (.getfield 187, 3) := dk_180 0 187 (dk_at dksX0_cork_1 3 rfl rfl)
theorem dX0_cork_28 : decode cX0_cork 28 = .ok (.iload_n 1, 1) := dk_27 (dk_at dksX0_cork_1 6 rfl rfl)
theorem dX0_cork_29 : decode cX0_cork 29 = .ok (.baload, 1) := dk_51 (dk_at dksX0_cork_1 7 rfl rfl)
theorem dX0_cork_30 : decode cX0_cork 30 = .ok (.invokestatic 191, 3) := dk_184 0 191 (dk_at dksX0_cork_1 8 rfl rfl)
theorem dX0_cork_33 : decode cX0_cork 33 = .ok (.istore_n 3, 1) := dk_62 (dk_at dksX0_cork_1 11 rfl rfl)
theorem dX0_cork_34 : decode cX0_cork 34 = .ok (.aload_n 0, 1) := dk_42 (dk_at dksX0_cork_1 12 rfl rfl)
theorem dX0_cork_35 : decode cX0_cork 35 = .ok (.getfield 58, 3) := dk_180 0 58 (dk_at dksX0_cork_1 13 rfl rfl)
theorem dX0_cork_38 : decode cX0_cork 38 = .ok (.getfield 187, 3) := dk_180 0 187 (dk_at dksX0_cork_1 16 rfl rfl)
theorem dX0_cork_41 : decode cX0_cork 41 = .ok (.iload_n 1, 1) := dk_27 (dk_at dksX0_cork_1 19 rfl rfl)
theorem dX0_cork_42 : decode cX0_cork 42 = .ok (.iload_n 2, 1) := dk_28 (dk_at dksX0_cork_1 20 rfl rfl)
theorem dX0_cork_43 : decode cX0_cork 43 = .ok (.iconst 1, 1) := dk_4 (dk_at dksX0_cork_1 21 rfl rfl)
theorem dX0_cork_44 : decode cX0_cork 44 = .ok (.if_icmp .ne 7, 3) := dk_160 0 7 (dk_at dksX0_cork_2 0 rfl rfl)
theorem dX0_cork_47 : decode cX0_cork 47 = .ok (.iconst 1, 1) := dk_4 (dk_at dksX0_cork_2 3 rfl rfl)
theorem dX0_cork_48 : decode cX0_cork 48 = .ok (.goto 4, 3) := dk_167 0 4 (dk_at dksX0_cork_2 4 rfl rfl)
theorem dX0_cork_51 : decode cX0_cork 51 = .ok (.iconst 0, 1) := dk_3 (dk_at dksX0_cork_2 7 rfl rfl)
theorem dX0_cork_52 : decode cX0_cork 52 = .ok (.bastore, 1) := dk_84 (dk_at dksX0_cork_2 8 rfl rfl)
theorem dX0_cork_53 : decode cX0_cork 53 = .ok (.iload_n 3, 1) := dk_29 (dk_at dksX0_cork_2 9 rfl rfl)
theorem dX0_cork_54 : decode cX0_cork 54 = .ok (.ireturn, 1) := dk_172 (dk_at dksX0_cork_2 10 rfl rfl)
abbrev cX0_thirst : ByteArray := prog_1_method_24_code
def yX0_thirst : MethodName := ⟨RX0, "thirst", "(I)I"⟩
def dkwX0_thirst_1 : List UInt8 := [180, 0, 58, 27, 181, 0, 200, 28, 172]
abbrev dktX0_thirst_1 : List UInt8 := dkwX0_thirst_1 ++ []
def dkwX0_thirst_0 : List UInt8 := [27, 133, 9, 20, 0, 198, 184, 0, 96, 154, 0, 6, 18, 109, 172, 42, 180, 0, 58, 180, 0, 200, 61, 42]
abbrev dktX0_thirst_0 : List UInt8 := dkwX0_thirst_0 ++ dktX0_thirst_1
theorem dksX0_thirst_0 : cX0_thirst.data.toList.drop 0 = dktX0_thirst_0 := by decide +kernel
theorem dksX0_thirst_1 : cX0_thirst.data.toList.drop 24 = dktX0_thirst_1 := dk_seg dksX0_thirst_0 24 rfl rfl
theorem dX0_thirst_0 : decode cX0_thirst 0 = .ok (.iload_n 1, 1) := dk_27 (dk_at dksX0_thirst_0 0 rfl rfl)
theorem dX0_thirst_1 : decode cX0_thirst 1 = .ok (.i2l, 1) := dk_133 (dk_at dksX0_thirst_0 1 rfl rfl)
theorem dX0_thirst_2 : decode cX0_thirst 2 = .ok (.lconst 0, 1) := dk_9 (dk_at dksX0_thirst_0 2 rfl rfl)
theorem dX0_thirst_3 : decode cX0_thirst 3 = .ok (.ldc2_w 198, 3) := dk_20 0 198 (dk_at dksX0_thirst_0 3 rfl rfl)
theorem dX0_thirst_6 : decode cX0_thirst 6 = .ok (.invokestatic 96, 3) := dk_184 0 96 (dk_at dksX0_thirst_0 6 rfl rfl)
theorem dX0_thirst_9 : decode cX0_thirst 9 = .ok (.ifCond .ne 6, 3) := dk_154 0 6 (dk_at dksX0_thirst_0 9 rfl rfl)
theorem dX0_thirst_12 : decode cX0_thirst 12 = .ok (.ldc 109, 2) := dk_18 109 (dk_at dksX0_thirst_0 12 rfl rfl)
theorem dX0_thirst_14 : decode cX0_thirst 14 = .ok (.ireturn, 1) := dk_172 (dk_at dksX0_thirst_0 14 rfl rfl)
theorem dX0_thirst_15 : decode cX0_thirst 15 = .ok (.aload_n 0, 1) := dk_42 (dk_at dksX0_thirst_0 15 rfl rfl)
theorem dX0_thirst_16 : decode cX0_thirst 16 = .ok (.getfield 58, 3) := dk_180 0 58 (dk_at dksX0_thirst_0 16 rfl rfl)
theorem dX0_thirst_19 : decode cX0_thirst 19 = .ok (.getfield 200, 3) := dk_180 0 200 (dk_at dksX0_thirst_0 19 rfl rfl)
theorem dX0_thirst_22 : decode cX0_thirst 22 = .ok (.istore_n 2, 1) := dk_61 (dk_at dksX0_thirst_0 22 rfl rfl)
theorem dX0_thirst_23 : decode cX0_thirst 23 = .ok (.aload_n 0, 1) := dk_42 (dk_at dksX0_thirst_0 23 rfl rfl)
theorem dX0_thirst_24 : decode cX0_thirst 24 = .ok (.getfield 58, 3) := dk_180 0 58 (dk_at dksX0_thirst_1 0 rfl rfl)
theorem dX0_thirst_27 : decode cX0_thirst 27 = .ok (.iload_n 1, 1) := dk_27 (dk_at dksX0_thirst_1 3 rfl rfl)
theorem dX0_thirst_28 : decode cX0_thirst 28 = .ok (.putfield 200, 3) := dk_181 0 200 (dk_at dksX0_thirst_1 4 rfl rfl)
theorem dX0_thirst_31 : decode cX0_thirst 31 = .ok (.iload_n 2, 1) := dk_28 (dk_at dksX0_thirst_1 7 rfl rfl)
theorem dX0_thirst_32 : decode cX0_thirst 32 = .ok (.ireturn, 1) := dk_172 (dk_at dksX0_thirst_1 8 rfl rfl)
abbrev cX0_deal : ByteArray := prog_1_method_25_code
def yX0_deal : MethodName := ⟨RX0, "deal", "(I)I"⟩
def dkwX0_deal_5 : List UInt8 := [167, 255, 172, 28, 172]
abbrev dktX0_deal_5 : List UInt8 := dkwX0_deal_5 ++ []
def dkwX0_deal_4 : List UInt8 := [25, 7, 180, 0, 144, 21, 4, 42, 180, 0, 58, 182, 0, 205, 17, 1, 44, 112, 79, 132, 3, 1]
abbrev dktX0_deal_4 : List UInt8 := dkwX0_deal_4 ++ dktX0_deal_5
def dkwX0_deal_3 : List UInt8 := [54, 6, 42, 21, 5, 21, 6, 4, 42, 180, 0, 58, 182, 0, 205, 16, 60, 112, 96, 182, 0, 111, 58, 7]
abbrev dktX0_deal_3 : List UInt8 := dkwX0_deal_3 ++ dktX0_deal_4
def dkwX0_deal_2 : List UInt8 := [54, 4, 42, 180, 0, 58, 182, 0, 205, 16, 6, 112, 54, 5, 42, 180, 0, 58, 182, 0, 205, 16, 60, 112]
abbrev dktX0_deal_2 : List UInt8 := dkwX0_deal_2 ++ dktX0_deal_3
def dkwX0_deal_1 : List UInt8 := [180, 0, 92, 100, 184, 0, 4, 61, 3, 62, 29, 28, 162, 0, 85, 42, 180, 0, 58, 180, 0, 92, 6, 112]
abbrev dktX0_deal_1 : List UInt8 := dkwX0_deal_1 ++ dktX0_deal_2
def dkwX0_deal_0 : List UInt8 := [27, 133, 10, 20, 0, 203, 184, 0, 96, 154, 0, 6, 18, 109, 172, 27, 16, 8, 42, 180, 0, 58]
abbrev dktX0_deal_0 : List UInt8 := dkwX0_deal_0 ++ dktX0_deal_1
theorem dksX0_deal_0 : cX0_deal.data.toList.drop 0 = dktX0_deal_0 := by decide +kernel
theorem dksX0_deal_1 : cX0_deal.data.toList.drop 22 = dktX0_deal_1 := dk_seg dksX0_deal_0 22 rfl rfl
theorem dksX0_deal_2 : cX0_deal.data.toList.drop 46 = dktX0_deal_2 := dk_seg dksX0_deal_1 24 rfl rfl
theorem dksX0_deal_3 : cX0_deal.data.toList.drop 70 = dktX0_deal_3 := dk_seg dksX0_deal_2 24 rfl rfl
theorem dksX0_deal_4 : cX0_deal.data.toList.drop 94 = dktX0_deal_4 := dk_seg dksX0_deal_3 24 rfl rfl
theorem dksX0_deal_5 : cX0_deal.data.toList.drop 116 = dktX0_deal_5 := dk_seg dksX0_deal_4 22 rfl rfl
theorem dX0_deal_0 : decode cX0_deal 0 = .ok (.iload_n 1, 1) := dk_27 (dk_at dksX0_deal_0 0 rfl rfl)
theorem dX0_deal_1 : decode cX0_deal 1 = .ok (.i2l, 1) := dk_133 (dk_at dksX0_deal_0 1 rfl rfl)
theorem dX0_deal_2 : decode cX0_deal 2 = .ok (.lconst 1, 1) := dk_10 (dk_at dksX0_deal_0 2 rfl rfl)
theorem dX0_deal_3 : decode cX0_deal 3 = .ok (.ldc2_w 203, 3) := dk_20 0 203 (dk_at dksX0_deal_0 3 rfl rfl)
theorem dX0_deal_6 : decode cX0_deal 6 = .ok (.invokestatic 96, 3) := dk_184 0 96 (dk_at dksX0_deal_0 6 rfl rfl)
theorem dX0_deal_9 : decode cX0_deal 9 = .ok (.ifCond .ne 6, 3) := dk_154 0 6 (dk_at dksX0_deal_0 9 rfl rfl)
theorem dX0_deal_12 : decode cX0_deal 12 = .ok (.ldc 109, 2) := dk_18 109 (dk_at dksX0_deal_0 12 rfl rfl)
theorem dX0_deal_14 : decode cX0_deal 14 = .ok (.ireturn, 1) := dk_172 (dk_at dksX0_deal_0 14 rfl rfl)
theorem dX0_deal_15 : decode cX0_deal 15 = .ok (.iload_n 1, 1) := dk_27 (dk_at dksX0_deal_0 15 rfl rfl)
theorem dX0_deal_16 : decode cX0_deal 16 = .ok (.bipush 8, 2) := dk_16 8 (dk_at dksX0_deal_0 16 rfl rfl)
theorem dX0_deal_18 : decode cX0_deal 18 = .ok (.aload_n 0, 1) := dk_42 (dk_at dksX0_deal_0 18 rfl rfl)
theorem dX0_deal_19 : decode cX0_deal 19 = .ok (.getfield 58, 3) := dk_180 0 58 (dk_at dksX0_deal_0 19 rfl rfl)
theorem dX0_deal_22 : decode cX0_deal 22 = .ok (.getfield 92, 3) := dk_180 0 92 (dk_at dksX0_deal_1 0 rfl rfl)
theorem dX0_deal_25 : decode cX0_deal 25 = .ok (.isub, 1) := dk_100 (dk_at dksX0_deal_1 3 rfl rfl)
theorem dX0_deal_26 : decode cX0_deal 26 = .ok (.invokestatic 4, 3) := dk_184 0 4 (dk_at dksX0_deal_1 4 rfl rfl)
theorem dX0_deal_29 : decode cX0_deal 29 = .ok (.istore_n 2, 1) := dk_61 (dk_at dksX0_deal_1 7 rfl rfl)
theorem dX0_deal_30 : decode cX0_deal 30 = .ok (.iconst 0, 1) := dk_3 (dk_at dksX0_deal_1 8 rfl rfl)
theorem dX0_deal_31 : decode cX0_deal 31 = .ok (.istore_n 3, 1) := dk_62 (dk_at dksX0_deal_1 9 rfl rfl)
theorem dX0_deal_32 : decode cX0_deal 32 = .ok (.iload_n 3, 1) := dk_29 (dk_at dksX0_deal_1 10 rfl rfl)
theorem dX0_deal_33 : decode cX0_deal 33 = .ok (.iload_n 2, 1) := dk_28 (dk_at dksX0_deal_1 11 rfl rfl)
theorem dX0_deal_34 : decode cX0_deal 34 = .ok (.if_icmp .ge 85, 3) := dk_162 0 85 (dk_at dksX0_deal_1 12 rfl rfl)
theorem dX0_deal_37 : decode cX0_deal 37 = .ok (.aload_n 0, 1) := dk_42 (dk_at dksX0_deal_1 15 rfl rfl)
theorem dX0_deal_38 : decode cX0_deal 38 = .ok (.getfield 58, 3) := dk_180 0 58 (dk_at dksX0_deal_1 16 rfl rfl)
theorem dX0_deal_41 : decode cX0_deal 41 = .ok (.getfield 92, 3) := dk_180 0 92 (dk_at dksX0_deal_1 19 rfl rfl)
theorem dX0_deal_44 : decode cX0_deal 44 = .ok (.iconst 3, 1) := dk_6 (dk_at dksX0_deal_1 22 rfl rfl)
theorem dX0_deal_45 : decode cX0_deal 45 = .ok (.irem, 1) := dk_112 (dk_at dksX0_deal_1 23 rfl rfl)
theorem dX0_deal_46 : decode cX0_deal 46 = .ok (.istore 4, 2) := dk_54 4 (dk_at dksX0_deal_2 0 rfl rfl)
theorem dX0_deal_48 : decode cX0_deal 48 = .ok (.aload_n 0, 1) := dk_42 (dk_at dksX0_deal_2 2 rfl rfl)
theorem dX0_deal_49 : decode cX0_deal 49 = .ok (.getfield 58, 3) := dk_180 0 58 (dk_at dksX0_deal_2 3 rfl rfl)
theorem dX0_deal_52 : decode cX0_deal 52 = .ok (.invokevirtual 205, 3) := dk_182 0 205 (dk_at dksX0_deal_2 6 rfl rfl)
theorem dX0_deal_55 : decode cX0_deal 55 = .ok (.bipush 6, 2) := dk_16 6 (dk_at dksX0_deal_2 9 rfl rfl)
theorem dX0_deal_57 : decode cX0_deal 57 = .ok (.irem, 1) := dk_112 (dk_at dksX0_deal_2 11 rfl rfl)
theorem dX0_deal_58 : decode cX0_deal 58 = .ok (.istore 5, 2) := dk_54 5 (dk_at dksX0_deal_2 12 rfl rfl)
theorem dX0_deal_60 : decode cX0_deal 60 = .ok (.aload_n 0, 1) := dk_42 (dk_at dksX0_deal_2 14 rfl rfl)
theorem dX0_deal_61 : decode cX0_deal 61 = .ok (.getfield 58, 3) := dk_180 0 58 (dk_at dksX0_deal_2 15 rfl rfl)
theorem dX0_deal_64 : decode cX0_deal 64 = .ok (.invokevirtual 205, 3) := dk_182 0 205 (dk_at dksX0_deal_2 18 rfl rfl)
theorem dX0_deal_67 : decode cX0_deal 67 = .ok (.bipush 60, 2) := dk_16 60 (dk_at dksX0_deal_2 21 rfl rfl)
theorem dX0_deal_69 : decode cX0_deal 69 = .ok (.irem, 1) := dk_112 (dk_at dksX0_deal_2 23 rfl rfl)
theorem dX0_deal_70 : decode cX0_deal 70 = .ok (.istore 6, 2) := dk_54 6 (dk_at dksX0_deal_3 0 rfl rfl)
theorem dX0_deal_72 : decode cX0_deal 72 = .ok (.aload_n 0, 1) := dk_42 (dk_at dksX0_deal_3 2 rfl rfl)
theorem dX0_deal_73 : decode cX0_deal 73 = .ok (.iload 5, 2) := dk_21 5 (dk_at dksX0_deal_3 3 rfl rfl)
theorem dX0_deal_75 : decode cX0_deal 75 = .ok (.iload 6, 2) := dk_21 6 (dk_at dksX0_deal_3 5 rfl rfl)
theorem dX0_deal_77 : decode cX0_deal 77 = .ok (.iconst 1, 1) := dk_4 (dk_at dksX0_deal_3 7 rfl rfl)
theorem dX0_deal_78 : decode cX0_deal 78 = .ok (.aload_n 0, 1) := dk_42 (dk_at dksX0_deal_3 8 rfl rfl)
theorem dX0_deal_79 : decode cX0_deal 79 = .ok (.getfield 58, 3) := dk_180 0 58 (dk_at dksX0_deal_3 9 rfl rfl)
theorem dX0_deal_82 : decode cX0_deal 82 = .ok (.invokevirtual 205, 3) := dk_182 0 205 (dk_at dksX0_deal_3 12 rfl rfl)
theorem dX0_deal_85 : decode cX0_deal 85 = .ok (.bipush 60, 2) := dk_16 60 (dk_at dksX0_deal_3 15 rfl rfl)
theorem dX0_deal_87 : decode cX0_deal 87 = .ok (.irem, 1) := dk_112 (dk_at dksX0_deal_3 17 rfl rfl)
theorem dX0_deal_88 : decode cX0_deal 88 = .ok (.iadd, 1) := dk_96 (dk_at dksX0_deal_3 18 rfl rfl)
theorem dX0_deal_89 : decode cX0_deal 89 = .ok (.invokevirtual 111, 3) := dk_182 0 111 (dk_at dksX0_deal_3 19 rfl rfl)
theorem dX0_deal_92 : decode cX0_deal 92 = .ok (.astore 7, 2) := dk_58 7 (dk_at dksX0_deal_3 22 rfl rfl)
theorem dX0_deal_94 : decode cX0_deal 94 = .ok (.aload 7, 2) := dk_25 7 (dk_at dksX0_deal_4 0 rfl rfl)
theorem dX0_deal_96 : decode cX0_deal 96 = .ok (.getfield 144, 3) := dk_180 0 144 (dk_at dksX0_deal_4 2 rfl rfl)
theorem dX0_deal_99 : decode cX0_deal 99 = .ok (.iload 4, 2) := dk_21 4 (dk_at dksX0_deal_4 5 rfl rfl)
theorem dX0_deal_101 : decode cX0_deal 101 = .ok (.aload_n 0, 1) := dk_42 (dk_at dksX0_deal_4 7 rfl rfl)
theorem dX0_deal_102 : decode cX0_deal 102 = .ok (.getfield 58, 3) := dk_180 0 58 (dk_at dksX0_deal_4 8 rfl rfl)
theorem dX0_deal_105 : decode cX0_deal 105 = .ok (.invokevirtual 205, 3) := dk_182 0 205 (dk_at dksX0_deal_4 11 rfl rfl)
theorem dX0_deal_108 : decode cX0_deal 108 = .ok (.sipush 300, 3) := dk_17 1 44 (dk_at dksX0_deal_4 14 rfl rfl)
theorem dX0_deal_111 : decode cX0_deal 111 = .ok (.irem, 1) := dk_112 (dk_at dksX0_deal_4 17 rfl rfl)
theorem dX0_deal_112 : decode cX0_deal 112 = .ok (.iastore, 1) := dk_79 (dk_at dksX0_deal_4 18 rfl rfl)
theorem dX0_deal_113 : decode cX0_deal 113 = .ok (.iinc 3 1, 3) := dk_132 3 1 (dk_at dksX0_deal_4 19 rfl rfl)
theorem dX0_deal_116 : decode cX0_deal 116 = .ok (.goto (-84), 3) := dk_167 255 172 (dk_at dksX0_deal_5 0 rfl rfl)
theorem dX0_deal_119 : decode cX0_deal 119 = .ok (.iload_n 2, 1) := dk_28 (dk_at dksX0_deal_5 3 rfl rfl)
theorem dX0_deal_120 : decode cX0_deal 120 = .ok (.ireturn, 1) := dk_172 (dk_at dksX0_deal_5 4 rfl rfl)
abbrev cX0_seed : ByteArray := prog_1_method_26_code
def yX0_seed : MethodName := ⟨RX0, "seed", "(I)I"⟩
def dkwX0_seed_0 : List UInt8 := [42, 180, 0, 58, 180, 0, 208, 61, 42, 180, 0, 58, 27, 181, 0, 208, 28, 172]
abbrev dktX0_seed_0 : List UInt8 := dkwX0_seed_0 ++ []
theorem dksX0_seed_0 : cX0_seed.data.toList.drop 0 = dktX0_seed_0 := by decide +kernel
theorem dX0_seed_0 : decode cX0_seed 0 = .ok (.aload_n 0, 1) := dk_42 (dk_at dksX0_seed_0 0 rfl rfl)
theorem dX0_seed_1 : decode cX0_seed 1 = .ok (.getfield 58, 3) := dk_180 0 58 (dk_at dksX0_seed_0 1 rfl rfl)
theorem dX0_seed_4 : decode cX0_seed 4 = .ok (.getfield 208, 3) := dk_180 0 208 (dk_at dksX0_seed_0 4 rfl rfl)
theorem dX0_seed_7 : decode cX0_seed 7 = .ok (.istore_n 2, 1) := dk_61 (dk_at dksX0_seed_0 7 rfl rfl)
theorem dX0_seed_8 : decode cX0_seed 8 = .ok (.aload_n 0, 1) := dk_42 (dk_at dksX0_seed_0 8 rfl rfl)
theorem dX0_seed_9 : decode cX0_seed 9 = .ok (.getfield 58, 3) := dk_180 0 58 (dk_at dksX0_seed_0 9 rfl rfl)
theorem dX0_seed_12 : decode cX0_seed 12 = .ok (.iload_n 1, 1) := dk_27 (dk_at dksX0_seed_0 12 rfl rfl)
theorem dX0_seed_13 : decode cX0_seed 13 = .ok (.putfield 208, 3) := dk_181 0 208 (dk_at dksX0_seed_0 13 rfl rfl)
theorem dX0_seed_16 : decode cX0_seed 16 = .ok (.iload_n 2, 1) := dk_28 (dk_at dksX0_seed_0 16 rfl rfl)
theorem dX0_seed_17 : decode cX0_seed 17 = .ok (.ireturn, 1) := dk_172 (dk_at dksX0_seed_0 17 rfl rfl)
abbrev cX0_hours : ByteArray := prog_1_method_27_code
def yX0_hours : MethodName := ⟨RX0, "hours", "(I)I"⟩
def dkwX0_hours_2 : List UInt8 := [132, 3, 1, 167, 255, 225, 28, 172]
abbrev dktX0_hours_2 : List UInt8 := dkwX0_hours_2 ++ []
def dkwX0_hours_1 : List UInt8 := [42, 180, 0, 58, 180, 0, 211, 17, 39, 15, 162, 0, 19, 28, 42, 180, 0, 58, 182, 0, 214, 96, 61]
abbrev dktX0_hours_1 : List UInt8 := dkwX0_hours_1 ++ dktX0_hours_2
def dkwX0_hours_0 : List UInt8 := [27, 133, 10, 20, 0, 198, 184, 0, 96, 154, 0, 6, 18, 109, 172, 3, 61, 3, 62, 29, 27, 162, 0, 32]
abbrev dktX0_hours_0 : List UInt8 := dkwX0_hours_0 ++ dktX0_hours_1
theorem dksX0_hours_0 : cX0_hours.data.toList.drop 0 = dktX0_hours_0 := by decide +kernel
theorem dksX0_hours_1 : cX0_hours.data.toList.drop 24 = dktX0_hours_1 := dk_seg dksX0_hours_0 24 rfl rfl
theorem dksX0_hours_2 : cX0_hours.data.toList.drop 47 = dktX0_hours_2 := dk_seg dksX0_hours_1 23 rfl rfl
theorem dX0_hours_0 : decode cX0_hours 0 = .ok (.iload_n 1, 1) := dk_27 (dk_at dksX0_hours_0 0 rfl rfl)
theorem dX0_hours_1 : decode cX0_hours 1 = .ok (.i2l, 1) := dk_133 (dk_at dksX0_hours_0 1 rfl rfl)
theorem dX0_hours_2 : decode cX0_hours 2 = .ok (.lconst 1, 1) := dk_10 (dk_at dksX0_hours_0 2 rfl rfl)
theorem dX0_hours_3 : decode cX0_hours 3 = .ok (.ldc2_w 198, 3) := dk_20 0 198 (dk_at dksX0_hours_0 3 rfl rfl)
theorem dX0_hours_6 : decode cX0_hours 6 = .ok (.invokestatic 96, 3) := dk_184 0 96 (dk_at dksX0_hours_0 6 rfl rfl)
theorem dX0_hours_9 : decode cX0_hours 9 = .ok (.ifCond .ne 6, 3) := dk_154 0 6 (dk_at dksX0_hours_0 9 rfl rfl)
theorem dX0_hours_12 : decode cX0_hours 12 = .ok (.ldc 109, 2) := dk_18 109 (dk_at dksX0_hours_0 12 rfl rfl)
theorem dX0_hours_14 : decode cX0_hours 14 = .ok (.ireturn, 1) := dk_172 (dk_at dksX0_hours_0 14 rfl rfl)
theorem dX0_hours_15 : decode cX0_hours 15 = .ok (.iconst 0, 1) := dk_3 (dk_at dksX0_hours_0 15 rfl rfl)
theorem dX0_hours_16 : decode cX0_hours 16 = .ok (.istore_n 2, 1) := dk_61 (dk_at dksX0_hours_0 16 rfl rfl)
theorem dX0_hours_17 : decode cX0_hours 17 = .ok (.iconst 0, 1) := dk_3 (dk_at dksX0_hours_0 17 rfl rfl)
theorem dX0_hours_18 : decode cX0_hours 18 = .ok (.istore_n 3, 1) := dk_62 (dk_at dksX0_hours_0 18 rfl rfl)
theorem dX0_hours_19 : decode cX0_hours 19 = .ok (.iload_n 3, 1) := dk_29 (dk_at dksX0_hours_0 19 rfl rfl)
theorem dX0_hours_20 : decode cX0_hours 20 = .ok (.iload_n 1, 1) := dk_27 (dk_at dksX0_hours_0 20 rfl rfl)
theorem dX0_hours_21 : decode cX0_hours 21 = .ok (.if_icmp .ge 32, 3) := dk_162 0 32 (dk_at dksX0_hours_0 21 rfl rfl)
theorem dX0_hours_24 : decode cX0_hours 24 = .ok (.aload_n 0, 1) := dk_42 (dk_at dksX0_hours_1 0 rfl rfl)
theorem dX0_hours_25 : decode cX0_hours 25 = .ok (.getfield 58, 3) := dk_180 0 58 (dk_at dksX0_hours_1 1 rfl rfl)
theorem dX0_hours_28 : decode cX0_hours 28 = .ok (.getfield 211, 3) := dk_180 0 211 (dk_at dksX0_hours_1 4 rfl rfl)
theorem dX0_hours_31 : decode cX0_hours 31 = .ok (.sipush 9999, 3) := dk_17 39 15 (dk_at dksX0_hours_1 7 rfl rfl)
theorem dX0_hours_34 : decode cX0_hours 34 = .ok (.if_icmp .ge 19, 3) := dk_162 0 19 (dk_at dksX0_hours_1 10 rfl rfl)
theorem dX0_hours_37 : decode cX0_hours 37 = .ok (.iload_n 2, 1) := dk_28 (dk_at dksX0_hours_1 13 rfl rfl)
theorem dX0_hours_38 : decode cX0_hours 38 = .ok (.aload_n 0, 1) := dk_42 (dk_at dksX0_hours_1 14 rfl rfl)
theorem dX0_hours_39 : decode cX0_hours 39 = .ok (.getfield 58, 3) := dk_180 0 58 (dk_at dksX0_hours_1 15 rfl rfl)
theorem dX0_hours_42 : decode cX0_hours 42 = .ok (.invokevirtual 214, 3) := dk_182 0 214 (dk_at dksX0_hours_1 18 rfl rfl)
theorem dX0_hours_45 : decode cX0_hours 45 = .ok (.iadd, 1) := dk_96 (dk_at dksX0_hours_1 21 rfl rfl)
theorem dX0_hours_46 : decode cX0_hours 46 = .ok (.istore_n 2, 1) := dk_61 (dk_at dksX0_hours_1 22 rfl rfl)
theorem dX0_hours_47 : decode cX0_hours 47 = .ok (.iinc 3 1, 3) := dk_132 3 1 (dk_at dksX0_hours_2 0 rfl rfl)
theorem dX0_hours_50 : decode cX0_hours 50 = .ok (.goto (-31), 3) := dk_167 255 225 (dk_at dksX0_hours_2 3 rfl rfl)
theorem dX0_hours_53 : decode cX0_hours 53 = .ok (.iload_n 2, 1) := dk_28 (dk_at dksX0_hours_2 6 rfl rfl)
theorem dX0_hours_54 : decode cX0_hours 54 = .ok (.ireturn, 1) := dk_172 (dk_at dksX0_hours_2 7 rfl rfl)
abbrev cX0_town : ByteArray := prog_1_method_28_code
def yX0_town : MethodName := ⟨RX0, "town", "(I)I"⟩
def dkwX0_town_3 : List UInt8 := [42, 180, 0, 58, 182, 0, 226, 172, 18, 109, 172]
abbrev dktX0_town_3 : List UInt8 := dkwX0_town_3 ++ []
def dkwX0_town_2 : List UInt8 := [42, 180, 0, 58, 182, 0, 217, 172, 42, 180, 0, 58, 180, 0, 220, 172, 42, 180, 0, 58, 182, 0, 223, 172]
abbrev dktX0_town_2 : List UInt8 := dkwX0_town_2 ++ dktX0_town_3
def dkwX0_town_1 : List UInt8 := [170, 0, 0, 0, 0, 0, 63, 0, 0, 0, 0, 0, 0, 0, 3, 0, 0, 0, 31, 0, 0, 0, 39, 0, 0, 0, 47, 0, 0, 0, 55]
abbrev dktX0_town_1 : List UInt8 := dkwX0_town_1 ++ dktX0_town_2
def dkwX0_town_0 : List UInt8 := [27]
abbrev dktX0_town_0 : List UInt8 := dkwX0_town_0 ++ dktX0_town_1
theorem dksX0_town_0 : cX0_town.data.toList.drop 0 = dktX0_town_0 := by decide +kernel
theorem dksX0_town_1 : cX0_town.data.toList.drop 1 = dktX0_town_1 := dk_seg dksX0_town_0 1 rfl rfl
theorem dksX0_town_2 : cX0_town.data.toList.drop 32 = dktX0_town_2 := dk_seg dksX0_town_1 31 rfl rfl
theorem dksX0_town_3 : cX0_town.data.toList.drop 56 = dktX0_town_3 := dk_seg dksX0_town_2 24 rfl rfl
theorem dX0_town_0 : decode cX0_town 0 = .ok (.iload_n 1, 1) := dk_27 (dk_at dksX0_town_0 0 rfl rfl)
theorem dX0_town_1 : decode cX0_town 1 = .ok (.tableswitch 63 0 3 #[31, 39, 47, 55], 31) := by decide +kernel
theorem dX0_town_32 : decode cX0_town 32 = .ok (.aload_n 0, 1) := dk_42 (dk_at dksX0_town_2 0 rfl rfl)
theorem dX0_town_33 : decode cX0_town 33 = .ok (.getfield 58, 3) := dk_180 0 58 (dk_at dksX0_town_2 1 rfl rfl)
theorem dX0_town_36 : decode cX0_town 36 = .ok (.invokevirtual 217, 3) := dk_182 0 217 (dk_at dksX0_town_2 4 rfl rfl)
theorem dX0_town_39 : decode cX0_town 39 = .ok (.ireturn, 1) := dk_172 (dk_at dksX0_town_2 7 rfl rfl)
theorem dX0_town_40 : decode cX0_town 40 = .ok (.aload_n 0, 1) := dk_42 (dk_at dksX0_town_2 8 rfl rfl)
theorem dX0_town_41 : decode cX0_town 41 = .ok (.getfield 58, 3) := dk_180 0 58 (dk_at dksX0_town_2 9 rfl rfl)
theorem dX0_town_44 : decode cX0_town 44 = .ok (.getfield 220, 3) := dk_180 0 220 (dk_at dksX0_town_2 12 rfl rfl)
theorem dX0_town_47 : decode cX0_town 47 = .ok (.ireturn, 1) := dk_172 (dk_at dksX0_town_2 15 rfl rfl)
theorem dX0_town_48 : decode cX0_town 48 = .ok (.aload_n 0, 1) := dk_42 (dk_at dksX0_town_2 16 rfl rfl)
theorem dX0_town_49 : decode cX0_town 49 = .ok (.getfield 58, 3) := dk_180 0 58 (dk_at dksX0_town_2 17 rfl rfl)
theorem dX0_town_52 : decode cX0_town 52 = .ok (.invokevirtual 223, 3) := dk_182 0 223 (dk_at dksX0_town_2 20 rfl rfl)
theorem dX0_town_55 : decode cX0_town 55 = .ok (.ireturn, 1) := dk_172 (dk_at dksX0_town_2 23 rfl rfl)
theorem dX0_town_56 : decode cX0_town 56 = .ok (.aload_n 0, 1) := dk_42 (dk_at dksX0_town_3 0 rfl rfl)
theorem dX0_town_57 : decode cX0_town 57 = .ok (.getfield 58, 3) := dk_180 0 58 (dk_at dksX0_town_3 1 rfl rfl)
theorem dX0_town_60 : decode cX0_town 60 = .ok (.invokevirtual 226, 3) := dk_182 0 226 (dk_at dksX0_town_3 4 rfl rfl)
theorem dX0_town_63 : decode cX0_town 63 = .ok (.ireturn, 1) := dk_172 (dk_at dksX0_town_3 7 rfl rfl)
theorem dX0_town_64 : decode cX0_town 64 = .ok (.ldc 109, 2) := dk_18 109 (dk_at dksX0_town_3 8 rfl rfl)
theorem dX0_town_66 : decode cX0_town 66 = .ok (.ireturn, 1) := dk_172 (dk_at dksX0_town_3 10 rfl rfl)
abbrev cX0_behind : ByteArray := prog_1_method_29_code
def yX0_behind : MethodName := ⟨RX0, "behind", "(II)I"⟩
def dkwX0_behind_4 : List UInt8 := [182, 0, 129, 54, 5, 42, 45, 181, 0, 58, 21, 5, 172, 58, 6, 42, 45, 181, 0, 58, 25, 6, 191]
abbrev dktX0_behind_4 : List UInt8 := dkwX0_behind_4 ++ []
def dkwX0_behind_3 : List UInt8 := [160, 0, 13, 42, 180, 0, 58, 180, 0, 220, 167, 0, 17, 42, 180, 0, 58, 180, 0, 121, 28, 5, 100, 50]
abbrev dktX0_behind_3 : List UInt8 := dkwX0_behind_3 ++ dktX0_behind_4
def dkwX0_behind_2 : List UInt8 := [27, 182, 0, 232, 54, 4, 28, 154, 0, 13, 42, 180, 0, 58, 182, 0, 217, 167, 0, 32, 28, 4]
abbrev dktX0_behind_2 : List UInt8 := dkwX0_behind_2 ++ dktX0_behind_3
def dkwX0_behind_1 : List UInt8 := [133, 184, 0, 96, 154, 0, 6, 18, 109, 172, 42, 180, 0, 58, 78, 42, 45, 182, 0, 229, 42, 180, 0, 58]
abbrev dktX0_behind_1 : List UInt8 := dkwX0_behind_1 ++ dktX0_behind_2
def dkwX0_behind_0 : List UInt8 := [27, 133, 9, 20, 0, 198, 184, 0, 96, 153, 0, 22, 28, 133, 9, 4, 42, 180, 0, 58, 180, 0, 92, 96]
abbrev dktX0_behind_0 : List UInt8 := dkwX0_behind_0 ++ dktX0_behind_1
theorem dksX0_behind_0 : cX0_behind.data.toList.drop 0 = dktX0_behind_0 := by decide +kernel
theorem dksX0_behind_1 : cX0_behind.data.toList.drop 24 = dktX0_behind_1 := dk_seg dksX0_behind_0 24 rfl rfl
theorem dksX0_behind_2 : cX0_behind.data.toList.drop 48 = dktX0_behind_2 := dk_seg dksX0_behind_1 24 rfl rfl
theorem dksX0_behind_3 : cX0_behind.data.toList.drop 70 = dktX0_behind_3 := dk_seg dksX0_behind_2 22 rfl rfl
theorem dksX0_behind_4 : cX0_behind.data.toList.drop 94 = dktX0_behind_4 := dk_seg dksX0_behind_3 24 rfl rfl
theorem dX0_behind_0 : decode cX0_behind 0 = .ok (.iload_n 1, 1) := dk_27 (dk_at dksX0_behind_0 0 rfl rfl)
theorem dX0_behind_1 : decode cX0_behind 1 = .ok (.i2l, 1) := dk_133 (dk_at dksX0_behind_0 1 rfl rfl)
theorem dX0_behind_2 : decode cX0_behind 2 = .ok (.lconst 0, 1) := dk_9 (dk_at dksX0_behind_0 2 rfl rfl)
theorem dX0_behind_3 : decode cX0_behind 3 = .ok (.ldc2_w 198, 3) := dk_20 0 198 (dk_at dksX0_behind_0 3 rfl rfl)
theorem dX0_behind_6 : decode cX0_behind 6 = .ok (.invokestatic 96, 3) := dk_184 0 96 (dk_at dksX0_behind_0 6 rfl rfl)
theorem dX0_behind_9 : decode cX0_behind 9 = .ok (.ifCond .eq 22, 3) := dk_153 0 22 (dk_at dksX0_behind_0 9 rfl rfl)
theorem dX0_behind_12 : decode cX0_behind 12 = .ok (.iload_n 2, 1) := dk_28 (dk_at dksX0_behind_0 12 rfl rfl)
theorem dX0_behind_13 : decode cX0_behind 13 = .ok (.i2l, 1) := dk_133 (dk_at dksX0_behind_0 13 rfl rfl)
theorem dX0_behind_14 : decode cX0_behind 14 = .ok (.lconst 0, 1) := dk_9 (dk_at dksX0_behind_0 14 rfl rfl)
theorem dX0_behind_15 : decode cX0_behind 15 = .ok (.iconst 1, 1) := dk_4 (dk_at dksX0_behind_0 15 rfl rfl)
theorem dX0_behind_16 : decode cX0_behind 16 = .ok (.aload_n 0, 1) := dk_42 (dk_at dksX0_behind_0 16 rfl rfl)
theorem dX0_behind_17 : decode cX0_behind 17 = .ok (.getfield 58, 3) := dk_180 0 58 (dk_at dksX0_behind_0 17 rfl rfl)
theorem dX0_behind_20 : decode cX0_behind 20 = .ok (.getfield 92, 3) := dk_180 0 92 (dk_at dksX0_behind_0 20 rfl rfl)
theorem dX0_behind_23 : decode cX0_behind 23 = .ok (.iadd, 1) := dk_96 (dk_at dksX0_behind_0 23 rfl rfl)
theorem dX0_behind_24 : decode cX0_behind 24 = .ok (.i2l, 1) := dk_133 (dk_at dksX0_behind_1 0 rfl rfl)
theorem dX0_behind_25 : decode cX0_behind 25 = .ok (.invokestatic 96, 3) := dk_184 0 96 (dk_at dksX0_behind_1 1 rfl rfl)
theorem dX0_behind_28 : decode cX0_behind 28 = .ok (.ifCond .ne 6, 3) := dk_154 0 6 (dk_at dksX0_behind_1 4 rfl rfl)
theorem dX0_behind_31 : decode cX0_behind 31 = .ok (.ldc 109, 2) := dk_18 109 (dk_at dksX0_behind_1 7 rfl rfl)
theorem dX0_behind_33 : decode cX0_behind 33 = .ok (.ireturn, 1) := dk_172 (dk_at dksX0_behind_1 9 rfl rfl)
theorem dX0_behind_34 : decode cX0_behind 34 = .ok (.aload_n 0, 1) := dk_42 (dk_at dksX0_behind_1 10 rfl rfl)
theorem dX0_behind_35 : decode cX0_behind 35 = .ok (.getfield 58, 3) := dk_180 0 58 (dk_at dksX0_behind_1 11 rfl rfl)
theorem dX0_behind_38 : decode cX0_behind 38 = .ok (.astore_n 3, 1) := dk_78 (dk_at dksX0_behind_1 14 rfl rfl)
theorem dX0_behind_39 : decode cX0_behind 39 = .ok (.aload_n 0, 1) := dk_42 (dk_at dksX0_behind_1 15 rfl rfl)
theorem dX0_behind_40 : decode cX0_behind 40 = .ok (.aload_n 3, 1) := dk_45 (dk_at dksX0_behind_1 16 rfl rfl)
theorem dX0_behind_41 : decode cX0_behind 41 = .ok (.invokevirtual 229, 3) := dk_182 0 229 (dk_at dksX0_behind_1 17 rfl rfl)
theorem dX0_behind_44 : decode cX0_behind 44 = .ok (.aload_n 0, 1) := dk_42 (dk_at dksX0_behind_1 20 rfl rfl)
theorem dX0_behind_45 : decode cX0_behind 45 = .ok (.getfield 58, 3) := dk_180 0 58 (dk_at dksX0_behind_1 21 rfl rfl)
theorem dX0_behind_48 : decode cX0_behind 48 = .ok (.iload_n 1, 1) := dk_27 (dk_at dksX0_behind_2 0 rfl rfl)
theorem dX0_behind_49 : decode cX0_behind 49 = .ok (.invokevirtual 232, 3) := dk_182 0 232 (dk_at dksX0_behind_2 1 rfl rfl)
theorem dX0_behind_52 : decode cX0_behind 52 = .ok (.istore 4, 2) := dk_54 4 (dk_at dksX0_behind_2 4 rfl rfl)
theorem dX0_behind_54 : decode cX0_behind 54 = .ok (.iload_n 2, 1) := dk_28 (dk_at dksX0_behind_2 6 rfl rfl)
theorem dX0_behind_55 : decode cX0_behind 55 = .ok (.ifCond .ne 13, 3) := dk_154 0 13 (dk_at dksX0_behind_2 7 rfl rfl)
theorem dX0_behind_58 : decode cX0_behind 58 = .ok (.aload_n 0, 1) := dk_42 (dk_at dksX0_behind_2 10 rfl rfl)
theorem dX0_behind_59 : decode cX0_behind 59 = .ok (.getfield 58, 3) := dk_180 0 58 (dk_at dksX0_behind_2 11 rfl rfl)
theorem dX0_behind_62 : decode cX0_behind 62 = .ok (.invokevirtual 217, 3) := dk_182 0 217 (dk_at dksX0_behind_2 14 rfl rfl)
theorem dX0_behind_65 : decode cX0_behind 65 = .ok (.goto 32, 3) := dk_167 0 32 (dk_at dksX0_behind_2 17 rfl rfl)
theorem dX0_behind_68 : decode cX0_behind 68 = .ok (.iload_n 2, 1) := dk_28 (dk_at dksX0_behind_2 20 rfl rfl)
theorem dX0_behind_69 : decode cX0_behind 69 = .ok (.iconst 1, 1) := dk_4 (dk_at dksX0_behind_2 21 rfl rfl)
theorem dX0_behind_70 : decode cX0_behind 70 = .ok (.if_icmp .ne 13, 3) := dk_160 0 13 (dk_at dksX0_behind_3 0 rfl rfl)
theorem dX0_behind_73 : decode cX0_behind 73 = .ok (.aload_n 0, 1) := dk_42 (dk_at dksX0_behind_3 3 rfl rfl)
theorem dX0_behind_74 : decode cX0_behind 74 = .ok (.getfield 58, 3) := dk_180 0 58 (dk_at dksX0_behind_3 4 rfl rfl)
theorem dX0_behind_77 : decode cX0_behind 77 = .ok (.getfield 220, 3) := dk_180 0 220 (dk_at dksX0_behind_3 7 rfl rfl)
theorem dX0_behind_80 : decode cX0_behind 80 = .ok (.goto 17, 3) := dk_167 0 17 (dk_at dksX0_behind_3 10 rfl rfl)
theorem dX0_behind_83 : decode cX0_behind 83 = .ok (.aload_n 0, 1) := dk_42 (dk_at dksX0_behind_3 13 rfl rfl)
theorem dX0_behind_84 : decode cX0_behind 84 = .ok (.getfield 58, 3) := dk_180 0 58 (dk_at dksX0_behind_3 14 rfl rfl)
theorem dX0_behind_87 : decode cX0_behind 87 = .ok (.getfield 121, 3) := dk_180 0 121 (dk_at dksX0_behind_3 17 rfl rfl)
theorem dX0_behind_90 : decode cX0_behind 90 = .ok (.iload_n 2, 1) := dk_28 (dk_at dksX0_behind_3 20 rfl rfl)
theorem dX0_behind_91 : decode cX0_behind 91 = .ok (.iconst 2, 1) := dk_5 (dk_at dksX0_behind_3 21 rfl rfl)
theorem dX0_behind_92 : decode cX0_behind 92 = .ok (.isub, 1) := dk_100 (dk_at dksX0_behind_3 22 rfl rfl)
theorem dX0_behind_93 : decode cX0_behind 93 = .ok (.aaload, 1) := dk_50 (dk_at dksX0_behind_3 23 rfl rfl)
theorem dX0_behind_94 : decode cX0_behind 94 = .ok (.invokevirtual 129, 3) := dk_182 0 129 (dk_at dksX0_behind_4 0 rfl rfl)
theorem dX0_behind_97 : decode cX0_behind 97 = .ok (.istore 5, 2) := dk_54 5 (dk_at dksX0_behind_4 3 rfl rfl)
theorem dX0_behind_99 : decode cX0_behind 99 = .ok (.aload_n 0, 1) := dk_42 (dk_at dksX0_behind_4 5 rfl rfl)
theorem dX0_behind_100 : decode cX0_behind 100 = .ok (.aload_n 3, 1) := dk_45 (dk_at dksX0_behind_4 6 rfl rfl)
theorem dX0_behind_101 : decode cX0_behind 101 = .ok (.putfield 58, 3) := dk_181 0 58 (dk_at dksX0_behind_4 7 rfl rfl)
theorem dX0_behind_104 : decode cX0_behind 104 = .ok (.iload 5, 2) := dk_21 5 (dk_at dksX0_behind_4 10 rfl rfl)
theorem dX0_behind_106 : decode cX0_behind 106 = .ok (.ireturn, 1) := dk_172 (dk_at dksX0_behind_4 12 rfl rfl)
theorem dX0_behind_107 : decode cX0_behind 107 = .ok (.astore 6, 2) := dk_58 6 (dk_at dksX0_behind_4 13 rfl rfl)
theorem dX0_behind_109 : decode cX0_behind 109 = .ok (.aload_n 0, 1) := dk_42 (dk_at dksX0_behind_4 15 rfl rfl)
theorem dX0_behind_110 : decode cX0_behind 110 = .ok (.aload_n 3, 1) := dk_45 (dk_at dksX0_behind_4 16 rfl rfl)
theorem dX0_behind_111 : decode cX0_behind 111 = .ok (.putfield 58, 3) := dk_181 0 58 (dk_at dksX0_behind_4 17 rfl rfl)
theorem dX0_behind_114 : decode cX0_behind 114 = .ok (.aload 6, 2) := dk_25 6 (dk_at dksX0_behind_4 20 rfl rfl)
theorem dX0_behind_116 : decode cX0_behind 116 = .ok (.athrow, 1) := dk_191 (dk_at dksX0_behind_4 22 rfl rfl)
abbrev cX0_thinks : ByteArray := prog_1_method_8_code
def yX0_thinks : MethodName := ⟨RX0, "thinks", "(LLevelCellars$Town;)V"⟩
def dkwX0_thinks_0 : List UInt8 := [42, 180, 0, 62, 43, 182, 0, 88, 42, 42, 180, 0, 62, 181, 0, 58, 177]
abbrev dktX0_thinks_0 : List UInt8 := dkwX0_thinks_0 ++ []
theorem dksX0_thinks_0 : cX0_thinks.data.toList.drop 0 = dktX0_thinks_0 := by decide +kernel
theorem dX0_thinks_0 : decode cX0_thinks 0 = .ok (.aload_n 0, 1) := dk_42 (dk_at dksX0_thinks_0 0 rfl rfl)
theorem dX0_thinks_1 : decode cX0_thinks 1 = .ok (.getfield 62, 3) := dk_180 0 62 (dk_at dksX0_thinks_0 1 rfl rfl)
theorem dX0_thinks_4 : decode cX0_thinks 4 = .ok (.aload_n 1, 1) := dk_43 (dk_at dksX0_thinks_0 4 rfl rfl)
theorem dX0_thinks_5 : decode cX0_thinks 5 = .ok (.invokevirtual 88, 3) := dk_182 0 88 (dk_at dksX0_thinks_0 5 rfl rfl)
theorem dX0_thinks_8 : decode cX0_thinks 8 = .ok (.aload_n 0, 1) := dk_42 (dk_at dksX0_thinks_0 8 rfl rfl)
theorem dX0_thinks_9 : decode cX0_thinks 9 = .ok (.aload_n 0, 1) := dk_42 (dk_at dksX0_thinks_0 9 rfl rfl)
theorem dX0_thinks_10 : decode cX0_thinks 10 = .ok (.getfield 62, 3) := dk_180 0 62 (dk_at dksX0_thinks_0 10 rfl rfl)
theorem dX0_thinks_13 : decode cX0_thinks 13 = .ok (.putfield 58, 3) := dk_181 0 58 (dk_at dksX0_thinks_0 13 rfl rfl)
theorem dX0_thinks_16 : decode cX0_thinks 16 = .ok (.return_, 1) := dk_177 (dk_at dksX0_thinks_0 16 rfl rfl)
abbrev cX0_anew : ByteArray := prog_1_method_6_code
def yX0_anew : MethodName := ⟨RX0, "anew", "(LLevelCellars$Cellar;)LLevelCellars$Cellar;"⟩
def dkwX0_anew_0 : List UInt8 := [42, 43, 182, 0, 34, 182, 0, 38, 43, 182, 0, 42, 176]
abbrev dktX0_anew_0 : List UInt8 := dkwX0_anew_0 ++ []
theorem dksX0_anew_0 : cX0_anew.data.toList.drop 0 = dktX0_anew_0 := by decide +kernel
theorem dX0_anew_0 : decode cX0_anew 0 = .ok (.aload_n 0, 1) := dk_42 (dk_at dksX0_anew_0 0 rfl rfl)
theorem dX0_anew_1 : decode cX0_anew 1 = .ok (.aload_n 1, 1) := dk_43 (dk_at dksX0_anew_0 1 rfl rfl)
theorem dX0_anew_2 : decode cX0_anew 2 = .ok (.invokevirtual 34, 3) := dk_182 0 34 (dk_at dksX0_anew_0 2 rfl rfl)
theorem dX0_anew_5 : decode cX0_anew 5 = .ok (.invokevirtual 38, 3) := dk_182 0 38 (dk_at dksX0_anew_0 5 rfl rfl)
theorem dX0_anew_8 : decode cX0_anew 8 = .ok (.aload_n 1, 1) := dk_43 (dk_at dksX0_anew_0 8 rfl rfl)
theorem dX0_anew_9 : decode cX0_anew 9 = .ok (.invokevirtual 42, 3) := dk_182 0 42 (dk_at dksX0_anew_0 9 rfl rfl)
theorem dX0_anew_12 : decode cX0_anew 12 = .ok (.areturn, 1) := dk_176 (dk_at dksX0_anew_0 12 rfl rfl)
abbrev cX0_taste : ByteArray := prog_1_method_30_code
def yX0_taste : MethodName := ⟨RX0, "taste", "(III)I"⟩
def dkwX0_taste_3 : List UInt8 := [54, 6, 42, 25, 4, 181, 0, 58, 21, 6, 172, 58, 7, 42, 25, 4, 181, 0, 58, 25, 7, 191]
abbrev dktX0_taste_3 : List UInt8 := dkwX0_taste_3 ++ []
def dkwX0_taste_2 : List UInt8 := [42, 180, 0, 58, 29, 182, 0, 232, 54, 5, 42, 180, 0, 58, 180, 0, 121, 27, 50, 180, 0, 144, 28, 46]
abbrev dktX0_taste_2 : List UInt8 := dkwX0_taste_2 ++ dktX0_taste_3
def dkwX0_taste_1 : List UInt8 := [20, 0, 198, 184, 0, 96, 154, 0, 6, 18, 109, 172, 42, 180, 0, 58, 58, 4, 42, 25, 4, 182, 0, 229]
abbrev dktX0_taste_1 : List UInt8 := dkwX0_taste_1 ++ dktX0_taste_2
def dkwX0_taste_0 : List UInt8 := [42, 27, 182, 0, 125, 153, 0, 27, 28, 133, 9, 20, 0, 234, 184, 0, 96, 153, 0, 15, 29, 133, 9]
abbrev dktX0_taste_0 : List UInt8 := dkwX0_taste_0 ++ dktX0_taste_1
theorem dksX0_taste_0 : cX0_taste.data.toList.drop 0 = dktX0_taste_0 := by decide +kernel
theorem dksX0_taste_1 : cX0_taste.data.toList.drop 23 = dktX0_taste_1 := dk_seg dksX0_taste_0 23 rfl rfl
theorem dksX0_taste_2 : cX0_taste.data.toList.drop 47 = dktX0_taste_2 := dk_seg dksX0_taste_1 24 rfl rfl
theorem dksX0_taste_3 : cX0_taste.data.toList.drop 71 = dktX0_taste_3 := dk_seg dksX0_taste_2 24 rfl rfl
theorem dX0_taste_0 : decode cX0_taste 0 = .ok (.aload_n 0, 1) := dk_42 (dk_at dksX0_taste_0 0 rfl rfl)
theorem dX0_taste_1 : decode cX0_taste 1 = .ok (.iload_n 1, 1) := dk_27 (dk_at dksX0_taste_0 1 rfl rfl)
theorem dX0_taste_2 : decode cX0_taste 2 = .ok (.invokevirtual 125, 3) := dk_182 0 125 (dk_at dksX0_taste_0 2 rfl rfl)
theorem dX0_taste_5 : decode cX0_taste 5 = .ok (.ifCond .eq 27, 3) := dk_153 0 27 (dk_at dksX0_taste_0 5 rfl rfl)
theorem dX0_taste_8 : decode cX0_taste 8 = .ok (.iload_n 2, 1) := dk_28 (dk_at dksX0_taste_0 8 rfl rfl)
theorem dX0_taste_9 : decode cX0_taste 9 = .ok (.i2l, 1) := dk_133 (dk_at dksX0_taste_0 9 rfl rfl)
theorem dX0_taste_10 : decode cX0_taste 10 = .ok (.lconst 0, 1) := dk_9 (dk_at dksX0_taste_0 10 rfl rfl)
theorem dX0_taste_11 : decode cX0_taste 11 = .ok (.ldc2_w 234, 3) := dk_20 0 234 (dk_at dksX0_taste_0 11 rfl rfl)
theorem dX0_taste_14 : decode cX0_taste 14 = .ok (.invokestatic 96, 3) := dk_184 0 96 (dk_at dksX0_taste_0 14 rfl rfl)
theorem dX0_taste_17 : decode cX0_taste 17 = .ok (.ifCond .eq 15, 3) := dk_153 0 15 (dk_at dksX0_taste_0 17 rfl rfl)
theorem dX0_taste_20 : decode cX0_taste 20 = .ok (.iload_n 3, 1) := dk_29 (dk_at dksX0_taste_0 20 rfl rfl)
theorem dX0_taste_21 : decode cX0_taste 21 = .ok (.i2l, 1) := dk_133 (dk_at dksX0_taste_0 21 rfl rfl)
theorem dX0_taste_22 : decode cX0_taste 22 = .ok (.lconst 0, 1) := dk_9 (dk_at dksX0_taste_0 22 rfl rfl)
theorem dX0_taste_23 : decode cX0_taste 23 = .ok (.ldc2_w 198, 3) := dk_20 0 198 (dk_at dksX0_taste_1 0 rfl rfl)
theorem dX0_taste_26 : decode cX0_taste 26 = .ok (.invokestatic 96, 3) := dk_184 0 96 (dk_at dksX0_taste_1 3 rfl rfl)
theorem dX0_taste_29 : decode cX0_taste 29 = .ok (.ifCond .ne 6, 3) := dk_154 0 6 (dk_at dksX0_taste_1 6 rfl rfl)
theorem dX0_taste_32 : decode cX0_taste 32 = .ok (.ldc 109, 2) := dk_18 109 (dk_at dksX0_taste_1 9 rfl rfl)
theorem dX0_taste_34 : decode cX0_taste 34 = .ok (.ireturn, 1) := dk_172 (dk_at dksX0_taste_1 11 rfl rfl)
theorem dX0_taste_35 : decode cX0_taste 35 = .ok (.aload_n 0, 1) := dk_42 (dk_at dksX0_taste_1 12 rfl rfl)
theorem dX0_taste_36 : decode cX0_taste 36 = .ok (.getfield 58, 3) := dk_180 0 58 (dk_at dksX0_taste_1 13 rfl rfl)
theorem dX0_taste_39 : decode cX0_taste 39 = .ok (.astore 4, 2) := dk_58 4 (dk_at dksX0_taste_1 16 rfl rfl)
theorem dX0_taste_41 : decode cX0_taste 41 = .ok (.aload_n 0, 1) := dk_42 (dk_at dksX0_taste_1 18 rfl rfl)
theorem dX0_taste_42 : decode cX0_taste 42 = .ok (.aload 4, 2) := dk_25 4 (dk_at dksX0_taste_1 19 rfl rfl)
theorem dX0_taste_44 : decode cX0_taste 44 = .ok (.invokevirtual 229, 3) := dk_182 0 229 (dk_at dksX0_taste_1 21 rfl rfl)
theorem dX0_taste_47 : decode cX0_taste 47 = .ok (.aload_n 0, 1) := dk_42 (dk_at dksX0_taste_2 0 rfl rfl)
theorem dX0_taste_48 : decode cX0_taste 48 = .ok (.getfield 58, 3) := dk_180 0 58 (dk_at dksX0_taste_2 1 rfl rfl)
theorem dX0_taste_51 : decode cX0_taste 51 = .ok (.iload_n 3, 1) := dk_29 (dk_at dksX0_taste_2 4 rfl rfl)
theorem dX0_taste_52 : decode cX0_taste 52 = .ok (.invokevirtual 232, 3) := dk_182 0 232 (dk_at dksX0_taste_2 5 rfl rfl)
theorem dX0_taste_55 : decode cX0_taste 55 = .ok (.istore 5, 2) := dk_54 5 (dk_at dksX0_taste_2 8 rfl rfl)
theorem dX0_taste_57 : decode cX0_taste 57 = .ok (.aload_n 0, 1) := dk_42 (dk_at dksX0_taste_2 10 rfl rfl)
theorem dX0_taste_58 : decode cX0_taste 58 = .ok (.getfield 58, 3) := dk_180 0 58 (dk_at dksX0_taste_2 11 rfl rfl)
theorem dX0_taste_61 : decode cX0_taste 61 = .ok (.getfield 121, 3) := dk_180 0 121 (dk_at dksX0_taste_2 14 rfl rfl)
theorem dX0_taste_64 : decode cX0_taste 64 = .ok (.iload_n 1, 1) := dk_27 (dk_at dksX0_taste_2 17 rfl rfl)
theorem dX0_taste_65 : decode cX0_taste 65 = .ok (.aaload, 1) := dk_50 (dk_at dksX0_taste_2 18 rfl rfl)
theorem dX0_taste_66 : decode cX0_taste 66 = .ok (.getfield 144, 3) := dk_180 0 144 (dk_at dksX0_taste_2 19 rfl rfl)
theorem dX0_taste_69 : decode cX0_taste 69 = .ok (.iload_n 2, 1) := dk_28 (dk_at dksX0_taste_2 22 rfl rfl)
theorem dX0_taste_70 : decode cX0_taste 70 = .ok (.iaload, 1) := dk_46 (dk_at dksX0_taste_2 23 rfl rfl)
theorem dX0_taste_71 : decode cX0_taste 71 = .ok (.istore 6, 2) := dk_54 6 (dk_at dksX0_taste_3 0 rfl rfl)
theorem dX0_taste_73 : decode cX0_taste 73 = .ok (.aload_n 0, 1) := dk_42 (dk_at dksX0_taste_3 2 rfl rfl)
theorem dX0_taste_74 : decode cX0_taste 74 = .ok (.aload 4, 2) := dk_25 4 (dk_at dksX0_taste_3 3 rfl rfl)
theorem dX0_taste_76 : decode cX0_taste 76 = .ok (.putfield 58, 3) := dk_181 0 58 (dk_at dksX0_taste_3 5 rfl rfl)
theorem dX0_taste_79 : decode cX0_taste 79 = .ok (.iload 6, 2) := dk_21 6 (dk_at dksX0_taste_3 8 rfl rfl)
theorem dX0_taste_81 : decode cX0_taste 81 = .ok (.ireturn, 1) := dk_172 (dk_at dksX0_taste_3 10 rfl rfl)
theorem dX0_taste_82 : decode cX0_taste 82 = .ok (.astore 7, 2) := dk_58 7 (dk_at dksX0_taste_3 11 rfl rfl)
theorem dX0_taste_84 : decode cX0_taste 84 = .ok (.aload_n 0, 1) := dk_42 (dk_at dksX0_taste_3 13 rfl rfl)
theorem dX0_taste_85 : decode cX0_taste 85 = .ok (.aload 4, 2) := dk_25 4 (dk_at dksX0_taste_3 14 rfl rfl)
theorem dX0_taste_87 : decode cX0_taste 87 = .ok (.putfield 58, 3) := dk_181 0 58 (dk_at dksX0_taste_3 16 rfl rfl)
theorem dX0_taste_90 : decode cX0_taste 90 = .ok (.aload 7, 2) := dk_25 7 (dk_at dksX0_taste_3 19 rfl rfl)
theorem dX0_taste_92 : decode cX0_taste 92 = .ok (.athrow, 1) := dk_191 (dk_at dksX0_taste_3 21 rfl rfl)
abbrev cX0_rests : ByteArray := prog_1_method_31_code
def yX0_rests : MethodName := ⟨RX0, "rests", "()I"⟩
def dkwX0_rests_3 : List UInt8 := [25, 4, 191]
abbrev dktX0_rests_3 : List UInt8 := dkwX0_rests_3 ++ []
def dkwX0_rests_2 : List UInt8 := [132, 2, 1, 167, 255, 219, 18, 3, 61, 42, 43, 181, 0, 58, 28, 172, 58, 4, 42, 43, 181, 0, 58]
abbrev dktX0_rests_2 : List UInt8 := dkwX0_rests_2 ++ dktX0_rests_3
def dkwX0_rests_1 : List UInt8 := [182, 0, 223, 154, 0, 12, 28, 62, 42, 43, 181, 0, 58, 29, 172, 42, 180, 0, 58, 182, 0, 214, 62]
abbrev dktX0_rests_1 : List UInt8 := dkwX0_rests_1 ++ dktX0_rests_2
def dkwX0_rests_0 : List UInt8 := [42, 180, 0, 58, 76, 42, 43, 182, 0, 229, 3, 61, 28, 17, 1, 44, 163, 0, 36, 42, 180, 0, 58]
abbrev dktX0_rests_0 : List UInt8 := dkwX0_rests_0 ++ dktX0_rests_1
theorem dksX0_rests_0 : cX0_rests.data.toList.drop 0 = dktX0_rests_0 := by decide +kernel
theorem dksX0_rests_1 : cX0_rests.data.toList.drop 23 = dktX0_rests_1 := dk_seg dksX0_rests_0 23 rfl rfl
theorem dksX0_rests_2 : cX0_rests.data.toList.drop 46 = dktX0_rests_2 := dk_seg dksX0_rests_1 23 rfl rfl
theorem dksX0_rests_3 : cX0_rests.data.toList.drop 69 = dktX0_rests_3 := dk_seg dksX0_rests_2 23 rfl rfl
theorem dX0_rests_0 : decode cX0_rests 0 = .ok (.aload_n 0, 1) := dk_42 (dk_at dksX0_rests_0 0 rfl rfl)
theorem dX0_rests_1 : decode cX0_rests 1 = .ok (.getfield 58, 3) := dk_180 0 58 (dk_at dksX0_rests_0 1 rfl rfl)
theorem dX0_rests_4 : decode cX0_rests 4 = .ok (.astore_n 1, 1) := dk_76 (dk_at dksX0_rests_0 4 rfl rfl)
theorem dX0_rests_5 : decode cX0_rests 5 = .ok (.aload_n 0, 1) := dk_42 (dk_at dksX0_rests_0 5 rfl rfl)
theorem dX0_rests_6 : decode cX0_rests 6 = .ok (.aload_n 1, 1) := dk_43 (dk_at dksX0_rests_0 6 rfl rfl)
theorem dX0_rests_7 : decode cX0_rests 7 = .ok (.invokevirtual 229, 3) := dk_182 0 229 (dk_at dksX0_rests_0 7 rfl rfl)
theorem dX0_rests_10 : decode cX0_rests 10 = .ok (.iconst 0, 1) := dk_3 (dk_at dksX0_rests_0 10 rfl rfl)
theorem dX0_rests_11 : decode cX0_rests 11 = .ok (.istore_n 2, 1) := dk_61 (dk_at dksX0_rests_0 11 rfl rfl)
theorem dX0_rests_12 : decode cX0_rests 12 = .ok (.iload_n 2, 1) := dk_28 (dk_at dksX0_rests_0 12 rfl rfl)
theorem dX0_rests_13 : decode cX0_rests 13 = .ok (.sipush 300, 3) := dk_17 1 44 (dk_at dksX0_rests_0 13 rfl rfl)
theorem dX0_rests_16 : decode cX0_rests 16 = .ok (.if_icmp .gt 36, 3) := dk_163 0 36 (dk_at dksX0_rests_0 16 rfl rfl)
theorem dX0_rests_19 : decode cX0_rests 19 = .ok (.aload_n 0, 1) := dk_42 (dk_at dksX0_rests_0 19 rfl rfl)
theorem dX0_rests_20 : decode cX0_rests 20 = .ok (.getfield 58, 3) := dk_180 0 58 (dk_at dksX0_rests_0 20 rfl rfl)
theorem dX0_rests_23 : decode cX0_rests 23 = .ok (.invokevirtual 223, 3) := dk_182 0 223 (dk_at dksX0_rests_1 0 rfl rfl)
theorem dX0_rests_26 : decode cX0_rests 26 = .ok (.ifCond .ne 12, 3) := dk_154 0 12 (dk_at dksX0_rests_1 3 rfl rfl)
theorem dX0_rests_29 : decode cX0_rests 29 = .ok (.iload_n 2, 1) := dk_28 (dk_at dksX0_rests_1 6 rfl rfl)
theorem dX0_rests_30 : decode cX0_rests 30 = .ok (.istore_n 3, 1) := dk_62 (dk_at dksX0_rests_1 7 rfl rfl)
theorem dX0_rests_31 : decode cX0_rests 31 = .ok (.aload_n 0, 1) := dk_42 (dk_at dksX0_rests_1 8 rfl rfl)
theorem dX0_rests_32 : decode cX0_rests 32 = .ok (.aload_n 1, 1) := dk_43 (dk_at dksX0_rests_1 9 rfl rfl)
theorem dX0_rests_33 : decode cX0_rests 33 = .ok (.putfield 58, 3) := dk_181 0 58 (dk_at dksX0_rests_1 10 rfl rfl)
theorem dX0_rests_36 : decode cX0_rests 36 = .ok (.iload_n 3, 1) := dk_29 (dk_at dksX0_rests_1 13 rfl rfl)
theorem dX0_rests_37 : decode cX0_rests 37 = .ok (.ireturn, 1) := dk_172 (dk_at dksX0_rests_1 14 rfl rfl)
theorem dX0_rests_38 : decode cX0_rests 38 = .ok (.aload_n 0, 1) := dk_42 (dk_at dksX0_rests_1 15 rfl rfl)
theorem dX0_rests_39 : decode cX0_rests 39 = .ok (.getfield 58, 3) := dk_180 0 58 (dk_at dksX0_rests_1 16 rfl rfl)
theorem dX0_rests_42 : decode cX0_rests 42 = .ok (.invokevirtual 214, 3) := dk_182 0 214 (dk_at dksX0_rests_1 19 rfl rfl)
theorem dX0_rests_45 : decode cX0_rests 45 = .ok (.istore_n 3, 1) := dk_62 (dk_at dksX0_rests_1 22 rfl rfl)
theorem dX0_rests_46 : decode cX0_rests 46 = .ok (.iinc 2 1, 3) := dk_132 2 1 (dk_at dksX0_rests_2 0 rfl rfl)
theorem dX0_rests_49 : decode cX0_rests 49 = .ok (.goto (-37), 3) := dk_167 255 219 (dk_at dksX0_rests_2 3 rfl rfl)
theorem dX0_rests_52 : decode cX0_rests 52 = .ok (.ldc 3, 2) := dk_18 3 (dk_at dksX0_rests_2 6 rfl rfl)
theorem dX0_rests_54 : decode cX0_rests 54 = .ok (.istore_n 2, 1) := dk_61 (dk_at dksX0_rests_2 8 rfl rfl)
theorem dX0_rests_55 : decode cX0_rests 55 = .ok (.aload_n 0, 1) := dk_42 (dk_at dksX0_rests_2 9 rfl rfl)
theorem dX0_rests_56 : decode cX0_rests 56 = .ok (.aload_n 1, 1) := dk_43 (dk_at dksX0_rests_2 10 rfl rfl)
theorem dX0_rests_57 : decode cX0_rests 57 = .ok (.putfield 58, 3) := dk_181 0 58 (dk_at dksX0_rests_2 11 rfl rfl)
theorem dX0_rests_60 : decode cX0_rests 60 = .ok (.iload_n 2, 1) := dk_28 (dk_at dksX0_rests_2 14 rfl rfl)
theorem dX0_rests_61 : decode cX0_rests 61 = .ok (.ireturn, 1) := dk_172 (dk_at dksX0_rests_2 15 rfl rfl)
theorem dX0_rests_62 : decode cX0_rests 62 = .ok (.astore 4, 2) := dk_58 4 (dk_at dksX0_rests_2 16 rfl rfl)
theorem dX0_rests_64 : decode cX0_rests 64 = .ok (.aload_n 0, 1) := dk_42 (dk_at dksX0_rests_2 18 rfl rfl)
theorem dX0_rests_65 : decode cX0_rests 65 = .ok (.aload_n 1, 1) := dk_43 (dk_at dksX0_rests_2 19 rfl rfl)
theorem dX0_rests_66 : decode cX0_rests 66 = .ok (.putfield 58, 3) := dk_181 0 58 (dk_at dksX0_rests_2 20 rfl rfl)
theorem dX0_rests_69 : decode cX0_rests 69 = .ok (.aload 4, 2) := dk_25 4 (dk_at dksX0_rests_3 0 rfl rfl)
theorem dX0_rests_71 : decode cX0_rests 71 = .ok (.athrow, 1) := dk_191 (dk_at dksX0_rests_3 2 rfl rfl)
abbrev cX0_corks : ByteArray := prog_1_method_32_code
def yX0_corks : MethodName := ⟨RX0, "corks", "(III)I"⟩
def dkwX0_corks_7 : List UInt8 := [172, 58, 10, 42, 25, 4, 181, 0, 58, 25, 10, 191]
abbrev dktX0_corks_7 : List UInt8 := dkwX0_corks_7 ++ []
def dkwX0_corks_6 : List UInt8 := [167, 0, 14, 29, 154, 0, 8, 21, 5, 167, 0, 5, 21, 6, 54, 7, 42, 25, 4, 181, 0, 58, 21, 7]
abbrev dktX0_corks_6 : List UInt8 := dkwX0_corks_6 ++ dktX0_corks_7
def dkwX0_corks_5 : List UInt8 := [164, 0, 11, 21, 7, 54, 5, 21, 9, 54, 6, 132, 7, 1, 167, 255, 171, 21, 5, 156, 0, 8, 18, 3]
abbrev dktX0_corks_5 : List UInt8 := dkwX0_corks_5 ++ dktX0_corks_6
def dkwX0_corks_4 : List UInt8 := [42, 180, 0, 58, 180, 0, 121, 27, 50, 182, 0, 129, 54, 9, 21, 5, 155, 0, 10, 21, 9, 21, 6]
abbrev dktX0_corks_4 : List UInt8 := dkwX0_corks_4 ++ dktX0_corks_5
def dkwX0_corks_3 : List UInt8 := [182, 0, 229, 42, 180, 0, 58, 180, 0, 187, 21, 7, 4, 84, 42, 180, 0, 58, 28, 182, 0, 232, 54, 8]
abbrev dktX0_corks_3 : List UInt8 := dkwX0_corks_3 ++ dktX0_corks_4
def dkwX0_corks_2 : List UInt8 := [25, 4, 180, 0, 100, 162, 0, 81, 25, 4, 180, 0, 187, 21, 7, 51, 154, 0, 64, 42, 25, 4]
abbrev dktX0_corks_2 : List UInt8 := dkwX0_corks_2 ++ dktX0_corks_3
def dkwX0_corks_1 : List UInt8 := [154, 0, 6, 18, 109, 172, 42, 180, 0, 58, 58, 4, 2, 54, 5, 3, 54, 6, 3, 54, 7, 21, 7]
abbrev dktX0_corks_1 : List UInt8 := dkwX0_corks_1 ++ dktX0_corks_2
def dkwX0_corks_0 : List UInt8 := [42, 27, 182, 0, 125, 153, 0, 20, 28, 184, 0, 236, 153, 0, 13, 29, 133, 9, 10, 184, 0, 96]
abbrev dktX0_corks_0 : List UInt8 := dkwX0_corks_0 ++ dktX0_corks_1
theorem dksX0_corks_0 : cX0_corks.data.toList.drop 0 = dktX0_corks_0 := by decide +kernel
theorem dksX0_corks_1 : cX0_corks.data.toList.drop 22 = dktX0_corks_1 := dk_seg dksX0_corks_0 22 rfl rfl
theorem dksX0_corks_2 : cX0_corks.data.toList.drop 45 = dktX0_corks_2 := dk_seg dksX0_corks_1 23 rfl rfl
theorem dksX0_corks_3 : cX0_corks.data.toList.drop 67 = dktX0_corks_3 := dk_seg dksX0_corks_2 22 rfl rfl
theorem dksX0_corks_4 : cX0_corks.data.toList.drop 91 = dktX0_corks_4 := dk_seg dksX0_corks_3 24 rfl rfl
theorem dksX0_corks_5 : cX0_corks.data.toList.drop 114 = dktX0_corks_5 := dk_seg dksX0_corks_4 23 rfl rfl
theorem dksX0_corks_6 : cX0_corks.data.toList.drop 138 = dktX0_corks_6 := dk_seg dksX0_corks_5 24 rfl rfl
theorem dksX0_corks_7 : cX0_corks.data.toList.drop 162 = dktX0_corks_7 := dk_seg dksX0_corks_6 24 rfl rfl
theorem dX0_corks_0 : decode cX0_corks 0 = .ok (.aload_n 0, 1) := dk_42 (dk_at dksX0_corks_0 0 rfl rfl)
theorem dX0_corks_1 : decode cX0_corks 1 = .ok (.iload_n 1, 1) := dk_27 (dk_at dksX0_corks_0 1 rfl rfl)
theorem dX0_corks_2 : decode cX0_corks 2 = .ok (.invokevirtual 125, 3) := dk_182 0 125 (dk_at dksX0_corks_0 2 rfl rfl)
theorem dX0_corks_5 : decode cX0_corks 5 = .ok (.ifCond .eq 20, 3) := dk_153 0 20 (dk_at dksX0_corks_0 5 rfl rfl)
theorem dX0_corks_8 : decode cX0_corks 8 = .ok (.iload_n 2, 1) := dk_28 (dk_at dksX0_corks_0 8 rfl rfl)
theorem dX0_corks_9 : decode cX0_corks 9 = .ok (.invokestatic 236, 3) := dk_184 0 236 (dk_at dksX0_corks_0 9 rfl rfl)
theorem dX0_corks_12 : decode cX0_corks 12 = .ok (.ifCond .eq 13, 3) := dk_153 0 13 (dk_at dksX0_corks_0 12 rfl rfl)
theorem dX0_corks_15 : decode cX0_corks 15 = .ok (.iload_n 3, 1) := dk_29 (dk_at dksX0_corks_0 15 rfl rfl)
theorem dX0_corks_16 : decode cX0_corks 16 = .ok (.i2l, 1) := dk_133 (dk_at dksX0_corks_0 16 rfl rfl)
theorem dX0_corks_17 : decode cX0_corks 17 = .ok (.lconst 0, 1) := dk_9 (dk_at dksX0_corks_0 17 rfl rfl)
theorem dX0_corks_18 : decode cX0_corks 18 = .ok (.lconst 1, 1) := dk_10 (dk_at dksX0_corks_0 18 rfl rfl)
theorem dX0_corks_19 : decode cX0_corks 19 = .ok (.invokestatic 96, 3) := dk_184 0 96 (dk_at dksX0_corks_0 19 rfl rfl)
theorem dX0_corks_22 : decode cX0_corks 22 = .ok (.ifCond .ne 6, 3) := dk_154 0 6 (dk_at dksX0_corks_1 0 rfl rfl)
theorem dX0_corks_25 : decode cX0_corks 25 = .ok (.ldc 109, 2) := dk_18 109 (dk_at dksX0_corks_1 3 rfl rfl)
theorem dX0_corks_27 : decode cX0_corks 27 = .ok (.ireturn, 1) := dk_172 (dk_at dksX0_corks_1 5 rfl rfl)
theorem dX0_corks_28 : decode cX0_corks 28 = .ok (.aload_n 0, 1) := dk_42 (dk_at dksX0_corks_1 6 rfl rfl)
theorem dX0_corks_29 : decode cX0_corks 29 = .ok (.getfield 58, 3) := dk_180 0 58 (dk_at dksX0_corks_1 7 rfl rfl)
theorem dX0_corks_32 : decode cX0_corks 32 = .ok (.astore 4, 2) := dk_58 4 (dk_at dksX0_corks_1 10 rfl rfl)
theorem dX0_corks_34 : decode cX0_corks 34 = .ok (.iconst (-1), 1) := dk_2 (dk_at dksX0_corks_1 12 rfl rfl)
theorem dX0_corks_35 : decode cX0_corks 35 = .ok (.istore 5, 2) := dk_54 5 (dk_at dksX0_corks_1 13 rfl rfl)
theorem dX0_corks_37 : decode cX0_corks 37 = .ok (.iconst 0, 1) := dk_3 (dk_at dksX0_corks_1 15 rfl rfl)
theorem dX0_corks_38 : decode cX0_corks 38 = .ok (.istore 6, 2) := dk_54 6 (dk_at dksX0_corks_1 16 rfl rfl)
theorem dX0_corks_40 : decode cX0_corks 40 = .ok (.iconst 0, 1) := dk_3 (dk_at dksX0_corks_1 18 rfl rfl)
theorem dX0_corks_41 : decode cX0_corks 41 = .ok (.istore 7, 2) := dk_54 7 (dk_at dksX0_corks_1 19 rfl rfl)
theorem dX0_corks_43 : decode cX0_corks 43 = .ok (.iload 7, 2) := dk_21 7 (dk_at dksX0_corks_1 21 rfl rfl)
theorem dX0_corks_45 : decode cX0_corks 45 = .ok (.aload 4, 2) := dk_25 4 (dk_at dksX0_corks_2 0 rfl rfl)
theorem dX0_corks_47 : decode cX0_corks 47 = .ok (.getfield 100, 3) := dk_180 0 100 (dk_at dksX0_corks_2 2 rfl rfl)
theorem dX0_corks_50 : decode cX0_corks 50 = .ok (.if_icmp .ge 81, 3) := dk_162 0 81 (dk_at dksX0_corks_2 5 rfl rfl)
theorem dX0_corks_53 : decode cX0_corks 53 = .ok (.aload 4, 2) := dk_25 4 (dk_at dksX0_corks_2 8 rfl rfl)
theorem dX0_corks_55 : decode cX0_corks 55 = .ok (.getfield 187, 3) := dk_180 0 187 (dk_at dksX0_corks_2 10 rfl rfl)
theorem dX0_corks_58 : decode cX0_corks 58 = .ok (.iload 7, 2) := dk_21 7 (dk_at dksX0_corks_2 13 rfl rfl)
theorem dX0_corks_60 : decode cX0_corks 60 = .ok (.baload, 1) := dk_51 (dk_at dksX0_corks_2 15 rfl rfl)
theorem dX0_corks_61 : decode cX0_corks 61 = .ok (.ifCond .ne 64, 3) := dk_154 0 64 (dk_at dksX0_corks_2 16 rfl rfl)
theorem dX0_corks_64 : decode cX0_corks 64 = .ok (.aload_n 0, 1) := dk_42 (dk_at dksX0_corks_2 19 rfl rfl)
theorem dX0_corks_65 : decode cX0_corks 65 = .ok (.aload 4, 2) := dk_25 4 (dk_at dksX0_corks_2 20 rfl rfl)
theorem dX0_corks_67 : decode cX0_corks 67 = .ok (.invokevirtual 229, 3) := dk_182 0 229 (dk_at dksX0_corks_3 0 rfl rfl)
theorem dX0_corks_70 : decode cX0_corks 70 = .ok (.aload_n 0, 1) := dk_42 (dk_at dksX0_corks_3 3 rfl rfl)
theorem dX0_corks_71 : decode cX0_corks 71 = .ok (.getfield 58, 3) := dk_180 0 58 (dk_at dksX0_corks_3 4 rfl rfl)
theorem dX0_corks_74 : decode cX0_corks 74 = .ok (.getfield 187, 3) := dk_180 0 187 (dk_at dksX0_corks_3 7 rfl rfl)
theorem dX0_corks_77 : decode cX0_corks 77 = .ok (.iload 7, 2) := dk_21 7 (dk_at dksX0_corks_3 10 rfl rfl)
theorem dX0_corks_79 : decode cX0_corks 79 = .ok (.iconst 1, 1) := dk_4 (dk_at dksX0_corks_3 12 rfl rfl)
theorem dX0_corks_80 : decode cX0_corks 80 = .ok (.bastore, 1) := dk_84 (dk_at dksX0_corks_3 13 rfl rfl)
theorem dX0_corks_81 : decode cX0_corks 81 = .ok (.aload_n 0, 1) := dk_42 (dk_at dksX0_corks_3 14 rfl rfl)
theorem dX0_corks_82 : decode cX0_corks 82 = .ok (.getfield 58, 3) := dk_180 0 58 (dk_at dksX0_corks_3 15 rfl rfl)
theorem dX0_corks_85 : decode cX0_corks 85 = .ok (.iload_n 2, 1) := dk_28 (dk_at dksX0_corks_3 18 rfl rfl)
theorem dX0_corks_86 : decode cX0_corks 86 = .ok (.invokevirtual 232, 3) := dk_182 0 232 (dk_at dksX0_corks_3 19 rfl rfl)
theorem dX0_corks_89 : decode cX0_corks 89 = .ok (.istore 8, 2) := dk_54 8 (dk_at dksX0_corks_3 22 rfl rfl)
theorem dX0_corks_91 : decode cX0_corks 91 = .ok (.aload_n 0, 1) := dk_42 (dk_at dksX0_corks_4 0 rfl rfl)
theorem dX0_corks_92 : decode cX0_corks 92 = .ok (.getfield 58, 3) := dk_180 0 58 (dk_at dksX0_corks_4 1 rfl rfl)
theorem dX0_corks_95 : decode cX0_corks 95 = .ok (.getfield 121, 3) := dk_180 0 121 (dk_at dksX0_corks_4 4 rfl rfl)
theorem dX0_corks_98 : decode cX0_corks 98 = .ok (.iload_n 1, 1) := dk_27 (dk_at dksX0_corks_4 7 rfl rfl)
theorem dX0_corks_99 : decode cX0_corks 99 = .ok (.aaload, 1) := dk_50 (dk_at dksX0_corks_4 8 rfl rfl)
theorem dX0_corks_100 : decode cX0_corks 100 = .ok (.invokevirtual 129, 3) := dk_182 0 129 (dk_at dksX0_corks_4 9 rfl rfl)
theorem dX0_corks_103 : decode cX0_corks 103 = .ok (.istore 9, 2) := dk_54 9 (dk_at dksX0_corks_4 12 rfl rfl)
theorem dX0_corks_105 : decode cX0_corks 105 = .ok (.iload 5, 2) := dk_21 5 (dk_at dksX0_corks_4 14 rfl rfl)
theorem dX0_corks_107 : decode cX0_corks 107 = .ok (.ifCond .lt 10, 3) := dk_155 0 10 (dk_at dksX0_corks_4 16 rfl rfl)
theorem dX0_corks_110 : decode cX0_corks 110 = .ok (.iload 9, 2) := dk_21 9 (dk_at dksX0_corks_4 19 rfl rfl)
theorem dX0_corks_112 : decode cX0_corks 112 = .ok (.iload 6, 2) := dk_21 6 (dk_at dksX0_corks_4 21 rfl rfl)
theorem dX0_corks_114 : decode cX0_corks 114 = .ok (.if_icmp .le 11, 3) := dk_164 0 11 (dk_at dksX0_corks_5 0 rfl rfl)
theorem dX0_corks_117 : decode cX0_corks 117 = .ok (.iload 7, 2) := dk_21 7 (dk_at dksX0_corks_5 3 rfl rfl)
theorem dX0_corks_119 : decode cX0_corks 119 = .ok (.istore 5, 2) := dk_54 5 (dk_at dksX0_corks_5 5 rfl rfl)
theorem dX0_corks_121 : decode cX0_corks 121 = .ok (.iload 9, 2) := dk_21 9 (dk_at dksX0_corks_5 7 rfl rfl)
theorem dX0_corks_123 : decode cX0_corks 123 = .ok (.istore 6, 2) := dk_54 6 (dk_at dksX0_corks_5 9 rfl rfl)
theorem dX0_corks_125 : decode cX0_corks 125 = .ok (.iinc 7 1, 3) := dk_132 7 1 (dk_at dksX0_corks_5 11 rfl rfl)
theorem dX0_corks_128 : decode cX0_corks 128 = .ok (.goto (-85), 3) := dk_167 255 171 (dk_at dksX0_corks_5 14 rfl rfl)
theorem dX0_corks_131 : decode cX0_corks 131 = .ok (.iload 5, 2) := dk_21 5 (dk_at dksX0_corks_5 17 rfl rfl)
theorem dX0_corks_133 : decode cX0_corks 133 = .ok (.ifCond .ge 8, 3) := dk_156 0 8 (dk_at dksX0_corks_5 19 rfl rfl)
theorem dX0_corks_136 : decode cX0_corks 136 = .ok (.ldc 3, 2) := dk_18 3 (dk_at dksX0_corks_5 22 rfl rfl)
theorem dX0_corks_138 : decode cX0_corks 138 = .ok (.goto 14, 3) := dk_167 0 14 (dk_at dksX0_corks_6 0 rfl rfl)
theorem dX0_corks_141 : decode cX0_corks 141 = .ok (.iload_n 3, 1) := dk_29 (dk_at dksX0_corks_6 3 rfl rfl)
theorem dX0_corks_142 : decode cX0_corks 142 = .ok (.ifCond .ne 8, 3) := dk_154 0 8 (dk_at dksX0_corks_6 4 rfl rfl)
theorem dX0_corks_145 : decode cX0_corks 145 = .ok (.iload 5, 2) := dk_21 5 (dk_at dksX0_corks_6 7 rfl rfl)
theorem dX0_corks_147 : decode cX0_corks 147 = .ok (.goto 5, 3) := dk_167 0 5 (dk_at dksX0_corks_6 9 rfl rfl)
theorem dX0_corks_150 : decode cX0_corks 150 = .ok (.iload 6, 2) := dk_21 6 (dk_at dksX0_corks_6 12 rfl rfl)
theorem dX0_corks_152 : decode cX0_corks 152 = .ok (.istore 7, 2) := dk_54 7 (dk_at dksX0_corks_6 14 rfl rfl)
theorem dX0_corks_154 : decode cX0_corks 154 = .ok (.aload_n 0, 1) := dk_42 (dk_at dksX0_corks_6 16 rfl rfl)
theorem dX0_corks_155 : decode cX0_corks 155 = .ok (.aload 4, 2) := dk_25 4 (dk_at dksX0_corks_6 17 rfl rfl)
theorem dX0_corks_157 : decode cX0_corks 157 = .ok (.putfield 58, 3) := dk_181 0 58 (dk_at dksX0_corks_6 19 rfl rfl)
theorem dX0_corks_160 : decode cX0_corks 160 = .ok (.iload 7, 2) := dk_21 7 (dk_at dksX0_corks_6 22 rfl rfl)
theorem dX0_corks_162 : decode cX0_corks 162 = .ok (.ireturn, 1) := dk_172 (dk_at dksX0_corks_7 0 rfl rfl)
theorem dX0_corks_163 : decode cX0_corks 163 = .ok (.astore 10, 2) := dk_58 10 (dk_at dksX0_corks_7 1 rfl rfl)
theorem dX0_corks_165 : decode cX0_corks 165 = .ok (.aload_n 0, 1) := dk_42 (dk_at dksX0_corks_7 3 rfl rfl)
theorem dX0_corks_166 : decode cX0_corks 166 = .ok (.aload 4, 2) := dk_25 4 (dk_at dksX0_corks_7 4 rfl rfl)
theorem dX0_corks_168 : decode cX0_corks 168 = .ok (.putfield 58, 3) := dk_181 0 58 (dk_at dksX0_corks_7 6 rfl rfl)
theorem dX0_corks_171 : decode cX0_corks 171 = .ok (.aload 10, 2) := dk_25 10 (dk_at dksX0_corks_7 9 rfl rfl)
theorem dX0_corks_173 : decode cX0_corks 173 = .ok (.athrow, 1) := dk_191 (dk_at dksX0_corks_7 11 rfl rfl)
abbrev cX0_isShort : ByteArray := prog_1_method_11_code
def yX0_isShort : MethodName := ⟨RX0, "isShort", "(I)Z"⟩
def dkwX0_isShort_0 : List UInt8 := [26, 133, 10, 20, 0, 103, 184, 0, 96, 172]
abbrev dktX0_isShort_0 : List UInt8 := dkwX0_isShort_0 ++ []
theorem dksX0_isShort_0 : cX0_isShort.data.toList.drop 0 = dktX0_isShort_0 := by decide +kernel
theorem dX0_isShort_0 : decode cX0_isShort 0 = .ok (.iload_n 0, 1) := dk_26 (dk_at dksX0_isShort_0 0 rfl rfl)
theorem dX0_isShort_1 : decode cX0_isShort 1 = .ok (.i2l, 1) := dk_133 (dk_at dksX0_isShort_0 1 rfl rfl)
theorem dX0_isShort_2 : decode cX0_isShort 2 = .ok (.lconst 1, 1) := dk_10 (dk_at dksX0_isShort_0 2 rfl rfl)
theorem dX0_isShort_3 : decode cX0_isShort 3 = .ok (.ldc2_w 103, 3) := dk_20 0 103 (dk_at dksX0_isShort_0 3 rfl rfl)
theorem dX0_isShort_6 : decode cX0_isShort 6 = .ok (.invokestatic 96, 3) := dk_184 0 96 (dk_at dksX0_isShort_0 6 rfl rfl)
theorem dX0_isShort_9 : decode cX0_isShort 9 = .ok (.ireturn, 1) := dk_172 (dk_at dksX0_isShort_0 9 rfl rfl)
abbrev cX0_dig : ByteArray := prog_1_method_34_code
def yX0_dig : MethodName := ⟨RX0, "dig", "(II)I"⟩
def dkwX0_dig_7 : List UInt8 := [45, 181, 0, 58, 25, 9, 191]
abbrev dktX0_dig_7 : List UInt8 := dkwX0_dig_7 ++ []
def dkwX0_dig_6 : List UInt8 := [28, 154, 0, 8, 21, 4, 167, 0, 5, 21, 5, 54, 6, 42, 45, 181, 0, 58, 21, 6, 172, 58, 9, 42]
abbrev dktX0_dig_6 : List UInt8 := dkwX0_dig_6 ++ dktX0_dig_7
def dkwX0_dig_5 : List UInt8 := [54, 5, 132, 7, 1, 167, 255, 186, 132, 6, 1, 167, 255, 165, 21, 4, 156, 0, 8, 18, 3, 167, 0, 14]
abbrev dktX0_dig_5 : List UInt8 := dkwX0_dig_5 ++ dktX0_dig_6
def dkwX0_dig_4 : List UInt8 := [21, 4, 155, 0, 10, 21, 8, 21, 5, 162, 0, 17, 16, 10, 21, 6, 104, 21, 7, 96, 54, 4, 21, 8]
abbrev dktX0_dig_4 : List UInt8 := dkwX0_dig_4 ++ dktX0_dig_5
def dkwX0_dig_3 : List UInt8 := [153, 0, 7, 2, 167, 0, 13, 42, 45, 21, 6, 21, 7, 27, 182, 0, 244, 54, 8, 21, 8, 155, 0, 29]
abbrev dktX0_dig_3 : List UInt8 := dkwX0_dig_3 ++ dktX0_dig_4
def dkwX0_dig_2 : List UInt8 := [21, 6, 4, 96, 54, 7, 21, 7, 45, 180, 0, 92, 162, 0, 67, 45, 21, 6, 21, 7, 182, 0, 241]
abbrev dktX0_dig_2 : List UInt8 := dkwX0_dig_2 ++ dktX0_dig_3
def dkwX0_dig_1 : List UInt8 := [172, 42, 180, 0, 58, 78, 2, 54, 4, 3, 54, 5, 3, 54, 6, 21, 6, 45, 180, 0, 92, 162, 0, 88]
abbrev dktX0_dig_1 : List UInt8 := dkwX0_dig_1 ++ dktX0_dig_2
def dkwX0_dig_0 : List UInt8 := [27, 133, 10, 20, 0, 239, 184, 0, 96, 153, 0, 13, 28, 133, 9, 10, 184, 0, 96, 154, 0, 6, 18, 109]
abbrev dktX0_dig_0 : List UInt8 := dkwX0_dig_0 ++ dktX0_dig_1
theorem dksX0_dig_0 : cX0_dig.data.toList.drop 0 = dktX0_dig_0 := by decide +kernel
theorem dksX0_dig_1 : cX0_dig.data.toList.drop 24 = dktX0_dig_1 := dk_seg dksX0_dig_0 24 rfl rfl
theorem dksX0_dig_2 : cX0_dig.data.toList.drop 48 = dktX0_dig_2 := dk_seg dksX0_dig_1 24 rfl rfl
theorem dksX0_dig_3 : cX0_dig.data.toList.drop 71 = dktX0_dig_3 := dk_seg dksX0_dig_2 23 rfl rfl
theorem dksX0_dig_4 : cX0_dig.data.toList.drop 95 = dktX0_dig_4 := dk_seg dksX0_dig_3 24 rfl rfl
theorem dksX0_dig_5 : cX0_dig.data.toList.drop 119 = dktX0_dig_5 := dk_seg dksX0_dig_4 24 rfl rfl
theorem dksX0_dig_6 : cX0_dig.data.toList.drop 143 = dktX0_dig_6 := dk_seg dksX0_dig_5 24 rfl rfl
theorem dksX0_dig_7 : cX0_dig.data.toList.drop 167 = dktX0_dig_7 := dk_seg dksX0_dig_6 24 rfl rfl
theorem dX0_dig_0 : decode cX0_dig 0 = .ok (.iload_n 1, 1) := dk_27 (dk_at dksX0_dig_0 0 rfl rfl)
theorem dX0_dig_1 : decode cX0_dig 1 = .ok (.i2l, 1) := dk_133 (dk_at dksX0_dig_0 1 rfl rfl)
theorem dX0_dig_2 : decode cX0_dig 2 = .ok (.lconst 1, 1) := dk_10 (dk_at dksX0_dig_0 2 rfl rfl)
theorem dX0_dig_3 : decode cX0_dig 3 = .ok (.ldc2_w 239, 3) := dk_20 0 239 (dk_at dksX0_dig_0 3 rfl rfl)
theorem dX0_dig_6 : decode cX0_dig 6 = .ok (.invokestatic 96, 3) := dk_184 0 96 (dk_at dksX0_dig_0 6 rfl rfl)
theorem dX0_dig_9 : decode cX0_dig 9 = .ok (.ifCond .eq 13, 3) := dk_153 0 13 (dk_at dksX0_dig_0 9 rfl rfl)
theorem dX0_dig_12 : decode cX0_dig 12 = .ok (.iload_n 2, 1) := dk_28 (dk_at dksX0_dig_0 12 rfl rfl)
theorem dX0_dig_13 : decode cX0_dig 13 = .ok (.i2l, 1) := dk_133 (dk_at dksX0_dig_0 13 rfl rfl)
theorem dX0_dig_14 : decode cX0_dig 14 = .ok (.lconst 0, 1) := dk_9 (dk_at dksX0_dig_0 14 rfl rfl)
theorem dX0_dig_15 : decode cX0_dig 15 = .ok (.lconst 1, 1) := dk_10 (dk_at dksX0_dig_0 15 rfl rfl)
theorem dX0_dig_16 : decode cX0_dig 16 = .ok (.invokestatic 96, 3) := dk_184 0 96 (dk_at dksX0_dig_0 16 rfl rfl)
theorem dX0_dig_19 : decode cX0_dig 19 = .ok (.ifCond .ne 6, 3) := dk_154 0 6 (dk_at dksX0_dig_0 19 rfl rfl)
theorem dX0_dig_22 : decode cX0_dig 22 = .ok (.ldc 109, 2) := dk_18 109 (dk_at dksX0_dig_0 22 rfl rfl)
theorem dX0_dig_24 : decode cX0_dig 24 = .ok (.ireturn, 1) := dk_172 (dk_at dksX0_dig_1 0 rfl rfl)
theorem dX0_dig_25 : decode cX0_dig 25 = .ok (.aload_n 0, 1) := dk_42 (dk_at dksX0_dig_1 1 rfl rfl)
theorem dX0_dig_26 : decode cX0_dig 26 = .ok (.getfield 58, 3) := dk_180 0 58 (dk_at dksX0_dig_1 2 rfl rfl)
theorem dX0_dig_29 : decode cX0_dig 29 = .ok (.astore_n 3, 1) := dk_78 (dk_at dksX0_dig_1 5 rfl rfl)
theorem dX0_dig_30 : decode cX0_dig 30 = .ok (.iconst (-1), 1) := dk_2 (dk_at dksX0_dig_1 6 rfl rfl)
theorem dX0_dig_31 : decode cX0_dig 31 = .ok (.istore 4, 2) := dk_54 4 (dk_at dksX0_dig_1 7 rfl rfl)
theorem dX0_dig_33 : decode cX0_dig 33 = .ok (.iconst 0, 1) := dk_3 (dk_at dksX0_dig_1 9 rfl rfl)
theorem dX0_dig_34 : decode cX0_dig 34 = .ok (.istore 5, 2) := dk_54 5 (dk_at dksX0_dig_1 10 rfl rfl)
theorem dX0_dig_36 : decode cX0_dig 36 = .ok (.iconst 0, 1) := dk_3 (dk_at dksX0_dig_1 12 rfl rfl)
theorem dX0_dig_37 : decode cX0_dig 37 = .ok (.istore 6, 2) := dk_54 6 (dk_at dksX0_dig_1 13 rfl rfl)
theorem dX0_dig_39 : decode cX0_dig 39 = .ok (.iload 6, 2) := dk_21 6 (dk_at dksX0_dig_1 15 rfl rfl)
theorem dX0_dig_41 : decode cX0_dig 41 = .ok (.aload_n 3, 1) := dk_45 (dk_at dksX0_dig_1 17 rfl rfl)
theorem dX0_dig_42 : decode cX0_dig 42 = .ok (.getfield 92, 3) := dk_180 0 92 (dk_at dksX0_dig_1 18 rfl rfl)
theorem dX0_dig_45 : decode cX0_dig 45 = .ok (.if_icmp .ge 88, 3) := dk_162 0 88 (dk_at dksX0_dig_1 21 rfl rfl)
theorem dX0_dig_48 : decode cX0_dig 48 = .ok (.iload 6, 2) := dk_21 6 (dk_at dksX0_dig_2 0 rfl rfl)
theorem dX0_dig_50 : decode cX0_dig 50 = .ok (.iconst 1, 1) := dk_4 (dk_at dksX0_dig_2 2 rfl rfl)
theorem dX0_dig_51 : decode cX0_dig 51 = .ok (.iadd, 1) := dk_96 (dk_at dksX0_dig_2 3 rfl rfl)
theorem dX0_dig_52 : decode cX0_dig 52 = .ok (.istore 7, 2) := dk_54 7 (dk_at dksX0_dig_2 4 rfl rfl)
theorem dX0_dig_54 : decode cX0_dig 54 = .ok (.iload 7, 2) := dk_21 7 (dk_at dksX0_dig_2 6 rfl rfl)
theorem dX0_dig_56 : decode cX0_dig 56 = .ok (.aload_n 3, 1) := dk_45 (dk_at dksX0_dig_2 8 rfl rfl)
theorem dX0_dig_57 : decode cX0_dig 57 = .ok (.getfield 92, 3) := dk_180 0 92 (dk_at dksX0_dig_2 9 rfl rfl)
theorem dX0_dig_60 : decode cX0_dig 60 = .ok (.if_icmp .ge 67, 3) := dk_162 0 67 (dk_at dksX0_dig_2 12 rfl rfl)
theorem dX0_dig_63 : decode cX0_dig 63 = .ok (.aload_n 3, 1) := dk_45 (dk_at dksX0_dig_2 15 rfl rfl)
theorem dX0_dig_64 : decode cX0_dig 64 = .ok (.iload 6, 2) := dk_21 6 (dk_at dksX0_dig_2 16 rfl rfl)
theorem dX0_dig_66 : decode cX0_dig 66 = .ok (.iload 7, 2) := dk_21 7 (dk_at dksX0_dig_2 18 rfl rfl)
theorem dX0_dig_68 : decode cX0_dig 68 = .ok (.invokevirtual 241, 3) := dk_182 0 241 (dk_at dksX0_dig_2 20 rfl rfl)
theorem dX0_dig_71 : decode cX0_dig 71 = .ok (.ifCond .eq 7, 3) := dk_153 0 7 (dk_at dksX0_dig_3 0 rfl rfl)
theorem dX0_dig_74 : decode cX0_dig 74 = .ok (.iconst (-1), 1) := dk_2 (dk_at dksX0_dig_3 3 rfl rfl)
theorem dX0_dig_75 : decode cX0_dig 75 = .ok (.goto 13, 3) := dk_167 0 13 (dk_at dksX0_dig_3 4 rfl rfl)
theorem dX0_dig_78 : decode cX0_dig 78 = .ok (.aload_n 0, 1) := dk_42 (dk_at dksX0_dig_3 7 rfl rfl)
theorem dX0_dig_79 : decode cX0_dig 79 = .ok (.aload_n 3, 1) := dk_45 (dk_at dksX0_dig_3 8 rfl rfl)
theorem dX0_dig_80 : decode cX0_dig 80 = .ok (.iload 6, 2) := dk_21 6 (dk_at dksX0_dig_3 9 rfl rfl)
theorem dX0_dig_82 : decode cX0_dig 82 = .ok (.iload 7, 2) := dk_21 7 (dk_at dksX0_dig_3 11 rfl rfl)
theorem dX0_dig_84 : decode cX0_dig 84 = .ok (.iload_n 1, 1) := dk_27 (dk_at dksX0_dig_3 13 rfl rfl)
theorem dX0_dig_85 : decode cX0_dig 85 = .ok (.invokevirtual 244, 3) := dk_182 0 244 (dk_at dksX0_dig_3 14 rfl rfl)
theorem dX0_dig_88 : decode cX0_dig 88 = .ok (.istore 8, 2) := dk_54 8 (dk_at dksX0_dig_3 17 rfl rfl)
theorem dX0_dig_90 : decode cX0_dig 90 = .ok (.iload 8, 2) := dk_21 8 (dk_at dksX0_dig_3 19 rfl rfl)
theorem dX0_dig_92 : decode cX0_dig 92 = .ok (.ifCond .lt 29, 3) := dk_155 0 29 (dk_at dksX0_dig_3 21 rfl rfl)
theorem dX0_dig_95 : decode cX0_dig 95 = .ok (.iload 4, 2) := dk_21 4 (dk_at dksX0_dig_4 0 rfl rfl)
theorem dX0_dig_97 : decode cX0_dig 97 = .ok (.ifCond .lt 10, 3) := dk_155 0 10 (dk_at dksX0_dig_4 2 rfl rfl)
theorem dX0_dig_100 : decode cX0_dig 100 = .ok (.iload 8, 2) := dk_21 8 (dk_at dksX0_dig_4 5 rfl rfl)
theorem dX0_dig_102 : decode cX0_dig 102 = .ok (.iload 5, 2) := dk_21 5 (dk_at dksX0_dig_4 7 rfl rfl)
theorem dX0_dig_104 : decode cX0_dig 104 = .ok (.if_icmp .ge 17, 3) := dk_162 0 17 (dk_at dksX0_dig_4 9 rfl rfl)
theorem dX0_dig_107 : decode cX0_dig 107 = .ok (.bipush 10, 2) := dk_16 10 (dk_at dksX0_dig_4 12 rfl rfl)
theorem dX0_dig_109 : decode cX0_dig 109 = .ok (.iload 6, 2) := dk_21 6 (dk_at dksX0_dig_4 14 rfl rfl)
theorem dX0_dig_111 : decode cX0_dig 111 = .ok (.imul, 1) := dk_104 (dk_at dksX0_dig_4 16 rfl rfl)
theorem dX0_dig_112 : decode cX0_dig 112 = .ok (.iload 7, 2) := dk_21 7 (dk_at dksX0_dig_4 17 rfl rfl)
theorem dX0_dig_114 : decode cX0_dig 114 = .ok (.iadd, 1) := dk_96 (dk_at dksX0_dig_4 19 rfl rfl)
theorem dX0_dig_115 : decode cX0_dig 115 = .ok (.istore 4, 2) := dk_54 4 (dk_at dksX0_dig_4 20 rfl rfl)
theorem dX0_dig_117 : decode cX0_dig 117 = .ok (.iload 8, 2) := dk_21 8 (dk_at dksX0_dig_4 22 rfl rfl)
theorem dX0_dig_119 : decode cX0_dig 119 = .ok (.istore 5, 2) := dk_54 5 (dk_at dksX0_dig_5 0 rfl rfl)
theorem dX0_dig_121 : decode cX0_dig 121 = .ok (.iinc 7 1, 3) := dk_132 7 1 (dk_at dksX0_dig_5 2 rfl rfl)
theorem dX0_dig_124 : decode cX0_dig 124 = .ok (.goto (-70), 3) := dk_167 255 186 (dk_at dksX0_dig_5 5 rfl rfl)
theorem dX0_dig_127 : decode cX0_dig 127 = .ok (.iinc 6 1, 3) := dk_132 6 1 (dk_at dksX0_dig_5 8 rfl rfl)
theorem dX0_dig_130 : decode cX0_dig 130 = .ok (.goto (-91), 3) := dk_167 255 165 (dk_at dksX0_dig_5 11 rfl rfl)
theorem dX0_dig_133 : decode cX0_dig 133 = .ok (.iload 4, 2) := dk_21 4 (dk_at dksX0_dig_5 14 rfl rfl)
theorem dX0_dig_135 : decode cX0_dig 135 = .ok (.ifCond .ge 8, 3) := dk_156 0 8 (dk_at dksX0_dig_5 16 rfl rfl)
theorem dX0_dig_138 : decode cX0_dig 138 = .ok (.ldc 3, 2) := dk_18 3 (dk_at dksX0_dig_5 19 rfl rfl)
theorem dX0_dig_140 : decode cX0_dig 140 = .ok (.goto 14, 3) := dk_167 0 14 (dk_at dksX0_dig_5 21 rfl rfl)
theorem dX0_dig_143 : decode cX0_dig 143 = .ok (.iload_n 2, 1) := dk_28 (dk_at dksX0_dig_6 0 rfl rfl)
theorem dX0_dig_144 : decode cX0_dig 144 = .ok (.ifCond .ne 8, 3) := dk_154 0 8 (dk_at dksX0_dig_6 1 rfl rfl)
theorem dX0_dig_147 : decode cX0_dig 147 = .ok (.iload 4, 2) := dk_21 4 (dk_at dksX0_dig_6 4 rfl rfl)
theorem dX0_dig_149 : decode cX0_dig 149 = .ok (.goto 5, 3) := dk_167 0 5 (dk_at dksX0_dig_6 6 rfl rfl)
theorem dX0_dig_152 : decode cX0_dig 152 = .ok (.iload 5, 2) := dk_21 5 (dk_at dksX0_dig_6 9 rfl rfl)
theorem dX0_dig_154 : decode cX0_dig 154 = .ok (.istore 6, 2) := dk_54 6 (dk_at dksX0_dig_6 11 rfl rfl)
theorem dX0_dig_156 : decode cX0_dig 156 = .ok (.aload_n 0, 1) := dk_42 (dk_at dksX0_dig_6 13 rfl rfl)
theorem dX0_dig_157 : decode cX0_dig 157 = .ok (.aload_n 3, 1) := dk_45 (dk_at dksX0_dig_6 14 rfl rfl)
theorem dX0_dig_158 : decode cX0_dig 158 = .ok (.putfield 58, 3) := dk_181 0 58 (dk_at dksX0_dig_6 15 rfl rfl)
theorem dX0_dig_161 : decode cX0_dig 161 = .ok (.iload 6, 2) := dk_21 6 (dk_at dksX0_dig_6 18 rfl rfl)
theorem dX0_dig_163 : decode cX0_dig 163 = .ok (.ireturn, 1) := dk_172 (dk_at dksX0_dig_6 20 rfl rfl)
theorem dX0_dig_164 : decode cX0_dig 164 = .ok (.astore 9, 2) := dk_58 9 (dk_at dksX0_dig_6 21 rfl rfl)
theorem dX0_dig_166 : decode cX0_dig 166 = .ok (.aload_n 0, 1) := dk_42 (dk_at dksX0_dig_6 23 rfl rfl)
theorem dX0_dig_167 : decode cX0_dig 167 = .ok (.aload_n 3, 1) := dk_45 (dk_at dksX0_dig_7 0 rfl rfl)
theorem dX0_dig_168 : decode cX0_dig 168 = .ok (.putfield 58, 3) := dk_181 0 58 (dk_at dksX0_dig_7 1 rfl rfl)
theorem dX0_dig_171 : decode cX0_dig 171 = .ok (.aload 9, 2) := dk_25 9 (dk_at dksX0_dig_7 4 rfl rfl)
theorem dX0_dig_173 : decode cX0_dig 173 = .ok (.athrow, 1) := dk_191 (dk_at dksX0_dig_7 6 rfl rfl)
abbrev cX0_spiltBy : ByteArray := prog_1_method_33_code
def yX0_spiltBy : MethodName := ⟨RX0, "spiltBy", "(LLevelCellars$Town;III)I"⟩
def dkwX0_spiltBy_1 : List UInt8 := [54, 5, 42, 180, 0, 58, 180, 0, 220, 172]
abbrev dktX0_spiltBy_1 : List UInt8 := dkwX0_spiltBy_1 ++ []
def dkwX0_spiltBy_0 : List UInt8 := [42, 43, 182, 0, 229, 42, 180, 0, 58, 28, 29, 6, 182, 0, 171, 42, 180, 0, 58, 21, 4, 182, 0, 232]
abbrev dktX0_spiltBy_0 : List UInt8 := dkwX0_spiltBy_0 ++ dktX0_spiltBy_1
theorem dksX0_spiltBy_0 : cX0_spiltBy.data.toList.drop 0 = dktX0_spiltBy_0 := by decide +kernel
theorem dksX0_spiltBy_1 : cX0_spiltBy.data.toList.drop 24 = dktX0_spiltBy_1 := dk_seg dksX0_spiltBy_0 24 rfl rfl
theorem dX0_spiltBy_0 : decode cX0_spiltBy 0 = .ok (.aload_n 0, 1) := dk_42 (dk_at dksX0_spiltBy_0 0 rfl rfl)
theorem dX0_spiltBy_1 : decode cX0_spiltBy 1 = .ok (.aload_n 1, 1) := dk_43 (dk_at dksX0_spiltBy_0 1 rfl rfl)
theorem dX0_spiltBy_2 : decode cX0_spiltBy 2 = .ok (.invokevirtual 229, 3) := dk_182 0 229 (dk_at dksX0_spiltBy_0 2 rfl rfl)
theorem dX0_spiltBy_5 : decode cX0_spiltBy 5 = .ok (.aload_n 0, 1) := dk_42 (dk_at dksX0_spiltBy_0 5 rfl rfl)
theorem dX0_spiltBy_6 : decode cX0_spiltBy 6 = .ok (.getfield 58, 3) := dk_180 0 58 (dk_at dksX0_spiltBy_0 6 rfl rfl)
theorem dX0_spiltBy_9 : decode cX0_spiltBy 9 = .ok (.iload_n 2, 1) := dk_28 (dk_at dksX0_spiltBy_0 9 rfl rfl)
theorem dX0_spiltBy_10 : decode cX0_spiltBy 10 = .ok (.iload_n 3, 1) := dk_29 (dk_at dksX0_spiltBy_0 10 rfl rfl)
theorem dX0_spiltBy_11 : decode cX0_spiltBy 11 = .ok (.iconst 3, 1) := dk_6 (dk_at dksX0_spiltBy_0 11 rfl rfl)
theorem dX0_spiltBy_12 : decode cX0_spiltBy 12 = .ok (.invokevirtual 171, 3) := dk_182 0 171 (dk_at dksX0_spiltBy_0 12 rfl rfl)
theorem dX0_spiltBy_15 : decode cX0_spiltBy 15 = .ok (.aload_n 0, 1) := dk_42 (dk_at dksX0_spiltBy_0 15 rfl rfl)
theorem dX0_spiltBy_16 : decode cX0_spiltBy 16 = .ok (.getfield 58, 3) := dk_180 0 58 (dk_at dksX0_spiltBy_0 16 rfl rfl)
theorem dX0_spiltBy_19 : decode cX0_spiltBy 19 = .ok (.iload 4, 2) := dk_21 4 (dk_at dksX0_spiltBy_0 19 rfl rfl)
theorem dX0_spiltBy_21 : decode cX0_spiltBy 21 = .ok (.invokevirtual 232, 3) := dk_182 0 232 (dk_at dksX0_spiltBy_0 21 rfl rfl)
theorem dX0_spiltBy_24 : decode cX0_spiltBy 24 = .ok (.istore 5, 2) := dk_54 5 (dk_at dksX0_spiltBy_1 0 rfl rfl)
theorem dX0_spiltBy_26 : decode cX0_spiltBy 26 = .ok (.aload_n 0, 1) := dk_42 (dk_at dksX0_spiltBy_1 2 rfl rfl)
theorem dX0_spiltBy_27 : decode cX0_spiltBy 27 = .ok (.getfield 58, 3) := dk_180 0 58 (dk_at dksX0_spiltBy_1 3 rfl rfl)
theorem dX0_spiltBy_30 : decode cX0_spiltBy 30 = .ok (.getfield 220, 3) := dk_180 0 220 (dk_at dksX0_spiltBy_1 6 rfl rfl)
theorem dX0_spiltBy_33 : decode cX0_spiltBy 33 = .ok (.ireturn, 1) := dk_172 (dk_at dksX0_spiltBy_1 9 rfl rfl)
abbrev cX0_loser : ByteArray := prog_1_method_35_code
def yX0_loser : MethodName := ⟨RX0, "loser", "(II)I"⟩
def dkwX0_loser_6 : List UInt8 := [21, 7, 172, 58, 9, 42, 45, 181, 0, 58, 25, 9, 191]
abbrev dktX0_loser_6 : List UInt8 := dkwX0_loser_6 ++ []
def dkwX0_loser_5 : List UInt8 := [18, 3, 167, 0, 14, 28, 154, 0, 8, 21, 5, 167, 0, 5, 21, 6, 54, 7, 42, 45, 181, 0, 58]
abbrev dktX0_loser_5 : List UInt8 := dkwX0_loser_5 ++ dktX0_loser_6
def dkwX0_loser_4 : List UInt8 := [21, 6, 164, 0, 11, 21, 7, 54, 5, 21, 8, 54, 6, 132, 7, 1, 167, 255, 195, 21, 5, 156, 0, 8]
abbrev dktX0_loser_4 : List UInt8 := dkwX0_loser_4 ++ dktX0_loser_5
def dkwX0_loser_3 : List UInt8 := [42, 180, 0, 58, 180, 0, 121, 21, 7, 50, 182, 0, 129, 100, 54, 8, 21, 5, 155, 0, 10, 21, 8]
abbrev dktX0_loser_3 : List UInt8 := dkwX0_loser_3 ++ dktX0_loser_4
def dkwX0_loser_2 : List UInt8 := [54, 7, 21, 7, 42, 180, 0, 58, 180, 0, 92, 162, 0, 55, 45, 180, 0, 121, 21, 7, 50, 182, 0, 129]
abbrev dktX0_loser_2 : List UInt8 := dkwX0_loser_2 ++ dktX0_loser_3
def dkwX0_loser_1 : List UInt8 := [78, 42, 45, 182, 0, 229, 42, 180, 0, 58, 27, 182, 0, 232, 54, 4, 2, 54, 5, 3, 54, 6, 3]
abbrev dktX0_loser_1 : List UInt8 := dkwX0_loser_1 ++ dktX0_loser_2
def dkwX0_loser_0 : List UInt8 := [27, 184, 0, 236, 153, 0, 13, 28, 133, 9, 10, 184, 0, 96, 154, 0, 6, 18, 109, 172, 42, 180, 0, 58]
abbrev dktX0_loser_0 : List UInt8 := dkwX0_loser_0 ++ dktX0_loser_1
theorem dksX0_loser_0 : cX0_loser.data.toList.drop 0 = dktX0_loser_0 := by decide +kernel
theorem dksX0_loser_1 : cX0_loser.data.toList.drop 24 = dktX0_loser_1 := dk_seg dksX0_loser_0 24 rfl rfl
theorem dksX0_loser_2 : cX0_loser.data.toList.drop 47 = dktX0_loser_2 := dk_seg dksX0_loser_1 23 rfl rfl
theorem dksX0_loser_3 : cX0_loser.data.toList.drop 71 = dktX0_loser_3 := dk_seg dksX0_loser_2 24 rfl rfl
theorem dksX0_loser_4 : cX0_loser.data.toList.drop 94 = dktX0_loser_4 := dk_seg dksX0_loser_3 23 rfl rfl
theorem dksX0_loser_5 : cX0_loser.data.toList.drop 118 = dktX0_loser_5 := dk_seg dksX0_loser_4 24 rfl rfl
theorem dksX0_loser_6 : cX0_loser.data.toList.drop 141 = dktX0_loser_6 := dk_seg dksX0_loser_5 23 rfl rfl
theorem dX0_loser_0 : decode cX0_loser 0 = .ok (.iload_n 1, 1) := dk_27 (dk_at dksX0_loser_0 0 rfl rfl)
theorem dX0_loser_1 : decode cX0_loser 1 = .ok (.invokestatic 236, 3) := dk_184 0 236 (dk_at dksX0_loser_0 1 rfl rfl)
theorem dX0_loser_4 : decode cX0_loser 4 = .ok (.ifCond .eq 13, 3) := dk_153 0 13 (dk_at dksX0_loser_0 4 rfl rfl)
theorem dX0_loser_7 : decode cX0_loser 7 = .ok (.iload_n 2, 1) := dk_28 (dk_at dksX0_loser_0 7 rfl rfl)
theorem dX0_loser_8 : decode cX0_loser 8 = .ok (.i2l, 1) := dk_133 (dk_at dksX0_loser_0 8 rfl rfl)
theorem dX0_loser_9 : decode cX0_loser 9 = .ok (.lconst 0, 1) := dk_9 (dk_at dksX0_loser_0 9 rfl rfl)
theorem dX0_loser_10 : decode cX0_loser 10 = .ok (.lconst 1, 1) := dk_10 (dk_at dksX0_loser_0 10 rfl rfl)
theorem dX0_loser_11 : decode cX0_loser 11 = .ok (.invokestatic 96, 3) := dk_184 0 96 (dk_at dksX0_loser_0 11 rfl rfl)
theorem dX0_loser_14 : decode cX0_loser 14 = .ok (.ifCond .ne 6, 3) := dk_154 0 6 (dk_at dksX0_loser_0 14 rfl rfl)
theorem dX0_loser_17 : decode cX0_loser 17 = .ok (.ldc 109, 2) := dk_18 109 (dk_at dksX0_loser_0 17 rfl rfl)
theorem dX0_loser_19 : decode cX0_loser 19 = .ok (.ireturn, 1) := dk_172 (dk_at dksX0_loser_0 19 rfl rfl)
theorem dX0_loser_20 : decode cX0_loser 20 = .ok (.aload_n 0, 1) := dk_42 (dk_at dksX0_loser_0 20 rfl rfl)
theorem dX0_loser_21 : decode cX0_loser 21 = .ok (.getfield 58, 3) := dk_180 0 58 (dk_at dksX0_loser_0 21 rfl rfl)
theorem dX0_loser_24 : decode cX0_loser 24 = .ok (.astore_n 3, 1) := dk_78 (dk_at dksX0_loser_1 0 rfl rfl)
theorem dX0_loser_25 : decode cX0_loser 25 = .ok (.aload_n 0, 1) := dk_42 (dk_at dksX0_loser_1 1 rfl rfl)
theorem dX0_loser_26 : decode cX0_loser 26 = .ok (.aload_n 3, 1) := dk_45 (dk_at dksX0_loser_1 2 rfl rfl)
theorem dX0_loser_27 : decode cX0_loser 27 = .ok (.invokevirtual 229, 3) := dk_182 0 229 (dk_at dksX0_loser_1 3 rfl rfl)
theorem dX0_loser_30 : decode cX0_loser 30 = .ok (.aload_n 0, 1) := dk_42 (dk_at dksX0_loser_1 6 rfl rfl)
theorem dX0_loser_31 : decode cX0_loser 31 = .ok (.getfield 58, 3) := dk_180 0 58 (dk_at dksX0_loser_1 7 rfl rfl)
theorem dX0_loser_34 : decode cX0_loser 34 = .ok (.iload_n 1, 1) := dk_27 (dk_at dksX0_loser_1 10 rfl rfl)
theorem dX0_loser_35 : decode cX0_loser 35 = .ok (.invokevirtual 232, 3) := dk_182 0 232 (dk_at dksX0_loser_1 11 rfl rfl)
theorem dX0_loser_38 : decode cX0_loser 38 = .ok (.istore 4, 2) := dk_54 4 (dk_at dksX0_loser_1 14 rfl rfl)
theorem dX0_loser_40 : decode cX0_loser 40 = .ok (.iconst (-1), 1) := dk_2 (dk_at dksX0_loser_1 16 rfl rfl)
theorem dX0_loser_41 : decode cX0_loser 41 = .ok (.istore 5, 2) := dk_54 5 (dk_at dksX0_loser_1 17 rfl rfl)
theorem dX0_loser_43 : decode cX0_loser 43 = .ok (.iconst 0, 1) := dk_3 (dk_at dksX0_loser_1 19 rfl rfl)
theorem dX0_loser_44 : decode cX0_loser 44 = .ok (.istore 6, 2) := dk_54 6 (dk_at dksX0_loser_1 20 rfl rfl)
theorem dX0_loser_46 : decode cX0_loser 46 = .ok (.iconst 0, 1) := dk_3 (dk_at dksX0_loser_1 22 rfl rfl)
theorem dX0_loser_47 : decode cX0_loser 47 = .ok (.istore 7, 2) := dk_54 7 (dk_at dksX0_loser_2 0 rfl rfl)
theorem dX0_loser_49 : decode cX0_loser 49 = .ok (.iload 7, 2) := dk_21 7 (dk_at dksX0_loser_2 2 rfl rfl)
theorem dX0_loser_51 : decode cX0_loser 51 = .ok (.aload_n 0, 1) := dk_42 (dk_at dksX0_loser_2 4 rfl rfl)
theorem dX0_loser_52 : decode cX0_loser 52 = .ok (.getfield 58, 3) := dk_180 0 58 (dk_at dksX0_loser_2 5 rfl rfl)
theorem dX0_loser_55 : decode cX0_loser 55 = .ok (.getfield 92, 3) := dk_180 0 92 (dk_at dksX0_loser_2 8 rfl rfl)
theorem dX0_loser_58 : decode cX0_loser 58 = .ok (.if_icmp .ge 55, 3) := dk_162 0 55 (dk_at dksX0_loser_2 11 rfl rfl)
theorem dX0_loser_61 : decode cX0_loser 61 = .ok (.aload_n 3, 1) := dk_45 (dk_at dksX0_loser_2 14 rfl rfl)
theorem dX0_loser_62 : decode cX0_loser 62 = .ok (.getfield 121, 3) := dk_180 0 121 (dk_at dksX0_loser_2 15 rfl rfl)
theorem dX0_loser_65 : decode cX0_loser 65 = .ok (.iload 7, 2) := dk_21 7 (dk_at dksX0_loser_2 18 rfl rfl)
theorem dX0_loser_67 : decode cX0_loser 67 = .ok (.aaload, 1) := dk_50 (dk_at dksX0_loser_2 20 rfl rfl)
theorem dX0_loser_68 : decode cX0_loser 68 = .ok (.invokevirtual 129, 3) := dk_182 0 129 (dk_at dksX0_loser_2 21 rfl rfl)
theorem dX0_loser_71 : decode cX0_loser 71 = .ok (.aload_n 0, 1) := dk_42 (dk_at dksX0_loser_3 0 rfl rfl)
theorem dX0_loser_72 : decode cX0_loser 72 = .ok (.getfield 58, 3) := dk_180 0 58 (dk_at dksX0_loser_3 1 rfl rfl)
theorem dX0_loser_75 : decode cX0_loser 75 = .ok (.getfield 121, 3) := dk_180 0 121 (dk_at dksX0_loser_3 4 rfl rfl)
theorem dX0_loser_78 : decode cX0_loser 78 = .ok (.iload 7, 2) := dk_21 7 (dk_at dksX0_loser_3 7 rfl rfl)
theorem dX0_loser_80 : decode cX0_loser 80 = .ok (.aaload, 1) := dk_50 (dk_at dksX0_loser_3 9 rfl rfl)
theorem dX0_loser_81 : decode cX0_loser 81 = .ok (.invokevirtual 129, 3) := dk_182 0 129 (dk_at dksX0_loser_3 10 rfl rfl)
theorem dX0_loser_84 : decode cX0_loser 84 = .ok (.isub, 1) := dk_100 (dk_at dksX0_loser_3 13 rfl rfl)
theorem dX0_loser_85 : decode cX0_loser 85 = .ok (.istore 8, 2) := dk_54 8 (dk_at dksX0_loser_3 14 rfl rfl)
theorem dX0_loser_87 : decode cX0_loser 87 = .ok (.iload 5, 2) := dk_21 5 (dk_at dksX0_loser_3 16 rfl rfl)
theorem dX0_loser_89 : decode cX0_loser 89 = .ok (.ifCond .lt 10, 3) := dk_155 0 10 (dk_at dksX0_loser_3 18 rfl rfl)
theorem dX0_loser_92 : decode cX0_loser 92 = .ok (.iload 8, 2) := dk_21 8 (dk_at dksX0_loser_3 21 rfl rfl)
theorem dX0_loser_94 : decode cX0_loser 94 = .ok (.iload 6, 2) := dk_21 6 (dk_at dksX0_loser_4 0 rfl rfl)
theorem dX0_loser_96 : decode cX0_loser 96 = .ok (.if_icmp .le 11, 3) := dk_164 0 11 (dk_at dksX0_loser_4 2 rfl rfl)
theorem dX0_loser_99 : decode cX0_loser 99 = .ok (.iload 7, 2) := dk_21 7 (dk_at dksX0_loser_4 5 rfl rfl)
theorem dX0_loser_101 : decode cX0_loser 101 = .ok (.istore 5, 2) := dk_54 5 (dk_at dksX0_loser_4 7 rfl rfl)
theorem dX0_loser_103 : decode cX0_loser 103 = .ok (.iload 8, 2) := dk_21 8 (dk_at dksX0_loser_4 9 rfl rfl)
theorem dX0_loser_105 : decode cX0_loser 105 = .ok (.istore 6, 2) := dk_54 6 (dk_at dksX0_loser_4 11 rfl rfl)
theorem dX0_loser_107 : decode cX0_loser 107 = .ok (.iinc 7 1, 3) := dk_132 7 1 (dk_at dksX0_loser_4 13 rfl rfl)
theorem dX0_loser_110 : decode cX0_loser 110 = .ok (.goto (-61), 3) := dk_167 255 195 (dk_at dksX0_loser_4 16 rfl rfl)
theorem dX0_loser_113 : decode cX0_loser 113 = .ok (.iload 5, 2) := dk_21 5 (dk_at dksX0_loser_4 19 rfl rfl)
theorem dX0_loser_115 : decode cX0_loser 115 = .ok (.ifCond .ge 8, 3) := dk_156 0 8 (dk_at dksX0_loser_4 21 rfl rfl)
theorem dX0_loser_118 : decode cX0_loser 118 = .ok (.ldc 3, 2) := dk_18 3 (dk_at dksX0_loser_5 0 rfl rfl)
theorem dX0_loser_120 : decode cX0_loser 120 = .ok (.goto 14, 3) := dk_167 0 14 (dk_at dksX0_loser_5 2 rfl rfl)
theorem dX0_loser_123 : decode cX0_loser 123 = .ok (.iload_n 2, 1) := dk_28 (dk_at dksX0_loser_5 5 rfl rfl)
theorem dX0_loser_124 : decode cX0_loser 124 = .ok (.ifCond .ne 8, 3) := dk_154 0 8 (dk_at dksX0_loser_5 6 rfl rfl)
theorem dX0_loser_127 : decode cX0_loser 127 = .ok (.iload 5, 2) := dk_21 5 (dk_at dksX0_loser_5 9 rfl rfl)
theorem dX0_loser_129 : decode cX0_loser 129 = .ok (.goto 5, 3) := dk_167 0 5 (dk_at dksX0_loser_5 11 rfl rfl)
theorem dX0_loser_132 : decode cX0_loser 132 = .ok (.iload 6, 2) := dk_21 6 (dk_at dksX0_loser_5 14 rfl rfl)
theorem dX0_loser_134 : decode cX0_loser 134 = .ok (.istore 7, 2) := dk_54 7 (dk_at dksX0_loser_5 16 rfl rfl)
theorem dX0_loser_136 : decode cX0_loser 136 = .ok (.aload_n 0, 1) := dk_42 (dk_at dksX0_loser_5 18 rfl rfl)
theorem dX0_loser_137 : decode cX0_loser 137 = .ok (.aload_n 3, 1) := dk_45 (dk_at dksX0_loser_5 19 rfl rfl)
theorem dX0_loser_138 : decode cX0_loser 138 = .ok (.putfield 58, 3) := dk_181 0 58 (dk_at dksX0_loser_5 20 rfl rfl)
theorem dX0_loser_141 : decode cX0_loser 141 = .ok (.iload 7, 2) := dk_21 7 (dk_at dksX0_loser_6 0 rfl rfl)
theorem dX0_loser_143 : decode cX0_loser 143 = .ok (.ireturn, 1) := dk_172 (dk_at dksX0_loser_6 2 rfl rfl)
theorem dX0_loser_144 : decode cX0_loser 144 = .ok (.astore 9, 2) := dk_58 9 (dk_at dksX0_loser_6 3 rfl rfl)
theorem dX0_loser_146 : decode cX0_loser 146 = .ok (.aload_n 0, 1) := dk_42 (dk_at dksX0_loser_6 5 rfl rfl)
theorem dX0_loser_147 : decode cX0_loser 147 = .ok (.aload_n 3, 1) := dk_45 (dk_at dksX0_loser_6 6 rfl rfl)
theorem dX0_loser_148 : decode cX0_loser 148 = .ok (.putfield 58, 3) := dk_181 0 58 (dk_at dksX0_loser_6 7 rfl rfl)
theorem dX0_loser_151 : decode cX0_loser 151 = .ok (.aload 9, 2) := dk_25 9 (dk_at dksX0_loser_6 10 rfl rfl)
theorem dX0_loser_153 : decode cX0_loser 153 = .ok (.athrow, 1) := dk_191 (dk_at dksX0_loser_6 12 rfl rfl)
abbrev cX0_tap : ByteArray := prog_1_method_36_code
def yX0_tap : MethodName := ⟨RX0, "tap", "(II)I"⟩
def dkwX0_tap_5 : List UInt8 := [21, 6, 172, 58, 7, 42, 45, 181, 0, 58, 25, 7, 191]
abbrev dktX0_tap_5 : List UInt8 := dkwX0_tap_5 ++ []
def dkwX0_tap_4 : List UInt8 := [182, 0, 217, 100, 42, 180, 0, 58, 180, 0, 121, 27, 50, 182, 0, 129, 96, 54, 6, 42, 45, 181, 0, 58]
abbrev dktX0_tap_4 : List UInt8 := dkwX0_tap_4 ++ dktX0_tap_5
def dkwX0_tap_3 : List UInt8 := [180, 0, 121, 27, 50, 182, 0, 248, 42, 180, 0, 58, 28, 182, 0, 232, 54, 4, 21, 5, 42, 180, 0, 58]
abbrev dktX0_tap_3 : List UInt8 := dkwX0_tap_3 ++ dktX0_tap_4
def dkwX0_tap_2 : List UInt8 := [180, 0, 58, 180, 0, 121, 27, 50, 182, 0, 129, 100, 54, 5, 42, 45, 182, 0, 229, 42, 180, 0, 58]
abbrev dktX0_tap_2 : List UInt8 := dkwX0_tap_2 ++ dktX0_tap_3
def dkwX0_tap_1 : List UInt8 := [45, 182, 0, 229, 42, 180, 0, 58, 28, 182, 0, 232, 54, 4, 42, 180, 0, 58, 182, 0, 217, 42]
abbrev dktX0_tap_1 : List UInt8 := dkwX0_tap_1 ++ dktX0_tap_2
def dkwX0_tap_0 : List UInt8 := [42, 27, 182, 0, 125, 153, 0, 10, 28, 184, 0, 236, 154, 0, 6, 18, 109, 172, 42, 180, 0, 58, 78, 42]
abbrev dktX0_tap_0 : List UInt8 := dkwX0_tap_0 ++ dktX0_tap_1
theorem dksX0_tap_0 : cX0_tap.data.toList.drop 0 = dktX0_tap_0 := by decide +kernel
theorem dksX0_tap_1 : cX0_tap.data.toList.drop 24 = dktX0_tap_1 := dk_seg dksX0_tap_0 24 rfl rfl
theorem dksX0_tap_2 : cX0_tap.data.toList.drop 46 = dktX0_tap_2 := dk_seg dksX0_tap_1 22 rfl rfl
theorem dksX0_tap_3 : cX0_tap.data.toList.drop 69 = dktX0_tap_3 := dk_seg dksX0_tap_2 23 rfl rfl
theorem dksX0_tap_4 : cX0_tap.data.toList.drop 93 = dktX0_tap_4 := dk_seg dksX0_tap_3 24 rfl rfl
theorem dksX0_tap_5 : cX0_tap.data.toList.drop 117 = dktX0_tap_5 := dk_seg dksX0_tap_4 24 rfl rfl
theorem dX0_tap_0 : decode cX0_tap 0 = .ok (.aload_n 0, 1) := dk_42 (dk_at dksX0_tap_0 0 rfl rfl)
theorem dX0_tap_1 : decode cX0_tap 1 = .ok (.iload_n 1, 1) := dk_27 (dk_at dksX0_tap_0 1 rfl rfl)
theorem dX0_tap_2 : decode cX0_tap 2 = .ok (.invokevirtual 125, 3) := dk_182 0 125 (dk_at dksX0_tap_0 2 rfl rfl)
theorem dX0_tap_5 : decode cX0_tap 5 = .ok (.ifCond .eq 10, 3) := dk_153 0 10 (dk_at dksX0_tap_0 5 rfl rfl)
theorem dX0_tap_8 : decode cX0_tap 8 = .ok (.iload_n 2, 1) := dk_28 (dk_at dksX0_tap_0 8 rfl rfl)
theorem dX0_tap_9 : decode cX0_tap 9 = .ok (.invokestatic 236, 3) := dk_184 0 236 (dk_at dksX0_tap_0 9 rfl rfl)
theorem dX0_tap_12 : decode cX0_tap 12 = .ok (.ifCond .ne 6, 3) := dk_154 0 6 (dk_at dksX0_tap_0 12 rfl rfl)
theorem dX0_tap_15 : decode cX0_tap 15 = .ok (.ldc 109, 2) := dk_18 109 (dk_at dksX0_tap_0 15 rfl rfl)
theorem dX0_tap_17 : decode cX0_tap 17 = .ok (.ireturn, 1) := dk_172 (dk_at dksX0_tap_0 17 rfl rfl)
theorem dX0_tap_18 : decode cX0_tap 18 = .ok (.aload_n 0, 1) := dk_42 (dk_at dksX0_tap_0 18 rfl rfl)
theorem dX0_tap_19 : decode cX0_tap 19 = .ok (.getfield 58, 3) := dk_180 0 58 (dk_at dksX0_tap_0 19 rfl rfl)
theorem dX0_tap_22 : decode cX0_tap 22 = .ok (.astore_n 3, 1) := dk_78 (dk_at dksX0_tap_0 22 rfl rfl)
theorem dX0_tap_23 : decode cX0_tap 23 = .ok (.aload_n 0, 1) := dk_42 (dk_at dksX0_tap_0 23 rfl rfl)
theorem dX0_tap_24 : decode cX0_tap 24 = .ok (.aload_n 3, 1) := dk_45 (dk_at dksX0_tap_1 0 rfl rfl)
theorem dX0_tap_25 : decode cX0_tap 25 = .ok (.invokevirtual 229, 3) := dk_182 0 229 (dk_at dksX0_tap_1 1 rfl rfl)
theorem dX0_tap_28 : decode cX0_tap 28 = .ok (.aload_n 0, 1) := dk_42 (dk_at dksX0_tap_1 4 rfl rfl)
theorem dX0_tap_29 : decode cX0_tap 29 = .ok (.getfield 58, 3) := dk_180 0 58 (dk_at dksX0_tap_1 5 rfl rfl)
theorem dX0_tap_32 : decode cX0_tap 32 = .ok (.iload_n 2, 1) := dk_28 (dk_at dksX0_tap_1 8 rfl rfl)
theorem dX0_tap_33 : decode cX0_tap 33 = .ok (.invokevirtual 232, 3) := dk_182 0 232 (dk_at dksX0_tap_1 9 rfl rfl)
theorem dX0_tap_36 : decode cX0_tap 36 = .ok (.istore 4, 2) := dk_54 4 (dk_at dksX0_tap_1 12 rfl rfl)
theorem dX0_tap_38 : decode cX0_tap 38 = .ok (.aload_n 0, 1) := dk_42 (dk_at dksX0_tap_1 14 rfl rfl)
theorem dX0_tap_39 : decode cX0_tap 39 = .ok (.getfield 58, 3) := dk_180 0 58 (dk_at dksX0_tap_1 15 rfl rfl)
theorem dX0_tap_42 : decode cX0_tap 42 = .ok (.invokevirtual 217, 3) := dk_182 0 217 (dk_at dksX0_tap_1 18 rfl rfl)
theorem dX0_tap_45 : decode cX0_tap 45 = .ok (.aload_n 0, 1) := dk_42 (dk_at dksX0_tap_1 21 rfl rfl)
theorem dX0_tap_46 : decode cX0_tap 46 = .ok (.getfield 58, 3) := dk_180 0 58 (dk_at dksX0_tap_2 0 rfl rfl)
theorem dX0_tap_49 : decode cX0_tap 49 = .ok (.getfield 121, 3) := dk_180 0 121 (dk_at dksX0_tap_2 3 rfl rfl)
theorem dX0_tap_52 : decode cX0_tap 52 = .ok (.iload_n 1, 1) := dk_27 (dk_at dksX0_tap_2 6 rfl rfl)
theorem dX0_tap_53 : decode cX0_tap 53 = .ok (.aaload, 1) := dk_50 (dk_at dksX0_tap_2 7 rfl rfl)
theorem dX0_tap_54 : decode cX0_tap 54 = .ok (.invokevirtual 129, 3) := dk_182 0 129 (dk_at dksX0_tap_2 8 rfl rfl)
theorem dX0_tap_57 : decode cX0_tap 57 = .ok (.isub, 1) := dk_100 (dk_at dksX0_tap_2 11 rfl rfl)
theorem dX0_tap_58 : decode cX0_tap 58 = .ok (.istore 5, 2) := dk_54 5 (dk_at dksX0_tap_2 12 rfl rfl)
theorem dX0_tap_60 : decode cX0_tap 60 = .ok (.aload_n 0, 1) := dk_42 (dk_at dksX0_tap_2 14 rfl rfl)
theorem dX0_tap_61 : decode cX0_tap 61 = .ok (.aload_n 3, 1) := dk_45 (dk_at dksX0_tap_2 15 rfl rfl)
theorem dX0_tap_62 : decode cX0_tap 62 = .ok (.invokevirtual 229, 3) := dk_182 0 229 (dk_at dksX0_tap_2 16 rfl rfl)
theorem dX0_tap_65 : decode cX0_tap 65 = .ok (.aload_n 0, 1) := dk_42 (dk_at dksX0_tap_2 19 rfl rfl)
theorem dX0_tap_66 : decode cX0_tap 66 = .ok (.getfield 58, 3) := dk_180 0 58 (dk_at dksX0_tap_2 20 rfl rfl)
theorem dX0_tap_69 : decode cX0_tap 69 = .ok (.getfield 121, 3) := dk_180 0 121 (dk_at dksX0_tap_3 0 rfl rfl)
theorem dX0_tap_72 : decode cX0_tap 72 = .ok (.iload_n 1, 1) := dk_27 (dk_at dksX0_tap_3 3 rfl rfl)
theorem dX0_tap_73 : decode cX0_tap 73 = .ok (.aaload, 1) := dk_50 (dk_at dksX0_tap_3 4 rfl rfl)
theorem dX0_tap_74 : decode cX0_tap 74 = .ok (.invokevirtual 248, 3) := dk_182 0 248 (dk_at dksX0_tap_3 5 rfl rfl)
theorem dX0_tap_77 : decode cX0_tap 77 = .ok (.aload_n 0, 1) := dk_42 (dk_at dksX0_tap_3 8 rfl rfl)
theorem dX0_tap_78 : decode cX0_tap 78 = .ok (.getfield 58, 3) := dk_180 0 58 (dk_at dksX0_tap_3 9 rfl rfl)
theorem dX0_tap_81 : decode cX0_tap 81 = .ok (.iload_n 2, 1) := dk_28 (dk_at dksX0_tap_3 12 rfl rfl)
theorem dX0_tap_82 : decode cX0_tap 82 = .ok (.invokevirtual 232, 3) := dk_182 0 232 (dk_at dksX0_tap_3 13 rfl rfl)
theorem dX0_tap_85 : decode cX0_tap 85 = .ok (.istore 4, 2) := dk_54 4 (dk_at dksX0_tap_3 16 rfl rfl)
theorem dX0_tap_87 : decode cX0_tap 87 = .ok (.iload 5, 2) := dk_21 5 (dk_at dksX0_tap_3 18 rfl rfl)
theorem dX0_tap_89 : decode cX0_tap 89 = .ok (.aload_n 0, 1) := dk_42 (dk_at dksX0_tap_3 20 rfl rfl)
theorem dX0_tap_90 : decode cX0_tap 90 = .ok (.getfield 58, 3) := dk_180 0 58 (dk_at dksX0_tap_3 21 rfl rfl)
theorem dX0_tap_93 : decode cX0_tap 93 = .ok (.invokevirtual 217, 3) := dk_182 0 217 (dk_at dksX0_tap_4 0 rfl rfl)
theorem dX0_tap_96 : decode cX0_tap 96 = .ok (.isub, 1) := dk_100 (dk_at dksX0_tap_4 3 rfl rfl)
theorem dX0_tap_97 : decode cX0_tap 97 = .ok (.aload_n 0, 1) := dk_42 (dk_at dksX0_tap_4 4 rfl rfl)
theorem dX0_tap_98 : decode cX0_tap 98 = .ok (.getfield 58, 3) := dk_180 0 58 (dk_at dksX0_tap_4 5 rfl rfl)
theorem dX0_tap_101 : decode cX0_tap 101 = .ok (.getfield 121, 3) := dk_180 0 121 (dk_at dksX0_tap_4 8 rfl rfl)
theorem dX0_tap_104 : decode cX0_tap 104 = .ok (.iload_n 1, 1) := dk_27 (dk_at dksX0_tap_4 11 rfl rfl)
theorem dX0_tap_105 : decode cX0_tap 105 = .ok (.aaload, 1) := dk_50 (dk_at dksX0_tap_4 12 rfl rfl)
theorem dX0_tap_106 : decode cX0_tap 106 = .ok (.invokevirtual 129, 3) := dk_182 0 129 (dk_at dksX0_tap_4 13 rfl rfl)
theorem dX0_tap_109 : decode cX0_tap 109 = .ok (.iadd, 1) := dk_96 (dk_at dksX0_tap_4 16 rfl rfl)
theorem dX0_tap_110 : decode cX0_tap 110 = .ok (.istore 6, 2) := dk_54 6 (dk_at dksX0_tap_4 17 rfl rfl)
theorem dX0_tap_112 : decode cX0_tap 112 = .ok (.aload_n 0, 1) := dk_42 (dk_at dksX0_tap_4 19 rfl rfl)
theorem dX0_tap_113 : decode cX0_tap 113 = .ok (.aload_n 3, 1) := dk_45 (dk_at dksX0_tap_4 20 rfl rfl)
theorem dX0_tap_114 : decode cX0_tap 114 = .ok (.putfield 58, 3) := dk_181 0 58 (dk_at dksX0_tap_4 21 rfl rfl)
theorem dX0_tap_117 : decode cX0_tap 117 = .ok (.iload 6, 2) := dk_21 6 (dk_at dksX0_tap_5 0 rfl rfl)
theorem dX0_tap_119 : decode cX0_tap 119 = .ok (.ireturn, 1) := dk_172 (dk_at dksX0_tap_5 2 rfl rfl)
theorem dX0_tap_120 : decode cX0_tap 120 = .ok (.astore 7, 2) := dk_58 7 (dk_at dksX0_tap_5 3 rfl rfl)
theorem dX0_tap_122 : decode cX0_tap 122 = .ok (.aload_n 0, 1) := dk_42 (dk_at dksX0_tap_5 5 rfl rfl)
theorem dX0_tap_123 : decode cX0_tap 123 = .ok (.aload_n 3, 1) := dk_45 (dk_at dksX0_tap_5 6 rfl rfl)
theorem dX0_tap_124 : decode cX0_tap 124 = .ok (.putfield 58, 3) := dk_181 0 58 (dk_at dksX0_tap_5 7 rfl rfl)
theorem dX0_tap_127 : decode cX0_tap 127 = .ok (.aload 7, 2) := dk_25 7 (dk_at dksX0_tap_5 10 rfl rfl)
theorem dX0_tap_129 : decode cX0_tap 129 = .ok (.athrow, 1) := dk_191 (dk_at dksX0_tap_5 12 rfl rfl)
abbrev cX0_dug : ByteArray := prog_1_method_38_code
def yX0_dug : MethodName := ⟨RX0, "dug", "(III)I"⟩
def dkwX0_dug_7 : List UInt8 := [25, 10, 191]
abbrev dktX0_dug_7 : List UInt8 := dkwX0_dug_7 ++ []
def dkwX0_dug_6 : List UInt8 := [167, 0, 5, 21, 7, 54, 8, 42, 25, 5, 181, 0, 58, 21, 8, 172, 58, 10, 42, 25, 5, 181, 0, 58]
abbrev dktX0_dug_6 : List UInt8 := dkwX0_dug_6 ++ dktX0_dug_7
def dkwX0_dug_5 : List UInt8 := [21, 9, 184, 0, 4, 54, 7, 132, 8, 1, 167, 255, 205, 29, 154, 0, 11, 21, 6, 184, 1, 18]
abbrev dktX0_dug_5 : List UInt8 := dkwX0_dug_5 ++ dktX0_dug_6
def dkwX0_dug_4 : List UInt8 := [182, 1, 14, 54, 9, 21, 9, 21, 7, 162, 0, 8, 21, 8, 167, 0, 5, 21, 6, 54, 6, 21, 7]
abbrev dktX0_dug_4 : List UInt8 := dkwX0_dug_4 ++ dktX0_dug_5
def dkwX0_dug_3 : List UInt8 := [54, 7, 3, 54, 8, 21, 8, 25, 5, 180, 0, 100, 162, 0, 47, 42, 25, 5, 25, 4, 28, 21, 8]
abbrev dktX0_dug_3 : List UInt8 := dkwX0_dug_3 ++ dktX0_dug_4
def dkwX0_dug_2 : List UInt8 := [19, 1, 13, 172, 42, 180, 0, 58, 58, 5, 2, 54, 6, 42, 25, 5, 25, 4, 28, 2, 182, 1, 14]
abbrev dktX0_dug_2 : List UInt8 := dkwX0_dug_2 ++ dktX0_dug_3
def dkwX0_dug_1 : List UInt8 := [154, 0, 6, 18, 109, 172, 42, 180, 0, 77, 27, 50, 180, 1, 9, 58, 4, 25, 4, 199, 0, 7]
abbrev dktX0_dug_1 : List UInt8 := dkwX0_dug_1 ++ dktX0_dug_2
def dkwX0_dug_0 : List UInt8 := [27, 184, 1, 6, 153, 0, 21, 42, 28, 182, 0, 125, 153, 0, 13, 29, 133, 9, 10, 184, 0, 96]
abbrev dktX0_dug_0 : List UInt8 := dkwX0_dug_0 ++ dktX0_dug_1
theorem dksX0_dug_0 : cX0_dug.data.toList.drop 0 = dktX0_dug_0 := by decide +kernel
theorem dksX0_dug_1 : cX0_dug.data.toList.drop 22 = dktX0_dug_1 := dk_seg dksX0_dug_0 22 rfl rfl
theorem dksX0_dug_2 : cX0_dug.data.toList.drop 44 = dktX0_dug_2 := dk_seg dksX0_dug_1 22 rfl rfl
theorem dksX0_dug_3 : cX0_dug.data.toList.drop 67 = dktX0_dug_3 := dk_seg dksX0_dug_2 23 rfl rfl
theorem dksX0_dug_4 : cX0_dug.data.toList.drop 90 = dktX0_dug_4 := dk_seg dksX0_dug_3 23 rfl rfl
theorem dksX0_dug_5 : cX0_dug.data.toList.drop 113 = dktX0_dug_5 := dk_seg dksX0_dug_4 23 rfl rfl
theorem dksX0_dug_6 : cX0_dug.data.toList.drop 135 = dktX0_dug_6 := dk_seg dksX0_dug_5 22 rfl rfl
theorem dksX0_dug_7 : cX0_dug.data.toList.drop 159 = dktX0_dug_7 := dk_seg dksX0_dug_6 24 rfl rfl
theorem dX0_dug_0 : decode cX0_dug 0 = .ok (.iload_n 1, 1) := dk_27 (dk_at dksX0_dug_0 0 rfl rfl)
theorem dX0_dug_1 : decode cX0_dug 1 = .ok (.invokestatic 262, 3) := dk_184 1 6 (dk_at dksX0_dug_0 1 rfl rfl)
theorem dX0_dug_4 : decode cX0_dug 4 = .ok (.ifCond .eq 21, 3) := dk_153 0 21 (dk_at dksX0_dug_0 4 rfl rfl)
theorem dX0_dug_7 : decode cX0_dug 7 = .ok (.aload_n 0, 1) := dk_42 (dk_at dksX0_dug_0 7 rfl rfl)
theorem dX0_dug_8 : decode cX0_dug 8 = .ok (.iload_n 2, 1) := dk_28 (dk_at dksX0_dug_0 8 rfl rfl)
theorem dX0_dug_9 : decode cX0_dug 9 = .ok (.invokevirtual 125, 3) := dk_182 0 125 (dk_at dksX0_dug_0 9 rfl rfl)
theorem dX0_dug_12 : decode cX0_dug 12 = .ok (.ifCond .eq 13, 3) := dk_153 0 13 (dk_at dksX0_dug_0 12 rfl rfl)
theorem dX0_dug_15 : decode cX0_dug 15 = .ok (.iload_n 3, 1) := dk_29 (dk_at dksX0_dug_0 15 rfl rfl)
theorem dX0_dug_16 : decode cX0_dug 16 = .ok (.i2l, 1) := dk_133 (dk_at dksX0_dug_0 16 rfl rfl)
theorem dX0_dug_17 : decode cX0_dug 17 = .ok (.lconst 0, 1) := dk_9 (dk_at dksX0_dug_0 17 rfl rfl)
theorem dX0_dug_18 : decode cX0_dug 18 = .ok (.lconst 1, 1) := dk_10 (dk_at dksX0_dug_0 18 rfl rfl)
theorem dX0_dug_19 : decode cX0_dug 19 = .ok (.invokestatic 96, 3) := dk_184 0 96 (dk_at dksX0_dug_0 19 rfl rfl)
theorem dX0_dug_22 : decode cX0_dug 22 = .ok (.ifCond .ne 6, 3) := dk_154 0 6 (dk_at dksX0_dug_1 0 rfl rfl)
theorem dX0_dug_25 : decode cX0_dug 25 = .ok (.ldc 109, 2) := dk_18 109 (dk_at dksX0_dug_1 3 rfl rfl)
theorem dX0_dug_27 : decode cX0_dug 27 = .ok (.ireturn, 1) := dk_172 (dk_at dksX0_dug_1 5 rfl rfl)
theorem dX0_dug_28 : decode cX0_dug 28 = .ok (.aload_n 0, 1) := dk_42 (dk_at dksX0_dug_1 6 rfl rfl)
theorem dX0_dug_29 : decode cX0_dug 29 = .ok (.getfield 77, 3) := dk_180 0 77 (dk_at dksX0_dug_1 7 rfl rfl)
theorem dX0_dug_32 : decode cX0_dug 32 = .ok (.iload_n 1, 1) := dk_27 (dk_at dksX0_dug_1 10 rfl rfl)
theorem dX0_dug_33 : decode cX0_dug 33 = .ok (.aaload, 1) := dk_50 (dk_at dksX0_dug_1 11 rfl rfl)
theorem dX0_dug_34 : decode cX0_dug 34 = .ok (.getfield 265, 3) := dk_180 1 9 (dk_at dksX0_dug_1 12 rfl rfl)
theorem dX0_dug_37 : decode cX0_dug 37 = .ok (.astore 4, 2) := dk_58 4 (dk_at dksX0_dug_1 15 rfl rfl)
theorem dX0_dug_39 : decode cX0_dug 39 = .ok (.aload 4, 2) := dk_25 4 (dk_at dksX0_dug_1 17 rfl rfl)
theorem dX0_dug_41 : decode cX0_dug 41 = .ok (.ifnonnull 7, 3) := dk_199 0 7 (dk_at dksX0_dug_1 19 rfl rfl)
theorem dX0_dug_44 : decode cX0_dug 44 = .ok (.ldc_w 269, 3) := dk_19 1 13 (dk_at dksX0_dug_2 0 rfl rfl)
theorem dX0_dug_47 : decode cX0_dug 47 = .ok (.ireturn, 1) := dk_172 (dk_at dksX0_dug_2 3 rfl rfl)
theorem dX0_dug_48 : decode cX0_dug 48 = .ok (.aload_n 0, 1) := dk_42 (dk_at dksX0_dug_2 4 rfl rfl)
theorem dX0_dug_49 : decode cX0_dug 49 = .ok (.getfield 58, 3) := dk_180 0 58 (dk_at dksX0_dug_2 5 rfl rfl)
theorem dX0_dug_52 : decode cX0_dug 52 = .ok (.astore 5, 2) := dk_58 5 (dk_at dksX0_dug_2 8 rfl rfl)
theorem dX0_dug_54 : decode cX0_dug 54 = .ok (.iconst (-1), 1) := dk_2 (dk_at dksX0_dug_2 10 rfl rfl)
theorem dX0_dug_55 : decode cX0_dug 55 = .ok (.istore 6, 2) := dk_54 6 (dk_at dksX0_dug_2 11 rfl rfl)
theorem dX0_dug_57 : decode cX0_dug 57 = .ok (.aload_n 0, 1) := dk_42 (dk_at dksX0_dug_2 13 rfl rfl)
theorem dX0_dug_58 : decode cX0_dug 58 = .ok (.aload 5, 2) := dk_25 5 (dk_at dksX0_dug_2 14 rfl rfl)
theorem dX0_dug_60 : decode cX0_dug 60 = .ok (.aload 4, 2) := dk_25 4 (dk_at dksX0_dug_2 16 rfl rfl)
theorem dX0_dug_62 : decode cX0_dug 62 = .ok (.iload_n 2, 1) := dk_28 (dk_at dksX0_dug_2 18 rfl rfl)
theorem dX0_dug_63 : decode cX0_dug 63 = .ok (.iconst (-1), 1) := dk_2 (dk_at dksX0_dug_2 19 rfl rfl)
theorem dX0_dug_64 : decode cX0_dug 64 = .ok (.invokevirtual 270, 3) := dk_182 1 14 (dk_at dksX0_dug_2 20 rfl rfl)
theorem dX0_dug_67 : decode cX0_dug 67 = .ok (.istore 7, 2) := dk_54 7 (dk_at dksX0_dug_3 0 rfl rfl)
theorem dX0_dug_69 : decode cX0_dug 69 = .ok (.iconst 0, 1) := dk_3 (dk_at dksX0_dug_3 2 rfl rfl)
theorem dX0_dug_70 : decode cX0_dug 70 = .ok (.istore 8, 2) := dk_54 8 (dk_at dksX0_dug_3 3 rfl rfl)
theorem dX0_dug_72 : decode cX0_dug 72 = .ok (.iload 8, 2) := dk_21 8 (dk_at dksX0_dug_3 5 rfl rfl)
theorem dX0_dug_74 : decode cX0_dug 74 = .ok (.aload 5, 2) := dk_25 5 (dk_at dksX0_dug_3 7 rfl rfl)
theorem dX0_dug_76 : decode cX0_dug 76 = .ok (.getfield 100, 3) := dk_180 0 100 (dk_at dksX0_dug_3 9 rfl rfl)
theorem dX0_dug_79 : decode cX0_dug 79 = .ok (.if_icmp .ge 47, 3) := dk_162 0 47 (dk_at dksX0_dug_3 12 rfl rfl)
theorem dX0_dug_82 : decode cX0_dug 82 = .ok (.aload_n 0, 1) := dk_42 (dk_at dksX0_dug_3 15 rfl rfl)
theorem dX0_dug_83 : decode cX0_dug 83 = .ok (.aload 5, 2) := dk_25 5 (dk_at dksX0_dug_3 16 rfl rfl)
theorem dX0_dug_85 : decode cX0_dug 85 = .ok (.aload 4, 2) := dk_25 4 (dk_at dksX0_dug_3 18 rfl rfl)
theorem dX0_dug_87 : decode cX0_dug 87 = .ok (.iload_n 2, 1) := dk_28 (dk_at dksX0_dug_3 20 rfl rfl)
theorem dX0_dug_88 : decode cX0_dug 88 = .ok (.iload 8, 2) := dk_21 8 (dk_at dksX0_dug_3 21 rfl rfl)
theorem dX0_dug_90 : decode cX0_dug 90 = .ok (.invokevirtual 270, 3) := dk_182 1 14 (dk_at dksX0_dug_4 0 rfl rfl)
theorem dX0_dug_93 : decode cX0_dug 93 = .ok (.istore 9, 2) := dk_54 9 (dk_at dksX0_dug_4 3 rfl rfl)
theorem dX0_dug_95 : decode cX0_dug 95 = .ok (.iload 9, 2) := dk_21 9 (dk_at dksX0_dug_4 5 rfl rfl)
theorem dX0_dug_97 : decode cX0_dug 97 = .ok (.iload 7, 2) := dk_21 7 (dk_at dksX0_dug_4 7 rfl rfl)
theorem dX0_dug_99 : decode cX0_dug 99 = .ok (.if_icmp .ge 8, 3) := dk_162 0 8 (dk_at dksX0_dug_4 9 rfl rfl)
theorem dX0_dug_102 : decode cX0_dug 102 = .ok (.iload 8, 2) := dk_21 8 (dk_at dksX0_dug_4 12 rfl rfl)
theorem dX0_dug_104 : decode cX0_dug 104 = .ok (.goto 5, 3) := dk_167 0 5 (dk_at dksX0_dug_4 14 rfl rfl)
theorem dX0_dug_107 : decode cX0_dug 107 = .ok (.iload 6, 2) := dk_21 6 (dk_at dksX0_dug_4 17 rfl rfl)
theorem dX0_dug_109 : decode cX0_dug 109 = .ok (.istore 6, 2) := dk_54 6 (dk_at dksX0_dug_4 19 rfl rfl)
theorem dX0_dug_111 : decode cX0_dug 111 = .ok (.iload 7, 2) := dk_21 7 (dk_at dksX0_dug_4 21 rfl rfl)
theorem dX0_dug_113 : decode cX0_dug 113 = .ok (.iload 9, 2) := dk_21 9 (dk_at dksX0_dug_5 0 rfl rfl)
theorem dX0_dug_115 : decode cX0_dug 115 = .ok (.invokestatic 4, 3) := dk_184 0 4 (dk_at dksX0_dug_5 2 rfl rfl)
theorem dX0_dug_118 : decode cX0_dug 118 = .ok (.istore 7, 2) := dk_54 7 (dk_at dksX0_dug_5 5 rfl rfl)
theorem dX0_dug_120 : decode cX0_dug 120 = .ok (.iinc 8 1, 3) := dk_132 8 1 (dk_at dksX0_dug_5 7 rfl rfl)
theorem dX0_dug_123 : decode cX0_dug 123 = .ok (.goto (-51), 3) := dk_167 255 205 (dk_at dksX0_dug_5 10 rfl rfl)
theorem dX0_dug_126 : decode cX0_dug 126 = .ok (.iload_n 3, 1) := dk_29 (dk_at dksX0_dug_5 13 rfl rfl)
theorem dX0_dug_127 : decode cX0_dug 127 = .ok (.ifCond .ne 11, 3) := dk_154 0 11 (dk_at dksX0_dug_5 14 rfl rfl)
theorem dX0_dug_130 : decode cX0_dug 130 = .ok (.iload 6, 2) := dk_21 6 (dk_at dksX0_dug_5 17 rfl rfl)
theorem dX0_dug_132 : decode cX0_dug 132 = .ok (.invokestatic 274, 3) := dk_184 1 18 (dk_at dksX0_dug_5 19 rfl rfl)
theorem dX0_dug_135 : decode cX0_dug 135 = .ok (.goto 5, 3) := dk_167 0 5 (dk_at dksX0_dug_6 0 rfl rfl)
theorem dX0_dug_138 : decode cX0_dug 138 = .ok (.iload 7, 2) := dk_21 7 (dk_at dksX0_dug_6 3 rfl rfl)
theorem dX0_dug_140 : decode cX0_dug 140 = .ok (.istore 8, 2) := dk_54 8 (dk_at dksX0_dug_6 5 rfl rfl)
theorem dX0_dug_142 : decode cX0_dug 142 = .ok (.aload_n 0, 1) := dk_42 (dk_at dksX0_dug_6 7 rfl rfl)
theorem dX0_dug_143 : decode cX0_dug 143 = .ok (.aload 5, 2) := dk_25 5 (dk_at dksX0_dug_6 8 rfl rfl)
theorem dX0_dug_145 : decode cX0_dug 145 = .ok (.putfield 58, 3) := dk_181 0 58 (dk_at dksX0_dug_6 10 rfl rfl)
theorem dX0_dug_148 : decode cX0_dug 148 = .ok (.iload 8, 2) := dk_21 8 (dk_at dksX0_dug_6 13 rfl rfl)
theorem dX0_dug_150 : decode cX0_dug 150 = .ok (.ireturn, 1) := dk_172 (dk_at dksX0_dug_6 15 rfl rfl)
theorem dX0_dug_151 : decode cX0_dug 151 = .ok (.astore 10, 2) := dk_58 10 (dk_at dksX0_dug_6 16 rfl rfl)
theorem dX0_dug_153 : decode cX0_dug 153 = .ok (.aload_n 0, 1) := dk_42 (dk_at dksX0_dug_6 18 rfl rfl)
theorem dX0_dug_154 : decode cX0_dug 154 = .ok (.aload 5, 2) := dk_25 5 (dk_at dksX0_dug_6 19 rfl rfl)
theorem dX0_dug_156 : decode cX0_dug 156 = .ok (.putfield 58, 3) := dk_181 0 58 (dk_at dksX0_dug_6 21 rfl rfl)
theorem dX0_dug_159 : decode cX0_dug 159 = .ok (.aload 10, 2) := dk_25 10 (dk_at dksX0_dug_7 0 rfl rfl)
theorem dX0_dug_161 : decode cX0_dug 161 = .ok (.athrow, 1) := dk_191 (dk_at dksX0_dug_7 2 rfl rfl)
abbrev cX0_isSheet : ByteArray := prog_1_method_63_code
def yX0_isSheet : MethodName := ⟨RX0, "isSheet", "(I)Z"⟩
def dkwX0_isSheet_0 : List UInt8 := [26, 133, 9, 20, 1, 164, 184, 0, 96, 172]
abbrev dktX0_isSheet_0 : List UInt8 := dkwX0_isSheet_0 ++ []
theorem dksX0_isSheet_0 : cX0_isSheet.data.toList.drop 0 = dktX0_isSheet_0 := by decide +kernel
theorem dX0_isSheet_0 : decode cX0_isSheet 0 = .ok (.iload_n 0, 1) := dk_26 (dk_at dksX0_isSheet_0 0 rfl rfl)
theorem dX0_isSheet_1 : decode cX0_isSheet 1 = .ok (.i2l, 1) := dk_133 (dk_at dksX0_isSheet_0 1 rfl rfl)
theorem dX0_isSheet_2 : decode cX0_isSheet 2 = .ok (.lconst 0, 1) := dk_9 (dk_at dksX0_isSheet_0 2 rfl rfl)
theorem dX0_isSheet_3 : decode cX0_isSheet 3 = .ok (.ldc2_w 420, 3) := dk_20 1 164 (dk_at dksX0_isSheet_0 3 rfl rfl)
theorem dX0_isSheet_6 : decode cX0_isSheet 6 = .ok (.invokestatic 96, 3) := dk_184 0 96 (dk_at dksX0_isSheet_0 6 rfl rfl)
theorem dX0_isSheet_9 : decode cX0_isSheet 9 = .ok (.ireturn, 1) := dk_172 (dk_at dksX0_isSheet_0 9 rfl rfl)
abbrev cX0_offBy : ByteArray := prog_1_method_37_code
def yX0_offBy : MethodName := ⟨RX0, "offBy", "(LLevelCellars$Town;Ljava/lang/Object;II)I"⟩
def dkwX0_offBy_3 : List UInt8 := [184, 1, 3, 96, 54, 5, 42, 180, 0, 58, 182, 0, 214, 54, 8, 132, 6, 1, 167, 255, 193, 21, 5, 172]
abbrev dktX0_offBy_3 : List UInt8 := dkwX0_offBy_3 ++ []
def dkwX0_offBy_2 : List UInt8 := [18, 3, 160, 0, 7, 3, 167, 0, 21, 21, 7, 42, 180, 0, 58, 180, 0, 121, 29, 50, 182, 0, 135, 100]
abbrev dktX0_offBy_2 : List UInt8 := dkwX0_offBy_2 ++ dktX0_offBy_3
def dkwX0_offBy_1 : List UInt8 := [3, 54, 6, 21, 6, 44, 184, 0, 251, 162, 0, 60, 44, 21, 6, 184, 0, 255, 54, 7, 21, 5, 21, 7]
abbrev dktX0_offBy_1 : List UInt8 := dkwX0_offBy_1 ++ dktX0_offBy_2
def dkwX0_offBy_0 : List UInt8 := [42, 43, 182, 0, 229, 21, 4, 155, 0, 14, 42, 180, 0, 58, 180, 0, 187, 21, 4, 4, 84, 3, 54, 5]
abbrev dktX0_offBy_0 : List UInt8 := dkwX0_offBy_0 ++ dktX0_offBy_1
theorem dksX0_offBy_0 : cX0_offBy.data.toList.drop 0 = dktX0_offBy_0 := by decide +kernel
theorem dksX0_offBy_1 : cX0_offBy.data.toList.drop 24 = dktX0_offBy_1 := dk_seg dksX0_offBy_0 24 rfl rfl
theorem dksX0_offBy_2 : cX0_offBy.data.toList.drop 48 = dktX0_offBy_2 := dk_seg dksX0_offBy_1 24 rfl rfl
theorem dksX0_offBy_3 : cX0_offBy.data.toList.drop 72 = dktX0_offBy_3 := dk_seg dksX0_offBy_2 24 rfl rfl
theorem dX0_offBy_0 : decode cX0_offBy 0 = .ok (.aload_n 0, 1) := dk_42 (dk_at dksX0_offBy_0 0 rfl rfl)
theorem dX0_offBy_1 : decode cX0_offBy 1 = .ok (.aload_n 1, 1) := dk_43 (dk_at dksX0_offBy_0 1 rfl rfl)
theorem dX0_offBy_2 : decode cX0_offBy 2 = .ok (.invokevirtual 229, 3) := dk_182 0 229 (dk_at dksX0_offBy_0 2 rfl rfl)
theorem dX0_offBy_5 : decode cX0_offBy 5 = .ok (.iload 4, 2) := dk_21 4 (dk_at dksX0_offBy_0 5 rfl rfl)
theorem dX0_offBy_7 : decode cX0_offBy 7 = .ok (.ifCond .lt 14, 3) := dk_155 0 14 (dk_at dksX0_offBy_0 7 rfl rfl)
theorem dX0_offBy_10 : decode cX0_offBy 10 = .ok (.aload_n 0, 1) := dk_42 (dk_at dksX0_offBy_0 10 rfl rfl)
theorem dX0_offBy_11 : decode cX0_offBy 11 = .ok (.getfield 58, 3) := dk_180 0 58 (dk_at dksX0_offBy_0 11 rfl rfl)
theorem dX0_offBy_14 : decode cX0_offBy 14 = .ok (.getfield 187, 3) := dk_180 0 187 (dk_at dksX0_offBy_0 14 rfl rfl)
theorem dX0_offBy_17 : decode cX0_offBy 17 = .ok (.iload 4, 2) := dk_21 4 (dk_at dksX0_offBy_0 17 rfl rfl)
theorem dX0_offBy_19 : decode cX0_offBy 19 = .ok (.iconst 1, 1) := dk_4 (dk_at dksX0_offBy_0 19 rfl rfl)
theorem dX0_offBy_20 : decode cX0_offBy 20 = .ok (.bastore, 1) := dk_84 (dk_at dksX0_offBy_0 20 rfl rfl)
theorem dX0_offBy_21 : decode cX0_offBy 21 = .ok (.iconst 0, 1) := dk_3 (dk_at dksX0_offBy_0 21 rfl rfl)
theorem dX0_offBy_22 : decode cX0_offBy 22 = .ok (.istore 5, 2) := dk_54 5 (dk_at dksX0_offBy_0 22 rfl rfl)
theorem dX0_offBy_24 : decode cX0_offBy 24 = .ok (.iconst 0, 1) := dk_3 (dk_at dksX0_offBy_1 0 rfl rfl)
theorem dX0_offBy_25 : decode cX0_offBy 25 = .ok (.istore 6, 2) := dk_54 6 (dk_at dksX0_offBy_1 1 rfl rfl)
theorem dX0_offBy_27 : decode cX0_offBy 27 = .ok (.iload 6, 2) := dk_21 6 (dk_at dksX0_offBy_1 3 rfl rfl)
theorem dX0_offBy_29 : decode cX0_offBy 29 = .ok (.aload_n 2, 1) := dk_44 (dk_at dksX0_offBy_1 5 rfl rfl)
theorem dX0_offBy_30 : decode cX0_offBy 30 = .ok (.invokestatic 251, 3) := dk_184 0 251 (dk_at dksX0_offBy_1 6 rfl rfl)
theorem dX0_offBy_33 : decode cX0_offBy 33 = .ok (.if_icmp .ge 60, 3) := dk_162 0 60 (dk_at dksX0_offBy_1 9 rfl rfl)
theorem dX0_offBy_36 : decode cX0_offBy 36 = .ok (.aload_n 2, 1) := dk_44 (dk_at dksX0_offBy_1 12 rfl rfl)
theorem dX0_offBy_37 : decode cX0_offBy 37 = .ok (.iload 6, 2) := dk_21 6 (dk_at dksX0_offBy_1 13 rfl rfl)
theorem dX0_offBy_39 : decode cX0_offBy 39 = .ok (.invokestatic 255, 3) := dk_184 0 255 (dk_at dksX0_offBy_1 15 rfl rfl)
theorem dX0_offBy_42 : decode cX0_offBy 42 = .ok (.istore 7, 2) := dk_54 7 (dk_at dksX0_offBy_1 18 rfl rfl)
theorem dX0_offBy_44 : decode cX0_offBy 44 = .ok (.iload 5, 2) := dk_21 5 (dk_at dksX0_offBy_1 20 rfl rfl)
theorem dX0_offBy_46 : decode cX0_offBy 46 = .ok (.iload 7, 2) := dk_21 7 (dk_at dksX0_offBy_1 22 rfl rfl)
theorem dX0_offBy_48 : decode cX0_offBy 48 = .ok (.ldc 3, 2) := dk_18 3 (dk_at dksX0_offBy_2 0 rfl rfl)
theorem dX0_offBy_50 : decode cX0_offBy 50 = .ok (.if_icmp .ne 7, 3) := dk_160 0 7 (dk_at dksX0_offBy_2 2 rfl rfl)
theorem dX0_offBy_53 : decode cX0_offBy 53 = .ok (.iconst 0, 1) := dk_3 (dk_at dksX0_offBy_2 5 rfl rfl)
theorem dX0_offBy_54 : decode cX0_offBy 54 = .ok (.goto 21, 3) := dk_167 0 21 (dk_at dksX0_offBy_2 6 rfl rfl)
theorem dX0_offBy_57 : decode cX0_offBy 57 = .ok (.iload 7, 2) := dk_21 7 (dk_at dksX0_offBy_2 9 rfl rfl)
theorem dX0_offBy_59 : decode cX0_offBy 59 = .ok (.aload_n 0, 1) := dk_42 (dk_at dksX0_offBy_2 11 rfl rfl)
theorem dX0_offBy_60 : decode cX0_offBy 60 = .ok (.getfield 58, 3) := dk_180 0 58 (dk_at dksX0_offBy_2 12 rfl rfl)
theorem dX0_offBy_63 : decode cX0_offBy 63 = .ok (.getfield 121, 3) := dk_180 0 121 (dk_at dksX0_offBy_2 15 rfl rfl)
theorem dX0_offBy_66 : decode cX0_offBy 66 = .ok (.iload_n 3, 1) := dk_29 (dk_at dksX0_offBy_2 18 rfl rfl)
theorem dX0_offBy_67 : decode cX0_offBy 67 = .ok (.aaload, 1) := dk_50 (dk_at dksX0_offBy_2 19 rfl rfl)
theorem dX0_offBy_68 : decode cX0_offBy 68 = .ok (.invokevirtual 135, 3) := dk_182 0 135 (dk_at dksX0_offBy_2 20 rfl rfl)
theorem dX0_offBy_71 : decode cX0_offBy 71 = .ok (.isub, 1) := dk_100 (dk_at dksX0_offBy_2 23 rfl rfl)
theorem dX0_offBy_72 : decode cX0_offBy 72 = .ok (.invokestatic 259, 3) := dk_184 1 3 (dk_at dksX0_offBy_3 0 rfl rfl)
theorem dX0_offBy_75 : decode cX0_offBy 75 = .ok (.iadd, 1) := dk_96 (dk_at dksX0_offBy_3 3 rfl rfl)
theorem dX0_offBy_76 : decode cX0_offBy 76 = .ok (.istore 5, 2) := dk_54 5 (dk_at dksX0_offBy_3 4 rfl rfl)
theorem dX0_offBy_78 : decode cX0_offBy 78 = .ok (.aload_n 0, 1) := dk_42 (dk_at dksX0_offBy_3 6 rfl rfl)
theorem dX0_offBy_79 : decode cX0_offBy 79 = .ok (.getfield 58, 3) := dk_180 0 58 (dk_at dksX0_offBy_3 7 rfl rfl)
theorem dX0_offBy_82 : decode cX0_offBy 82 = .ok (.invokevirtual 214, 3) := dk_182 0 214 (dk_at dksX0_offBy_3 10 rfl rfl)
theorem dX0_offBy_85 : decode cX0_offBy 85 = .ok (.istore 8, 2) := dk_54 8 (dk_at dksX0_offBy_3 13 rfl rfl)
theorem dX0_offBy_87 : decode cX0_offBy 87 = .ok (.iinc 6 1, 3) := dk_132 6 1 (dk_at dksX0_offBy_3 15 rfl rfl)
theorem dX0_offBy_90 : decode cX0_offBy 90 = .ok (.goto (-63), 3) := dk_167 255 193 (dk_at dksX0_offBy_3 18 rfl rfl)
theorem dX0_offBy_93 : decode cX0_offBy 93 = .ok (.iload 5, 2) := dk_21 5 (dk_at dksX0_offBy_3 21 rfl rfl)
theorem dX0_offBy_95 : decode cX0_offBy 95 = .ok (.ireturn, 1) := dk_172 (dk_at dksX0_offBy_3 23 rfl rfl)
abbrev cX0_lengthOf : ByteArray := prog_1_method_65_code
def yX0_lengthOf : MethodName := ⟨RX0, "lengthOf", "(Ljava/lang/Object;)I"⟩
def dkwX0_lengthOf_0 : List UInt8 := [42, 193, 1, 168, 153, 0, 11, 42, 192, 1, 168, 190, 167, 0, 8, 42, 192, 1, 170, 190, 172]
abbrev dktX0_lengthOf_0 : List UInt8 := dkwX0_lengthOf_0 ++ []
theorem dksX0_lengthOf_0 : cX0_lengthOf.data.toList.drop 0 = dktX0_lengthOf_0 := by decide +kernel
theorem dX0_lengthOf_0 : decode cX0_lengthOf 0 = .ok (.aload_n 0, 1) := dk_42 (dk_at dksX0_lengthOf_0 0 rfl rfl)
theorem dX0_lengthOf_1 : decode cX0_lengthOf 1 = .ok (.instanceof 424, 3) := dk_193 1 168 (dk_at dksX0_lengthOf_0 1 rfl rfl)
theorem dX0_lengthOf_4 : decode cX0_lengthOf 4 = .ok (.ifCond .eq 11, 3) := dk_153 0 11 (dk_at dksX0_lengthOf_0 4 rfl rfl)
theorem dX0_lengthOf_7 : decode cX0_lengthOf 7 = .ok (.aload_n 0, 1) := dk_42 (dk_at dksX0_lengthOf_0 7 rfl rfl)
theorem dX0_lengthOf_8 : decode cX0_lengthOf 8 = .ok (.checkcast 424, 3) := dk_192 1 168 (dk_at dksX0_lengthOf_0 8 rfl rfl)
theorem dX0_lengthOf_11 : decode cX0_lengthOf 11 = .ok (.arraylength, 1) := dk_190 (dk_at dksX0_lengthOf_0 11 rfl rfl)
theorem dX0_lengthOf_12 : decode cX0_lengthOf 12 = .ok (.goto 8, 3) := dk_167 0 8 (dk_at dksX0_lengthOf_0 12 rfl rfl)
theorem dX0_lengthOf_15 : decode cX0_lengthOf 15 = .ok (.aload_n 0, 1) := dk_42 (dk_at dksX0_lengthOf_0 15 rfl rfl)
theorem dX0_lengthOf_16 : decode cX0_lengthOf 16 = .ok (.checkcast 426, 3) := dk_192 1 170 (dk_at dksX0_lengthOf_0 16 rfl rfl)
theorem dX0_lengthOf_19 : decode cX0_lengthOf 19 = .ok (.arraylength, 1) := dk_190 (dk_at dksX0_lengthOf_0 19 rfl rfl)
theorem dX0_lengthOf_20 : decode cX0_lengthOf 20 = .ok (.ireturn, 1) := dk_172 (dk_at dksX0_lengthOf_0 20 rfl rfl)
abbrev cX0_numberAt : ByteArray := prog_1_method_66_code
def yX0_numberAt : MethodName := ⟨RX0, "numberAt", "(Ljava/lang/Object;I)I"⟩
def dkwX0_numberAt_1 : List UInt8 := [153, 0, 8, 18, 3, 167, 0, 5, 36, 139, 172]
abbrev dktX0_numberAt_1 : List UInt8 := dkwX0_numberAt_1 ++ []
def dkwX0_numberAt_0 : List UInt8 := [42, 193, 1, 168, 153, 0, 10, 42, 192, 1, 168, 27, 53, 172, 42, 192, 1, 170, 27, 48, 69, 36, 36, 149]
abbrev dktX0_numberAt_0 : List UInt8 := dkwX0_numberAt_0 ++ dktX0_numberAt_1
theorem dksX0_numberAt_0 : cX0_numberAt.data.toList.drop 0 = dktX0_numberAt_0 := by decide +kernel
theorem dksX0_numberAt_1 : cX0_numberAt.data.toList.drop 24 = dktX0_numberAt_1 := dk_seg dksX0_numberAt_0 24 rfl rfl
theorem dX0_numberAt_0 : decode cX0_numberAt 0 = .ok (.aload_n 0, 1) := dk_42 (dk_at dksX0_numberAt_0 0 rfl rfl)
theorem dX0_numberAt_1 : decode cX0_numberAt 1 = .ok (.instanceof 424, 3) := dk_193 1 168 (dk_at dksX0_numberAt_0 1 rfl rfl)
theorem dX0_numberAt_4 : decode cX0_numberAt 4 = .ok (.ifCond .eq 10, 3) := dk_153 0 10 (dk_at dksX0_numberAt_0 4 rfl rfl)
theorem dX0_numberAt_7 : decode cX0_numberAt 7 = .ok (.aload_n 0, 1) := dk_42 (dk_at dksX0_numberAt_0 7 rfl rfl)
theorem dX0_numberAt_8 : decode cX0_numberAt 8 = .ok (.checkcast 424, 3) := dk_192 1 168 (dk_at dksX0_numberAt_0 8 rfl rfl)
theorem dX0_numberAt_11 : decode cX0_numberAt 11 = .ok (.iload_n 1, 1) := dk_27 (dk_at dksX0_numberAt_0 11 rfl rfl)
theorem dX0_numberAt_12 : decode cX0_numberAt 12 = .ok (.saload, 1) := dk_53 (dk_at dksX0_numberAt_0 12 rfl rfl)
theorem dX0_numberAt_13 : decode cX0_numberAt 13 = .ok (.ireturn, 1) := dk_172 (dk_at dksX0_numberAt_0 13 rfl rfl)
theorem dX0_numberAt_14 : decode cX0_numberAt 14 = .ok (.aload_n 0, 1) := dk_42 (dk_at dksX0_numberAt_0 14 rfl rfl)
theorem dX0_numberAt_15 : decode cX0_numberAt 15 = .ok (.checkcast 426, 3) := dk_192 1 170 (dk_at dksX0_numberAt_0 15 rfl rfl)
theorem dX0_numberAt_18 : decode cX0_numberAt 18 = .ok (.iload_n 1, 1) := dk_27 (dk_at dksX0_numberAt_0 18 rfl rfl)
theorem dX0_numberAt_19 : decode cX0_numberAt 19 = .ok (.faload, 1) := dk_48 (dk_at dksX0_numberAt_0 19 rfl rfl)
theorem dX0_numberAt_20 : decode cX0_numberAt 20 = .ok (.fstore_n 2, 1) := dk_69 (dk_at dksX0_numberAt_0 20 rfl rfl)
theorem dX0_numberAt_21 : decode cX0_numberAt 21 = .ok (.fload_n 2, 1) := dk_36 (dk_at dksX0_numberAt_0 21 rfl rfl)
theorem dX0_numberAt_22 : decode cX0_numberAt 22 = .ok (.fload_n 2, 1) := dk_36 (dk_at dksX0_numberAt_0 22 rfl rfl)
theorem dX0_numberAt_23 : decode cX0_numberAt 23 = .ok (.fcmp .l, 1) := dk_149 (dk_at dksX0_numberAt_0 23 rfl rfl)
theorem dX0_numberAt_24 : decode cX0_numberAt 24 = .ok (.ifCond .eq 8, 3) := dk_153 0 8 (dk_at dksX0_numberAt_1 0 rfl rfl)
theorem dX0_numberAt_27 : decode cX0_numberAt 27 = .ok (.ldc 3, 2) := dk_18 3 (dk_at dksX0_numberAt_1 3 rfl rfl)
theorem dX0_numberAt_29 : decode cX0_numberAt 29 = .ok (.goto 5, 3) := dk_167 0 5 (dk_at dksX0_numberAt_1 5 rfl rfl)
theorem dX0_numberAt_32 : decode cX0_numberAt 32 = .ok (.fload_n 2, 1) := dk_36 (dk_at dksX0_numberAt_1 8 rfl rfl)
theorem dX0_numberAt_33 : decode cX0_numberAt 33 = .ok (.f2i, 1) := dk_139 (dk_at dksX0_numberAt_1 9 rfl rfl)
theorem dX0_numberAt_34 : decode cX0_numberAt 34 = .ok (.ireturn, 1) := dk_172 (dk_at dksX0_numberAt_1 10 rfl rfl)
abbrev cX0_orNone : ByteArray := prog_1_method_2_code
def yX0_orNone : MethodName := ⟨RX0, "orNone", "(I)I"⟩
def dkwX0_orNone_0 : List UInt8 := [26, 156, 0, 8, 18, 3, 167, 0, 4, 26, 172]
abbrev dktX0_orNone_0 : List UInt8 := dkwX0_orNone_0 ++ []
theorem dksX0_orNone_0 : cX0_orNone.data.toList.drop 0 = dktX0_orNone_0 := by decide +kernel
theorem dX0_orNone_0 : decode cX0_orNone 0 = .ok (.iload_n 0, 1) := dk_26 (dk_at dksX0_orNone_0 0 rfl rfl)
theorem dX0_orNone_1 : decode cX0_orNone 1 = .ok (.ifCond .ge 8, 3) := dk_156 0 8 (dk_at dksX0_orNone_0 1 rfl rfl)
theorem dX0_orNone_4 : decode cX0_orNone 4 = .ok (.ldc 3, 2) := dk_18 3 (dk_at dksX0_orNone_0 4 rfl rfl)
theorem dX0_orNone_6 : decode cX0_orNone 6 = .ok (.goto 4, 3) := dk_167 0 4 (dk_at dksX0_orNone_0 6 rfl rfl)
theorem dX0_orNone_9 : decode cX0_orNone 9 = .ok (.iload_n 0, 1) := dk_26 (dk_at dksX0_orNone_0 9 rfl rfl)
theorem dX0_orNone_10 : decode cX0_orNone 10 = .ok (.ireturn, 1) := dk_172 (dk_at dksX0_orNone_0 10 rfl rfl)
abbrev cX0_fee : ByteArray := prog_1_method_39_code
def yX0_fee : MethodName := ⟨RX0, "fee", "()I"⟩
def dkwX0_fee_1 : List UInt8 := [180, 0, 211, 79, 42, 4, 42, 180, 0, 58, 180, 0, 220, 182, 1, 21, 172]
abbrev dktX0_fee_1 : List UInt8 := dkwX0_fee_1 ++ []
def dkwX0_fee_0 : List UInt8 := [42, 180, 0, 68, 16, 115, 42, 180, 0, 58, 180, 0, 220, 79, 42, 180, 0, 68, 16, 104, 42, 180, 0, 58]
abbrev dktX0_fee_0 : List UInt8 := dkwX0_fee_0 ++ dktX0_fee_1
theorem dksX0_fee_0 : cX0_fee.data.toList.drop 0 = dktX0_fee_0 := by decide +kernel
theorem dksX0_fee_1 : cX0_fee.data.toList.drop 24 = dktX0_fee_1 := dk_seg dksX0_fee_0 24 rfl rfl
theorem dX0_fee_0 : decode cX0_fee 0 = .ok (.aload_n 0, 1) := dk_42 (dk_at dksX0_fee_0 0 rfl rfl)
theorem dX0_fee_1 : decode cX0_fee 1 = .ok (.getfield 68, 3) := dk_180 0 68 (dk_at dksX0_fee_0 1 rfl rfl)
theorem dX0_fee_4 : decode cX0_fee 4 = .ok (.bipush 115, 2) := dk_16 115 (dk_at dksX0_fee_0 4 rfl rfl)
theorem dX0_fee_6 : decode cX0_fee 6 = .ok (.aload_n 0, 1) := dk_42 (dk_at dksX0_fee_0 6 rfl rfl)
theorem dX0_fee_7 : decode cX0_fee 7 = .ok (.getfield 58, 3) := dk_180 0 58 (dk_at dksX0_fee_0 7 rfl rfl)
theorem dX0_fee_10 : decode cX0_fee 10 = .ok (.getfield 220, 3) := dk_180 0 220 (dk_at dksX0_fee_0 10 rfl rfl)
theorem dX0_fee_13 : decode cX0_fee 13 = .ok (.iastore, 1) := dk_79 (dk_at dksX0_fee_0 13 rfl rfl)
theorem dX0_fee_14 : decode cX0_fee 14 = .ok (.aload_n 0, 1) := dk_42 (dk_at dksX0_fee_0 14 rfl rfl)
theorem dX0_fee_15 : decode cX0_fee 15 = .ok (.getfield 68, 3) := dk_180 0 68 (dk_at dksX0_fee_0 15 rfl rfl)
theorem dX0_fee_18 : decode cX0_fee 18 = .ok (.bipush 104, 2) := dk_16 104 (dk_at dksX0_fee_0 18 rfl rfl)
theorem dX0_fee_20 : decode cX0_fee 20 = .ok (.aload_n 0, 1) := dk_42 (dk_at dksX0_fee_0 20 rfl rfl)
theorem dX0_fee_21 : decode cX0_fee 21 = .ok (.getfield 58, 3) := dk_180 0 58 (dk_at dksX0_fee_0 21 rfl rfl)
theorem dX0_fee_24 : decode cX0_fee 24 = .ok (.getfield 211, 3) := dk_180 0 211 (dk_at dksX0_fee_1 0 rfl rfl)
theorem dX0_fee_27 : decode cX0_fee 27 = .ok (.iastore, 1) := dk_79 (dk_at dksX0_fee_1 3 rfl rfl)
theorem dX0_fee_28 : decode cX0_fee 28 = .ok (.aload_n 0, 1) := dk_42 (dk_at dksX0_fee_1 4 rfl rfl)
theorem dX0_fee_29 : decode cX0_fee 29 = .ok (.iconst 1, 1) := dk_4 (dk_at dksX0_fee_1 5 rfl rfl)
theorem dX0_fee_30 : decode cX0_fee 30 = .ok (.aload_n 0, 1) := dk_42 (dk_at dksX0_fee_1 6 rfl rfl)
theorem dX0_fee_31 : decode cX0_fee 31 = .ok (.getfield 58, 3) := dk_180 0 58 (dk_at dksX0_fee_1 7 rfl rfl)
theorem dX0_fee_34 : decode cX0_fee 34 = .ok (.getfield 220, 3) := dk_180 0 220 (dk_at dksX0_fee_1 10 rfl rfl)
theorem dX0_fee_37 : decode cX0_fee 37 = .ok (.invokevirtual 277, 3) := dk_182 1 21 (dk_at dksX0_fee_1 13 rfl rfl)
theorem dX0_fee_40 : decode cX0_fee 40 = .ok (.ireturn, 1) := dk_172 (dk_at dksX0_fee_1 16 rfl rfl)
abbrev cX0_fine : ByteArray := prog_1_method_40_code
def yX0_fine : MethodName := ⟨RX0, "fine", "(I)I"⟩
def dkwX0_fine_2 : List UInt8 := [16, 108, 28, 79, 42, 5, 42, 180, 0, 58, 180, 0, 121, 27, 50, 182, 0, 129, 182, 1, 21, 172]
abbrev dktX0_fine_2 : List UInt8 := dkwX0_fine_2 ++ []
def dkwX0_fine_1 : List UInt8 := [42, 180, 0, 68, 16, 119, 42, 180, 0, 58, 180, 0, 121, 27, 50, 182, 0, 129, 79, 42, 180, 0, 68]
abbrev dktX0_fine_1 : List UInt8 := dkwX0_fine_1 ++ dktX0_fine_2
def dkwX0_fine_0 : List UInt8 := [42, 27, 182, 0, 125, 154, 0, 6, 18, 109, 172, 42, 180, 0, 58, 180, 0, 121, 27, 50, 182, 0, 135, 61]
abbrev dktX0_fine_0 : List UInt8 := dkwX0_fine_0 ++ dktX0_fine_1
theorem dksX0_fine_0 : cX0_fine.data.toList.drop 0 = dktX0_fine_0 := by decide +kernel
theorem dksX0_fine_1 : cX0_fine.data.toList.drop 24 = dktX0_fine_1 := dk_seg dksX0_fine_0 24 rfl rfl
theorem dksX0_fine_2 : cX0_fine.data.toList.drop 47 = dktX0_fine_2 := dk_seg dksX0_fine_1 23 rfl rfl
theorem dX0_fine_0 : decode cX0_fine 0 = .ok (.aload_n 0, 1) := dk_42 (dk_at dksX0_fine_0 0 rfl rfl)
theorem dX0_fine_1 : decode cX0_fine 1 = .ok (.iload_n 1, 1) := dk_27 (dk_at dksX0_fine_0 1 rfl rfl)
theorem dX0_fine_2 : decode cX0_fine 2 = .ok (.invokevirtual 125, 3) := dk_182 0 125 (dk_at dksX0_fine_0 2 rfl rfl)
theorem dX0_fine_5 : decode cX0_fine 5 = .ok (.ifCond .ne 6, 3) := dk_154 0 6 (dk_at dksX0_fine_0 5 rfl rfl)
theorem dX0_fine_8 : decode cX0_fine 8 = .ok (.ldc 109, 2) := dk_18 109 (dk_at dksX0_fine_0 8 rfl rfl)
theorem dX0_fine_10 : decode cX0_fine 10 = .ok (.ireturn, 1) := dk_172 (dk_at dksX0_fine_0 10 rfl rfl)
theorem dX0_fine_11 : decode cX0_fine 11 = .ok (.aload_n 0, 1) := dk_42 (dk_at dksX0_fine_0 11 rfl rfl)
theorem dX0_fine_12 : decode cX0_fine 12 = .ok (.getfield 58, 3) := dk_180 0 58 (dk_at dksX0_fine_0 12 rfl rfl)
theorem dX0_fine_15 : decode cX0_fine 15 = .ok (.getfield 121, 3) := dk_180 0 121 (dk_at dksX0_fine_0 15 rfl rfl)
theorem dX0_fine_18 : decode cX0_fine 18 = .ok (.iload_n 1, 1) := dk_27 (dk_at dksX0_fine_0 18 rfl rfl)
theorem dX0_fine_19 : decode cX0_fine 19 = .ok (.aaload, 1) := dk_50 (dk_at dksX0_fine_0 19 rfl rfl)
theorem dX0_fine_20 : decode cX0_fine 20 = .ok (.invokevirtual 135, 3) := dk_182 0 135 (dk_at dksX0_fine_0 20 rfl rfl)
theorem dX0_fine_23 : decode cX0_fine 23 = .ok (.istore_n 2, 1) := dk_61 (dk_at dksX0_fine_0 23 rfl rfl)
theorem dX0_fine_24 : decode cX0_fine 24 = .ok (.aload_n 0, 1) := dk_42 (dk_at dksX0_fine_1 0 rfl rfl)
theorem dX0_fine_25 : decode cX0_fine 25 = .ok (.getfield 68, 3) := dk_180 0 68 (dk_at dksX0_fine_1 1 rfl rfl)
theorem dX0_fine_28 : decode cX0_fine 28 = .ok (.bipush 119, 2) := dk_16 119 (dk_at dksX0_fine_1 4 rfl rfl)
theorem dX0_fine_30 : decode cX0_fine 30 = .ok (.aload_n 0, 1) := dk_42 (dk_at dksX0_fine_1 6 rfl rfl)
theorem dX0_fine_31 : decode cX0_fine 31 = .ok (.getfield 58, 3) := dk_180 0 58 (dk_at dksX0_fine_1 7 rfl rfl)
theorem dX0_fine_34 : decode cX0_fine 34 = .ok (.getfield 121, 3) := dk_180 0 121 (dk_at dksX0_fine_1 10 rfl rfl)
theorem dX0_fine_37 : decode cX0_fine 37 = .ok (.iload_n 1, 1) := dk_27 (dk_at dksX0_fine_1 13 rfl rfl)
theorem dX0_fine_38 : decode cX0_fine 38 = .ok (.aaload, 1) := dk_50 (dk_at dksX0_fine_1 14 rfl rfl)
theorem dX0_fine_39 : decode cX0_fine 39 = .ok (.invokevirtual 129, 3) := dk_182 0 129 (dk_at dksX0_fine_1 15 rfl rfl)
theorem dX0_fine_42 : decode cX0_fine 42 = .ok (.iastore, 1) := dk_79 (dk_at dksX0_fine_1 18 rfl rfl)
theorem dX0_fine_43 : decode cX0_fine 43 = .ok (.aload_n 0, 1) := dk_42 (dk_at dksX0_fine_1 19 rfl rfl)
theorem dX0_fine_44 : decode cX0_fine 44 = .ok (.getfield 68, 3) := dk_180 0 68 (dk_at dksX0_fine_1 20 rfl rfl)
theorem dX0_fine_47 : decode cX0_fine 47 = .ok (.bipush 108, 2) := dk_16 108 (dk_at dksX0_fine_2 0 rfl rfl)
theorem dX0_fine_49 : decode cX0_fine 49 = .ok (.iload_n 2, 1) := dk_28 (dk_at dksX0_fine_2 2 rfl rfl)
theorem dX0_fine_50 : decode cX0_fine 50 = .ok (.iastore, 1) := dk_79 (dk_at dksX0_fine_2 3 rfl rfl)
theorem dX0_fine_51 : decode cX0_fine 51 = .ok (.aload_n 0, 1) := dk_42 (dk_at dksX0_fine_2 4 rfl rfl)
theorem dX0_fine_52 : decode cX0_fine 52 = .ok (.iconst 2, 1) := dk_5 (dk_at dksX0_fine_2 5 rfl rfl)
theorem dX0_fine_53 : decode cX0_fine 53 = .ok (.aload_n 0, 1) := dk_42 (dk_at dksX0_fine_2 6 rfl rfl)
theorem dX0_fine_54 : decode cX0_fine 54 = .ok (.getfield 58, 3) := dk_180 0 58 (dk_at dksX0_fine_2 7 rfl rfl)
theorem dX0_fine_57 : decode cX0_fine 57 = .ok (.getfield 121, 3) := dk_180 0 121 (dk_at dksX0_fine_2 10 rfl rfl)
theorem dX0_fine_60 : decode cX0_fine 60 = .ok (.iload_n 1, 1) := dk_27 (dk_at dksX0_fine_2 13 rfl rfl)
theorem dX0_fine_61 : decode cX0_fine 61 = .ok (.aaload, 1) := dk_50 (dk_at dksX0_fine_2 14 rfl rfl)
theorem dX0_fine_62 : decode cX0_fine 62 = .ok (.invokevirtual 129, 3) := dk_182 0 129 (dk_at dksX0_fine_2 15 rfl rfl)
theorem dX0_fine_65 : decode cX0_fine 65 = .ok (.invokevirtual 277, 3) := dk_182 1 21 (dk_at dksX0_fine_2 18 rfl rfl)
theorem dX0_fine_68 : decode cX0_fine 68 = .ok (.ireturn, 1) := dk_172 (dk_at dksX0_fine_2 21 rfl rfl)
abbrev cX0_feed : ByteArray := prog_1_method_56_code
def yX0_feed : MethodName := ⟨RX0, "feed", "(III)I"⟩
def dkwX0_feed_4 : List UInt8 := [180, 1, 24, 172]
abbrev dktX0_feed_4 : List UInt8 := dkwX0_feed_4 ++ []
def dkwX0_feed_3 : List UInt8 := [104, 100, 122, 145, 84, 132, 4, 1, 167, 255, 196, 42, 89, 180, 1, 24, 16, 12, 96, 181, 1, 24, 42]
abbrev dktX0_feed_3 : List UInt8 := dkwX0_feed_3 ++ dktX0_feed_4
def dkwX0_feed_2 : List UInt8 := [29, 54, 5, 42, 180, 0, 71, 42, 180, 1, 24, 21, 4, 96, 21, 5, 16, 24, 16, 8, 21, 4, 7, 112]
abbrev dktX0_feed_2 : List UInt8 := dkwX0_feed_2 ++ dktX0_feed_3
def dkwX0_feed_1 : List UInt8 := [162, 0, 59, 21, 4, 7, 162, 0, 7, 27, 167, 0, 15, 21, 4, 16, 8, 162, 0, 7, 28, 167, 0, 4]
abbrev dktX0_feed_1 : List UInt8 := dkwX0_feed_1 ++ dktX0_feed_2
def dkwX0_feed_0 : List UInt8 := [42, 180, 1, 24, 16, 12, 96, 16, 96, 164, 0, 6, 18, 110, 172, 3, 54, 4, 21, 4, 16, 12]
abbrev dktX0_feed_0 : List UInt8 := dkwX0_feed_0 ++ dktX0_feed_1
theorem dksX0_feed_0 : cX0_feed.data.toList.drop 0 = dktX0_feed_0 := by decide +kernel
theorem dksX0_feed_1 : cX0_feed.data.toList.drop 22 = dktX0_feed_1 := dk_seg dksX0_feed_0 22 rfl rfl
theorem dksX0_feed_2 : cX0_feed.data.toList.drop 46 = dktX0_feed_2 := dk_seg dksX0_feed_1 24 rfl rfl
theorem dksX0_feed_3 : cX0_feed.data.toList.drop 70 = dktX0_feed_3 := dk_seg dksX0_feed_2 24 rfl rfl
theorem dksX0_feed_4 : cX0_feed.data.toList.drop 93 = dktX0_feed_4 := dk_seg dksX0_feed_3 23 rfl rfl
theorem dX0_feed_0 : decode cX0_feed 0 = .ok (.aload_n 0, 1) := dk_42 (dk_at dksX0_feed_0 0 rfl rfl)
theorem dX0_feed_1 : decode cX0_feed 1 = .ok (.getfield 280, 3) := dk_180 1 24 (dk_at dksX0_feed_0 1 rfl rfl)
theorem dX0_feed_4 : decode cX0_feed 4 = .ok (.bipush 12, 2) := dk_16 12 (dk_at dksX0_feed_0 4 rfl rfl)
theorem dX0_feed_6 : decode cX0_feed 6 = .ok (.iadd, 1) := dk_96 (dk_at dksX0_feed_0 6 rfl rfl)
theorem dX0_feed_7 : decode cX0_feed 7 = .ok (.bipush 96, 2) := dk_16 96 (dk_at dksX0_feed_0 7 rfl rfl)
theorem dX0_feed_9 : decode cX0_feed 9 = .ok (.if_icmp .le 6, 3) := dk_164 0 6 (dk_at dksX0_feed_0 9 rfl rfl)
theorem dX0_feed_12 : decode cX0_feed 12 = .ok (.ldc 110, 2) := dk_18 110 (dk_at dksX0_feed_0 12 rfl rfl)
theorem dX0_feed_14 : decode cX0_feed 14 = .ok (.ireturn, 1) := dk_172 (dk_at dksX0_feed_0 14 rfl rfl)
theorem dX0_feed_15 : decode cX0_feed 15 = .ok (.iconst 0, 1) := dk_3 (dk_at dksX0_feed_0 15 rfl rfl)
theorem dX0_feed_16 : decode cX0_feed 16 = .ok (.istore 4, 2) := dk_54 4 (dk_at dksX0_feed_0 16 rfl rfl)
theorem dX0_feed_18 : decode cX0_feed 18 = .ok (.iload 4, 2) := dk_21 4 (dk_at dksX0_feed_0 18 rfl rfl)
theorem dX0_feed_20 : decode cX0_feed 20 = .ok (.bipush 12, 2) := dk_16 12 (dk_at dksX0_feed_0 20 rfl rfl)
theorem dX0_feed_22 : decode cX0_feed 22 = .ok (.if_icmp .ge 59, 3) := dk_162 0 59 (dk_at dksX0_feed_1 0 rfl rfl)
theorem dX0_feed_25 : decode cX0_feed 25 = .ok (.iload 4, 2) := dk_21 4 (dk_at dksX0_feed_1 3 rfl rfl)
theorem dX0_feed_27 : decode cX0_feed 27 = .ok (.iconst 4, 1) := dk_7 (dk_at dksX0_feed_1 5 rfl rfl)
theorem dX0_feed_28 : decode cX0_feed 28 = .ok (.if_icmp .ge 7, 3) := dk_162 0 7 (dk_at dksX0_feed_1 6 rfl rfl)
theorem dX0_feed_31 : decode cX0_feed 31 = .ok (.iload_n 1, 1) := dk_27 (dk_at dksX0_feed_1 9 rfl rfl)
theorem dX0_feed_32 : decode cX0_feed 32 = .ok (.goto 15, 3) := dk_167 0 15 (dk_at dksX0_feed_1 10 rfl rfl)
theorem dX0_feed_35 : decode cX0_feed 35 = .ok (.iload 4, 2) := dk_21 4 (dk_at dksX0_feed_1 13 rfl rfl)
theorem dX0_feed_37 : decode cX0_feed 37 = .ok (.bipush 8, 2) := dk_16 8 (dk_at dksX0_feed_1 15 rfl rfl)
theorem dX0_feed_39 : decode cX0_feed 39 = .ok (.if_icmp .ge 7, 3) := dk_162 0 7 (dk_at dksX0_feed_1 17 rfl rfl)
theorem dX0_feed_42 : decode cX0_feed 42 = .ok (.iload_n 2, 1) := dk_28 (dk_at dksX0_feed_1 20 rfl rfl)
theorem dX0_feed_43 : decode cX0_feed 43 = .ok (.goto 4, 3) := dk_167 0 4 (dk_at dksX0_feed_1 21 rfl rfl)
theorem dX0_feed_46 : decode cX0_feed 46 = .ok (.iload_n 3, 1) := dk_29 (dk_at dksX0_feed_2 0 rfl rfl)
theorem dX0_feed_47 : decode cX0_feed 47 = .ok (.istore 5, 2) := dk_54 5 (dk_at dksX0_feed_2 1 rfl rfl)
theorem dX0_feed_49 : decode cX0_feed 49 = .ok (.aload_n 0, 1) := dk_42 (dk_at dksX0_feed_2 3 rfl rfl)
theorem dX0_feed_50 : decode cX0_feed 50 = .ok (.getfield 71, 3) := dk_180 0 71 (dk_at dksX0_feed_2 4 rfl rfl)
theorem dX0_feed_53 : decode cX0_feed 53 = .ok (.aload_n 0, 1) := dk_42 (dk_at dksX0_feed_2 7 rfl rfl)
theorem dX0_feed_54 : decode cX0_feed 54 = .ok (.getfield 280, 3) := dk_180 1 24 (dk_at dksX0_feed_2 8 rfl rfl)
theorem dX0_feed_57 : decode cX0_feed 57 = .ok (.iload 4, 2) := dk_21 4 (dk_at dksX0_feed_2 11 rfl rfl)
theorem dX0_feed_59 : decode cX0_feed 59 = .ok (.iadd, 1) := dk_96 (dk_at dksX0_feed_2 13 rfl rfl)
theorem dX0_feed_60 : decode cX0_feed 60 = .ok (.iload 5, 2) := dk_21 5 (dk_at dksX0_feed_2 14 rfl rfl)
theorem dX0_feed_62 : decode cX0_feed 62 = .ok (.bipush 24, 2) := dk_16 24 (dk_at dksX0_feed_2 16 rfl rfl)
theorem dX0_feed_64 : decode cX0_feed 64 = .ok (.bipush 8, 2) := dk_16 8 (dk_at dksX0_feed_2 18 rfl rfl)
theorem dX0_feed_66 : decode cX0_feed 66 = .ok (.iload 4, 2) := dk_21 4 (dk_at dksX0_feed_2 20 rfl rfl)
theorem dX0_feed_68 : decode cX0_feed 68 = .ok (.iconst 4, 1) := dk_7 (dk_at dksX0_feed_2 22 rfl rfl)
theorem dX0_feed_69 : decode cX0_feed 69 = .ok (.irem, 1) := dk_112 (dk_at dksX0_feed_2 23 rfl rfl)
theorem dX0_feed_70 : decode cX0_feed 70 = .ok (.imul, 1) := dk_104 (dk_at dksX0_feed_3 0 rfl rfl)
theorem dX0_feed_71 : decode cX0_feed 71 = .ok (.isub, 1) := dk_100 (dk_at dksX0_feed_3 1 rfl rfl)
theorem dX0_feed_72 : decode cX0_feed 72 = .ok (.ishr, 1) := dk_122 (dk_at dksX0_feed_3 2 rfl rfl)
theorem dX0_feed_73 : decode cX0_feed 73 = .ok (.i2b, 1) := dk_145 (dk_at dksX0_feed_3 3 rfl rfl)
theorem dX0_feed_74 : decode cX0_feed 74 = .ok (.bastore, 1) := dk_84 (dk_at dksX0_feed_3 4 rfl rfl)
theorem dX0_feed_75 : decode cX0_feed 75 = .ok (.iinc 4 1, 3) := dk_132 4 1 (dk_at dksX0_feed_3 5 rfl rfl)
theorem dX0_feed_78 : decode cX0_feed 78 = .ok (.goto (-60), 3) := dk_167 255 196 (dk_at dksX0_feed_3 8 rfl rfl)
theorem dX0_feed_81 : decode cX0_feed 81 = .ok (.aload_n 0, 1) := dk_42 (dk_at dksX0_feed_3 11 rfl rfl)
theorem dX0_feed_82 : decode cX0_feed 82 = .ok (.dup, 1) := dk_89 (dk_at dksX0_feed_3 12 rfl rfl)
theorem dX0_feed_83 : decode cX0_feed 83 = .ok (.getfield 280, 3) := dk_180 1 24 (dk_at dksX0_feed_3 13 rfl rfl)
theorem dX0_feed_86 : decode cX0_feed 86 = .ok (.bipush 12, 2) := dk_16 12 (dk_at dksX0_feed_3 16 rfl rfl)
theorem dX0_feed_88 : decode cX0_feed 88 = .ok (.iadd, 1) := dk_96 (dk_at dksX0_feed_3 18 rfl rfl)
theorem dX0_feed_89 : decode cX0_feed 89 = .ok (.putfield 280, 3) := dk_181 1 24 (dk_at dksX0_feed_3 19 rfl rfl)
theorem dX0_feed_92 : decode cX0_feed 92 = .ok (.aload_n 0, 1) := dk_42 (dk_at dksX0_feed_3 22 rfl rfl)
theorem dX0_feed_93 : decode cX0_feed 93 = .ok (.getfield 280, 3) := dk_180 1 24 (dk_at dksX0_feed_4 0 rfl rfl)
theorem dX0_feed_96 : decode cX0_feed 96 = .ok (.ireturn, 1) := dk_172 (dk_at dksX0_feed_4 3 rfl rfl)
abbrev cX0_trim : ByteArray := prog_1_method_57_code
def yX0_trim : MethodName := ⟨RX0, "trim", "(I)I"⟩
def dkwX0_trim_0 : List UInt8 := [27, 133, 9, 42, 180, 1, 24, 133, 184, 0, 96, 154, 0, 6, 18, 109, 172, 42, 27, 181, 1, 24, 27, 172]
abbrev dktX0_trim_0 : List UInt8 := dkwX0_trim_0 ++ []
theorem dksX0_trim_0 : cX0_trim.data.toList.drop 0 = dktX0_trim_0 := by decide +kernel
theorem dX0_trim_0 : decode cX0_trim 0 = .ok (.iload_n 1, 1) := dk_27 (dk_at dksX0_trim_0 0 rfl rfl)
theorem dX0_trim_1 : decode cX0_trim 1 = .ok (.i2l, 1) := dk_133 (dk_at dksX0_trim_0 1 rfl rfl)
theorem dX0_trim_2 : decode cX0_trim 2 = .ok (.lconst 0, 1) := dk_9 (dk_at dksX0_trim_0 2 rfl rfl)
theorem dX0_trim_3 : decode cX0_trim 3 = .ok (.aload_n 0, 1) := dk_42 (dk_at dksX0_trim_0 3 rfl rfl)
theorem dX0_trim_4 : decode cX0_trim 4 = .ok (.getfield 280, 3) := dk_180 1 24 (dk_at dksX0_trim_0 4 rfl rfl)
theorem dX0_trim_7 : decode cX0_trim 7 = .ok (.i2l, 1) := dk_133 (dk_at dksX0_trim_0 7 rfl rfl)
theorem dX0_trim_8 : decode cX0_trim 8 = .ok (.invokestatic 96, 3) := dk_184 0 96 (dk_at dksX0_trim_0 8 rfl rfl)
theorem dX0_trim_11 : decode cX0_trim 11 = .ok (.ifCond .ne 6, 3) := dk_154 0 6 (dk_at dksX0_trim_0 11 rfl rfl)
theorem dX0_trim_14 : decode cX0_trim 14 = .ok (.ldc 109, 2) := dk_18 109 (dk_at dksX0_trim_0 14 rfl rfl)
theorem dX0_trim_16 : decode cX0_trim 16 = .ok (.ireturn, 1) := dk_172 (dk_at dksX0_trim_0 16 rfl rfl)
theorem dX0_trim_17 : decode cX0_trim 17 = .ok (.aload_n 0, 1) := dk_42 (dk_at dksX0_trim_0 17 rfl rfl)
theorem dX0_trim_18 : decode cX0_trim 18 = .ok (.iload_n 1, 1) := dk_27 (dk_at dksX0_trim_0 18 rfl rfl)
theorem dX0_trim_19 : decode cX0_trim 19 = .ok (.putfield 280, 3) := dk_181 1 24 (dk_at dksX0_trim_0 19 rfl rfl)
theorem dX0_trim_22 : decode cX0_trim 22 = .ok (.iload_n 1, 1) := dk_27 (dk_at dksX0_trim_0 22 rfl rfl)
theorem dX0_trim_23 : decode cX0_trim 23 = .ok (.ireturn, 1) := dk_172 (dk_at dksX0_trim_0 23 rfl rfl)
abbrev cX0_text : ByteArray := prog_1_method_58_code
def yX0_text : MethodName := ⟨RX0, "text", "()I"⟩
def dkwX0_text_4 : List UInt8 := [181, 1, 24, 45, 191]
abbrev dktX0_text_4 : List UInt8 := dkwX0_text_4 ++ []
def dkwX0_text_3 : List UInt8 := [181, 1, 24, 28, 172, 76, 16, 156, 43, 180, 1, 149, 100, 61, 42, 3, 181, 1, 24, 28, 172, 78, 42, 3]
abbrev dktX0_text_3 : List UInt8 := dkwX0_text_3 ++ dktX0_text_4
def dkwX0_text_2 : List UInt8 := [180, 0, 58, 89, 180, 1, 142, 4, 96, 181, 1, 142, 42, 180, 0, 58, 180, 1, 142, 4, 100, 61, 42, 3]
abbrev dktX0_text_2 : List UInt8 := dkwX0_text_2 ++ dktX0_text_3
def dkwX0_text_1 : List UInt8 := [181, 1, 24, 28, 172, 42, 180, 0, 58, 180, 1, 145, 42, 180, 0, 58, 180, 1, 142, 43, 83, 42]
abbrev dktX0_text_1 : List UInt8 := dkwX0_text_1 ++ dktX0_text_2
def dkwX0_text_0 : List UInt8 := [42, 182, 1, 138, 76, 42, 180, 0, 58, 180, 1, 142, 16, 14, 160, 0, 13, 18, 110, 61, 42, 3]
abbrev dktX0_text_0 : List UInt8 := dkwX0_text_0 ++ dktX0_text_1
theorem dksX0_text_0 : cX0_text.data.toList.drop 0 = dktX0_text_0 := by decide +kernel
theorem dksX0_text_1 : cX0_text.data.toList.drop 22 = dktX0_text_1 := dk_seg dksX0_text_0 22 rfl rfl
theorem dksX0_text_2 : cX0_text.data.toList.drop 44 = dktX0_text_2 := dk_seg dksX0_text_1 22 rfl rfl
theorem dksX0_text_3 : cX0_text.data.toList.drop 68 = dktX0_text_3 := dk_seg dksX0_text_2 24 rfl rfl
theorem dksX0_text_4 : cX0_text.data.toList.drop 92 = dktX0_text_4 := dk_seg dksX0_text_3 24 rfl rfl
theorem dX0_text_0 : decode cX0_text 0 = .ok (.aload_n 0, 1) := dk_42 (dk_at dksX0_text_0 0 rfl rfl)
theorem dX0_text_1 : decode cX0_text 1 = .ok (.invokevirtual 394, 3) := dk_182 1 138 (dk_at dksX0_text_0 1 rfl rfl)
theorem dX0_text_4 : decode cX0_text 4 = .ok (.astore_n 1, 1) := dk_76 (dk_at dksX0_text_0 4 rfl rfl)
theorem dX0_text_5 : decode cX0_text 5 = .ok (.aload_n 0, 1) := dk_42 (dk_at dksX0_text_0 5 rfl rfl)
theorem dX0_text_6 : decode cX0_text 6 = .ok (.getfield 58, 3) := dk_180 0 58 (dk_at dksX0_text_0 6 rfl rfl)
theorem dX0_text_9 : decode cX0_text 9 = .ok (.getfield 398, 3) := dk_180 1 142 (dk_at dksX0_text_0 9 rfl rfl)
theorem dX0_text_12 : decode cX0_text 12 = .ok (.bipush 14, 2) := dk_16 14 (dk_at dksX0_text_0 12 rfl rfl)
theorem dX0_text_14 : decode cX0_text 14 = .ok (.if_icmp .ne 13, 3) := dk_160 0 13 (dk_at dksX0_text_0 14 rfl rfl)
theorem dX0_text_17 : decode cX0_text 17 = .ok (.ldc 110, 2) := dk_18 110 (dk_at dksX0_text_0 17 rfl rfl)
theorem dX0_text_19 : decode cX0_text 19 = .ok (.istore_n 2, 1) := dk_61 (dk_at dksX0_text_0 19 rfl rfl)
theorem dX0_text_20 : decode cX0_text 20 = .ok (.aload_n 0, 1) := dk_42 (dk_at dksX0_text_0 20 rfl rfl)
theorem dX0_text_21 : decode cX0_text 21 = .ok (.iconst 0, 1) := dk_3 (dk_at dksX0_text_0 21 rfl rfl)
theorem dX0_text_22 : decode cX0_text 22 = .ok (.putfield 280, 3) := dk_181 1 24 (dk_at dksX0_text_1 0 rfl rfl)
theorem dX0_text_25 : decode cX0_text 25 = .ok (.iload_n 2, 1) := dk_28 (dk_at dksX0_text_1 3 rfl rfl)
theorem dX0_text_26 : decode cX0_text 26 = .ok (.ireturn, 1) := dk_172 (dk_at dksX0_text_1 4 rfl rfl)
theorem dX0_text_27 : decode cX0_text 27 = .ok (.aload_n 0, 1) := dk_42 (dk_at dksX0_text_1 5 rfl rfl)
theorem dX0_text_28 : decode cX0_text 28 = .ok (.getfield 58, 3) := dk_180 0 58 (dk_at dksX0_text_1 6 rfl rfl)
theorem dX0_text_31 : decode cX0_text 31 = .ok (.getfield 401, 3) := dk_180 1 145 (dk_at dksX0_text_1 9 rfl rfl)
theorem dX0_text_34 : decode cX0_text 34 = .ok (.aload_n 0, 1) := dk_42 (dk_at dksX0_text_1 12 rfl rfl)
theorem dX0_text_35 : decode cX0_text 35 = .ok (.getfield 58, 3) := dk_180 0 58 (dk_at dksX0_text_1 13 rfl rfl)
theorem dX0_text_38 : decode cX0_text 38 = .ok (.getfield 398, 3) := dk_180 1 142 (dk_at dksX0_text_1 16 rfl rfl)
theorem dX0_text_41 : decode cX0_text 41 = .ok (.aload_n 1, 1) := dk_43 (dk_at dksX0_text_1 19 rfl rfl)
theorem dX0_text_42 : decode cX0_text 42 = .ok (.aastore, 1) := dk_83 (dk_at dksX0_text_1 20 rfl rfl)
theorem dX0_text_43 : decode cX0_text 43 = .ok (.aload_n 0, 1) := dk_42 (dk_at dksX0_text_1 21 rfl rfl)
theorem dX0_text_44 : decode cX0_text 44 = .ok (.getfield 58, 3) := dk_180 0 58 (dk_at dksX0_text_2 0 rfl rfl)
theorem dX0_text_47 : decode cX0_text 47 = .ok (.dup, 1) := dk_89 (dk_at dksX0_text_2 3 rfl rfl)
theorem dX0_text_48 : decode cX0_text 48 = .ok (.getfield 398, 3) := dk_180 1 142 (dk_at dksX0_text_2 4 rfl rfl)
theorem dX0_text_51 : decode cX0_text 51 = .ok (.iconst 1, 1) := dk_4 (dk_at dksX0_text_2 7 rfl rfl)
theorem dX0_text_52 : decode cX0_text 52 = .ok (.iadd, 1) := dk_96 (dk_at dksX0_text_2 8 rfl rfl)
theorem dX0_text_53 : decode cX0_text 53 = .ok (.putfield 398, 3) := dk_181 1 142 (dk_at dksX0_text_2 9 rfl rfl)
theorem dX0_text_56 : decode cX0_text 56 = .ok (.aload_n 0, 1) := dk_42 (dk_at dksX0_text_2 12 rfl rfl)
theorem dX0_text_57 : decode cX0_text 57 = .ok (.getfield 58, 3) := dk_180 0 58 (dk_at dksX0_text_2 13 rfl rfl)
theorem dX0_text_60 : decode cX0_text 60 = .ok (.getfield 398, 3) := dk_180 1 142 (dk_at dksX0_text_2 16 rfl rfl)
theorem dX0_text_63 : decode cX0_text 63 = .ok (.iconst 1, 1) := dk_4 (dk_at dksX0_text_2 19 rfl rfl)
theorem dX0_text_64 : decode cX0_text 64 = .ok (.isub, 1) := dk_100 (dk_at dksX0_text_2 20 rfl rfl)
theorem dX0_text_65 : decode cX0_text 65 = .ok (.istore_n 2, 1) := dk_61 (dk_at dksX0_text_2 21 rfl rfl)
theorem dX0_text_66 : decode cX0_text 66 = .ok (.aload_n 0, 1) := dk_42 (dk_at dksX0_text_2 22 rfl rfl)
theorem dX0_text_67 : decode cX0_text 67 = .ok (.iconst 0, 1) := dk_3 (dk_at dksX0_text_2 23 rfl rfl)
theorem dX0_text_68 : decode cX0_text 68 = .ok (.putfield 280, 3) := dk_181 1 24 (dk_at dksX0_text_3 0 rfl rfl)
theorem dX0_text_71 : decode cX0_text 71 = .ok (.iload_n 2, 1) := dk_28 (dk_at dksX0_text_3 3 rfl rfl)
theorem dX0_text_72 : decode cX0_text 72 = .ok (.ireturn, 1) := dk_172 (dk_at dksX0_text_3 4 rfl rfl)
theorem dX0_text_73 : decode cX0_text 73 = .ok (.astore_n 1, 1) := dk_76 (dk_at dksX0_text_3 5 rfl rfl)
theorem dX0_text_74 : decode cX0_text 74 = .ok (.bipush (-100), 2) := dk_16 156 (dk_at dksX0_text_3 6 rfl rfl)
theorem dX0_text_76 : decode cX0_text 76 = .ok (.aload_n 1, 1) := dk_43 (dk_at dksX0_text_3 8 rfl rfl)
theorem dX0_text_77 : decode cX0_text 77 = .ok (.getfield 405, 3) := dk_180 1 149 (dk_at dksX0_text_3 9 rfl rfl)
theorem dX0_text_80 : decode cX0_text 80 = .ok (.isub, 1) := dk_100 (dk_at dksX0_text_3 12 rfl rfl)
theorem dX0_text_81 : decode cX0_text 81 = .ok (.istore_n 2, 1) := dk_61 (dk_at dksX0_text_3 13 rfl rfl)
theorem dX0_text_82 : decode cX0_text 82 = .ok (.aload_n 0, 1) := dk_42 (dk_at dksX0_text_3 14 rfl rfl)
theorem dX0_text_83 : decode cX0_text 83 = .ok (.iconst 0, 1) := dk_3 (dk_at dksX0_text_3 15 rfl rfl)
theorem dX0_text_84 : decode cX0_text 84 = .ok (.putfield 280, 3) := dk_181 1 24 (dk_at dksX0_text_3 16 rfl rfl)
theorem dX0_text_87 : decode cX0_text 87 = .ok (.iload_n 2, 1) := dk_28 (dk_at dksX0_text_3 19 rfl rfl)
theorem dX0_text_88 : decode cX0_text 88 = .ok (.ireturn, 1) := dk_172 (dk_at dksX0_text_3 20 rfl rfl)
theorem dX0_text_89 : decode cX0_text 89 = .ok (.astore_n 3, 1) := dk_78 (dk_at dksX0_text_3 21 rfl rfl)
theorem dX0_text_90 : decode cX0_text 90 = .ok (.aload_n 0, 1) := dk_42 (dk_at dksX0_text_3 22 rfl rfl)
theorem dX0_text_91 : decode cX0_text 91 = .ok (.iconst 0, 1) := dk_3 (dk_at dksX0_text_3 23 rfl rfl)
theorem dX0_text_92 : decode cX0_text 92 = .ok (.putfield 280, 3) := dk_181 1 24 (dk_at dksX0_text_4 0 rfl rfl)
theorem dX0_text_95 : decode cX0_text 95 = .ok (.aload_n 3, 1) := dk_45 (dk_at dksX0_text_4 3 rfl rfl)
theorem dX0_text_96 : decode cX0_text 96 = .ok (.athrow, 1) := dk_191 (dk_at dksX0_text_4 4 rfl rfl)
abbrev cX0_readText : ByteArray := prog_1_method_55_code
def yX0_readText : MethodName := ⟨RX0, "readText", "()LLevelCellars$Text;"⟩
def dkwX0_readText_5 : List UInt8 := [187, 1, 133, 89, 42, 180, 1, 88, 42, 180, 1, 95, 43, 183, 1, 135, 176]
abbrev dktX0_readText_5 : List UInt8 := dkwX0_readText_5 ++ []
def dkwX0_readText_4 : List UInt8 := [182, 1, 69, 42, 182, 1, 121, 76, 42, 42, 180, 1, 27, 154, 0, 7, 4, 167, 0, 4, 3, 182, 1, 109]
abbrev dktX0_readText_4 : List UInt8 := dkwX0_readText_4 ++ dktX0_readText_5
def dkwX0_readText_3 : List UInt8 := [167, 0, 4, 2, 181, 1, 88, 42, 42, 180, 1, 88, 155, 0, 7, 4, 167, 0, 4, 3, 182, 1, 109, 42]
abbrev dktX0_readText_3 : List UInt8 := dkwX0_readText_3 ++ dktX0_readText_4
def dkwX0_readText_2 : List UInt8 := [19, 1, 129, 182, 1, 125, 153, 0, 7, 4, 167, 0, 18, 42, 19, 1, 131, 182, 1, 125, 153, 0, 7, 5]
abbrev dktX0_readText_2 : List UInt8 := dkwX0_readText_2 ++ dktX0_readText_3
def dkwX0_readText_1 : List UInt8 := [181, 1, 95, 42, 182, 1, 69, 42, 42, 19, 1, 124, 182, 1, 125, 153, 0, 7, 3, 167, 0, 32, 42]
abbrev dktX0_readText_1 : List UInt8 := dkwX0_readText_1 ++ dktX0_readText_2
def dkwX0_readText_0 : List UInt8 := [42, 3, 181, 1, 27, 42, 3, 181, 1, 30, 42, 3, 181, 1, 118, 42, 3, 181, 1, 106, 42, 3]
abbrev dktX0_readText_0 : List UInt8 := dkwX0_readText_0 ++ dktX0_readText_1
theorem dksX0_readText_0 : cX0_readText.data.toList.drop 0 = dktX0_readText_0 := by decide +kernel
theorem dksX0_readText_1 : cX0_readText.data.toList.drop 22 = dktX0_readText_1 := dk_seg dksX0_readText_0 22 rfl rfl
theorem dksX0_readText_2 : cX0_readText.data.toList.drop 45 = dktX0_readText_2 := dk_seg dksX0_readText_1 23 rfl rfl
theorem dksX0_readText_3 : cX0_readText.data.toList.drop 69 = dktX0_readText_3 := dk_seg dksX0_readText_2 24 rfl rfl
theorem dksX0_readText_4 : cX0_readText.data.toList.drop 93 = dktX0_readText_4 := dk_seg dksX0_readText_3 24 rfl rfl
theorem dksX0_readText_5 : cX0_readText.data.toList.drop 117 = dktX0_readText_5 := dk_seg dksX0_readText_4 24 rfl rfl
theorem dX0_readText_0 : decode cX0_readText 0 = .ok (.aload_n 0, 1) := dk_42 (dk_at dksX0_readText_0 0 rfl rfl)
theorem dX0_readText_1 : decode cX0_readText 1 = .ok (.iconst 0, 1) := dk_3 (dk_at dksX0_readText_0 1 rfl rfl)
theorem dX0_readText_2 : decode cX0_readText 2 = .ok (.putfield 283, 3) := dk_181 1 27 (dk_at dksX0_readText_0 2 rfl rfl)
theorem dX0_readText_5 : decode cX0_readText 5 = .ok (.aload_n 0, 1) := dk_42 (dk_at dksX0_readText_0 5 rfl rfl)
theorem dX0_readText_6 : decode cX0_readText 6 = .ok (.iconst 0, 1) := dk_3 (dk_at dksX0_readText_0 6 rfl rfl)
theorem dX0_readText_7 : decode cX0_readText 7 = .ok (.putfield 286, 3) := dk_181 1 30 (dk_at dksX0_readText_0 7 rfl rfl)
theorem dX0_readText_10 : decode cX0_readText 10 = .ok (.aload_n 0, 1) := dk_42 (dk_at dksX0_readText_0 10 rfl rfl)
theorem dX0_readText_11 : decode cX0_readText 11 = .ok (.iconst 0, 1) := dk_3 (dk_at dksX0_readText_0 11 rfl rfl)
theorem dX0_readText_12 : decode cX0_readText 12 = .ok (.putfield 374, 3) := dk_181 1 118 (dk_at dksX0_readText_0 12 rfl rfl)
theorem dX0_readText_15 : decode cX0_readText 15 = .ok (.aload_n 0, 1) := dk_42 (dk_at dksX0_readText_0 15 rfl rfl)
theorem dX0_readText_16 : decode cX0_readText 16 = .ok (.iconst 0, 1) := dk_3 (dk_at dksX0_readText_0 16 rfl rfl)
theorem dX0_readText_17 : decode cX0_readText 17 = .ok (.putfield 362, 3) := dk_181 1 106 (dk_at dksX0_readText_0 17 rfl rfl)
theorem dX0_readText_20 : decode cX0_readText 20 = .ok (.aload_n 0, 1) := dk_42 (dk_at dksX0_readText_0 20 rfl rfl)
theorem dX0_readText_21 : decode cX0_readText 21 = .ok (.iconst 0, 1) := dk_3 (dk_at dksX0_readText_0 21 rfl rfl)
theorem dX0_readText_22 : decode cX0_readText 22 = .ok (.putfield 351, 3) := dk_181 1 95 (dk_at dksX0_readText_1 0 rfl rfl)
theorem dX0_readText_25 : decode cX0_readText 25 = .ok (.aload_n 0, 1) := dk_42 (dk_at dksX0_readText_1 3 rfl rfl)
theorem dX0_readText_26 : decode cX0_readText 26 = .ok (.invokevirtual 325, 3) := dk_182 1 69 (dk_at dksX0_readText_1 4 rfl rfl)
theorem dX0_readText_29 : decode cX0_readText 29 = .ok (.aload_n 0, 1) := dk_42 (dk_at dksX0_readText_1 7 rfl rfl)
theorem dX0_readText_30 : decode cX0_readText 30 = .ok (.aload_n 0, 1) := dk_42 (dk_at dksX0_readText_1 8 rfl rfl)
theorem dX0_readText_31 : decode cX0_readText 31 = .ok (.ldc_w 380, 3) := dk_19 1 124 (dk_at dksX0_readText_1 9 rfl rfl)
theorem dX0_readText_34 : decode cX0_readText 34 = .ok (.invokevirtual 381, 3) := dk_182 1 125 (dk_at dksX0_readText_1 12 rfl rfl)
theorem dX0_readText_37 : decode cX0_readText 37 = .ok (.ifCond .eq 7, 3) := dk_153 0 7 (dk_at dksX0_readText_1 15 rfl rfl)
theorem dX0_readText_40 : decode cX0_readText 40 = .ok (.iconst 0, 1) := dk_3 (dk_at dksX0_readText_1 18 rfl rfl)
theorem dX0_readText_41 : decode cX0_readText 41 = .ok (.goto 32, 3) := dk_167 0 32 (dk_at dksX0_readText_1 19 rfl rfl)
theorem dX0_readText_44 : decode cX0_readText 44 = .ok (.aload_n 0, 1) := dk_42 (dk_at dksX0_readText_1 22 rfl rfl)
theorem dX0_readText_45 : decode cX0_readText 45 = .ok (.ldc_w 385, 3) := dk_19 1 129 (dk_at dksX0_readText_2 0 rfl rfl)
theorem dX0_readText_48 : decode cX0_readText 48 = .ok (.invokevirtual 381, 3) := dk_182 1 125 (dk_at dksX0_readText_2 3 rfl rfl)
theorem dX0_readText_51 : decode cX0_readText 51 = .ok (.ifCond .eq 7, 3) := dk_153 0 7 (dk_at dksX0_readText_2 6 rfl rfl)
theorem dX0_readText_54 : decode cX0_readText 54 = .ok (.iconst 1, 1) := dk_4 (dk_at dksX0_readText_2 9 rfl rfl)
theorem dX0_readText_55 : decode cX0_readText 55 = .ok (.goto 18, 3) := dk_167 0 18 (dk_at dksX0_readText_2 10 rfl rfl)
theorem dX0_readText_58 : decode cX0_readText 58 = .ok (.aload_n 0, 1) := dk_42 (dk_at dksX0_readText_2 13 rfl rfl)
theorem dX0_readText_59 : decode cX0_readText 59 = .ok (.ldc_w 387, 3) := dk_19 1 131 (dk_at dksX0_readText_2 14 rfl rfl)
theorem dX0_readText_62 : decode cX0_readText 62 = .ok (.invokevirtual 381, 3) := dk_182 1 125 (dk_at dksX0_readText_2 17 rfl rfl)
theorem dX0_readText_65 : decode cX0_readText 65 = .ok (.ifCond .eq 7, 3) := dk_153 0 7 (dk_at dksX0_readText_2 20 rfl rfl)
theorem dX0_readText_68 : decode cX0_readText 68 = .ok (.iconst 2, 1) := dk_5 (dk_at dksX0_readText_2 23 rfl rfl)
theorem dX0_readText_69 : decode cX0_readText 69 = .ok (.goto 4, 3) := dk_167 0 4 (dk_at dksX0_readText_3 0 rfl rfl)
theorem dX0_readText_72 : decode cX0_readText 72 = .ok (.iconst (-1), 1) := dk_2 (dk_at dksX0_readText_3 3 rfl rfl)
theorem dX0_readText_73 : decode cX0_readText 73 = .ok (.putfield 344, 3) := dk_181 1 88 (dk_at dksX0_readText_3 4 rfl rfl)
theorem dX0_readText_76 : decode cX0_readText 76 = .ok (.aload_n 0, 1) := dk_42 (dk_at dksX0_readText_3 7 rfl rfl)
theorem dX0_readText_77 : decode cX0_readText 77 = .ok (.aload_n 0, 1) := dk_42 (dk_at dksX0_readText_3 8 rfl rfl)
theorem dX0_readText_78 : decode cX0_readText 78 = .ok (.getfield 344, 3) := dk_180 1 88 (dk_at dksX0_readText_3 9 rfl rfl)
theorem dX0_readText_81 : decode cX0_readText 81 = .ok (.ifCond .lt 7, 3) := dk_155 0 7 (dk_at dksX0_readText_3 12 rfl rfl)
theorem dX0_readText_84 : decode cX0_readText 84 = .ok (.iconst 1, 1) := dk_4 (dk_at dksX0_readText_3 15 rfl rfl)
theorem dX0_readText_85 : decode cX0_readText 85 = .ok (.goto 4, 3) := dk_167 0 4 (dk_at dksX0_readText_3 16 rfl rfl)
theorem dX0_readText_88 : decode cX0_readText 88 = .ok (.iconst 0, 1) := dk_3 (dk_at dksX0_readText_3 19 rfl rfl)
theorem dX0_readText_89 : decode cX0_readText 89 = .ok (.invokevirtual 365, 3) := dk_182 1 109 (dk_at dksX0_readText_3 20 rfl rfl)
theorem dX0_readText_92 : decode cX0_readText 92 = .ok (.aload_n 0, 1) := dk_42 (dk_at dksX0_readText_3 23 rfl rfl)
theorem dX0_readText_93 : decode cX0_readText 93 = .ok (.invokevirtual 325, 3) := dk_182 1 69 (dk_at dksX0_readText_4 0 rfl rfl)
theorem dX0_readText_96 : decode cX0_readText 96 = .ok (.aload_n 0, 1) := dk_42 (dk_at dksX0_readText_4 3 rfl rfl)
theorem dX0_readText_97 : decode cX0_readText 97 = .ok (.invokevirtual 377, 3) := dk_182 1 121 (dk_at dksX0_readText_4 4 rfl rfl)
theorem dX0_readText_100 : decode cX0_readText 100 = .ok (.astore_n 1, 1) := dk_76 (dk_at dksX0_readText_4 7 rfl rfl)
theorem dX0_readText_101 : decode cX0_readText 101 = .ok (.aload_n 0, 1) := dk_42 (dk_at dksX0_readText_4 8 rfl rfl)
theorem dX0_readText_102 : decode cX0_readText 102 = .ok (.aload_n 0, 1) := dk_42 (dk_at dksX0_readText_4 9 rfl rfl)
theorem dX0_readText_103 : decode cX0_readText 103 = .ok (.getfield 283, 3) := dk_180 1 27 (dk_at dksX0_readText_4 10 rfl rfl)
theorem dX0_readText_106 : decode cX0_readText 106 = .ok (.ifCond .ne 7, 3) := dk_154 0 7 (dk_at dksX0_readText_4 13 rfl rfl)
theorem dX0_readText_109 : decode cX0_readText 109 = .ok (.iconst 1, 1) := dk_4 (dk_at dksX0_readText_4 16 rfl rfl)
theorem dX0_readText_110 : decode cX0_readText 110 = .ok (.goto 4, 3) := dk_167 0 4 (dk_at dksX0_readText_4 17 rfl rfl)
theorem dX0_readText_113 : decode cX0_readText 113 = .ok (.iconst 0, 1) := dk_3 (dk_at dksX0_readText_4 20 rfl rfl)
theorem dX0_readText_114 : decode cX0_readText 114 = .ok (.invokevirtual 365, 3) := dk_182 1 109 (dk_at dksX0_readText_4 21 rfl rfl)
theorem dX0_readText_117 : decode cX0_readText 117 = .ok (.new 389, 3) := dk_187 1 133 (dk_at dksX0_readText_5 0 rfl rfl)
theorem dX0_readText_120 : decode cX0_readText 120 = .ok (.dup, 1) := dk_89 (dk_at dksX0_readText_5 3 rfl rfl)
theorem dX0_readText_121 : decode cX0_readText 121 = .ok (.aload_n 0, 1) := dk_42 (dk_at dksX0_readText_5 4 rfl rfl)
theorem dX0_readText_122 : decode cX0_readText 122 = .ok (.getfield 344, 3) := dk_180 1 88 (dk_at dksX0_readText_5 5 rfl rfl)
theorem dX0_readText_125 : decode cX0_readText 125 = .ok (.aload_n 0, 1) := dk_42 (dk_at dksX0_readText_5 8 rfl rfl)
theorem dX0_readText_126 : decode cX0_readText 126 = .ok (.getfield 351, 3) := dk_180 1 95 (dk_at dksX0_readText_5 9 rfl rfl)
theorem dX0_readText_129 : decode cX0_readText 129 = .ok (.aload_n 1, 1) := dk_43 (dk_at dksX0_readText_5 12 rfl rfl)
theorem dX0_readText_130 : decode cX0_readText 130 = .ok (.invokespecial 391, 3) := dk_183 1 135 (dk_at dksX0_readText_5 13 rfl rfl)
theorem dX0_readText_133 : decode cX0_readText 133 = .ok (.areturn, 1) := dk_176 (dk_at dksX0_readText_5 16 rfl rfl)
abbrev cX0_goesOn : ByteArray := prog_1_method_44_code
def yX0_goesOn : MethodName := ⟨RX0, "goesOn", "()V"⟩
def dkwX0_goesOn_13 : List UInt8 := [42, 180, 1, 36, 100, 7, 164, 0, 8, 42, 7, 181, 1, 27, 177]
abbrev dktX0_goesOn_13 : List UInt8 := dkwX0_goesOn_13 ++ []
def dkwX0_goesOn_12 : List UInt8 := [4, 167, 0, 4, 3, 54, 4, 21, 4, 154, 0, 24, 42, 180, 1, 27, 5, 160, 0, 21, 42, 180, 1, 30]
abbrev dktX0_goesOn_12 : List UInt8 := dkwX0_goesOn_12 ++ dktX0_goesOn_13
def dkwX0_goesOn_11 : List UInt8 := [28, 42, 180, 1, 36, 160, 0, 23, 42, 180, 1, 27, 4, 159, 0, 11, 42, 180, 1, 27, 5, 160, 0, 7]
abbrev dktX0_goesOn_11 : List UInt8 := dkwX0_goesOn_11 ++ dktX0_goesOn_12
def dkwX0_goesOn_10 : List UInt8 := [167, 0, 4, 29, 181, 1, 45, 42, 89, 180, 1, 30, 4, 96, 181, 1, 30, 167, 255, 154, 27, 153, 0, 31]
abbrev dktX0_goesOn_10 : List UInt8 := dkwX0_goesOn_10 ++ dktX0_goesOn_11
def dkwX0_goesOn_9 : List UInt8 := [162, 0, 25, 16, 10, 42, 180, 1, 45, 104, 42, 42, 180, 1, 30, 182, 1, 33, 96, 16, 48, 100]
abbrev dktX0_goesOn_9 : List UInt8 := dkwX0_goesOn_9 ++ dktX0_goesOn_10
def dkwX0_goesOn_8 : List UInt8 := [153, 0, 64, 42, 42, 180, 1, 27, 5, 160, 0, 38, 42, 180, 1, 30, 42, 180, 1, 36, 100, 7]
abbrev dktX0_goesOn_8 : List UInt8 := dkwX0_goesOn_8 ++ dktX0_goesOn_9
def dkwX0_goesOn_7 : List UInt8 := [154, 0, 25, 42, 180, 1, 27, 5, 160, 0, 78, 42, 42, 180, 1, 30, 182, 1, 33, 184, 1, 42]
abbrev dktX0_goesOn_7 : List UInt8 := dkwX0_goesOn_7 ++ dktX0_goesOn_8
def dkwX0_goesOn_6 : List UInt8 := [181, 1, 30, 42, 180, 1, 27, 4, 160, 0, 17, 42, 42, 180, 1, 30, 182, 1, 33, 184, 1, 39]
abbrev dktX0_goesOn_6 : List UInt8 := dkwX0_goesOn_6 ++ dktX0_goesOn_7
def dkwX0_goesOn_5 : List UInt8 := [3, 181, 1, 45, 42, 89, 180, 1, 30, 42, 180, 1, 27, 6, 160, 0, 7, 4, 167, 0, 4, 3, 96]
abbrev dktX0_goesOn_5 : List UInt8 := dkwX0_goesOn_5 ++ dktX0_goesOn_6
def dkwX0_goesOn_4 : List UInt8 := [153, 0, 7, 5, 167, 0, 4, 6, 181, 1, 27, 42, 42, 180, 1, 27, 6, 160, 0, 7, 29, 167, 0, 4]
abbrev dktX0_goesOn_4 : List UInt8 := dkwX0_goesOn_4 ++ dktX0_goesOn_5
def dkwX0_goesOn_3 : List UInt8 := [29, 156, 0, 7, 3, 167, 0, 26, 29, 184, 1, 39, 153, 0, 7, 4, 167, 0, 15, 29, 184, 1, 42]
abbrev dktX0_goesOn_3 : List UInt8 := dkwX0_goesOn_3 ++ dktX0_goesOn_4
def dkwX0_goesOn_2 : List UInt8 := [181, 1, 30, 167, 255, 233, 42, 42, 180, 1, 30, 181, 1, 36, 42, 42, 180, 1, 36, 182, 1, 33, 62, 42]
abbrev dktX0_goesOn_2 : List UInt8 := dkwX0_goesOn_2 ++ dktX0_goesOn_3
def dkwX0_goesOn_1 : List UInt8 := [180, 1, 30, 61, 42, 42, 180, 1, 30, 182, 1, 33, 16, 32, 160, 0, 16, 42, 89, 180, 1, 30, 4, 96]
abbrev dktX0_goesOn_1 : List UInt8 := dkwX0_goesOn_1 ++ dktX0_goesOn_2
def dkwX0_goesOn_0 : List UInt8 := [42, 180, 1, 27, 4, 159, 0, 11, 42, 180, 1, 27, 5, 160, 0, 7, 4, 167, 0, 4, 3, 60, 42]
abbrev dktX0_goesOn_0 : List UInt8 := dkwX0_goesOn_0 ++ dktX0_goesOn_1
theorem dksX0_goesOn_0 : cX0_goesOn.data.toList.drop 0 = dktX0_goesOn_0 := by decide +kernel
theorem dksX0_goesOn_1 : cX0_goesOn.data.toList.drop 23 = dktX0_goesOn_1 := dk_seg dksX0_goesOn_0 23 rfl rfl
theorem dksX0_goesOn_2 : cX0_goesOn.data.toList.drop 47 = dktX0_goesOn_2 := dk_seg dksX0_goesOn_1 24 rfl rfl
theorem dksX0_goesOn_3 : cX0_goesOn.data.toList.drop 71 = dktX0_goesOn_3 := dk_seg dksX0_goesOn_2 24 rfl rfl
theorem dksX0_goesOn_4 : cX0_goesOn.data.toList.drop 94 = dktX0_goesOn_4 := dk_seg dksX0_goesOn_3 23 rfl rfl
theorem dksX0_goesOn_5 : cX0_goesOn.data.toList.drop 118 = dktX0_goesOn_5 := dk_seg dksX0_goesOn_4 24 rfl rfl
theorem dksX0_goesOn_6 : cX0_goesOn.data.toList.drop 141 = dktX0_goesOn_6 := dk_seg dksX0_goesOn_5 23 rfl rfl
theorem dksX0_goesOn_7 : cX0_goesOn.data.toList.drop 163 = dktX0_goesOn_7 := dk_seg dksX0_goesOn_6 22 rfl rfl
theorem dksX0_goesOn_8 : cX0_goesOn.data.toList.drop 185 = dktX0_goesOn_8 := dk_seg dksX0_goesOn_7 22 rfl rfl
theorem dksX0_goesOn_9 : cX0_goesOn.data.toList.drop 207 = dktX0_goesOn_9 := dk_seg dksX0_goesOn_8 22 rfl rfl
theorem dksX0_goesOn_10 : cX0_goesOn.data.toList.drop 229 = dktX0_goesOn_10 := dk_seg dksX0_goesOn_9 22 rfl rfl
theorem dksX0_goesOn_11 : cX0_goesOn.data.toList.drop 253 = dktX0_goesOn_11 := dk_seg dksX0_goesOn_10 24 rfl rfl
theorem dksX0_goesOn_12 : cX0_goesOn.data.toList.drop 277 = dktX0_goesOn_12 := dk_seg dksX0_goesOn_11 24 rfl rfl
theorem dksX0_goesOn_13 : cX0_goesOn.data.toList.drop 301 = dktX0_goesOn_13 := dk_seg dksX0_goesOn_12 24 rfl rfl
theorem dX0_goesOn_0 : decode cX0_goesOn 0 = .ok (.aload_n 0, 1) := dk_42 (dk_at dksX0_goesOn_0 0 rfl rfl)
theorem dX0_goesOn_1 : decode cX0_goesOn 1 = .ok (.getfield 283, 3) := dk_180 1 27 (dk_at dksX0_goesOn_0 1 rfl rfl)
theorem dX0_goesOn_4 : decode cX0_goesOn 4 = .ok (.iconst 1, 1) := dk_4 (dk_at dksX0_goesOn_0 4 rfl rfl)
theorem dX0_goesOn_5 : decode cX0_goesOn 5 = .ok (.if_icmp .eq 11, 3) := dk_159 0 11 (dk_at dksX0_goesOn_0 5 rfl rfl)
theorem dX0_goesOn_8 : decode cX0_goesOn 8 = .ok (.aload_n 0, 1) := dk_42 (dk_at dksX0_goesOn_0 8 rfl rfl)
theorem dX0_goesOn_9 : decode cX0_goesOn 9 = .ok (.getfield 283, 3) := dk_180 1 27 (dk_at dksX0_goesOn_0 9 rfl rfl)
theorem dX0_goesOn_12 : decode cX0_goesOn 12 = .ok (.iconst 2, 1) := dk_5 (dk_at dksX0_goesOn_0 12 rfl rfl)
theorem dX0_goesOn_13 : decode cX0_goesOn 13 = .ok (.if_icmp .ne 7, 3) := dk_160 0 7 (dk_at dksX0_goesOn_0 13 rfl rfl)
theorem dX0_goesOn_16 : decode cX0_goesOn 16 = .ok (.iconst 1, 1) := dk_4 (dk_at dksX0_goesOn_0 16 rfl rfl)
theorem dX0_goesOn_17 : decode cX0_goesOn 17 = .ok (.goto 4, 3) := dk_167 0 4 (dk_at dksX0_goesOn_0 17 rfl rfl)
theorem dX0_goesOn_20 : decode cX0_goesOn 20 = .ok (.iconst 0, 1) := dk_3 (dk_at dksX0_goesOn_0 20 rfl rfl)
theorem dX0_goesOn_21 : decode cX0_goesOn 21 = .ok (.istore_n 1, 1) := dk_60 (dk_at dksX0_goesOn_0 21 rfl rfl)
theorem dX0_goesOn_22 : decode cX0_goesOn 22 = .ok (.aload_n 0, 1) := dk_42 (dk_at dksX0_goesOn_0 22 rfl rfl)
theorem dX0_goesOn_23 : decode cX0_goesOn 23 = .ok (.getfield 286, 3) := dk_180 1 30 (dk_at dksX0_goesOn_1 0 rfl rfl)
theorem dX0_goesOn_26 : decode cX0_goesOn 26 = .ok (.istore_n 2, 1) := dk_61 (dk_at dksX0_goesOn_1 3 rfl rfl)
theorem dX0_goesOn_27 : decode cX0_goesOn 27 = .ok (.aload_n 0, 1) := dk_42 (dk_at dksX0_goesOn_1 4 rfl rfl)
theorem dX0_goesOn_28 : decode cX0_goesOn 28 = .ok (.aload_n 0, 1) := dk_42 (dk_at dksX0_goesOn_1 5 rfl rfl)
theorem dX0_goesOn_29 : decode cX0_goesOn 29 = .ok (.getfield 286, 3) := dk_180 1 30 (dk_at dksX0_goesOn_1 6 rfl rfl)
theorem dX0_goesOn_32 : decode cX0_goesOn 32 = .ok (.invokevirtual 289, 3) := dk_182 1 33 (dk_at dksX0_goesOn_1 9 rfl rfl)
theorem dX0_goesOn_35 : decode cX0_goesOn 35 = .ok (.bipush 32, 2) := dk_16 32 (dk_at dksX0_goesOn_1 12 rfl rfl)
theorem dX0_goesOn_37 : decode cX0_goesOn 37 = .ok (.if_icmp .ne 16, 3) := dk_160 0 16 (dk_at dksX0_goesOn_1 14 rfl rfl)
theorem dX0_goesOn_40 : decode cX0_goesOn 40 = .ok (.aload_n 0, 1) := dk_42 (dk_at dksX0_goesOn_1 17 rfl rfl)
theorem dX0_goesOn_41 : decode cX0_goesOn 41 = .ok (.dup, 1) := dk_89 (dk_at dksX0_goesOn_1 18 rfl rfl)
theorem dX0_goesOn_42 : decode cX0_goesOn 42 = .ok (.getfield 286, 3) := dk_180 1 30 (dk_at dksX0_goesOn_1 19 rfl rfl)
theorem dX0_goesOn_45 : decode cX0_goesOn 45 = .ok (.iconst 1, 1) := dk_4 (dk_at dksX0_goesOn_1 22 rfl rfl)
theorem dX0_goesOn_46 : decode cX0_goesOn 46 = .ok (.iadd, 1) := dk_96 (dk_at dksX0_goesOn_1 23 rfl rfl)
theorem dX0_goesOn_47 : decode cX0_goesOn 47 = .ok (.putfield 286, 3) := dk_181 1 30 (dk_at dksX0_goesOn_2 0 rfl rfl)
theorem dX0_goesOn_50 : decode cX0_goesOn 50 = .ok (.goto (-23), 3) := dk_167 255 233 (dk_at dksX0_goesOn_2 3 rfl rfl)
theorem dX0_goesOn_53 : decode cX0_goesOn 53 = .ok (.aload_n 0, 1) := dk_42 (dk_at dksX0_goesOn_2 6 rfl rfl)
theorem dX0_goesOn_54 : decode cX0_goesOn 54 = .ok (.aload_n 0, 1) := dk_42 (dk_at dksX0_goesOn_2 7 rfl rfl)
theorem dX0_goesOn_55 : decode cX0_goesOn 55 = .ok (.getfield 286, 3) := dk_180 1 30 (dk_at dksX0_goesOn_2 8 rfl rfl)
theorem dX0_goesOn_58 : decode cX0_goesOn 58 = .ok (.putfield 292, 3) := dk_181 1 36 (dk_at dksX0_goesOn_2 11 rfl rfl)
theorem dX0_goesOn_61 : decode cX0_goesOn 61 = .ok (.aload_n 0, 1) := dk_42 (dk_at dksX0_goesOn_2 14 rfl rfl)
theorem dX0_goesOn_62 : decode cX0_goesOn 62 = .ok (.aload_n 0, 1) := dk_42 (dk_at dksX0_goesOn_2 15 rfl rfl)
theorem dX0_goesOn_63 : decode cX0_goesOn 63 = .ok (.getfield 292, 3) := dk_180 1 36 (dk_at dksX0_goesOn_2 16 rfl rfl)
theorem dX0_goesOn_66 : decode cX0_goesOn 66 = .ok (.invokevirtual 289, 3) := dk_182 1 33 (dk_at dksX0_goesOn_2 19 rfl rfl)
theorem dX0_goesOn_69 : decode cX0_goesOn 69 = .ok (.istore_n 3, 1) := dk_62 (dk_at dksX0_goesOn_2 22 rfl rfl)
theorem dX0_goesOn_70 : decode cX0_goesOn 70 = .ok (.aload_n 0, 1) := dk_42 (dk_at dksX0_goesOn_2 23 rfl rfl)
theorem dX0_goesOn_71 : decode cX0_goesOn 71 = .ok (.iload_n 3, 1) := dk_29 (dk_at dksX0_goesOn_3 0 rfl rfl)
theorem dX0_goesOn_72 : decode cX0_goesOn 72 = .ok (.ifCond .ge 7, 3) := dk_156 0 7 (dk_at dksX0_goesOn_3 1 rfl rfl)
theorem dX0_goesOn_75 : decode cX0_goesOn 75 = .ok (.iconst 0, 1) := dk_3 (dk_at dksX0_goesOn_3 4 rfl rfl)
theorem dX0_goesOn_76 : decode cX0_goesOn 76 = .ok (.goto 26, 3) := dk_167 0 26 (dk_at dksX0_goesOn_3 5 rfl rfl)
theorem dX0_goesOn_79 : decode cX0_goesOn 79 = .ok (.iload_n 3, 1) := dk_29 (dk_at dksX0_goesOn_3 8 rfl rfl)
theorem dX0_goesOn_80 : decode cX0_goesOn 80 = .ok (.invokestatic 295, 3) := dk_184 1 39 (dk_at dksX0_goesOn_3 9 rfl rfl)
theorem dX0_goesOn_83 : decode cX0_goesOn 83 = .ok (.ifCond .eq 7, 3) := dk_153 0 7 (dk_at dksX0_goesOn_3 12 rfl rfl)
theorem dX0_goesOn_86 : decode cX0_goesOn 86 = .ok (.iconst 1, 1) := dk_4 (dk_at dksX0_goesOn_3 15 rfl rfl)
theorem dX0_goesOn_87 : decode cX0_goesOn 87 = .ok (.goto 15, 3) := dk_167 0 15 (dk_at dksX0_goesOn_3 16 rfl rfl)
theorem dX0_goesOn_90 : decode cX0_goesOn 90 = .ok (.iload_n 3, 1) := dk_29 (dk_at dksX0_goesOn_3 19 rfl rfl)
theorem dX0_goesOn_91 : decode cX0_goesOn 91 = .ok (.invokestatic 298, 3) := dk_184 1 42 (dk_at dksX0_goesOn_3 20 rfl rfl)
theorem dX0_goesOn_94 : decode cX0_goesOn 94 = .ok (.ifCond .eq 7, 3) := dk_153 0 7 (dk_at dksX0_goesOn_4 0 rfl rfl)
theorem dX0_goesOn_97 : decode cX0_goesOn 97 = .ok (.iconst 2, 1) := dk_5 (dk_at dksX0_goesOn_4 3 rfl rfl)
theorem dX0_goesOn_98 : decode cX0_goesOn 98 = .ok (.goto 4, 3) := dk_167 0 4 (dk_at dksX0_goesOn_4 4 rfl rfl)
theorem dX0_goesOn_101 : decode cX0_goesOn 101 = .ok (.iconst 3, 1) := dk_6 (dk_at dksX0_goesOn_4 7 rfl rfl)
theorem dX0_goesOn_102 : decode cX0_goesOn 102 = .ok (.putfield 283, 3) := dk_181 1 27 (dk_at dksX0_goesOn_4 8 rfl rfl)
theorem dX0_goesOn_105 : decode cX0_goesOn 105 = .ok (.aload_n 0, 1) := dk_42 (dk_at dksX0_goesOn_4 11 rfl rfl)
theorem dX0_goesOn_106 : decode cX0_goesOn 106 = .ok (.aload_n 0, 1) := dk_42 (dk_at dksX0_goesOn_4 12 rfl rfl)
theorem dX0_goesOn_107 : decode cX0_goesOn 107 = .ok (.getfield 283, 3) := dk_180 1 27 (dk_at dksX0_goesOn_4 13 rfl rfl)
theorem dX0_goesOn_110 : decode cX0_goesOn 110 = .ok (.iconst 3, 1) := dk_6 (dk_at dksX0_goesOn_4 16 rfl rfl)
theorem dX0_goesOn_111 : decode cX0_goesOn 111 = .ok (.if_icmp .ne 7, 3) := dk_160 0 7 (dk_at dksX0_goesOn_4 17 rfl rfl)
theorem dX0_goesOn_114 : decode cX0_goesOn 114 = .ok (.iload_n 3, 1) := dk_29 (dk_at dksX0_goesOn_4 20 rfl rfl)
theorem dX0_goesOn_115 : decode cX0_goesOn 115 = .ok (.goto 4, 3) := dk_167 0 4 (dk_at dksX0_goesOn_4 21 rfl rfl)
theorem dX0_goesOn_118 : decode cX0_goesOn 118 = .ok (.iconst 0, 1) := dk_3 (dk_at dksX0_goesOn_5 0 rfl rfl)
theorem dX0_goesOn_119 : decode cX0_goesOn 119 = .ok (.putfield 301, 3) := dk_181 1 45 (dk_at dksX0_goesOn_5 1 rfl rfl)
theorem dX0_goesOn_122 : decode cX0_goesOn 122 = .ok (.aload_n 0, 1) := dk_42 (dk_at dksX0_goesOn_5 4 rfl rfl)
theorem dX0_goesOn_123 : decode cX0_goesOn 123 = .ok (.dup, 1) := dk_89 (dk_at dksX0_goesOn_5 5 rfl rfl)
theorem dX0_goesOn_124 : decode cX0_goesOn 124 = .ok (.getfield 286, 3) := dk_180 1 30 (dk_at dksX0_goesOn_5 6 rfl rfl)
theorem dX0_goesOn_127 : decode cX0_goesOn 127 = .ok (.aload_n 0, 1) := dk_42 (dk_at dksX0_goesOn_5 9 rfl rfl)
theorem dX0_goesOn_128 : decode cX0_goesOn 128 = .ok (.getfield 283, 3) := dk_180 1 27 (dk_at dksX0_goesOn_5 10 rfl rfl)
theorem dX0_goesOn_131 : decode cX0_goesOn 131 = .ok (.iconst 3, 1) := dk_6 (dk_at dksX0_goesOn_5 13 rfl rfl)
theorem dX0_goesOn_132 : decode cX0_goesOn 132 = .ok (.if_icmp .ne 7, 3) := dk_160 0 7 (dk_at dksX0_goesOn_5 14 rfl rfl)
theorem dX0_goesOn_135 : decode cX0_goesOn 135 = .ok (.iconst 1, 1) := dk_4 (dk_at dksX0_goesOn_5 17 rfl rfl)
theorem dX0_goesOn_136 : decode cX0_goesOn 136 = .ok (.goto 4, 3) := dk_167 0 4 (dk_at dksX0_goesOn_5 18 rfl rfl)
theorem dX0_goesOn_139 : decode cX0_goesOn 139 = .ok (.iconst 0, 1) := dk_3 (dk_at dksX0_goesOn_5 21 rfl rfl)
theorem dX0_goesOn_140 : decode cX0_goesOn 140 = .ok (.iadd, 1) := dk_96 (dk_at dksX0_goesOn_5 22 rfl rfl)
theorem dX0_goesOn_141 : decode cX0_goesOn 141 = .ok (.putfield 286, 3) := dk_181 1 30 (dk_at dksX0_goesOn_6 0 rfl rfl)
theorem dX0_goesOn_144 : decode cX0_goesOn 144 = .ok (.aload_n 0, 1) := dk_42 (dk_at dksX0_goesOn_6 3 rfl rfl)
theorem dX0_goesOn_145 : decode cX0_goesOn 145 = .ok (.getfield 283, 3) := dk_180 1 27 (dk_at dksX0_goesOn_6 4 rfl rfl)
theorem dX0_goesOn_148 : decode cX0_goesOn 148 = .ok (.iconst 1, 1) := dk_4 (dk_at dksX0_goesOn_6 7 rfl rfl)
theorem dX0_goesOn_149 : decode cX0_goesOn 149 = .ok (.if_icmp .ne 17, 3) := dk_160 0 17 (dk_at dksX0_goesOn_6 8 rfl rfl)
theorem dX0_goesOn_152 : decode cX0_goesOn 152 = .ok (.aload_n 0, 1) := dk_42 (dk_at dksX0_goesOn_6 11 rfl rfl)
theorem dX0_goesOn_153 : decode cX0_goesOn 153 = .ok (.aload_n 0, 1) := dk_42 (dk_at dksX0_goesOn_6 12 rfl rfl)
theorem dX0_goesOn_154 : decode cX0_goesOn 154 = .ok (.getfield 286, 3) := dk_180 1 30 (dk_at dksX0_goesOn_6 13 rfl rfl)
theorem dX0_goesOn_157 : decode cX0_goesOn 157 = .ok (.invokevirtual 289, 3) := dk_182 1 33 (dk_at dksX0_goesOn_6 16 rfl rfl)
theorem dX0_goesOn_160 : decode cX0_goesOn 160 = .ok (.invokestatic 295, 3) := dk_184 1 39 (dk_at dksX0_goesOn_6 19 rfl rfl)
theorem dX0_goesOn_163 : decode cX0_goesOn 163 = .ok (.ifCond .ne 25, 3) := dk_154 0 25 (dk_at dksX0_goesOn_7 0 rfl rfl)
theorem dX0_goesOn_166 : decode cX0_goesOn 166 = .ok (.aload_n 0, 1) := dk_42 (dk_at dksX0_goesOn_7 3 rfl rfl)
theorem dX0_goesOn_167 : decode cX0_goesOn 167 = .ok (.getfield 283, 3) := dk_180 1 27 (dk_at dksX0_goesOn_7 4 rfl rfl)
theorem dX0_goesOn_170 : decode cX0_goesOn 170 = .ok (.iconst 2, 1) := dk_5 (dk_at dksX0_goesOn_7 7 rfl rfl)
theorem dX0_goesOn_171 : decode cX0_goesOn 171 = .ok (.if_icmp .ne 78, 3) := dk_160 0 78 (dk_at dksX0_goesOn_7 8 rfl rfl)
theorem dX0_goesOn_174 : decode cX0_goesOn 174 = .ok (.aload_n 0, 1) := dk_42 (dk_at dksX0_goesOn_7 11 rfl rfl)
theorem dX0_goesOn_175 : decode cX0_goesOn 175 = .ok (.aload_n 0, 1) := dk_42 (dk_at dksX0_goesOn_7 12 rfl rfl)
theorem dX0_goesOn_176 : decode cX0_goesOn 176 = .ok (.getfield 286, 3) := dk_180 1 30 (dk_at dksX0_goesOn_7 13 rfl rfl)
theorem dX0_goesOn_179 : decode cX0_goesOn 179 = .ok (.invokevirtual 289, 3) := dk_182 1 33 (dk_at dksX0_goesOn_7 16 rfl rfl)
theorem dX0_goesOn_182 : decode cX0_goesOn 182 = .ok (.invokestatic 298, 3) := dk_184 1 42 (dk_at dksX0_goesOn_7 19 rfl rfl)
theorem dX0_goesOn_185 : decode cX0_goesOn 185 = .ok (.ifCond .eq 64, 3) := dk_153 0 64 (dk_at dksX0_goesOn_8 0 rfl rfl)
theorem dX0_goesOn_188 : decode cX0_goesOn 188 = .ok (.aload_n 0, 1) := dk_42 (dk_at dksX0_goesOn_8 3 rfl rfl)
theorem dX0_goesOn_189 : decode cX0_goesOn 189 = .ok (.aload_n 0, 1) := dk_42 (dk_at dksX0_goesOn_8 4 rfl rfl)
theorem dX0_goesOn_190 : decode cX0_goesOn 190 = .ok (.getfield 283, 3) := dk_180 1 27 (dk_at dksX0_goesOn_8 5 rfl rfl)
theorem dX0_goesOn_193 : decode cX0_goesOn 193 = .ok (.iconst 2, 1) := dk_5 (dk_at dksX0_goesOn_8 8 rfl rfl)
theorem dX0_goesOn_194 : decode cX0_goesOn 194 = .ok (.if_icmp .ne 38, 3) := dk_160 0 38 (dk_at dksX0_goesOn_8 9 rfl rfl)
theorem dX0_goesOn_197 : decode cX0_goesOn 197 = .ok (.aload_n 0, 1) := dk_42 (dk_at dksX0_goesOn_8 12 rfl rfl)
theorem dX0_goesOn_198 : decode cX0_goesOn 198 = .ok (.getfield 286, 3) := dk_180 1 30 (dk_at dksX0_goesOn_8 13 rfl rfl)
theorem dX0_goesOn_201 : decode cX0_goesOn 201 = .ok (.aload_n 0, 1) := dk_42 (dk_at dksX0_goesOn_8 16 rfl rfl)
theorem dX0_goesOn_202 : decode cX0_goesOn 202 = .ok (.getfield 292, 3) := dk_180 1 36 (dk_at dksX0_goesOn_8 17 rfl rfl)
theorem dX0_goesOn_205 : decode cX0_goesOn 205 = .ok (.isub, 1) := dk_100 (dk_at dksX0_goesOn_8 20 rfl rfl)
theorem dX0_goesOn_206 : decode cX0_goesOn 206 = .ok (.iconst 4, 1) := dk_7 (dk_at dksX0_goesOn_8 21 rfl rfl)
theorem dX0_goesOn_207 : decode cX0_goesOn 207 = .ok (.if_icmp .ge 25, 3) := dk_162 0 25 (dk_at dksX0_goesOn_9 0 rfl rfl)
theorem dX0_goesOn_210 : decode cX0_goesOn 210 = .ok (.bipush 10, 2) := dk_16 10 (dk_at dksX0_goesOn_9 3 rfl rfl)
theorem dX0_goesOn_212 : decode cX0_goesOn 212 = .ok (.aload_n 0, 1) := dk_42 (dk_at dksX0_goesOn_9 5 rfl rfl)
theorem dX0_goesOn_213 : decode cX0_goesOn 213 = .ok (.getfield 301, 3) := dk_180 1 45 (dk_at dksX0_goesOn_9 6 rfl rfl)
theorem dX0_goesOn_216 : decode cX0_goesOn 216 = .ok (.imul, 1) := dk_104 (dk_at dksX0_goesOn_9 9 rfl rfl)
theorem dX0_goesOn_217 : decode cX0_goesOn 217 = .ok (.aload_n 0, 1) := dk_42 (dk_at dksX0_goesOn_9 10 rfl rfl)
theorem dX0_goesOn_218 : decode cX0_goesOn 218 = .ok (.aload_n 0, 1) := dk_42 (dk_at dksX0_goesOn_9 11 rfl rfl)
theorem dX0_goesOn_219 : decode cX0_goesOn 219 = .ok (.getfield 286, 3) := dk_180 1 30 (dk_at dksX0_goesOn_9 12 rfl rfl)
theorem dX0_goesOn_222 : decode cX0_goesOn 222 = .ok (.invokevirtual 289, 3) := dk_182 1 33 (dk_at dksX0_goesOn_9 15 rfl rfl)
theorem dX0_goesOn_225 : decode cX0_goesOn 225 = .ok (.iadd, 1) := dk_96 (dk_at dksX0_goesOn_9 18 rfl rfl)
theorem dX0_goesOn_226 : decode cX0_goesOn 226 = .ok (.bipush 48, 2) := dk_16 48 (dk_at dksX0_goesOn_9 19 rfl rfl)
theorem dX0_goesOn_228 : decode cX0_goesOn 228 = .ok (.isub, 1) := dk_100 (dk_at dksX0_goesOn_9 21 rfl rfl)
theorem dX0_goesOn_229 : decode cX0_goesOn 229 = .ok (.goto 4, 3) := dk_167 0 4 (dk_at dksX0_goesOn_10 0 rfl rfl)
theorem dX0_goesOn_232 : decode cX0_goesOn 232 = .ok (.iload_n 3, 1) := dk_29 (dk_at dksX0_goesOn_10 3 rfl rfl)
theorem dX0_goesOn_233 : decode cX0_goesOn 233 = .ok (.putfield 301, 3) := dk_181 1 45 (dk_at dksX0_goesOn_10 4 rfl rfl)
theorem dX0_goesOn_236 : decode cX0_goesOn 236 = .ok (.aload_n 0, 1) := dk_42 (dk_at dksX0_goesOn_10 7 rfl rfl)
theorem dX0_goesOn_237 : decode cX0_goesOn 237 = .ok (.dup, 1) := dk_89 (dk_at dksX0_goesOn_10 8 rfl rfl)
theorem dX0_goesOn_238 : decode cX0_goesOn 238 = .ok (.getfield 286, 3) := dk_180 1 30 (dk_at dksX0_goesOn_10 9 rfl rfl)
theorem dX0_goesOn_241 : decode cX0_goesOn 241 = .ok (.iconst 1, 1) := dk_4 (dk_at dksX0_goesOn_10 12 rfl rfl)
theorem dX0_goesOn_242 : decode cX0_goesOn 242 = .ok (.iadd, 1) := dk_96 (dk_at dksX0_goesOn_10 13 rfl rfl)
theorem dX0_goesOn_243 : decode cX0_goesOn 243 = .ok (.putfield 286, 3) := dk_181 1 30 (dk_at dksX0_goesOn_10 14 rfl rfl)
theorem dX0_goesOn_246 : decode cX0_goesOn 246 = .ok (.goto (-102), 3) := dk_167 255 154 (dk_at dksX0_goesOn_10 17 rfl rfl)
theorem dX0_goesOn_249 : decode cX0_goesOn 249 = .ok (.iload_n 1, 1) := dk_27 (dk_at dksX0_goesOn_10 20 rfl rfl)
theorem dX0_goesOn_250 : decode cX0_goesOn 250 = .ok (.ifCond .eq 31, 3) := dk_153 0 31 (dk_at dksX0_goesOn_10 21 rfl rfl)
theorem dX0_goesOn_253 : decode cX0_goesOn 253 = .ok (.iload_n 2, 1) := dk_28 (dk_at dksX0_goesOn_11 0 rfl rfl)
theorem dX0_goesOn_254 : decode cX0_goesOn 254 = .ok (.aload_n 0, 1) := dk_42 (dk_at dksX0_goesOn_11 1 rfl rfl)
theorem dX0_goesOn_255 : decode cX0_goesOn 255 = .ok (.getfield 292, 3) := dk_180 1 36 (dk_at dksX0_goesOn_11 2 rfl rfl)
theorem dX0_goesOn_258 : decode cX0_goesOn 258 = .ok (.if_icmp .ne 23, 3) := dk_160 0 23 (dk_at dksX0_goesOn_11 5 rfl rfl)
theorem dX0_goesOn_261 : decode cX0_goesOn 261 = .ok (.aload_n 0, 1) := dk_42 (dk_at dksX0_goesOn_11 8 rfl rfl)
theorem dX0_goesOn_262 : decode cX0_goesOn 262 = .ok (.getfield 283, 3) := dk_180 1 27 (dk_at dksX0_goesOn_11 9 rfl rfl)
theorem dX0_goesOn_265 : decode cX0_goesOn 265 = .ok (.iconst 1, 1) := dk_4 (dk_at dksX0_goesOn_11 12 rfl rfl)
theorem dX0_goesOn_266 : decode cX0_goesOn 266 = .ok (.if_icmp .eq 11, 3) := dk_159 0 11 (dk_at dksX0_goesOn_11 13 rfl rfl)
theorem dX0_goesOn_269 : decode cX0_goesOn 269 = .ok (.aload_n 0, 1) := dk_42 (dk_at dksX0_goesOn_11 16 rfl rfl)
theorem dX0_goesOn_270 : decode cX0_goesOn 270 = .ok (.getfield 283, 3) := dk_180 1 27 (dk_at dksX0_goesOn_11 17 rfl rfl)
theorem dX0_goesOn_273 : decode cX0_goesOn 273 = .ok (.iconst 2, 1) := dk_5 (dk_at dksX0_goesOn_11 20 rfl rfl)
theorem dX0_goesOn_274 : decode cX0_goesOn 274 = .ok (.if_icmp .ne 7, 3) := dk_160 0 7 (dk_at dksX0_goesOn_11 21 rfl rfl)
theorem dX0_goesOn_277 : decode cX0_goesOn 277 = .ok (.iconst 1, 1) := dk_4 (dk_at dksX0_goesOn_12 0 rfl rfl)
theorem dX0_goesOn_278 : decode cX0_goesOn 278 = .ok (.goto 4, 3) := dk_167 0 4 (dk_at dksX0_goesOn_12 1 rfl rfl)
theorem dX0_goesOn_281 : decode cX0_goesOn 281 = .ok (.iconst 0, 1) := dk_3 (dk_at dksX0_goesOn_12 4 rfl rfl)
theorem dX0_goesOn_282 : decode cX0_goesOn 282 = .ok (.istore 4, 2) := dk_54 4 (dk_at dksX0_goesOn_12 5 rfl rfl)
theorem dX0_goesOn_284 : decode cX0_goesOn 284 = .ok (.iload 4, 2) := dk_21 4 (dk_at dksX0_goesOn_12 7 rfl rfl)
theorem dX0_goesOn_286 : decode cX0_goesOn 286 = .ok (.ifCond .ne 24, 3) := dk_154 0 24 (dk_at dksX0_goesOn_12 9 rfl rfl)
theorem dX0_goesOn_289 : decode cX0_goesOn 289 = .ok (.aload_n 0, 1) := dk_42 (dk_at dksX0_goesOn_12 12 rfl rfl)
theorem dX0_goesOn_290 : decode cX0_goesOn 290 = .ok (.getfield 283, 3) := dk_180 1 27 (dk_at dksX0_goesOn_12 13 rfl rfl)
theorem dX0_goesOn_293 : decode cX0_goesOn 293 = .ok (.iconst 2, 1) := dk_5 (dk_at dksX0_goesOn_12 16 rfl rfl)
theorem dX0_goesOn_294 : decode cX0_goesOn 294 = .ok (.if_icmp .ne 21, 3) := dk_160 0 21 (dk_at dksX0_goesOn_12 17 rfl rfl)
theorem dX0_goesOn_297 : decode cX0_goesOn 297 = .ok (.aload_n 0, 1) := dk_42 (dk_at dksX0_goesOn_12 20 rfl rfl)
theorem dX0_goesOn_298 : decode cX0_goesOn 298 = .ok (.getfield 286, 3) := dk_180 1 30 (dk_at dksX0_goesOn_12 21 rfl rfl)
theorem dX0_goesOn_301 : decode cX0_goesOn 301 = .ok (.aload_n 0, 1) := dk_42 (dk_at dksX0_goesOn_13 0 rfl rfl)
theorem dX0_goesOn_302 : decode cX0_goesOn 302 = .ok (.getfield 292, 3) := dk_180 1 36 (dk_at dksX0_goesOn_13 1 rfl rfl)
theorem dX0_goesOn_305 : decode cX0_goesOn 305 = .ok (.isub, 1) := dk_100 (dk_at dksX0_goesOn_13 4 rfl rfl)
theorem dX0_goesOn_306 : decode cX0_goesOn 306 = .ok (.iconst 4, 1) := dk_7 (dk_at dksX0_goesOn_13 5 rfl rfl)
theorem dX0_goesOn_307 : decode cX0_goesOn 307 = .ok (.if_icmp .le 8, 3) := dk_164 0 8 (dk_at dksX0_goesOn_13 6 rfl rfl)
theorem dX0_goesOn_310 : decode cX0_goesOn 310 = .ok (.aload_n 0, 1) := dk_42 (dk_at dksX0_goesOn_13 9 rfl rfl)
theorem dX0_goesOn_311 : decode cX0_goesOn 311 = .ok (.iconst 4, 1) := dk_7 (dk_at dksX0_goesOn_13 10 rfl rfl)
theorem dX0_goesOn_312 : decode cX0_goesOn 312 = .ok (.putfield 283, 3) := dk_181 1 27 (dk_at dksX0_goesOn_13 11 rfl rfl)
theorem dX0_goesOn_315 : decode cX0_goesOn 315 = .ok (.return_, 1) := dk_177 (dk_at dksX0_goesOn_13 14 rfl rfl)
abbrev cX0_byteAt : ByteArray := prog_1_method_43_code
def yX0_byteAt : MethodName := ⟨RX0, "byteAt", "(I)I"⟩
def dkwX0_byteAt_0 : List UInt8 := [27, 42, 180, 1, 24, 162, 0, 16, 42, 180, 0, 71, 27, 51, 17, 0, 255, 126, 167, 0, 4, 2, 172]
abbrev dktX0_byteAt_0 : List UInt8 := dkwX0_byteAt_0 ++ []
theorem dksX0_byteAt_0 : cX0_byteAt.data.toList.drop 0 = dktX0_byteAt_0 := by decide +kernel
theorem dX0_byteAt_0 : decode cX0_byteAt 0 = .ok (.iload_n 1, 1) := dk_27 (dk_at dksX0_byteAt_0 0 rfl rfl)
theorem dX0_byteAt_1 : decode cX0_byteAt 1 = .ok (.aload_n 0, 1) := dk_42 (dk_at dksX0_byteAt_0 1 rfl rfl)
theorem dX0_byteAt_2 : decode cX0_byteAt 2 = .ok (.getfield 280, 3) := dk_180 1 24 (dk_at dksX0_byteAt_0 2 rfl rfl)
theorem dX0_byteAt_5 : decode cX0_byteAt 5 = .ok (.if_icmp .ge 16, 3) := dk_162 0 16 (dk_at dksX0_byteAt_0 5 rfl rfl)
theorem dX0_byteAt_8 : decode cX0_byteAt 8 = .ok (.aload_n 0, 1) := dk_42 (dk_at dksX0_byteAt_0 8 rfl rfl)
theorem dX0_byteAt_9 : decode cX0_byteAt 9 = .ok (.getfield 71, 3) := dk_180 0 71 (dk_at dksX0_byteAt_0 9 rfl rfl)
theorem dX0_byteAt_12 : decode cX0_byteAt 12 = .ok (.iload_n 1, 1) := dk_27 (dk_at dksX0_byteAt_0 12 rfl rfl)
theorem dX0_byteAt_13 : decode cX0_byteAt 13 = .ok (.baload, 1) := dk_51 (dk_at dksX0_byteAt_0 13 rfl rfl)
theorem dX0_byteAt_14 : decode cX0_byteAt 14 = .ok (.sipush 255, 3) := dk_17 0 255 (dk_at dksX0_byteAt_0 14 rfl rfl)
theorem dX0_byteAt_17 : decode cX0_byteAt 17 = .ok (.iand, 1) := dk_126 (dk_at dksX0_byteAt_0 17 rfl rfl)
theorem dX0_byteAt_18 : decode cX0_byteAt 18 = .ok (.goto 4, 3) := dk_167 0 4 (dk_at dksX0_byteAt_0 18 rfl rfl)
theorem dX0_byteAt_21 : decode cX0_byteAt 21 = .ok (.iconst (-1), 1) := dk_2 (dk_at dksX0_byteAt_0 21 rfl rfl)
theorem dX0_byteAt_22 : decode cX0_byteAt 22 = .ok (.ireturn, 1) := dk_172 (dk_at dksX0_byteAt_0 22 rfl rfl)
abbrev cX0_isLetter : ByteArray := prog_1_method_41_code
def yX0_isLetter : MethodName := ⟨RX0, "isLetter", "(I)Z"⟩
def dkwX0_isLetter_0 : List UInt8 := [26, 16, 97, 161, 0, 13, 26, 16, 122, 163, 0, 7, 4, 167, 0, 4, 3, 172]
abbrev dktX0_isLetter_0 : List UInt8 := dkwX0_isLetter_0 ++ []
theorem dksX0_isLetter_0 : cX0_isLetter.data.toList.drop 0 = dktX0_isLetter_0 := by decide +kernel
theorem dX0_isLetter_0 : decode cX0_isLetter 0 = .ok (.iload_n 0, 1) := dk_26 (dk_at dksX0_isLetter_0 0 rfl rfl)
theorem dX0_isLetter_1 : decode cX0_isLetter 1 = .ok (.bipush 97, 2) := dk_16 97 (dk_at dksX0_isLetter_0 1 rfl rfl)
theorem dX0_isLetter_3 : decode cX0_isLetter 3 = .ok (.if_icmp .lt 13, 3) := dk_161 0 13 (dk_at dksX0_isLetter_0 3 rfl rfl)
theorem dX0_isLetter_6 : decode cX0_isLetter 6 = .ok (.iload_n 0, 1) := dk_26 (dk_at dksX0_isLetter_0 6 rfl rfl)
theorem dX0_isLetter_7 : decode cX0_isLetter 7 = .ok (.bipush 122, 2) := dk_16 122 (dk_at dksX0_isLetter_0 7 rfl rfl)
theorem dX0_isLetter_9 : decode cX0_isLetter 9 = .ok (.if_icmp .gt 7, 3) := dk_163 0 7 (dk_at dksX0_isLetter_0 9 rfl rfl)
theorem dX0_isLetter_12 : decode cX0_isLetter 12 = .ok (.iconst 1, 1) := dk_4 (dk_at dksX0_isLetter_0 12 rfl rfl)
theorem dX0_isLetter_13 : decode cX0_isLetter 13 = .ok (.goto 4, 3) := dk_167 0 4 (dk_at dksX0_isLetter_0 13 rfl rfl)
theorem dX0_isLetter_16 : decode cX0_isLetter 16 = .ok (.iconst 0, 1) := dk_3 (dk_at dksX0_isLetter_0 16 rfl rfl)
theorem dX0_isLetter_17 : decode cX0_isLetter 17 = .ok (.ireturn, 1) := dk_172 (dk_at dksX0_isLetter_0 17 rfl rfl)
abbrev cX0_isDigit : ByteArray := prog_1_method_42_code
def yX0_isDigit : MethodName := ⟨RX0, "isDigit", "(I)Z"⟩
def dkwX0_isDigit_0 : List UInt8 := [26, 16, 48, 161, 0, 13, 26, 16, 57, 163, 0, 7, 4, 167, 0, 4, 3, 172]
abbrev dktX0_isDigit_0 : List UInt8 := dkwX0_isDigit_0 ++ []
theorem dksX0_isDigit_0 : cX0_isDigit.data.toList.drop 0 = dktX0_isDigit_0 := by decide +kernel
theorem dX0_isDigit_0 : decode cX0_isDigit 0 = .ok (.iload_n 0, 1) := dk_26 (dk_at dksX0_isDigit_0 0 rfl rfl)
theorem dX0_isDigit_1 : decode cX0_isDigit 1 = .ok (.bipush 48, 2) := dk_16 48 (dk_at dksX0_isDigit_0 1 rfl rfl)
theorem dX0_isDigit_3 : decode cX0_isDigit 3 = .ok (.if_icmp .lt 13, 3) := dk_161 0 13 (dk_at dksX0_isDigit_0 3 rfl rfl)
theorem dX0_isDigit_6 : decode cX0_isDigit 6 = .ok (.iload_n 0, 1) := dk_26 (dk_at dksX0_isDigit_0 6 rfl rfl)
theorem dX0_isDigit_7 : decode cX0_isDigit 7 = .ok (.bipush 57, 2) := dk_16 57 (dk_at dksX0_isDigit_0 7 rfl rfl)
theorem dX0_isDigit_9 : decode cX0_isDigit 9 = .ok (.if_icmp .gt 7, 3) := dk_163 0 7 (dk_at dksX0_isDigit_0 9 rfl rfl)
theorem dX0_isDigit_12 : decode cX0_isDigit 12 = .ok (.iconst 1, 1) := dk_4 (dk_at dksX0_isDigit_0 12 rfl rfl)
theorem dX0_isDigit_13 : decode cX0_isDigit 13 = .ok (.goto 4, 3) := dk_167 0 4 (dk_at dksX0_isDigit_0 13 rfl rfl)
theorem dX0_isDigit_16 : decode cX0_isDigit 16 = .ok (.iconst 0, 1) := dk_3 (dk_at dksX0_isDigit_0 16 rfl rfl)
theorem dX0_isDigit_17 : decode cX0_isDigit 17 = .ok (.ireturn, 1) := dk_172 (dk_at dksX0_isDigit_0 17 rfl rfl)
abbrev cX0_isWord : ByteArray := prog_1_method_45_code
def yX0_isWord : MethodName := ⟨RX0, "isWord", "(Ljava/lang/String;)Z"⟩
def dkwX0_isWord_3 : List UInt8 := [167, 255, 216, 28, 172]
abbrev dktX0_isWord_3 : List UInt8 := dkwX0_isWord_3 ++ []
def dkwX0_isWord_2 : List UInt8 := [42, 180, 1, 36, 29, 96, 51, 43, 29, 182, 1, 53, 160, 0, 7, 4, 167, 0, 4, 3, 61, 132, 3, 1]
abbrev dktX0_isWord_2 : List UInt8 := dkwX0_isWord_2 ++ dktX0_isWord_3
def dkwX0_isWord_1 : List UInt8 := [4, 167, 0, 4, 3, 61, 3, 62, 28, 153, 0, 42, 29, 43, 182, 1, 48, 162, 0, 34, 42, 180, 0, 71]
abbrev dktX0_isWord_1 : List UInt8 := dkwX0_isWord_1 ++ dktX0_isWord_2
def dkwX0_isWord_0 : List UInt8 := [42, 180, 1, 27, 4, 160, 0, 23, 42, 180, 1, 30, 42, 180, 1, 36, 100, 43, 182, 1, 48, 160, 0, 7]
abbrev dktX0_isWord_0 : List UInt8 := dkwX0_isWord_0 ++ dktX0_isWord_1
theorem dksX0_isWord_0 : cX0_isWord.data.toList.drop 0 = dktX0_isWord_0 := by decide +kernel
theorem dksX0_isWord_1 : cX0_isWord.data.toList.drop 24 = dktX0_isWord_1 := dk_seg dksX0_isWord_0 24 rfl rfl
theorem dksX0_isWord_2 : cX0_isWord.data.toList.drop 48 = dktX0_isWord_2 := dk_seg dksX0_isWord_1 24 rfl rfl
theorem dksX0_isWord_3 : cX0_isWord.data.toList.drop 72 = dktX0_isWord_3 := dk_seg dksX0_isWord_2 24 rfl rfl
theorem dX0_isWord_0 : decode cX0_isWord 0 = .ok (.aload_n 0, 1) := dk_42 (dk_at dksX0_isWord_0 0 rfl rfl)
theorem dX0_isWord_1 : decode cX0_isWord 1 = .ok (.getfield 283, 3) := dk_180 1 27 (dk_at dksX0_isWord_0 1 rfl rfl)
theorem dX0_isWord_4 : decode cX0_isWord 4 = .ok (.iconst 1, 1) := dk_4 (dk_at dksX0_isWord_0 4 rfl rfl)
theorem dX0_isWord_5 : decode cX0_isWord 5 = .ok (.if_icmp .ne 23, 3) := dk_160 0 23 (dk_at dksX0_isWord_0 5 rfl rfl)
theorem dX0_isWord_8 : decode cX0_isWord 8 = .ok (.aload_n 0, 1) := dk_42 (dk_at dksX0_isWord_0 8 rfl rfl)
theorem dX0_isWord_9 : decode cX0_isWord 9 = .ok (.getfield 286, 3) := dk_180 1 30 (dk_at dksX0_isWord_0 9 rfl rfl)
theorem dX0_isWord_12 : decode cX0_isWord 12 = .ok (.aload_n 0, 1) := dk_42 (dk_at dksX0_isWord_0 12 rfl rfl)
theorem dX0_isWord_13 : decode cX0_isWord 13 = .ok (.getfield 292, 3) := dk_180 1 36 (dk_at dksX0_isWord_0 13 rfl rfl)
theorem dX0_isWord_16 : decode cX0_isWord 16 = .ok (.isub, 1) := dk_100 (dk_at dksX0_isWord_0 16 rfl rfl)
theorem dX0_isWord_17 : decode cX0_isWord 17 = .ok (.aload_n 1, 1) := dk_43 (dk_at dksX0_isWord_0 17 rfl rfl)
theorem dX0_isWord_18 : decode cX0_isWord 18 = .ok (.invokevirtual 304, 3) := dk_182 1 48 (dk_at dksX0_isWord_0 18 rfl rfl)
theorem dX0_isWord_21 : decode cX0_isWord 21 = .ok (.if_icmp .ne 7, 3) := dk_160 0 7 (dk_at dksX0_isWord_0 21 rfl rfl)
theorem dX0_isWord_24 : decode cX0_isWord 24 = .ok (.iconst 1, 1) := dk_4 (dk_at dksX0_isWord_1 0 rfl rfl)
theorem dX0_isWord_25 : decode cX0_isWord 25 = .ok (.goto 4, 3) := dk_167 0 4 (dk_at dksX0_isWord_1 1 rfl rfl)
theorem dX0_isWord_28 : decode cX0_isWord 28 = .ok (.iconst 0, 1) := dk_3 (dk_at dksX0_isWord_1 4 rfl rfl)
theorem dX0_isWord_29 : decode cX0_isWord 29 = .ok (.istore_n 2, 1) := dk_61 (dk_at dksX0_isWord_1 5 rfl rfl)
theorem dX0_isWord_30 : decode cX0_isWord 30 = .ok (.iconst 0, 1) := dk_3 (dk_at dksX0_isWord_1 6 rfl rfl)
theorem dX0_isWord_31 : decode cX0_isWord 31 = .ok (.istore_n 3, 1) := dk_62 (dk_at dksX0_isWord_1 7 rfl rfl)
theorem dX0_isWord_32 : decode cX0_isWord 32 = .ok (.iload_n 2, 1) := dk_28 (dk_at dksX0_isWord_1 8 rfl rfl)
theorem dX0_isWord_33 : decode cX0_isWord 33 = .ok (.ifCond .eq 42, 3) := dk_153 0 42 (dk_at dksX0_isWord_1 9 rfl rfl)
theorem dX0_isWord_36 : decode cX0_isWord 36 = .ok (.iload_n 3, 1) := dk_29 (dk_at dksX0_isWord_1 12 rfl rfl)
theorem dX0_isWord_37 : decode cX0_isWord 37 = .ok (.aload_n 1, 1) := dk_43 (dk_at dksX0_isWord_1 13 rfl rfl)
theorem dX0_isWord_38 : decode cX0_isWord 38 = .ok (.invokevirtual 304, 3) := dk_182 1 48 (dk_at dksX0_isWord_1 14 rfl rfl)
theorem dX0_isWord_41 : decode cX0_isWord 41 = .ok (.if_icmp .ge 34, 3) := dk_162 0 34 (dk_at dksX0_isWord_1 17 rfl rfl)
theorem dX0_isWord_44 : decode cX0_isWord 44 = .ok (.aload_n 0, 1) := dk_42 (dk_at dksX0_isWord_1 20 rfl rfl)
theorem dX0_isWord_45 : decode cX0_isWord 45 = .ok (.getfield 71, 3) := dk_180 0 71 (dk_at dksX0_isWord_1 21 rfl rfl)
theorem dX0_isWord_48 : decode cX0_isWord 48 = .ok (.aload_n 0, 1) := dk_42 (dk_at dksX0_isWord_2 0 rfl rfl)
theorem dX0_isWord_49 : decode cX0_isWord 49 = .ok (.getfield 292, 3) := dk_180 1 36 (dk_at dksX0_isWord_2 1 rfl rfl)
theorem dX0_isWord_52 : decode cX0_isWord 52 = .ok (.iload_n 3, 1) := dk_29 (dk_at dksX0_isWord_2 4 rfl rfl)
theorem dX0_isWord_53 : decode cX0_isWord 53 = .ok (.iadd, 1) := dk_96 (dk_at dksX0_isWord_2 5 rfl rfl)
theorem dX0_isWord_54 : decode cX0_isWord 54 = .ok (.baload, 1) := dk_51 (dk_at dksX0_isWord_2 6 rfl rfl)
theorem dX0_isWord_55 : decode cX0_isWord 55 = .ok (.aload_n 1, 1) := dk_43 (dk_at dksX0_isWord_2 7 rfl rfl)
theorem dX0_isWord_56 : decode cX0_isWord 56 = .ok (.iload_n 3, 1) := dk_29 (dk_at dksX0_isWord_2 8 rfl rfl)
theorem dX0_isWord_57 : decode cX0_isWord 57 = .ok (.invokevirtual 309, 3) := dk_182 1 53 (dk_at dksX0_isWord_2 9 rfl rfl)
theorem dX0_isWord_60 : decode cX0_isWord 60 = .ok (.if_icmp .ne 7, 3) := dk_160 0 7 (dk_at dksX0_isWord_2 12 rfl rfl)
theorem dX0_isWord_63 : decode cX0_isWord 63 = .ok (.iconst 1, 1) := dk_4 (dk_at dksX0_isWord_2 15 rfl rfl)
theorem dX0_isWord_64 : decode cX0_isWord 64 = .ok (.goto 4, 3) := dk_167 0 4 (dk_at dksX0_isWord_2 16 rfl rfl)
theorem dX0_isWord_67 : decode cX0_isWord 67 = .ok (.iconst 0, 1) := dk_3 (dk_at dksX0_isWord_2 19 rfl rfl)
theorem dX0_isWord_68 : decode cX0_isWord 68 = .ok (.istore_n 2, 1) := dk_61 (dk_at dksX0_isWord_2 20 rfl rfl)
theorem dX0_isWord_69 : decode cX0_isWord 69 = .ok (.iinc 3 1, 3) := dk_132 3 1 (dk_at dksX0_isWord_2 21 rfl rfl)
theorem dX0_isWord_72 : decode cX0_isWord 72 = .ok (.goto (-40), 3) := dk_167 255 216 (dk_at dksX0_isWord_3 0 rfl rfl)
theorem dX0_isWord_75 : decode cX0_isWord 75 = .ok (.iload_n 2, 1) := dk_28 (dk_at dksX0_isWord_3 3 rfl rfl)
theorem dX0_isWord_76 : decode cX0_isWord 76 = .ok (.ireturn, 1) := dk_172 (dk_at dksX0_isWord_3 4 rfl rfl)
abbrev cX0_must : ByteArray := prog_1_method_47_code
def yX0_must : MethodName := ⟨RX0, "must", "(Z)V"⟩
def dkwX0_must_0 : List UInt8 := [27, 154, 0, 15, 187, 1, 57, 89, 42, 180, 1, 36, 183, 1, 59, 191, 177]
abbrev dktX0_must_0 : List UInt8 := dkwX0_must_0 ++ []
theorem dksX0_must_0 : cX0_must.data.toList.drop 0 = dktX0_must_0 := by decide +kernel
theorem dX0_must_0 : decode cX0_must 0 = .ok (.iload_n 1, 1) := dk_27 (dk_at dksX0_must_0 0 rfl rfl)
theorem dX0_must_1 : decode cX0_must 1 = .ok (.ifCond .ne 15, 3) := dk_154 0 15 (dk_at dksX0_must_0 1 rfl rfl)
theorem dX0_must_4 : decode cX0_must 4 = .ok (.new 313, 3) := dk_187 1 57 (dk_at dksX0_must_0 4 rfl rfl)
theorem dX0_must_7 : decode cX0_must 7 = .ok (.dup, 1) := dk_89 (dk_at dksX0_must_0 7 rfl rfl)
theorem dX0_must_8 : decode cX0_must 8 = .ok (.aload_n 0, 1) := dk_42 (dk_at dksX0_must_0 8 rfl rfl)
theorem dX0_must_9 : decode cX0_must 9 = .ok (.getfield 292, 3) := dk_180 1 36 (dk_at dksX0_must_0 9 rfl rfl)
theorem dX0_must_12 : decode cX0_must 12 = .ok (.invokespecial 315, 3) := dk_183 1 59 (dk_at dksX0_must_0 12 rfl rfl)
theorem dX0_must_15 : decode cX0_must 15 = .ok (.athrow, 1) := dk_191 (dk_at dksX0_must_0 15 rfl rfl)
theorem dX0_must_16 : decode cX0_must 16 = .ok (.return_, 1) := dk_177 (dk_at dksX0_must_0 16 rfl rfl)
abbrev cX0_either : ByteArray := prog_1_method_48_code
def yX0_either : MethodName := ⟨RX0, "either", "()LLevelCellars$Worth;"⟩
def dkwX0_either_1 : List UInt8 := [43, 42, 182, 1, 62, 183, 1, 73, 76, 167, 255, 228, 43, 176]
abbrev dktX0_either_1 : List UInt8 := dkwX0_either_1 ++ []
def dkwX0_either_0 : List UInt8 := [42, 182, 1, 62, 76, 42, 16, 124, 182, 1, 66, 153, 0, 25, 42, 182, 1, 69, 187, 1, 71, 89, 16, 124]
abbrev dktX0_either_0 : List UInt8 := dkwX0_either_0 ++ dktX0_either_1
theorem dksX0_either_0 : cX0_either.data.toList.drop 0 = dktX0_either_0 := by decide +kernel
theorem dksX0_either_1 : cX0_either.data.toList.drop 24 = dktX0_either_1 := dk_seg dksX0_either_0 24 rfl rfl
theorem dX0_either_0 : decode cX0_either 0 = .ok (.aload_n 0, 1) := dk_42 (dk_at dksX0_either_0 0 rfl rfl)
theorem dX0_either_1 : decode cX0_either 1 = .ok (.invokevirtual 318, 3) := dk_182 1 62 (dk_at dksX0_either_0 1 rfl rfl)
theorem dX0_either_4 : decode cX0_either 4 = .ok (.astore_n 1, 1) := dk_76 (dk_at dksX0_either_0 4 rfl rfl)
theorem dX0_either_5 : decode cX0_either 5 = .ok (.aload_n 0, 1) := dk_42 (dk_at dksX0_either_0 5 rfl rfl)
theorem dX0_either_6 : decode cX0_either 6 = .ok (.bipush 124, 2) := dk_16 124 (dk_at dksX0_either_0 6 rfl rfl)
theorem dX0_either_8 : decode cX0_either 8 = .ok (.invokevirtual 322, 3) := dk_182 1 66 (dk_at dksX0_either_0 8 rfl rfl)
theorem dX0_either_11 : decode cX0_either 11 = .ok (.ifCond .eq 25, 3) := dk_153 0 25 (dk_at dksX0_either_0 11 rfl rfl)
theorem dX0_either_14 : decode cX0_either 14 = .ok (.aload_n 0, 1) := dk_42 (dk_at dksX0_either_0 14 rfl rfl)
theorem dX0_either_15 : decode cX0_either 15 = .ok (.invokevirtual 325, 3) := dk_182 1 69 (dk_at dksX0_either_0 15 rfl rfl)
theorem dX0_either_18 : decode cX0_either 18 = .ok (.new 327, 3) := dk_187 1 71 (dk_at dksX0_either_0 18 rfl rfl)
theorem dX0_either_21 : decode cX0_either 21 = .ok (.dup, 1) := dk_89 (dk_at dksX0_either_0 21 rfl rfl)
theorem dX0_either_22 : decode cX0_either 22 = .ok (.bipush 124, 2) := dk_16 124 (dk_at dksX0_either_0 22 rfl rfl)
theorem dX0_either_24 : decode cX0_either 24 = .ok (.aload_n 1, 1) := dk_43 (dk_at dksX0_either_1 0 rfl rfl)
theorem dX0_either_25 : decode cX0_either 25 = .ok (.aload_n 0, 1) := dk_42 (dk_at dksX0_either_1 1 rfl rfl)
theorem dX0_either_26 : decode cX0_either 26 = .ok (.invokevirtual 318, 3) := dk_182 1 62 (dk_at dksX0_either_1 2 rfl rfl)
theorem dX0_either_29 : decode cX0_either 29 = .ok (.invokespecial 329, 3) := dk_183 1 73 (dk_at dksX0_either_1 5 rfl rfl)
theorem dX0_either_32 : decode cX0_either 32 = .ok (.astore_n 1, 1) := dk_76 (dk_at dksX0_either_1 8 rfl rfl)
theorem dX0_either_33 : decode cX0_either 33 = .ok (.goto (-28), 3) := dk_167 255 228 (dk_at dksX0_either_1 9 rfl rfl)
theorem dX0_either_36 : decode cX0_either 36 = .ok (.aload_n 1, 1) := dk_43 (dk_at dksX0_either_1 12 rfl rfl)
theorem dX0_either_37 : decode cX0_either 37 = .ok (.areturn, 1) := dk_176 (dk_at dksX0_either_1 13 rfl rfl)
abbrev cX0_both : ByteArray := prog_1_method_49_code
def yX0_both : MethodName := ⟨RX0, "both", "()LLevelCellars$Worth;"⟩
def dkwX0_both_1 : List UInt8 := [43, 42, 182, 1, 76, 183, 1, 73, 76, 167, 255, 228, 43, 176]
abbrev dktX0_both_1 : List UInt8 := dkwX0_both_1 ++ []
def dkwX0_both_0 : List UInt8 := [42, 182, 1, 76, 76, 42, 16, 38, 182, 1, 66, 153, 0, 25, 42, 182, 1, 69, 187, 1, 71, 89, 16, 38]
abbrev dktX0_both_0 : List UInt8 := dkwX0_both_0 ++ dktX0_both_1
theorem dksX0_both_0 : cX0_both.data.toList.drop 0 = dktX0_both_0 := by decide +kernel
theorem dksX0_both_1 : cX0_both.data.toList.drop 24 = dktX0_both_1 := dk_seg dksX0_both_0 24 rfl rfl
theorem dX0_both_0 : decode cX0_both 0 = .ok (.aload_n 0, 1) := dk_42 (dk_at dksX0_both_0 0 rfl rfl)
theorem dX0_both_1 : decode cX0_both 1 = .ok (.invokevirtual 332, 3) := dk_182 1 76 (dk_at dksX0_both_0 1 rfl rfl)
theorem dX0_both_4 : decode cX0_both 4 = .ok (.astore_n 1, 1) := dk_76 (dk_at dksX0_both_0 4 rfl rfl)
theorem dX0_both_5 : decode cX0_both 5 = .ok (.aload_n 0, 1) := dk_42 (dk_at dksX0_both_0 5 rfl rfl)
theorem dX0_both_6 : decode cX0_both 6 = .ok (.bipush 38, 2) := dk_16 38 (dk_at dksX0_both_0 6 rfl rfl)
theorem dX0_both_8 : decode cX0_both 8 = .ok (.invokevirtual 322, 3) := dk_182 1 66 (dk_at dksX0_both_0 8 rfl rfl)
theorem dX0_both_11 : decode cX0_both 11 = .ok (.ifCond .eq 25, 3) := dk_153 0 25 (dk_at dksX0_both_0 11 rfl rfl)
theorem dX0_both_14 : decode cX0_both 14 = .ok (.aload_n 0, 1) := dk_42 (dk_at dksX0_both_0 14 rfl rfl)
theorem dX0_both_15 : decode cX0_both 15 = .ok (.invokevirtual 325, 3) := dk_182 1 69 (dk_at dksX0_both_0 15 rfl rfl)
theorem dX0_both_18 : decode cX0_both 18 = .ok (.new 327, 3) := dk_187 1 71 (dk_at dksX0_both_0 18 rfl rfl)
theorem dX0_both_21 : decode cX0_both 21 = .ok (.dup, 1) := dk_89 (dk_at dksX0_both_0 21 rfl rfl)
theorem dX0_both_22 : decode cX0_both 22 = .ok (.bipush 38, 2) := dk_16 38 (dk_at dksX0_both_0 22 rfl rfl)
theorem dX0_both_24 : decode cX0_both 24 = .ok (.aload_n 1, 1) := dk_43 (dk_at dksX0_both_1 0 rfl rfl)
theorem dX0_both_25 : decode cX0_both 25 = .ok (.aload_n 0, 1) := dk_42 (dk_at dksX0_both_1 1 rfl rfl)
theorem dX0_both_26 : decode cX0_both 26 = .ok (.invokevirtual 332, 3) := dk_182 1 76 (dk_at dksX0_both_1 2 rfl rfl)
theorem dX0_both_29 : decode cX0_both 29 = .ok (.invokespecial 329, 3) := dk_183 1 73 (dk_at dksX0_both_1 5 rfl rfl)
theorem dX0_both_32 : decode cX0_both 32 = .ok (.astore_n 1, 1) := dk_76 (dk_at dksX0_both_1 8 rfl rfl)
theorem dX0_both_33 : decode cX0_both 33 = .ok (.goto (-28), 3) := dk_167 255 228 (dk_at dksX0_both_1 9 rfl rfl)
theorem dX0_both_36 : decode cX0_both 36 = .ok (.aload_n 1, 1) := dk_43 (dk_at dksX0_both_1 12 rfl rfl)
theorem dX0_both_37 : decode cX0_both 37 = .ok (.areturn, 1) := dk_176 (dk_at dksX0_both_1 13 rfl rfl)
abbrev cX0_test : ByteArray := prog_1_method_50_code
def yX0_test : MethodName := ⟨RX0, "test", "()LLevelCellars$Worth;"⟩
def dkwX0_test_2 : List UInt8 := [182, 1, 79, 183, 1, 73, 76, 43, 176]
abbrev dktX0_test_2 : List UInt8 := dkwX0_test_2 ++ []
def dkwX0_test_1 : List UInt8 := [16, 62, 182, 1, 66, 153, 0, 26, 42, 180, 1, 45, 61, 42, 182, 1, 69, 187, 1, 71, 89, 28, 43, 42]
abbrev dktX0_test_1 : List UInt8 := dkwX0_test_1 ++ dktX0_test_2
def dkwX0_test_0 : List UInt8 := [42, 182, 1, 79, 76, 42, 16, 60, 182, 1, 66, 154, 0, 21, 42, 16, 61, 182, 1, 66, 154, 0, 12, 42]
abbrev dktX0_test_0 : List UInt8 := dkwX0_test_0 ++ dktX0_test_1
theorem dksX0_test_0 : cX0_test.data.toList.drop 0 = dktX0_test_0 := by decide +kernel
theorem dksX0_test_1 : cX0_test.data.toList.drop 24 = dktX0_test_1 := dk_seg dksX0_test_0 24 rfl rfl
theorem dksX0_test_2 : cX0_test.data.toList.drop 48 = dktX0_test_2 := dk_seg dksX0_test_1 24 rfl rfl
theorem dX0_test_0 : decode cX0_test 0 = .ok (.aload_n 0, 1) := dk_42 (dk_at dksX0_test_0 0 rfl rfl)
theorem dX0_test_1 : decode cX0_test 1 = .ok (.invokevirtual 335, 3) := dk_182 1 79 (dk_at dksX0_test_0 1 rfl rfl)
theorem dX0_test_4 : decode cX0_test 4 = .ok (.astore_n 1, 1) := dk_76 (dk_at dksX0_test_0 4 rfl rfl)
theorem dX0_test_5 : decode cX0_test 5 = .ok (.aload_n 0, 1) := dk_42 (dk_at dksX0_test_0 5 rfl rfl)
theorem dX0_test_6 : decode cX0_test 6 = .ok (.bipush 60, 2) := dk_16 60 (dk_at dksX0_test_0 6 rfl rfl)
theorem dX0_test_8 : decode cX0_test 8 = .ok (.invokevirtual 322, 3) := dk_182 1 66 (dk_at dksX0_test_0 8 rfl rfl)
theorem dX0_test_11 : decode cX0_test 11 = .ok (.ifCond .ne 21, 3) := dk_154 0 21 (dk_at dksX0_test_0 11 rfl rfl)
theorem dX0_test_14 : decode cX0_test 14 = .ok (.aload_n 0, 1) := dk_42 (dk_at dksX0_test_0 14 rfl rfl)
theorem dX0_test_15 : decode cX0_test 15 = .ok (.bipush 61, 2) := dk_16 61 (dk_at dksX0_test_0 15 rfl rfl)
theorem dX0_test_17 : decode cX0_test 17 = .ok (.invokevirtual 322, 3) := dk_182 1 66 (dk_at dksX0_test_0 17 rfl rfl)
theorem dX0_test_20 : decode cX0_test 20 = .ok (.ifCond .ne 12, 3) := dk_154 0 12 (dk_at dksX0_test_0 20 rfl rfl)
theorem dX0_test_23 : decode cX0_test 23 = .ok (.aload_n 0, 1) := dk_42 (dk_at dksX0_test_0 23 rfl rfl)
theorem dX0_test_24 : decode cX0_test 24 = .ok (.bipush 62, 2) := dk_16 62 (dk_at dksX0_test_1 0 rfl rfl)
theorem dX0_test_26 : decode cX0_test 26 = .ok (.invokevirtual 322, 3) := dk_182 1 66 (dk_at dksX0_test_1 2 rfl rfl)
theorem dX0_test_29 : decode cX0_test 29 = .ok (.ifCond .eq 26, 3) := dk_153 0 26 (dk_at dksX0_test_1 5 rfl rfl)
theorem dX0_test_32 : decode cX0_test 32 = .ok (.aload_n 0, 1) := dk_42 (dk_at dksX0_test_1 8 rfl rfl)
theorem dX0_test_33 : decode cX0_test 33 = .ok (.getfield 301, 3) := dk_180 1 45 (dk_at dksX0_test_1 9 rfl rfl)
theorem dX0_test_36 : decode cX0_test 36 = .ok (.istore_n 2, 1) := dk_61 (dk_at dksX0_test_1 12 rfl rfl)
theorem dX0_test_37 : decode cX0_test 37 = .ok (.aload_n 0, 1) := dk_42 (dk_at dksX0_test_1 13 rfl rfl)
theorem dX0_test_38 : decode cX0_test 38 = .ok (.invokevirtual 325, 3) := dk_182 1 69 (dk_at dksX0_test_1 14 rfl rfl)
theorem dX0_test_41 : decode cX0_test 41 = .ok (.new 327, 3) := dk_187 1 71 (dk_at dksX0_test_1 17 rfl rfl)
theorem dX0_test_44 : decode cX0_test 44 = .ok (.dup, 1) := dk_89 (dk_at dksX0_test_1 20 rfl rfl)
theorem dX0_test_45 : decode cX0_test 45 = .ok (.iload_n 2, 1) := dk_28 (dk_at dksX0_test_1 21 rfl rfl)
theorem dX0_test_46 : decode cX0_test 46 = .ok (.aload_n 1, 1) := dk_43 (dk_at dksX0_test_1 22 rfl rfl)
theorem dX0_test_47 : decode cX0_test 47 = .ok (.aload_n 0, 1) := dk_42 (dk_at dksX0_test_1 23 rfl rfl)
theorem dX0_test_48 : decode cX0_test 48 = .ok (.invokevirtual 335, 3) := dk_182 1 79 (dk_at dksX0_test_2 0 rfl rfl)
theorem dX0_test_51 : decode cX0_test 51 = .ok (.invokespecial 329, 3) := dk_183 1 73 (dk_at dksX0_test_2 3 rfl rfl)
theorem dX0_test_54 : decode cX0_test 54 = .ok (.astore_n 1, 1) := dk_76 (dk_at dksX0_test_2 6 rfl rfl)
theorem dX0_test_55 : decode cX0_test 55 = .ok (.aload_n 1, 1) := dk_43 (dk_at dksX0_test_2 7 rfl rfl)
theorem dX0_test_56 : decode cX0_test 56 = .ok (.areturn, 1) := dk_176 (dk_at dksX0_test_2 8 rfl rfl)
abbrev cX0_plus : ByteArray := prog_1_method_51_code
def yX0_plus : MethodName := ⟨RX0, "plus", "()LLevelCellars$Worth;"⟩
def dkwX0_plus_2 : List UInt8 := [167, 255, 215, 43, 176]
abbrev dktX0_plus_2 : List UInt8 := dkwX0_plus_2 ++ []
def dkwX0_plus_1 : List UInt8 := [180, 1, 45, 61, 42, 182, 1, 69, 187, 1, 71, 89, 28, 43, 42, 182, 1, 82, 183, 1, 73, 76]
abbrev dktX0_plus_1 : List UInt8 := dkwX0_plus_1 ++ dktX0_plus_2
def dkwX0_plus_0 : List UInt8 := [42, 182, 1, 82, 76, 42, 16, 43, 182, 1, 66, 154, 0, 12, 42, 16, 45, 182, 1, 66, 153, 0, 29, 42]
abbrev dktX0_plus_0 : List UInt8 := dkwX0_plus_0 ++ dktX0_plus_1
theorem dksX0_plus_0 : cX0_plus.data.toList.drop 0 = dktX0_plus_0 := by decide +kernel
theorem dksX0_plus_1 : cX0_plus.data.toList.drop 24 = dktX0_plus_1 := dk_seg dksX0_plus_0 24 rfl rfl
theorem dksX0_plus_2 : cX0_plus.data.toList.drop 46 = dktX0_plus_2 := dk_seg dksX0_plus_1 22 rfl rfl
theorem dX0_plus_0 : decode cX0_plus 0 = .ok (.aload_n 0, 1) := dk_42 (dk_at dksX0_plus_0 0 rfl rfl)
theorem dX0_plus_1 : decode cX0_plus 1 = .ok (.invokevirtual 338, 3) := dk_182 1 82 (dk_at dksX0_plus_0 1 rfl rfl)
theorem dX0_plus_4 : decode cX0_plus 4 = .ok (.astore_n 1, 1) := dk_76 (dk_at dksX0_plus_0 4 rfl rfl)
theorem dX0_plus_5 : decode cX0_plus 5 = .ok (.aload_n 0, 1) := dk_42 (dk_at dksX0_plus_0 5 rfl rfl)
theorem dX0_plus_6 : decode cX0_plus 6 = .ok (.bipush 43, 2) := dk_16 43 (dk_at dksX0_plus_0 6 rfl rfl)
theorem dX0_plus_8 : decode cX0_plus 8 = .ok (.invokevirtual 322, 3) := dk_182 1 66 (dk_at dksX0_plus_0 8 rfl rfl)
theorem dX0_plus_11 : decode cX0_plus 11 = .ok (.ifCond .ne 12, 3) := dk_154 0 12 (dk_at dksX0_plus_0 11 rfl rfl)
theorem dX0_plus_14 : decode cX0_plus 14 = .ok (.aload_n 0, 1) := dk_42 (dk_at dksX0_plus_0 14 rfl rfl)
theorem dX0_plus_15 : decode cX0_plus 15 = .ok (.bipush 45, 2) := dk_16 45 (dk_at dksX0_plus_0 15 rfl rfl)
theorem dX0_plus_17 : decode cX0_plus 17 = .ok (.invokevirtual 322, 3) := dk_182 1 66 (dk_at dksX0_plus_0 17 rfl rfl)
theorem dX0_plus_20 : decode cX0_plus 20 = .ok (.ifCond .eq 29, 3) := dk_153 0 29 (dk_at dksX0_plus_0 20 rfl rfl)
theorem dX0_plus_23 : decode cX0_plus 23 = .ok (.aload_n 0, 1) := dk_42 (dk_at dksX0_plus_0 23 rfl rfl)
theorem dX0_plus_24 : decode cX0_plus 24 = .ok (.getfield 301, 3) := dk_180 1 45 (dk_at dksX0_plus_1 0 rfl rfl)
theorem dX0_plus_27 : decode cX0_plus 27 = .ok (.istore_n 2, 1) := dk_61 (dk_at dksX0_plus_1 3 rfl rfl)
theorem dX0_plus_28 : decode cX0_plus 28 = .ok (.aload_n 0, 1) := dk_42 (dk_at dksX0_plus_1 4 rfl rfl)
theorem dX0_plus_29 : decode cX0_plus 29 = .ok (.invokevirtual 325, 3) := dk_182 1 69 (dk_at dksX0_plus_1 5 rfl rfl)
theorem dX0_plus_32 : decode cX0_plus 32 = .ok (.new 327, 3) := dk_187 1 71 (dk_at dksX0_plus_1 8 rfl rfl)
theorem dX0_plus_35 : decode cX0_plus 35 = .ok (.dup, 1) := dk_89 (dk_at dksX0_plus_1 11 rfl rfl)
theorem dX0_plus_36 : decode cX0_plus 36 = .ok (.iload_n 2, 1) := dk_28 (dk_at dksX0_plus_1 12 rfl rfl)
theorem dX0_plus_37 : decode cX0_plus 37 = .ok (.aload_n 1, 1) := dk_43 (dk_at dksX0_plus_1 13 rfl rfl)
theorem dX0_plus_38 : decode cX0_plus 38 = .ok (.aload_n 0, 1) := dk_42 (dk_at dksX0_plus_1 14 rfl rfl)
theorem dX0_plus_39 : decode cX0_plus 39 = .ok (.invokevirtual 338, 3) := dk_182 1 82 (dk_at dksX0_plus_1 15 rfl rfl)
theorem dX0_plus_42 : decode cX0_plus 42 = .ok (.invokespecial 329, 3) := dk_183 1 73 (dk_at dksX0_plus_1 18 rfl rfl)
theorem dX0_plus_45 : decode cX0_plus 45 = .ok (.astore_n 1, 1) := dk_76 (dk_at dksX0_plus_1 21 rfl rfl)
theorem dX0_plus_46 : decode cX0_plus 46 = .ok (.goto (-41), 3) := dk_167 255 215 (dk_at dksX0_plus_2 0 rfl rfl)
theorem dX0_plus_49 : decode cX0_plus 49 = .ok (.aload_n 1, 1) := dk_43 (dk_at dksX0_plus_2 3 rfl rfl)
theorem dX0_plus_50 : decode cX0_plus 50 = .ok (.areturn, 1) := dk_176 (dk_at dksX0_plus_2 4 rfl rfl)
abbrev cX0_times : ByteArray := prog_1_method_52_code
def yX0_times : MethodName := ⟨RX0, "times", "()LLevelCellars$Worth;"⟩
def dkwX0_times_2 : List UInt8 := [167, 255, 215, 43, 176]
abbrev dktX0_times_2 : List UInt8 := dkwX0_times_2 ++ []
def dkwX0_times_1 : List UInt8 := [180, 1, 45, 61, 42, 182, 1, 69, 187, 1, 71, 89, 28, 43, 42, 182, 1, 85, 183, 1, 73, 76]
abbrev dktX0_times_1 : List UInt8 := dkwX0_times_1 ++ dktX0_times_2
def dkwX0_times_0 : List UInt8 := [42, 182, 1, 85, 76, 42, 16, 42, 182, 1, 66, 154, 0, 12, 42, 16, 47, 182, 1, 66, 153, 0, 29, 42]
abbrev dktX0_times_0 : List UInt8 := dkwX0_times_0 ++ dktX0_times_1
theorem dksX0_times_0 : cX0_times.data.toList.drop 0 = dktX0_times_0 := by decide +kernel
theorem dksX0_times_1 : cX0_times.data.toList.drop 24 = dktX0_times_1 := dk_seg dksX0_times_0 24 rfl rfl
theorem dksX0_times_2 : cX0_times.data.toList.drop 46 = dktX0_times_2 := dk_seg dksX0_times_1 22 rfl rfl
theorem dX0_times_0 : decode cX0_times 0 = .ok (.aload_n 0, 1) := dk_42 (dk_at dksX0_times_0 0 rfl rfl)
theorem dX0_times_1 : decode cX0_times 1 = .ok (.invokevirtual 341, 3) := dk_182 1 85 (dk_at dksX0_times_0 1 rfl rfl)
theorem dX0_times_4 : decode cX0_times 4 = .ok (.astore_n 1, 1) := dk_76 (dk_at dksX0_times_0 4 rfl rfl)
theorem dX0_times_5 : decode cX0_times 5 = .ok (.aload_n 0, 1) := dk_42 (dk_at dksX0_times_0 5 rfl rfl)
theorem dX0_times_6 : decode cX0_times 6 = .ok (.bipush 42, 2) := dk_16 42 (dk_at dksX0_times_0 6 rfl rfl)
theorem dX0_times_8 : decode cX0_times 8 = .ok (.invokevirtual 322, 3) := dk_182 1 66 (dk_at dksX0_times_0 8 rfl rfl)
theorem dX0_times_11 : decode cX0_times 11 = .ok (.ifCond .ne 12, 3) := dk_154 0 12 (dk_at dksX0_times_0 11 rfl rfl)
theorem dX0_times_14 : decode cX0_times 14 = .ok (.aload_n 0, 1) := dk_42 (dk_at dksX0_times_0 14 rfl rfl)
theorem dX0_times_15 : decode cX0_times 15 = .ok (.bipush 47, 2) := dk_16 47 (dk_at dksX0_times_0 15 rfl rfl)
theorem dX0_times_17 : decode cX0_times 17 = .ok (.invokevirtual 322, 3) := dk_182 1 66 (dk_at dksX0_times_0 17 rfl rfl)
theorem dX0_times_20 : decode cX0_times 20 = .ok (.ifCond .eq 29, 3) := dk_153 0 29 (dk_at dksX0_times_0 20 rfl rfl)
theorem dX0_times_23 : decode cX0_times 23 = .ok (.aload_n 0, 1) := dk_42 (dk_at dksX0_times_0 23 rfl rfl)
theorem dX0_times_24 : decode cX0_times 24 = .ok (.getfield 301, 3) := dk_180 1 45 (dk_at dksX0_times_1 0 rfl rfl)
theorem dX0_times_27 : decode cX0_times 27 = .ok (.istore_n 2, 1) := dk_61 (dk_at dksX0_times_1 3 rfl rfl)
theorem dX0_times_28 : decode cX0_times 28 = .ok (.aload_n 0, 1) := dk_42 (dk_at dksX0_times_1 4 rfl rfl)
theorem dX0_times_29 : decode cX0_times 29 = .ok (.invokevirtual 325, 3) := dk_182 1 69 (dk_at dksX0_times_1 5 rfl rfl)
theorem dX0_times_32 : decode cX0_times 32 = .ok (.new 327, 3) := dk_187 1 71 (dk_at dksX0_times_1 8 rfl rfl)
theorem dX0_times_35 : decode cX0_times 35 = .ok (.dup, 1) := dk_89 (dk_at dksX0_times_1 11 rfl rfl)
theorem dX0_times_36 : decode cX0_times 36 = .ok (.iload_n 2, 1) := dk_28 (dk_at dksX0_times_1 12 rfl rfl)
theorem dX0_times_37 : decode cX0_times 37 = .ok (.aload_n 1, 1) := dk_43 (dk_at dksX0_times_1 13 rfl rfl)
theorem dX0_times_38 : decode cX0_times 38 = .ok (.aload_n 0, 1) := dk_42 (dk_at dksX0_times_1 14 rfl rfl)
theorem dX0_times_39 : decode cX0_times 39 = .ok (.invokevirtual 341, 3) := dk_182 1 85 (dk_at dksX0_times_1 15 rfl rfl)
theorem dX0_times_42 : decode cX0_times 42 = .ok (.invokespecial 329, 3) := dk_183 1 73 (dk_at dksX0_times_1 18 rfl rfl)
theorem dX0_times_45 : decode cX0_times 45 = .ok (.astore_n 1, 1) := dk_76 (dk_at dksX0_times_1 21 rfl rfl)
theorem dX0_times_46 : decode cX0_times 46 = .ok (.goto (-41), 3) := dk_167 255 215 (dk_at dksX0_times_2 0 rfl rfl)
theorem dX0_times_49 : decode cX0_times 49 = .ok (.aload_n 1, 1) := dk_43 (dk_at dksX0_times_2 3 rfl rfl)
theorem dX0_times_50 : decode cX0_times 50 = .ok (.areturn, 1) := dk_176 (dk_at dksX0_times_2 4 rfl rfl)
abbrev cX0_part : ByteArray := prog_1_method_54_code
def yX0_part : MethodName := ⟨RX0, "part", "()LLevelCellars$Worth;"⟩
def dkwX0_part_8 : List UInt8 := [182, 1, 66, 182, 1, 109, 42, 89, 180, 1, 118, 4, 100, 181, 1, 118, 42, 182, 1, 69, 44, 176]
abbrev dktX0_part_8 : List UInt8 := dkwX0_part_8 ++ []
def dkwX0_part_7 : List UInt8 := [89, 180, 1, 118, 4, 96, 181, 1, 118, 42, 182, 1, 69, 42, 182, 1, 121, 77, 42, 42, 16, 41]
abbrev dktX0_part_7 : List UInt8 := dkwX0_part_7 ++ dktX0_part_8
def dkwX0_part_6 : List UInt8 := [182, 1, 66, 153, 0, 16, 42, 180, 1, 118, 16, 8, 162, 0, 7, 4, 167, 0, 4, 3, 182, 1, 109, 42]
abbrev dktX0_part_6 : List UInt8 := dkwX0_part_6 ++ dktX0_part_7
def dkwX0_part_5 : List UInt8 := [182, 1, 85, 183, 1, 115, 77, 42, 89, 180, 1, 106, 4, 100, 181, 1, 106, 44, 176, 42, 42, 16, 40]
abbrev dktX0_part_5 : List UInt8 := dkwX0_part_5 ++ dktX0_part_6
def dkwX0_part_4 : List UInt8 := [3, 182, 1, 109, 42, 89, 180, 1, 106, 4, 96, 181, 1, 106, 42, 182, 1, 69, 187, 1, 113, 89, 42]
abbrev dktX0_part_4 : List UInt8 := dkwX0_part_4 ++ dktX0_part_5
def dkwX0_part_3 : List UInt8 := [176, 42, 16, 33, 182, 1, 66, 153, 0, 59, 42, 42, 180, 1, 106, 16, 8, 162, 0, 7, 4, 167, 0, 4]
abbrev dktX0_part_3 : List UInt8 := dkwX0_part_3 ++ dktX0_part_4
def dkwX0_part_2 : List UInt8 := [28, 153, 0, 14, 187, 1, 98, 89, 27, 183, 1, 100, 167, 0, 12, 187, 1, 101, 89, 42, 27, 183, 1, 103]
abbrev dktX0_part_2 : List UInt8 := dkwX0_part_2 ++ dktX0_part_3
def dkwX0_part_1 : List UInt8 := [5, 160, 0, 7, 4, 167, 0, 4, 3, 61, 42, 89, 180, 1, 95, 4, 96, 181, 1, 95, 42, 182, 1, 69]
abbrev dktX0_part_1 : List UInt8 := dkwX0_part_1 ++ dktX0_part_2
def dkwX0_part_0 : List UInt8 := [42, 180, 1, 45, 60, 42, 180, 1, 27, 5, 159, 0, 10, 42, 182, 1, 91, 153, 0, 56, 42, 180, 1, 27]
abbrev dktX0_part_0 : List UInt8 := dkwX0_part_0 ++ dktX0_part_1
theorem dksX0_part_0 : cX0_part.data.toList.drop 0 = dktX0_part_0 := by decide +kernel
theorem dksX0_part_1 : cX0_part.data.toList.drop 24 = dktX0_part_1 := dk_seg dksX0_part_0 24 rfl rfl
theorem dksX0_part_2 : cX0_part.data.toList.drop 48 = dktX0_part_2 := dk_seg dksX0_part_1 24 rfl rfl
theorem dksX0_part_3 : cX0_part.data.toList.drop 72 = dktX0_part_3 := dk_seg dksX0_part_2 24 rfl rfl
theorem dksX0_part_4 : cX0_part.data.toList.drop 96 = dktX0_part_4 := dk_seg dksX0_part_3 24 rfl rfl
theorem dksX0_part_5 : cX0_part.data.toList.drop 119 = dktX0_part_5 := dk_seg dksX0_part_4 23 rfl rfl
theorem dksX0_part_6 : cX0_part.data.toList.drop 142 = dktX0_part_6 := dk_seg dksX0_part_5 23 rfl rfl
theorem dksX0_part_7 : cX0_part.data.toList.drop 166 = dktX0_part_7 := dk_seg dksX0_part_6 24 rfl rfl
theorem dksX0_part_8 : cX0_part.data.toList.drop 188 = dktX0_part_8 := dk_seg dksX0_part_7 22 rfl rfl
theorem dX0_part_0 : decode cX0_part 0 = .ok (.aload_n 0, 1) := dk_42 (dk_at dksX0_part_0 0 rfl rfl)
theorem dX0_part_1 : decode cX0_part 1 = .ok (.getfield 301, 3) := dk_180 1 45 (dk_at dksX0_part_0 1 rfl rfl)
theorem dX0_part_4 : decode cX0_part 4 = .ok (.istore_n 1, 1) := dk_60 (dk_at dksX0_part_0 4 rfl rfl)
theorem dX0_part_5 : decode cX0_part 5 = .ok (.aload_n 0, 1) := dk_42 (dk_at dksX0_part_0 5 rfl rfl)
theorem dX0_part_6 : decode cX0_part 6 = .ok (.getfield 283, 3) := dk_180 1 27 (dk_at dksX0_part_0 6 rfl rfl)
theorem dX0_part_9 : decode cX0_part 9 = .ok (.iconst 2, 1) := dk_5 (dk_at dksX0_part_0 9 rfl rfl)
theorem dX0_part_10 : decode cX0_part 10 = .ok (.if_icmp .eq 10, 3) := dk_159 0 10 (dk_at dksX0_part_0 10 rfl rfl)
theorem dX0_part_13 : decode cX0_part 13 = .ok (.aload_n 0, 1) := dk_42 (dk_at dksX0_part_0 13 rfl rfl)
theorem dX0_part_14 : decode cX0_part 14 = .ok (.invokevirtual 347, 3) := dk_182 1 91 (dk_at dksX0_part_0 14 rfl rfl)
theorem dX0_part_17 : decode cX0_part 17 = .ok (.ifCond .eq 56, 3) := dk_153 0 56 (dk_at dksX0_part_0 17 rfl rfl)
theorem dX0_part_20 : decode cX0_part 20 = .ok (.aload_n 0, 1) := dk_42 (dk_at dksX0_part_0 20 rfl rfl)
theorem dX0_part_21 : decode cX0_part 21 = .ok (.getfield 283, 3) := dk_180 1 27 (dk_at dksX0_part_0 21 rfl rfl)
theorem dX0_part_24 : decode cX0_part 24 = .ok (.iconst 2, 1) := dk_5 (dk_at dksX0_part_1 0 rfl rfl)
theorem dX0_part_25 : decode cX0_part 25 = .ok (.if_icmp .ne 7, 3) := dk_160 0 7 (dk_at dksX0_part_1 1 rfl rfl)
theorem dX0_part_28 : decode cX0_part 28 = .ok (.iconst 1, 1) := dk_4 (dk_at dksX0_part_1 4 rfl rfl)
theorem dX0_part_29 : decode cX0_part 29 = .ok (.goto 4, 3) := dk_167 0 4 (dk_at dksX0_part_1 5 rfl rfl)
theorem dX0_part_32 : decode cX0_part 32 = .ok (.iconst 0, 1) := dk_3 (dk_at dksX0_part_1 8 rfl rfl)
theorem dX0_part_33 : decode cX0_part 33 = .ok (.istore_n 2, 1) := dk_61 (dk_at dksX0_part_1 9 rfl rfl)
theorem dX0_part_34 : decode cX0_part 34 = .ok (.aload_n 0, 1) := dk_42 (dk_at dksX0_part_1 10 rfl rfl)
theorem dX0_part_35 : decode cX0_part 35 = .ok (.dup, 1) := dk_89 (dk_at dksX0_part_1 11 rfl rfl)
theorem dX0_part_36 : decode cX0_part 36 = .ok (.getfield 351, 3) := dk_180 1 95 (dk_at dksX0_part_1 12 rfl rfl)
theorem dX0_part_39 : decode cX0_part 39 = .ok (.iconst 1, 1) := dk_4 (dk_at dksX0_part_1 15 rfl rfl)
theorem dX0_part_40 : decode cX0_part 40 = .ok (.iadd, 1) := dk_96 (dk_at dksX0_part_1 16 rfl rfl)
theorem dX0_part_41 : decode cX0_part 41 = .ok (.putfield 351, 3) := dk_181 1 95 (dk_at dksX0_part_1 17 rfl rfl)
theorem dX0_part_44 : decode cX0_part 44 = .ok (.aload_n 0, 1) := dk_42 (dk_at dksX0_part_1 20 rfl rfl)
theorem dX0_part_45 : decode cX0_part 45 = .ok (.invokevirtual 325, 3) := dk_182 1 69 (dk_at dksX0_part_1 21 rfl rfl)
theorem dX0_part_48 : decode cX0_part 48 = .ok (.iload_n 2, 1) := dk_28 (dk_at dksX0_part_2 0 rfl rfl)
theorem dX0_part_49 : decode cX0_part 49 = .ok (.ifCond .eq 14, 3) := dk_153 0 14 (dk_at dksX0_part_2 1 rfl rfl)
theorem dX0_part_52 : decode cX0_part 52 = .ok (.new 354, 3) := dk_187 1 98 (dk_at dksX0_part_2 4 rfl rfl)
theorem dX0_part_55 : decode cX0_part 55 = .ok (.dup, 1) := dk_89 (dk_at dksX0_part_2 7 rfl rfl)
theorem dX0_part_56 : decode cX0_part 56 = .ok (.iload_n 1, 1) := dk_27 (dk_at dksX0_part_2 8 rfl rfl)
theorem dX0_part_57 : decode cX0_part 57 = .ok (.invokespecial 356, 3) := dk_183 1 100 (dk_at dksX0_part_2 9 rfl rfl)
theorem dX0_part_60 : decode cX0_part 60 = .ok (.goto 12, 3) := dk_167 0 12 (dk_at dksX0_part_2 12 rfl rfl)
theorem dX0_part_63 : decode cX0_part 63 = .ok (.new 357, 3) := dk_187 1 101 (dk_at dksX0_part_2 15 rfl rfl)
theorem dX0_part_66 : decode cX0_part 66 = .ok (.dup, 1) := dk_89 (dk_at dksX0_part_2 18 rfl rfl)
theorem dX0_part_67 : decode cX0_part 67 = .ok (.aload_n 0, 1) := dk_42 (dk_at dksX0_part_2 19 rfl rfl)
theorem dX0_part_68 : decode cX0_part 68 = .ok (.iload_n 1, 1) := dk_27 (dk_at dksX0_part_2 20 rfl rfl)
theorem dX0_part_69 : decode cX0_part 69 = .ok (.invokespecial 359, 3) := dk_183 1 103 (dk_at dksX0_part_2 21 rfl rfl)
theorem dX0_part_72 : decode cX0_part 72 = .ok (.areturn, 1) := dk_176 (dk_at dksX0_part_3 0 rfl rfl)
theorem dX0_part_73 : decode cX0_part 73 = .ok (.aload_n 0, 1) := dk_42 (dk_at dksX0_part_3 1 rfl rfl)
theorem dX0_part_74 : decode cX0_part 74 = .ok (.bipush 33, 2) := dk_16 33 (dk_at dksX0_part_3 2 rfl rfl)
theorem dX0_part_76 : decode cX0_part 76 = .ok (.invokevirtual 322, 3) := dk_182 1 66 (dk_at dksX0_part_3 4 rfl rfl)
theorem dX0_part_79 : decode cX0_part 79 = .ok (.ifCond .eq 59, 3) := dk_153 0 59 (dk_at dksX0_part_3 7 rfl rfl)
theorem dX0_part_82 : decode cX0_part 82 = .ok (.aload_n 0, 1) := dk_42 (dk_at dksX0_part_3 10 rfl rfl)
theorem dX0_part_83 : decode cX0_part 83 = .ok (.aload_n 0, 1) := dk_42 (dk_at dksX0_part_3 11 rfl rfl)
theorem dX0_part_84 : decode cX0_part 84 = .ok (.getfield 362, 3) := dk_180 1 106 (dk_at dksX0_part_3 12 rfl rfl)
theorem dX0_part_87 : decode cX0_part 87 = .ok (.bipush 8, 2) := dk_16 8 (dk_at dksX0_part_3 15 rfl rfl)
theorem dX0_part_89 : decode cX0_part 89 = .ok (.if_icmp .ge 7, 3) := dk_162 0 7 (dk_at dksX0_part_3 17 rfl rfl)
theorem dX0_part_92 : decode cX0_part 92 = .ok (.iconst 1, 1) := dk_4 (dk_at dksX0_part_3 20 rfl rfl)
theorem dX0_part_93 : decode cX0_part 93 = .ok (.goto 4, 3) := dk_167 0 4 (dk_at dksX0_part_3 21 rfl rfl)
theorem dX0_part_96 : decode cX0_part 96 = .ok (.iconst 0, 1) := dk_3 (dk_at dksX0_part_4 0 rfl rfl)
theorem dX0_part_97 : decode cX0_part 97 = .ok (.invokevirtual 365, 3) := dk_182 1 109 (dk_at dksX0_part_4 1 rfl rfl)
theorem dX0_part_100 : decode cX0_part 100 = .ok (.aload_n 0, 1) := dk_42 (dk_at dksX0_part_4 4 rfl rfl)
theorem dX0_part_101 : decode cX0_part 101 = .ok (.dup, 1) := dk_89 (dk_at dksX0_part_4 5 rfl rfl)
theorem dX0_part_102 : decode cX0_part 102 = .ok (.getfield 362, 3) := dk_180 1 106 (dk_at dksX0_part_4 6 rfl rfl)
theorem dX0_part_105 : decode cX0_part 105 = .ok (.iconst 1, 1) := dk_4 (dk_at dksX0_part_4 9 rfl rfl)
theorem dX0_part_106 : decode cX0_part 106 = .ok (.iadd, 1) := dk_96 (dk_at dksX0_part_4 10 rfl rfl)
theorem dX0_part_107 : decode cX0_part 107 = .ok (.putfield 362, 3) := dk_181 1 106 (dk_at dksX0_part_4 11 rfl rfl)
theorem dX0_part_110 : decode cX0_part 110 = .ok (.aload_n 0, 1) := dk_42 (dk_at dksX0_part_4 14 rfl rfl)
theorem dX0_part_111 : decode cX0_part 111 = .ok (.invokevirtual 325, 3) := dk_182 1 69 (dk_at dksX0_part_4 15 rfl rfl)
theorem dX0_part_114 : decode cX0_part 114 = .ok (.new 369, 3) := dk_187 1 113 (dk_at dksX0_part_4 18 rfl rfl)
theorem dX0_part_117 : decode cX0_part 117 = .ok (.dup, 1) := dk_89 (dk_at dksX0_part_4 21 rfl rfl)
theorem dX0_part_118 : decode cX0_part 118 = .ok (.aload_n 0, 1) := dk_42 (dk_at dksX0_part_4 22 rfl rfl)
theorem dX0_part_119 : decode cX0_part 119 = .ok (.invokevirtual 341, 3) := dk_182 1 85 (dk_at dksX0_part_5 0 rfl rfl)
theorem dX0_part_122 : decode cX0_part 122 = .ok (.invokespecial 371, 3) := dk_183 1 115 (dk_at dksX0_part_5 3 rfl rfl)
theorem dX0_part_125 : decode cX0_part 125 = .ok (.astore_n 2, 1) := dk_77 (dk_at dksX0_part_5 6 rfl rfl)
theorem dX0_part_126 : decode cX0_part 126 = .ok (.aload_n 0, 1) := dk_42 (dk_at dksX0_part_5 7 rfl rfl)
theorem dX0_part_127 : decode cX0_part 127 = .ok (.dup, 1) := dk_89 (dk_at dksX0_part_5 8 rfl rfl)
theorem dX0_part_128 : decode cX0_part 128 = .ok (.getfield 362, 3) := dk_180 1 106 (dk_at dksX0_part_5 9 rfl rfl)
theorem dX0_part_131 : decode cX0_part 131 = .ok (.iconst 1, 1) := dk_4 (dk_at dksX0_part_5 12 rfl rfl)
theorem dX0_part_132 : decode cX0_part 132 = .ok (.isub, 1) := dk_100 (dk_at dksX0_part_5 13 rfl rfl)
theorem dX0_part_133 : decode cX0_part 133 = .ok (.putfield 362, 3) := dk_181 1 106 (dk_at dksX0_part_5 14 rfl rfl)
theorem dX0_part_136 : decode cX0_part 136 = .ok (.aload_n 2, 1) := dk_44 (dk_at dksX0_part_5 17 rfl rfl)
theorem dX0_part_137 : decode cX0_part 137 = .ok (.areturn, 1) := dk_176 (dk_at dksX0_part_5 18 rfl rfl)
theorem dX0_part_138 : decode cX0_part 138 = .ok (.aload_n 0, 1) := dk_42 (dk_at dksX0_part_5 19 rfl rfl)
theorem dX0_part_139 : decode cX0_part 139 = .ok (.aload_n 0, 1) := dk_42 (dk_at dksX0_part_5 20 rfl rfl)
theorem dX0_part_140 : decode cX0_part 140 = .ok (.bipush 40, 2) := dk_16 40 (dk_at dksX0_part_5 21 rfl rfl)
theorem dX0_part_142 : decode cX0_part 142 = .ok (.invokevirtual 322, 3) := dk_182 1 66 (dk_at dksX0_part_6 0 rfl rfl)
theorem dX0_part_145 : decode cX0_part 145 = .ok (.ifCond .eq 16, 3) := dk_153 0 16 (dk_at dksX0_part_6 3 rfl rfl)
theorem dX0_part_148 : decode cX0_part 148 = .ok (.aload_n 0, 1) := dk_42 (dk_at dksX0_part_6 6 rfl rfl)
theorem dX0_part_149 : decode cX0_part 149 = .ok (.getfield 374, 3) := dk_180 1 118 (dk_at dksX0_part_6 7 rfl rfl)
theorem dX0_part_152 : decode cX0_part 152 = .ok (.bipush 8, 2) := dk_16 8 (dk_at dksX0_part_6 10 rfl rfl)
theorem dX0_part_154 : decode cX0_part 154 = .ok (.if_icmp .ge 7, 3) := dk_162 0 7 (dk_at dksX0_part_6 12 rfl rfl)
theorem dX0_part_157 : decode cX0_part 157 = .ok (.iconst 1, 1) := dk_4 (dk_at dksX0_part_6 15 rfl rfl)
theorem dX0_part_158 : decode cX0_part 158 = .ok (.goto 4, 3) := dk_167 0 4 (dk_at dksX0_part_6 16 rfl rfl)
theorem dX0_part_161 : decode cX0_part 161 = .ok (.iconst 0, 1) := dk_3 (dk_at dksX0_part_6 19 rfl rfl)
theorem dX0_part_162 : decode cX0_part 162 = .ok (.invokevirtual 365, 3) := dk_182 1 109 (dk_at dksX0_part_6 20 rfl rfl)
theorem dX0_part_165 : decode cX0_part 165 = .ok (.aload_n 0, 1) := dk_42 (dk_at dksX0_part_6 23 rfl rfl)
theorem dX0_part_166 : decode cX0_part 166 = .ok (.dup, 1) := dk_89 (dk_at dksX0_part_7 0 rfl rfl)
theorem dX0_part_167 : decode cX0_part 167 = .ok (.getfield 374, 3) := dk_180 1 118 (dk_at dksX0_part_7 1 rfl rfl)
theorem dX0_part_170 : decode cX0_part 170 = .ok (.iconst 1, 1) := dk_4 (dk_at dksX0_part_7 4 rfl rfl)
theorem dX0_part_171 : decode cX0_part 171 = .ok (.iadd, 1) := dk_96 (dk_at dksX0_part_7 5 rfl rfl)
theorem dX0_part_172 : decode cX0_part 172 = .ok (.putfield 374, 3) := dk_181 1 118 (dk_at dksX0_part_7 6 rfl rfl)
theorem dX0_part_175 : decode cX0_part 175 = .ok (.aload_n 0, 1) := dk_42 (dk_at dksX0_part_7 9 rfl rfl)
theorem dX0_part_176 : decode cX0_part 176 = .ok (.invokevirtual 325, 3) := dk_182 1 69 (dk_at dksX0_part_7 10 rfl rfl)
theorem dX0_part_179 : decode cX0_part 179 = .ok (.aload_n 0, 1) := dk_42 (dk_at dksX0_part_7 13 rfl rfl)
theorem dX0_part_180 : decode cX0_part 180 = .ok (.invokevirtual 377, 3) := dk_182 1 121 (dk_at dksX0_part_7 14 rfl rfl)
theorem dX0_part_183 : decode cX0_part 183 = .ok (.astore_n 2, 1) := dk_77 (dk_at dksX0_part_7 17 rfl rfl)
theorem dX0_part_184 : decode cX0_part 184 = .ok (.aload_n 0, 1) := dk_42 (dk_at dksX0_part_7 18 rfl rfl)
theorem dX0_part_185 : decode cX0_part 185 = .ok (.aload_n 0, 1) := dk_42 (dk_at dksX0_part_7 19 rfl rfl)
theorem dX0_part_186 : decode cX0_part 186 = .ok (.bipush 41, 2) := dk_16 41 (dk_at dksX0_part_7 20 rfl rfl)
theorem dX0_part_188 : decode cX0_part 188 = .ok (.invokevirtual 322, 3) := dk_182 1 66 (dk_at dksX0_part_8 0 rfl rfl)
theorem dX0_part_191 : decode cX0_part 191 = .ok (.invokevirtual 365, 3) := dk_182 1 109 (dk_at dksX0_part_8 3 rfl rfl)
theorem dX0_part_194 : decode cX0_part 194 = .ok (.aload_n 0, 1) := dk_42 (dk_at dksX0_part_8 6 rfl rfl)
theorem dX0_part_195 : decode cX0_part 195 = .ok (.dup, 1) := dk_89 (dk_at dksX0_part_8 7 rfl rfl)
theorem dX0_part_196 : decode cX0_part 196 = .ok (.getfield 374, 3) := dk_180 1 118 (dk_at dksX0_part_8 8 rfl rfl)
theorem dX0_part_199 : decode cX0_part 199 = .ok (.iconst 1, 1) := dk_4 (dk_at dksX0_part_8 11 rfl rfl)
theorem dX0_part_200 : decode cX0_part 200 = .ok (.isub, 1) := dk_100 (dk_at dksX0_part_8 12 rfl rfl)
theorem dX0_part_201 : decode cX0_part 201 = .ok (.putfield 374, 3) := dk_181 1 118 (dk_at dksX0_part_8 13 rfl rfl)
theorem dX0_part_204 : decode cX0_part 204 = .ok (.aload_n 0, 1) := dk_42 (dk_at dksX0_part_8 16 rfl rfl)
theorem dX0_part_205 : decode cX0_part 205 = .ok (.invokevirtual 325, 3) := dk_182 1 69 (dk_at dksX0_part_8 17 rfl rfl)
theorem dX0_part_208 : decode cX0_part 208 = .ok (.aload_n 2, 1) := dk_44 (dk_at dksX0_part_8 20 rfl rfl)
theorem dX0_part_209 : decode cX0_part 209 = .ok (.areturn, 1) := dk_176 (dk_at dksX0_part_8 21 rfl rfl)
abbrev cX0_isName : ByteArray := prog_1_method_53_code
def yX0_isName : MethodName := ⟨RX0, "isName", "()Z"⟩
def dkwX0_isName_6 : List UInt8 := [160, 0, 7, 4, 167, 0, 4, 3, 172]
abbrev dktX0_isName_6 : List UInt8 := dkwX0_isName_6 ++ []
def dkwX0_isName_5 : List UInt8 := [160, 0, 7, 4, 167, 0, 4, 3, 172, 42, 180, 1, 45, 16, 119, 159, 0, 12, 42, 180, 1, 45, 16, 108]
abbrev dktX0_isName_5 : List UInt8 := dkwX0_isName_5 ++ dktX0_isName_6
def dkwX0_isName_4 : List UInt8 := [160, 0, 7, 4, 167, 0, 4, 3, 172, 42, 180, 1, 45, 16, 115, 159, 0, 12, 42, 180, 1, 45, 16, 104]
abbrev dktX0_isName_4 : List UInt8 := dkwX0_isName_4 ++ dktX0_isName_5
def dkwX0_isName_3 : List UInt8 := [42, 180, 1, 45, 16, 102, 159, 0, 21, 42, 180, 1, 45, 16, 108, 159, 0, 12, 42, 180, 1, 45, 16, 119]
abbrev dktX0_isName_3 : List UInt8 := dkwX0_isName_3 ++ dktX0_isName_4
def dkwX0_isName_2 : List UInt8 := [171, 0, 0, 0, 82, 0, 0, 0, 2, 0, 0, 0, 0, 0, 0, 0, 25, 0, 0, 0, 1, 0, 0, 0, 58]
abbrev dktX0_isName_2 : List UInt8 := dkwX0_isName_2 ++ dktX0_isName_3
def dkwX0_isName_1 : List UInt8 := [180, 1, 88]
abbrev dktX0_isName_1 : List UInt8 := dkwX0_isName_1 ++ dktX0_isName_2
def dkwX0_isName_0 : List UInt8 := [42, 180, 1, 27, 4, 160, 0, 16, 42, 180, 1, 30, 42, 180, 1, 36, 100, 4, 159, 0, 5, 3, 172, 42]
abbrev dktX0_isName_0 : List UInt8 := dkwX0_isName_0 ++ dktX0_isName_1
theorem dksX0_isName_0 : cX0_isName.data.toList.drop 0 = dktX0_isName_0 := by decide +kernel
theorem dksX0_isName_1 : cX0_isName.data.toList.drop 24 = dktX0_isName_1 := dk_seg dksX0_isName_0 24 rfl rfl
theorem dksX0_isName_2 : cX0_isName.data.toList.drop 27 = dktX0_isName_2 := dk_seg dksX0_isName_1 3 rfl rfl
theorem dksX0_isName_3 : cX0_isName.data.toList.drop 52 = dktX0_isName_3 := dk_seg dksX0_isName_2 25 rfl rfl
theorem dksX0_isName_4 : cX0_isName.data.toList.drop 76 = dktX0_isName_4 := dk_seg dksX0_isName_3 24 rfl rfl
theorem dksX0_isName_5 : cX0_isName.data.toList.drop 100 = dktX0_isName_5 := dk_seg dksX0_isName_4 24 rfl rfl
theorem dksX0_isName_6 : cX0_isName.data.toList.drop 124 = dktX0_isName_6 := dk_seg dksX0_isName_5 24 rfl rfl
theorem dX0_isName_0 : decode cX0_isName 0 = .ok (.aload_n 0, 1) := dk_42 (dk_at dksX0_isName_0 0 rfl rfl)
theorem dX0_isName_1 : decode cX0_isName 1 = .ok (.getfield 283, 3) := dk_180 1 27 (dk_at dksX0_isName_0 1 rfl rfl)
theorem dX0_isName_4 : decode cX0_isName 4 = .ok (.iconst 1, 1) := dk_4 (dk_at dksX0_isName_0 4 rfl rfl)
theorem dX0_isName_5 : decode cX0_isName 5 = .ok (.if_icmp .ne 16, 3) := dk_160 0 16 (dk_at dksX0_isName_0 5 rfl rfl)
theorem dX0_isName_8 : decode cX0_isName 8 = .ok (.aload_n 0, 1) := dk_42 (dk_at dksX0_isName_0 8 rfl rfl)
theorem dX0_isName_9 : decode cX0_isName 9 = .ok (.getfield 286, 3) := dk_180 1 30 (dk_at dksX0_isName_0 9 rfl rfl)
theorem dX0_isName_12 : decode cX0_isName 12 = .ok (.aload_n 0, 1) := dk_42 (dk_at dksX0_isName_0 12 rfl rfl)
theorem dX0_isName_13 : decode cX0_isName 13 = .ok (.getfield 292, 3) := dk_180 1 36 (dk_at dksX0_isName_0 13 rfl rfl)
theorem dX0_isName_16 : decode cX0_isName 16 = .ok (.isub, 1) := dk_100 (dk_at dksX0_isName_0 16 rfl rfl)
theorem dX0_isName_17 : decode cX0_isName 17 = .ok (.iconst 1, 1) := dk_4 (dk_at dksX0_isName_0 17 rfl rfl)
theorem dX0_isName_18 : decode cX0_isName 18 = .ok (.if_icmp .eq 5, 3) := dk_159 0 5 (dk_at dksX0_isName_0 18 rfl rfl)
theorem dX0_isName_21 : decode cX0_isName 21 = .ok (.iconst 0, 1) := dk_3 (dk_at dksX0_isName_0 21 rfl rfl)
theorem dX0_isName_22 : decode cX0_isName 22 = .ok (.ireturn, 1) := dk_172 (dk_at dksX0_isName_0 22 rfl rfl)
theorem dX0_isName_23 : decode cX0_isName 23 = .ok (.aload_n 0, 1) := dk_42 (dk_at dksX0_isName_0 23 rfl rfl)
theorem dX0_isName_24 : decode cX0_isName 24 = .ok (.getfield 344, 3) := dk_180 1 88 (dk_at dksX0_isName_1 0 rfl rfl)
theorem dX0_isName_27 : decode cX0_isName 27 = .ok (.lookupswitch 82 #[(0, 25), (1, 58)], 25) := by decide +kernel
theorem dX0_isName_52 : decode cX0_isName 52 = .ok (.aload_n 0, 1) := dk_42 (dk_at dksX0_isName_3 0 rfl rfl)
theorem dX0_isName_53 : decode cX0_isName 53 = .ok (.getfield 301, 3) := dk_180 1 45 (dk_at dksX0_isName_3 1 rfl rfl)
theorem dX0_isName_56 : decode cX0_isName 56 = .ok (.bipush 102, 2) := dk_16 102 (dk_at dksX0_isName_3 4 rfl rfl)
theorem dX0_isName_58 : decode cX0_isName 58 = .ok (.if_icmp .eq 21, 3) := dk_159 0 21 (dk_at dksX0_isName_3 6 rfl rfl)
theorem dX0_isName_61 : decode cX0_isName 61 = .ok (.aload_n 0, 1) := dk_42 (dk_at dksX0_isName_3 9 rfl rfl)
theorem dX0_isName_62 : decode cX0_isName 62 = .ok (.getfield 301, 3) := dk_180 1 45 (dk_at dksX0_isName_3 10 rfl rfl)
theorem dX0_isName_65 : decode cX0_isName 65 = .ok (.bipush 108, 2) := dk_16 108 (dk_at dksX0_isName_3 13 rfl rfl)
theorem dX0_isName_67 : decode cX0_isName 67 = .ok (.if_icmp .eq 12, 3) := dk_159 0 12 (dk_at dksX0_isName_3 15 rfl rfl)
theorem dX0_isName_70 : decode cX0_isName 70 = .ok (.aload_n 0, 1) := dk_42 (dk_at dksX0_isName_3 18 rfl rfl)
theorem dX0_isName_71 : decode cX0_isName 71 = .ok (.getfield 301, 3) := dk_180 1 45 (dk_at dksX0_isName_3 19 rfl rfl)
theorem dX0_isName_74 : decode cX0_isName 74 = .ok (.bipush 119, 2) := dk_16 119 (dk_at dksX0_isName_3 22 rfl rfl)
theorem dX0_isName_76 : decode cX0_isName 76 = .ok (.if_icmp .ne 7, 3) := dk_160 0 7 (dk_at dksX0_isName_4 0 rfl rfl)
theorem dX0_isName_79 : decode cX0_isName 79 = .ok (.iconst 1, 1) := dk_4 (dk_at dksX0_isName_4 3 rfl rfl)
theorem dX0_isName_80 : decode cX0_isName 80 = .ok (.goto 4, 3) := dk_167 0 4 (dk_at dksX0_isName_4 4 rfl rfl)
theorem dX0_isName_83 : decode cX0_isName 83 = .ok (.iconst 0, 1) := dk_3 (dk_at dksX0_isName_4 7 rfl rfl)
theorem dX0_isName_84 : decode cX0_isName 84 = .ok (.ireturn, 1) := dk_172 (dk_at dksX0_isName_4 8 rfl rfl)
theorem dX0_isName_85 : decode cX0_isName 85 = .ok (.aload_n 0, 1) := dk_42 (dk_at dksX0_isName_4 9 rfl rfl)
theorem dX0_isName_86 : decode cX0_isName 86 = .ok (.getfield 301, 3) := dk_180 1 45 (dk_at dksX0_isName_4 10 rfl rfl)
theorem dX0_isName_89 : decode cX0_isName 89 = .ok (.bipush 115, 2) := dk_16 115 (dk_at dksX0_isName_4 13 rfl rfl)
theorem dX0_isName_91 : decode cX0_isName 91 = .ok (.if_icmp .eq 12, 3) := dk_159 0 12 (dk_at dksX0_isName_4 15 rfl rfl)
theorem dX0_isName_94 : decode cX0_isName 94 = .ok (.aload_n 0, 1) := dk_42 (dk_at dksX0_isName_4 18 rfl rfl)
theorem dX0_isName_95 : decode cX0_isName 95 = .ok (.getfield 301, 3) := dk_180 1 45 (dk_at dksX0_isName_4 19 rfl rfl)
theorem dX0_isName_98 : decode cX0_isName 98 = .ok (.bipush 104, 2) := dk_16 104 (dk_at dksX0_isName_4 22 rfl rfl)
theorem dX0_isName_100 : decode cX0_isName 100 = .ok (.if_icmp .ne 7, 3) := dk_160 0 7 (dk_at dksX0_isName_5 0 rfl rfl)
theorem dX0_isName_103 : decode cX0_isName 103 = .ok (.iconst 1, 1) := dk_4 (dk_at dksX0_isName_5 3 rfl rfl)
theorem dX0_isName_104 : decode cX0_isName 104 = .ok (.goto 4, 3) := dk_167 0 4 (dk_at dksX0_isName_5 4 rfl rfl)
theorem dX0_isName_107 : decode cX0_isName 107 = .ok (.iconst 0, 1) := dk_3 (dk_at dksX0_isName_5 7 rfl rfl)
theorem dX0_isName_108 : decode cX0_isName 108 = .ok (.ireturn, 1) := dk_172 (dk_at dksX0_isName_5 8 rfl rfl)
theorem dX0_isName_109 : decode cX0_isName 109 = .ok (.aload_n 0, 1) := dk_42 (dk_at dksX0_isName_5 9 rfl rfl)
theorem dX0_isName_110 : decode cX0_isName 110 = .ok (.getfield 301, 3) := dk_180 1 45 (dk_at dksX0_isName_5 10 rfl rfl)
theorem dX0_isName_113 : decode cX0_isName 113 = .ok (.bipush 119, 2) := dk_16 119 (dk_at dksX0_isName_5 13 rfl rfl)
theorem dX0_isName_115 : decode cX0_isName 115 = .ok (.if_icmp .eq 12, 3) := dk_159 0 12 (dk_at dksX0_isName_5 15 rfl rfl)
theorem dX0_isName_118 : decode cX0_isName 118 = .ok (.aload_n 0, 1) := dk_42 (dk_at dksX0_isName_5 18 rfl rfl)
theorem dX0_isName_119 : decode cX0_isName 119 = .ok (.getfield 301, 3) := dk_180 1 45 (dk_at dksX0_isName_5 19 rfl rfl)
theorem dX0_isName_122 : decode cX0_isName 122 = .ok (.bipush 108, 2) := dk_16 108 (dk_at dksX0_isName_5 22 rfl rfl)
theorem dX0_isName_124 : decode cX0_isName 124 = .ok (.if_icmp .ne 7, 3) := dk_160 0 7 (dk_at dksX0_isName_6 0 rfl rfl)
theorem dX0_isName_127 : decode cX0_isName 127 = .ok (.iconst 1, 1) := dk_4 (dk_at dksX0_isName_6 3 rfl rfl)
theorem dX0_isName_128 : decode cX0_isName 128 = .ok (.goto 4, 3) := dk_167 0 4 (dk_at dksX0_isName_6 4 rfl rfl)
theorem dX0_isName_131 : decode cX0_isName 131 = .ok (.iconst 0, 1) := dk_3 (dk_at dksX0_isName_6 7 rfl rfl)
theorem dX0_isName_132 : decode cX0_isName 132 = .ok (.ireturn, 1) := dk_172 (dk_at dksX0_isName_6 8 rfl rfl)
abbrev cX0_isSign : ByteArray := prog_1_method_46_code
def yX0_isSign : MethodName := ⟨RX0, "isSign", "(I)Z"⟩
def dkwX0_isSign_0 : List UInt8 := [42, 180, 1, 27, 6, 160, 0, 15, 42, 180, 1, 45, 27, 160, 0, 7, 4, 167, 0, 4, 3, 172]
abbrev dktX0_isSign_0 : List UInt8 := dkwX0_isSign_0 ++ []
theorem dksX0_isSign_0 : cX0_isSign.data.toList.drop 0 = dktX0_isSign_0 := by decide +kernel
theorem dX0_isSign_0 : decode cX0_isSign 0 = .ok (.aload_n 0, 1) := dk_42 (dk_at dksX0_isSign_0 0 rfl rfl)
theorem dX0_isSign_1 : decode cX0_isSign 1 = .ok (.getfield 283, 3) := dk_180 1 27 (dk_at dksX0_isSign_0 1 rfl rfl)
theorem dX0_isSign_4 : decode cX0_isSign 4 = .ok (.iconst 3, 1) := dk_6 (dk_at dksX0_isSign_0 4 rfl rfl)
theorem dX0_isSign_5 : decode cX0_isSign 5 = .ok (.if_icmp .ne 15, 3) := dk_160 0 15 (dk_at dksX0_isSign_0 5 rfl rfl)
theorem dX0_isSign_8 : decode cX0_isSign 8 = .ok (.aload_n 0, 1) := dk_42 (dk_at dksX0_isSign_0 8 rfl rfl)
theorem dX0_isSign_9 : decode cX0_isSign 9 = .ok (.getfield 301, 3) := dk_180 1 45 (dk_at dksX0_isSign_0 9 rfl rfl)
theorem dX0_isSign_12 : decode cX0_isSign 12 = .ok (.iload_n 1, 1) := dk_27 (dk_at dksX0_isSign_0 12 rfl rfl)
theorem dX0_isSign_13 : decode cX0_isSign 13 = .ok (.if_icmp .ne 7, 3) := dk_160 0 7 (dk_at dksX0_isSign_0 13 rfl rfl)
theorem dX0_isSign_16 : decode cX0_isSign 16 = .ok (.iconst 1, 1) := dk_4 (dk_at dksX0_isSign_0 16 rfl rfl)
theorem dX0_isSign_17 : decode cX0_isSign 17 = .ok (.goto 4, 3) := dk_167 0 4 (dk_at dksX0_isSign_0 17 rfl rfl)
theorem dX0_isSign_20 : decode cX0_isSign 20 = .ok (.iconst 0, 1) := dk_3 (dk_at dksX0_isSign_0 20 rfl rfl)
theorem dX0_isSign_21 : decode cX0_isSign 21 = .ok (.ireturn, 1) := dk_172 (dk_at dksX0_isSign_0 21 rfl rfl)
abbrev cX0_textTold : ByteArray := prog_1_method_59_code
def yX0_textTold : MethodName := ⟨RX0, "textTold", "(II)I"⟩
def dkwX0_textTold_2 : List UInt8 := [180, 1, 152, 167, 0, 15, 42, 180, 0, 58, 180, 1, 145, 27, 50, 180, 1, 153, 172]
abbrev dktX0_textTold_2 : List UInt8 := dkwX0_textTold_2 ++ []
def dkwX0_textTold_1 : List UInt8 := [184, 0, 96, 154, 0, 6, 18, 109, 172, 28, 154, 0, 18, 42, 180, 0, 58, 180, 1, 145, 27, 50]
abbrev dktX0_textTold_1 : List UInt8 := dkwX0_textTold_1 ++ dktX0_textTold_2
def dkwX0_textTold_0 : List UInt8 := [27, 133, 9, 42, 180, 0, 58, 180, 1, 142, 4, 100, 133, 184, 0, 96, 153, 0, 13, 28, 133, 9, 10]
abbrev dktX0_textTold_0 : List UInt8 := dkwX0_textTold_0 ++ dktX0_textTold_1
theorem dksX0_textTold_0 : cX0_textTold.data.toList.drop 0 = dktX0_textTold_0 := by decide +kernel
theorem dksX0_textTold_1 : cX0_textTold.data.toList.drop 23 = dktX0_textTold_1 := dk_seg dksX0_textTold_0 23 rfl rfl
theorem dksX0_textTold_2 : cX0_textTold.data.toList.drop 45 = dktX0_textTold_2 := dk_seg dksX0_textTold_1 22 rfl rfl
theorem dX0_textTold_0 : decode cX0_textTold 0 = .ok (.iload_n 1, 1) := dk_27 (dk_at dksX0_textTold_0 0 rfl rfl)
theorem dX0_textTold_1 : decode cX0_textTold 1 = .ok (.i2l, 1) := dk_133 (dk_at dksX0_textTold_0 1 rfl rfl)
theorem dX0_textTold_2 : decode cX0_textTold 2 = .ok (.lconst 0, 1) := dk_9 (dk_at dksX0_textTold_0 2 rfl rfl)
theorem dX0_textTold_3 : decode cX0_textTold 3 = .ok (.aload_n 0, 1) := dk_42 (dk_at dksX0_textTold_0 3 rfl rfl)
theorem dX0_textTold_4 : decode cX0_textTold 4 = .ok (.getfield 58, 3) := dk_180 0 58 (dk_at dksX0_textTold_0 4 rfl rfl)
theorem dX0_textTold_7 : decode cX0_textTold 7 = .ok (.getfield 398, 3) := dk_180 1 142 (dk_at dksX0_textTold_0 7 rfl rfl)
theorem dX0_textTold_10 : decode cX0_textTold 10 = .ok (.iconst 1, 1) := dk_4 (dk_at dksX0_textTold_0 10 rfl rfl)
theorem dX0_textTold_11 : decode cX0_textTold 11 = .ok (.isub, 1) := dk_100 (dk_at dksX0_textTold_0 11 rfl rfl)
theorem dX0_textTold_12 : decode cX0_textTold 12 = .ok (.i2l, 1) := dk_133 (dk_at dksX0_textTold_0 12 rfl rfl)
theorem dX0_textTold_13 : decode cX0_textTold 13 = .ok (.invokestatic 96, 3) := dk_184 0 96 (dk_at dksX0_textTold_0 13 rfl rfl)
theorem dX0_textTold_16 : decode cX0_textTold 16 = .ok (.ifCond .eq 13, 3) := dk_153 0 13 (dk_at dksX0_textTold_0 16 rfl rfl)
theorem dX0_textTold_19 : decode cX0_textTold 19 = .ok (.iload_n 2, 1) := dk_28 (dk_at dksX0_textTold_0 19 rfl rfl)
theorem dX0_textTold_20 : decode cX0_textTold 20 = .ok (.i2l, 1) := dk_133 (dk_at dksX0_textTold_0 20 rfl rfl)
theorem dX0_textTold_21 : decode cX0_textTold 21 = .ok (.lconst 0, 1) := dk_9 (dk_at dksX0_textTold_0 21 rfl rfl)
theorem dX0_textTold_22 : decode cX0_textTold 22 = .ok (.lconst 1, 1) := dk_10 (dk_at dksX0_textTold_0 22 rfl rfl)
theorem dX0_textTold_23 : decode cX0_textTold 23 = .ok (.invokestatic 96, 3) := dk_184 0 96 (dk_at dksX0_textTold_1 0 rfl rfl)
theorem dX0_textTold_26 : decode cX0_textTold 26 = .ok (.ifCond .ne 6, 3) := dk_154 0 6 (dk_at dksX0_textTold_1 3 rfl rfl)
theorem dX0_textTold_29 : decode cX0_textTold 29 = .ok (.ldc 109, 2) := dk_18 109 (dk_at dksX0_textTold_1 6 rfl rfl)
theorem dX0_textTold_31 : decode cX0_textTold 31 = .ok (.ireturn, 1) := dk_172 (dk_at dksX0_textTold_1 8 rfl rfl)
theorem dX0_textTold_32 : decode cX0_textTold 32 = .ok (.iload_n 2, 1) := dk_28 (dk_at dksX0_textTold_1 9 rfl rfl)
theorem dX0_textTold_33 : decode cX0_textTold 33 = .ok (.ifCond .ne 18, 3) := dk_154 0 18 (dk_at dksX0_textTold_1 10 rfl rfl)
theorem dX0_textTold_36 : decode cX0_textTold 36 = .ok (.aload_n 0, 1) := dk_42 (dk_at dksX0_textTold_1 13 rfl rfl)
theorem dX0_textTold_37 : decode cX0_textTold 37 = .ok (.getfield 58, 3) := dk_180 0 58 (dk_at dksX0_textTold_1 14 rfl rfl)
theorem dX0_textTold_40 : decode cX0_textTold 40 = .ok (.getfield 401, 3) := dk_180 1 145 (dk_at dksX0_textTold_1 17 rfl rfl)
theorem dX0_textTold_43 : decode cX0_textTold 43 = .ok (.iload_n 1, 1) := dk_27 (dk_at dksX0_textTold_1 20 rfl rfl)
theorem dX0_textTold_44 : decode cX0_textTold 44 = .ok (.aaload, 1) := dk_50 (dk_at dksX0_textTold_1 21 rfl rfl)
theorem dX0_textTold_45 : decode cX0_textTold 45 = .ok (.getfield 408, 3) := dk_180 1 152 (dk_at dksX0_textTold_2 0 rfl rfl)
theorem dX0_textTold_48 : decode cX0_textTold 48 = .ok (.goto 15, 3) := dk_167 0 15 (dk_at dksX0_textTold_2 3 rfl rfl)
theorem dX0_textTold_51 : decode cX0_textTold 51 = .ok (.aload_n 0, 1) := dk_42 (dk_at dksX0_textTold_2 6 rfl rfl)
theorem dX0_textTold_52 : decode cX0_textTold 52 = .ok (.getfield 58, 3) := dk_180 0 58 (dk_at dksX0_textTold_2 7 rfl rfl)
theorem dX0_textTold_55 : decode cX0_textTold 55 = .ok (.getfield 401, 3) := dk_180 1 145 (dk_at dksX0_textTold_2 10 rfl rfl)
theorem dX0_textTold_58 : decode cX0_textTold 58 = .ok (.iload_n 1, 1) := dk_27 (dk_at dksX0_textTold_2 13 rfl rfl)
theorem dX0_textTold_59 : decode cX0_textTold 59 = .ok (.aaload, 1) := dk_50 (dk_at dksX0_textTold_2 14 rfl rfl)
theorem dX0_textTold_60 : decode cX0_textTold 60 = .ok (.getfield 409, 3) := dk_180 1 153 (dk_at dksX0_textTold_2 15 rfl rfl)
theorem dX0_textTold_63 : decode cX0_textTold 63 = .ok (.ireturn, 1) := dk_172 (dk_at dksX0_textTold_2 18 rfl rfl)
abbrev cX0_why : ByteArray := prog_1_method_62_code
def yX0_why : MethodName := ⟨RX0, "why", "(I)I"⟩
def dkwX0_why_1 : List UInt8 := [18, 109, 172]
abbrev dktX0_why_1 : List UInt8 := dkwX0_why_1 ++ []
def dkwX0_why_0 : List UInt8 := [27, 133, 9, 20, 0, 234, 184, 0, 96, 153, 0, 14, 42, 27, 182, 1, 154, 184, 1, 18, 167, 0, 5]
abbrev dktX0_why_0 : List UInt8 := dkwX0_why_0 ++ dktX0_why_1
theorem dksX0_why_0 : cX0_why.data.toList.drop 0 = dktX0_why_0 := by decide +kernel
theorem dksX0_why_1 : cX0_why.data.toList.drop 23 = dktX0_why_1 := dk_seg dksX0_why_0 23 rfl rfl
theorem dX0_why_0 : decode cX0_why 0 = .ok (.iload_n 1, 1) := dk_27 (dk_at dksX0_why_0 0 rfl rfl)
theorem dX0_why_1 : decode cX0_why 1 = .ok (.i2l, 1) := dk_133 (dk_at dksX0_why_0 1 rfl rfl)
theorem dX0_why_2 : decode cX0_why 2 = .ok (.lconst 0, 1) := dk_9 (dk_at dksX0_why_0 2 rfl rfl)
theorem dX0_why_3 : decode cX0_why 3 = .ok (.ldc2_w 234, 3) := dk_20 0 234 (dk_at dksX0_why_0 3 rfl rfl)
theorem dX0_why_6 : decode cX0_why 6 = .ok (.invokestatic 96, 3) := dk_184 0 96 (dk_at dksX0_why_0 6 rfl rfl)
theorem dX0_why_9 : decode cX0_why 9 = .ok (.ifCond .eq 14, 3) := dk_153 0 14 (dk_at dksX0_why_0 9 rfl rfl)
theorem dX0_why_12 : decode cX0_why 12 = .ok (.aload_n 0, 1) := dk_42 (dk_at dksX0_why_0 12 rfl rfl)
theorem dX0_why_13 : decode cX0_why 13 = .ok (.iload_n 1, 1) := dk_27 (dk_at dksX0_why_0 13 rfl rfl)
theorem dX0_why_14 : decode cX0_why 14 = .ok (.invokevirtual 410, 3) := dk_182 1 154 (dk_at dksX0_why_0 14 rfl rfl)
theorem dX0_why_17 : decode cX0_why 17 = .ok (.invokestatic 274, 3) := dk_184 1 18 (dk_at dksX0_why_0 17 rfl rfl)
theorem dX0_why_20 : decode cX0_why 20 = .ok (.goto 5, 3) := dk_167 0 5 (dk_at dksX0_why_0 20 rfl rfl)
theorem dX0_why_23 : decode cX0_why 23 = .ok (.ldc 109, 2) := dk_18 109 (dk_at dksX0_why_1 0 rfl rfl)
theorem dX0_why_25 : decode cX0_why 25 = .ok (.ireturn, 1) := dk_172 (dk_at dksX0_why_1 2 rfl rfl)
abbrev cX0_sheet : ByteArray := prog_1_method_68_code
def yX0_sheet : MethodName := ⟨RX0, "sheet", "(III)I"⟩
def dkwX0_sheet_3 : List UInt8 := [50, 29, 188, 6, 181, 1, 9, 29, 172, 58, 4, 19, 1, 179, 172]
abbrev dktX0_sheet_3 : List UInt8 := dkwX0_sheet_3 ++ []
def dkwX0_sheet_2 : List UInt8 := [28, 154, 0, 18, 42, 180, 0, 77, 27, 50, 29, 188, 9, 181, 1, 9, 167, 0, 15, 42, 180, 0, 77, 27]
abbrev dktX0_sheet_2 : List UInt8 := dkwX0_sheet_2 ++ dktX0_sheet_3
def dkwX0_sheet_1 : List UInt8 := [16, 24, 164, 0, 6, 18, 109, 172, 28, 156, 0, 15, 42, 180, 0, 77, 27, 50, 1, 181, 1, 9, 3, 172]
abbrev dktX0_sheet_1 : List UInt8 := dkwX0_sheet_1 ++ dktX0_sheet_2
def dkwX0_sheet_0 : List UInt8 := [27, 184, 1, 6, 153, 0, 25, 28, 133, 20, 1, 175, 10, 184, 0, 96, 153, 0, 13, 28, 155, 0, 12, 29]
abbrev dktX0_sheet_0 : List UInt8 := dkwX0_sheet_0 ++ dktX0_sheet_1
theorem dksX0_sheet_0 : cX0_sheet.data.toList.drop 0 = dktX0_sheet_0 := by decide +kernel
theorem dksX0_sheet_1 : cX0_sheet.data.toList.drop 24 = dktX0_sheet_1 := dk_seg dksX0_sheet_0 24 rfl rfl
theorem dksX0_sheet_2 : cX0_sheet.data.toList.drop 48 = dktX0_sheet_2 := dk_seg dksX0_sheet_1 24 rfl rfl
theorem dksX0_sheet_3 : cX0_sheet.data.toList.drop 72 = dktX0_sheet_3 := dk_seg dksX0_sheet_2 24 rfl rfl
theorem dX0_sheet_0 : decode cX0_sheet 0 = .ok (.iload_n 1, 1) := dk_27 (dk_at dksX0_sheet_0 0 rfl rfl)
theorem dX0_sheet_1 : decode cX0_sheet 1 = .ok (.invokestatic 262, 3) := dk_184 1 6 (dk_at dksX0_sheet_0 1 rfl rfl)
theorem dX0_sheet_4 : decode cX0_sheet 4 = .ok (.ifCond .eq 25, 3) := dk_153 0 25 (dk_at dksX0_sheet_0 4 rfl rfl)
theorem dX0_sheet_7 : decode cX0_sheet 7 = .ok (.iload_n 2, 1) := dk_28 (dk_at dksX0_sheet_0 7 rfl rfl)
theorem dX0_sheet_8 : decode cX0_sheet 8 = .ok (.i2l, 1) := dk_133 (dk_at dksX0_sheet_0 8 rfl rfl)
theorem dX0_sheet_9 : decode cX0_sheet 9 = .ok (.ldc2_w 431, 3) := dk_20 1 175 (dk_at dksX0_sheet_0 9 rfl rfl)
theorem dX0_sheet_12 : decode cX0_sheet 12 = .ok (.lconst 1, 1) := dk_10 (dk_at dksX0_sheet_0 12 rfl rfl)
theorem dX0_sheet_13 : decode cX0_sheet 13 = .ok (.invokestatic 96, 3) := dk_184 0 96 (dk_at dksX0_sheet_0 13 rfl rfl)
theorem dX0_sheet_16 : decode cX0_sheet 16 = .ok (.ifCond .eq 13, 3) := dk_153 0 13 (dk_at dksX0_sheet_0 16 rfl rfl)
theorem dX0_sheet_19 : decode cX0_sheet 19 = .ok (.iload_n 2, 1) := dk_28 (dk_at dksX0_sheet_0 19 rfl rfl)
theorem dX0_sheet_20 : decode cX0_sheet 20 = .ok (.ifCond .lt 12, 3) := dk_155 0 12 (dk_at dksX0_sheet_0 20 rfl rfl)
theorem dX0_sheet_23 : decode cX0_sheet 23 = .ok (.iload_n 3, 1) := dk_29 (dk_at dksX0_sheet_0 23 rfl rfl)
theorem dX0_sheet_24 : decode cX0_sheet 24 = .ok (.bipush 24, 2) := dk_16 24 (dk_at dksX0_sheet_1 0 rfl rfl)
theorem dX0_sheet_26 : decode cX0_sheet 26 = .ok (.if_icmp .le 6, 3) := dk_164 0 6 (dk_at dksX0_sheet_1 2 rfl rfl)
theorem dX0_sheet_29 : decode cX0_sheet 29 = .ok (.ldc 109, 2) := dk_18 109 (dk_at dksX0_sheet_1 5 rfl rfl)
theorem dX0_sheet_31 : decode cX0_sheet 31 = .ok (.ireturn, 1) := dk_172 (dk_at dksX0_sheet_1 7 rfl rfl)
theorem dX0_sheet_32 : decode cX0_sheet 32 = .ok (.iload_n 2, 1) := dk_28 (dk_at dksX0_sheet_1 8 rfl rfl)
theorem dX0_sheet_33 : decode cX0_sheet 33 = .ok (.ifCond .ge 15, 3) := dk_156 0 15 (dk_at dksX0_sheet_1 9 rfl rfl)
theorem dX0_sheet_36 : decode cX0_sheet 36 = .ok (.aload_n 0, 1) := dk_42 (dk_at dksX0_sheet_1 12 rfl rfl)
theorem dX0_sheet_37 : decode cX0_sheet 37 = .ok (.getfield 77, 3) := dk_180 0 77 (dk_at dksX0_sheet_1 13 rfl rfl)
theorem dX0_sheet_40 : decode cX0_sheet 40 = .ok (.iload_n 1, 1) := dk_27 (dk_at dksX0_sheet_1 16 rfl rfl)
theorem dX0_sheet_41 : decode cX0_sheet 41 = .ok (.aaload, 1) := dk_50 (dk_at dksX0_sheet_1 17 rfl rfl)
theorem dX0_sheet_42 : decode cX0_sheet 42 = .ok (.aconst_null, 1) := dk_1 (dk_at dksX0_sheet_1 18 rfl rfl)
theorem dX0_sheet_43 : decode cX0_sheet 43 = .ok (.putfield 265, 3) := dk_181 1 9 (dk_at dksX0_sheet_1 19 rfl rfl)
theorem dX0_sheet_46 : decode cX0_sheet 46 = .ok (.iconst 0, 1) := dk_3 (dk_at dksX0_sheet_1 22 rfl rfl)
theorem dX0_sheet_47 : decode cX0_sheet 47 = .ok (.ireturn, 1) := dk_172 (dk_at dksX0_sheet_1 23 rfl rfl)
theorem dX0_sheet_48 : decode cX0_sheet 48 = .ok (.iload_n 2, 1) := dk_28 (dk_at dksX0_sheet_2 0 rfl rfl)
theorem dX0_sheet_49 : decode cX0_sheet 49 = .ok (.ifCond .ne 18, 3) := dk_154 0 18 (dk_at dksX0_sheet_2 1 rfl rfl)
theorem dX0_sheet_52 : decode cX0_sheet 52 = .ok (.aload_n 0, 1) := dk_42 (dk_at dksX0_sheet_2 4 rfl rfl)
theorem dX0_sheet_53 : decode cX0_sheet 53 = .ok (.getfield 77, 3) := dk_180 0 77 (dk_at dksX0_sheet_2 5 rfl rfl)
theorem dX0_sheet_56 : decode cX0_sheet 56 = .ok (.iload_n 1, 1) := dk_27 (dk_at dksX0_sheet_2 8 rfl rfl)
theorem dX0_sheet_57 : decode cX0_sheet 57 = .ok (.aaload, 1) := dk_50 (dk_at dksX0_sheet_2 9 rfl rfl)
theorem dX0_sheet_58 : decode cX0_sheet 58 = .ok (.iload_n 3, 1) := dk_29 (dk_at dksX0_sheet_2 10 rfl rfl)
theorem dX0_sheet_59 : decode cX0_sheet 59 = .ok (.newarray .short, 2) := dk_188_9 (dk_at dksX0_sheet_2 11 rfl rfl)
theorem dX0_sheet_61 : decode cX0_sheet 61 = .ok (.putfield 265, 3) := dk_181 1 9 (dk_at dksX0_sheet_2 13 rfl rfl)
theorem dX0_sheet_64 : decode cX0_sheet 64 = .ok (.goto 15, 3) := dk_167 0 15 (dk_at dksX0_sheet_2 16 rfl rfl)
theorem dX0_sheet_67 : decode cX0_sheet 67 = .ok (.aload_n 0, 1) := dk_42 (dk_at dksX0_sheet_2 19 rfl rfl)
theorem dX0_sheet_68 : decode cX0_sheet 68 = .ok (.getfield 77, 3) := dk_180 0 77 (dk_at dksX0_sheet_2 20 rfl rfl)
theorem dX0_sheet_71 : decode cX0_sheet 71 = .ok (.iload_n 1, 1) := dk_27 (dk_at dksX0_sheet_2 23 rfl rfl)
theorem dX0_sheet_72 : decode cX0_sheet 72 = .ok (.aaload, 1) := dk_50 (dk_at dksX0_sheet_3 0 rfl rfl)
theorem dX0_sheet_73 : decode cX0_sheet 73 = .ok (.iload_n 3, 1) := dk_29 (dk_at dksX0_sheet_3 1 rfl rfl)
theorem dX0_sheet_74 : decode cX0_sheet 74 = .ok (.newarray .float, 2) := dk_188_6 (dk_at dksX0_sheet_3 2 rfl rfl)
theorem dX0_sheet_76 : decode cX0_sheet 76 = .ok (.putfield 265, 3) := dk_181 1 9 (dk_at dksX0_sheet_3 4 rfl rfl)
theorem dX0_sheet_79 : decode cX0_sheet 79 = .ok (.iload_n 3, 1) := dk_29 (dk_at dksX0_sheet_3 7 rfl rfl)
theorem dX0_sheet_80 : decode cX0_sheet 80 = .ok (.ireturn, 1) := dk_172 (dk_at dksX0_sheet_3 8 rfl rfl)
theorem dX0_sheet_81 : decode cX0_sheet 81 = .ok (.astore 4, 2) := dk_58 4 (dk_at dksX0_sheet_3 9 rfl rfl)
theorem dX0_sheet_83 : decode cX0_sheet 83 = .ok (.ldc_w 435, 3) := dk_19 1 179 (dk_at dksX0_sheet_3 11 rfl rfl)
theorem dX0_sheet_86 : decode cX0_sheet 86 = .ok (.ireturn, 1) := dk_172 (dk_at dksX0_sheet_3 14 rfl rfl)
abbrev cX0_mark : ByteArray := prog_1_method_70_code
def yX0_mark : MethodName := ⟨RX0, "mark", "(III)I"⟩
def dkwX0_mark_2 : List UInt8 := [19, 1, 196, 172]
abbrev dktX0_mark_2 : List UInt8 := dkwX0_mark_2 ++ []
def dkwX0_mark_1 : List UInt8 := [25, 4, 184, 0, 251, 184, 1, 187, 25, 4, 28, 29, 184, 1, 190, 172, 58, 4, 19, 1, 13, 172, 58, 4]
abbrev dktX0_mark_1 : List UInt8 := dkwX0_mark_1 ++ dktX0_mark_2
def dkwX0_mark_0 : List UInt8 := [27, 184, 1, 6, 154, 0, 6, 18, 109, 172, 42, 180, 0, 77, 27, 50, 180, 1, 9, 58, 4, 28, 4]
abbrev dktX0_mark_0 : List UInt8 := dkwX0_mark_0 ++ dktX0_mark_1
theorem dksX0_mark_0 : cX0_mark.data.toList.drop 0 = dktX0_mark_0 := by decide +kernel
theorem dksX0_mark_1 : cX0_mark.data.toList.drop 23 = dktX0_mark_1 := dk_seg dksX0_mark_0 23 rfl rfl
theorem dksX0_mark_2 : cX0_mark.data.toList.drop 47 = dktX0_mark_2 := dk_seg dksX0_mark_1 24 rfl rfl
theorem dX0_mark_0 : decode cX0_mark 0 = .ok (.iload_n 1, 1) := dk_27 (dk_at dksX0_mark_0 0 rfl rfl)
theorem dX0_mark_1 : decode cX0_mark 1 = .ok (.invokestatic 262, 3) := dk_184 1 6 (dk_at dksX0_mark_0 1 rfl rfl)
theorem dX0_mark_4 : decode cX0_mark 4 = .ok (.ifCond .ne 6, 3) := dk_154 0 6 (dk_at dksX0_mark_0 4 rfl rfl)
theorem dX0_mark_7 : decode cX0_mark 7 = .ok (.ldc 109, 2) := dk_18 109 (dk_at dksX0_mark_0 7 rfl rfl)
theorem dX0_mark_9 : decode cX0_mark 9 = .ok (.ireturn, 1) := dk_172 (dk_at dksX0_mark_0 9 rfl rfl)
theorem dX0_mark_10 : decode cX0_mark 10 = .ok (.aload_n 0, 1) := dk_42 (dk_at dksX0_mark_0 10 rfl rfl)
theorem dX0_mark_11 : decode cX0_mark 11 = .ok (.getfield 77, 3) := dk_180 0 77 (dk_at dksX0_mark_0 11 rfl rfl)
theorem dX0_mark_14 : decode cX0_mark 14 = .ok (.iload_n 1, 1) := dk_27 (dk_at dksX0_mark_0 14 rfl rfl)
theorem dX0_mark_15 : decode cX0_mark 15 = .ok (.aaload, 1) := dk_50 (dk_at dksX0_mark_0 15 rfl rfl)
theorem dX0_mark_16 : decode cX0_mark 16 = .ok (.getfield 265, 3) := dk_180 1 9 (dk_at dksX0_mark_0 16 rfl rfl)
theorem dX0_mark_19 : decode cX0_mark 19 = .ok (.astore 4, 2) := dk_58 4 (dk_at dksX0_mark_0 19 rfl rfl)
theorem dX0_mark_21 : decode cX0_mark 21 = .ok (.iload_n 2, 1) := dk_28 (dk_at dksX0_mark_0 21 rfl rfl)
theorem dX0_mark_22 : decode cX0_mark 22 = .ok (.iconst 1, 1) := dk_4 (dk_at dksX0_mark_0 22 rfl rfl)
theorem dX0_mark_23 : decode cX0_mark 23 = .ok (.aload 4, 2) := dk_25 4 (dk_at dksX0_mark_1 0 rfl rfl)
theorem dX0_mark_25 : decode cX0_mark 25 = .ok (.invokestatic 251, 3) := dk_184 0 251 (dk_at dksX0_mark_1 2 rfl rfl)
theorem dX0_mark_28 : decode cX0_mark 28 = .ok (.invokestatic 443, 3) := dk_184 1 187 (dk_at dksX0_mark_1 5 rfl rfl)
theorem dX0_mark_31 : decode cX0_mark 31 = .ok (.aload 4, 2) := dk_25 4 (dk_at dksX0_mark_1 8 rfl rfl)
theorem dX0_mark_33 : decode cX0_mark 33 = .ok (.iload_n 2, 1) := dk_28 (dk_at dksX0_mark_1 10 rfl rfl)
theorem dX0_mark_34 : decode cX0_mark 34 = .ok (.iload_n 3, 1) := dk_29 (dk_at dksX0_mark_1 11 rfl rfl)
theorem dX0_mark_35 : decode cX0_mark 35 = .ok (.invokestatic 446, 3) := dk_184 1 190 (dk_at dksX0_mark_1 12 rfl rfl)
theorem dX0_mark_38 : decode cX0_mark 38 = .ok (.ireturn, 1) := dk_172 (dk_at dksX0_mark_1 15 rfl rfl)
theorem dX0_mark_39 : decode cX0_mark 39 = .ok (.astore 4, 2) := dk_58 4 (dk_at dksX0_mark_1 16 rfl rfl)
theorem dX0_mark_41 : decode cX0_mark 41 = .ok (.ldc_w 269, 3) := dk_19 1 13 (dk_at dksX0_mark_1 18 rfl rfl)
theorem dX0_mark_44 : decode cX0_mark 44 = .ok (.ireturn, 1) := dk_172 (dk_at dksX0_mark_1 21 rfl rfl)
theorem dX0_mark_45 : decode cX0_mark 45 = .ok (.astore 4, 2) := dk_58 4 (dk_at dksX0_mark_1 22 rfl rfl)
theorem dX0_mark_47 : decode cX0_mark 47 = .ok (.ldc_w 452, 3) := dk_19 1 196 (dk_at dksX0_mark_2 0 rfl rfl)
theorem dX0_mark_50 : decode cX0_mark 50 = .ok (.ireturn, 1) := dk_172 (dk_at dksX0_mark_2 3 rfl rfl)
abbrev cX0_within : ByteArray := prog_1_method_67_code
def yX0_within : MethodName := ⟨RX0, "within", "(III)V"⟩
def dkwX0_within_0 : List UInt8 := [26, 155, 0, 14, 27, 155, 0, 10, 26, 28, 27, 100, 164, 0, 11, 187, 1, 172, 89, 183, 1, 174, 191, 177]
abbrev dktX0_within_0 : List UInt8 := dkwX0_within_0 ++ []
theorem dksX0_within_0 : cX0_within.data.toList.drop 0 = dktX0_within_0 := by decide +kernel
theorem dX0_within_0 : decode cX0_within 0 = .ok (.iload_n 0, 1) := dk_26 (dk_at dksX0_within_0 0 rfl rfl)
theorem dX0_within_1 : decode cX0_within 1 = .ok (.ifCond .lt 14, 3) := dk_155 0 14 (dk_at dksX0_within_0 1 rfl rfl)
theorem dX0_within_4 : decode cX0_within 4 = .ok (.iload_n 1, 1) := dk_27 (dk_at dksX0_within_0 4 rfl rfl)
theorem dX0_within_5 : decode cX0_within 5 = .ok (.ifCond .lt 10, 3) := dk_155 0 10 (dk_at dksX0_within_0 5 rfl rfl)
theorem dX0_within_8 : decode cX0_within 8 = .ok (.iload_n 0, 1) := dk_26 (dk_at dksX0_within_0 8 rfl rfl)
theorem dX0_within_9 : decode cX0_within 9 = .ok (.iload_n 2, 1) := dk_28 (dk_at dksX0_within_0 9 rfl rfl)
theorem dX0_within_10 : decode cX0_within 10 = .ok (.iload_n 1, 1) := dk_27 (dk_at dksX0_within_0 10 rfl rfl)
theorem dX0_within_11 : decode cX0_within 11 = .ok (.isub, 1) := dk_100 (dk_at dksX0_within_0 11 rfl rfl)
theorem dX0_within_12 : decode cX0_within 12 = .ok (.if_icmp .le 11, 3) := dk_164 0 11 (dk_at dksX0_within_0 12 rfl rfl)
theorem dX0_within_15 : decode cX0_within 15 = .ok (.new 428, 3) := dk_187 1 172 (dk_at dksX0_within_0 15 rfl rfl)
theorem dX0_within_18 : decode cX0_within 18 = .ok (.dup, 1) := dk_89 (dk_at dksX0_within_0 18 rfl rfl)
theorem dX0_within_19 : decode cX0_within 19 = .ok (.invokespecial 430, 3) := dk_183 1 174 (dk_at dksX0_within_0 19 rfl rfl)
theorem dX0_within_22 : decode cX0_within 22 = .ok (.athrow, 1) := dk_191 (dk_at dksX0_within_0 22 rfl rfl)
theorem dX0_within_23 : decode cX0_within 23 = .ok (.return_, 1) := dk_177 (dk_at dksX0_within_0 23 rfl rfl)
abbrev cX0_written : ByteArray := prog_1_method_69_code
def yX0_written : MethodName := ⟨RX0, "written", "(Ljava/lang/Object;II)I"⟩
def dkwX0_written_2 : List UInt8 := [172, 42, 192, 1, 170, 27, 28, 18, 3, 160, 0, 9, 19, 1, 186, 167, 0, 5, 28, 134, 81, 4, 172]
abbrev dktX0_written_2 : List UInt8 := dkwX0_written_2 ++ []
def dkwX0_written_1 : List UInt8 := [4, 172, 28, 18, 3, 159, 0, 20, 28, 133, 20, 1, 180, 20, 1, 182, 184, 0, 96, 154, 0, 6, 18, 109]
abbrev dktX0_written_1 : List UInt8 := dkwX0_written_1 ++ dktX0_written_2
def dkwX0_written_0 : List UInt8 := [42, 193, 1, 168, 153, 0, 22, 28, 18, 3, 160, 0, 6, 18, 159, 172, 42, 192, 1, 168, 27, 28, 147, 86]
abbrev dktX0_written_0 : List UInt8 := dkwX0_written_0 ++ dktX0_written_1
theorem dksX0_written_0 : cX0_written.data.toList.drop 0 = dktX0_written_0 := by decide +kernel
theorem dksX0_written_1 : cX0_written.data.toList.drop 24 = dktX0_written_1 := dk_seg dksX0_written_0 24 rfl rfl
theorem dksX0_written_2 : cX0_written.data.toList.drop 48 = dktX0_written_2 := dk_seg dksX0_written_1 24 rfl rfl
theorem dX0_written_0 : decode cX0_written 0 = .ok (.aload_n 0, 1) := dk_42 (dk_at dksX0_written_0 0 rfl rfl)
theorem dX0_written_1 : decode cX0_written 1 = .ok (.instanceof 424, 3) := dk_193 1 168 (dk_at dksX0_written_0 1 rfl rfl)
theorem dX0_written_4 : decode cX0_written 4 = .ok (.ifCond .eq 22, 3) := dk_153 0 22 (dk_at dksX0_written_0 4 rfl rfl)
theorem dX0_written_7 : decode cX0_written 7 = .ok (.iload_n 2, 1) := dk_28 (dk_at dksX0_written_0 7 rfl rfl)
theorem dX0_written_8 : decode cX0_written 8 = .ok (.ldc 3, 2) := dk_18 3 (dk_at dksX0_written_0 8 rfl rfl)
theorem dX0_written_10 : decode cX0_written 10 = .ok (.if_icmp .ne 6, 3) := dk_160 0 6 (dk_at dksX0_written_0 10 rfl rfl)
theorem dX0_written_13 : decode cX0_written 13 = .ok (.ldc 159, 2) := dk_18 159 (dk_at dksX0_written_0 13 rfl rfl)
theorem dX0_written_15 : decode cX0_written 15 = .ok (.ireturn, 1) := dk_172 (dk_at dksX0_written_0 15 rfl rfl)
theorem dX0_written_16 : decode cX0_written 16 = .ok (.aload_n 0, 1) := dk_42 (dk_at dksX0_written_0 16 rfl rfl)
theorem dX0_written_17 : decode cX0_written 17 = .ok (.checkcast 424, 3) := dk_192 1 168 (dk_at dksX0_written_0 17 rfl rfl)
theorem dX0_written_20 : decode cX0_written 20 = .ok (.iload_n 1, 1) := dk_27 (dk_at dksX0_written_0 20 rfl rfl)
theorem dX0_written_21 : decode cX0_written 21 = .ok (.iload_n 2, 1) := dk_28 (dk_at dksX0_written_0 21 rfl rfl)
theorem dX0_written_22 : decode cX0_written 22 = .ok (.i2s, 1) := dk_147 (dk_at dksX0_written_0 22 rfl rfl)
theorem dX0_written_23 : decode cX0_written 23 = .ok (.sastore, 1) := dk_86 (dk_at dksX0_written_0 23 rfl rfl)
theorem dX0_written_24 : decode cX0_written 24 = .ok (.iconst 1, 1) := dk_4 (dk_at dksX0_written_1 0 rfl rfl)
theorem dX0_written_25 : decode cX0_written 25 = .ok (.ireturn, 1) := dk_172 (dk_at dksX0_written_1 1 rfl rfl)
theorem dX0_written_26 : decode cX0_written 26 = .ok (.iload_n 2, 1) := dk_28 (dk_at dksX0_written_1 2 rfl rfl)
theorem dX0_written_27 : decode cX0_written 27 = .ok (.ldc 3, 2) := dk_18 3 (dk_at dksX0_written_1 3 rfl rfl)
theorem dX0_written_29 : decode cX0_written 29 = .ok (.if_icmp .eq 20, 3) := dk_159 0 20 (dk_at dksX0_written_1 5 rfl rfl)
theorem dX0_written_32 : decode cX0_written 32 = .ok (.iload_n 2, 1) := dk_28 (dk_at dksX0_written_1 8 rfl rfl)
theorem dX0_written_33 : decode cX0_written 33 = .ok (.i2l, 1) := dk_133 (dk_at dksX0_written_1 9 rfl rfl)
theorem dX0_written_34 : decode cX0_written 34 = .ok (.ldc2_w 436, 3) := dk_20 1 180 (dk_at dksX0_written_1 10 rfl rfl)
theorem dX0_written_37 : decode cX0_written 37 = .ok (.ldc2_w 438, 3) := dk_20 1 182 (dk_at dksX0_written_1 13 rfl rfl)
theorem dX0_written_40 : decode cX0_written 40 = .ok (.invokestatic 96, 3) := dk_184 0 96 (dk_at dksX0_written_1 16 rfl rfl)
theorem dX0_written_43 : decode cX0_written 43 = .ok (.ifCond .ne 6, 3) := dk_154 0 6 (dk_at dksX0_written_1 19 rfl rfl)
theorem dX0_written_46 : decode cX0_written 46 = .ok (.ldc 109, 2) := dk_18 109 (dk_at dksX0_written_1 22 rfl rfl)
theorem dX0_written_48 : decode cX0_written 48 = .ok (.ireturn, 1) := dk_172 (dk_at dksX0_written_2 0 rfl rfl)
theorem dX0_written_49 : decode cX0_written 49 = .ok (.aload_n 0, 1) := dk_42 (dk_at dksX0_written_2 1 rfl rfl)
theorem dX0_written_50 : decode cX0_written 50 = .ok (.checkcast 426, 3) := dk_192 1 170 (dk_at dksX0_written_2 2 rfl rfl)
theorem dX0_written_53 : decode cX0_written 53 = .ok (.iload_n 1, 1) := dk_27 (dk_at dksX0_written_2 5 rfl rfl)
theorem dX0_written_54 : decode cX0_written 54 = .ok (.iload_n 2, 1) := dk_28 (dk_at dksX0_written_2 6 rfl rfl)
theorem dX0_written_55 : decode cX0_written 55 = .ok (.ldc 3, 2) := dk_18 3 (dk_at dksX0_written_2 7 rfl rfl)
theorem dX0_written_57 : decode cX0_written 57 = .ok (.if_icmp .ne 9, 3) := dk_160 0 9 (dk_at dksX0_written_2 9 rfl rfl)
theorem dX0_written_60 : decode cX0_written 60 = .ok (.ldc_w 442, 3) := dk_19 1 186 (dk_at dksX0_written_2 12 rfl rfl)
theorem dX0_written_63 : decode cX0_written 63 = .ok (.goto 5, 3) := dk_167 0 5 (dk_at dksX0_written_2 15 rfl rfl)
theorem dX0_written_66 : decode cX0_written 66 = .ok (.iload_n 2, 1) := dk_28 (dk_at dksX0_written_2 18 rfl rfl)
theorem dX0_written_67 : decode cX0_written 67 = .ok (.i2f, 1) := dk_134 (dk_at dksX0_written_2 19 rfl rfl)
theorem dX0_written_68 : decode cX0_written 68 = .ok (.fastore, 1) := dk_81 (dk_at dksX0_written_2 20 rfl rfl)
theorem dX0_written_69 : decode cX0_written 69 = .ok (.iconst 1, 1) := dk_4 (dk_at dksX0_written_2 21 rfl rfl)
theorem dX0_written_70 : decode cX0_written 70 = .ok (.ireturn, 1) := dk_172 (dk_at dksX0_written_2 22 rfl rfl)
abbrev cX0_pour : ByteArray := prog_1_method_71_code
def yX0_pour : MethodName := ⟨RX0, "pour", "(I)I"⟩
def dkwX0_pour_5 : List UInt8 := [184, 0, 191, 96, 62, 25, 6, 3, 21, 7, 79, 132, 4, 1, 167, 255, 158, 29, 172]
abbrev dktX0_pour_5 : List UInt8 := dkwX0_pour_5 ++ []
def dkwX0_pour_4 : List UInt8 := [17, 3, 231, 184, 1, 197, 54, 7, 29, 21, 7, 25, 6, 3, 46, 159, 0, 7, 4, 167, 0, 4, 3]
abbrev dktX0_pour_4 : List UInt8 := dkwX0_pour_4 ++ dktX0_pour_5
def dkwX0_pour_3 : List UInt8 := [180, 0, 144, 58, 6, 21, 5, 18, 3, 160, 0, 10, 25, 6, 3, 46, 167, 0, 12, 21, 5, 3]
abbrev dktX0_pour_3 : List UInt8 := dkwX0_pour_3 ++ dktX0_pour_4
def dkwX0_pour_2 : List UInt8 := [180, 0, 92, 162, 0, 83, 44, 21, 4, 184, 0, 255, 54, 5, 42, 180, 0, 58, 180, 0, 121, 21, 4, 50]
abbrev dktX0_pour_2 : List UInt8 := dkwX0_pour_2 ++ dktX0_pour_3
def dkwX0_pour_1 : List UInt8 := [19, 1, 13, 172, 3, 62, 3, 54, 4, 21, 4, 44, 184, 0, 251, 162, 0, 95, 21, 4, 42, 180, 0, 58]
abbrev dktX0_pour_1 : List UInt8 := dkwX0_pour_1 ++ dktX0_pour_2
def dkwX0_pour_0 : List UInt8 := [27, 184, 1, 6, 154, 0, 6, 18, 109, 172, 42, 180, 0, 77, 27, 50, 180, 1, 9, 77, 44, 199, 0, 7]
abbrev dktX0_pour_0 : List UInt8 := dkwX0_pour_0 ++ dktX0_pour_1
theorem dksX0_pour_0 : cX0_pour.data.toList.drop 0 = dktX0_pour_0 := by decide +kernel
theorem dksX0_pour_1 : cX0_pour.data.toList.drop 24 = dktX0_pour_1 := dk_seg dksX0_pour_0 24 rfl rfl
theorem dksX0_pour_2 : cX0_pour.data.toList.drop 48 = dktX0_pour_2 := dk_seg dksX0_pour_1 24 rfl rfl
theorem dksX0_pour_3 : cX0_pour.data.toList.drop 72 = dktX0_pour_3 := dk_seg dksX0_pour_2 24 rfl rfl
theorem dksX0_pour_4 : cX0_pour.data.toList.drop 94 = dktX0_pour_4 := dk_seg dksX0_pour_3 22 rfl rfl
theorem dksX0_pour_5 : cX0_pour.data.toList.drop 117 = dktX0_pour_5 := dk_seg dksX0_pour_4 23 rfl rfl
theorem dX0_pour_0 : decode cX0_pour 0 = .ok (.iload_n 1, 1) := dk_27 (dk_at dksX0_pour_0 0 rfl rfl)
theorem dX0_pour_1 : decode cX0_pour 1 = .ok (.invokestatic 262, 3) := dk_184 1 6 (dk_at dksX0_pour_0 1 rfl rfl)
theorem dX0_pour_4 : decode cX0_pour 4 = .ok (.ifCond .ne 6, 3) := dk_154 0 6 (dk_at dksX0_pour_0 4 rfl rfl)
theorem dX0_pour_7 : decode cX0_pour 7 = .ok (.ldc 109, 2) := dk_18 109 (dk_at dksX0_pour_0 7 rfl rfl)
theorem dX0_pour_9 : decode cX0_pour 9 = .ok (.ireturn, 1) := dk_172 (dk_at dksX0_pour_0 9 rfl rfl)
theorem dX0_pour_10 : decode cX0_pour 10 = .ok (.aload_n 0, 1) := dk_42 (dk_at dksX0_pour_0 10 rfl rfl)
theorem dX0_pour_11 : decode cX0_pour 11 = .ok (.getfield 77, 3) := dk_180 0 77 (dk_at dksX0_pour_0 11 rfl rfl)
theorem dX0_pour_14 : decode cX0_pour 14 = .ok (.iload_n 1, 1) := dk_27 (dk_at dksX0_pour_0 14 rfl rfl)
theorem dX0_pour_15 : decode cX0_pour 15 = .ok (.aaload, 1) := dk_50 (dk_at dksX0_pour_0 15 rfl rfl)
theorem dX0_pour_16 : decode cX0_pour 16 = .ok (.getfield 265, 3) := dk_180 1 9 (dk_at dksX0_pour_0 16 rfl rfl)
theorem dX0_pour_19 : decode cX0_pour 19 = .ok (.astore_n 2, 1) := dk_77 (dk_at dksX0_pour_0 19 rfl rfl)
theorem dX0_pour_20 : decode cX0_pour 20 = .ok (.aload_n 2, 1) := dk_44 (dk_at dksX0_pour_0 20 rfl rfl)
theorem dX0_pour_21 : decode cX0_pour 21 = .ok (.ifnonnull 7, 3) := dk_199 0 7 (dk_at dksX0_pour_0 21 rfl rfl)
theorem dX0_pour_24 : decode cX0_pour 24 = .ok (.ldc_w 269, 3) := dk_19 1 13 (dk_at dksX0_pour_1 0 rfl rfl)
theorem dX0_pour_27 : decode cX0_pour 27 = .ok (.ireturn, 1) := dk_172 (dk_at dksX0_pour_1 3 rfl rfl)
theorem dX0_pour_28 : decode cX0_pour 28 = .ok (.iconst 0, 1) := dk_3 (dk_at dksX0_pour_1 4 rfl rfl)
theorem dX0_pour_29 : decode cX0_pour 29 = .ok (.istore_n 3, 1) := dk_62 (dk_at dksX0_pour_1 5 rfl rfl)
theorem dX0_pour_30 : decode cX0_pour 30 = .ok (.iconst 0, 1) := dk_3 (dk_at dksX0_pour_1 6 rfl rfl)
theorem dX0_pour_31 : decode cX0_pour 31 = .ok (.istore 4, 2) := dk_54 4 (dk_at dksX0_pour_1 7 rfl rfl)
theorem dX0_pour_33 : decode cX0_pour 33 = .ok (.iload 4, 2) := dk_21 4 (dk_at dksX0_pour_1 9 rfl rfl)
theorem dX0_pour_35 : decode cX0_pour 35 = .ok (.aload_n 2, 1) := dk_44 (dk_at dksX0_pour_1 11 rfl rfl)
theorem dX0_pour_36 : decode cX0_pour 36 = .ok (.invokestatic 251, 3) := dk_184 0 251 (dk_at dksX0_pour_1 12 rfl rfl)
theorem dX0_pour_39 : decode cX0_pour 39 = .ok (.if_icmp .ge 95, 3) := dk_162 0 95 (dk_at dksX0_pour_1 15 rfl rfl)
theorem dX0_pour_42 : decode cX0_pour 42 = .ok (.iload 4, 2) := dk_21 4 (dk_at dksX0_pour_1 18 rfl rfl)
theorem dX0_pour_44 : decode cX0_pour 44 = .ok (.aload_n 0, 1) := dk_42 (dk_at dksX0_pour_1 20 rfl rfl)
theorem dX0_pour_45 : decode cX0_pour 45 = .ok (.getfield 58, 3) := dk_180 0 58 (dk_at dksX0_pour_1 21 rfl rfl)
theorem dX0_pour_48 : decode cX0_pour 48 = .ok (.getfield 92, 3) := dk_180 0 92 (dk_at dksX0_pour_2 0 rfl rfl)
theorem dX0_pour_51 : decode cX0_pour 51 = .ok (.if_icmp .ge 83, 3) := dk_162 0 83 (dk_at dksX0_pour_2 3 rfl rfl)
theorem dX0_pour_54 : decode cX0_pour 54 = .ok (.aload_n 2, 1) := dk_44 (dk_at dksX0_pour_2 6 rfl rfl)
theorem dX0_pour_55 : decode cX0_pour 55 = .ok (.iload 4, 2) := dk_21 4 (dk_at dksX0_pour_2 7 rfl rfl)
theorem dX0_pour_57 : decode cX0_pour 57 = .ok (.invokestatic 255, 3) := dk_184 0 255 (dk_at dksX0_pour_2 9 rfl rfl)
theorem dX0_pour_60 : decode cX0_pour 60 = .ok (.istore 5, 2) := dk_54 5 (dk_at dksX0_pour_2 12 rfl rfl)
theorem dX0_pour_62 : decode cX0_pour 62 = .ok (.aload_n 0, 1) := dk_42 (dk_at dksX0_pour_2 14 rfl rfl)
theorem dX0_pour_63 : decode cX0_pour 63 = .ok (.getfield 58, 3) := dk_180 0 58 (dk_at dksX0_pour_2 15 rfl rfl)
theorem dX0_pour_66 : decode cX0_pour 66 = .ok (.getfield 121, 3) := dk_180 0 121 (dk_at dksX0_pour_2 18 rfl rfl)
theorem dX0_pour_69 : decode cX0_pour 69 = .ok (.iload 4, 2) := dk_21 4 (dk_at dksX0_pour_2 21 rfl rfl)
theorem dX0_pour_71 : decode cX0_pour 71 = .ok (.aaload, 1) := dk_50 (dk_at dksX0_pour_2 23 rfl rfl)
theorem dX0_pour_72 : decode cX0_pour 72 = .ok (.getfield 144, 3) := dk_180 0 144 (dk_at dksX0_pour_3 0 rfl rfl)
theorem dX0_pour_75 : decode cX0_pour 75 = .ok (.astore 6, 2) := dk_58 6 (dk_at dksX0_pour_3 3 rfl rfl)
theorem dX0_pour_77 : decode cX0_pour 77 = .ok (.iload 5, 2) := dk_21 5 (dk_at dksX0_pour_3 5 rfl rfl)
theorem dX0_pour_79 : decode cX0_pour 79 = .ok (.ldc 3, 2) := dk_18 3 (dk_at dksX0_pour_3 7 rfl rfl)
theorem dX0_pour_81 : decode cX0_pour 81 = .ok (.if_icmp .ne 10, 3) := dk_160 0 10 (dk_at dksX0_pour_3 9 rfl rfl)
theorem dX0_pour_84 : decode cX0_pour 84 = .ok (.aload 6, 2) := dk_25 6 (dk_at dksX0_pour_3 12 rfl rfl)
theorem dX0_pour_86 : decode cX0_pour 86 = .ok (.iconst 0, 1) := dk_3 (dk_at dksX0_pour_3 14 rfl rfl)
theorem dX0_pour_87 : decode cX0_pour 87 = .ok (.iaload, 1) := dk_46 (dk_at dksX0_pour_3 15 rfl rfl)
theorem dX0_pour_88 : decode cX0_pour 88 = .ok (.goto 12, 3) := dk_167 0 12 (dk_at dksX0_pour_3 16 rfl rfl)
theorem dX0_pour_91 : decode cX0_pour 91 = .ok (.iload 5, 2) := dk_21 5 (dk_at dksX0_pour_3 19 rfl rfl)
theorem dX0_pour_93 : decode cX0_pour 93 = .ok (.iconst 0, 1) := dk_3 (dk_at dksX0_pour_3 21 rfl rfl)
theorem dX0_pour_94 : decode cX0_pour 94 = .ok (.sipush 999, 3) := dk_17 3 231 (dk_at dksX0_pour_4 0 rfl rfl)
theorem dX0_pour_97 : decode cX0_pour 97 = .ok (.invokestatic 453, 3) := dk_184 1 197 (dk_at dksX0_pour_4 3 rfl rfl)
theorem dX0_pour_100 : decode cX0_pour 100 = .ok (.istore 7, 2) := dk_54 7 (dk_at dksX0_pour_4 6 rfl rfl)
theorem dX0_pour_102 : decode cX0_pour 102 = .ok (.iload_n 3, 1) := dk_29 (dk_at dksX0_pour_4 8 rfl rfl)
theorem dX0_pour_103 : decode cX0_pour 103 = .ok (.iload 7, 2) := dk_21 7 (dk_at dksX0_pour_4 9 rfl rfl)
theorem dX0_pour_105 : decode cX0_pour 105 = .ok (.aload 6, 2) := dk_25 6 (dk_at dksX0_pour_4 11 rfl rfl)
theorem dX0_pour_107 : decode cX0_pour 107 = .ok (.iconst 0, 1) := dk_3 (dk_at dksX0_pour_4 13 rfl rfl)
theorem dX0_pour_108 : decode cX0_pour 108 = .ok (.iaload, 1) := dk_46 (dk_at dksX0_pour_4 14 rfl rfl)
theorem dX0_pour_109 : decode cX0_pour 109 = .ok (.if_icmp .eq 7, 3) := dk_159 0 7 (dk_at dksX0_pour_4 15 rfl rfl)
theorem dX0_pour_112 : decode cX0_pour 112 = .ok (.iconst 1, 1) := dk_4 (dk_at dksX0_pour_4 18 rfl rfl)
theorem dX0_pour_113 : decode cX0_pour 113 = .ok (.goto 4, 3) := dk_167 0 4 (dk_at dksX0_pour_4 19 rfl rfl)
theorem dX0_pour_116 : decode cX0_pour 116 = .ok (.iconst 0, 1) := dk_3 (dk_at dksX0_pour_4 22 rfl rfl)
theorem dX0_pour_117 : decode cX0_pour 117 = .ok (.invokestatic 191, 3) := dk_184 0 191 (dk_at dksX0_pour_5 0 rfl rfl)
theorem dX0_pour_120 : decode cX0_pour 120 = .ok (.iadd, 1) := dk_96 (dk_at dksX0_pour_5 3 rfl rfl)
theorem dX0_pour_121 : decode cX0_pour 121 = .ok (.istore_n 3, 1) := dk_62 (dk_at dksX0_pour_5 4 rfl rfl)
theorem dX0_pour_122 : decode cX0_pour 122 = .ok (.aload 6, 2) := dk_25 6 (dk_at dksX0_pour_5 5 rfl rfl)
theorem dX0_pour_124 : decode cX0_pour 124 = .ok (.iconst 0, 1) := dk_3 (dk_at dksX0_pour_5 7 rfl rfl)
theorem dX0_pour_125 : decode cX0_pour 125 = .ok (.iload 7, 2) := dk_21 7 (dk_at dksX0_pour_5 8 rfl rfl)
theorem dX0_pour_127 : decode cX0_pour 127 = .ok (.iastore, 1) := dk_79 (dk_at dksX0_pour_5 10 rfl rfl)
theorem dX0_pour_128 : decode cX0_pour 128 = .ok (.iinc 4 1, 3) := dk_132 4 1 (dk_at dksX0_pour_5 11 rfl rfl)
theorem dX0_pour_131 : decode cX0_pour 131 = .ok (.goto (-98), 3) := dk_167 255 158 (dk_at dksX0_pour_5 14 rfl rfl)
theorem dX0_pour_134 : decode cX0_pour 134 = .ok (.iload_n 3, 1) := dk_29 (dk_at dksX0_pour_5 17 rfl rfl)
theorem dX0_pour_135 : decode cX0_pour 135 = .ok (.ireturn, 1) := dk_172 (dk_at dksX0_pour_5 18 rfl rfl)
abbrev cX0_reads : ByteArray := prog_1_method_72_code
def yX0_reads : MethodName := ⟨RX0, "reads", "(I)I"⟩
def dkwX0_reads_3 : List UInt8 := [182, 0, 135, 159, 0, 5, 29, 172, 132, 3, 1, 167, 255, 204, 18, 3, 172]
abbrev dktX0_reads_3 : List UInt8 := dkwX0_reads_3 ++ []
def dkwX0_reads_2 : List UInt8 := [18, 3, 159, 0, 30, 42, 29, 182, 0, 125, 153, 0, 20, 21, 4, 42, 180, 0, 58, 180, 0, 121, 29, 50]
abbrev dktX0_reads_2 : List UInt8 := dkwX0_reads_2 ++ dktX0_reads_3
def dkwX0_reads_1 : List UInt8 := [19, 1, 13, 172, 3, 62, 29, 44, 184, 0, 251, 162, 0, 50, 44, 29, 184, 0, 255, 54, 4, 21, 4]
abbrev dktX0_reads_1 : List UInt8 := dkwX0_reads_1 ++ dktX0_reads_2
def dkwX0_reads_0 : List UInt8 := [27, 184, 1, 6, 154, 0, 6, 18, 109, 172, 42, 180, 0, 77, 27, 50, 180, 1, 9, 77, 44, 199, 0, 7]
abbrev dktX0_reads_0 : List UInt8 := dkwX0_reads_0 ++ dktX0_reads_1
theorem dksX0_reads_0 : cX0_reads.data.toList.drop 0 = dktX0_reads_0 := by decide +kernel
theorem dksX0_reads_1 : cX0_reads.data.toList.drop 24 = dktX0_reads_1 := dk_seg dksX0_reads_0 24 rfl rfl
theorem dksX0_reads_2 : cX0_reads.data.toList.drop 47 = dktX0_reads_2 := dk_seg dksX0_reads_1 23 rfl rfl
theorem dksX0_reads_3 : cX0_reads.data.toList.drop 71 = dktX0_reads_3 := dk_seg dksX0_reads_2 24 rfl rfl
theorem dX0_reads_0 : decode cX0_reads 0 = .ok (.iload_n 1, 1) := dk_27 (dk_at dksX0_reads_0 0 rfl rfl)
theorem dX0_reads_1 : decode cX0_reads 1 = .ok (.invokestatic 262, 3) := dk_184 1 6 (dk_at dksX0_reads_0 1 rfl rfl)
theorem dX0_reads_4 : decode cX0_reads 4 = .ok (.ifCond .ne 6, 3) := dk_154 0 6 (dk_at dksX0_reads_0 4 rfl rfl)
theorem dX0_reads_7 : decode cX0_reads 7 = .ok (.ldc 109, 2) := dk_18 109 (dk_at dksX0_reads_0 7 rfl rfl)
theorem dX0_reads_9 : decode cX0_reads 9 = .ok (.ireturn, 1) := dk_172 (dk_at dksX0_reads_0 9 rfl rfl)
theorem dX0_reads_10 : decode cX0_reads 10 = .ok (.aload_n 0, 1) := dk_42 (dk_at dksX0_reads_0 10 rfl rfl)
theorem dX0_reads_11 : decode cX0_reads 11 = .ok (.getfield 77, 3) := dk_180 0 77 (dk_at dksX0_reads_0 11 rfl rfl)
theorem dX0_reads_14 : decode cX0_reads 14 = .ok (.iload_n 1, 1) := dk_27 (dk_at dksX0_reads_0 14 rfl rfl)
theorem dX0_reads_15 : decode cX0_reads 15 = .ok (.aaload, 1) := dk_50 (dk_at dksX0_reads_0 15 rfl rfl)
theorem dX0_reads_16 : decode cX0_reads 16 = .ok (.getfield 265, 3) := dk_180 1 9 (dk_at dksX0_reads_0 16 rfl rfl)
theorem dX0_reads_19 : decode cX0_reads 19 = .ok (.astore_n 2, 1) := dk_77 (dk_at dksX0_reads_0 19 rfl rfl)
theorem dX0_reads_20 : decode cX0_reads 20 = .ok (.aload_n 2, 1) := dk_44 (dk_at dksX0_reads_0 20 rfl rfl)
theorem dX0_reads_21 : decode cX0_reads 21 = .ok (.ifnonnull 7, 3) := dk_199 0 7 (dk_at dksX0_reads_0 21 rfl rfl)
theorem dX0_reads_24 : decode cX0_reads 24 = .ok (.ldc_w 269, 3) := dk_19 1 13 (dk_at dksX0_reads_1 0 rfl rfl)
theorem dX0_reads_27 : decode cX0_reads 27 = .ok (.ireturn, 1) := dk_172 (dk_at dksX0_reads_1 3 rfl rfl)
theorem dX0_reads_28 : decode cX0_reads 28 = .ok (.iconst 0, 1) := dk_3 (dk_at dksX0_reads_1 4 rfl rfl)
theorem dX0_reads_29 : decode cX0_reads 29 = .ok (.istore_n 3, 1) := dk_62 (dk_at dksX0_reads_1 5 rfl rfl)
theorem dX0_reads_30 : decode cX0_reads 30 = .ok (.iload_n 3, 1) := dk_29 (dk_at dksX0_reads_1 6 rfl rfl)
theorem dX0_reads_31 : decode cX0_reads 31 = .ok (.aload_n 2, 1) := dk_44 (dk_at dksX0_reads_1 7 rfl rfl)
theorem dX0_reads_32 : decode cX0_reads 32 = .ok (.invokestatic 251, 3) := dk_184 0 251 (dk_at dksX0_reads_1 8 rfl rfl)
theorem dX0_reads_35 : decode cX0_reads 35 = .ok (.if_icmp .ge 50, 3) := dk_162 0 50 (dk_at dksX0_reads_1 11 rfl rfl)
theorem dX0_reads_38 : decode cX0_reads 38 = .ok (.aload_n 2, 1) := dk_44 (dk_at dksX0_reads_1 14 rfl rfl)
theorem dX0_reads_39 : decode cX0_reads 39 = .ok (.iload_n 3, 1) := dk_29 (dk_at dksX0_reads_1 15 rfl rfl)
theorem dX0_reads_40 : decode cX0_reads 40 = .ok (.invokestatic 255, 3) := dk_184 0 255 (dk_at dksX0_reads_1 16 rfl rfl)
theorem dX0_reads_43 : decode cX0_reads 43 = .ok (.istore 4, 2) := dk_54 4 (dk_at dksX0_reads_1 19 rfl rfl)
theorem dX0_reads_45 : decode cX0_reads 45 = .ok (.iload 4, 2) := dk_21 4 (dk_at dksX0_reads_1 21 rfl rfl)
theorem dX0_reads_47 : decode cX0_reads 47 = .ok (.ldc 3, 2) := dk_18 3 (dk_at dksX0_reads_2 0 rfl rfl)
theorem dX0_reads_49 : decode cX0_reads 49 = .ok (.if_icmp .eq 30, 3) := dk_159 0 30 (dk_at dksX0_reads_2 2 rfl rfl)
theorem dX0_reads_52 : decode cX0_reads 52 = .ok (.aload_n 0, 1) := dk_42 (dk_at dksX0_reads_2 5 rfl rfl)
theorem dX0_reads_53 : decode cX0_reads 53 = .ok (.iload_n 3, 1) := dk_29 (dk_at dksX0_reads_2 6 rfl rfl)
theorem dX0_reads_54 : decode cX0_reads 54 = .ok (.invokevirtual 125, 3) := dk_182 0 125 (dk_at dksX0_reads_2 7 rfl rfl)
theorem dX0_reads_57 : decode cX0_reads 57 = .ok (.ifCond .eq 20, 3) := dk_153 0 20 (dk_at dksX0_reads_2 10 rfl rfl)
theorem dX0_reads_60 : decode cX0_reads 60 = .ok (.iload 4, 2) := dk_21 4 (dk_at dksX0_reads_2 13 rfl rfl)
theorem dX0_reads_62 : decode cX0_reads 62 = .ok (.aload_n 0, 1) := dk_42 (dk_at dksX0_reads_2 15 rfl rfl)
theorem dX0_reads_63 : decode cX0_reads 63 = .ok (.getfield 58, 3) := dk_180 0 58 (dk_at dksX0_reads_2 16 rfl rfl)
theorem dX0_reads_66 : decode cX0_reads 66 = .ok (.getfield 121, 3) := dk_180 0 121 (dk_at dksX0_reads_2 19 rfl rfl)
theorem dX0_reads_69 : decode cX0_reads 69 = .ok (.iload_n 3, 1) := dk_29 (dk_at dksX0_reads_2 22 rfl rfl)
theorem dX0_reads_70 : decode cX0_reads 70 = .ok (.aaload, 1) := dk_50 (dk_at dksX0_reads_2 23 rfl rfl)
theorem dX0_reads_71 : decode cX0_reads 71 = .ok (.invokevirtual 135, 3) := dk_182 0 135 (dk_at dksX0_reads_3 0 rfl rfl)
theorem dX0_reads_74 : decode cX0_reads 74 = .ok (.if_icmp .eq 5, 3) := dk_159 0 5 (dk_at dksX0_reads_3 3 rfl rfl)
theorem dX0_reads_77 : decode cX0_reads 77 = .ok (.iload_n 3, 1) := dk_29 (dk_at dksX0_reads_3 6 rfl rfl)
theorem dX0_reads_78 : decode cX0_reads 78 = .ok (.ireturn, 1) := dk_172 (dk_at dksX0_reads_3 7 rfl rfl)
theorem dX0_reads_79 : decode cX0_reads 79 = .ok (.iinc 3 1, 3) := dk_132 3 1 (dk_at dksX0_reads_3 8 rfl rfl)
theorem dX0_reads_82 : decode cX0_reads 82 = .ok (.goto (-52), 3) := dk_167 255 204 (dk_at dksX0_reads_3 11 rfl rfl)
theorem dX0_reads_85 : decode cX0_reads 85 = .ok (.ldc 3, 2) := dk_18 3 (dk_at dksX0_reads_3 14 rfl rfl)
theorem dX0_reads_87 : decode cX0_reads 87 = .ok (.ireturn, 1) := dk_172 (dk_at dksX0_reads_3 16 rfl rfl)
abbrev cX0_copy : ByteArray := prog_1_method_73_code
def yX0_copy : MethodName := ⟨RX0, "copy", "(IIIII)I"⟩
def dkwX0_copy_4 : List UInt8 := [28, 25, 7, 21, 4, 21, 5, 184, 1, 201, 21, 5, 172, 58, 8, 19, 1, 196, 172]
abbrev dktX0_copy_4 : List UInt8 := dkwX0_copy_4 ++ []
def dkwX0_copy_3 : List UInt8 := [21, 5, 25, 6, 184, 0, 251, 184, 1, 187, 21, 4, 21, 5, 25, 7, 184, 0, 251, 184, 1, 187, 25, 6]
abbrev dktX0_copy_3 : List UInt8 := dkwX0_copy_3 ++ dktX0_copy_4
def dkwX0_copy_2 : List UInt8 := [199, 0, 7, 19, 1, 13, 172, 25, 6, 193, 1, 168, 25, 7, 193, 1, 168, 159, 0, 6, 18, 159, 172, 28]
abbrev dktX0_copy_2 : List UInt8 := dkwX0_copy_2 ++ dktX0_copy_3
def dkwX0_copy_1 : List UInt8 := [180, 1, 9, 58, 6, 42, 180, 0, 77, 29, 50, 180, 1, 9, 58, 7, 25, 6, 198, 0, 8, 25, 7]
abbrev dktX0_copy_1 : List UInt8 := dkwX0_copy_1 ++ dktX0_copy_2
def dkwX0_copy_0 : List UInt8 := [27, 184, 1, 6, 153, 0, 10, 29, 184, 1, 6, 154, 0, 6, 18, 109, 172, 42, 180, 0, 77, 27, 50]
abbrev dktX0_copy_0 : List UInt8 := dkwX0_copy_0 ++ dktX0_copy_1
theorem dksX0_copy_0 : cX0_copy.data.toList.drop 0 = dktX0_copy_0 := by decide +kernel
theorem dksX0_copy_1 : cX0_copy.data.toList.drop 23 = dktX0_copy_1 := dk_seg dksX0_copy_0 23 rfl rfl
theorem dksX0_copy_2 : cX0_copy.data.toList.drop 46 = dktX0_copy_2 := dk_seg dksX0_copy_1 23 rfl rfl
theorem dksX0_copy_3 : cX0_copy.data.toList.drop 70 = dktX0_copy_3 := dk_seg dksX0_copy_2 24 rfl rfl
theorem dksX0_copy_4 : cX0_copy.data.toList.drop 94 = dktX0_copy_4 := dk_seg dksX0_copy_3 24 rfl rfl
theorem dX0_copy_0 : decode cX0_copy 0 = .ok (.iload_n 1, 1) := dk_27 (dk_at dksX0_copy_0 0 rfl rfl)
theorem dX0_copy_1 : decode cX0_copy 1 = .ok (.invokestatic 262, 3) := dk_184 1 6 (dk_at dksX0_copy_0 1 rfl rfl)
theorem dX0_copy_4 : decode cX0_copy 4 = .ok (.ifCond .eq 10, 3) := dk_153 0 10 (dk_at dksX0_copy_0 4 rfl rfl)
theorem dX0_copy_7 : decode cX0_copy 7 = .ok (.iload_n 3, 1) := dk_29 (dk_at dksX0_copy_0 7 rfl rfl)
theorem dX0_copy_8 : decode cX0_copy 8 = .ok (.invokestatic 262, 3) := dk_184 1 6 (dk_at dksX0_copy_0 8 rfl rfl)
theorem dX0_copy_11 : decode cX0_copy 11 = .ok (.ifCond .ne 6, 3) := dk_154 0 6 (dk_at dksX0_copy_0 11 rfl rfl)
theorem dX0_copy_14 : decode cX0_copy 14 = .ok (.ldc 109, 2) := dk_18 109 (dk_at dksX0_copy_0 14 rfl rfl)
theorem dX0_copy_16 : decode cX0_copy 16 = .ok (.ireturn, 1) := dk_172 (dk_at dksX0_copy_0 16 rfl rfl)
theorem dX0_copy_17 : decode cX0_copy 17 = .ok (.aload_n 0, 1) := dk_42 (dk_at dksX0_copy_0 17 rfl rfl)
theorem dX0_copy_18 : decode cX0_copy 18 = .ok (.getfield 77, 3) := dk_180 0 77 (dk_at dksX0_copy_0 18 rfl rfl)
theorem dX0_copy_21 : decode cX0_copy 21 = .ok (.iload_n 1, 1) := dk_27 (dk_at dksX0_copy_0 21 rfl rfl)
theorem dX0_copy_22 : decode cX0_copy 22 = .ok (.aaload, 1) := dk_50 (dk_at dksX0_copy_0 22 rfl rfl)
theorem dX0_copy_23 : decode cX0_copy 23 = .ok (.getfield 265, 3) := dk_180 1 9 (dk_at dksX0_copy_1 0 rfl rfl)
theorem dX0_copy_26 : decode cX0_copy 26 = .ok (.astore 6, 2) := dk_58 6 (dk_at dksX0_copy_1 3 rfl rfl)
theorem dX0_copy_28 : decode cX0_copy 28 = .ok (.aload_n 0, 1) := dk_42 (dk_at dksX0_copy_1 5 rfl rfl)
theorem dX0_copy_29 : decode cX0_copy 29 = .ok (.getfield 77, 3) := dk_180 0 77 (dk_at dksX0_copy_1 6 rfl rfl)
theorem dX0_copy_32 : decode cX0_copy 32 = .ok (.iload_n 3, 1) := dk_29 (dk_at dksX0_copy_1 9 rfl rfl)
theorem dX0_copy_33 : decode cX0_copy 33 = .ok (.aaload, 1) := dk_50 (dk_at dksX0_copy_1 10 rfl rfl)
theorem dX0_copy_34 : decode cX0_copy 34 = .ok (.getfield 265, 3) := dk_180 1 9 (dk_at dksX0_copy_1 11 rfl rfl)
theorem dX0_copy_37 : decode cX0_copy 37 = .ok (.astore 7, 2) := dk_58 7 (dk_at dksX0_copy_1 14 rfl rfl)
theorem dX0_copy_39 : decode cX0_copy 39 = .ok (.aload 6, 2) := dk_25 6 (dk_at dksX0_copy_1 16 rfl rfl)
theorem dX0_copy_41 : decode cX0_copy 41 = .ok (.ifnull 8, 3) := dk_198 0 8 (dk_at dksX0_copy_1 18 rfl rfl)
theorem dX0_copy_44 : decode cX0_copy 44 = .ok (.aload 7, 2) := dk_25 7 (dk_at dksX0_copy_1 21 rfl rfl)
theorem dX0_copy_46 : decode cX0_copy 46 = .ok (.ifnonnull 7, 3) := dk_199 0 7 (dk_at dksX0_copy_2 0 rfl rfl)
theorem dX0_copy_49 : decode cX0_copy 49 = .ok (.ldc_w 269, 3) := dk_19 1 13 (dk_at dksX0_copy_2 3 rfl rfl)
theorem dX0_copy_52 : decode cX0_copy 52 = .ok (.ireturn, 1) := dk_172 (dk_at dksX0_copy_2 6 rfl rfl)
theorem dX0_copy_53 : decode cX0_copy 53 = .ok (.aload 6, 2) := dk_25 6 (dk_at dksX0_copy_2 7 rfl rfl)
theorem dX0_copy_55 : decode cX0_copy 55 = .ok (.instanceof 424, 3) := dk_193 1 168 (dk_at dksX0_copy_2 9 rfl rfl)
theorem dX0_copy_58 : decode cX0_copy 58 = .ok (.aload 7, 2) := dk_25 7 (dk_at dksX0_copy_2 12 rfl rfl)
theorem dX0_copy_60 : decode cX0_copy 60 = .ok (.instanceof 424, 3) := dk_193 1 168 (dk_at dksX0_copy_2 14 rfl rfl)
theorem dX0_copy_63 : decode cX0_copy 63 = .ok (.if_icmp .eq 6, 3) := dk_159 0 6 (dk_at dksX0_copy_2 17 rfl rfl)
theorem dX0_copy_66 : decode cX0_copy 66 = .ok (.ldc 159, 2) := dk_18 159 (dk_at dksX0_copy_2 20 rfl rfl)
theorem dX0_copy_68 : decode cX0_copy 68 = .ok (.ireturn, 1) := dk_172 (dk_at dksX0_copy_2 22 rfl rfl)
theorem dX0_copy_69 : decode cX0_copy 69 = .ok (.iload_n 2, 1) := dk_28 (dk_at dksX0_copy_2 23 rfl rfl)
theorem dX0_copy_70 : decode cX0_copy 70 = .ok (.iload 5, 2) := dk_21 5 (dk_at dksX0_copy_3 0 rfl rfl)
theorem dX0_copy_72 : decode cX0_copy 72 = .ok (.aload 6, 2) := dk_25 6 (dk_at dksX0_copy_3 2 rfl rfl)
theorem dX0_copy_74 : decode cX0_copy 74 = .ok (.invokestatic 251, 3) := dk_184 0 251 (dk_at dksX0_copy_3 4 rfl rfl)
theorem dX0_copy_77 : decode cX0_copy 77 = .ok (.invokestatic 443, 3) := dk_184 1 187 (dk_at dksX0_copy_3 7 rfl rfl)
theorem dX0_copy_80 : decode cX0_copy 80 = .ok (.iload 4, 2) := dk_21 4 (dk_at dksX0_copy_3 10 rfl rfl)
theorem dX0_copy_82 : decode cX0_copy 82 = .ok (.iload 5, 2) := dk_21 5 (dk_at dksX0_copy_3 12 rfl rfl)
theorem dX0_copy_84 : decode cX0_copy 84 = .ok (.aload 7, 2) := dk_25 7 (dk_at dksX0_copy_3 14 rfl rfl)
theorem dX0_copy_86 : decode cX0_copy 86 = .ok (.invokestatic 251, 3) := dk_184 0 251 (dk_at dksX0_copy_3 16 rfl rfl)
theorem dX0_copy_89 : decode cX0_copy 89 = .ok (.invokestatic 443, 3) := dk_184 1 187 (dk_at dksX0_copy_3 19 rfl rfl)
theorem dX0_copy_92 : decode cX0_copy 92 = .ok (.aload 6, 2) := dk_25 6 (dk_at dksX0_copy_3 22 rfl rfl)
theorem dX0_copy_94 : decode cX0_copy 94 = .ok (.iload_n 2, 1) := dk_28 (dk_at dksX0_copy_4 0 rfl rfl)
theorem dX0_copy_95 : decode cX0_copy 95 = .ok (.aload 7, 2) := dk_25 7 (dk_at dksX0_copy_4 1 rfl rfl)
theorem dX0_copy_97 : decode cX0_copy 97 = .ok (.iload 4, 2) := dk_21 4 (dk_at dksX0_copy_4 3 rfl rfl)
theorem dX0_copy_99 : decode cX0_copy 99 = .ok (.iload 5, 2) := dk_21 5 (dk_at dksX0_copy_4 5 rfl rfl)
theorem dX0_copy_101 : decode cX0_copy 101 = .ok (.invokestatic 457, 3) := dk_184 1 201 (dk_at dksX0_copy_4 7 rfl rfl)
theorem dX0_copy_104 : decode cX0_copy 104 = .ok (.iload 5, 2) := dk_21 5 (dk_at dksX0_copy_4 10 rfl rfl)
theorem dX0_copy_106 : decode cX0_copy 106 = .ok (.ireturn, 1) := dk_172 (dk_at dksX0_copy_4 12 rfl rfl)
theorem dX0_copy_107 : decode cX0_copy 107 = .ok (.astore 8, 2) := dk_58 8 (dk_at dksX0_copy_4 13 rfl rfl)
theorem dX0_copy_109 : decode cX0_copy 109 = .ok (.ldc_w 452, 3) := dk_19 1 196 (dk_at dksX0_copy_4 15 rfl rfl)
theorem dX0_copy_112 : decode cX0_copy 112 = .ok (.ireturn, 1) := dk_172 (dk_at dksX0_copy_4 18 rfl rfl)
abbrev cX0_lay : ByteArray := prog_1_method_76_code
def yX0_lay : MethodName := ⟨RX0, "lay", "(III)I"⟩
def dkwX0_lay_8 : List UInt8 := [29, 183, 1, 219, 181, 1, 9, 25, 5, 184, 1, 220, 172]
abbrev dktX0_lay_8 : List UInt8 := dkwX0_lay_8 ++ []
def dkwX0_lay_7 : List UInt8 := [29, 50, 180, 1, 9, 184, 1, 215, 181, 1, 9, 167, 0, 20, 42, 180, 0, 81, 27, 50, 187, 1, 207, 89]
abbrev dktX0_lay_7 : List UInt8 := dkwX0_lay_7 ++ dktX0_lay_8
def dkwX0_lay_6 : List UInt8 := [180, 0, 121, 29, 50, 182, 1, 212, 181, 1, 9, 167, 0, 44, 42, 180, 0, 81, 27, 50, 42, 180, 0, 77]
abbrev dktX0_lay_6 : List UInt8 := dkwX0_lay_6 ++ dktX0_lay_7
def dkwX0_lay_5 : List UInt8 := [42, 180, 0, 81, 27, 50, 1, 181, 1, 9, 167, 0, 69, 42, 180, 0, 81, 27, 50, 42, 42, 180, 0, 58]
abbrev dktX0_lay_5 : List UInt8 := dkwX0_lay_5 ++ dktX0_lay_6
def dkwX0_lay_4 : List UInt8 := [170, 0, 0, 0, 0, 0, 89, 0, 0, 0, 0, 0, 0, 0, 2, 0, 0, 0, 27, 0, 0, 0, 40, 0, 0, 0, 65]
abbrev dktX0_lay_4 : List UInt8 := dkwX0_lay_4 ++ dktX0_lay_5
def dkwX0_lay_3 : List UInt8 := [199, 0, 7, 19, 1, 13, 172, 42, 180, 0, 81, 27, 50, 180, 1, 9, 58, 5, 28]
abbrev dktX0_lay_3 : List UInt8 := dkwX0_lay_3 ++ dktX0_lay_4
def dkwX0_lay_2 : List UInt8 := [21, 4, 154, 0, 6, 18, 109, 172, 28, 5, 160, 0, 19, 42, 180, 0, 77, 29, 50, 180, 1, 9]
abbrev dktX0_lay_2 : List UInt8 := dkwX0_lay_2 ++ dktX0_lay_3
def dkwX0_lay_1 : List UInt8 := [160, 0, 14, 29, 184, 1, 6, 153, 0, 7, 4, 167, 0, 4, 3, 54, 4, 27, 184, 1, 209, 153, 0, 8]
abbrev dktX0_lay_1 : List UInt8 := dkwX0_lay_1 ++ dktX0_lay_2
def dkwX0_lay_0 : List UInt8 := [28, 153, 0, 33, 28, 6, 159, 0, 28, 28, 4, 160, 0, 11, 42, 29, 182, 0, 125, 154, 0, 15, 28, 5]
abbrev dktX0_lay_0 : List UInt8 := dkwX0_lay_0 ++ dktX0_lay_1
theorem dksX0_lay_0 : cX0_lay.data.toList.drop 0 = dktX0_lay_0 := by decide +kernel
theorem dksX0_lay_1 : cX0_lay.data.toList.drop 24 = dktX0_lay_1 := dk_seg dksX0_lay_0 24 rfl rfl
theorem dksX0_lay_2 : cX0_lay.data.toList.drop 48 = dktX0_lay_2 := dk_seg dksX0_lay_1 24 rfl rfl
theorem dksX0_lay_3 : cX0_lay.data.toList.drop 70 = dktX0_lay_3 := dk_seg dksX0_lay_2 22 rfl rfl
theorem dksX0_lay_4 : cX0_lay.data.toList.drop 89 = dktX0_lay_4 := dk_seg dksX0_lay_3 19 rfl rfl
theorem dksX0_lay_5 : cX0_lay.data.toList.drop 116 = dktX0_lay_5 := dk_seg dksX0_lay_4 27 rfl rfl
theorem dksX0_lay_6 : cX0_lay.data.toList.drop 140 = dktX0_lay_6 := dk_seg dksX0_lay_5 24 rfl rfl
theorem dksX0_lay_7 : cX0_lay.data.toList.drop 164 = dktX0_lay_7 := dk_seg dksX0_lay_6 24 rfl rfl
theorem dksX0_lay_8 : cX0_lay.data.toList.drop 188 = dktX0_lay_8 := dk_seg dksX0_lay_7 24 rfl rfl
theorem dX0_lay_0 : decode cX0_lay 0 = .ok (.iload_n 2, 1) := dk_28 (dk_at dksX0_lay_0 0 rfl rfl)
theorem dX0_lay_1 : decode cX0_lay 1 = .ok (.ifCond .eq 33, 3) := dk_153 0 33 (dk_at dksX0_lay_0 1 rfl rfl)
theorem dX0_lay_4 : decode cX0_lay 4 = .ok (.iload_n 2, 1) := dk_28 (dk_at dksX0_lay_0 4 rfl rfl)
theorem dX0_lay_5 : decode cX0_lay 5 = .ok (.iconst 3, 1) := dk_6 (dk_at dksX0_lay_0 5 rfl rfl)
theorem dX0_lay_6 : decode cX0_lay 6 = .ok (.if_icmp .eq 28, 3) := dk_159 0 28 (dk_at dksX0_lay_0 6 rfl rfl)
theorem dX0_lay_9 : decode cX0_lay 9 = .ok (.iload_n 2, 1) := dk_28 (dk_at dksX0_lay_0 9 rfl rfl)
theorem dX0_lay_10 : decode cX0_lay 10 = .ok (.iconst 1, 1) := dk_4 (dk_at dksX0_lay_0 10 rfl rfl)
theorem dX0_lay_11 : decode cX0_lay 11 = .ok (.if_icmp .ne 11, 3) := dk_160 0 11 (dk_at dksX0_lay_0 11 rfl rfl)
theorem dX0_lay_14 : decode cX0_lay 14 = .ok (.aload_n 0, 1) := dk_42 (dk_at dksX0_lay_0 14 rfl rfl)
theorem dX0_lay_15 : decode cX0_lay 15 = .ok (.iload_n 3, 1) := dk_29 (dk_at dksX0_lay_0 15 rfl rfl)
theorem dX0_lay_16 : decode cX0_lay 16 = .ok (.invokevirtual 125, 3) := dk_182 0 125 (dk_at dksX0_lay_0 16 rfl rfl)
theorem dX0_lay_19 : decode cX0_lay 19 = .ok (.ifCond .ne 15, 3) := dk_154 0 15 (dk_at dksX0_lay_0 19 rfl rfl)
theorem dX0_lay_22 : decode cX0_lay 22 = .ok (.iload_n 2, 1) := dk_28 (dk_at dksX0_lay_0 22 rfl rfl)
theorem dX0_lay_23 : decode cX0_lay 23 = .ok (.iconst 2, 1) := dk_5 (dk_at dksX0_lay_0 23 rfl rfl)
theorem dX0_lay_24 : decode cX0_lay 24 = .ok (.if_icmp .ne 14, 3) := dk_160 0 14 (dk_at dksX0_lay_1 0 rfl rfl)
theorem dX0_lay_27 : decode cX0_lay 27 = .ok (.iload_n 3, 1) := dk_29 (dk_at dksX0_lay_1 3 rfl rfl)
theorem dX0_lay_28 : decode cX0_lay 28 = .ok (.invokestatic 262, 3) := dk_184 1 6 (dk_at dksX0_lay_1 4 rfl rfl)
theorem dX0_lay_31 : decode cX0_lay 31 = .ok (.ifCond .eq 7, 3) := dk_153 0 7 (dk_at dksX0_lay_1 7 rfl rfl)
theorem dX0_lay_34 : decode cX0_lay 34 = .ok (.iconst 1, 1) := dk_4 (dk_at dksX0_lay_1 10 rfl rfl)
theorem dX0_lay_35 : decode cX0_lay 35 = .ok (.goto 4, 3) := dk_167 0 4 (dk_at dksX0_lay_1 11 rfl rfl)
theorem dX0_lay_38 : decode cX0_lay 38 = .ok (.iconst 0, 1) := dk_3 (dk_at dksX0_lay_1 14 rfl rfl)
theorem dX0_lay_39 : decode cX0_lay 39 = .ok (.istore 4, 2) := dk_54 4 (dk_at dksX0_lay_1 15 rfl rfl)
theorem dX0_lay_41 : decode cX0_lay 41 = .ok (.iload_n 1, 1) := dk_27 (dk_at dksX0_lay_1 17 rfl rfl)
theorem dX0_lay_42 : decode cX0_lay 42 = .ok (.invokestatic 465, 3) := dk_184 1 209 (dk_at dksX0_lay_1 18 rfl rfl)
theorem dX0_lay_45 : decode cX0_lay 45 = .ok (.ifCond .eq 8, 3) := dk_153 0 8 (dk_at dksX0_lay_1 21 rfl rfl)
theorem dX0_lay_48 : decode cX0_lay 48 = .ok (.iload 4, 2) := dk_21 4 (dk_at dksX0_lay_2 0 rfl rfl)
theorem dX0_lay_50 : decode cX0_lay 50 = .ok (.ifCond .ne 6, 3) := dk_154 0 6 (dk_at dksX0_lay_2 2 rfl rfl)
theorem dX0_lay_53 : decode cX0_lay 53 = .ok (.ldc 109, 2) := dk_18 109 (dk_at dksX0_lay_2 5 rfl rfl)
theorem dX0_lay_55 : decode cX0_lay 55 = .ok (.ireturn, 1) := dk_172 (dk_at dksX0_lay_2 7 rfl rfl)
theorem dX0_lay_56 : decode cX0_lay 56 = .ok (.iload_n 2, 1) := dk_28 (dk_at dksX0_lay_2 8 rfl rfl)
theorem dX0_lay_57 : decode cX0_lay 57 = .ok (.iconst 2, 1) := dk_5 (dk_at dksX0_lay_2 9 rfl rfl)
theorem dX0_lay_58 : decode cX0_lay 58 = .ok (.if_icmp .ne 19, 3) := dk_160 0 19 (dk_at dksX0_lay_2 10 rfl rfl)
theorem dX0_lay_61 : decode cX0_lay 61 = .ok (.aload_n 0, 1) := dk_42 (dk_at dksX0_lay_2 13 rfl rfl)
theorem dX0_lay_62 : decode cX0_lay 62 = .ok (.getfield 77, 3) := dk_180 0 77 (dk_at dksX0_lay_2 14 rfl rfl)
theorem dX0_lay_65 : decode cX0_lay 65 = .ok (.iload_n 3, 1) := dk_29 (dk_at dksX0_lay_2 17 rfl rfl)
theorem dX0_lay_66 : decode cX0_lay 66 = .ok (.aaload, 1) := dk_50 (dk_at dksX0_lay_2 18 rfl rfl)
theorem dX0_lay_67 : decode cX0_lay 67 = .ok (.getfield 265, 3) := dk_180 1 9 (dk_at dksX0_lay_2 19 rfl rfl)
theorem dX0_lay_70 : decode cX0_lay 70 = .ok (.ifnonnull 7, 3) := dk_199 0 7 (dk_at dksX0_lay_3 0 rfl rfl)
theorem dX0_lay_73 : decode cX0_lay 73 = .ok (.ldc_w 269, 3) := dk_19 1 13 (dk_at dksX0_lay_3 3 rfl rfl)
theorem dX0_lay_76 : decode cX0_lay 76 = .ok (.ireturn, 1) := dk_172 (dk_at dksX0_lay_3 6 rfl rfl)
theorem dX0_lay_77 : decode cX0_lay 77 = .ok (.aload_n 0, 1) := dk_42 (dk_at dksX0_lay_3 7 rfl rfl)
theorem dX0_lay_78 : decode cX0_lay 78 = .ok (.getfield 81, 3) := dk_180 0 81 (dk_at dksX0_lay_3 8 rfl rfl)
theorem dX0_lay_81 : decode cX0_lay 81 = .ok (.iload_n 1, 1) := dk_27 (dk_at dksX0_lay_3 11 rfl rfl)
theorem dX0_lay_82 : decode cX0_lay 82 = .ok (.aaload, 1) := dk_50 (dk_at dksX0_lay_3 12 rfl rfl)
theorem dX0_lay_83 : decode cX0_lay 83 = .ok (.getfield 265, 3) := dk_180 1 9 (dk_at dksX0_lay_3 13 rfl rfl)
theorem dX0_lay_86 : decode cX0_lay 86 = .ok (.astore 5, 2) := dk_58 5 (dk_at dksX0_lay_3 16 rfl rfl)
theorem dX0_lay_88 : decode cX0_lay 88 = .ok (.iload_n 2, 1) := dk_28 (dk_at dksX0_lay_3 18 rfl rfl)
theorem dX0_lay_89 : decode cX0_lay 89 = .ok (.tableswitch 89 0 2 #[27, 40, 65], 27) := by decide +kernel
theorem dX0_lay_116 : decode cX0_lay 116 = .ok (.aload_n 0, 1) := dk_42 (dk_at dksX0_lay_5 0 rfl rfl)
theorem dX0_lay_117 : decode cX0_lay 117 = .ok (.getfield 81, 3) := dk_180 0 81 (dk_at dksX0_lay_5 1 rfl rfl)
theorem dX0_lay_120 : decode cX0_lay 120 = .ok (.iload_n 1, 1) := dk_27 (dk_at dksX0_lay_5 4 rfl rfl)
theorem dX0_lay_121 : decode cX0_lay 121 = .ok (.aaload, 1) := dk_50 (dk_at dksX0_lay_5 5 rfl rfl)
theorem dX0_lay_122 : decode cX0_lay 122 = .ok (.aconst_null, 1) := dk_1 (dk_at dksX0_lay_5 6 rfl rfl)
theorem dX0_lay_123 : decode cX0_lay 123 = .ok (.putfield 265, 3) := dk_181 1 9 (dk_at dksX0_lay_5 7 rfl rfl)
theorem dX0_lay_126 : decode cX0_lay 126 = .ok (.goto 69, 3) := dk_167 0 69 (dk_at dksX0_lay_5 10 rfl rfl)
theorem dX0_lay_129 : decode cX0_lay 129 = .ok (.aload_n 0, 1) := dk_42 (dk_at dksX0_lay_5 13 rfl rfl)
theorem dX0_lay_130 : decode cX0_lay 130 = .ok (.getfield 81, 3) := dk_180 0 81 (dk_at dksX0_lay_5 14 rfl rfl)
theorem dX0_lay_133 : decode cX0_lay 133 = .ok (.iload_n 1, 1) := dk_27 (dk_at dksX0_lay_5 17 rfl rfl)
theorem dX0_lay_134 : decode cX0_lay 134 = .ok (.aaload, 1) := dk_50 (dk_at dksX0_lay_5 18 rfl rfl)
theorem dX0_lay_135 : decode cX0_lay 135 = .ok (.aload_n 0, 1) := dk_42 (dk_at dksX0_lay_5 19 rfl rfl)
theorem dX0_lay_136 : decode cX0_lay 136 = .ok (.aload_n 0, 1) := dk_42 (dk_at dksX0_lay_5 20 rfl rfl)
theorem dX0_lay_137 : decode cX0_lay 137 = .ok (.getfield 58, 3) := dk_180 0 58 (dk_at dksX0_lay_5 21 rfl rfl)
theorem dX0_lay_140 : decode cX0_lay 140 = .ok (.getfield 121, 3) := dk_180 0 121 (dk_at dksX0_lay_6 0 rfl rfl)
theorem dX0_lay_143 : decode cX0_lay 143 = .ok (.iload_n 3, 1) := dk_29 (dk_at dksX0_lay_6 3 rfl rfl)
theorem dX0_lay_144 : decode cX0_lay 144 = .ok (.aaload, 1) := dk_50 (dk_at dksX0_lay_6 4 rfl rfl)
theorem dX0_lay_145 : decode cX0_lay 145 = .ok (.invokevirtual 468, 3) := dk_182 1 212 (dk_at dksX0_lay_6 5 rfl rfl)
theorem dX0_lay_148 : decode cX0_lay 148 = .ok (.putfield 265, 3) := dk_181 1 9 (dk_at dksX0_lay_6 8 rfl rfl)
theorem dX0_lay_151 : decode cX0_lay 151 = .ok (.goto 44, 3) := dk_167 0 44 (dk_at dksX0_lay_6 11 rfl rfl)
theorem dX0_lay_154 : decode cX0_lay 154 = .ok (.aload_n 0, 1) := dk_42 (dk_at dksX0_lay_6 14 rfl rfl)
theorem dX0_lay_155 : decode cX0_lay 155 = .ok (.getfield 81, 3) := dk_180 0 81 (dk_at dksX0_lay_6 15 rfl rfl)
theorem dX0_lay_158 : decode cX0_lay 158 = .ok (.iload_n 1, 1) := dk_27 (dk_at dksX0_lay_6 18 rfl rfl)
theorem dX0_lay_159 : decode cX0_lay 159 = .ok (.aaload, 1) := dk_50 (dk_at dksX0_lay_6 19 rfl rfl)
theorem dX0_lay_160 : decode cX0_lay 160 = .ok (.aload_n 0, 1) := dk_42 (dk_at dksX0_lay_6 20 rfl rfl)
theorem dX0_lay_161 : decode cX0_lay 161 = .ok (.getfield 77, 3) := dk_180 0 77 (dk_at dksX0_lay_6 21 rfl rfl)
theorem dX0_lay_164 : decode cX0_lay 164 = .ok (.iload_n 3, 1) := dk_29 (dk_at dksX0_lay_7 0 rfl rfl)
theorem dX0_lay_165 : decode cX0_lay 165 = .ok (.aaload, 1) := dk_50 (dk_at dksX0_lay_7 1 rfl rfl)
theorem dX0_lay_166 : decode cX0_lay 166 = .ok (.getfield 265, 3) := dk_180 1 9 (dk_at dksX0_lay_7 2 rfl rfl)
theorem dX0_lay_169 : decode cX0_lay 169 = .ok (.invokestatic 471, 3) := dk_184 1 215 (dk_at dksX0_lay_7 5 rfl rfl)
theorem dX0_lay_172 : decode cX0_lay 172 = .ok (.putfield 265, 3) := dk_181 1 9 (dk_at dksX0_lay_7 8 rfl rfl)
theorem dX0_lay_175 : decode cX0_lay 175 = .ok (.goto 20, 3) := dk_167 0 20 (dk_at dksX0_lay_7 11 rfl rfl)
theorem dX0_lay_178 : decode cX0_lay 178 = .ok (.aload_n 0, 1) := dk_42 (dk_at dksX0_lay_7 14 rfl rfl)
theorem dX0_lay_179 : decode cX0_lay 179 = .ok (.getfield 81, 3) := dk_180 0 81 (dk_at dksX0_lay_7 15 rfl rfl)
theorem dX0_lay_182 : decode cX0_lay 182 = .ok (.iload_n 1, 1) := dk_27 (dk_at dksX0_lay_7 18 rfl rfl)
theorem dX0_lay_183 : decode cX0_lay 183 = .ok (.aaload, 1) := dk_50 (dk_at dksX0_lay_7 19 rfl rfl)
theorem dX0_lay_184 : decode cX0_lay 184 = .ok (.new 463, 3) := dk_187 1 207 (dk_at dksX0_lay_7 20 rfl rfl)
theorem dX0_lay_187 : decode cX0_lay 187 = .ok (.dup, 1) := dk_89 (dk_at dksX0_lay_7 23 rfl rfl)
theorem dX0_lay_188 : decode cX0_lay 188 = .ok (.iload_n 3, 1) := dk_29 (dk_at dksX0_lay_8 0 rfl rfl)
theorem dX0_lay_189 : decode cX0_lay 189 = .ok (.invokespecial 475, 3) := dk_183 1 219 (dk_at dksX0_lay_8 1 rfl rfl)
theorem dX0_lay_192 : decode cX0_lay 192 = .ok (.putfield 265, 3) := dk_181 1 9 (dk_at dksX0_lay_8 4 rfl rfl)
theorem dX0_lay_195 : decode cX0_lay 195 = .ok (.aload 5, 2) := dk_25 5 (dk_at dksX0_lay_8 7 rfl rfl)
theorem dX0_lay_197 : decode cX0_lay 197 = .ok (.invokestatic 476, 3) := dk_184 1 220 (dk_at dksX0_lay_8 9 rfl rfl)
theorem dX0_lay_200 : decode cX0_lay 200 = .ok (.ireturn, 1) := dk_172 (dk_at dksX0_lay_8 12 rfl rfl)
abbrev cX0_isSlot : ByteArray := prog_1_method_64_code
def yX0_isSlot : MethodName := ⟨RX0, "isSlot", "(I)Z"⟩
def dkwX0_isSlot_0 : List UInt8 := [26, 133, 9, 20, 1, 166, 184, 0, 96, 172]
abbrev dktX0_isSlot_0 : List UInt8 := dkwX0_isSlot_0 ++ []
theorem dksX0_isSlot_0 : cX0_isSlot.data.toList.drop 0 = dktX0_isSlot_0 := by decide +kernel
theorem dX0_isSlot_0 : decode cX0_isSlot 0 = .ok (.iload_n 0, 1) := dk_26 (dk_at dksX0_isSlot_0 0 rfl rfl)
theorem dX0_isSlot_1 : decode cX0_isSlot 1 = .ok (.i2l, 1) := dk_133 (dk_at dksX0_isSlot_0 1 rfl rfl)
theorem dX0_isSlot_2 : decode cX0_isSlot 2 = .ok (.lconst 0, 1) := dk_9 (dk_at dksX0_isSlot_0 2 rfl rfl)
theorem dX0_isSlot_3 : decode cX0_isSlot 3 = .ok (.ldc2_w 422, 3) := dk_20 1 166 (dk_at dksX0_isSlot_0 3 rfl rfl)
theorem dX0_isSlot_6 : decode cX0_isSlot 6 = .ok (.invokestatic 96, 3) := dk_184 0 96 (dk_at dksX0_isSlot_0 6 rfl rfl)
theorem dX0_isSlot_9 : decode cX0_isSlot 9 = .ok (.ireturn, 1) := dk_172 (dk_at dksX0_isSlot_0 9 rfl rfl)
abbrev cX0_again : ByteArray := prog_1_method_74_code
def yX0_again : MethodName := ⟨RX0, "again", "(Ljava/lang/Object;)Ljava/lang/Object;"⟩
def dkwX0_again_1 : List UInt8 := [44, 3, 27, 184, 1, 201, 44, 176]
abbrev dktX0_again_1 : List UInt8 := dkwX0_again_1 ++ []
def dkwX0_again_0 : List UInt8 := [42, 184, 0, 251, 60, 42, 193, 1, 168, 153, 0, 9, 27, 188, 9, 167, 0, 6, 27, 188, 6, 77, 42, 3]
abbrev dktX0_again_0 : List UInt8 := dkwX0_again_0 ++ dktX0_again_1
theorem dksX0_again_0 : cX0_again.data.toList.drop 0 = dktX0_again_0 := by decide +kernel
theorem dksX0_again_1 : cX0_again.data.toList.drop 24 = dktX0_again_1 := dk_seg dksX0_again_0 24 rfl rfl
theorem dX0_again_0 : decode cX0_again 0 = .ok (.aload_n 0, 1) := dk_42 (dk_at dksX0_again_0 0 rfl rfl)
theorem dX0_again_1 : decode cX0_again 1 = .ok (.invokestatic 251, 3) := dk_184 0 251 (dk_at dksX0_again_0 1 rfl rfl)
theorem dX0_again_4 : decode cX0_again 4 = .ok (.istore_n 1, 1) := dk_60 (dk_at dksX0_again_0 4 rfl rfl)
theorem dX0_again_5 : decode cX0_again 5 = .ok (.aload_n 0, 1) := dk_42 (dk_at dksX0_again_0 5 rfl rfl)
theorem dX0_again_6 : decode cX0_again 6 = .ok (.instanceof 424, 3) := dk_193 1 168 (dk_at dksX0_again_0 6 rfl rfl)
theorem dX0_again_9 : decode cX0_again 9 = .ok (.ifCond .eq 9, 3) := dk_153 0 9 (dk_at dksX0_again_0 9 rfl rfl)
theorem dX0_again_12 : decode cX0_again 12 = .ok (.iload_n 1, 1) := dk_27 (dk_at dksX0_again_0 12 rfl rfl)
theorem dX0_again_13 : decode cX0_again 13 = .ok (.newarray .short, 2) := dk_188_9 (dk_at dksX0_again_0 13 rfl rfl)
theorem dX0_again_15 : decode cX0_again 15 = .ok (.goto 6, 3) := dk_167 0 6 (dk_at dksX0_again_0 15 rfl rfl)
theorem dX0_again_18 : decode cX0_again 18 = .ok (.iload_n 1, 1) := dk_27 (dk_at dksX0_again_0 18 rfl rfl)
theorem dX0_again_19 : decode cX0_again 19 = .ok (.newarray .float, 2) := dk_188_6 (dk_at dksX0_again_0 19 rfl rfl)
theorem dX0_again_21 : decode cX0_again 21 = .ok (.astore_n 2, 1) := dk_77 (dk_at dksX0_again_0 21 rfl rfl)
theorem dX0_again_22 : decode cX0_again 22 = .ok (.aload_n 0, 1) := dk_42 (dk_at dksX0_again_0 22 rfl rfl)
theorem dX0_again_23 : decode cX0_again 23 = .ok (.iconst 0, 1) := dk_3 (dk_at dksX0_again_0 23 rfl rfl)
theorem dX0_again_24 : decode cX0_again 24 = .ok (.aload_n 2, 1) := dk_44 (dk_at dksX0_again_1 0 rfl rfl)
theorem dX0_again_25 : decode cX0_again 25 = .ok (.iconst 0, 1) := dk_3 (dk_at dksX0_again_1 1 rfl rfl)
theorem dX0_again_26 : decode cX0_again 26 = .ok (.iload_n 1, 1) := dk_27 (dk_at dksX0_again_1 2 rfl rfl)
theorem dX0_again_27 : decode cX0_again 27 = .ok (.invokestatic 457, 3) := dk_184 1 201 (dk_at dksX0_again_1 3 rfl rfl)
theorem dX0_again_30 : decode cX0_again 30 = .ok (.aload_n 2, 1) := dk_44 (dk_at dksX0_again_1 6 rfl rfl)
theorem dX0_again_31 : decode cX0_again 31 = .ok (.areturn, 1) := dk_176 (dk_at dksX0_again_1 7 rfl rfl)
abbrev cX0_thingOf : ByteArray := prog_1_method_75_code
def yX0_thingOf : MethodName := ⟨RX0, "thingOf", "(Ljava/lang/Object;)I"⟩
def dkwX0_thingOf_1 : List UInt8 := [153, 0, 7, 6, 167, 0, 4, 5, 172]
abbrev dktX0_thingOf_1 : List UInt8 := dkwX0_thingOf_1 ++ []
def dkwX0_thingOf_0 : List UInt8 := [42, 199, 0, 7, 3, 167, 0, 26, 42, 193, 0, 13, 153, 0, 7, 4, 167, 0, 15, 42, 193, 1, 207]
abbrev dktX0_thingOf_0 : List UInt8 := dkwX0_thingOf_0 ++ dktX0_thingOf_1
theorem dksX0_thingOf_0 : cX0_thingOf.data.toList.drop 0 = dktX0_thingOf_0 := by decide +kernel
theorem dksX0_thingOf_1 : cX0_thingOf.data.toList.drop 23 = dktX0_thingOf_1 := dk_seg dksX0_thingOf_0 23 rfl rfl
theorem dX0_thingOf_0 : decode cX0_thingOf 0 = .ok (.aload_n 0, 1) := dk_42 (dk_at dksX0_thingOf_0 0 rfl rfl)
theorem dX0_thingOf_1 : decode cX0_thingOf 1 = .ok (.ifnonnull 7, 3) := dk_199 0 7 (dk_at dksX0_thingOf_0 1 rfl rfl)
theorem dX0_thingOf_4 : decode cX0_thingOf 4 = .ok (.iconst 0, 1) := dk_3 (dk_at dksX0_thingOf_0 4 rfl rfl)
theorem dX0_thingOf_5 : decode cX0_thingOf 5 = .ok (.goto 26, 3) := dk_167 0 26 (dk_at dksX0_thingOf_0 5 rfl rfl)
theorem dX0_thingOf_8 : decode cX0_thingOf 8 = .ok (.aload_n 0, 1) := dk_42 (dk_at dksX0_thingOf_0 8 rfl rfl)
theorem dX0_thingOf_9 : decode cX0_thingOf 9 = .ok (.instanceof 13, 3) := dk_193 0 13 (dk_at dksX0_thingOf_0 9 rfl rfl)
theorem dX0_thingOf_12 : decode cX0_thingOf 12 = .ok (.ifCond .eq 7, 3) := dk_153 0 7 (dk_at dksX0_thingOf_0 12 rfl rfl)
theorem dX0_thingOf_15 : decode cX0_thingOf 15 = .ok (.iconst 1, 1) := dk_4 (dk_at dksX0_thingOf_0 15 rfl rfl)
theorem dX0_thingOf_16 : decode cX0_thingOf 16 = .ok (.goto 15, 3) := dk_167 0 15 (dk_at dksX0_thingOf_0 16 rfl rfl)
theorem dX0_thingOf_19 : decode cX0_thingOf 19 = .ok (.aload_n 0, 1) := dk_42 (dk_at dksX0_thingOf_0 19 rfl rfl)
theorem dX0_thingOf_20 : decode cX0_thingOf 20 = .ok (.instanceof 463, 3) := dk_193 1 207 (dk_at dksX0_thingOf_0 20 rfl rfl)
theorem dX0_thingOf_23 : decode cX0_thingOf 23 = .ok (.ifCond .eq 7, 3) := dk_153 0 7 (dk_at dksX0_thingOf_1 0 rfl rfl)
theorem dX0_thingOf_26 : decode cX0_thingOf 26 = .ok (.iconst 3, 1) := dk_6 (dk_at dksX0_thingOf_1 3 rfl rfl)
theorem dX0_thingOf_27 : decode cX0_thingOf 27 = .ok (.goto 4, 3) := dk_167 0 4 (dk_at dksX0_thingOf_1 4 rfl rfl)
theorem dX0_thingOf_30 : decode cX0_thingOf 30 = .ok (.iconst 2, 1) := dk_5 (dk_at dksX0_thingOf_1 7 rfl rfl)
theorem dX0_thingOf_31 : decode cX0_thingOf 31 = .ok (.ireturn, 1) := dk_172 (dk_at dksX0_thingOf_1 8 rfl rfl)
abbrev cX0_ask : ByteArray := prog_1_method_77_code
def yX0_ask : MethodName := ⟨RX0, "ask", "(II)I"⟩
def dkwX0_ask_2 : List UInt8 := [172, 78, 18, 159, 172]
abbrev dktX0_ask_2 : List UInt8 := dkwX0_ask_2 ++ []
def dkwX0_ask_1 : List UInt8 := [180, 0, 81, 27, 50, 180, 1, 9, 28, 184, 0, 153, 78, 45, 185, 1, 223, 1, 0, 172, 78, 19, 1, 13]
abbrev dktX0_ask_1 : List UInt8 := dkwX0_ask_1 ++ dktX0_ask_2
def dkwX0_ask_0 : List UInt8 := [27, 184, 1, 209, 153, 0, 15, 28, 133, 9, 20, 0, 105, 184, 0, 96, 154, 0, 6, 18, 109, 172, 42]
abbrev dktX0_ask_0 : List UInt8 := dkwX0_ask_0 ++ dktX0_ask_1
theorem dksX0_ask_0 : cX0_ask.data.toList.drop 0 = dktX0_ask_0 := by decide +kernel
theorem dksX0_ask_1 : cX0_ask.data.toList.drop 23 = dktX0_ask_1 := dk_seg dksX0_ask_0 23 rfl rfl
theorem dksX0_ask_2 : cX0_ask.data.toList.drop 47 = dktX0_ask_2 := dk_seg dksX0_ask_1 24 rfl rfl
theorem dX0_ask_0 : decode cX0_ask 0 = .ok (.iload_n 1, 1) := dk_27 (dk_at dksX0_ask_0 0 rfl rfl)
theorem dX0_ask_1 : decode cX0_ask 1 = .ok (.invokestatic 465, 3) := dk_184 1 209 (dk_at dksX0_ask_0 1 rfl rfl)
theorem dX0_ask_4 : decode cX0_ask 4 = .ok (.ifCond .eq 15, 3) := dk_153 0 15 (dk_at dksX0_ask_0 4 rfl rfl)
theorem dX0_ask_7 : decode cX0_ask 7 = .ok (.iload_n 2, 1) := dk_28 (dk_at dksX0_ask_0 7 rfl rfl)
theorem dX0_ask_8 : decode cX0_ask 8 = .ok (.i2l, 1) := dk_133 (dk_at dksX0_ask_0 8 rfl rfl)
theorem dX0_ask_9 : decode cX0_ask 9 = .ok (.lconst 0, 1) := dk_9 (dk_at dksX0_ask_0 9 rfl rfl)
theorem dX0_ask_10 : decode cX0_ask 10 = .ok (.ldc2_w 105, 3) := dk_20 0 105 (dk_at dksX0_ask_0 10 rfl rfl)
theorem dX0_ask_13 : decode cX0_ask 13 = .ok (.invokestatic 96, 3) := dk_184 0 96 (dk_at dksX0_ask_0 13 rfl rfl)
theorem dX0_ask_16 : decode cX0_ask 16 = .ok (.ifCond .ne 6, 3) := dk_154 0 6 (dk_at dksX0_ask_0 16 rfl rfl)
theorem dX0_ask_19 : decode cX0_ask 19 = .ok (.ldc 109, 2) := dk_18 109 (dk_at dksX0_ask_0 19 rfl rfl)
theorem dX0_ask_21 : decode cX0_ask 21 = .ok (.ireturn, 1) := dk_172 (dk_at dksX0_ask_0 21 rfl rfl)
theorem dX0_ask_22 : decode cX0_ask 22 = .ok (.aload_n 0, 1) := dk_42 (dk_at dksX0_ask_0 22 rfl rfl)
theorem dX0_ask_23 : decode cX0_ask 23 = .ok (.getfield 81, 3) := dk_180 0 81 (dk_at dksX0_ask_1 0 rfl rfl)
theorem dX0_ask_26 : decode cX0_ask 26 = .ok (.iload_n 1, 1) := dk_27 (dk_at dksX0_ask_1 3 rfl rfl)
theorem dX0_ask_27 : decode cX0_ask 27 = .ok (.aaload, 1) := dk_50 (dk_at dksX0_ask_1 4 rfl rfl)
theorem dX0_ask_28 : decode cX0_ask 28 = .ok (.getfield 265, 3) := dk_180 1 9 (dk_at dksX0_ask_1 5 rfl rfl)
theorem dX0_ask_31 : decode cX0_ask 31 = .ok (.iload_n 2, 1) := dk_28 (dk_at dksX0_ask_1 8 rfl rfl)
theorem dX0_ask_32 : decode cX0_ask 32 = .ok (.invokestatic 153, 3) := dk_184 0 153 (dk_at dksX0_ask_1 9 rfl rfl)
theorem dX0_ask_35 : decode cX0_ask 35 = .ok (.astore_n 3, 1) := dk_78 (dk_at dksX0_ask_1 12 rfl rfl)
theorem dX0_ask_36 : decode cX0_ask 36 = .ok (.aload_n 3, 1) := dk_45 (dk_at dksX0_ask_1 13 rfl rfl)
theorem dX0_ask_37 : decode cX0_ask 37 = .ok (.invokeinterface 479 1, 5) := by decide +kernel
theorem dX0_ask_42 : decode cX0_ask 42 = .ok (.ireturn, 1) := dk_172 (dk_at dksX0_ask_1 19 rfl rfl)
theorem dX0_ask_43 : decode cX0_ask 43 = .ok (.astore_n 3, 1) := dk_78 (dk_at dksX0_ask_1 20 rfl rfl)
theorem dX0_ask_44 : decode cX0_ask 44 = .ok (.ldc_w 269, 3) := dk_19 1 13 (dk_at dksX0_ask_1 21 rfl rfl)
theorem dX0_ask_47 : decode cX0_ask 47 = .ok (.ireturn, 1) := dk_172 (dk_at dksX0_ask_2 0 rfl rfl)
theorem dX0_ask_48 : decode cX0_ask 48 = .ok (.astore_n 3, 1) := dk_78 (dk_at dksX0_ask_2 1 rfl rfl)
theorem dX0_ask_49 : decode cX0_ask 49 = .ok (.ldc 159, 2) := dk_18 159 (dk_at dksX0_ask_2 2 rfl rfl)
theorem dX0_ask_51 : decode cX0_ask 51 = .ok (.ireturn, 1) := dk_172 (dk_at dksX0_ask_2 4 rfl rfl)
abbrev cX0_item : ByteArray := prog_1_method_78_code
def yX0_item : MethodName := ⟨RX0, "item", "(II)I"⟩
def dkwX0_item_2 : List UInt8 := [167, 0, 5, 21, 4, 172, 78, 19, 1, 13, 172, 78, 18, 159, 172, 78, 19, 1, 196, 172]
abbrev dktX0_item_2 : List UInt8 := dkwX0_item_2 ++ []
def dkwX0_item_1 : List UInt8 := [184, 0, 251, 184, 1, 187, 45, 28, 184, 0, 255, 54, 4, 21, 4, 18, 3, 160, 0, 8, 18, 159]
abbrev dktX0_item_1 : List UInt8 := dkwX0_item_1 ++ dktX0_item_2
def dkwX0_item_0 : List UInt8 := [27, 184, 1, 209, 154, 0, 6, 18, 109, 172, 42, 180, 0, 81, 27, 50, 180, 1, 9, 78, 28, 4, 45]
abbrev dktX0_item_0 : List UInt8 := dkwX0_item_0 ++ dktX0_item_1
theorem dksX0_item_0 : cX0_item.data.toList.drop 0 = dktX0_item_0 := by decide +kernel
theorem dksX0_item_1 : cX0_item.data.toList.drop 23 = dktX0_item_1 := dk_seg dksX0_item_0 23 rfl rfl
theorem dksX0_item_2 : cX0_item.data.toList.drop 45 = dktX0_item_2 := dk_seg dksX0_item_1 22 rfl rfl
theorem dX0_item_0 : decode cX0_item 0 = .ok (.iload_n 1, 1) := dk_27 (dk_at dksX0_item_0 0 rfl rfl)
theorem dX0_item_1 : decode cX0_item 1 = .ok (.invokestatic 465, 3) := dk_184 1 209 (dk_at dksX0_item_0 1 rfl rfl)
theorem dX0_item_4 : decode cX0_item 4 = .ok (.ifCond .ne 6, 3) := dk_154 0 6 (dk_at dksX0_item_0 4 rfl rfl)
theorem dX0_item_7 : decode cX0_item 7 = .ok (.ldc 109, 2) := dk_18 109 (dk_at dksX0_item_0 7 rfl rfl)
theorem dX0_item_9 : decode cX0_item 9 = .ok (.ireturn, 1) := dk_172 (dk_at dksX0_item_0 9 rfl rfl)
theorem dX0_item_10 : decode cX0_item 10 = .ok (.aload_n 0, 1) := dk_42 (dk_at dksX0_item_0 10 rfl rfl)
theorem dX0_item_11 : decode cX0_item 11 = .ok (.getfield 81, 3) := dk_180 0 81 (dk_at dksX0_item_0 11 rfl rfl)
theorem dX0_item_14 : decode cX0_item 14 = .ok (.iload_n 1, 1) := dk_27 (dk_at dksX0_item_0 14 rfl rfl)
theorem dX0_item_15 : decode cX0_item 15 = .ok (.aaload, 1) := dk_50 (dk_at dksX0_item_0 15 rfl rfl)
theorem dX0_item_16 : decode cX0_item 16 = .ok (.getfield 265, 3) := dk_180 1 9 (dk_at dksX0_item_0 16 rfl rfl)
theorem dX0_item_19 : decode cX0_item 19 = .ok (.astore_n 3, 1) := dk_78 (dk_at dksX0_item_0 19 rfl rfl)
theorem dX0_item_20 : decode cX0_item 20 = .ok (.iload_n 2, 1) := dk_28 (dk_at dksX0_item_0 20 rfl rfl)
theorem dX0_item_21 : decode cX0_item 21 = .ok (.iconst 1, 1) := dk_4 (dk_at dksX0_item_0 21 rfl rfl)
theorem dX0_item_22 : decode cX0_item 22 = .ok (.aload_n 3, 1) := dk_45 (dk_at dksX0_item_0 22 rfl rfl)
theorem dX0_item_23 : decode cX0_item 23 = .ok (.invokestatic 251, 3) := dk_184 0 251 (dk_at dksX0_item_1 0 rfl rfl)
theorem dX0_item_26 : decode cX0_item 26 = .ok (.invokestatic 443, 3) := dk_184 1 187 (dk_at dksX0_item_1 3 rfl rfl)
theorem dX0_item_29 : decode cX0_item 29 = .ok (.aload_n 3, 1) := dk_45 (dk_at dksX0_item_1 6 rfl rfl)
theorem dX0_item_30 : decode cX0_item 30 = .ok (.iload_n 2, 1) := dk_28 (dk_at dksX0_item_1 7 rfl rfl)
theorem dX0_item_31 : decode cX0_item 31 = .ok (.invokestatic 255, 3) := dk_184 0 255 (dk_at dksX0_item_1 8 rfl rfl)
theorem dX0_item_34 : decode cX0_item 34 = .ok (.istore 4, 2) := dk_54 4 (dk_at dksX0_item_1 11 rfl rfl)
theorem dX0_item_36 : decode cX0_item 36 = .ok (.iload 4, 2) := dk_21 4 (dk_at dksX0_item_1 13 rfl rfl)
theorem dX0_item_38 : decode cX0_item 38 = .ok (.ldc 3, 2) := dk_18 3 (dk_at dksX0_item_1 15 rfl rfl)
theorem dX0_item_40 : decode cX0_item 40 = .ok (.if_icmp .ne 8, 3) := dk_160 0 8 (dk_at dksX0_item_1 17 rfl rfl)
theorem dX0_item_43 : decode cX0_item 43 = .ok (.ldc 159, 2) := dk_18 159 (dk_at dksX0_item_1 20 rfl rfl)
theorem dX0_item_45 : decode cX0_item 45 = .ok (.goto 5, 3) := dk_167 0 5 (dk_at dksX0_item_2 0 rfl rfl)
theorem dX0_item_48 : decode cX0_item 48 = .ok (.iload 4, 2) := dk_21 4 (dk_at dksX0_item_2 3 rfl rfl)
theorem dX0_item_50 : decode cX0_item 50 = .ok (.ireturn, 1) := dk_172 (dk_at dksX0_item_2 5 rfl rfl)
theorem dX0_item_51 : decode cX0_item 51 = .ok (.astore_n 3, 1) := dk_78 (dk_at dksX0_item_2 6 rfl rfl)
theorem dX0_item_52 : decode cX0_item 52 = .ok (.ldc_w 269, 3) := dk_19 1 13 (dk_at dksX0_item_2 7 rfl rfl)
theorem dX0_item_55 : decode cX0_item 55 = .ok (.ireturn, 1) := dk_172 (dk_at dksX0_item_2 10 rfl rfl)
theorem dX0_item_56 : decode cX0_item 56 = .ok (.astore_n 3, 1) := dk_78 (dk_at dksX0_item_2 11 rfl rfl)
theorem dX0_item_57 : decode cX0_item 57 = .ok (.ldc 159, 2) := dk_18 159 (dk_at dksX0_item_2 12 rfl rfl)
theorem dX0_item_59 : decode cX0_item 59 = .ok (.ireturn, 1) := dk_172 (dk_at dksX0_item_2 14 rfl rfl)
theorem dX0_item_60 : decode cX0_item 60 = .ok (.astore_n 3, 1) := dk_78 (dk_at dksX0_item_2 15 rfl rfl)
theorem dX0_item_61 : decode cX0_item 61 = .ok (.ldc_w 452, 3) := dk_19 1 196 (dk_at dksX0_item_2 16 rfl rfl)
theorem dX0_item_64 : decode cX0_item 64 = .ok (.ireturn, 1) := dk_172 (dk_at dksX0_item_2 19 rfl rfl)
abbrev cX0_rest : ByteArray := prog_1_method_79_code
def yX0_rest : MethodName := ⟨RX0, "rest", "(II)I"⟩
def dkwX0_rest_1 : List UInt8 := [180, 1, 226, 28, 112, 172, 78, 19, 1, 13, 172, 78, 18, 159, 172, 78, 19, 1, 231, 172]
abbrev dktX0_rest_1 : List UInt8 := dkwX0_rest_1 ++ []
def dkwX0_rest_0 : List UInt8 := [27, 184, 1, 209, 154, 0, 6, 18, 109, 172, 42, 180, 0, 81, 27, 50, 180, 1, 9, 192, 1, 207]
abbrev dktX0_rest_0 : List UInt8 := dkwX0_rest_0 ++ dktX0_rest_1
theorem dksX0_rest_0 : cX0_rest.data.toList.drop 0 = dktX0_rest_0 := by decide +kernel
theorem dksX0_rest_1 : cX0_rest.data.toList.drop 22 = dktX0_rest_1 := dk_seg dksX0_rest_0 22 rfl rfl
theorem dX0_rest_0 : decode cX0_rest 0 = .ok (.iload_n 1, 1) := dk_27 (dk_at dksX0_rest_0 0 rfl rfl)
theorem dX0_rest_1 : decode cX0_rest 1 = .ok (.invokestatic 465, 3) := dk_184 1 209 (dk_at dksX0_rest_0 1 rfl rfl)
theorem dX0_rest_4 : decode cX0_rest 4 = .ok (.ifCond .ne 6, 3) := dk_154 0 6 (dk_at dksX0_rest_0 4 rfl rfl)
theorem dX0_rest_7 : decode cX0_rest 7 = .ok (.ldc 109, 2) := dk_18 109 (dk_at dksX0_rest_0 7 rfl rfl)
theorem dX0_rest_9 : decode cX0_rest 9 = .ok (.ireturn, 1) := dk_172 (dk_at dksX0_rest_0 9 rfl rfl)
theorem dX0_rest_10 : decode cX0_rest 10 = .ok (.aload_n 0, 1) := dk_42 (dk_at dksX0_rest_0 10 rfl rfl)
theorem dX0_rest_11 : decode cX0_rest 11 = .ok (.getfield 81, 3) := dk_180 0 81 (dk_at dksX0_rest_0 11 rfl rfl)
theorem dX0_rest_14 : decode cX0_rest 14 = .ok (.iload_n 1, 1) := dk_27 (dk_at dksX0_rest_0 14 rfl rfl)
theorem dX0_rest_15 : decode cX0_rest 15 = .ok (.aaload, 1) := dk_50 (dk_at dksX0_rest_0 15 rfl rfl)
theorem dX0_rest_16 : decode cX0_rest 16 = .ok (.getfield 265, 3) := dk_180 1 9 (dk_at dksX0_rest_0 16 rfl rfl)
theorem dX0_rest_19 : decode cX0_rest 19 = .ok (.checkcast 463, 3) := dk_192 1 207 (dk_at dksX0_rest_0 19 rfl rfl)
theorem dX0_rest_22 : decode cX0_rest 22 = .ok (.getfield 482, 3) := dk_180 1 226 (dk_at dksX0_rest_1 0 rfl rfl)
theorem dX0_rest_25 : decode cX0_rest 25 = .ok (.iload_n 2, 1) := dk_28 (dk_at dksX0_rest_1 3 rfl rfl)
theorem dX0_rest_26 : decode cX0_rest 26 = .ok (.irem, 1) := dk_112 (dk_at dksX0_rest_1 4 rfl rfl)
theorem dX0_rest_27 : decode cX0_rest 27 = .ok (.ireturn, 1) := dk_172 (dk_at dksX0_rest_1 5 rfl rfl)
theorem dX0_rest_28 : decode cX0_rest 28 = .ok (.astore_n 3, 1) := dk_78 (dk_at dksX0_rest_1 6 rfl rfl)
theorem dX0_rest_29 : decode cX0_rest 29 = .ok (.ldc_w 269, 3) := dk_19 1 13 (dk_at dksX0_rest_1 7 rfl rfl)
theorem dX0_rest_32 : decode cX0_rest 32 = .ok (.ireturn, 1) := dk_172 (dk_at dksX0_rest_1 10 rfl rfl)
theorem dX0_rest_33 : decode cX0_rest 33 = .ok (.astore_n 3, 1) := dk_78 (dk_at dksX0_rest_1 11 rfl rfl)
theorem dX0_rest_34 : decode cX0_rest 34 = .ok (.ldc 159, 2) := dk_18 159 (dk_at dksX0_rest_1 12 rfl rfl)
theorem dX0_rest_36 : decode cX0_rest 36 = .ok (.ireturn, 1) := dk_172 (dk_at dksX0_rest_1 14 rfl rfl)
theorem dX0_rest_37 : decode cX0_rest 37 = .ok (.astore_n 3, 1) := dk_78 (dk_at dksX0_rest_1 15 rfl rfl)
theorem dX0_rest_38 : decode cX0_rest 38 = .ok (.ldc_w 487, 3) := dk_19 1 231 (dk_at dksX0_rest_1 16 rfl rfl)
theorem dX0_rest_41 : decode cX0_rest 41 = .ok (.ireturn, 1) := dk_172 (dk_at dksX0_rest_1 19 rfl rfl)
abbrev cX0_tell : ByteArray := prog_1_method_80_code
def yX0_tell : MethodName := ⟨RX0, "tell", "(I)I"⟩
def dkwX0_tell_1 : List UInt8 := [180, 1, 232, 4, 96, 181, 1, 232, 42, 180, 1, 232, 172]
abbrev dktX0_tell_1 : List UInt8 := dkwX0_tell_1 ++ []
def dkwX0_tell_0 : List UInt8 := [42, 180, 1, 232, 16, 60, 160, 0, 6, 18, 110, 172, 42, 180, 0, 84, 42, 180, 1, 232, 27, 79, 42, 89]
abbrev dktX0_tell_0 : List UInt8 := dkwX0_tell_0 ++ dktX0_tell_1
theorem dksX0_tell_0 : cX0_tell.data.toList.drop 0 = dktX0_tell_0 := by decide +kernel
theorem dksX0_tell_1 : cX0_tell.data.toList.drop 24 = dktX0_tell_1 := dk_seg dksX0_tell_0 24 rfl rfl
theorem dX0_tell_0 : decode cX0_tell 0 = .ok (.aload_n 0, 1) := dk_42 (dk_at dksX0_tell_0 0 rfl rfl)
theorem dX0_tell_1 : decode cX0_tell 1 = .ok (.getfield 488, 3) := dk_180 1 232 (dk_at dksX0_tell_0 1 rfl rfl)
theorem dX0_tell_4 : decode cX0_tell 4 = .ok (.bipush 60, 2) := dk_16 60 (dk_at dksX0_tell_0 4 rfl rfl)
theorem dX0_tell_6 : decode cX0_tell 6 = .ok (.if_icmp .ne 6, 3) := dk_160 0 6 (dk_at dksX0_tell_0 6 rfl rfl)
theorem dX0_tell_9 : decode cX0_tell 9 = .ok (.ldc 110, 2) := dk_18 110 (dk_at dksX0_tell_0 9 rfl rfl)
theorem dX0_tell_11 : decode cX0_tell 11 = .ok (.ireturn, 1) := dk_172 (dk_at dksX0_tell_0 11 rfl rfl)
theorem dX0_tell_12 : decode cX0_tell 12 = .ok (.aload_n 0, 1) := dk_42 (dk_at dksX0_tell_0 12 rfl rfl)
theorem dX0_tell_13 : decode cX0_tell 13 = .ok (.getfield 84, 3) := dk_180 0 84 (dk_at dksX0_tell_0 13 rfl rfl)
theorem dX0_tell_16 : decode cX0_tell 16 = .ok (.aload_n 0, 1) := dk_42 (dk_at dksX0_tell_0 16 rfl rfl)
theorem dX0_tell_17 : decode cX0_tell 17 = .ok (.getfield 488, 3) := dk_180 1 232 (dk_at dksX0_tell_0 17 rfl rfl)
theorem dX0_tell_20 : decode cX0_tell 20 = .ok (.iload_n 1, 1) := dk_27 (dk_at dksX0_tell_0 20 rfl rfl)
theorem dX0_tell_21 : decode cX0_tell 21 = .ok (.iastore, 1) := dk_79 (dk_at dksX0_tell_0 21 rfl rfl)
theorem dX0_tell_22 : decode cX0_tell 22 = .ok (.aload_n 0, 1) := dk_42 (dk_at dksX0_tell_0 22 rfl rfl)
theorem dX0_tell_23 : decode cX0_tell 23 = .ok (.dup, 1) := dk_89 (dk_at dksX0_tell_0 23 rfl rfl)
theorem dX0_tell_24 : decode cX0_tell 24 = .ok (.getfield 488, 3) := dk_180 1 232 (dk_at dksX0_tell_1 0 rfl rfl)
theorem dX0_tell_27 : decode cX0_tell 27 = .ok (.iconst 1, 1) := dk_4 (dk_at dksX0_tell_1 3 rfl rfl)
theorem dX0_tell_28 : decode cX0_tell 28 = .ok (.iadd, 1) := dk_96 (dk_at dksX0_tell_1 4 rfl rfl)
theorem dX0_tell_29 : decode cX0_tell 29 = .ok (.putfield 488, 3) := dk_181 1 232 (dk_at dksX0_tell_1 5 rfl rfl)
theorem dX0_tell_32 : decode cX0_tell 32 = .ok (.aload_n 0, 1) := dk_42 (dk_at dksX0_tell_1 8 rfl rfl)
theorem dX0_tell_33 : decode cX0_tell 33 = .ok (.getfield 488, 3) := dk_180 1 232 (dk_at dksX0_tell_1 9 rfl rfl)
theorem dX0_tell_36 : decode cX0_tell 36 = .ok (.ireturn, 1) := dk_172 (dk_at dksX0_tell_1 12 rfl rfl)
abbrev cX0_check : ByteArray := prog_1_method_82_code
def yX0_check : MethodName := ⟨RX0, "check", "(I)I"⟩
def dkwX0_check_8 : List UInt8 := [191]
abbrev dktX0_check_8 : List UInt8 := dkwX0_check_8 ++ []
def dkwX0_check_7 : List UInt8 := [181, 0, 58, 42, 3, 181, 1, 232, 29, 172, 58, 5, 42, 44, 181, 0, 58, 42, 3, 181, 1, 232, 25, 5]
abbrev dktX0_check_7 : List UInt8 := dkwX0_check_7 ++ dktX0_check_8
def dkwX0_check_6 : List UInt8 := [180, 1, 239, 42, 180, 1, 232, 160, 0, 7, 3, 167, 0, 9, 4, 42, 180, 1, 239, 96, 62, 42, 44]
abbrev dktX0_check_6 : List UInt8 := dkwX0_check_6 ++ dktX0_check_7
def dkwX0_check_5 : List UInt8 := [180, 0, 58, 180, 0, 220, 182, 1, 247, 132, 3, 1, 167, 255, 204, 42, 180, 1, 235, 153, 0, 18, 42]
abbrev dktX0_check_5 : List UInt8 := dkwX0_check_5 ++ dktX0_check_6
def dkwX0_check_4 : List UInt8 := [42, 180, 0, 58, 182, 0, 214, 54, 4, 42, 42, 180, 0, 58, 182, 0, 217, 182, 1, 247, 42, 42]
abbrev dktX0_check_4 : List UInt8 := dkwX0_check_4 ++ dktX0_check_5
def dkwX0_check_3 : List UInt8 := [4, 181, 1, 235, 3, 62, 29, 27, 162, 0, 53, 42, 180, 0, 58, 180, 0, 211, 17, 39, 15, 162, 0, 40]
abbrev dktX0_check_3 : List UInt8 := dkwX0_check_3 ++ dktX0_check_4
def dkwX0_check_2 : List UInt8 := [181, 0, 58, 42, 3, 181, 1, 232, 29, 172, 42, 42, 180, 0, 65, 182, 0, 229, 42, 3, 181, 1, 239, 42]
abbrev dktX0_check_2 : List UInt8 := dkwX0_check_2 ++ dktX0_check_3
def dkwX0_check_1 : List UInt8 := [181, 0, 58, 42, 3, 181, 1, 232, 29, 172, 42, 180, 1, 244, 154, 0, 19, 19, 1, 231, 62, 42, 44]
abbrev dktX0_check_1 : List UInt8 := dkwX0_check_1 ++ dktX0_check_2
def dkwX0_check_0 : List UInt8 := [42, 180, 0, 58, 77, 27, 133, 10, 20, 1, 242, 184, 0, 96, 154, 0, 18, 18, 109, 62, 42, 44]
abbrev dktX0_check_0 : List UInt8 := dkwX0_check_0 ++ dktX0_check_1
theorem dksX0_check_0 : cX0_check.data.toList.drop 0 = dktX0_check_0 := by decide +kernel
theorem dksX0_check_1 : cX0_check.data.toList.drop 22 = dktX0_check_1 := dk_seg dksX0_check_0 22 rfl rfl
theorem dksX0_check_2 : cX0_check.data.toList.drop 45 = dktX0_check_2 := dk_seg dksX0_check_1 23 rfl rfl
theorem dksX0_check_3 : cX0_check.data.toList.drop 69 = dktX0_check_3 := dk_seg dksX0_check_2 24 rfl rfl
theorem dksX0_check_4 : cX0_check.data.toList.drop 93 = dktX0_check_4 := dk_seg dksX0_check_3 24 rfl rfl
theorem dksX0_check_5 : cX0_check.data.toList.drop 115 = dktX0_check_5 := dk_seg dksX0_check_4 22 rfl rfl
theorem dksX0_check_6 : cX0_check.data.toList.drop 138 = dktX0_check_6 := dk_seg dksX0_check_5 23 rfl rfl
theorem dksX0_check_7 : cX0_check.data.toList.drop 161 = dktX0_check_7 := dk_seg dksX0_check_6 23 rfl rfl
theorem dksX0_check_8 : cX0_check.data.toList.drop 185 = dktX0_check_8 := dk_seg dksX0_check_7 24 rfl rfl
theorem dX0_check_0 : decode cX0_check 0 = .ok (.aload_n 0, 1) := dk_42 (dk_at dksX0_check_0 0 rfl rfl)
theorem dX0_check_1 : decode cX0_check 1 = .ok (.getfield 58, 3) := dk_180 0 58 (dk_at dksX0_check_0 1 rfl rfl)
theorem dX0_check_4 : decode cX0_check 4 = .ok (.astore_n 2, 1) := dk_77 (dk_at dksX0_check_0 4 rfl rfl)
theorem dX0_check_5 : decode cX0_check 5 = .ok (.iload_n 1, 1) := dk_27 (dk_at dksX0_check_0 5 rfl rfl)
theorem dX0_check_6 : decode cX0_check 6 = .ok (.i2l, 1) := dk_133 (dk_at dksX0_check_0 6 rfl rfl)
theorem dX0_check_7 : decode cX0_check 7 = .ok (.lconst 1, 1) := dk_10 (dk_at dksX0_check_0 7 rfl rfl)
theorem dX0_check_8 : decode cX0_check 8 = .ok (.ldc2_w 498, 3) := dk_20 1 242 (dk_at dksX0_check_0 8 rfl rfl)
theorem dX0_check_11 : decode cX0_check 11 = .ok (.invokestatic 96, 3) := dk_184 0 96 (dk_at dksX0_check_0 11 rfl rfl)
theorem dX0_check_14 : decode cX0_check 14 = .ok (.ifCond .ne 18, 3) := dk_154 0 18 (dk_at dksX0_check_0 14 rfl rfl)
theorem dX0_check_17 : decode cX0_check 17 = .ok (.ldc 109, 2) := dk_18 109 (dk_at dksX0_check_0 17 rfl rfl)
theorem dX0_check_19 : decode cX0_check 19 = .ok (.istore_n 3, 1) := dk_62 (dk_at dksX0_check_0 19 rfl rfl)
theorem dX0_check_20 : decode cX0_check 20 = .ok (.aload_n 0, 1) := dk_42 (dk_at dksX0_check_0 20 rfl rfl)
theorem dX0_check_21 : decode cX0_check 21 = .ok (.aload_n 2, 1) := dk_44 (dk_at dksX0_check_0 21 rfl rfl)
theorem dX0_check_22 : decode cX0_check 22 = .ok (.putfield 58, 3) := dk_181 0 58 (dk_at dksX0_check_1 0 rfl rfl)
theorem dX0_check_25 : decode cX0_check 25 = .ok (.aload_n 0, 1) := dk_42 (dk_at dksX0_check_1 3 rfl rfl)
theorem dX0_check_26 : decode cX0_check 26 = .ok (.iconst 0, 1) := dk_3 (dk_at dksX0_check_1 4 rfl rfl)
theorem dX0_check_27 : decode cX0_check 27 = .ok (.putfield 488, 3) := dk_181 1 232 (dk_at dksX0_check_1 5 rfl rfl)
theorem dX0_check_30 : decode cX0_check 30 = .ok (.iload_n 3, 1) := dk_29 (dk_at dksX0_check_1 8 rfl rfl)
theorem dX0_check_31 : decode cX0_check 31 = .ok (.ireturn, 1) := dk_172 (dk_at dksX0_check_1 9 rfl rfl)
theorem dX0_check_32 : decode cX0_check 32 = .ok (.aload_n 0, 1) := dk_42 (dk_at dksX0_check_1 10 rfl rfl)
theorem dX0_check_33 : decode cX0_check 33 = .ok (.getfield 500, 3) := dk_180 1 244 (dk_at dksX0_check_1 11 rfl rfl)
theorem dX0_check_36 : decode cX0_check 36 = .ok (.ifCond .ne 19, 3) := dk_154 0 19 (dk_at dksX0_check_1 14 rfl rfl)
theorem dX0_check_39 : decode cX0_check 39 = .ok (.ldc_w 487, 3) := dk_19 1 231 (dk_at dksX0_check_1 17 rfl rfl)
theorem dX0_check_42 : decode cX0_check 42 = .ok (.istore_n 3, 1) := dk_62 (dk_at dksX0_check_1 20 rfl rfl)
theorem dX0_check_43 : decode cX0_check 43 = .ok (.aload_n 0, 1) := dk_42 (dk_at dksX0_check_1 21 rfl rfl)
theorem dX0_check_44 : decode cX0_check 44 = .ok (.aload_n 2, 1) := dk_44 (dk_at dksX0_check_1 22 rfl rfl)
theorem dX0_check_45 : decode cX0_check 45 = .ok (.putfield 58, 3) := dk_181 0 58 (dk_at dksX0_check_2 0 rfl rfl)
theorem dX0_check_48 : decode cX0_check 48 = .ok (.aload_n 0, 1) := dk_42 (dk_at dksX0_check_2 3 rfl rfl)
theorem dX0_check_49 : decode cX0_check 49 = .ok (.iconst 0, 1) := dk_3 (dk_at dksX0_check_2 4 rfl rfl)
theorem dX0_check_50 : decode cX0_check 50 = .ok (.putfield 488, 3) := dk_181 1 232 (dk_at dksX0_check_2 5 rfl rfl)
theorem dX0_check_53 : decode cX0_check 53 = .ok (.iload_n 3, 1) := dk_29 (dk_at dksX0_check_2 8 rfl rfl)
theorem dX0_check_54 : decode cX0_check 54 = .ok (.ireturn, 1) := dk_172 (dk_at dksX0_check_2 9 rfl rfl)
theorem dX0_check_55 : decode cX0_check 55 = .ok (.aload_n 0, 1) := dk_42 (dk_at dksX0_check_2 10 rfl rfl)
theorem dX0_check_56 : decode cX0_check 56 = .ok (.aload_n 0, 1) := dk_42 (dk_at dksX0_check_2 11 rfl rfl)
theorem dX0_check_57 : decode cX0_check 57 = .ok (.getfield 65, 3) := dk_180 0 65 (dk_at dksX0_check_2 12 rfl rfl)
theorem dX0_check_60 : decode cX0_check 60 = .ok (.invokevirtual 229, 3) := dk_182 0 229 (dk_at dksX0_check_2 15 rfl rfl)
theorem dX0_check_63 : decode cX0_check 63 = .ok (.aload_n 0, 1) := dk_42 (dk_at dksX0_check_2 18 rfl rfl)
theorem dX0_check_64 : decode cX0_check 64 = .ok (.iconst 0, 1) := dk_3 (dk_at dksX0_check_2 19 rfl rfl)
theorem dX0_check_65 : decode cX0_check 65 = .ok (.putfield 495, 3) := dk_181 1 239 (dk_at dksX0_check_2 20 rfl rfl)
theorem dX0_check_68 : decode cX0_check 68 = .ok (.aload_n 0, 1) := dk_42 (dk_at dksX0_check_2 23 rfl rfl)
theorem dX0_check_69 : decode cX0_check 69 = .ok (.iconst 1, 1) := dk_4 (dk_at dksX0_check_3 0 rfl rfl)
theorem dX0_check_70 : decode cX0_check 70 = .ok (.putfield 491, 3) := dk_181 1 235 (dk_at dksX0_check_3 1 rfl rfl)
theorem dX0_check_73 : decode cX0_check 73 = .ok (.iconst 0, 1) := dk_3 (dk_at dksX0_check_3 4 rfl rfl)
theorem dX0_check_74 : decode cX0_check 74 = .ok (.istore_n 3, 1) := dk_62 (dk_at dksX0_check_3 5 rfl rfl)
theorem dX0_check_75 : decode cX0_check 75 = .ok (.iload_n 3, 1) := dk_29 (dk_at dksX0_check_3 6 rfl rfl)
theorem dX0_check_76 : decode cX0_check 76 = .ok (.iload_n 1, 1) := dk_27 (dk_at dksX0_check_3 7 rfl rfl)
theorem dX0_check_77 : decode cX0_check 77 = .ok (.if_icmp .ge 53, 3) := dk_162 0 53 (dk_at dksX0_check_3 8 rfl rfl)
theorem dX0_check_80 : decode cX0_check 80 = .ok (.aload_n 0, 1) := dk_42 (dk_at dksX0_check_3 11 rfl rfl)
theorem dX0_check_81 : decode cX0_check 81 = .ok (.getfield 58, 3) := dk_180 0 58 (dk_at dksX0_check_3 12 rfl rfl)
theorem dX0_check_84 : decode cX0_check 84 = .ok (.getfield 211, 3) := dk_180 0 211 (dk_at dksX0_check_3 15 rfl rfl)
theorem dX0_check_87 : decode cX0_check 87 = .ok (.sipush 9999, 3) := dk_17 39 15 (dk_at dksX0_check_3 18 rfl rfl)
theorem dX0_check_90 : decode cX0_check 90 = .ok (.if_icmp .ge 40, 3) := dk_162 0 40 (dk_at dksX0_check_3 21 rfl rfl)
theorem dX0_check_93 : decode cX0_check 93 = .ok (.aload_n 0, 1) := dk_42 (dk_at dksX0_check_4 0 rfl rfl)
theorem dX0_check_94 : decode cX0_check 94 = .ok (.getfield 58, 3) := dk_180 0 58 (dk_at dksX0_check_4 1 rfl rfl)
theorem dX0_check_97 : decode cX0_check 97 = .ok (.invokevirtual 214, 3) := dk_182 0 214 (dk_at dksX0_check_4 4 rfl rfl)
theorem dX0_check_100 : decode cX0_check 100 = .ok (.istore 4, 2) := dk_54 4 (dk_at dksX0_check_4 7 rfl rfl)
theorem dX0_check_102 : decode cX0_check 102 = .ok (.aload_n 0, 1) := dk_42 (dk_at dksX0_check_4 9 rfl rfl)
theorem dX0_check_103 : decode cX0_check 103 = .ok (.aload_n 0, 1) := dk_42 (dk_at dksX0_check_4 10 rfl rfl)
theorem dX0_check_104 : decode cX0_check 104 = .ok (.getfield 58, 3) := dk_180 0 58 (dk_at dksX0_check_4 11 rfl rfl)
theorem dX0_check_107 : decode cX0_check 107 = .ok (.invokevirtual 217, 3) := dk_182 0 217 (dk_at dksX0_check_4 14 rfl rfl)
theorem dX0_check_110 : decode cX0_check 110 = .ok (.invokevirtual 503, 3) := dk_182 1 247 (dk_at dksX0_check_4 17 rfl rfl)
theorem dX0_check_113 : decode cX0_check 113 = .ok (.aload_n 0, 1) := dk_42 (dk_at dksX0_check_4 20 rfl rfl)
theorem dX0_check_114 : decode cX0_check 114 = .ok (.aload_n 0, 1) := dk_42 (dk_at dksX0_check_4 21 rfl rfl)
theorem dX0_check_115 : decode cX0_check 115 = .ok (.getfield 58, 3) := dk_180 0 58 (dk_at dksX0_check_5 0 rfl rfl)
theorem dX0_check_118 : decode cX0_check 118 = .ok (.getfield 220, 3) := dk_180 0 220 (dk_at dksX0_check_5 3 rfl rfl)
theorem dX0_check_121 : decode cX0_check 121 = .ok (.invokevirtual 503, 3) := dk_182 1 247 (dk_at dksX0_check_5 6 rfl rfl)
theorem dX0_check_124 : decode cX0_check 124 = .ok (.iinc 3 1, 3) := dk_132 3 1 (dk_at dksX0_check_5 9 rfl rfl)
theorem dX0_check_127 : decode cX0_check 127 = .ok (.goto (-52), 3) := dk_167 255 204 (dk_at dksX0_check_5 12 rfl rfl)
theorem dX0_check_130 : decode cX0_check 130 = .ok (.aload_n 0, 1) := dk_42 (dk_at dksX0_check_5 15 rfl rfl)
theorem dX0_check_131 : decode cX0_check 131 = .ok (.getfield 491, 3) := dk_180 1 235 (dk_at dksX0_check_5 16 rfl rfl)
theorem dX0_check_134 : decode cX0_check 134 = .ok (.ifCond .eq 18, 3) := dk_153 0 18 (dk_at dksX0_check_5 19 rfl rfl)
theorem dX0_check_137 : decode cX0_check 137 = .ok (.aload_n 0, 1) := dk_42 (dk_at dksX0_check_5 22 rfl rfl)
theorem dX0_check_138 : decode cX0_check 138 = .ok (.getfield 495, 3) := dk_180 1 239 (dk_at dksX0_check_6 0 rfl rfl)
theorem dX0_check_141 : decode cX0_check 141 = .ok (.aload_n 0, 1) := dk_42 (dk_at dksX0_check_6 3 rfl rfl)
theorem dX0_check_142 : decode cX0_check 142 = .ok (.getfield 488, 3) := dk_180 1 232 (dk_at dksX0_check_6 4 rfl rfl)
theorem dX0_check_145 : decode cX0_check 145 = .ok (.if_icmp .ne 7, 3) := dk_160 0 7 (dk_at dksX0_check_6 7 rfl rfl)
theorem dX0_check_148 : decode cX0_check 148 = .ok (.iconst 0, 1) := dk_3 (dk_at dksX0_check_6 10 rfl rfl)
theorem dX0_check_149 : decode cX0_check 149 = .ok (.goto 9, 3) := dk_167 0 9 (dk_at dksX0_check_6 11 rfl rfl)
theorem dX0_check_152 : decode cX0_check 152 = .ok (.iconst 1, 1) := dk_4 (dk_at dksX0_check_6 14 rfl rfl)
theorem dX0_check_153 : decode cX0_check 153 = .ok (.aload_n 0, 1) := dk_42 (dk_at dksX0_check_6 15 rfl rfl)
theorem dX0_check_154 : decode cX0_check 154 = .ok (.getfield 495, 3) := dk_180 1 239 (dk_at dksX0_check_6 16 rfl rfl)
theorem dX0_check_157 : decode cX0_check 157 = .ok (.iadd, 1) := dk_96 (dk_at dksX0_check_6 19 rfl rfl)
theorem dX0_check_158 : decode cX0_check 158 = .ok (.istore_n 3, 1) := dk_62 (dk_at dksX0_check_6 20 rfl rfl)
theorem dX0_check_159 : decode cX0_check 159 = .ok (.aload_n 0, 1) := dk_42 (dk_at dksX0_check_6 21 rfl rfl)
theorem dX0_check_160 : decode cX0_check 160 = .ok (.aload_n 2, 1) := dk_44 (dk_at dksX0_check_6 22 rfl rfl)
theorem dX0_check_161 : decode cX0_check 161 = .ok (.putfield 58, 3) := dk_181 0 58 (dk_at dksX0_check_7 0 rfl rfl)
theorem dX0_check_164 : decode cX0_check 164 = .ok (.aload_n 0, 1) := dk_42 (dk_at dksX0_check_7 3 rfl rfl)
theorem dX0_check_165 : decode cX0_check 165 = .ok (.iconst 0, 1) := dk_3 (dk_at dksX0_check_7 4 rfl rfl)
theorem dX0_check_166 : decode cX0_check 166 = .ok (.putfield 488, 3) := dk_181 1 232 (dk_at dksX0_check_7 5 rfl rfl)
theorem dX0_check_169 : decode cX0_check 169 = .ok (.iload_n 3, 1) := dk_29 (dk_at dksX0_check_7 8 rfl rfl)
theorem dX0_check_170 : decode cX0_check 170 = .ok (.ireturn, 1) := dk_172 (dk_at dksX0_check_7 9 rfl rfl)
theorem dX0_check_171 : decode cX0_check 171 = .ok (.astore 5, 2) := dk_58 5 (dk_at dksX0_check_7 10 rfl rfl)
theorem dX0_check_173 : decode cX0_check 173 = .ok (.aload_n 0, 1) := dk_42 (dk_at dksX0_check_7 12 rfl rfl)
theorem dX0_check_174 : decode cX0_check 174 = .ok (.aload_n 2, 1) := dk_44 (dk_at dksX0_check_7 13 rfl rfl)
theorem dX0_check_175 : decode cX0_check 175 = .ok (.putfield 58, 3) := dk_181 0 58 (dk_at dksX0_check_7 14 rfl rfl)
theorem dX0_check_178 : decode cX0_check 178 = .ok (.aload_n 0, 1) := dk_42 (dk_at dksX0_check_7 17 rfl rfl)
theorem dX0_check_179 : decode cX0_check 179 = .ok (.iconst 0, 1) := dk_3 (dk_at dksX0_check_7 18 rfl rfl)
theorem dX0_check_180 : decode cX0_check 180 = .ok (.putfield 488, 3) := dk_181 1 232 (dk_at dksX0_check_7 19 rfl rfl)
theorem dX0_check_183 : decode cX0_check 183 = .ok (.aload 5, 2) := dk_25 5 (dk_at dksX0_check_7 22 rfl rfl)
theorem dX0_check_185 : decode cX0_check 185 = .ok (.athrow, 1) := dk_191 (dk_at dksX0_check_8 0 rfl rfl)
abbrev cX0_due : ByteArray := prog_1_method_81_code
def yX0_due : MethodName := ⟨RX0, "due", "(I)V"⟩
def dkwX0_due_2 : List UInt8 := [180, 1, 235, 153, 0, 7, 4, 167, 0, 4, 3, 96, 181, 1, 239, 177]
abbrev dktX0_due_2 : List UInt8 := dkwX0_due_2 ++ []
def dkwX0_due_1 : List UInt8 := [180, 1, 239, 46, 27, 160, 0, 7, 4, 167, 0, 4, 3, 181, 1, 235, 42, 89, 180, 1, 239, 42]
abbrev dktX0_due_1 : List UInt8 := dkwX0_due_1 ++ dktX0_due_2
def dkwX0_due_0 : List UInt8 := [42, 42, 180, 1, 235, 153, 0, 31, 42, 180, 1, 239, 42, 180, 1, 232, 162, 0, 20, 42, 180, 0, 84, 42]
abbrev dktX0_due_0 : List UInt8 := dkwX0_due_0 ++ dktX0_due_1
theorem dksX0_due_0 : cX0_due.data.toList.drop 0 = dktX0_due_0 := by decide +kernel
theorem dksX0_due_1 : cX0_due.data.toList.drop 24 = dktX0_due_1 := dk_seg dksX0_due_0 24 rfl rfl
theorem dksX0_due_2 : cX0_due.data.toList.drop 46 = dktX0_due_2 := dk_seg dksX0_due_1 22 rfl rfl
theorem dX0_due_0 : decode cX0_due 0 = .ok (.aload_n 0, 1) := dk_42 (dk_at dksX0_due_0 0 rfl rfl)
theorem dX0_due_1 : decode cX0_due 1 = .ok (.aload_n 0, 1) := dk_42 (dk_at dksX0_due_0 1 rfl rfl)
theorem dX0_due_2 : decode cX0_due 2 = .ok (.getfield 491, 3) := dk_180 1 235 (dk_at dksX0_due_0 2 rfl rfl)
theorem dX0_due_5 : decode cX0_due 5 = .ok (.ifCond .eq 31, 3) := dk_153 0 31 (dk_at dksX0_due_0 5 rfl rfl)
theorem dX0_due_8 : decode cX0_due 8 = .ok (.aload_n 0, 1) := dk_42 (dk_at dksX0_due_0 8 rfl rfl)
theorem dX0_due_9 : decode cX0_due 9 = .ok (.getfield 495, 3) := dk_180 1 239 (dk_at dksX0_due_0 9 rfl rfl)
theorem dX0_due_12 : decode cX0_due 12 = .ok (.aload_n 0, 1) := dk_42 (dk_at dksX0_due_0 12 rfl rfl)
theorem dX0_due_13 : decode cX0_due 13 = .ok (.getfield 488, 3) := dk_180 1 232 (dk_at dksX0_due_0 13 rfl rfl)
theorem dX0_due_16 : decode cX0_due 16 = .ok (.if_icmp .ge 20, 3) := dk_162 0 20 (dk_at dksX0_due_0 16 rfl rfl)
theorem dX0_due_19 : decode cX0_due 19 = .ok (.aload_n 0, 1) := dk_42 (dk_at dksX0_due_0 19 rfl rfl)
theorem dX0_due_20 : decode cX0_due 20 = .ok (.getfield 84, 3) := dk_180 0 84 (dk_at dksX0_due_0 20 rfl rfl)
theorem dX0_due_23 : decode cX0_due 23 = .ok (.aload_n 0, 1) := dk_42 (dk_at dksX0_due_0 23 rfl rfl)
theorem dX0_due_24 : decode cX0_due 24 = .ok (.getfield 495, 3) := dk_180 1 239 (dk_at dksX0_due_1 0 rfl rfl)
theorem dX0_due_27 : decode cX0_due 27 = .ok (.iaload, 1) := dk_46 (dk_at dksX0_due_1 3 rfl rfl)
theorem dX0_due_28 : decode cX0_due 28 = .ok (.iload_n 1, 1) := dk_27 (dk_at dksX0_due_1 4 rfl rfl)
theorem dX0_due_29 : decode cX0_due 29 = .ok (.if_icmp .ne 7, 3) := dk_160 0 7 (dk_at dksX0_due_1 5 rfl rfl)
theorem dX0_due_32 : decode cX0_due 32 = .ok (.iconst 1, 1) := dk_4 (dk_at dksX0_due_1 8 rfl rfl)
theorem dX0_due_33 : decode cX0_due 33 = .ok (.goto 4, 3) := dk_167 0 4 (dk_at dksX0_due_1 9 rfl rfl)
theorem dX0_due_36 : decode cX0_due 36 = .ok (.iconst 0, 1) := dk_3 (dk_at dksX0_due_1 12 rfl rfl)
theorem dX0_due_37 : decode cX0_due 37 = .ok (.putfield 491, 3) := dk_181 1 235 (dk_at dksX0_due_1 13 rfl rfl)
theorem dX0_due_40 : decode cX0_due 40 = .ok (.aload_n 0, 1) := dk_42 (dk_at dksX0_due_1 16 rfl rfl)
theorem dX0_due_41 : decode cX0_due 41 = .ok (.dup, 1) := dk_89 (dk_at dksX0_due_1 17 rfl rfl)
theorem dX0_due_42 : decode cX0_due 42 = .ok (.getfield 495, 3) := dk_180 1 239 (dk_at dksX0_due_1 18 rfl rfl)
theorem dX0_due_45 : decode cX0_due 45 = .ok (.aload_n 0, 1) := dk_42 (dk_at dksX0_due_1 21 rfl rfl)
theorem dX0_due_46 : decode cX0_due 46 = .ok (.getfield 491, 3) := dk_180 1 235 (dk_at dksX0_due_2 0 rfl rfl)
theorem dX0_due_49 : decode cX0_due 49 = .ok (.ifCond .eq 7, 3) := dk_153 0 7 (dk_at dksX0_due_2 3 rfl rfl)
theorem dX0_due_52 : decode cX0_due 52 = .ok (.iconst 1, 1) := dk_4 (dk_at dksX0_due_2 6 rfl rfl)
theorem dX0_due_53 : decode cX0_due 53 = .ok (.goto 4, 3) := dk_167 0 4 (dk_at dksX0_due_2 7 rfl rfl)
theorem dX0_due_56 : decode cX0_due 56 = .ok (.iconst 0, 1) := dk_3 (dk_at dksX0_due_2 10 rfl rfl)
theorem dX0_due_57 : decode cX0_due 57 = .ok (.iadd, 1) := dk_96 (dk_at dksX0_due_2 11 rfl rfl)
theorem dX0_due_58 : decode cX0_due 58 = .ok (.putfield 495, 3) := dk_181 1 239 (dk_at dksX0_due_2 12 rfl rfl)
theorem dX0_due_61 : decode cX0_due 61 = .ok (.return_, 1) := dk_177 (dk_at dksX0_due_2 15 rfl rfl)
abbrev cX0_keep : ByteArray := prog_1_method_83_code
def yX0_keep : MethodName := ⟨RX0, "keep", "()I"⟩
def dkwX0_keep_0 : List UInt8 := [42, 180, 0, 65, 42, 180, 0, 58, 182, 0, 88, 42, 4, 181, 1, 244, 42, 180, 0, 58, 180, 0, 92, 172]
abbrev dktX0_keep_0 : List UInt8 := dkwX0_keep_0 ++ []
theorem dksX0_keep_0 : cX0_keep.data.toList.drop 0 = dktX0_keep_0 := by decide +kernel
theorem dX0_keep_0 : decode cX0_keep 0 = .ok (.aload_n 0, 1) := dk_42 (dk_at dksX0_keep_0 0 rfl rfl)
theorem dX0_keep_1 : decode cX0_keep 1 = .ok (.getfield 65, 3) := dk_180 0 65 (dk_at dksX0_keep_0 1 rfl rfl)
theorem dX0_keep_4 : decode cX0_keep 4 = .ok (.aload_n 0, 1) := dk_42 (dk_at dksX0_keep_0 4 rfl rfl)
theorem dX0_keep_5 : decode cX0_keep 5 = .ok (.getfield 58, 3) := dk_180 0 58 (dk_at dksX0_keep_0 5 rfl rfl)
theorem dX0_keep_8 : decode cX0_keep 8 = .ok (.invokevirtual 88, 3) := dk_182 0 88 (dk_at dksX0_keep_0 8 rfl rfl)
theorem dX0_keep_11 : decode cX0_keep 11 = .ok (.aload_n 0, 1) := dk_42 (dk_at dksX0_keep_0 11 rfl rfl)
theorem dX0_keep_12 : decode cX0_keep 12 = .ok (.iconst 1, 1) := dk_4 (dk_at dksX0_keep_0 12 rfl rfl)
theorem dX0_keep_13 : decode cX0_keep 13 = .ok (.putfield 500, 3) := dk_181 1 244 (dk_at dksX0_keep_0 13 rfl rfl)
theorem dX0_keep_16 : decode cX0_keep 16 = .ok (.aload_n 0, 1) := dk_42 (dk_at dksX0_keep_0 16 rfl rfl)
theorem dX0_keep_17 : decode cX0_keep 17 = .ok (.getfield 58, 3) := dk_180 0 58 (dk_at dksX0_keep_0 17 rfl rfl)
theorem dX0_keep_20 : decode cX0_keep 20 = .ok (.getfield 92, 3) := dk_180 0 92 (dk_at dksX0_keep_0 20 rfl rfl)
theorem dX0_keep_23 : decode cX0_keep 23 = .ok (.ireturn, 1) := dk_172 (dk_at dksX0_keep_0 23 rfl rfl)
abbrev cX0_back : ByteArray := prog_1_method_84_code
def yX0_back : MethodName := ⟨RX0, "back", "()I"⟩
def dkwX0_back_1 : List UInt8 := [180, 0, 58, 180, 0, 92, 172]
abbrev dktX0_back_1 : List UInt8 := dkwX0_back_1 ++ []
def dkwX0_back_0 : List UInt8 := [42, 180, 1, 244, 154, 0, 7, 19, 1, 231, 172, 42, 180, 0, 58, 42, 180, 0, 65, 182, 0, 88, 42]
abbrev dktX0_back_0 : List UInt8 := dkwX0_back_0 ++ dktX0_back_1
theorem dksX0_back_0 : cX0_back.data.toList.drop 0 = dktX0_back_0 := by decide +kernel
theorem dksX0_back_1 : cX0_back.data.toList.drop 23 = dktX0_back_1 := dk_seg dksX0_back_0 23 rfl rfl
theorem dX0_back_0 : decode cX0_back 0 = .ok (.aload_n 0, 1) := dk_42 (dk_at dksX0_back_0 0 rfl rfl)
theorem dX0_back_1 : decode cX0_back 1 = .ok (.getfield 500, 3) := dk_180 1 244 (dk_at dksX0_back_0 1 rfl rfl)
theorem dX0_back_4 : decode cX0_back 4 = .ok (.ifCond .ne 7, 3) := dk_154 0 7 (dk_at dksX0_back_0 4 rfl rfl)
theorem dX0_back_7 : decode cX0_back 7 = .ok (.ldc_w 487, 3) := dk_19 1 231 (dk_at dksX0_back_0 7 rfl rfl)
theorem dX0_back_10 : decode cX0_back 10 = .ok (.ireturn, 1) := dk_172 (dk_at dksX0_back_0 10 rfl rfl)
theorem dX0_back_11 : decode cX0_back 11 = .ok (.aload_n 0, 1) := dk_42 (dk_at dksX0_back_0 11 rfl rfl)
theorem dX0_back_12 : decode cX0_back 12 = .ok (.getfield 58, 3) := dk_180 0 58 (dk_at dksX0_back_0 12 rfl rfl)
theorem dX0_back_15 : decode cX0_back 15 = .ok (.aload_n 0, 1) := dk_42 (dk_at dksX0_back_0 15 rfl rfl)
theorem dX0_back_16 : decode cX0_back 16 = .ok (.getfield 65, 3) := dk_180 0 65 (dk_at dksX0_back_0 16 rfl rfl)
theorem dX0_back_19 : decode cX0_back 19 = .ok (.invokevirtual 88, 3) := dk_182 0 88 (dk_at dksX0_back_0 19 rfl rfl)
theorem dX0_back_22 : decode cX0_back 22 = .ok (.aload_n 0, 1) := dk_42 (dk_at dksX0_back_0 22 rfl rfl)
theorem dX0_back_23 : decode cX0_back 23 = .ok (.getfield 58, 3) := dk_180 0 58 (dk_at dksX0_back_1 0 rfl rfl)
theorem dX0_back_26 : decode cX0_back 26 = .ok (.getfield 92, 3) := dk_180 0 92 (dk_at dksX0_back_1 3 rfl rfl)
theorem dX0_back_29 : decode cX0_back 29 = .ok (.ireturn, 1) := dk_172 (dk_at dksX0_back_1 6 rfl rfl)
abbrev cX0_count : ByteArray := prog_1_method_85_code
def yX0_count : MethodName := ⟨RX0, "count", "(I)I"⟩
def dkwX0_count_4 : List UInt8 := [42, 180, 1, 232, 172, 42, 180, 1, 24, 172, 42, 180, 0, 58, 180, 0, 208, 172, 18, 109, 172]
abbrev dktX0_count_4 : List UInt8 := dkwX0_count_4 ++ []
def dkwX0_count_3 : List UInt8 := [42, 180, 0, 58, 180, 0, 200, 172, 42, 180, 0, 58, 182, 1, 250, 172, 42, 180, 0, 58, 180, 1, 142, 172]
abbrev dktX0_count_3 : List UInt8 := dkwX0_count_3 ++ dktX0_count_4
def dkwX0_count_2 : List UInt8 := [42, 180, 0, 58, 180, 0, 92, 172, 42, 180, 0, 58, 180, 0, 100, 172, 42, 180, 0, 58, 180, 0, 211, 172]
abbrev dktX0_count_2 : List UInt8 := dkwX0_count_2 ++ dktX0_count_3
def dkwX0_count_1 : List UInt8 := [170, 0, 0, 0, 0, 0, 117, 0, 0, 0, 0, 0, 0, 0, 8, 0, 0, 0, 51, 0, 0, 0, 59, 0, 0, 0, 67, 0, 0, 0, 75, 0, 0, 0, 83, 0, 0, 0, 91, 0, 0, 0, 99, 0, 0, 0, 104, 0, 0, 0, 109]
abbrev dktX0_count_1 : List UInt8 := dkwX0_count_1 ++ dktX0_count_2
def dkwX0_count_0 : List UInt8 := [27]
abbrev dktX0_count_0 : List UInt8 := dkwX0_count_0 ++ dktX0_count_1
theorem dksX0_count_0 : cX0_count.data.toList.drop 0 = dktX0_count_0 := by decide +kernel
theorem dksX0_count_1 : cX0_count.data.toList.drop 1 = dktX0_count_1 := dk_seg dksX0_count_0 1 rfl rfl
theorem dksX0_count_2 : cX0_count.data.toList.drop 52 = dktX0_count_2 := dk_seg dksX0_count_1 51 rfl rfl
theorem dksX0_count_3 : cX0_count.data.toList.drop 76 = dktX0_count_3 := dk_seg dksX0_count_2 24 rfl rfl
theorem dksX0_count_4 : cX0_count.data.toList.drop 100 = dktX0_count_4 := dk_seg dksX0_count_3 24 rfl rfl
theorem dX0_count_0 : decode cX0_count 0 = .ok (.iload_n 1, 1) := dk_27 (dk_at dksX0_count_0 0 rfl rfl)
theorem dX0_count_1 : decode cX0_count 1 = .ok (.tableswitch 117 0 8 #[51, 59, 67, 75, 83, 91, 99, 104, 109], 51) := by decide +kernel
theorem dX0_count_52 : decode cX0_count 52 = .ok (.aload_n 0, 1) := dk_42 (dk_at dksX0_count_2 0 rfl rfl)
theorem dX0_count_53 : decode cX0_count 53 = .ok (.getfield 58, 3) := dk_180 0 58 (dk_at dksX0_count_2 1 rfl rfl)
theorem dX0_count_56 : decode cX0_count 56 = .ok (.getfield 92, 3) := dk_180 0 92 (dk_at dksX0_count_2 4 rfl rfl)
theorem dX0_count_59 : decode cX0_count 59 = .ok (.ireturn, 1) := dk_172 (dk_at dksX0_count_2 7 rfl rfl)
theorem dX0_count_60 : decode cX0_count 60 = .ok (.aload_n 0, 1) := dk_42 (dk_at dksX0_count_2 8 rfl rfl)
theorem dX0_count_61 : decode cX0_count 61 = .ok (.getfield 58, 3) := dk_180 0 58 (dk_at dksX0_count_2 9 rfl rfl)
theorem dX0_count_64 : decode cX0_count 64 = .ok (.getfield 100, 3) := dk_180 0 100 (dk_at dksX0_count_2 12 rfl rfl)
theorem dX0_count_67 : decode cX0_count 67 = .ok (.ireturn, 1) := dk_172 (dk_at dksX0_count_2 15 rfl rfl)
theorem dX0_count_68 : decode cX0_count 68 = .ok (.aload_n 0, 1) := dk_42 (dk_at dksX0_count_2 16 rfl rfl)
theorem dX0_count_69 : decode cX0_count 69 = .ok (.getfield 58, 3) := dk_180 0 58 (dk_at dksX0_count_2 17 rfl rfl)
theorem dX0_count_72 : decode cX0_count 72 = .ok (.getfield 211, 3) := dk_180 0 211 (dk_at dksX0_count_2 20 rfl rfl)
theorem dX0_count_75 : decode cX0_count 75 = .ok (.ireturn, 1) := dk_172 (dk_at dksX0_count_2 23 rfl rfl)
theorem dX0_count_76 : decode cX0_count 76 = .ok (.aload_n 0, 1) := dk_42 (dk_at dksX0_count_3 0 rfl rfl)
theorem dX0_count_77 : decode cX0_count 77 = .ok (.getfield 58, 3) := dk_180 0 58 (dk_at dksX0_count_3 1 rfl rfl)
theorem dX0_count_80 : decode cX0_count 80 = .ok (.getfield 200, 3) := dk_180 0 200 (dk_at dksX0_count_3 4 rfl rfl)
theorem dX0_count_83 : decode cX0_count 83 = .ok (.ireturn, 1) := dk_172 (dk_at dksX0_count_3 7 rfl rfl)
theorem dX0_count_84 : decode cX0_count 84 = .ok (.aload_n 0, 1) := dk_42 (dk_at dksX0_count_3 8 rfl rfl)
theorem dX0_count_85 : decode cX0_count 85 = .ok (.getfield 58, 3) := dk_180 0 58 (dk_at dksX0_count_3 9 rfl rfl)
theorem dX0_count_88 : decode cX0_count 88 = .ok (.invokevirtual 506, 3) := dk_182 1 250 (dk_at dksX0_count_3 12 rfl rfl)
theorem dX0_count_91 : decode cX0_count 91 = .ok (.ireturn, 1) := dk_172 (dk_at dksX0_count_3 15 rfl rfl)
theorem dX0_count_92 : decode cX0_count 92 = .ok (.aload_n 0, 1) := dk_42 (dk_at dksX0_count_3 16 rfl rfl)
theorem dX0_count_93 : decode cX0_count 93 = .ok (.getfield 58, 3) := dk_180 0 58 (dk_at dksX0_count_3 17 rfl rfl)
theorem dX0_count_96 : decode cX0_count 96 = .ok (.getfield 398, 3) := dk_180 1 142 (dk_at dksX0_count_3 20 rfl rfl)
theorem dX0_count_99 : decode cX0_count 99 = .ok (.ireturn, 1) := dk_172 (dk_at dksX0_count_3 23 rfl rfl)
theorem dX0_count_100 : decode cX0_count 100 = .ok (.aload_n 0, 1) := dk_42 (dk_at dksX0_count_4 0 rfl rfl)
theorem dX0_count_101 : decode cX0_count 101 = .ok (.getfield 488, 3) := dk_180 1 232 (dk_at dksX0_count_4 1 rfl rfl)
theorem dX0_count_104 : decode cX0_count 104 = .ok (.ireturn, 1) := dk_172 (dk_at dksX0_count_4 4 rfl rfl)
theorem dX0_count_105 : decode cX0_count 105 = .ok (.aload_n 0, 1) := dk_42 (dk_at dksX0_count_4 5 rfl rfl)
theorem dX0_count_106 : decode cX0_count 106 = .ok (.getfield 280, 3) := dk_180 1 24 (dk_at dksX0_count_4 6 rfl rfl)
theorem dX0_count_109 : decode cX0_count 109 = .ok (.ireturn, 1) := dk_172 (dk_at dksX0_count_4 9 rfl rfl)
theorem dX0_count_110 : decode cX0_count 110 = .ok (.aload_n 0, 1) := dk_42 (dk_at dksX0_count_4 10 rfl rfl)
theorem dX0_count_111 : decode cX0_count 111 = .ok (.getfield 58, 3) := dk_180 0 58 (dk_at dksX0_count_4 11 rfl rfl)
theorem dX0_count_114 : decode cX0_count 114 = .ok (.getfield 208, 3) := dk_180 0 208 (dk_at dksX0_count_4 14 rfl rfl)
theorem dX0_count_117 : decode cX0_count 117 = .ok (.ireturn, 1) := dk_172 (dk_at dksX0_count_4 17 rfl rfl)
theorem dX0_count_118 : decode cX0_count 118 = .ok (.ldc 109, 2) := dk_18 109 (dk_at dksX0_count_4 18 rfl rfl)
theorem dX0_count_120 : decode cX0_count 120 = .ok (.ireturn, 1) := dk_172 (dk_at dksX0_count_4 20 rfl rfl)
theorem q72 : (Jvm.Cond.initialized "LevelCellars") ∈ lw_all := lw_g (lw_at lw_m1 1 rfl) rfl
theorem q105 : (Jvm.Cond.instantiable "LevelCellars" (22 : Nat)) ∈ lw_all := lw_g (lw_at lw_m1 34 rfl) rfl
theorem q107 : (Jvm.Cond.instanceMethod ({ cls := "LevelCellars", name := "<init>", desc := "()V" } : Jvm.MethodName)) ∈ lw_all := lw_g (lw_at lw_m1 36 rfl) rfl
theorem q108 : (Jvm.Cond.code ({ cls := "LevelCellars", name := "<init>", desc := "()V" } : Jvm.MethodName) prog_1_method_7_code (2 : Nat) (Option.none : Option Jvm.ClassFile.FieldType)) ∈ lw_all := lw_g (lw_at lw_m1 37 rfl) rfl
theorem q109 : (Jvm.Cond.methodLink "LevelCellars" (46 : Nat) ({ cls := "java/lang/Object", name := "<init>", desc := "()V" } : Jvm.MethodName)) ∈ lw_all := lw_g (lw_at lw_m1 38 rfl) rfl
theorem q112 : (Jvm.Cond.classLink "LevelCellars" (55 : Nat) "LevelCellars$Town") ∈ lw_all := lw_g (lw_at lw_m1 41 rfl) rfl
theorem q114 : (Jvm.Cond.methodLinkNest "LevelCellars" (57 : Nat) ({ cls := "LevelCellars$Town", name := "<init>", desc := "(LLevelCellars;)V" } : Jvm.MethodName) "LevelCellars") ∈ lw_tbl := lw_at lw_m1 43 rfl
theorem q123 : (Jvm.Cond.fieldLink "LevelCellars" (92 : Nat) "LevelCellars$Town" "cellarN" "I") ∈ lw_all := lw_g (lw_at lw_m1 52 rfl) rfl
theorem q125 : (Jvm.Cond.fieldLink "LevelCellars" (100 : Nat) "LevelCellars$Town" "pipeN" "I") ∈ lw_all := lw_g (lw_at lw_m1 54 rfl) rfl
theorem q127 : (Jvm.Cond.fieldLink "LevelCellars" (398 : Nat) "LevelCellars$Town" "textN" "I") ∈ lw_all := lw_g (lw_at lw_m1 56 rfl) rfl
theorem q129 : (Jvm.Cond.fieldLink "LevelCellars" (211 : Nat) "LevelCellars$Town" "hour" "I") ∈ lw_all := lw_g (lw_at lw_m1 58 rfl) rfl
theorem q131 : (Jvm.Cond.fieldLink "LevelCellars" (200 : Nat) "LevelCellars$Town" "thirst" "I") ∈ lw_all := lw_g (lw_at lw_m1 60 rfl) rfl
theorem q133 : (Jvm.Cond.fieldLink "LevelCellars" (220 : Nat) "LevelCellars$Town" "spilt" "I") ∈ lw_all := lw_g (lw_at lw_m1 62 rfl) rfl
theorem q135 : (Jvm.Cond.fieldLink "LevelCellars" (208 : Nat) "LevelCellars$Town" "z" "I") ∈ lw_all := lw_g (lw_at lw_m1 64 rfl) rfl
theorem q137 : (Jvm.Cond.fieldLink "LevelCellars" (178 : Nat) "LevelCellars$Town" "ones" "[I") ∈ lw_all := lw_g (lw_at lw_m1 66 rfl) rfl
theorem q139 : (Jvm.Cond.fieldLink "LevelCellars" (181 : Nat) "LevelCellars$Town" "others" "[I") ∈ lw_all := lw_g (lw_at lw_m1 68 rfl) rfl
theorem q141 : (Jvm.Cond.fieldLink "LevelCellars" (184 : Nat) "LevelCellars$Town" "wides" "[I") ∈ lw_all := lw_g (lw_at lw_m1 70 rfl) rfl
theorem q143 : (Jvm.Cond.fieldLink "LevelCellars" (187 : Nat) "LevelCellars$Town" "isCorked" "[Z") ∈ lw_all := lw_g (lw_at lw_m1 72 rfl) rfl
theorem q145 : (Jvm.Cond.fieldLink "LevelCellars" (121 : Nat) "LevelCellars$Town" "cellars" "[LLevelCellars$Cellar;") ∈ lw_all := lw_g (lw_at lw_m1 74 rfl) rfl
theorem q147 : (Jvm.Cond.fieldLink "LevelCellars" (401 : Nat) "LevelCellars$Town" "texts" "[LLevelCellars$Text;") ∈ lw_all := lw_g (lw_at lw_m1 76 rfl) rfl
theorem q180 : (Jvm.Cond.classLink "LevelCellars" (75 : Nat) "LevelCellars$Holder") ∈ lw_all := lw_g (lw_at lw_m1 109 rfl) rfl
theorem q183 : (Jvm.Cond.methodLinkNest "LevelCellars" (87 : Nat) ({ cls := "LevelCellars$Holder", name := "<init>", desc := "()V" } : Jvm.MethodName) "LevelCellars") ∈ lw_tbl := lw_at lw_m1 112 rfl
theorem q187 : (Jvm.Cond.fieldLink "LevelCellars" (265 : Nat) "LevelCellars$Holder" "held" "Ljava/lang/Object;") ∈ lw_all := lw_g (lw_at lw_m1 116 rfl) rfl
theorem q192 : (Jvm.Cond.fieldLink "LevelCellars" (51 : Nat) "LevelCellars" "going" "[I") ∈ lw_all := lw_g (lw_at lw_m1 121 rfl) rfl
theorem q194 : (Jvm.Cond.fieldLink "LevelCellars" (58 : Nat) "LevelCellars" "now" "LLevelCellars$Town;") ∈ lw_all := lw_g (lw_at lw_m1 123 rfl) rfl
theorem q195 : (Jvm.Cond.fieldLink "LevelCellars" (62 : Nat) "LevelCellars" "spare" "LLevelCellars$Town;") ∈ lw_all := lw_g (lw_at lw_m1 124 rfl) rfl
theorem q196 : (Jvm.Cond.fieldLink "LevelCellars" (65 : Nat) "LevelCellars" "image" "LLevelCellars$Town;") ∈ lw_all := lw_g (lw_at lw_m1 125 rfl) rfl
theorem q197 : (Jvm.Cond.fieldLink "LevelCellars" (500 : Nat) "LevelCellars" "hasImage" "Z") ∈ lw_all := lw_g (lw_at lw_m1 126 rfl) rfl
theorem q200 : (Jvm.Cond.fieldLink "LevelCellars" (68 : Nat) "LevelCellars" "named" "[I") ∈ lw_all := lw_g (lw_at lw_m1 129 rfl) rfl
theorem q201 : (Jvm.Cond.fieldLink "LevelCellars" (71 : Nat) "LevelCellars" "tape" "[B") ∈ lw_all := lw_g (lw_at lw_m1 130 rfl) rfl
theorem q202 : (Jvm.Cond.fieldLink "LevelCellars" (280 : Nat) "LevelCellars" "taped" "I") ∈ lw_all := lw_g (lw_at lw_m1 131 rfl) rfl
theorem q203 : (Jvm.Cond.fieldLink "LevelCellars" (283 : Nat) "LevelCellars" "token" "I") ∈ lw_all := lw_g (lw_at lw_m1 132 rfl) rfl
theorem q204 : (Jvm.Cond.fieldLink "LevelCellars" (292 : Nat) "LevelCellars" "begin" "I") ∈ lw_all := lw_g (lw_at lw_m1 133 rfl) rfl
theorem q205 : (Jvm.Cond.fieldLink "LevelCellars" (286 : Nat) "LevelCellars" "behind" "I") ∈ lw_all := lw_g (lw_at lw_m1 134 rfl) rfl
theorem q206 : (Jvm.Cond.fieldLink "LevelCellars" (301 : Nat) "LevelCellars" "value" "I") ∈ lw_all := lw_g (lw_at lw_m1 135 rfl) rfl
theorem q207 : (Jvm.Cond.fieldLink "LevelCellars" (374 : Nat) "LevelCellars" "parens" "I") ∈ lw_all := lw_g (lw_at lw_m1 136 rfl) rfl
theorem q208 : (Jvm.Cond.fieldLink "LevelCellars" (362 : Nat) "LevelCellars" "nots" "I") ∈ lw_all := lw_g (lw_at lw_m1 137 rfl) rfl
theorem q209 : (Jvm.Cond.fieldLink "LevelCellars" (351 : Nat) "LevelCellars" "words" "I") ∈ lw_all := lw_g (lw_at lw_m1 138 rfl) rfl
theorem q210 : (Jvm.Cond.fieldLink "LevelCellars" (344 : Nat) "LevelCellars" "key" "I") ∈ lw_all := lw_g (lw_at lw_m1 139 rfl) rfl
theorem q211 : (Jvm.Cond.fieldLink "LevelCellars" (77 : Nat) "LevelCellars" "sheets" "[LLevelCellars$Holder;") ∈ lw_all := lw_g (lw_at lw_m1 140 rfl) rfl
theorem q212 : (Jvm.Cond.fieldLink "LevelCellars" (81 : Nat) "LevelCellars" "slots" "[LLevelCellars$Holder;") ∈ lw_all := lw_g (lw_at lw_m1 141 rfl) rfl
theorem q213 : (Jvm.Cond.fieldLink "LevelCellars" (84 : Nat) "LevelCellars" "waits" "[I") ∈ lw_all := lw_g (lw_at lw_m1 142 rfl) rfl
theorem q214 : (Jvm.Cond.fieldLink "LevelCellars" (488 : Nat) "LevelCellars" "waiting" "I") ∈ lw_all := lw_g (lw_at lw_m1 143 rfl) rfl
theorem q215 : (Jvm.Cond.fieldLink "LevelCellars" (495 : Nat) "LevelCellars" "asked" "I") ∈ lw_all := lw_g (lw_at lw_m1 144 rfl) rfl
theorem q216 : (Jvm.Cond.fieldLink "LevelCellars" (491 : Nat) "LevelCellars" "isLike" "Z") ∈ lw_all := lw_g (lw_at lw_m1 145 rfl) rfl
theorem q217 : (Jvm.Cond.laysFinal "LevelCellars" "LevelCellars" "going" "[I") ∈ lw_all := lw_g (lw_at lw_m1 146 rfl) rfl
theorem q218 : (Jvm.Cond.soleField "LevelCellars" "going") ∈ lw_all := lw_g (lw_at lw_m1 147 rfl) rfl
theorem q219 : (Jvm.Cond.lays "LevelCellars" "LevelCellars" "now" "LLevelCellars$Town;") ∈ lw_all := lw_g (lw_at lw_m1 148 rfl) rfl
theorem q220 : (Jvm.Cond.soleField "LevelCellars" "now") ∈ lw_all := lw_g (lw_at lw_m1 149 rfl) rfl
theorem q221 : (Jvm.Cond.laysFinal "LevelCellars" "LevelCellars" "spare" "LLevelCellars$Town;") ∈ lw_all := lw_g (lw_at lw_m1 150 rfl) rfl
theorem q222 : (Jvm.Cond.soleField "LevelCellars" "spare") ∈ lw_all := lw_g (lw_at lw_m1 151 rfl) rfl
theorem q223 : (Jvm.Cond.laysFinal "LevelCellars" "LevelCellars" "image" "LLevelCellars$Town;") ∈ lw_all := lw_g (lw_at lw_m1 152 rfl) rfl
theorem q224 : (Jvm.Cond.soleField "LevelCellars" "image") ∈ lw_all := lw_g (lw_at lw_m1 153 rfl) rfl
theorem q225 : (Jvm.Cond.lays "LevelCellars" "LevelCellars" "hasImage" "Z") ∈ lw_all := lw_g (lw_at lw_m1 154 rfl) rfl
theorem q226 : (Jvm.Cond.soleField "LevelCellars" "hasImage") ∈ lw_all := lw_g (lw_at lw_m1 155 rfl) rfl
theorem q227 : (Jvm.Cond.laysFinal "LevelCellars" "LevelCellars" "named" "[I") ∈ lw_all := lw_g (lw_at lw_m1 156 rfl) rfl
theorem q228 : (Jvm.Cond.soleField "LevelCellars" "named") ∈ lw_all := lw_g (lw_at lw_m1 157 rfl) rfl
theorem q229 : (Jvm.Cond.laysFinal "LevelCellars" "LevelCellars" "tape" "[B") ∈ lw_all := lw_g (lw_at lw_m1 158 rfl) rfl
theorem q230 : (Jvm.Cond.soleField "LevelCellars" "tape") ∈ lw_all := lw_g (lw_at lw_m1 159 rfl) rfl
theorem q231 : (Jvm.Cond.lays "LevelCellars" "LevelCellars" "taped" "I") ∈ lw_all := lw_g (lw_at lw_m1 160 rfl) rfl
theorem q232 : (Jvm.Cond.soleField "LevelCellars" "taped") ∈ lw_all := lw_g (lw_at lw_m1 161 rfl) rfl
theorem q233 : (Jvm.Cond.lays "LevelCellars" "LevelCellars" "token" "I") ∈ lw_all := lw_g (lw_at lw_m1 162 rfl) rfl
theorem q234 : (Jvm.Cond.soleField "LevelCellars" "token") ∈ lw_all := lw_g (lw_at lw_m1 163 rfl) rfl
theorem q235 : (Jvm.Cond.lays "LevelCellars" "LevelCellars" "begin" "I") ∈ lw_all := lw_g (lw_at lw_m1 164 rfl) rfl
theorem q236 : (Jvm.Cond.soleField "LevelCellars" "begin") ∈ lw_all := lw_g (lw_at lw_m1 165 rfl) rfl
theorem q237 : (Jvm.Cond.lays "LevelCellars" "LevelCellars" "behind" "I") ∈ lw_all := lw_g (lw_at lw_m1 166 rfl) rfl
theorem q238 : (Jvm.Cond.soleField "LevelCellars" "behind") ∈ lw_all := lw_g (lw_at lw_m1 167 rfl) rfl
theorem q239 : (Jvm.Cond.lays "LevelCellars" "LevelCellars" "value" "I") ∈ lw_all := lw_g (lw_at lw_m1 168 rfl) rfl
theorem q240 : (Jvm.Cond.soleField "LevelCellars" "value") ∈ lw_all := lw_g (lw_at lw_m1 169 rfl) rfl
theorem q241 : (Jvm.Cond.lays "LevelCellars" "LevelCellars" "parens" "I") ∈ lw_all := lw_g (lw_at lw_m1 170 rfl) rfl
theorem q242 : (Jvm.Cond.soleField "LevelCellars" "parens") ∈ lw_all := lw_g (lw_at lw_m1 171 rfl) rfl
theorem q243 : (Jvm.Cond.lays "LevelCellars" "LevelCellars" "nots" "I") ∈ lw_all := lw_g (lw_at lw_m1 172 rfl) rfl
theorem q244 : (Jvm.Cond.soleField "LevelCellars" "nots") ∈ lw_all := lw_g (lw_at lw_m1 173 rfl) rfl
theorem q245 : (Jvm.Cond.lays "LevelCellars" "LevelCellars" "words" "I") ∈ lw_all := lw_g (lw_at lw_m1 174 rfl) rfl
theorem q246 : (Jvm.Cond.soleField "LevelCellars" "words") ∈ lw_all := lw_g (lw_at lw_m1 175 rfl) rfl
theorem q247 : (Jvm.Cond.lays "LevelCellars" "LevelCellars" "key" "I") ∈ lw_all := lw_g (lw_at lw_m1 176 rfl) rfl
theorem q248 : (Jvm.Cond.soleField "LevelCellars" "key") ∈ lw_all := lw_g (lw_at lw_m1 177 rfl) rfl
theorem q249 : (Jvm.Cond.laysFinal "LevelCellars" "LevelCellars" "sheets" "[LLevelCellars$Holder;") ∈ lw_all := lw_g (lw_at lw_m1 178 rfl) rfl
theorem q250 : (Jvm.Cond.soleField "LevelCellars" "sheets") ∈ lw_all := lw_g (lw_at lw_m1 179 rfl) rfl
theorem q251 : (Jvm.Cond.laysFinal "LevelCellars" "LevelCellars" "slots" "[LLevelCellars$Holder;") ∈ lw_all := lw_g (lw_at lw_m1 180 rfl) rfl
theorem q252 : (Jvm.Cond.soleField "LevelCellars" "slots") ∈ lw_all := lw_g (lw_at lw_m1 181 rfl) rfl
theorem q253 : (Jvm.Cond.laysFinal "LevelCellars" "LevelCellars" "waits" "[I") ∈ lw_all := lw_g (lw_at lw_m1 182 rfl) rfl
theorem q254 : (Jvm.Cond.soleField "LevelCellars" "waits") ∈ lw_all := lw_g (lw_at lw_m1 183 rfl) rfl
theorem q255 : (Jvm.Cond.lays "LevelCellars" "LevelCellars" "waiting" "I") ∈ lw_all := lw_g (lw_at lw_m1 184 rfl) rfl
theorem q256 : (Jvm.Cond.soleField "LevelCellars" "waiting") ∈ lw_all := lw_g (lw_at lw_m1 185 rfl) rfl
theorem q257 : (Jvm.Cond.lays "LevelCellars" "LevelCellars" "asked" "I") ∈ lw_all := lw_g (lw_at lw_m1 186 rfl) rfl
theorem q258 : (Jvm.Cond.soleField "LevelCellars" "asked") ∈ lw_all := lw_g (lw_at lw_m1 187 rfl) rfl
theorem q259 : (Jvm.Cond.lays "LevelCellars" "LevelCellars" "isLike" "Z") ∈ lw_all := lw_g (lw_at lw_m1 188 rfl) rfl
theorem q260 : (Jvm.Cond.soleField "LevelCellars" "isLike") ∈ lw_all := lw_g (lw_at lw_m1 189 rfl) rfl
theorem q261 : (Jvm.Cond.superclass "LevelCellars" "java/lang/Object") ∈ lw_all := lw_g (lw_at lw_m1 190 rfl) rfl
theorem q263 : (Jvm.Cond.instanceMethod ({ cls := "LevelCellars", name := "cellar", desc := "(III)I" } : Jvm.MethodName)) ∈ lw_all := lw_g (lw_at lw_m1 192 rfl) rfl
theorem q264 : (Jvm.Cond.selects "LevelCellars" ({ cls := "LevelCellars", name := "cellar", desc := "(III)I" } : Jvm.MethodName) ({ cls := "LevelCellars", name := "cellar", desc := "(III)I" } : Jvm.MethodName)) ∈ lw_all := lw_g (lw_at lw_m1 193 rfl) rfl
theorem q265 : (Jvm.Cond.code ({ cls := "LevelCellars", name := "cellar", desc := "(III)I" } : Jvm.MethodName) prog_1_method_12_code (5 : Nat) (Option.some Jvm.ClassFile.FieldType.int)) ∈ lw_all := lw_g (lw_at lw_m1 194 rfl) rfl
theorem q266 : (Jvm.Cond.constantLong "LevelCellars" (105 : Nat) (5 : Int64)) ∈ lw_all := lw_g (lw_at lw_m1 195 rfl) rfl
theorem q267 : (Jvm.Cond.methodLink "LevelCellars" (96 : Nat) ({ cls := "LevelCellars", name := "isIn", desc := "(JJJ)Z" } : Jvm.MethodName)) ∈ lw_all := lw_g (lw_at lw_m1 196 rfl) rfl
theorem q268 : (Jvm.Cond.static ({ cls := "LevelCellars", name := "isIn", desc := "(JJJ)Z" } : Jvm.MethodName)) ∈ lw_all := lw_g (lw_at lw_m1 197 rfl) rfl
theorem q269 : (Jvm.Cond.code ({ cls := "LevelCellars", name := "isIn", desc := "(JJJ)Z" } : Jvm.MethodName) prog_1_method_1_code (6 : Nat) (Option.some Jvm.ClassFile.FieldType.boolean)) ∈ lw_all := lw_g (lw_at lw_m1 198 rfl) rfl
theorem q270 : (Jvm.Cond.constantLong "LevelCellars" (107 : Nat) (99 : Int64)) ∈ lw_all := lw_g (lw_at lw_m1 199 rfl) rfl
theorem q271 : (Jvm.Cond.constant "LevelCellars" (109 : Nat) (-1000000001 : Int32)) ∈ lw_all := lw_g (lw_at lw_m1 200 rfl) rfl
theorem q272 : (Jvm.Cond.constant "LevelCellars" (110 : Nat) (-1000000003 : Int32)) ∈ lw_all := lw_g (lw_at lw_m1 201 rfl) rfl
theorem q273 : (Jvm.Cond.methodLink "LevelCellars" (111 : Nat) ({ cls := "LevelCellars", name := "comes", desc := "(III)LLevelCellars$Cellar;" } : Jvm.MethodName)) ∈ lw_all := lw_g (lw_at lw_m1 202 rfl) rfl
theorem q274 : (Jvm.Cond.privateMethod ({ cls := "LevelCellars", name := "comes", desc := "(III)LLevelCellars$Cellar;" } : Jvm.MethodName)) ∈ lw_tbl := lw_at lw_m1 203 rfl
theorem q275 : (Jvm.Cond.instanceMethod ({ cls := "LevelCellars", name := "comes", desc := "(III)LLevelCellars$Cellar;" } : Jvm.MethodName)) ∈ lw_all := lw_g (lw_at lw_m1 204 rfl) rfl
theorem q276 : (Jvm.Cond.code ({ cls := "LevelCellars", name := "comes", desc := "(III)LLevelCellars$Cellar;" } : Jvm.MethodName) prog_1_method_13_code (5 : Nat) (Option.some (Jvm.ClassFile.FieldType.object "LevelCellars$Cellar"))) ∈ lw_all := lw_g (lw_at lw_m1 205 rfl) rfl
theorem q277 : (Jvm.Cond.methodLink "LevelCellars" (38 : Nat) ({ cls := "LevelCellars", name := "made", desc := "(I)LLevelCellars$Cellar;" } : Jvm.MethodName)) ∈ lw_all := lw_g (lw_at lw_m1 206 rfl) rfl
theorem q278 : (Jvm.Cond.privateMethod ({ cls := "LevelCellars", name := "made", desc := "(I)LLevelCellars$Cellar;" } : Jvm.MethodName)) ∈ lw_tbl := lw_at lw_m1 207 rfl
theorem q279 : (Jvm.Cond.instanceMethod ({ cls := "LevelCellars", name := "made", desc := "(I)LLevelCellars$Cellar;" } : Jvm.MethodName)) ∈ lw_all := lw_g (lw_at lw_m1 208 rfl) rfl
theorem q280 : (Jvm.Cond.code ({ cls := "LevelCellars", name := "made", desc := "(I)LLevelCellars$Cellar;" } : Jvm.MethodName) prog_1_method_5_code (2 : Nat) (Option.some (Jvm.ClassFile.FieldType.object "LevelCellars$Cellar"))) ∈ lw_all := lw_g (lw_at lw_m1 209 rfl) rfl
theorem q281 : (Jvm.Cond.classLink "LevelCellars" (13 : Nat) "LevelCellars$Cellar") ∈ lw_all := lw_g (lw_at lw_m1 210 rfl) rfl
theorem q283 : (Jvm.Cond.methodLinkNest "LevelCellars" (15 : Nat) ({ cls := "LevelCellars$Cellar", name := "<init>", desc := "(LLevelCellars;)V" } : Jvm.MethodName) "LevelCellars") ∈ lw_tbl := lw_at lw_m1 212 rfl
theorem q288 : (Jvm.Cond.fieldLink "LevelCellars" (115 : Nat) "LevelCellars$Cellar" "floor" "I") ∈ lw_all := lw_g (lw_at lw_m1 217 rfl) rfl
theorem q290 : (Jvm.Cond.fieldLink "LevelCellars" (118 : Nat) "LevelCellars$Cellar" "lip" "I") ∈ lw_all := lw_g (lw_at lw_m1 219 rfl) rfl
theorem q294 : (Jvm.Cond.fieldLink "LevelCellars" (144 : Nat) "LevelCellars$Cellar" "wines" "[I") ∈ lw_all := lw_g (lw_at lw_m1 223 rfl) rfl
theorem q305 : (Jvm.Cond.classLink "LevelCellars" (19 : Nat) "LevelCellars$Deep") ∈ lw_all := lw_g (lw_at lw_m1 234 rfl) rfl
theorem q307 : (Jvm.Cond.methodLinkNest "LevelCellars" (21 : Nat) ({ cls := "LevelCellars$Deep", name := "<init>", desc := "(LLevelCellars;)V" } : Jvm.MethodName) "LevelCellars") ∈ lw_tbl := lw_at lw_m1 236 rfl
theorem q319 : (Jvm.Cond.classLink "LevelCellars" (22 : Nat) "LevelCellars$Leaky") ∈ lw_all := lw_g (lw_at lw_m2 8 rfl) rfl
theorem q321 : (Jvm.Cond.methodLinkNest "LevelCellars" (24 : Nat) ({ cls := "LevelCellars$Leaky", name := "<init>", desc := "(LLevelCellars;)V" } : Jvm.MethodName) "LevelCellars") ∈ lw_tbl := lw_at lw_m2 10 rfl
theorem q333 : (Jvm.Cond.classLink "LevelCellars" (25 : Nat) "LevelCellars$Vault") ∈ lw_all := lw_g (lw_at lw_m2 22 rfl) rfl
theorem q335 : (Jvm.Cond.methodLinkNest "LevelCellars" (27 : Nat) ({ cls := "LevelCellars$Vault", name := "<init>", desc := "(LLevelCellars;)V" } : Jvm.MethodName) "LevelCellars") ∈ lw_tbl := lw_at lw_m2 24 rfl
theorem q348 : (Jvm.Cond.classLink "LevelCellars" (28 : Nat) "LevelCellars$Church") ∈ lw_all := lw_g (lw_at lw_m2 37 rfl) rfl
theorem q350 : (Jvm.Cond.methodLinkNest "LevelCellars" (30 : Nat) ({ cls := "LevelCellars$Church", name := "<init>", desc := "(LLevelCellars;)V" } : Jvm.MethodName) "LevelCellars") ∈ lw_tbl := lw_at lw_m2 39 rfl
theorem q363 : (Jvm.Cond.classLink "LevelCellars" (31 : Nat) "LevelCellars$Sealed") ∈ lw_all := lw_g (lw_at lw_m2 52 rfl) rfl
theorem q365 : (Jvm.Cond.methodLinkNest "LevelCellars" (33 : Nat) ({ cls := "LevelCellars$Sealed", name := "<init>", desc := "(LLevelCellars;)V" } : Jvm.MethodName) "LevelCellars") ∈ lw_tbl := lw_at lw_m2 54 rfl
theorem q378 : (Jvm.Cond.instanceMethod ({ cls := "LevelCellars", name := "told", desc := "(II)I" } : Jvm.MethodName)) ∈ lw_all := lw_g (lw_at lw_m2 67 rfl) rfl
theorem q379 : (Jvm.Cond.selects "LevelCellars" ({ cls := "LevelCellars", name := "told", desc := "(II)I" } : Jvm.MethodName) ({ cls := "LevelCellars", name := "told", desc := "(II)I" } : Jvm.MethodName)) ∈ lw_all := lw_g (lw_at lw_m2 68 rfl) rfl
theorem q380 : (Jvm.Cond.code ({ cls := "LevelCellars", name := "told", desc := "(II)I" } : Jvm.MethodName) prog_1_method_14_code (4 : Nat) (Option.some Jvm.ClassFile.FieldType.int)) ∈ lw_all := lw_g (lw_at lw_m2 69 rfl) rfl
theorem q381 : (Jvm.Cond.methodLink "LevelCellars" (125 : Nat) ({ cls := "LevelCellars", name := "isCellar", desc := "(I)Z" } : Jvm.MethodName)) ∈ lw_all := lw_g (lw_at lw_m2 70 rfl) rfl
theorem q382 : (Jvm.Cond.privateMethod ({ cls := "LevelCellars", name := "isCellar", desc := "(I)Z" } : Jvm.MethodName)) ∈ lw_tbl := lw_at lw_m2 71 rfl
theorem q383 : (Jvm.Cond.instanceMethod ({ cls := "LevelCellars", name := "isCellar", desc := "(I)Z" } : Jvm.MethodName)) ∈ lw_all := lw_g (lw_at lw_m2 72 rfl) rfl
theorem q384 : (Jvm.Cond.code ({ cls := "LevelCellars", name := "isCellar", desc := "(I)Z" } : Jvm.MethodName) prog_1_method_9_code (2 : Nat) (Option.some Jvm.ClassFile.FieldType.boolean)) ∈ lw_all := lw_g (lw_at lw_m2 73 rfl) rfl
theorem q385 : (Jvm.Cond.methodLink "LevelCellars" (34 : Nat) ({ cls := "LevelCellars$Cellar", name := "kind", desc := "()I" } : Jvm.MethodName)) ∈ lw_all := lw_g (lw_at lw_m2 74 rfl) rfl
theorem q410 : (Jvm.Cond.methodLink "LevelCellars" (129 : Nat) ({ cls := "LevelCellars$Cellar", name := "full", desc := "()I" } : Jvm.MethodName)) ∈ lw_all := lw_g (lw_at lw_m2 99 rfl) rfl
theorem q420 : (Jvm.Cond.methodLink "LevelCellars" (132 : Nat) ({ cls := "LevelCellars$Cellar", name := "high", desc := "()I" } : Jvm.MethodName)) ∈ lw_all := lw_g (lw_at lw_m2 109 rfl) rfl
theorem q434 : (Jvm.Cond.static ({ cls := "LevelCellars", name := "asBit", desc := "(Z)I" } : Jvm.MethodName)) ∈ lw_all := lw_g (lw_at lw_m2 123 rfl) rfl
theorem q435 : (Jvm.Cond.code ({ cls := "LevelCellars", name := "asBit", desc := "(Z)I" } : Jvm.MethodName) prog_1_method_4_code (1 : Nat) (Option.some Jvm.ClassFile.FieldType.int)) ∈ lw_all := lw_g (lw_at lw_m2 124 rfl) rfl
theorem q454 : (Jvm.Cond.privateMethod ({ cls := "LevelCellars", name := "ruled", desc := "(II)I" } : Jvm.MethodName)) ∈ lw_tbl := lw_at lw_m2 143 rfl
theorem q455 : (Jvm.Cond.instanceMethod ({ cls := "LevelCellars", name := "ruled", desc := "(II)I" } : Jvm.MethodName)) ∈ lw_all := lw_g (lw_at lw_m2 144 rfl) rfl
theorem q456 : (Jvm.Cond.code ({ cls := "LevelCellars", name := "ruled", desc := "(II)I" } : Jvm.MethodName) prog_1_method_61_code (4 : Nat) (Option.some Jvm.ClassFile.FieldType.int)) ∈ lw_all := lw_g (lw_at lw_m2 145 rfl) rfl
theorem q457 : (Jvm.Cond.methodLink "LevelCellars" (410 : Nat) ({ cls := "LevelCellars", name := "counts", desc := "(I)I" } : Jvm.MethodName)) ∈ lw_all := lw_g (lw_at lw_m2 146 rfl) rfl
theorem q458 : (Jvm.Cond.privateMethod ({ cls := "LevelCellars", name := "counts", desc := "(I)I" } : Jvm.MethodName)) ∈ lw_tbl := lw_at lw_m2 147 rfl
theorem q459 : (Jvm.Cond.instanceMethod ({ cls := "LevelCellars", name := "counts", desc := "(I)I" } : Jvm.MethodName)) ∈ lw_all := lw_g (lw_at lw_m2 148 rfl) rfl
theorem q460 : (Jvm.Cond.code ({ cls := "LevelCellars", name := "counts", desc := "(I)I" } : Jvm.MethodName) prog_1_method_60_code (3 : Nat) (Option.some Jvm.ClassFile.FieldType.int)) ∈ lw_all := lw_g (lw_at lw_m2 149 rfl) rfl
theorem q461 : (Jvm.Cond.interfaceEntry "LevelCellars" (417 : Nat)) ∈ lw_tbl := lw_at lw_m2 150 rfl
theorem q462 : (Jvm.Cond.methodLink "LevelCellars" (417 : Nat) ({ cls := "LevelCellars$Worth", name := "worth", desc := "()I" } : Jvm.MethodName)) ∈ lw_all := lw_g (lw_at lw_m2 151 rfl) rfl
theorem q497 : (Jvm.Cond.static ({ cls := "LevelCellars", name := "heldIn", desc := "(III)I" } : Jvm.MethodName)) ∈ lw_all := lw_g (lw_at lw_m2 186 rfl) rfl
theorem q498 : (Jvm.Cond.code ({ cls := "LevelCellars", name := "heldIn", desc := "(III)I" } : Jvm.MethodName) prog_1_method_3_code (3 : Nat) (Option.some Jvm.ClassFile.FieldType.int)) ∈ lw_all := lw_g (lw_at lw_m2 187 rfl) rfl
theorem q499 : (Jvm.Cond.methodLink "LevelCellars" (4 : Nat) ({ cls := "java/lang/Math", name := "min", desc := "(II)I" } : Jvm.MethodName)) ∈ lw_all := lw_g (lw_at lw_m2 188 rfl) rfl
theorem q502 : (Jvm.Cond.methodLink "LevelCellars" (10 : Nat) ({ cls := "java/lang/Math", name := "max", desc := "(II)I" } : Jvm.MethodName)) ∈ lw_all := lw_g (lw_at lw_m2 191 rfl) rfl
theorem q503 : (Jvm.Cond.methodLink "LevelCellars" (135 : Nat) ({ cls := "LevelCellars$Cellar", name := "level", desc := "()I" } : Jvm.MethodName)) ∈ lw_all := lw_g (lw_at lw_m2 192 rfl) rfl
theorem q550 : (Jvm.Cond.methodLink "LevelCellars" (138 : Nat) ({ cls := "LevelCellars$Cellar", name := "loses", desc := "()I" } : Jvm.MethodName)) ∈ lw_all := lw_g (lw_at lw_m2 239 rfl) rfl
theorem q566 : (Jvm.Cond.methodLink "LevelCellars" (141 : Nat) ({ cls := "LevelCellars$Cellar", name := "worth", desc := "()I" } : Jvm.MethodName)) ∈ lw_all := lw_g (lw_at lw_m3 15 rfl) rfl
theorem q591 : (Jvm.Cond.instanceMethod ({ cls := "LevelCellars", name := "takes", desc := "(II)I" } : Jvm.MethodName)) ∈ lw_all := lw_g (lw_at lw_m3 40 rfl) rfl
theorem q592 : (Jvm.Cond.selects "LevelCellars" ({ cls := "LevelCellars", name := "takes", desc := "(II)I" } : Jvm.MethodName) ({ cls := "LevelCellars", name := "takes", desc := "(II)I" } : Jvm.MethodName)) ∈ lw_all := lw_g (lw_at lw_m3 41 rfl) rfl
theorem q593 : (Jvm.Cond.code ({ cls := "LevelCellars", name := "takes", desc := "(II)I" } : Jvm.MethodName) prog_1_method_15_code (3 : Nat) (Option.some Jvm.ClassFile.FieldType.int)) ∈ lw_all := lw_g (lw_at lw_m3 42 rfl) rfl
theorem q594 : (Jvm.Cond.constantLong "LevelCellars" (147 : Nat) (9999 : Int64)) ∈ lw_all := lw_g (lw_at lw_m3 43 rfl) rfl
theorem q595 : (Jvm.Cond.methodLink "LevelCellars" (149 : Nat) ({ cls := "LevelCellars$Cellar", name := "takes", desc := "(I)I" } : Jvm.MethodName)) ∈ lw_all := lw_g (lw_at lw_m3 44 rfl) rfl
theorem q613 : (Jvm.Cond.instanceMethod ({ cls := "LevelCellars", name := "as", desc := "(II)I" } : Jvm.MethodName)) ∈ lw_all := lw_g (lw_at lw_m3 62 rfl) rfl
theorem q614 : (Jvm.Cond.selects "LevelCellars" ({ cls := "LevelCellars", name := "as", desc := "(II)I" } : Jvm.MethodName) ({ cls := "LevelCellars", name := "as", desc := "(II)I" } : Jvm.MethodName)) ∈ lw_all := lw_g (lw_at lw_m3 63 rfl) rfl
theorem q615 : (Jvm.Cond.codeWith ({ cls := "LevelCellars", name := "as", desc := "(II)I" } : Jvm.MethodName) prog_1_method_17_code (4 : Nat) (Option.some Jvm.ClassFile.FieldType.int) [((23 : Nat), (39 : Nat), (40 : Nat), (157 : Nat))]) ∈ lw_all := lw_g (lw_at lw_m3 64 rfl) rfl
theorem q616 : (Jvm.Cond.classLink "LevelCellars" (157 : Nat) "java/lang/ClassCastException") ∈ lw_all := lw_g (lw_at lw_m3 65 rfl) rfl
theorem q703 : (Jvm.Cond.methodLink "LevelCellars" (153 : Nat) ({ cls := "LevelCellars", name := "takenFor", desc := "(Ljava/lang/Object;I)LLevelCellars$Cellar;" } : Jvm.MethodName)) ∈ lw_all := lw_g (lw_at lw_m3 152 rfl) rfl
theorem q704 : (Jvm.Cond.static ({ cls := "LevelCellars", name := "takenFor", desc := "(Ljava/lang/Object;I)LLevelCellars$Cellar;" } : Jvm.MethodName)) ∈ lw_all := lw_g (lw_at lw_m3 153 rfl) rfl
theorem q705 : (Jvm.Cond.code ({ cls := "LevelCellars", name := "takenFor", desc := "(Ljava/lang/Object;I)LLevelCellars$Cellar;" } : Jvm.MethodName) prog_1_method_16_code (2 : Nat) (Option.some (Jvm.ClassFile.FieldType.object "LevelCellars$Cellar"))) ∈ lw_all := lw_g (lw_at lw_m3 154 rfl) rfl
theorem q706 : (Jvm.Cond.constant "LevelCellars" (159 : Nat) (-1000000012 : Int32)) ∈ lw_all := lw_g (lw_at lw_m3 155 rfl) rfl
theorem q708 : (Jvm.Cond.instanceMethod ({ cls := "LevelCellars", name := "turns", desc := "(II)I" } : Jvm.MethodName)) ∈ lw_all := lw_g (lw_at lw_m3 157 rfl) rfl
theorem q709 : (Jvm.Cond.selects "LevelCellars" ({ cls := "LevelCellars", name := "turns", desc := "(II)I" } : Jvm.MethodName) ({ cls := "LevelCellars", name := "turns", desc := "(II)I" } : Jvm.MethodName)) ∈ lw_all := lw_g (lw_at lw_m3 158 rfl) rfl
theorem q710 : (Jvm.Cond.code ({ cls := "LevelCellars", name := "turns", desc := "(II)I" } : Jvm.MethodName) prog_1_method_18_code (4 : Nat) (Option.some Jvm.ClassFile.FieldType.int)) ∈ lw_all := lw_g (lw_at lw_m3 159 rfl) rfl
theorem q711 : (Jvm.Cond.methodLink "LevelCellars" (42 : Nat) ({ cls := "LevelCellars$Cellar", name := "like", desc := "(LLevelCellars$Cellar;)LLevelCellars$Cellar;" } : Jvm.MethodName)) ∈ lw_all := lw_g (lw_at lw_m3 160 rfl) rfl
theorem q725 : (Jvm.Cond.instanceMethod ({ cls := "LevelCellars", name := "set", desc := "(III)I" } : Jvm.MethodName)) ∈ lw_all := lw_g (lw_at lw_m3 174 rfl) rfl
theorem q726 : (Jvm.Cond.selects "LevelCellars" ({ cls := "LevelCellars", name := "set", desc := "(III)I" } : Jvm.MethodName) ({ cls := "LevelCellars", name := "set", desc := "(III)I" } : Jvm.MethodName)) ∈ lw_all := lw_g (lw_at lw_m3 175 rfl) rfl
theorem q727 : (Jvm.Cond.code ({ cls := "LevelCellars", name := "set", desc := "(III)I" } : Jvm.MethodName) prog_1_method_20_code (6 : Nat) (Option.some Jvm.ClassFile.FieldType.int)) ∈ lw_all := lw_g (lw_at lw_m3 176 rfl) rfl
theorem q728 : (Jvm.Cond.methodLink "LevelCellars" (162 : Nat) ({ cls := "LevelCellars", name := "mayBe", desc := "(II)Z" } : Jvm.MethodName)) ∈ lw_all := lw_g (lw_at lw_m3 177 rfl) rfl
theorem q729 : (Jvm.Cond.static ({ cls := "LevelCellars", name := "mayBe", desc := "(II)Z" } : Jvm.MethodName)) ∈ lw_all := lw_g (lw_at lw_m3 178 rfl) rfl
theorem q730 : (Jvm.Cond.code ({ cls := "LevelCellars", name := "mayBe", desc := "(II)Z" } : Jvm.MethodName) prog_1_method_19_code (2 : Nat) (Option.some Jvm.ClassFile.FieldType.boolean)) ∈ lw_all := lw_g (lw_at lw_m3 179 rfl) rfl
theorem q731 : (Jvm.Cond.constantLong "LevelCellars" (160 : Nat) (999 : Int64)) ∈ lw_all := lw_g (lw_at lw_m3 180 rfl) rfl
theorem q732 : (Jvm.Cond.methodLink "LevelCellars" (166 : Nat) ({ cls := "LevelCellars", name := "told", desc := "(II)I" } : Jvm.MethodName)) ∈ lw_all := lw_g (lw_at lw_m3 181 rfl) rfl
theorem q734 : (Jvm.Cond.instanceMethod ({ cls := "LevelCellars", name := "pipe", desc := "(III)I" } : Jvm.MethodName)) ∈ lw_all := lw_g (lw_at lw_m3 183 rfl) rfl
theorem q735 : (Jvm.Cond.selects "LevelCellars" ({ cls := "LevelCellars", name := "pipe", desc := "(III)I" } : Jvm.MethodName) ({ cls := "LevelCellars", name := "pipe", desc := "(III)I" } : Jvm.MethodName)) ∈ lw_all := lw_g (lw_at lw_m3 184 rfl) rfl
theorem q736 : (Jvm.Cond.code ({ cls := "LevelCellars", name := "pipe", desc := "(III)I" } : Jvm.MethodName) prog_1_method_21_code (4 : Nat) (Option.some Jvm.ClassFile.FieldType.int)) ∈ lw_all := lw_g (lw_at lw_m3 185 rfl) rfl
theorem q737 : (Jvm.Cond.constantLong "LevelCellars" (169 : Nat) (9 : Int64)) ∈ lw_all := lw_g (lw_at lw_m3 186 rfl) rfl
theorem q738 : (Jvm.Cond.methodLink "LevelCellars" (171 : Nat) ({ cls := "LevelCellars$Town", name := "digs", desc := "(III)V" } : Jvm.MethodName)) ∈ lw_all := lw_g (lw_at lw_m3 187 rfl) rfl
theorem q743 : (Jvm.Cond.instanceMethod ({ cls := "LevelCellars", name := "pipeOf", desc := "(II)I" } : Jvm.MethodName)) ∈ lw_all := lw_g (lw_at lw_m3 192 rfl) rfl
theorem q744 : (Jvm.Cond.selects "LevelCellars" ({ cls := "LevelCellars", name := "pipeOf", desc := "(II)I" } : Jvm.MethodName) ({ cls := "LevelCellars", name := "pipeOf", desc := "(II)I" } : Jvm.MethodName)) ∈ lw_all := lw_g (lw_at lw_m3 193 rfl) rfl
theorem q745 : (Jvm.Cond.code ({ cls := "LevelCellars", name := "pipeOf", desc := "(II)I" } : Jvm.MethodName) prog_1_method_22_code (3 : Nat) (Option.some Jvm.ClassFile.FieldType.int)) ∈ lw_all := lw_g (lw_at lw_m3 194 rfl) rfl
theorem q746 : (Jvm.Cond.methodLink "LevelCellars" (175 : Nat) ({ cls := "LevelCellars", name := "isPipe", desc := "(I)Z" } : Jvm.MethodName)) ∈ lw_all := lw_g (lw_at lw_m3 195 rfl) rfl
theorem q747 : (Jvm.Cond.privateMethod ({ cls := "LevelCellars", name := "isPipe", desc := "(I)Z" } : Jvm.MethodName)) ∈ lw_tbl := lw_at lw_m3 196 rfl
theorem q748 : (Jvm.Cond.instanceMethod ({ cls := "LevelCellars", name := "isPipe", desc := "(I)Z" } : Jvm.MethodName)) ∈ lw_all := lw_g (lw_at lw_m3 197 rfl) rfl
theorem q749 : (Jvm.Cond.code ({ cls := "LevelCellars", name := "isPipe", desc := "(I)Z" } : Jvm.MethodName) prog_1_method_10_code (2 : Nat) (Option.some Jvm.ClassFile.FieldType.boolean)) ∈ lw_all := lw_g (lw_at lw_m3 198 rfl) rfl
theorem q750 : (Jvm.Cond.methodLink "LevelCellars" (191 : Nat) ({ cls := "LevelCellars", name := "asBit", desc := "(Z)I" } : Jvm.MethodName)) ∈ lw_all := lw_g (lw_at lw_m3 199 rfl) rfl
theorem q751 : (Jvm.Cond.methodLink "LevelCellars" (195 : Nat) ({ cls := "LevelCellars$Town", name := "runs", desc := "(I)I" } : Jvm.MethodName)) ∈ lw_all := lw_g (lw_at lw_m3 200 rfl) rfl
theorem q767 : (Jvm.Cond.instanceMethod ({ cls := "LevelCellars", name := "cork", desc := "(II)I" } : Jvm.MethodName)) ∈ lw_all := lw_g (lw_at lw_m3 216 rfl) rfl
theorem q768 : (Jvm.Cond.selects "LevelCellars" ({ cls := "LevelCellars", name := "cork", desc := "(II)I" } : Jvm.MethodName) ({ cls := "LevelCellars", name := "cork", desc := "(II)I" } : Jvm.MethodName)) ∈ lw_all := lw_g (lw_at lw_m3 217 rfl) rfl
theorem q769 : (Jvm.Cond.code ({ cls := "LevelCellars", name := "cork", desc := "(II)I" } : Jvm.MethodName) prog_1_method_23_code (4 : Nat) (Option.some Jvm.ClassFile.FieldType.int)) ∈ lw_all := lw_g (lw_at lw_m3 218 rfl) rfl
theorem q771 : (Jvm.Cond.instanceMethod ({ cls := "LevelCellars", name := "thirst", desc := "(I)I" } : Jvm.MethodName)) ∈ lw_all := lw_g (lw_at lw_m3 220 rfl) rfl
theorem q772 : (Jvm.Cond.selects "LevelCellars" ({ cls := "LevelCellars", name := "thirst", desc := "(I)I" } : Jvm.MethodName) ({ cls := "LevelCellars", name := "thirst", desc := "(I)I" } : Jvm.MethodName)) ∈ lw_all := lw_g (lw_at lw_m3 221 rfl) rfl
theorem q773 : (Jvm.Cond.code ({ cls := "LevelCellars", name := "thirst", desc := "(I)I" } : Jvm.MethodName) prog_1_method_24_code (3 : Nat) (Option.some Jvm.ClassFile.FieldType.int)) ∈ lw_all := lw_g (lw_at lw_m3 222 rfl) rfl
theorem q774 : (Jvm.Cond.constantLong "LevelCellars" (198 : Nat) (100 : Int64)) ∈ lw_all := lw_g (lw_at lw_m3 223 rfl) rfl
theorem q776 : (Jvm.Cond.instanceMethod ({ cls := "LevelCellars", name := "deal", desc := "(I)I" } : Jvm.MethodName)) ∈ lw_all := lw_g (lw_at lw_m3 225 rfl) rfl
theorem q777 : (Jvm.Cond.selects "LevelCellars" ({ cls := "LevelCellars", name := "deal", desc := "(I)I" } : Jvm.MethodName) ({ cls := "LevelCellars", name := "deal", desc := "(I)I" } : Jvm.MethodName)) ∈ lw_all := lw_g (lw_at lw_m3 226 rfl) rfl
theorem q778 : (Jvm.Cond.code ({ cls := "LevelCellars", name := "deal", desc := "(I)I" } : Jvm.MethodName) prog_1_method_25_code (8 : Nat) (Option.some Jvm.ClassFile.FieldType.int)) ∈ lw_all := lw_g (lw_at lw_m3 227 rfl) rfl
theorem q779 : (Jvm.Cond.constantLong "LevelCellars" (203 : Nat) (8 : Int64)) ∈ lw_all := lw_g (lw_at lw_m3 228 rfl) rfl
theorem q780 : (Jvm.Cond.methodLink "LevelCellars" (205 : Nat) ({ cls := "LevelCellars$Town", name := "drawn", desc := "()I" } : Jvm.MethodName)) ∈ lw_all := lw_g (lw_at lw_m3 229 rfl) rfl
theorem q786 : (Jvm.Cond.instanceMethod ({ cls := "LevelCellars", name := "seed", desc := "(I)I" } : Jvm.MethodName)) ∈ lw_all := lw_g (lw_at lw_m3 235 rfl) rfl
theorem q787 : (Jvm.Cond.selects "LevelCellars" ({ cls := "LevelCellars", name := "seed", desc := "(I)I" } : Jvm.MethodName) ({ cls := "LevelCellars", name := "seed", desc := "(I)I" } : Jvm.MethodName)) ∈ lw_all := lw_g (lw_at lw_m3 236 rfl) rfl
theorem q788 : (Jvm.Cond.code ({ cls := "LevelCellars", name := "seed", desc := "(I)I" } : Jvm.MethodName) prog_1_method_26_code (3 : Nat) (Option.some Jvm.ClassFile.FieldType.int)) ∈ lw_all := lw_g (lw_at lw_m3 237 rfl) rfl
theorem q790 : (Jvm.Cond.instanceMethod ({ cls := "LevelCellars", name := "hours", desc := "(I)I" } : Jvm.MethodName)) ∈ lw_all := lw_g (lw_at lw_m3 239 rfl) rfl
theorem q791 : (Jvm.Cond.selects "LevelCellars" ({ cls := "LevelCellars", name := "hours", desc := "(I)I" } : Jvm.MethodName) ({ cls := "LevelCellars", name := "hours", desc := "(I)I" } : Jvm.MethodName)) ∈ lw_all := lw_g (lw_at lw_m4 0 rfl) rfl
theorem q792 : (Jvm.Cond.code ({ cls := "LevelCellars", name := "hours", desc := "(I)I" } : Jvm.MethodName) prog_1_method_27_code (4 : Nat) (Option.some Jvm.ClassFile.FieldType.int)) ∈ lw_all := lw_g (lw_at lw_m4 1 rfl) rfl
theorem q793 : (Jvm.Cond.methodLink "LevelCellars" (214 : Nat) ({ cls := "LevelCellars$Town", name := "goesOn", desc := "()I" } : Jvm.MethodName)) ∈ lw_all := lw_g (lw_at lw_m4 2 rfl) rfl
theorem q813 : (Jvm.Cond.instanceMethod ({ cls := "LevelCellars", name := "town", desc := "(I)I" } : Jvm.MethodName)) ∈ lw_all := lw_g (lw_at lw_m4 22 rfl) rfl
theorem q814 : (Jvm.Cond.selects "LevelCellars" ({ cls := "LevelCellars", name := "town", desc := "(I)I" } : Jvm.MethodName) ({ cls := "LevelCellars", name := "town", desc := "(I)I" } : Jvm.MethodName)) ∈ lw_all := lw_g (lw_at lw_m4 23 rfl) rfl
theorem q815 : (Jvm.Cond.code ({ cls := "LevelCellars", name := "town", desc := "(I)I" } : Jvm.MethodName) prog_1_method_28_code (2 : Nat) (Option.some Jvm.ClassFile.FieldType.int)) ∈ lw_all := lw_g (lw_at lw_m4 24 rfl) rfl
theorem q816 : (Jvm.Cond.methodLink "LevelCellars" (217 : Nat) ({ cls := "LevelCellars$Town", name := "all", desc := "()I" } : Jvm.MethodName)) ∈ lw_all := lw_g (lw_at lw_m4 25 rfl) rfl
theorem q820 : (Jvm.Cond.methodLink "LevelCellars" (223 : Nat) ({ cls := "LevelCellars$Town", name := "running", desc := "()I" } : Jvm.MethodName)) ∈ lw_all := lw_g (lw_at lw_m4 29 rfl) rfl
theorem q826 : (Jvm.Cond.methodLink "LevelCellars" (226 : Nat) ({ cls := "LevelCellars$Town", name := "withWine", desc := "()I" } : Jvm.MethodName)) ∈ lw_all := lw_g (lw_at lw_m4 35 rfl) rfl
theorem q831 : (Jvm.Cond.instanceMethod ({ cls := "LevelCellars", name := "behind", desc := "(II)I" } : Jvm.MethodName)) ∈ lw_all := lw_g (lw_at lw_m4 40 rfl) rfl
theorem q832 : (Jvm.Cond.selects "LevelCellars" ({ cls := "LevelCellars", name := "behind", desc := "(II)I" } : Jvm.MethodName) ({ cls := "LevelCellars", name := "behind", desc := "(II)I" } : Jvm.MethodName)) ∈ lw_all := lw_g (lw_at lw_m4 41 rfl) rfl
theorem q833 : (Jvm.Cond.codeWith ({ cls := "LevelCellars", name := "behind", desc := "(II)I" } : Jvm.MethodName) prog_1_method_29_code (7 : Nat) (Option.some Jvm.ClassFile.FieldType.int) [((39 : Nat), (99 : Nat), (107 : Nat), (0 : Nat)), ((107 : Nat), (109 : Nat), (107 : Nat), (0 : Nat))]) ∈ lw_all := lw_g (lw_at lw_m4 42 rfl) rfl
theorem q834 : (Jvm.Cond.methodLink "LevelCellars" (229 : Nat) ({ cls := "LevelCellars", name := "thinks", desc := "(LLevelCellars$Town;)V" } : Jvm.MethodName)) ∈ lw_all := lw_g (lw_at lw_m4 43 rfl) rfl
theorem q835 : (Jvm.Cond.privateMethod ({ cls := "LevelCellars", name := "thinks", desc := "(LLevelCellars$Town;)V" } : Jvm.MethodName)) ∈ lw_tbl := lw_at lw_m4 44 rfl
theorem q836 : (Jvm.Cond.instanceMethod ({ cls := "LevelCellars", name := "thinks", desc := "(LLevelCellars$Town;)V" } : Jvm.MethodName)) ∈ lw_all := lw_g (lw_at lw_m4 45 rfl) rfl
theorem q837 : (Jvm.Cond.code ({ cls := "LevelCellars", name := "thinks", desc := "(LLevelCellars$Town;)V" } : Jvm.MethodName) prog_1_method_8_code (2 : Nat) (Option.none : Option Jvm.ClassFile.FieldType)) ∈ lw_all := lw_g (lw_at lw_m4 46 rfl) rfl
theorem q838 : (Jvm.Cond.methodLink "LevelCellars" (88 : Nat) ({ cls := "LevelCellars$Town", name := "become", desc := "(LLevelCellars$Town;)V" } : Jvm.MethodName)) ∈ lw_all := lw_g (lw_at lw_m4 47 rfl) rfl
theorem q846 : (Jvm.Cond.privateMethod ({ cls := "LevelCellars", name := "anew", desc := "(LLevelCellars$Cellar;)LLevelCellars$Cellar;" } : Jvm.MethodName)) ∈ lw_tbl := lw_at lw_m4 55 rfl
theorem q847 : (Jvm.Cond.instanceMethod ({ cls := "LevelCellars", name := "anew", desc := "(LLevelCellars$Cellar;)LLevelCellars$Cellar;" } : Jvm.MethodName)) ∈ lw_all := lw_g (lw_at lw_m4 56 rfl) rfl
theorem q848 : (Jvm.Cond.code ({ cls := "LevelCellars", name := "anew", desc := "(LLevelCellars$Cellar;)LLevelCellars$Cellar;" } : Jvm.MethodName) prog_1_method_6_code (2 : Nat) (Option.some (Jvm.ClassFile.FieldType.object "LevelCellars$Cellar"))) ∈ lw_all := lw_g (lw_at lw_m4 57 rfl) rfl
theorem q849 : (Jvm.Cond.methodLink "LevelCellars" (232 : Nat) ({ cls := "LevelCellars$Town", name := "goesOn", desc := "(I)I" } : Jvm.MethodName)) ∈ lw_all := lw_g (lw_at lw_m4 58 rfl) rfl
theorem q855 : (Jvm.Cond.instanceMethod ({ cls := "LevelCellars", name := "taste", desc := "(III)I" } : Jvm.MethodName)) ∈ lw_all := lw_g (lw_at lw_m4 64 rfl) rfl
theorem q856 : (Jvm.Cond.selects "LevelCellars" ({ cls := "LevelCellars", name := "taste", desc := "(III)I" } : Jvm.MethodName) ({ cls := "LevelCellars", name := "taste", desc := "(III)I" } : Jvm.MethodName)) ∈ lw_all := lw_g (lw_at lw_m4 65 rfl) rfl
theorem q857 : (Jvm.Cond.codeWith ({ cls := "LevelCellars", name := "taste", desc := "(III)I" } : Jvm.MethodName) prog_1_method_30_code (8 : Nat) (Option.some Jvm.ClassFile.FieldType.int) [((41 : Nat), (73 : Nat), (82 : Nat), (0 : Nat)), ((82 : Nat), (84 : Nat), (82 : Nat), (0 : Nat))]) ∈ lw_all := lw_g (lw_at lw_m4 66 rfl) rfl
theorem q858 : (Jvm.Cond.constantLong "LevelCellars" (234 : Nat) (2 : Int64)) ∈ lw_all := lw_g (lw_at lw_m4 67 rfl) rfl
theorem q860 : (Jvm.Cond.instanceMethod ({ cls := "LevelCellars", name := "rests", desc := "()I" } : Jvm.MethodName)) ∈ lw_all := lw_g (lw_at lw_m4 69 rfl) rfl
theorem q861 : (Jvm.Cond.selects "LevelCellars" ({ cls := "LevelCellars", name := "rests", desc := "()I" } : Jvm.MethodName) ({ cls := "LevelCellars", name := "rests", desc := "()I" } : Jvm.MethodName)) ∈ lw_all := lw_g (lw_at lw_m4 70 rfl) rfl
theorem q862 : (Jvm.Cond.codeWith ({ cls := "LevelCellars", name := "rests", desc := "()I" } : Jvm.MethodName) prog_1_method_31_code (5 : Nat) (Option.some Jvm.ClassFile.FieldType.int) [((5 : Nat), (31 : Nat), (62 : Nat), (0 : Nat)), ((38 : Nat), (55 : Nat), (62 : Nat), (0 : Nat)), ((62 : Nat), (64 : Nat), (62 : Nat), (0 : Nat))]) ∈ lw_all := lw_g (lw_at lw_m4 71 rfl) rfl
theorem q863 : (Jvm.Cond.constant "LevelCellars" (3 : Nat) (-1000000005 : Int32)) ∈ lw_all := lw_g (lw_at lw_m4 72 rfl) rfl
theorem q865 : (Jvm.Cond.instanceMethod ({ cls := "LevelCellars", name := "corks", desc := "(III)I" } : Jvm.MethodName)) ∈ lw_all := lw_g (lw_at lw_m4 74 rfl) rfl
theorem q866 : (Jvm.Cond.selects "LevelCellars" ({ cls := "LevelCellars", name := "corks", desc := "(III)I" } : Jvm.MethodName) ({ cls := "LevelCellars", name := "corks", desc := "(III)I" } : Jvm.MethodName)) ∈ lw_all := lw_g (lw_at lw_m4 75 rfl) rfl
theorem q867 : (Jvm.Cond.codeWith ({ cls := "LevelCellars", name := "corks", desc := "(III)I" } : Jvm.MethodName) prog_1_method_32_code (11 : Nat) (Option.some Jvm.ClassFile.FieldType.int) [((34 : Nat), (154 : Nat), (163 : Nat), (0 : Nat)), ((163 : Nat), (165 : Nat), (163 : Nat), (0 : Nat))]) ∈ lw_all := lw_g (lw_at lw_m4 76 rfl) rfl
theorem q868 : (Jvm.Cond.methodLink "LevelCellars" (236 : Nat) ({ cls := "LevelCellars", name := "isShort", desc := "(I)Z" } : Jvm.MethodName)) ∈ lw_all := lw_g (lw_at lw_m4 77 rfl) rfl
theorem q869 : (Jvm.Cond.static ({ cls := "LevelCellars", name := "isShort", desc := "(I)Z" } : Jvm.MethodName)) ∈ lw_all := lw_g (lw_at lw_m4 78 rfl) rfl
theorem q870 : (Jvm.Cond.code ({ cls := "LevelCellars", name := "isShort", desc := "(I)Z" } : Jvm.MethodName) prog_1_method_11_code (1 : Nat) (Option.some Jvm.ClassFile.FieldType.boolean)) ∈ lw_all := lw_g (lw_at lw_m4 79 rfl) rfl
theorem q871 : (Jvm.Cond.constantLong "LevelCellars" (103 : Nat) (60 : Int64)) ∈ lw_all := lw_g (lw_at lw_m4 80 rfl) rfl
theorem q873 : (Jvm.Cond.instanceMethod ({ cls := "LevelCellars", name := "dig", desc := "(II)I" } : Jvm.MethodName)) ∈ lw_all := lw_g (lw_at lw_m4 82 rfl) rfl
theorem q874 : (Jvm.Cond.selects "LevelCellars" ({ cls := "LevelCellars", name := "dig", desc := "(II)I" } : Jvm.MethodName) ({ cls := "LevelCellars", name := "dig", desc := "(II)I" } : Jvm.MethodName)) ∈ lw_all := lw_g (lw_at lw_m4 83 rfl) rfl
theorem q875 : (Jvm.Cond.codeWith ({ cls := "LevelCellars", name := "dig", desc := "(II)I" } : Jvm.MethodName) prog_1_method_34_code (10 : Nat) (Option.some Jvm.ClassFile.FieldType.int) [((30 : Nat), (156 : Nat), (164 : Nat), (0 : Nat)), ((164 : Nat), (166 : Nat), (164 : Nat), (0 : Nat))]) ∈ lw_all := lw_g (lw_at lw_m4 84 rfl) rfl
theorem q876 : (Jvm.Cond.constantLong "LevelCellars" (239 : Nat) (40 : Int64)) ∈ lw_all := lw_g (lw_at lw_m4 85 rfl) rfl
theorem q877 : (Jvm.Cond.methodLink "LevelCellars" (241 : Nat) ({ cls := "LevelCellars$Town", name := "areJoined", desc := "(II)Z" } : Jvm.MethodName)) ∈ lw_all := lw_g (lw_at lw_m4 86 rfl) rfl
theorem q881 : (Jvm.Cond.methodLink "LevelCellars" (244 : Nat) ({ cls := "LevelCellars", name := "spiltBy", desc := "(LLevelCellars$Town;III)I" } : Jvm.MethodName)) ∈ lw_all := lw_g (lw_at lw_m4 90 rfl) rfl
theorem q882 : (Jvm.Cond.privateMethod ({ cls := "LevelCellars", name := "spiltBy", desc := "(LLevelCellars$Town;III)I" } : Jvm.MethodName)) ∈ lw_tbl := lw_at lw_m4 91 rfl
theorem q883 : (Jvm.Cond.instanceMethod ({ cls := "LevelCellars", name := "spiltBy", desc := "(LLevelCellars$Town;III)I" } : Jvm.MethodName)) ∈ lw_all := lw_g (lw_at lw_m4 92 rfl) rfl
theorem q884 : (Jvm.Cond.code ({ cls := "LevelCellars", name := "spiltBy", desc := "(LLevelCellars$Town;III)I" } : Jvm.MethodName) prog_1_method_33_code (6 : Nat) (Option.some Jvm.ClassFile.FieldType.int)) ∈ lw_all := lw_g (lw_at lw_m4 93 rfl) rfl
theorem q886 : (Jvm.Cond.instanceMethod ({ cls := "LevelCellars", name := "loser", desc := "(II)I" } : Jvm.MethodName)) ∈ lw_all := lw_g (lw_at lw_m4 95 rfl) rfl
theorem q887 : (Jvm.Cond.selects "LevelCellars" ({ cls := "LevelCellars", name := "loser", desc := "(II)I" } : Jvm.MethodName) ({ cls := "LevelCellars", name := "loser", desc := "(II)I" } : Jvm.MethodName)) ∈ lw_all := lw_g (lw_at lw_m4 96 rfl) rfl
theorem q888 : (Jvm.Cond.codeWith ({ cls := "LevelCellars", name := "loser", desc := "(II)I" } : Jvm.MethodName) prog_1_method_35_code (10 : Nat) (Option.some Jvm.ClassFile.FieldType.int) [((25 : Nat), (136 : Nat), (144 : Nat), (0 : Nat)), ((144 : Nat), (146 : Nat), (144 : Nat), (0 : Nat))]) ∈ lw_all := lw_g (lw_at lw_m4 97 rfl) rfl
theorem q890 : (Jvm.Cond.instanceMethod ({ cls := "LevelCellars", name := "tap", desc := "(II)I" } : Jvm.MethodName)) ∈ lw_all := lw_g (lw_at lw_m4 99 rfl) rfl
theorem q891 : (Jvm.Cond.selects "LevelCellars" ({ cls := "LevelCellars", name := "tap", desc := "(II)I" } : Jvm.MethodName) ({ cls := "LevelCellars", name := "tap", desc := "(II)I" } : Jvm.MethodName)) ∈ lw_all := lw_g (lw_at lw_m4 100 rfl) rfl
theorem q892 : (Jvm.Cond.codeWith ({ cls := "LevelCellars", name := "tap", desc := "(II)I" } : Jvm.MethodName) prog_1_method_36_code (8 : Nat) (Option.some Jvm.ClassFile.FieldType.int) [((23 : Nat), (112 : Nat), (120 : Nat), (0 : Nat)), ((120 : Nat), (122 : Nat), (120 : Nat), (0 : Nat))]) ∈ lw_all := lw_g (lw_at lw_m4 101 rfl) rfl
theorem q893 : (Jvm.Cond.methodLink "LevelCellars" (248 : Nat) ({ cls := "LevelCellars$Cellar", name := "empties", desc := "()V" } : Jvm.MethodName)) ∈ lw_all := lw_g (lw_at lw_m4 102 rfl) rfl
theorem q904 : (Jvm.Cond.instanceMethod ({ cls := "LevelCellars", name := "dug", desc := "(III)I" } : Jvm.MethodName)) ∈ lw_all := lw_g (lw_at lw_m4 113 rfl) rfl
theorem q905 : (Jvm.Cond.selects "LevelCellars" ({ cls := "LevelCellars", name := "dug", desc := "(III)I" } : Jvm.MethodName) ({ cls := "LevelCellars", name := "dug", desc := "(III)I" } : Jvm.MethodName)) ∈ lw_all := lw_g (lw_at lw_m4 114 rfl) rfl
theorem q906 : (Jvm.Cond.codeWith ({ cls := "LevelCellars", name := "dug", desc := "(III)I" } : Jvm.MethodName) prog_1_method_38_code (11 : Nat) (Option.some Jvm.ClassFile.FieldType.int) [((54 : Nat), (142 : Nat), (151 : Nat), (0 : Nat)), ((151 : Nat), (153 : Nat), (151 : Nat), (0 : Nat))]) ∈ lw_all := lw_g (lw_at lw_m4 115 rfl) rfl
theorem q907 : (Jvm.Cond.methodLink "LevelCellars" (262 : Nat) ({ cls := "LevelCellars", name := "isSheet", desc := "(I)Z" } : Jvm.MethodName)) ∈ lw_all := lw_g (lw_at lw_m4 116 rfl) rfl
theorem q908 : (Jvm.Cond.static ({ cls := "LevelCellars", name := "isSheet", desc := "(I)Z" } : Jvm.MethodName)) ∈ lw_all := lw_g (lw_at lw_m4 117 rfl) rfl
theorem q909 : (Jvm.Cond.code ({ cls := "LevelCellars", name := "isSheet", desc := "(I)Z" } : Jvm.MethodName) prog_1_method_63_code (1 : Nat) (Option.some Jvm.ClassFile.FieldType.boolean)) ∈ lw_all := lw_g (lw_at lw_m4 118 rfl) rfl
theorem q910 : (Jvm.Cond.constantLong "LevelCellars" (420 : Nat) (3 : Int64)) ∈ lw_all := lw_g (lw_at lw_m4 119 rfl) rfl
theorem q911 : (Jvm.Cond.constant "LevelCellars" (269 : Nat) (-1000000011 : Int32)) ∈ lw_all := lw_g (lw_at lw_m4 120 rfl) rfl
theorem q912 : (Jvm.Cond.methodLink "LevelCellars" (270 : Nat) ({ cls := "LevelCellars", name := "offBy", desc := "(LLevelCellars$Town;Ljava/lang/Object;II)I" } : Jvm.MethodName)) ∈ lw_all := lw_g (lw_at lw_m4 121 rfl) rfl
theorem q913 : (Jvm.Cond.privateMethod ({ cls := "LevelCellars", name := "offBy", desc := "(LLevelCellars$Town;Ljava/lang/Object;II)I" } : Jvm.MethodName)) ∈ lw_tbl := lw_at lw_m4 122 rfl
theorem q914 : (Jvm.Cond.instanceMethod ({ cls := "LevelCellars", name := "offBy", desc := "(LLevelCellars$Town;Ljava/lang/Object;II)I" } : Jvm.MethodName)) ∈ lw_all := lw_g (lw_at lw_m4 123 rfl) rfl
theorem q915 : (Jvm.Cond.code ({ cls := "LevelCellars", name := "offBy", desc := "(LLevelCellars$Town;Ljava/lang/Object;II)I" } : Jvm.MethodName) prog_1_method_37_code (9 : Nat) (Option.some Jvm.ClassFile.FieldType.int)) ∈ lw_all := lw_g (lw_at lw_m4 124 rfl) rfl
theorem q916 : (Jvm.Cond.methodLink "LevelCellars" (251 : Nat) ({ cls := "LevelCellars", name := "lengthOf", desc := "(Ljava/lang/Object;)I" } : Jvm.MethodName)) ∈ lw_all := lw_g (lw_at lw_m4 125 rfl) rfl
theorem q917 : (Jvm.Cond.static ({ cls := "LevelCellars", name := "lengthOf", desc := "(Ljava/lang/Object;)I" } : Jvm.MethodName)) ∈ lw_all := lw_g (lw_at lw_m4 126 rfl) rfl
theorem q918 : (Jvm.Cond.code ({ cls := "LevelCellars", name := "lengthOf", desc := "(Ljava/lang/Object;)I" } : Jvm.MethodName) prog_1_method_65_code (1 : Nat) (Option.some Jvm.ClassFile.FieldType.int)) ∈ lw_all := lw_g (lw_at lw_m4 127 rfl) rfl
theorem q919 : (Jvm.Cond.classLink "LevelCellars" (424 : Nat) "[S") ∈ lw_all := lw_g (lw_at lw_m4 128 rfl) rfl
theorem q920 : (Jvm.Cond.classLink "LevelCellars" (426 : Nat) "[F") ∈ lw_all := lw_g (lw_at lw_m4 129 rfl) rfl
theorem q921 : (Jvm.Cond.methodLink "LevelCellars" (255 : Nat) ({ cls := "LevelCellars", name := "numberAt", desc := "(Ljava/lang/Object;I)I" } : Jvm.MethodName)) ∈ lw_all := lw_g (lw_at lw_m4 130 rfl) rfl
theorem q922 : (Jvm.Cond.static ({ cls := "LevelCellars", name := "numberAt", desc := "(Ljava/lang/Object;I)I" } : Jvm.MethodName)) ∈ lw_all := lw_g (lw_at lw_m4 131 rfl) rfl
theorem q923 : (Jvm.Cond.code ({ cls := "LevelCellars", name := "numberAt", desc := "(Ljava/lang/Object;I)I" } : Jvm.MethodName) prog_1_method_66_code (3 : Nat) (Option.some Jvm.ClassFile.FieldType.int)) ∈ lw_all := lw_g (lw_at lw_m4 132 rfl) rfl
theorem q924 : (Jvm.Cond.methodLink "LevelCellars" (259 : Nat) ({ cls := "java/lang/Math", name := "abs", desc := "(I)I" } : Jvm.MethodName)) ∈ lw_all := lw_g (lw_at lw_m4 133 rfl) rfl
theorem q925 : (Jvm.Cond.methodLink "LevelCellars" (274 : Nat) ({ cls := "LevelCellars", name := "orNone", desc := "(I)I" } : Jvm.MethodName)) ∈ lw_all := lw_g (lw_at lw_m4 134 rfl) rfl
theorem q926 : (Jvm.Cond.static ({ cls := "LevelCellars", name := "orNone", desc := "(I)I" } : Jvm.MethodName)) ∈ lw_all := lw_g (lw_at lw_m4 135 rfl) rfl
theorem q927 : (Jvm.Cond.code ({ cls := "LevelCellars", name := "orNone", desc := "(I)I" } : Jvm.MethodName) prog_1_method_2_code (1 : Nat) (Option.some Jvm.ClassFile.FieldType.int)) ∈ lw_all := lw_g (lw_at lw_m4 136 rfl) rfl
theorem q929 : (Jvm.Cond.instanceMethod ({ cls := "LevelCellars", name := "fee", desc := "()I" } : Jvm.MethodName)) ∈ lw_all := lw_g (lw_at lw_m4 138 rfl) rfl
theorem q930 : (Jvm.Cond.selects "LevelCellars" ({ cls := "LevelCellars", name := "fee", desc := "()I" } : Jvm.MethodName) ({ cls := "LevelCellars", name := "fee", desc := "()I" } : Jvm.MethodName)) ∈ lw_all := lw_g (lw_at lw_m4 139 rfl) rfl
theorem q931 : (Jvm.Cond.code ({ cls := "LevelCellars", name := "fee", desc := "()I" } : Jvm.MethodName) prog_1_method_39_code (1 : Nat) (Option.some Jvm.ClassFile.FieldType.int)) ∈ lw_all := lw_g (lw_at lw_m4 140 rfl) rfl
theorem q932 : (Jvm.Cond.methodLink "LevelCellars" (277 : Nat) ({ cls := "LevelCellars", name := "ruled", desc := "(II)I" } : Jvm.MethodName)) ∈ lw_all := lw_g (lw_at lw_m4 141 rfl) rfl
theorem q934 : (Jvm.Cond.instanceMethod ({ cls := "LevelCellars", name := "fine", desc := "(I)I" } : Jvm.MethodName)) ∈ lw_all := lw_g (lw_at lw_m4 143 rfl) rfl
theorem q935 : (Jvm.Cond.selects "LevelCellars" ({ cls := "LevelCellars", name := "fine", desc := "(I)I" } : Jvm.MethodName) ({ cls := "LevelCellars", name := "fine", desc := "(I)I" } : Jvm.MethodName)) ∈ lw_all := lw_g (lw_at lw_m4 144 rfl) rfl
theorem q936 : (Jvm.Cond.code ({ cls := "LevelCellars", name := "fine", desc := "(I)I" } : Jvm.MethodName) prog_1_method_40_code (3 : Nat) (Option.some Jvm.ClassFile.FieldType.int)) ∈ lw_all := lw_g (lw_at lw_m4 145 rfl) rfl
theorem q938 : (Jvm.Cond.instanceMethod ({ cls := "LevelCellars", name := "feed", desc := "(III)I" } : Jvm.MethodName)) ∈ lw_all := lw_g (lw_at lw_m4 147 rfl) rfl
theorem q939 : (Jvm.Cond.selects "LevelCellars" ({ cls := "LevelCellars", name := "feed", desc := "(III)I" } : Jvm.MethodName) ({ cls := "LevelCellars", name := "feed", desc := "(III)I" } : Jvm.MethodName)) ∈ lw_all := lw_g (lw_at lw_m4 148 rfl) rfl
theorem q940 : (Jvm.Cond.code ({ cls := "LevelCellars", name := "feed", desc := "(III)I" } : Jvm.MethodName) prog_1_method_56_code (6 : Nat) (Option.some Jvm.ClassFile.FieldType.int)) ∈ lw_all := lw_g (lw_at lw_m4 149 rfl) rfl
theorem q942 : (Jvm.Cond.instanceMethod ({ cls := "LevelCellars", name := "trim", desc := "(I)I" } : Jvm.MethodName)) ∈ lw_all := lw_g (lw_at lw_m4 151 rfl) rfl
theorem q943 : (Jvm.Cond.selects "LevelCellars" ({ cls := "LevelCellars", name := "trim", desc := "(I)I" } : Jvm.MethodName) ({ cls := "LevelCellars", name := "trim", desc := "(I)I" } : Jvm.MethodName)) ∈ lw_all := lw_g (lw_at lw_m4 152 rfl) rfl
theorem q944 : (Jvm.Cond.code ({ cls := "LevelCellars", name := "trim", desc := "(I)I" } : Jvm.MethodName) prog_1_method_57_code (2 : Nat) (Option.some Jvm.ClassFile.FieldType.int)) ∈ lw_all := lw_g (lw_at lw_m4 153 rfl) rfl
theorem q946 : (Jvm.Cond.instanceMethod ({ cls := "LevelCellars", name := "text", desc := "()I" } : Jvm.MethodName)) ∈ lw_all := lw_g (lw_at lw_m4 155 rfl) rfl
theorem q947 : (Jvm.Cond.selects "LevelCellars" ({ cls := "LevelCellars", name := "text", desc := "()I" } : Jvm.MethodName) ({ cls := "LevelCellars", name := "text", desc := "()I" } : Jvm.MethodName)) ∈ lw_all := lw_g (lw_at lw_m4 156 rfl) rfl
theorem q948 : (Jvm.Cond.codeWith ({ cls := "LevelCellars", name := "text", desc := "()I" } : Jvm.MethodName) prog_1_method_58_code (4 : Nat) (Option.some Jvm.ClassFile.FieldType.int) [((0 : Nat), (20 : Nat), (73 : Nat), (313 : Nat)), ((27 : Nat), (66 : Nat), (73 : Nat), (313 : Nat)), ((0 : Nat), (20 : Nat), (89 : Nat), (0 : Nat)), ((27 : Nat), (66 : Nat), (89 : Nat), (0 : Nat)), ((73 : Nat), (82 : Nat), (89 : Nat), (0 : Nat))]) ∈ lw_all := lw_g (lw_at lw_m4 157 rfl) rfl
theorem q949 : (Jvm.Cond.classLink "LevelCellars" (313 : Nat) "LevelCellars$Faulty") ∈ lw_all := lw_g (lw_at lw_m4 158 rfl) rfl
theorem q950 : (Jvm.Cond.methodLink "LevelCellars" (394 : Nat) ({ cls := "LevelCellars", name := "readText", desc := "()LLevelCellars$Text;" } : Jvm.MethodName)) ∈ lw_all := lw_g (lw_at lw_m4 159 rfl) rfl
theorem q951 : (Jvm.Cond.privateMethod ({ cls := "LevelCellars", name := "readText", desc := "()LLevelCellars$Text;" } : Jvm.MethodName)) ∈ lw_tbl := lw_at lw_m4 160 rfl
theorem q952 : (Jvm.Cond.instanceMethod ({ cls := "LevelCellars", name := "readText", desc := "()LLevelCellars$Text;" } : Jvm.MethodName)) ∈ lw_all := lw_g (lw_at lw_m4 161 rfl) rfl
theorem q953 : (Jvm.Cond.code ({ cls := "LevelCellars", name := "readText", desc := "()LLevelCellars$Text;" } : Jvm.MethodName) prog_1_method_55_code (2 : Nat) (Option.some (Jvm.ClassFile.FieldType.object "LevelCellars$Text"))) ∈ lw_all := lw_g (lw_at lw_m4 162 rfl) rfl
theorem q954 : (Jvm.Cond.methodLink "LevelCellars" (325 : Nat) ({ cls := "LevelCellars", name := "goesOn", desc := "()V" } : Jvm.MethodName)) ∈ lw_all := lw_g (lw_at lw_m4 163 rfl) rfl
theorem q955 : (Jvm.Cond.privateMethod ({ cls := "LevelCellars", name := "goesOn", desc := "()V" } : Jvm.MethodName)) ∈ lw_tbl := lw_at lw_m4 164 rfl
theorem q956 : (Jvm.Cond.instanceMethod ({ cls := "LevelCellars", name := "goesOn", desc := "()V" } : Jvm.MethodName)) ∈ lw_all := lw_g (lw_at lw_m4 165 rfl) rfl
theorem q957 : (Jvm.Cond.code ({ cls := "LevelCellars", name := "goesOn", desc := "()V" } : Jvm.MethodName) prog_1_method_44_code (5 : Nat) (Option.none : Option Jvm.ClassFile.FieldType)) ∈ lw_all := lw_g (lw_at lw_m4 166 rfl) rfl
theorem q958 : (Jvm.Cond.methodLink "LevelCellars" (289 : Nat) ({ cls := "LevelCellars", name := "byteAt", desc := "(I)I" } : Jvm.MethodName)) ∈ lw_all := lw_g (lw_at lw_m4 167 rfl) rfl
theorem q959 : (Jvm.Cond.privateMethod ({ cls := "LevelCellars", name := "byteAt", desc := "(I)I" } : Jvm.MethodName)) ∈ lw_tbl := lw_at lw_m4 168 rfl
theorem q960 : (Jvm.Cond.instanceMethod ({ cls := "LevelCellars", name := "byteAt", desc := "(I)I" } : Jvm.MethodName)) ∈ lw_all := lw_g (lw_at lw_m4 169 rfl) rfl
theorem q961 : (Jvm.Cond.code ({ cls := "LevelCellars", name := "byteAt", desc := "(I)I" } : Jvm.MethodName) prog_1_method_43_code (2 : Nat) (Option.some Jvm.ClassFile.FieldType.int)) ∈ lw_all := lw_g (lw_at lw_m4 170 rfl) rfl
theorem q962 : (Jvm.Cond.methodLink "LevelCellars" (295 : Nat) ({ cls := "LevelCellars", name := "isLetter", desc := "(I)Z" } : Jvm.MethodName)) ∈ lw_all := lw_g (lw_at lw_m4 171 rfl) rfl
theorem q963 : (Jvm.Cond.static ({ cls := "LevelCellars", name := "isLetter", desc := "(I)Z" } : Jvm.MethodName)) ∈ lw_all := lw_g (lw_at lw_m4 172 rfl) rfl
theorem q964 : (Jvm.Cond.code ({ cls := "LevelCellars", name := "isLetter", desc := "(I)Z" } : Jvm.MethodName) prog_1_method_41_code (1 : Nat) (Option.some Jvm.ClassFile.FieldType.boolean)) ∈ lw_all := lw_g (lw_at lw_m4 173 rfl) rfl
theorem q965 : (Jvm.Cond.methodLink "LevelCellars" (298 : Nat) ({ cls := "LevelCellars", name := "isDigit", desc := "(I)Z" } : Jvm.MethodName)) ∈ lw_all := lw_g (lw_at lw_m4 174 rfl) rfl
theorem q966 : (Jvm.Cond.static ({ cls := "LevelCellars", name := "isDigit", desc := "(I)Z" } : Jvm.MethodName)) ∈ lw_all := lw_g (lw_at lw_m4 175 rfl) rfl
theorem q967 : (Jvm.Cond.code ({ cls := "LevelCellars", name := "isDigit", desc := "(I)Z" } : Jvm.MethodName) prog_1_method_42_code (1 : Nat) (Option.some Jvm.ClassFile.FieldType.boolean)) ∈ lw_all := lw_g (lw_at lw_m4 176 rfl) rfl
theorem q968 : (Jvm.Cond.stringRef "LevelCellars" (380 : Nat) "high") ∈ lw_tbl := lw_at lw_m4 177 rfl
theorem q969 : (Jvm.Cond.methodLink "LevelCellars" (381 : Nat) ({ cls := "LevelCellars", name := "isWord", desc := "(Ljava/lang/String;)Z" } : Jvm.MethodName)) ∈ lw_all := lw_g (lw_at lw_m4 178 rfl) rfl
theorem q970 : (Jvm.Cond.privateMethod ({ cls := "LevelCellars", name := "isWord", desc := "(Ljava/lang/String;)Z" } : Jvm.MethodName)) ∈ lw_tbl := lw_at lw_m4 179 rfl
theorem q971 : (Jvm.Cond.instanceMethod ({ cls := "LevelCellars", name := "isWord", desc := "(Ljava/lang/String;)Z" } : Jvm.MethodName)) ∈ lw_all := lw_g (lw_at lw_m4 180 rfl) rfl
theorem q972 : (Jvm.Cond.code ({ cls := "LevelCellars", name := "isWord", desc := "(Ljava/lang/String;)Z" } : Jvm.MethodName) prog_1_method_45_code (4 : Nat) (Option.some Jvm.ClassFile.FieldType.boolean)) ∈ lw_all := lw_g (lw_at lw_m4 181 rfl) rfl
theorem q973 : (Jvm.Cond.methodLink "LevelCellars" (304 : Nat) ({ cls := "java/lang/String", name := "length", desc := "()I" } : Jvm.MethodName)) ∈ lw_all := lw_g (lw_at lw_m4 182 rfl) rfl
theorem q983 : (Jvm.Cond.methodLink "LevelCellars" (309 : Nat) ({ cls := "java/lang/String", name := "charAt", desc := "(I)C" } : Jvm.MethodName)) ∈ lw_all := lw_g (lw_at lw_m4 192 rfl) rfl
theorem q1021 : (Jvm.Cond.stringRef "LevelCellars" (385 : Nat) "fee") ∈ lw_tbl := lw_at lw_m4 230 rfl
theorem q1022 : (Jvm.Cond.stringRef "LevelCellars" (387 : Nat) "fine") ∈ lw_tbl := lw_at lw_m4 231 rfl
theorem q1023 : (Jvm.Cond.methodLink "LevelCellars" (365 : Nat) ({ cls := "LevelCellars", name := "must", desc := "(Z)V" } : Jvm.MethodName)) ∈ lw_all := lw_g (lw_at lw_m4 232 rfl) rfl
theorem q1024 : (Jvm.Cond.privateMethod ({ cls := "LevelCellars", name := "must", desc := "(Z)V" } : Jvm.MethodName)) ∈ lw_tbl := lw_at lw_m4 233 rfl
theorem q1025 : (Jvm.Cond.instanceMethod ({ cls := "LevelCellars", name := "must", desc := "(Z)V" } : Jvm.MethodName)) ∈ lw_all := lw_g (lw_at lw_m4 234 rfl) rfl
theorem q1026 : (Jvm.Cond.code ({ cls := "LevelCellars", name := "must", desc := "(Z)V" } : Jvm.MethodName) prog_1_method_47_code (2 : Nat) (Option.none : Option Jvm.ClassFile.FieldType)) ∈ lw_all := lw_g (lw_at lw_m4 235 rfl) rfl
theorem q1035 : (Jvm.Cond.methodLink "LevelCellars" (315 : Nat) ({ cls := "LevelCellars$Faulty", name := "<init>", desc := "(I)V" } : Jvm.MethodName)) ∈ lw_all := lw_g (lw_at lw_m5 4 rfl) rfl
theorem q1045 : (Jvm.Cond.fieldLink "LevelCellars" (405 : Nat) "LevelCellars$Faulty" "place" "I") ∈ lw_all := lw_g (lw_at lw_m5 14 rfl) rfl
theorem q1050 : (Jvm.Cond.methodLink "LevelCellars" (377 : Nat) ({ cls := "LevelCellars", name := "either", desc := "()LLevelCellars$Worth;" } : Jvm.MethodName)) ∈ lw_all := lw_g (lw_at lw_m5 19 rfl) rfl
theorem q1051 : (Jvm.Cond.privateMethod ({ cls := "LevelCellars", name := "either", desc := "()LLevelCellars$Worth;" } : Jvm.MethodName)) ∈ lw_tbl := lw_at lw_m5 20 rfl
theorem q1052 : (Jvm.Cond.instanceMethod ({ cls := "LevelCellars", name := "either", desc := "()LLevelCellars$Worth;" } : Jvm.MethodName)) ∈ lw_all := lw_g (lw_at lw_m5 21 rfl) rfl
theorem q1053 : (Jvm.Cond.code ({ cls := "LevelCellars", name := "either", desc := "()LLevelCellars$Worth;" } : Jvm.MethodName) prog_1_method_48_code (2 : Nat) (Option.some (Jvm.ClassFile.FieldType.object "LevelCellars$Worth"))) ∈ lw_all := lw_g (lw_at lw_m5 22 rfl) rfl
theorem q1054 : (Jvm.Cond.methodLink "LevelCellars" (318 : Nat) ({ cls := "LevelCellars", name := "both", desc := "()LLevelCellars$Worth;" } : Jvm.MethodName)) ∈ lw_all := lw_g (lw_at lw_m5 23 rfl) rfl
theorem q1055 : (Jvm.Cond.privateMethod ({ cls := "LevelCellars", name := "both", desc := "()LLevelCellars$Worth;" } : Jvm.MethodName)) ∈ lw_tbl := lw_at lw_m5 24 rfl
theorem q1056 : (Jvm.Cond.instanceMethod ({ cls := "LevelCellars", name := "both", desc := "()LLevelCellars$Worth;" } : Jvm.MethodName)) ∈ lw_all := lw_g (lw_at lw_m5 25 rfl) rfl
theorem q1057 : (Jvm.Cond.code ({ cls := "LevelCellars", name := "both", desc := "()LLevelCellars$Worth;" } : Jvm.MethodName) prog_1_method_49_code (2 : Nat) (Option.some (Jvm.ClassFile.FieldType.object "LevelCellars$Worth"))) ∈ lw_all := lw_g (lw_at lw_m5 26 rfl) rfl
theorem q1058 : (Jvm.Cond.methodLink "LevelCellars" (332 : Nat) ({ cls := "LevelCellars", name := "test", desc := "()LLevelCellars$Worth;" } : Jvm.MethodName)) ∈ lw_all := lw_g (lw_at lw_m5 27 rfl) rfl
theorem q1059 : (Jvm.Cond.privateMethod ({ cls := "LevelCellars", name := "test", desc := "()LLevelCellars$Worth;" } : Jvm.MethodName)) ∈ lw_tbl := lw_at lw_m5 28 rfl
theorem q1060 : (Jvm.Cond.instanceMethod ({ cls := "LevelCellars", name := "test", desc := "()LLevelCellars$Worth;" } : Jvm.MethodName)) ∈ lw_all := lw_g (lw_at lw_m5 29 rfl) rfl
theorem q1061 : (Jvm.Cond.code ({ cls := "LevelCellars", name := "test", desc := "()LLevelCellars$Worth;" } : Jvm.MethodName) prog_1_method_50_code (3 : Nat) (Option.some (Jvm.ClassFile.FieldType.object "LevelCellars$Worth"))) ∈ lw_all := lw_g (lw_at lw_m5 30 rfl) rfl
theorem q1062 : (Jvm.Cond.methodLink "LevelCellars" (335 : Nat) ({ cls := "LevelCellars", name := "plus", desc := "()LLevelCellars$Worth;" } : Jvm.MethodName)) ∈ lw_all := lw_g (lw_at lw_m5 31 rfl) rfl
theorem q1063 : (Jvm.Cond.privateMethod ({ cls := "LevelCellars", name := "plus", desc := "()LLevelCellars$Worth;" } : Jvm.MethodName)) ∈ lw_tbl := lw_at lw_m5 32 rfl
theorem q1064 : (Jvm.Cond.instanceMethod ({ cls := "LevelCellars", name := "plus", desc := "()LLevelCellars$Worth;" } : Jvm.MethodName)) ∈ lw_all := lw_g (lw_at lw_m5 33 rfl) rfl
theorem q1065 : (Jvm.Cond.code ({ cls := "LevelCellars", name := "plus", desc := "()LLevelCellars$Worth;" } : Jvm.MethodName) prog_1_method_51_code (3 : Nat) (Option.some (Jvm.ClassFile.FieldType.object "LevelCellars$Worth"))) ∈ lw_all := lw_g (lw_at lw_m5 34 rfl) rfl
theorem q1066 : (Jvm.Cond.methodLink "LevelCellars" (338 : Nat) ({ cls := "LevelCellars", name := "times", desc := "()LLevelCellars$Worth;" } : Jvm.MethodName)) ∈ lw_all := lw_g (lw_at lw_m5 35 rfl) rfl
theorem q1067 : (Jvm.Cond.privateMethod ({ cls := "LevelCellars", name := "times", desc := "()LLevelCellars$Worth;" } : Jvm.MethodName)) ∈ lw_tbl := lw_at lw_m5 36 rfl
theorem q1068 : (Jvm.Cond.instanceMethod ({ cls := "LevelCellars", name := "times", desc := "()LLevelCellars$Worth;" } : Jvm.MethodName)) ∈ lw_all := lw_g (lw_at lw_m5 37 rfl) rfl
theorem q1069 : (Jvm.Cond.code ({ cls := "LevelCellars", name := "times", desc := "()LLevelCellars$Worth;" } : Jvm.MethodName) prog_1_method_52_code (3 : Nat) (Option.some (Jvm.ClassFile.FieldType.object "LevelCellars$Worth"))) ∈ lw_all := lw_g (lw_at lw_m5 38 rfl) rfl
theorem q1070 : (Jvm.Cond.methodLink "LevelCellars" (341 : Nat) ({ cls := "LevelCellars", name := "part", desc := "()LLevelCellars$Worth;" } : Jvm.MethodName)) ∈ lw_all := lw_g (lw_at lw_m5 39 rfl) rfl
theorem q1071 : (Jvm.Cond.privateMethod ({ cls := "LevelCellars", name := "part", desc := "()LLevelCellars$Worth;" } : Jvm.MethodName)) ∈ lw_tbl := lw_at lw_m5 40 rfl
theorem q1072 : (Jvm.Cond.instanceMethod ({ cls := "LevelCellars", name := "part", desc := "()LLevelCellars$Worth;" } : Jvm.MethodName)) ∈ lw_all := lw_g (lw_at lw_m5 41 rfl) rfl
theorem q1073 : (Jvm.Cond.code ({ cls := "LevelCellars", name := "part", desc := "()LLevelCellars$Worth;" } : Jvm.MethodName) prog_1_method_54_code (3 : Nat) (Option.some (Jvm.ClassFile.FieldType.object "LevelCellars$Worth"))) ∈ lw_all := lw_g (lw_at lw_m5 42 rfl) rfl
theorem q1074 : (Jvm.Cond.methodLink "LevelCellars" (347 : Nat) ({ cls := "LevelCellars", name := "isName", desc := "()Z" } : Jvm.MethodName)) ∈ lw_all := lw_g (lw_at lw_m5 43 rfl) rfl
theorem q1075 : (Jvm.Cond.privateMethod ({ cls := "LevelCellars", name := "isName", desc := "()Z" } : Jvm.MethodName)) ∈ lw_tbl := lw_at lw_m5 44 rfl
theorem q1076 : (Jvm.Cond.instanceMethod ({ cls := "LevelCellars", name := "isName", desc := "()Z" } : Jvm.MethodName)) ∈ lw_all := lw_g (lw_at lw_m5 45 rfl) rfl
theorem q1077 : (Jvm.Cond.code ({ cls := "LevelCellars", name := "isName", desc := "()Z" } : Jvm.MethodName) prog_1_method_53_code (1 : Nat) (Option.some Jvm.ClassFile.FieldType.boolean)) ∈ lw_all := lw_g (lw_at lw_m5 46 rfl) rfl
theorem q1078 : (Jvm.Cond.classLink "LevelCellars" (354 : Nat) "LevelCellars$Plain") ∈ lw_all := lw_g (lw_at lw_m5 47 rfl) rfl
theorem q1080 : (Jvm.Cond.methodLink "LevelCellars" (356 : Nat) ({ cls := "LevelCellars$Plain", name := "<init>", desc := "(I)V" } : Jvm.MethodName)) ∈ lw_all := lw_g (lw_at lw_m5 49 rfl) rfl
theorem q1088 : (Jvm.Cond.classLink "LevelCellars" (357 : Nat) "LevelCellars$Name") ∈ lw_all := lw_g (lw_at lw_m5 57 rfl) rfl
theorem q1090 : (Jvm.Cond.methodLink "LevelCellars" (359 : Nat) ({ cls := "LevelCellars$Name", name := "<init>", desc := "(LLevelCellars;I)V" } : Jvm.MethodName)) ∈ lw_all := lw_g (lw_at lw_m5 59 rfl) rfl
theorem q1101 : (Jvm.Cond.methodLink "LevelCellars" (322 : Nat) ({ cls := "LevelCellars", name := "isSign", desc := "(I)Z" } : Jvm.MethodName)) ∈ lw_all := lw_g (lw_at lw_m5 70 rfl) rfl
theorem q1102 : (Jvm.Cond.privateMethod ({ cls := "LevelCellars", name := "isSign", desc := "(I)Z" } : Jvm.MethodName)) ∈ lw_tbl := lw_at lw_m5 71 rfl
theorem q1103 : (Jvm.Cond.instanceMethod ({ cls := "LevelCellars", name := "isSign", desc := "(I)Z" } : Jvm.MethodName)) ∈ lw_all := lw_g (lw_at lw_m5 72 rfl) rfl
theorem q1104 : (Jvm.Cond.code ({ cls := "LevelCellars", name := "isSign", desc := "(I)Z" } : Jvm.MethodName) prog_1_method_46_code (2 : Nat) (Option.some Jvm.ClassFile.FieldType.boolean)) ∈ lw_all := lw_g (lw_at lw_m5 73 rfl) rfl
theorem q1105 : (Jvm.Cond.classLink "LevelCellars" (369 : Nat) "LevelCellars$Not") ∈ lw_all := lw_g (lw_at lw_m5 74 rfl) rfl
theorem q1107 : (Jvm.Cond.methodLink "LevelCellars" (371 : Nat) ({ cls := "LevelCellars$Not", name := "<init>", desc := "(LLevelCellars$Worth;)V" } : Jvm.MethodName)) ∈ lw_all := lw_g (lw_at lw_m5 76 rfl) rfl
theorem q1115 : (Jvm.Cond.classLink "LevelCellars" (327 : Nat) "LevelCellars$Two") ∈ lw_all := lw_g (lw_at lw_m5 84 rfl) rfl
theorem q1117 : (Jvm.Cond.methodLink "LevelCellars" (329 : Nat) ({ cls := "LevelCellars$Two", name := "<init>", desc := "(ILLevelCellars$Worth;LLevelCellars$Worth;)V" } : Jvm.MethodName)) ∈ lw_all := lw_g (lw_at lw_m5 86 rfl) rfl
theorem q1131 : (Jvm.Cond.classLink "LevelCellars" (389 : Nat) "LevelCellars$Text") ∈ lw_all := lw_g (lw_at lw_m5 100 rfl) rfl
theorem q1133 : (Jvm.Cond.methodLink "LevelCellars" (391 : Nat) ({ cls := "LevelCellars$Text", name := "<init>", desc := "(IILLevelCellars$Worth;)V" } : Jvm.MethodName)) ∈ lw_all := lw_g (lw_at lw_m5 102 rfl) rfl
theorem q1138 : (Jvm.Cond.fieldLink "LevelCellars" (408 : Nat) "LevelCellars$Text" "key" "I") ∈ lw_all := lw_g (lw_at lw_m5 107 rfl) rfl
theorem q1140 : (Jvm.Cond.fieldLink "LevelCellars" (409 : Nat) "LevelCellars$Text" "words" "I") ∈ lw_all := lw_g (lw_at lw_m5 109 rfl) rfl
theorem q1142 : (Jvm.Cond.fieldLink "LevelCellars" (413 : Nat) "LevelCellars$Text" "e" "LLevelCellars$Worth;") ∈ lw_all := lw_g (lw_at lw_m5 111 rfl) rfl
theorem q1151 : (Jvm.Cond.instanceMethod ({ cls := "LevelCellars", name := "textTold", desc := "(II)I" } : Jvm.MethodName)) ∈ lw_all := lw_g (lw_at lw_m5 120 rfl) rfl
theorem q1152 : (Jvm.Cond.selects "LevelCellars" ({ cls := "LevelCellars", name := "textTold", desc := "(II)I" } : Jvm.MethodName) ({ cls := "LevelCellars", name := "textTold", desc := "(II)I" } : Jvm.MethodName)) ∈ lw_all := lw_g (lw_at lw_m5 121 rfl) rfl
theorem q1153 : (Jvm.Cond.code ({ cls := "LevelCellars", name := "textTold", desc := "(II)I" } : Jvm.MethodName) prog_1_method_59_code (3 : Nat) (Option.some Jvm.ClassFile.FieldType.int)) ∈ lw_all := lw_g (lw_at lw_m5 122 rfl) rfl
theorem q1155 : (Jvm.Cond.instanceMethod ({ cls := "LevelCellars", name := "why", desc := "(I)I" } : Jvm.MethodName)) ∈ lw_all := lw_g (lw_at lw_m5 124 rfl) rfl
theorem q1156 : (Jvm.Cond.selects "LevelCellars" ({ cls := "LevelCellars", name := "why", desc := "(I)I" } : Jvm.MethodName) ({ cls := "LevelCellars", name := "why", desc := "(I)I" } : Jvm.MethodName)) ∈ lw_all := lw_g (lw_at lw_m5 125 rfl) rfl
theorem q1157 : (Jvm.Cond.code ({ cls := "LevelCellars", name := "why", desc := "(I)I" } : Jvm.MethodName) prog_1_method_62_code (2 : Nat) (Option.some Jvm.ClassFile.FieldType.int)) ∈ lw_all := lw_g (lw_at lw_m5 126 rfl) rfl
theorem q1159 : (Jvm.Cond.instanceMethod ({ cls := "LevelCellars", name := "sheet", desc := "(III)I" } : Jvm.MethodName)) ∈ lw_all := lw_g (lw_at lw_m5 128 rfl) rfl
theorem q1160 : (Jvm.Cond.selects "LevelCellars" ({ cls := "LevelCellars", name := "sheet", desc := "(III)I" } : Jvm.MethodName) ({ cls := "LevelCellars", name := "sheet", desc := "(III)I" } : Jvm.MethodName)) ∈ lw_all := lw_g (lw_at lw_m5 129 rfl) rfl
theorem q1161 : (Jvm.Cond.codeWith ({ cls := "LevelCellars", name := "sheet", desc := "(III)I" } : Jvm.MethodName) prog_1_method_68_code (5 : Nat) (Option.some Jvm.ClassFile.FieldType.int) [((48 : Nat), (80 : Nat), (81 : Nat), (433 : Nat))]) ∈ lw_all := lw_g (lw_at lw_m5 130 rfl) rfl
theorem q1162 : (Jvm.Cond.classLink "LevelCellars" (433 : Nat) "java/lang/NegativeArraySizeException") ∈ lw_all := lw_g (lw_at lw_m5 131 rfl) rfl
theorem q1176 : (Jvm.Cond.constantLong "LevelCellars" (431 : Nat) (-1 : Int64)) ∈ lw_all := lw_g (lw_at lw_m5 145 rfl) rfl
theorem q1177 : (Jvm.Cond.constant "LevelCellars" (435 : Nat) (-1000000014 : Int32)) ∈ lw_all := lw_g (lw_at lw_m5 146 rfl) rfl
theorem q1181 : (Jvm.Cond.instanceMethod ({ cls := "LevelCellars", name := "mark", desc := "(III)I" } : Jvm.MethodName)) ∈ lw_all := lw_g (lw_at lw_m5 150 rfl) rfl
theorem q1182 : (Jvm.Cond.selects "LevelCellars" ({ cls := "LevelCellars", name := "mark", desc := "(III)I" } : Jvm.MethodName) ({ cls := "LevelCellars", name := "mark", desc := "(III)I" } : Jvm.MethodName)) ∈ lw_all := lw_g (lw_at lw_m5 151 rfl) rfl
theorem q1183 : (Jvm.Cond.codeWith ({ cls := "LevelCellars", name := "mark", desc := "(III)I" } : Jvm.MethodName) prog_1_method_70_code (5 : Nat) (Option.some Jvm.ClassFile.FieldType.int) [((10 : Nat), (38 : Nat), (39 : Nat), (450 : Nat)), ((10 : Nat), (38 : Nat), (45 : Nat), (428 : Nat))]) ∈ lw_all := lw_g (lw_at lw_m5 152 rfl) rfl
theorem q1184 : (Jvm.Cond.classLink "LevelCellars" (450 : Nat) "java/lang/NullPointerException") ∈ lw_all := lw_g (lw_at lw_m5 153 rfl) rfl
theorem q1209 : (Jvm.Cond.classLink "LevelCellars" (428 : Nat) "java/lang/IndexOutOfBoundsException") ∈ lw_all := lw_g (lw_at lw_m5 178 rfl) rfl
theorem q1228 : (Jvm.Cond.methodLink "LevelCellars" (443 : Nat) ({ cls := "LevelCellars", name := "within", desc := "(III)V" } : Jvm.MethodName)) ∈ lw_all := lw_g (lw_at lw_m5 197 rfl) rfl
theorem q1229 : (Jvm.Cond.static ({ cls := "LevelCellars", name := "within", desc := "(III)V" } : Jvm.MethodName)) ∈ lw_all := lw_g (lw_at lw_m5 198 rfl) rfl
theorem q1230 : (Jvm.Cond.code ({ cls := "LevelCellars", name := "within", desc := "(III)V" } : Jvm.MethodName) prog_1_method_67_code (3 : Nat) (Option.none : Option Jvm.ClassFile.FieldType)) ∈ lw_all := lw_g (lw_at lw_m5 199 rfl) rfl
theorem q1239 : (Jvm.Cond.methodLink "LevelCellars" (430 : Nat) ({ cls := "java/lang/IndexOutOfBoundsException", name := "<init>", desc := "()V" } : Jvm.MethodName)) ∈ lw_all := lw_g (lw_at lw_m5 208 rfl) rfl
theorem q1245 : (Jvm.Cond.methodLink "LevelCellars" (446 : Nat) ({ cls := "LevelCellars", name := "written", desc := "(Ljava/lang/Object;II)I" } : Jvm.MethodName)) ∈ lw_all := lw_g (lw_at lw_m5 214 rfl) rfl
theorem q1246 : (Jvm.Cond.static ({ cls := "LevelCellars", name := "written", desc := "(Ljava/lang/Object;II)I" } : Jvm.MethodName)) ∈ lw_all := lw_g (lw_at lw_m5 215 rfl) rfl
theorem q1247 : (Jvm.Cond.code ({ cls := "LevelCellars", name := "written", desc := "(Ljava/lang/Object;II)I" } : Jvm.MethodName) prog_1_method_69_code (3 : Nat) (Option.some Jvm.ClassFile.FieldType.int)) ∈ lw_all := lw_g (lw_at lw_m5 216 rfl) rfl
theorem q1248 : (Jvm.Cond.constantLong "LevelCellars" (436 : Nat) (-99999 : Int64)) ∈ lw_all := lw_g (lw_at lw_m5 217 rfl) rfl
theorem q1249 : (Jvm.Cond.constantLong "LevelCellars" (438 : Nat) (99999 : Int64)) ∈ lw_all := lw_g (lw_at lw_m5 218 rfl) rfl
theorem q1250 : (Jvm.Cond.constantFloat "LevelCellars" (442 : Nat) (2143289344 : UInt32)) ∈ lw_all := lw_g (lw_at lw_m5 219 rfl) rfl
theorem q1251 : (Jvm.Cond.constant "LevelCellars" (452 : Nat) (-1000000013 : Int32)) ∈ lw_all := lw_g (lw_at lw_m5 220 rfl) rfl
theorem q1253 : (Jvm.Cond.instanceMethod ({ cls := "LevelCellars", name := "pour", desc := "(I)I" } : Jvm.MethodName)) ∈ lw_all := lw_g (lw_at lw_m5 222 rfl) rfl
theorem q1254 : (Jvm.Cond.selects "LevelCellars" ({ cls := "LevelCellars", name := "pour", desc := "(I)I" } : Jvm.MethodName) ({ cls := "LevelCellars", name := "pour", desc := "(I)I" } : Jvm.MethodName)) ∈ lw_all := lw_g (lw_at lw_m5 223 rfl) rfl
theorem q1255 : (Jvm.Cond.code ({ cls := "LevelCellars", name := "pour", desc := "(I)I" } : Jvm.MethodName) prog_1_method_71_code (8 : Nat) (Option.some Jvm.ClassFile.FieldType.int)) ∈ lw_all := lw_g (lw_at lw_m5 224 rfl) rfl
theorem q1256 : (Jvm.Cond.methodLink "LevelCellars" (453 : Nat) ({ cls := "LevelCellars", name := "heldIn", desc := "(III)I" } : Jvm.MethodName)) ∈ lw_all := lw_g (lw_at lw_m5 225 rfl) rfl
theorem q1258 : (Jvm.Cond.instanceMethod ({ cls := "LevelCellars", name := "reads", desc := "(I)I" } : Jvm.MethodName)) ∈ lw_all := lw_g (lw_at lw_m5 227 rfl) rfl
theorem q1259 : (Jvm.Cond.selects "LevelCellars" ({ cls := "LevelCellars", name := "reads", desc := "(I)I" } : Jvm.MethodName) ({ cls := "LevelCellars", name := "reads", desc := "(I)I" } : Jvm.MethodName)) ∈ lw_all := lw_g (lw_at lw_m5 228 rfl) rfl
theorem q1260 : (Jvm.Cond.code ({ cls := "LevelCellars", name := "reads", desc := "(I)I" } : Jvm.MethodName) prog_1_method_72_code (5 : Nat) (Option.some Jvm.ClassFile.FieldType.int)) ∈ lw_all := lw_g (lw_at lw_m5 229 rfl) rfl
theorem q1262 : (Jvm.Cond.instanceMethod ({ cls := "LevelCellars", name := "copy", desc := "(IIIII)I" } : Jvm.MethodName)) ∈ lw_all := lw_g (lw_at lw_m5 231 rfl) rfl
theorem q1263 : (Jvm.Cond.selects "LevelCellars" ({ cls := "LevelCellars", name := "copy", desc := "(IIIII)I" } : Jvm.MethodName) ({ cls := "LevelCellars", name := "copy", desc := "(IIIII)I" } : Jvm.MethodName)) ∈ lw_all := lw_g (lw_at lw_m5 232 rfl) rfl
theorem q1264 : (Jvm.Cond.codeWith ({ cls := "LevelCellars", name := "copy", desc := "(IIIII)I" } : Jvm.MethodName) prog_1_method_73_code (9 : Nat) (Option.some Jvm.ClassFile.FieldType.int) [((69 : Nat), (106 : Nat), (107 : Nat), (428 : Nat))]) ∈ lw_all := lw_g (lw_at lw_m5 233 rfl) rfl
theorem q1265 : (Jvm.Cond.methodLink "LevelCellars" (457 : Nat) ({ cls := "java/lang/System", name := "arraycopy", desc := "(Ljava/lang/Object;ILjava/lang/Object;II)V" } : Jvm.MethodName)) ∈ lw_all := lw_g (lw_at lw_m5 234 rfl) rfl
theorem q1267 : (Jvm.Cond.instanceMethod ({ cls := "LevelCellars", name := "lay", desc := "(III)I" } : Jvm.MethodName)) ∈ lw_all := lw_g (lw_at lw_m5 236 rfl) rfl
theorem q1268 : (Jvm.Cond.selects "LevelCellars" ({ cls := "LevelCellars", name := "lay", desc := "(III)I" } : Jvm.MethodName) ({ cls := "LevelCellars", name := "lay", desc := "(III)I" } : Jvm.MethodName)) ∈ lw_all := lw_g (lw_at lw_m5 237 rfl) rfl
theorem q1269 : (Jvm.Cond.code ({ cls := "LevelCellars", name := "lay", desc := "(III)I" } : Jvm.MethodName) prog_1_method_76_code (6 : Nat) (Option.some Jvm.ClassFile.FieldType.int)) ∈ lw_all := lw_g (lw_at lw_m5 238 rfl) rfl
theorem q1270 : (Jvm.Cond.methodLink "LevelCellars" (465 : Nat) ({ cls := "LevelCellars", name := "isSlot", desc := "(I)Z" } : Jvm.MethodName)) ∈ lw_all := lw_g (lw_at lw_m5 239 rfl) rfl
theorem q1271 : (Jvm.Cond.static ({ cls := "LevelCellars", name := "isSlot", desc := "(I)Z" } : Jvm.MethodName)) ∈ lw_all := lw_g (lw_at lw_m6 0 rfl) rfl
theorem q1272 : (Jvm.Cond.code ({ cls := "LevelCellars", name := "isSlot", desc := "(I)Z" } : Jvm.MethodName) prog_1_method_64_code (1 : Nat) (Option.some Jvm.ClassFile.FieldType.boolean)) ∈ lw_all := lw_g (lw_at lw_m6 1 rfl) rfl
theorem q1273 : (Jvm.Cond.constantLong "LevelCellars" (422 : Nat) (4 : Int64)) ∈ lw_all := lw_g (lw_at lw_m6 2 rfl) rfl
theorem q1274 : (Jvm.Cond.methodLink "LevelCellars" (468 : Nat) ({ cls := "LevelCellars", name := "anew", desc := "(LLevelCellars$Cellar;)LLevelCellars$Cellar;" } : Jvm.MethodName)) ∈ lw_all := lw_g (lw_at lw_m6 3 rfl) rfl
theorem q1275 : (Jvm.Cond.methodLink "LevelCellars" (471 : Nat) ({ cls := "LevelCellars", name := "again", desc := "(Ljava/lang/Object;)Ljava/lang/Object;" } : Jvm.MethodName)) ∈ lw_all := lw_g (lw_at lw_m6 4 rfl) rfl
theorem q1276 : (Jvm.Cond.static ({ cls := "LevelCellars", name := "again", desc := "(Ljava/lang/Object;)Ljava/lang/Object;" } : Jvm.MethodName)) ∈ lw_all := lw_g (lw_at lw_m6 5 rfl) rfl
theorem q1277 : (Jvm.Cond.code ({ cls := "LevelCellars", name := "again", desc := "(Ljava/lang/Object;)Ljava/lang/Object;" } : Jvm.MethodName) prog_1_method_74_code (3 : Nat) (Option.some (Jvm.ClassFile.FieldType.object "java/lang/Object"))) ∈ lw_all := lw_g (lw_at lw_m6 6 rfl) rfl
theorem q1278 : (Jvm.Cond.classLink "LevelCellars" (463 : Nat) "LevelCellars$Figure") ∈ lw_all := lw_g (lw_at lw_m6 7 rfl) rfl
theorem q1280 : (Jvm.Cond.methodLink "LevelCellars" (475 : Nat) ({ cls := "LevelCellars$Figure", name := "<init>", desc := "(I)V" } : Jvm.MethodName)) ∈ lw_all := lw_g (lw_at lw_m6 9 rfl) rfl
theorem q1285 : (Jvm.Cond.fieldLink "LevelCellars" (482 : Nat) "LevelCellars$Figure" "v" "I") ∈ lw_all := lw_g (lw_at lw_m6 14 rfl) rfl
theorem q1289 : (Jvm.Cond.methodLink "LevelCellars" (476 : Nat) ({ cls := "LevelCellars", name := "thingOf", desc := "(Ljava/lang/Object;)I" } : Jvm.MethodName)) ∈ lw_all := lw_g (lw_at lw_m6 18 rfl) rfl
theorem q1290 : (Jvm.Cond.static ({ cls := "LevelCellars", name := "thingOf", desc := "(Ljava/lang/Object;)I" } : Jvm.MethodName)) ∈ lw_all := lw_g (lw_at lw_m6 19 rfl) rfl
theorem q1291 : (Jvm.Cond.code ({ cls := "LevelCellars", name := "thingOf", desc := "(Ljava/lang/Object;)I" } : Jvm.MethodName) prog_1_method_75_code (1 : Nat) (Option.some Jvm.ClassFile.FieldType.int)) ∈ lw_all := lw_g (lw_at lw_m6 20 rfl) rfl
theorem q1293 : (Jvm.Cond.instanceMethod ({ cls := "LevelCellars", name := "ask", desc := "(II)I" } : Jvm.MethodName)) ∈ lw_all := lw_g (lw_at lw_m6 22 rfl) rfl
theorem q1294 : (Jvm.Cond.selects "LevelCellars" ({ cls := "LevelCellars", name := "ask", desc := "(II)I" } : Jvm.MethodName) ({ cls := "LevelCellars", name := "ask", desc := "(II)I" } : Jvm.MethodName)) ∈ lw_all := lw_g (lw_at lw_m6 23 rfl) rfl
theorem q1295 : (Jvm.Cond.codeWith ({ cls := "LevelCellars", name := "ask", desc := "(II)I" } : Jvm.MethodName) prog_1_method_77_code (4 : Nat) (Option.some Jvm.ClassFile.FieldType.int) [((22 : Nat), (42 : Nat), (43 : Nat), (450 : Nat)), ((22 : Nat), (42 : Nat), (48 : Nat), (157 : Nat))]) ∈ lw_all := lw_g (lw_at lw_m6 24 rfl) rfl
theorem q1296 : (Jvm.Cond.interfaceEntry "LevelCellars" (479 : Nat)) ∈ lw_tbl := lw_at lw_m6 25 rfl
theorem q1297 : (Jvm.Cond.methodLink "LevelCellars" (479 : Nat) ({ cls := "LevelCellars$Weighs", name := "worth", desc := "()I" } : Jvm.MethodName)) ∈ lw_all := lw_g (lw_at lw_m6 26 rfl) rfl
theorem q1325 : (Jvm.Cond.instanceMethod ({ cls := "LevelCellars", name := "item", desc := "(II)I" } : Jvm.MethodName)) ∈ lw_all := lw_g (lw_at lw_m6 54 rfl) rfl
theorem q1326 : (Jvm.Cond.selects "LevelCellars" ({ cls := "LevelCellars", name := "item", desc := "(II)I" } : Jvm.MethodName) ({ cls := "LevelCellars", name := "item", desc := "(II)I" } : Jvm.MethodName)) ∈ lw_all := lw_g (lw_at lw_m6 55 rfl) rfl
theorem q1327 : (Jvm.Cond.codeWith ({ cls := "LevelCellars", name := "item", desc := "(II)I" } : Jvm.MethodName) prog_1_method_78_code (5 : Nat) (Option.some Jvm.ClassFile.FieldType.int) [((10 : Nat), (50 : Nat), (51 : Nat), (450 : Nat)), ((10 : Nat), (50 : Nat), (56 : Nat), (157 : Nat)), ((10 : Nat), (50 : Nat), (60 : Nat), (428 : Nat))]) ∈ lw_all := lw_g (lw_at lw_m6 56 rfl) rfl
theorem q1329 : (Jvm.Cond.instanceMethod ({ cls := "LevelCellars", name := "rest", desc := "(II)I" } : Jvm.MethodName)) ∈ lw_all := lw_g (lw_at lw_m6 58 rfl) rfl
theorem q1330 : (Jvm.Cond.selects "LevelCellars" ({ cls := "LevelCellars", name := "rest", desc := "(II)I" } : Jvm.MethodName) ({ cls := "LevelCellars", name := "rest", desc := "(II)I" } : Jvm.MethodName)) ∈ lw_all := lw_g (lw_at lw_m6 59 rfl) rfl
theorem q1331 : (Jvm.Cond.codeWith ({ cls := "LevelCellars", name := "rest", desc := "(II)I" } : Jvm.MethodName) prog_1_method_79_code (4 : Nat) (Option.some Jvm.ClassFile.FieldType.int) [((10 : Nat), (27 : Nat), (28 : Nat), (450 : Nat)), ((10 : Nat), (27 : Nat), (33 : Nat), (157 : Nat)), ((10 : Nat), (27 : Nat), (37 : Nat), (485 : Nat))]) ∈ lw_all := lw_g (lw_at lw_m6 60 rfl) rfl
theorem q1332 : (Jvm.Cond.classLink "LevelCellars" (485 : Nat) "java/lang/ArithmeticException") ∈ lw_all := lw_g (lw_at lw_m6 61 rfl) rfl
theorem q1346 : (Jvm.Cond.constant "LevelCellars" (487 : Nat) (-1000000002 : Int32)) ∈ lw_all := lw_g (lw_at lw_m6 75 rfl) rfl
theorem q1348 : (Jvm.Cond.instanceMethod ({ cls := "LevelCellars", name := "tell", desc := "(I)I" } : Jvm.MethodName)) ∈ lw_all := lw_g (lw_at lw_m6 77 rfl) rfl
theorem q1349 : (Jvm.Cond.selects "LevelCellars" ({ cls := "LevelCellars", name := "tell", desc := "(I)I" } : Jvm.MethodName) ({ cls := "LevelCellars", name := "tell", desc := "(I)I" } : Jvm.MethodName)) ∈ lw_all := lw_g (lw_at lw_m6 78 rfl) rfl
theorem q1350 : (Jvm.Cond.code ({ cls := "LevelCellars", name := "tell", desc := "(I)I" } : Jvm.MethodName) prog_1_method_80_code (2 : Nat) (Option.some Jvm.ClassFile.FieldType.int)) ∈ lw_all := lw_g (lw_at lw_m6 79 rfl) rfl
theorem q1352 : (Jvm.Cond.instanceMethod ({ cls := "LevelCellars", name := "check", desc := "(I)I" } : Jvm.MethodName)) ∈ lw_all := lw_g (lw_at lw_m6 81 rfl) rfl
theorem q1353 : (Jvm.Cond.selects "LevelCellars" ({ cls := "LevelCellars", name := "check", desc := "(I)I" } : Jvm.MethodName) ({ cls := "LevelCellars", name := "check", desc := "(I)I" } : Jvm.MethodName)) ∈ lw_all := lw_g (lw_at lw_m6 82 rfl) rfl
theorem q1354 : (Jvm.Cond.codeWith ({ cls := "LevelCellars", name := "check", desc := "(I)I" } : Jvm.MethodName) prog_1_method_82_code (6 : Nat) (Option.some Jvm.ClassFile.FieldType.int) [((5 : Nat), (20 : Nat), (171 : Nat), (0 : Nat)), ((32 : Nat), (43 : Nat), (171 : Nat), (0 : Nat)), ((55 : Nat), (159 : Nat), (171 : Nat), (0 : Nat)), ((171 : Nat), (173 : Nat), (171 : Nat), (0 : Nat))]) ∈ lw_all := lw_g (lw_at lw_m6 83 rfl) rfl
theorem q1355 : (Jvm.Cond.constantLong "LevelCellars" (498 : Nat) (30 : Int64)) ∈ lw_all := lw_g (lw_at lw_m6 84 rfl) rfl
theorem q1356 : (Jvm.Cond.methodLink "LevelCellars" (503 : Nat) ({ cls := "LevelCellars", name := "due", desc := "(I)V" } : Jvm.MethodName)) ∈ lw_all := lw_g (lw_at lw_m6 85 rfl) rfl
theorem q1357 : (Jvm.Cond.privateMethod ({ cls := "LevelCellars", name := "due", desc := "(I)V" } : Jvm.MethodName)) ∈ lw_tbl := lw_at lw_m6 86 rfl
theorem q1358 : (Jvm.Cond.instanceMethod ({ cls := "LevelCellars", name := "due", desc := "(I)V" } : Jvm.MethodName)) ∈ lw_all := lw_g (lw_at lw_m6 87 rfl) rfl
theorem q1359 : (Jvm.Cond.code ({ cls := "LevelCellars", name := "due", desc := "(I)V" } : Jvm.MethodName) prog_1_method_81_code (2 : Nat) (Option.none : Option Jvm.ClassFile.FieldType)) ∈ lw_all := lw_g (lw_at lw_m6 88 rfl) rfl
theorem q1361 : (Jvm.Cond.instanceMethod ({ cls := "LevelCellars", name := "keep", desc := "()I" } : Jvm.MethodName)) ∈ lw_all := lw_g (lw_at lw_m6 90 rfl) rfl
theorem q1362 : (Jvm.Cond.selects "LevelCellars" ({ cls := "LevelCellars", name := "keep", desc := "()I" } : Jvm.MethodName) ({ cls := "LevelCellars", name := "keep", desc := "()I" } : Jvm.MethodName)) ∈ lw_all := lw_g (lw_at lw_m6 91 rfl) rfl
theorem q1363 : (Jvm.Cond.code ({ cls := "LevelCellars", name := "keep", desc := "()I" } : Jvm.MethodName) prog_1_method_83_code (1 : Nat) (Option.some Jvm.ClassFile.FieldType.int)) ∈ lw_all := lw_g (lw_at lw_m6 92 rfl) rfl
theorem q1365 : (Jvm.Cond.instanceMethod ({ cls := "LevelCellars", name := "back", desc := "()I" } : Jvm.MethodName)) ∈ lw_all := lw_g (lw_at lw_m6 94 rfl) rfl
theorem q1366 : (Jvm.Cond.selects "LevelCellars" ({ cls := "LevelCellars", name := "back", desc := "()I" } : Jvm.MethodName) ({ cls := "LevelCellars", name := "back", desc := "()I" } : Jvm.MethodName)) ∈ lw_all := lw_g (lw_at lw_m6 95 rfl) rfl
theorem q1367 : (Jvm.Cond.code ({ cls := "LevelCellars", name := "back", desc := "()I" } : Jvm.MethodName) prog_1_method_84_code (1 : Nat) (Option.some Jvm.ClassFile.FieldType.int)) ∈ lw_all := lw_g (lw_at lw_m6 96 rfl) rfl
theorem q1369 : (Jvm.Cond.instanceMethod ({ cls := "LevelCellars", name := "count", desc := "(I)I" } : Jvm.MethodName)) ∈ lw_all := lw_g (lw_at lw_m6 98 rfl) rfl
theorem q1370 : (Jvm.Cond.selects "LevelCellars" ({ cls := "LevelCellars", name := "count", desc := "(I)I" } : Jvm.MethodName) ({ cls := "LevelCellars", name := "count", desc := "(I)I" } : Jvm.MethodName)) ∈ lw_all := lw_g (lw_at lw_m6 99 rfl) rfl
theorem q1371 : (Jvm.Cond.code ({ cls := "LevelCellars", name := "count", desc := "(I)I" } : Jvm.MethodName) prog_1_method_85_code (2 : Nat) (Option.some Jvm.ClassFile.FieldType.int)) ∈ lw_all := lw_g (lw_at lw_m6 100 rfl) rfl
theorem q1372 : (Jvm.Cond.methodLink "LevelCellars" (506 : Nat) ({ cls := "LevelCellars$Town", name := "corked", desc := "()I" } : Jvm.MethodName)) ∈ lw_all := lw_g (lw_at lw_m6 101 rfl) rfl
theorem in_X0 : ∀ w ∈ wsX00, w ∈ lw_all := lw_in wsX00 [217, 219, 221, 223, 225, 227, 229, 231, 233, 235, 237, 239, 241, 243, 245, 247, 249, 251, 253, 255, 257, 259] (by decide +kernel) (by decide +kernel)
