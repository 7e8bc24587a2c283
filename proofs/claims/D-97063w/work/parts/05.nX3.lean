/-! LevelCellarsModel -/
set_option maxRecDepth 100000
def RX3 : String := "LevelCellarsModel"
def TX3 : u_T := fun k => match k with
  | 0 => ("LevelCellarsModel", "now", "[I", true)
  | 1 => ("LevelCellarsModel", "image", "[I", true)
  | 2 => ("LevelCellarsModel", "aside", "[I", true)
  | 3 => ("LevelCellarsModel", "hasImage", "Z", false)
  | 4 => ("LevelCellarsModel", "goes", "[I", true)
  | 5 => ("LevelCellarsModel", "before", "[I", true)
  | 6 => ("LevelCellarsModel", "fullWas", "[I", true)
  | 7 => ("LevelCellarsModel", "tape", "[I", true)
  | 8 => ("LevelCellarsModel", "taped", "I", false)
  | 9 => ("LevelCellarsModel", "next", "I", false)
  | 10 => ("LevelCellarsModel", "from", "I", false)
  | 11 => ("LevelCellarsModel", "token", "I", false)
  | 12 => ("LevelCellarsModel", "value", "I", false)
  | 13 => ("LevelCellarsModel", "ended", "I", false)
  | 14 => ("LevelCellarsModel", "key", "I", false)
  | 15 => ("LevelCellarsModel", "keys", "[C", true)
  | 16 => ("LevelCellarsModel", "keyAt", "[I", true)
  | 17 => ("LevelCellarsModel", "code", "[I", true)
  | 18 => ("LevelCellarsModel", "codes", "I", false)
  | 19 => ("LevelCellarsModel", "atoms", "I", false)
  | 20 => ("LevelCellarsModel", "waits", "[I", true)
  | 21 => ("LevelCellarsModel", "held", "I", false)
  | 22 => ("LevelCellarsModel", "tested", "[Z", true)
  | 23 => ("LevelCellarsModel", "stack", "[I", true)
  | 24 => ("LevelCellarsModel", "facts", "[I", true)
  | 25 => ("LevelCellarsModel", "sorts", "[I", true)
  | 26 => ("LevelCellarsModel", "sizes", "[I", true)
  | 27 => ("LevelCellarsModel", "cells", "[I", true)
  | 28 => ("LevelCellarsModel", "holds", "[I", true)
  | 29 => ("LevelCellarsModel", "holdsA", "[I", true)
  | 30 => ("LevelCellarsModel", "holdsB", "[I", true)
  | 31 => ("LevelCellarsModel", "heldCells", "[I", true)
  | 32 => ("LevelCellarsModel", "moved", "[I", true)
  | 33 => ("LevelCellarsModel", "tells", "[I", true)
  | _ => ("LevelCellarsModel", "waiting", "I", false)
def tyX3 : Nat → FieldType := fun k => match k with
  | 0 => .array .int
  | 1 => .array .int
  | 2 => .array .int
  | 3 => .boolean
  | 4 => .array .int
  | 5 => .array .int
  | 6 => .array .int
  | 7 => .array .int
  | 8 => .int
  | 9 => .int
  | 10 => .int
  | 11 => .int
  | 12 => .int
  | 13 => .int
  | 14 => .int
  | 15 => .array .char
  | 16 => .array .int
  | 17 => .array .int
  | 18 => .int
  | 19 => .int
  | 20 => .array .int
  | 21 => .int
  | 22 => .array .boolean
  | 23 => .array .int
  | 24 => .array .int
  | 25 => .array .int
  | 26 => .array .int
  | 27 => .array .int
  | 28 => .array .int
  | 29 => .array .int
  | 30 => .array .int
  | 31 => .array .int
  | 32 => .array .int
  | 33 => .array .int
  | _ => .int
abbrev wsX30 : List Cond := u_ws RX3 TX3 35
set_option maxRecDepth 100000 in
theorem nmX3 : ∀ a, a < 35 → ∀ b, b < 35 → a ≠ b → (TX3 a).2.1 ≠ (TX3 b).2.1 := by decide +kernel
set_option maxRecDepth 100000 in
theorem tyX3_ok : ∀ k, k < 35 → parseFieldDescriptor (TX3 k).2.2.1 = some (tyX3 k) := by decide +kernel
abbrev cX3_init : ByteArray := prog_22_method_1_code
def yX3_init : MethodName := ⟨RX3, "<init>", "()V"⟩
def dkwX3_init_12 : List UInt8 := [4, 79, 177]
abbrev dktX3_init_12 : List UInt8 := dkwX3_init_12 ++ []
def dkwX3_init_11 : List UInt8 := [181, 0, 72, 42, 16, 24, 188, 10, 181, 0, 75, 42, 16, 60, 188, 10, 181, 0, 78, 42, 180, 0, 9, 3]
abbrev dktX3_init_11 : List UInt8 := dkwX3_init_11 ++ dktX3_init_12
def dkwX3_init_10 : List UInt8 := [181, 0, 63, 42, 8, 188, 10, 181, 0, 66, 42, 8, 188, 10, 181, 0, 69, 42, 16, 120, 188, 10]
abbrev dktX3_init_10 : List UInt8 := dkwX3_init_10 ++ dktX3_init_11
def dkwX3_init_9 : List UInt8 := [79, 181, 0, 54, 42, 7, 188, 10, 181, 0, 57, 42, 16, 96, 188, 10, 181, 0, 60, 42, 8, 188, 10]
abbrev dktX3_init_9 : List UInt8 := dkwX3_init_9 ++ dktX3_init_10
def dkwX3_init_8 : List UInt8 := [188, 10, 181, 0, 51, 42, 7, 188, 10, 89, 3, 2, 79, 89, 4, 2, 79, 89, 5, 2, 79, 89, 6, 2]
abbrev dktX3_init_8 : List UInt8 := dkwX3_init_8 ++ dktX3_init_9
def dkwX3_init_7 : List UInt8 := [188, 10, 181, 0, 41, 42, 16, 10, 188, 4, 181, 0, 44, 42, 16, 96, 188, 10, 181, 0, 48, 42, 7]
abbrev dktX3_init_7 : List UInt8 := dkwX3_init_7 ++ dktX3_init_8
def dkwX3_init_6 : List UInt8 := [89, 5, 16, 7, 79, 89, 6, 16, 11, 79, 181, 0, 35, 42, 16, 96, 188, 10, 181, 0, 38, 42, 16, 96]
abbrev dktX3_init_6 : List UInt8 := dkwX3_init_6 ++ dktX3_init_7
def dkwX3_init_5 : List UInt8 := [16, 110, 85, 89, 16, 10, 16, 101, 85, 181, 0, 31, 42, 7, 188, 10, 89, 3, 3, 79, 89, 4, 7, 79]
abbrev dktX3_init_5 : List UInt8 := dkwX3_init_5 ++ dktX3_init_6
def dkwX3_init_4 : List UInt8 := [16, 101, 85, 89, 16, 6, 16, 101, 85, 89, 16, 7, 16, 102, 85, 89, 16, 8, 16, 105, 85, 89, 16, 9]
abbrev dktX3_init_4 : List UInt8 := dkwX3_init_4 ++ dktX3_init_5
def dkwX3_init_3 : List UInt8 := [85, 89, 4, 16, 105, 85, 89, 5, 16, 103, 85, 89, 6, 16, 104, 85, 89, 7, 16, 102, 85, 89, 8]
abbrev dktX3_init_3 : List UInt8 := dkwX3_init_3 ++ dktX3_init_4
def dkwX3_init_2 : List UInt8 := [16, 8, 188, 10, 181, 0, 25, 42, 16, 96, 188, 10, 181, 0, 28, 42, 16, 11, 188, 5, 89, 3, 16, 104]
abbrev dktX3_init_2 : List UInt8 := dkwX3_init_2 ++ dktX3_init_3
def dkwX3_init_1 : List UInt8 := [17, 5, 199, 188, 10, 181, 0, 16, 42, 6, 188, 10, 181, 0, 19, 42, 16, 107, 188, 10, 181, 0, 22, 42]
abbrev dktX3_init_1 : List UInt8 := dkwX3_init_1 ++ dktX3_init_2
def dkwX3_init_0 : List UInt8 := [42, 183, 0, 1, 42, 17, 5, 199, 188, 10, 181, 0, 9, 42, 17, 5, 199, 188, 10, 181, 0, 13, 42]
abbrev dktX3_init_0 : List UInt8 := dkwX3_init_0 ++ dktX3_init_1
theorem dksX3_init_0 : cX3_init.data.toList.drop 0 = dktX3_init_0 := by decide +kernel
theorem dksX3_init_1 : cX3_init.data.toList.drop 23 = dktX3_init_1 := dk_seg dksX3_init_0 23 rfl rfl
theorem dksX3_init_2 : cX3_init.data.toList.drop 47 = dktX3_init_2 := dk_seg dksX3_init_1 24 rfl rfl
theorem dksX3_init_3 : cX3_init.data.toList.drop 71 = dktX3_init_3 := dk_seg dksX3_init_2 24 rfl rfl
theorem dksX3_init_4 : cX3_init.data.toList.drop 94 = dktX3_init_4 := dk_seg dksX3_init_3 23 rfl rfl
theorem dksX3_init_5 : cX3_init.data.toList.drop 118 = dktX3_init_5 := dk_seg dksX3_init_4 24 rfl rfl
theorem dksX3_init_6 : cX3_init.data.toList.drop 142 = dktX3_init_6 := dk_seg dksX3_init_5 24 rfl rfl
theorem dksX3_init_7 : cX3_init.data.toList.drop 166 = dktX3_init_7 := dk_seg dksX3_init_6 24 rfl rfl
theorem dksX3_init_8 : cX3_init.data.toList.drop 189 = dktX3_init_8 := dk_seg dksX3_init_7 23 rfl rfl
theorem dksX3_init_9 : cX3_init.data.toList.drop 213 = dktX3_init_9 := dk_seg dksX3_init_8 24 rfl rfl
theorem dksX3_init_10 : cX3_init.data.toList.drop 236 = dktX3_init_10 := dk_seg dksX3_init_9 23 rfl rfl
theorem dksX3_init_11 : cX3_init.data.toList.drop 258 = dktX3_init_11 := dk_seg dksX3_init_10 22 rfl rfl
theorem dksX3_init_12 : cX3_init.data.toList.drop 282 = dktX3_init_12 := dk_seg dksX3_init_11 24 rfl rfl
theorem dX3_init_0 : decode cX3_init 0 = .ok (.aload_n 0, 1) := dk_42 (dk_at dksX3_init_0 0 rfl rfl)
theorem dX3_init_1 : decode cX3_init 1 = .ok (.invokespecial 1, 3) := dk_183 0 1 (dk_at dksX3_init_0 1 rfl rfl)
theorem dX3_init_4 : decode cX3_init 4 = .ok (.aload_n 0, 1) := dk_42 (dk_at dksX3_init_0 4 rfl rfl)
theorem dX3_init_5 : decode cX3_init 5 = .ok (.sipush 1479, 3) := dk_17 5 199 (dk_at dksX3_init_0 5 rfl rfl)
theorem dX3_init_8 : decode cX3_init 8 = .ok (.newarray .int, 2) := dk_188_10 (dk_at dksX3_init_0 8 rfl rfl)
theorem dX3_init_10 : decode cX3_init 10 = .ok (.putfield 9, 3) := dk_181 0 9 (dk_at dksX3_init_0 10 rfl rfl)
theorem dX3_init_13 : decode cX3_init 13 = .ok (.aload_n 0, 1) := dk_42 (dk_at dksX3_init_0 13 rfl rfl)
theorem dX3_init_14 : decode cX3_init 14 = .ok (.sipush 1479, 3) := dk_17 5 199 (dk_at dksX3_init_0 14 rfl rfl)
theorem dX3_init_17 : decode cX3_init 17 = .ok (.newarray .int, 2) := dk_188_10 (dk_at dksX3_init_0 17 rfl rfl)
theorem dX3_init_19 : decode cX3_init 19 = .ok (.putfield 13, 3) := dk_181 0 13 (dk_at dksX3_init_0 19 rfl rfl)
theorem dX3_init_22 : decode cX3_init 22 = .ok (.aload_n 0, 1) := dk_42 (dk_at dksX3_init_0 22 rfl rfl)
theorem dX3_init_23 : decode cX3_init 23 = .ok (.sipush 1479, 3) := dk_17 5 199 (dk_at dksX3_init_1 0 rfl rfl)
theorem dX3_init_26 : decode cX3_init 26 = .ok (.newarray .int, 2) := dk_188_10 (dk_at dksX3_init_1 3 rfl rfl)
theorem dX3_init_28 : decode cX3_init 28 = .ok (.putfield 16, 3) := dk_181 0 16 (dk_at dksX3_init_1 5 rfl rfl)
theorem dX3_init_31 : decode cX3_init 31 = .ok (.aload_n 0, 1) := dk_42 (dk_at dksX3_init_1 8 rfl rfl)
theorem dX3_init_32 : decode cX3_init 32 = .ok (.iconst 3, 1) := dk_6 (dk_at dksX3_init_1 9 rfl rfl)
theorem dX3_init_33 : decode cX3_init 33 = .ok (.newarray .int, 2) := dk_188_10 (dk_at dksX3_init_1 10 rfl rfl)
theorem dX3_init_35 : decode cX3_init 35 = .ok (.putfield 19, 3) := dk_181 0 19 (dk_at dksX3_init_1 12 rfl rfl)
theorem dX3_init_38 : decode cX3_init 38 = .ok (.aload_n 0, 1) := dk_42 (dk_at dksX3_init_1 15 rfl rfl)
theorem dX3_init_39 : decode cX3_init 39 = .ok (.bipush 107, 2) := dk_16 107 (dk_at dksX3_init_1 16 rfl rfl)
theorem dX3_init_41 : decode cX3_init 41 = .ok (.newarray .int, 2) := dk_188_10 (dk_at dksX3_init_1 18 rfl rfl)
theorem dX3_init_43 : decode cX3_init 43 = .ok (.putfield 22, 3) := dk_181 0 22 (dk_at dksX3_init_1 20 rfl rfl)
theorem dX3_init_46 : decode cX3_init 46 = .ok (.aload_n 0, 1) := dk_42 (dk_at dksX3_init_1 23 rfl rfl)
theorem dX3_init_47 : decode cX3_init 47 = .ok (.bipush 8, 2) := dk_16 8 (dk_at dksX3_init_2 0 rfl rfl)
theorem dX3_init_49 : decode cX3_init 49 = .ok (.newarray .int, 2) := dk_188_10 (dk_at dksX3_init_2 2 rfl rfl)
theorem dX3_init_51 : decode cX3_init 51 = .ok (.putfield 25, 3) := dk_181 0 25 (dk_at dksX3_init_2 4 rfl rfl)
theorem dX3_init_54 : decode cX3_init 54 = .ok (.aload_n 0, 1) := dk_42 (dk_at dksX3_init_2 7 rfl rfl)
theorem dX3_init_55 : decode cX3_init 55 = .ok (.bipush 96, 2) := dk_16 96 (dk_at dksX3_init_2 8 rfl rfl)
theorem dX3_init_57 : decode cX3_init 57 = .ok (.newarray .int, 2) := dk_188_10 (dk_at dksX3_init_2 10 rfl rfl)
theorem dX3_init_59 : decode cX3_init 59 = .ok (.putfield 28, 3) := dk_181 0 28 (dk_at dksX3_init_2 12 rfl rfl)
theorem dX3_init_62 : decode cX3_init 62 = .ok (.aload_n 0, 1) := dk_42 (dk_at dksX3_init_2 15 rfl rfl)
theorem dX3_init_63 : decode cX3_init 63 = .ok (.bipush 11, 2) := dk_16 11 (dk_at dksX3_init_2 16 rfl rfl)
theorem dX3_init_65 : decode cX3_init 65 = .ok (.newarray .char, 2) := dk_188_5 (dk_at dksX3_init_2 18 rfl rfl)
theorem dX3_init_67 : decode cX3_init 67 = .ok (.dup, 1) := dk_89 (dk_at dksX3_init_2 20 rfl rfl)
theorem dX3_init_68 : decode cX3_init 68 = .ok (.iconst 0, 1) := dk_3 (dk_at dksX3_init_2 21 rfl rfl)
theorem dX3_init_69 : decode cX3_init 69 = .ok (.bipush 104, 2) := dk_16 104 (dk_at dksX3_init_2 22 rfl rfl)
theorem dX3_init_71 : decode cX3_init 71 = .ok (.castore, 1) := dk_85 (dk_at dksX3_init_3 0 rfl rfl)
theorem dX3_init_72 : decode cX3_init 72 = .ok (.dup, 1) := dk_89 (dk_at dksX3_init_3 1 rfl rfl)
theorem dX3_init_73 : decode cX3_init 73 = .ok (.iconst 1, 1) := dk_4 (dk_at dksX3_init_3 2 rfl rfl)
theorem dX3_init_74 : decode cX3_init 74 = .ok (.bipush 105, 2) := dk_16 105 (dk_at dksX3_init_3 3 rfl rfl)
theorem dX3_init_76 : decode cX3_init 76 = .ok (.castore, 1) := dk_85 (dk_at dksX3_init_3 5 rfl rfl)
theorem dX3_init_77 : decode cX3_init 77 = .ok (.dup, 1) := dk_89 (dk_at dksX3_init_3 6 rfl rfl)
theorem dX3_init_78 : decode cX3_init 78 = .ok (.iconst 2, 1) := dk_5 (dk_at dksX3_init_3 7 rfl rfl)
theorem dX3_init_79 : decode cX3_init 79 = .ok (.bipush 103, 2) := dk_16 103 (dk_at dksX3_init_3 8 rfl rfl)
theorem dX3_init_81 : decode cX3_init 81 = .ok (.castore, 1) := dk_85 (dk_at dksX3_init_3 10 rfl rfl)
theorem dX3_init_82 : decode cX3_init 82 = .ok (.dup, 1) := dk_89 (dk_at dksX3_init_3 11 rfl rfl)
theorem dX3_init_83 : decode cX3_init 83 = .ok (.iconst 3, 1) := dk_6 (dk_at dksX3_init_3 12 rfl rfl)
theorem dX3_init_84 : decode cX3_init 84 = .ok (.bipush 104, 2) := dk_16 104 (dk_at dksX3_init_3 13 rfl rfl)
theorem dX3_init_86 : decode cX3_init 86 = .ok (.castore, 1) := dk_85 (dk_at dksX3_init_3 15 rfl rfl)
theorem dX3_init_87 : decode cX3_init 87 = .ok (.dup, 1) := dk_89 (dk_at dksX3_init_3 16 rfl rfl)
theorem dX3_init_88 : decode cX3_init 88 = .ok (.iconst 4, 1) := dk_7 (dk_at dksX3_init_3 17 rfl rfl)
theorem dX3_init_89 : decode cX3_init 89 = .ok (.bipush 102, 2) := dk_16 102 (dk_at dksX3_init_3 18 rfl rfl)
theorem dX3_init_91 : decode cX3_init 91 = .ok (.castore, 1) := dk_85 (dk_at dksX3_init_3 20 rfl rfl)
theorem dX3_init_92 : decode cX3_init 92 = .ok (.dup, 1) := dk_89 (dk_at dksX3_init_3 21 rfl rfl)
theorem dX3_init_93 : decode cX3_init 93 = .ok (.iconst 5, 1) := dk_8 (dk_at dksX3_init_3 22 rfl rfl)
theorem dX3_init_94 : decode cX3_init 94 = .ok (.bipush 101, 2) := dk_16 101 (dk_at dksX3_init_4 0 rfl rfl)
theorem dX3_init_96 : decode cX3_init 96 = .ok (.castore, 1) := dk_85 (dk_at dksX3_init_4 2 rfl rfl)
theorem dX3_init_97 : decode cX3_init 97 = .ok (.dup, 1) := dk_89 (dk_at dksX3_init_4 3 rfl rfl)
theorem dX3_init_98 : decode cX3_init 98 = .ok (.bipush 6, 2) := dk_16 6 (dk_at dksX3_init_4 4 rfl rfl)
theorem dX3_init_100 : decode cX3_init 100 = .ok (.bipush 101, 2) := dk_16 101 (dk_at dksX3_init_4 6 rfl rfl)
theorem dX3_init_102 : decode cX3_init 102 = .ok (.castore, 1) := dk_85 (dk_at dksX3_init_4 8 rfl rfl)
theorem dX3_init_103 : decode cX3_init 103 = .ok (.dup, 1) := dk_89 (dk_at dksX3_init_4 9 rfl rfl)
theorem dX3_init_104 : decode cX3_init 104 = .ok (.bipush 7, 2) := dk_16 7 (dk_at dksX3_init_4 10 rfl rfl)
theorem dX3_init_106 : decode cX3_init 106 = .ok (.bipush 102, 2) := dk_16 102 (dk_at dksX3_init_4 12 rfl rfl)
theorem dX3_init_108 : decode cX3_init 108 = .ok (.castore, 1) := dk_85 (dk_at dksX3_init_4 14 rfl rfl)
theorem dX3_init_109 : decode cX3_init 109 = .ok (.dup, 1) := dk_89 (dk_at dksX3_init_4 15 rfl rfl)
theorem dX3_init_110 : decode cX3_init 110 = .ok (.bipush 8, 2) := dk_16 8 (dk_at dksX3_init_4 16 rfl rfl)
theorem dX3_init_112 : decode cX3_init 112 = .ok (.bipush 105, 2) := dk_16 105 (dk_at dksX3_init_4 18 rfl rfl)
theorem dX3_init_114 : decode cX3_init 114 = .ok (.castore, 1) := dk_85 (dk_at dksX3_init_4 20 rfl rfl)
theorem dX3_init_115 : decode cX3_init 115 = .ok (.dup, 1) := dk_89 (dk_at dksX3_init_4 21 rfl rfl)
theorem dX3_init_116 : decode cX3_init 116 = .ok (.bipush 9, 2) := dk_16 9 (dk_at dksX3_init_4 22 rfl rfl)
theorem dX3_init_118 : decode cX3_init 118 = .ok (.bipush 110, 2) := dk_16 110 (dk_at dksX3_init_5 0 rfl rfl)
theorem dX3_init_120 : decode cX3_init 120 = .ok (.castore, 1) := dk_85 (dk_at dksX3_init_5 2 rfl rfl)
theorem dX3_init_121 : decode cX3_init 121 = .ok (.dup, 1) := dk_89 (dk_at dksX3_init_5 3 rfl rfl)
theorem dX3_init_122 : decode cX3_init 122 = .ok (.bipush 10, 2) := dk_16 10 (dk_at dksX3_init_5 4 rfl rfl)
theorem dX3_init_124 : decode cX3_init 124 = .ok (.bipush 101, 2) := dk_16 101 (dk_at dksX3_init_5 6 rfl rfl)
theorem dX3_init_126 : decode cX3_init 126 = .ok (.castore, 1) := dk_85 (dk_at dksX3_init_5 8 rfl rfl)
theorem dX3_init_127 : decode cX3_init 127 = .ok (.putfield 31, 3) := dk_181 0 31 (dk_at dksX3_init_5 9 rfl rfl)
theorem dX3_init_130 : decode cX3_init 130 = .ok (.aload_n 0, 1) := dk_42 (dk_at dksX3_init_5 12 rfl rfl)
theorem dX3_init_131 : decode cX3_init 131 = .ok (.iconst 4, 1) := dk_7 (dk_at dksX3_init_5 13 rfl rfl)
theorem dX3_init_132 : decode cX3_init 132 = .ok (.newarray .int, 2) := dk_188_10 (dk_at dksX3_init_5 14 rfl rfl)
theorem dX3_init_134 : decode cX3_init 134 = .ok (.dup, 1) := dk_89 (dk_at dksX3_init_5 16 rfl rfl)
theorem dX3_init_135 : decode cX3_init 135 = .ok (.iconst 0, 1) := dk_3 (dk_at dksX3_init_5 17 rfl rfl)
theorem dX3_init_136 : decode cX3_init 136 = .ok (.iconst 0, 1) := dk_3 (dk_at dksX3_init_5 18 rfl rfl)
theorem dX3_init_137 : decode cX3_init 137 = .ok (.iastore, 1) := dk_79 (dk_at dksX3_init_5 19 rfl rfl)
theorem dX3_init_138 : decode cX3_init 138 = .ok (.dup, 1) := dk_89 (dk_at dksX3_init_5 20 rfl rfl)
theorem dX3_init_139 : decode cX3_init 139 = .ok (.iconst 1, 1) := dk_4 (dk_at dksX3_init_5 21 rfl rfl)
theorem dX3_init_140 : decode cX3_init 140 = .ok (.iconst 4, 1) := dk_7 (dk_at dksX3_init_5 22 rfl rfl)
theorem dX3_init_141 : decode cX3_init 141 = .ok (.iastore, 1) := dk_79 (dk_at dksX3_init_5 23 rfl rfl)
theorem dX3_init_142 : decode cX3_init 142 = .ok (.dup, 1) := dk_89 (dk_at dksX3_init_6 0 rfl rfl)
theorem dX3_init_143 : decode cX3_init 143 = .ok (.iconst 2, 1) := dk_5 (dk_at dksX3_init_6 1 rfl rfl)
theorem dX3_init_144 : decode cX3_init 144 = .ok (.bipush 7, 2) := dk_16 7 (dk_at dksX3_init_6 2 rfl rfl)
theorem dX3_init_146 : decode cX3_init 146 = .ok (.iastore, 1) := dk_79 (dk_at dksX3_init_6 4 rfl rfl)
theorem dX3_init_147 : decode cX3_init 147 = .ok (.dup, 1) := dk_89 (dk_at dksX3_init_6 5 rfl rfl)
theorem dX3_init_148 : decode cX3_init 148 = .ok (.iconst 3, 1) := dk_6 (dk_at dksX3_init_6 6 rfl rfl)
theorem dX3_init_149 : decode cX3_init 149 = .ok (.bipush 11, 2) := dk_16 11 (dk_at dksX3_init_6 7 rfl rfl)
theorem dX3_init_151 : decode cX3_init 151 = .ok (.iastore, 1) := dk_79 (dk_at dksX3_init_6 9 rfl rfl)
theorem dX3_init_152 : decode cX3_init 152 = .ok (.putfield 35, 3) := dk_181 0 35 (dk_at dksX3_init_6 10 rfl rfl)
theorem dX3_init_155 : decode cX3_init 155 = .ok (.aload_n 0, 1) := dk_42 (dk_at dksX3_init_6 13 rfl rfl)
theorem dX3_init_156 : decode cX3_init 156 = .ok (.bipush 96, 2) := dk_16 96 (dk_at dksX3_init_6 14 rfl rfl)
theorem dX3_init_158 : decode cX3_init 158 = .ok (.newarray .int, 2) := dk_188_10 (dk_at dksX3_init_6 16 rfl rfl)
theorem dX3_init_160 : decode cX3_init 160 = .ok (.putfield 38, 3) := dk_181 0 38 (dk_at dksX3_init_6 18 rfl rfl)
theorem dX3_init_163 : decode cX3_init 163 = .ok (.aload_n 0, 1) := dk_42 (dk_at dksX3_init_6 21 rfl rfl)
theorem dX3_init_164 : decode cX3_init 164 = .ok (.bipush 96, 2) := dk_16 96 (dk_at dksX3_init_6 22 rfl rfl)
theorem dX3_init_166 : decode cX3_init 166 = .ok (.newarray .int, 2) := dk_188_10 (dk_at dksX3_init_7 0 rfl rfl)
theorem dX3_init_168 : decode cX3_init 168 = .ok (.putfield 41, 3) := dk_181 0 41 (dk_at dksX3_init_7 2 rfl rfl)
theorem dX3_init_171 : decode cX3_init 171 = .ok (.aload_n 0, 1) := dk_42 (dk_at dksX3_init_7 5 rfl rfl)
theorem dX3_init_172 : decode cX3_init 172 = .ok (.bipush 10, 2) := dk_16 10 (dk_at dksX3_init_7 6 rfl rfl)
theorem dX3_init_174 : decode cX3_init 174 = .ok (.newarray .boolean, 2) := dk_188_4 (dk_at dksX3_init_7 8 rfl rfl)
theorem dX3_init_176 : decode cX3_init 176 = .ok (.putfield 44, 3) := dk_181 0 44 (dk_at dksX3_init_7 10 rfl rfl)
theorem dX3_init_179 : decode cX3_init 179 = .ok (.aload_n 0, 1) := dk_42 (dk_at dksX3_init_7 13 rfl rfl)
theorem dX3_init_180 : decode cX3_init 180 = .ok (.bipush 96, 2) := dk_16 96 (dk_at dksX3_init_7 14 rfl rfl)
theorem dX3_init_182 : decode cX3_init 182 = .ok (.newarray .int, 2) := dk_188_10 (dk_at dksX3_init_7 16 rfl rfl)
theorem dX3_init_184 : decode cX3_init 184 = .ok (.putfield 48, 3) := dk_181 0 48 (dk_at dksX3_init_7 18 rfl rfl)
theorem dX3_init_187 : decode cX3_init 187 = .ok (.aload_n 0, 1) := dk_42 (dk_at dksX3_init_7 21 rfl rfl)
theorem dX3_init_188 : decode cX3_init 188 = .ok (.iconst 4, 1) := dk_7 (dk_at dksX3_init_7 22 rfl rfl)
theorem dX3_init_189 : decode cX3_init 189 = .ok (.newarray .int, 2) := dk_188_10 (dk_at dksX3_init_8 0 rfl rfl)
theorem dX3_init_191 : decode cX3_init 191 = .ok (.putfield 51, 3) := dk_181 0 51 (dk_at dksX3_init_8 2 rfl rfl)
theorem dX3_init_194 : decode cX3_init 194 = .ok (.aload_n 0, 1) := dk_42 (dk_at dksX3_init_8 5 rfl rfl)
theorem dX3_init_195 : decode cX3_init 195 = .ok (.iconst 4, 1) := dk_7 (dk_at dksX3_init_8 6 rfl rfl)
theorem dX3_init_196 : decode cX3_init 196 = .ok (.newarray .int, 2) := dk_188_10 (dk_at dksX3_init_8 7 rfl rfl)
theorem dX3_init_198 : decode cX3_init 198 = .ok (.dup, 1) := dk_89 (dk_at dksX3_init_8 9 rfl rfl)
theorem dX3_init_199 : decode cX3_init 199 = .ok (.iconst 0, 1) := dk_3 (dk_at dksX3_init_8 10 rfl rfl)
theorem dX3_init_200 : decode cX3_init 200 = .ok (.iconst (-1), 1) := dk_2 (dk_at dksX3_init_8 11 rfl rfl)
theorem dX3_init_201 : decode cX3_init 201 = .ok (.iastore, 1) := dk_79 (dk_at dksX3_init_8 12 rfl rfl)
theorem dX3_init_202 : decode cX3_init 202 = .ok (.dup, 1) := dk_89 (dk_at dksX3_init_8 13 rfl rfl)
theorem dX3_init_203 : decode cX3_init 203 = .ok (.iconst 1, 1) := dk_4 (dk_at dksX3_init_8 14 rfl rfl)
theorem dX3_init_204 : decode cX3_init 204 = .ok (.iconst (-1), 1) := dk_2 (dk_at dksX3_init_8 15 rfl rfl)
theorem dX3_init_205 : decode cX3_init 205 = .ok (.iastore, 1) := dk_79 (dk_at dksX3_init_8 16 rfl rfl)
theorem dX3_init_206 : decode cX3_init 206 = .ok (.dup, 1) := dk_89 (dk_at dksX3_init_8 17 rfl rfl)
theorem dX3_init_207 : decode cX3_init 207 = .ok (.iconst 2, 1) := dk_5 (dk_at dksX3_init_8 18 rfl rfl)
theorem dX3_init_208 : decode cX3_init 208 = .ok (.iconst (-1), 1) := dk_2 (dk_at dksX3_init_8 19 rfl rfl)
theorem dX3_init_209 : decode cX3_init 209 = .ok (.iastore, 1) := dk_79 (dk_at dksX3_init_8 20 rfl rfl)
theorem dX3_init_210 : decode cX3_init 210 = .ok (.dup, 1) := dk_89 (dk_at dksX3_init_8 21 rfl rfl)
theorem dX3_init_211 : decode cX3_init 211 = .ok (.iconst 3, 1) := dk_6 (dk_at dksX3_init_8 22 rfl rfl)
theorem dX3_init_212 : decode cX3_init 212 = .ok (.iconst (-1), 1) := dk_2 (dk_at dksX3_init_8 23 rfl rfl)
theorem dX3_init_213 : decode cX3_init 213 = .ok (.iastore, 1) := dk_79 (dk_at dksX3_init_9 0 rfl rfl)
theorem dX3_init_214 : decode cX3_init 214 = .ok (.putfield 54, 3) := dk_181 0 54 (dk_at dksX3_init_9 1 rfl rfl)
theorem dX3_init_217 : decode cX3_init 217 = .ok (.aload_n 0, 1) := dk_42 (dk_at dksX3_init_9 4 rfl rfl)
theorem dX3_init_218 : decode cX3_init 218 = .ok (.iconst 4, 1) := dk_7 (dk_at dksX3_init_9 5 rfl rfl)
theorem dX3_init_219 : decode cX3_init 219 = .ok (.newarray .int, 2) := dk_188_10 (dk_at dksX3_init_9 6 rfl rfl)
theorem dX3_init_221 : decode cX3_init 221 = .ok (.putfield 57, 3) := dk_181 0 57 (dk_at dksX3_init_9 8 rfl rfl)
theorem dX3_init_224 : decode cX3_init 224 = .ok (.aload_n 0, 1) := dk_42 (dk_at dksX3_init_9 11 rfl rfl)
theorem dX3_init_225 : decode cX3_init 225 = .ok (.bipush 96, 2) := dk_16 96 (dk_at dksX3_init_9 12 rfl rfl)
theorem dX3_init_227 : decode cX3_init 227 = .ok (.newarray .int, 2) := dk_188_10 (dk_at dksX3_init_9 14 rfl rfl)
theorem dX3_init_229 : decode cX3_init 229 = .ok (.putfield 60, 3) := dk_181 0 60 (dk_at dksX3_init_9 16 rfl rfl)
theorem dX3_init_232 : decode cX3_init 232 = .ok (.aload_n 0, 1) := dk_42 (dk_at dksX3_init_9 19 rfl rfl)
theorem dX3_init_233 : decode cX3_init 233 = .ok (.iconst 5, 1) := dk_8 (dk_at dksX3_init_9 20 rfl rfl)
theorem dX3_init_234 : decode cX3_init 234 = .ok (.newarray .int, 2) := dk_188_10 (dk_at dksX3_init_9 21 rfl rfl)
theorem dX3_init_236 : decode cX3_init 236 = .ok (.putfield 63, 3) := dk_181 0 63 (dk_at dksX3_init_10 0 rfl rfl)
theorem dX3_init_239 : decode cX3_init 239 = .ok (.aload_n 0, 1) := dk_42 (dk_at dksX3_init_10 3 rfl rfl)
theorem dX3_init_240 : decode cX3_init 240 = .ok (.iconst 5, 1) := dk_8 (dk_at dksX3_init_10 4 rfl rfl)
theorem dX3_init_241 : decode cX3_init 241 = .ok (.newarray .int, 2) := dk_188_10 (dk_at dksX3_init_10 5 rfl rfl)
theorem dX3_init_243 : decode cX3_init 243 = .ok (.putfield 66, 3) := dk_181 0 66 (dk_at dksX3_init_10 7 rfl rfl)
theorem dX3_init_246 : decode cX3_init 246 = .ok (.aload_n 0, 1) := dk_42 (dk_at dksX3_init_10 10 rfl rfl)
theorem dX3_init_247 : decode cX3_init 247 = .ok (.iconst 5, 1) := dk_8 (dk_at dksX3_init_10 11 rfl rfl)
theorem dX3_init_248 : decode cX3_init 248 = .ok (.newarray .int, 2) := dk_188_10 (dk_at dksX3_init_10 12 rfl rfl)
theorem dX3_init_250 : decode cX3_init 250 = .ok (.putfield 69, 3) := dk_181 0 69 (dk_at dksX3_init_10 14 rfl rfl)
theorem dX3_init_253 : decode cX3_init 253 = .ok (.aload_n 0, 1) := dk_42 (dk_at dksX3_init_10 17 rfl rfl)
theorem dX3_init_254 : decode cX3_init 254 = .ok (.bipush 120, 2) := dk_16 120 (dk_at dksX3_init_10 18 rfl rfl)
theorem dX3_init_256 : decode cX3_init 256 = .ok (.newarray .int, 2) := dk_188_10 (dk_at dksX3_init_10 20 rfl rfl)
theorem dX3_init_258 : decode cX3_init 258 = .ok (.putfield 72, 3) := dk_181 0 72 (dk_at dksX3_init_11 0 rfl rfl)
theorem dX3_init_261 : decode cX3_init 261 = .ok (.aload_n 0, 1) := dk_42 (dk_at dksX3_init_11 3 rfl rfl)
theorem dX3_init_262 : decode cX3_init 262 = .ok (.bipush 24, 2) := dk_16 24 (dk_at dksX3_init_11 4 rfl rfl)
theorem dX3_init_264 : decode cX3_init 264 = .ok (.newarray .int, 2) := dk_188_10 (dk_at dksX3_init_11 6 rfl rfl)
theorem dX3_init_266 : decode cX3_init 266 = .ok (.putfield 75, 3) := dk_181 0 75 (dk_at dksX3_init_11 8 rfl rfl)
theorem dX3_init_269 : decode cX3_init 269 = .ok (.aload_n 0, 1) := dk_42 (dk_at dksX3_init_11 11 rfl rfl)
theorem dX3_init_270 : decode cX3_init 270 = .ok (.bipush 60, 2) := dk_16 60 (dk_at dksX3_init_11 12 rfl rfl)
theorem dX3_init_272 : decode cX3_init 272 = .ok (.newarray .int, 2) := dk_188_10 (dk_at dksX3_init_11 14 rfl rfl)
theorem dX3_init_274 : decode cX3_init 274 = .ok (.putfield 78, 3) := dk_181 0 78 (dk_at dksX3_init_11 16 rfl rfl)
theorem dX3_init_277 : decode cX3_init 277 = .ok (.aload_n 0, 1) := dk_42 (dk_at dksX3_init_11 19 rfl rfl)
theorem dX3_init_278 : decode cX3_init 278 = .ok (.getfield 9, 3) := dk_180 0 9 (dk_at dksX3_init_11 20 rfl rfl)
theorem dX3_init_281 : decode cX3_init 281 = .ok (.iconst 0, 1) := dk_3 (dk_at dksX3_init_11 23 rfl rfl)
theorem dX3_init_282 : decode cX3_init 282 = .ok (.iconst 1, 1) := dk_4 (dk_at dksX3_init_12 0 rfl rfl)
theorem dX3_init_283 : decode cX3_init 283 = .ok (.iastore, 1) := dk_79 (dk_at dksX3_init_12 1 rfl rfl)
theorem dX3_init_284 : decode cX3_init 284 = .ok (.return_, 1) := dk_177 (dk_at dksX3_init_12 2 rfl rfl)
abbrev cX3_cellar : ByteArray := prog_22_method_12_code
def yX3_cellar : MethodName := ⟨RX3, "cellar", "(III)I"⟩
def dkwX3_cellar_2 : List UInt8 := [167, 0, 10, 42, 27, 28, 29, 182, 0, 88, 172]
abbrev dktX3_cellar_2 : List UInt8 := dkwX3_cellar_2 ++ []
def dkwX3_cellar_1 : List UInt8 := [184, 0, 82, 154, 0, 6, 18, 86, 172, 42, 180, 0, 9, 4, 46, 16, 8, 160, 0, 8, 18, 87]
abbrev dktX3_cellar_1 : List UInt8 := dkwX3_cellar_1 ++ dktX3_cellar_2
def dkwX3_cellar_0 : List UInt8 := [27, 3, 8, 184, 0, 82, 153, 0, 23, 28, 3, 16, 99, 184, 0, 82, 153, 0, 13, 29, 4, 16, 99]
abbrev dktX3_cellar_0 : List UInt8 := dkwX3_cellar_0 ++ dktX3_cellar_1
theorem dksX3_cellar_0 : cX3_cellar.data.toList.drop 0 = dktX3_cellar_0 := by decide +kernel
theorem dksX3_cellar_1 : cX3_cellar.data.toList.drop 23 = dktX3_cellar_1 := dk_seg dksX3_cellar_0 23 rfl rfl
theorem dksX3_cellar_2 : cX3_cellar.data.toList.drop 45 = dktX3_cellar_2 := dk_seg dksX3_cellar_1 22 rfl rfl
theorem dX3_cellar_0 : decode cX3_cellar 0 = .ok (.iload_n 1, 1) := dk_27 (dk_at dksX3_cellar_0 0 rfl rfl)
theorem dX3_cellar_1 : decode cX3_cellar 1 = .ok (.iconst 0, 1) := dk_3 (dk_at dksX3_cellar_0 1 rfl rfl)
theorem dX3_cellar_2 : decode cX3_cellar 2 = .ok (.iconst 5, 1) := dk_8 (dk_at dksX3_cellar_0 2 rfl rfl)
theorem dX3_cellar_3 : decode cX3_cellar 3 = .ok (.invokestatic 82, 3) := dk_184 0 82 (dk_at dksX3_cellar_0 3 rfl rfl)
theorem dX3_cellar_6 : decode cX3_cellar 6 = .ok (.ifCond .eq 23, 3) := dk_153 0 23 (dk_at dksX3_cellar_0 6 rfl rfl)
theorem dX3_cellar_9 : decode cX3_cellar 9 = .ok (.iload_n 2, 1) := dk_28 (dk_at dksX3_cellar_0 9 rfl rfl)
theorem dX3_cellar_10 : decode cX3_cellar 10 = .ok (.iconst 0, 1) := dk_3 (dk_at dksX3_cellar_0 10 rfl rfl)
theorem dX3_cellar_11 : decode cX3_cellar 11 = .ok (.bipush 99, 2) := dk_16 99 (dk_at dksX3_cellar_0 11 rfl rfl)
theorem dX3_cellar_13 : decode cX3_cellar 13 = .ok (.invokestatic 82, 3) := dk_184 0 82 (dk_at dksX3_cellar_0 13 rfl rfl)
theorem dX3_cellar_16 : decode cX3_cellar 16 = .ok (.ifCond .eq 13, 3) := dk_153 0 13 (dk_at dksX3_cellar_0 16 rfl rfl)
theorem dX3_cellar_19 : decode cX3_cellar 19 = .ok (.iload_n 3, 1) := dk_29 (dk_at dksX3_cellar_0 19 rfl rfl)
theorem dX3_cellar_20 : decode cX3_cellar 20 = .ok (.iconst 1, 1) := dk_4 (dk_at dksX3_cellar_0 20 rfl rfl)
theorem dX3_cellar_21 : decode cX3_cellar 21 = .ok (.bipush 99, 2) := dk_16 99 (dk_at dksX3_cellar_0 21 rfl rfl)
theorem dX3_cellar_23 : decode cX3_cellar 23 = .ok (.invokestatic 82, 3) := dk_184 0 82 (dk_at dksX3_cellar_1 0 rfl rfl)
theorem dX3_cellar_26 : decode cX3_cellar 26 = .ok (.ifCond .ne 6, 3) := dk_154 0 6 (dk_at dksX3_cellar_1 3 rfl rfl)
theorem dX3_cellar_29 : decode cX3_cellar 29 = .ok (.ldc 86, 2) := dk_18 86 (dk_at dksX3_cellar_1 6 rfl rfl)
theorem dX3_cellar_31 : decode cX3_cellar 31 = .ok (.ireturn, 1) := dk_172 (dk_at dksX3_cellar_1 8 rfl rfl)
theorem dX3_cellar_32 : decode cX3_cellar 32 = .ok (.aload_n 0, 1) := dk_42 (dk_at dksX3_cellar_1 9 rfl rfl)
theorem dX3_cellar_33 : decode cX3_cellar 33 = .ok (.getfield 9, 3) := dk_180 0 9 (dk_at dksX3_cellar_1 10 rfl rfl)
theorem dX3_cellar_36 : decode cX3_cellar 36 = .ok (.iconst 1, 1) := dk_4 (dk_at dksX3_cellar_1 13 rfl rfl)
theorem dX3_cellar_37 : decode cX3_cellar 37 = .ok (.iaload, 1) := dk_46 (dk_at dksX3_cellar_1 14 rfl rfl)
theorem dX3_cellar_38 : decode cX3_cellar 38 = .ok (.bipush 8, 2) := dk_16 8 (dk_at dksX3_cellar_1 15 rfl rfl)
theorem dX3_cellar_40 : decode cX3_cellar 40 = .ok (.if_icmp .ne 8, 3) := dk_160 0 8 (dk_at dksX3_cellar_1 17 rfl rfl)
theorem dX3_cellar_43 : decode cX3_cellar 43 = .ok (.ldc 87, 2) := dk_18 87 (dk_at dksX3_cellar_1 20 rfl rfl)
theorem dX3_cellar_45 : decode cX3_cellar 45 = .ok (.goto 10, 3) := dk_167 0 10 (dk_at dksX3_cellar_2 0 rfl rfl)
theorem dX3_cellar_48 : decode cX3_cellar 48 = .ok (.aload_n 0, 1) := dk_42 (dk_at dksX3_cellar_2 3 rfl rfl)
theorem dX3_cellar_49 : decode cX3_cellar 49 = .ok (.iload_n 1, 1) := dk_27 (dk_at dksX3_cellar_2 4 rfl rfl)
theorem dX3_cellar_50 : decode cX3_cellar 50 = .ok (.iload_n 2, 1) := dk_28 (dk_at dksX3_cellar_2 5 rfl rfl)
theorem dX3_cellar_51 : decode cX3_cellar 51 = .ok (.iload_n 3, 1) := dk_29 (dk_at dksX3_cellar_2 6 rfl rfl)
theorem dX3_cellar_52 : decode cX3_cellar 52 = .ok (.invokevirtual 88, 3) := dk_182 0 88 (dk_at dksX3_cellar_2 7 rfl rfl)
theorem dX3_cellar_55 : decode cX3_cellar 55 = .ok (.ireturn, 1) := dk_172 (dk_at dksX3_cellar_2 10 rfl rfl)
abbrev cX3_in : ByteArray := prog_22_method_2_code
def yX3_in : MethodName := ⟨RX3, "in", "(III)Z"⟩
def dkwX3_in_0 : List UInt8 := [26, 27, 161, 0, 12, 26, 28, 163, 0, 7, 4, 167, 0, 4, 3, 172]
abbrev dktX3_in_0 : List UInt8 := dkwX3_in_0 ++ []
theorem dksX3_in_0 : cX3_in.data.toList.drop 0 = dktX3_in_0 := by decide +kernel
theorem dX3_in_0 : decode cX3_in 0 = .ok (.iload_n 0, 1) := dk_26 (dk_at dksX3_in_0 0 rfl rfl)
theorem dX3_in_1 : decode cX3_in 1 = .ok (.iload_n 1, 1) := dk_27 (dk_at dksX3_in_0 1 rfl rfl)
theorem dX3_in_2 : decode cX3_in 2 = .ok (.if_icmp .lt 12, 3) := dk_161 0 12 (dk_at dksX3_in_0 2 rfl rfl)
theorem dX3_in_5 : decode cX3_in 5 = .ok (.iload_n 0, 1) := dk_26 (dk_at dksX3_in_0 5 rfl rfl)
theorem dX3_in_6 : decode cX3_in 6 = .ok (.iload_n 2, 1) := dk_28 (dk_at dksX3_in_0 6 rfl rfl)
theorem dX3_in_7 : decode cX3_in 7 = .ok (.if_icmp .gt 7, 3) := dk_163 0 7 (dk_at dksX3_in_0 7 rfl rfl)
theorem dX3_in_10 : decode cX3_in 10 = .ok (.iconst 1, 1) := dk_4 (dk_at dksX3_in_0 10 rfl rfl)
theorem dX3_in_11 : decode cX3_in 11 = .ok (.goto 4, 3) := dk_167 0 4 (dk_at dksX3_in_0 11 rfl rfl)
theorem dX3_in_14 : decode cX3_in 14 = .ok (.iconst 0, 1) := dk_3 (dk_at dksX3_in_0 14 rfl rfl)
theorem dX3_in_15 : decode cX3_in 15 = .ok (.ireturn, 1) := dk_172 (dk_at dksX3_in_0 15 rfl rfl)
abbrev cX3_comes : ByteArray := prog_22_method_11_code
def yX3_comes : MethodName := ⟨RX3, "comes", "(III)I"⟩
def dkwX3_comes_3 : List UInt8 := [96, 29, 79, 42, 180, 0, 9, 4, 92, 46, 4, 96, 79, 21, 4, 172]
abbrev dktX3_comes_3 : List UInt8 := dkwX3_comes_3 ++ []
def dkwX3_comes_2 : List UInt8 := [180, 0, 9, 21, 5, 27, 79, 42, 180, 0, 9, 21, 5, 4, 96, 28, 79, 42, 180, 0, 9, 21, 5, 5]
abbrev dktX3_comes_2 : List UInt8 := dkwX3_comes_2 ++ dktX3_comes_3
def dkwX3_comes_1 : List UInt8 := [16, 6, 162, 0, 20, 42, 180, 0, 9, 21, 5, 21, 6, 96, 3, 79, 132, 6, 1, 167, 255, 235, 42]
abbrev dktX3_comes_1 : List UInt8 := dkwX3_comes_1 ++ dktX3_comes_2
def dkwX3_comes_0 : List UInt8 := [42, 180, 0, 9, 4, 46, 54, 4, 16, 7, 16, 6, 21, 4, 104, 96, 54, 5, 3, 54, 6, 21, 6]
abbrev dktX3_comes_0 : List UInt8 := dkwX3_comes_0 ++ dktX3_comes_1
theorem dksX3_comes_0 : cX3_comes.data.toList.drop 0 = dktX3_comes_0 := by decide +kernel
theorem dksX3_comes_1 : cX3_comes.data.toList.drop 23 = dktX3_comes_1 := dk_seg dksX3_comes_0 23 rfl rfl
theorem dksX3_comes_2 : cX3_comes.data.toList.drop 46 = dktX3_comes_2 := dk_seg dksX3_comes_1 23 rfl rfl
theorem dksX3_comes_3 : cX3_comes.data.toList.drop 70 = dktX3_comes_3 := dk_seg dksX3_comes_2 24 rfl rfl
theorem dX3_comes_0 : decode cX3_comes 0 = .ok (.aload_n 0, 1) := dk_42 (dk_at dksX3_comes_0 0 rfl rfl)
theorem dX3_comes_1 : decode cX3_comes 1 = .ok (.getfield 9, 3) := dk_180 0 9 (dk_at dksX3_comes_0 1 rfl rfl)
theorem dX3_comes_4 : decode cX3_comes 4 = .ok (.iconst 1, 1) := dk_4 (dk_at dksX3_comes_0 4 rfl rfl)
theorem dX3_comes_5 : decode cX3_comes 5 = .ok (.iaload, 1) := dk_46 (dk_at dksX3_comes_0 5 rfl rfl)
theorem dX3_comes_6 : decode cX3_comes 6 = .ok (.istore 4, 2) := dk_54 4 (dk_at dksX3_comes_0 6 rfl rfl)
theorem dX3_comes_8 : decode cX3_comes 8 = .ok (.bipush 7, 2) := dk_16 7 (dk_at dksX3_comes_0 8 rfl rfl)
theorem dX3_comes_10 : decode cX3_comes 10 = .ok (.bipush 6, 2) := dk_16 6 (dk_at dksX3_comes_0 10 rfl rfl)
theorem dX3_comes_12 : decode cX3_comes 12 = .ok (.iload 4, 2) := dk_21 4 (dk_at dksX3_comes_0 12 rfl rfl)
theorem dX3_comes_14 : decode cX3_comes 14 = .ok (.imul, 1) := dk_104 (dk_at dksX3_comes_0 14 rfl rfl)
theorem dX3_comes_15 : decode cX3_comes 15 = .ok (.iadd, 1) := dk_96 (dk_at dksX3_comes_0 15 rfl rfl)
theorem dX3_comes_16 : decode cX3_comes 16 = .ok (.istore 5, 2) := dk_54 5 (dk_at dksX3_comes_0 16 rfl rfl)
theorem dX3_comes_18 : decode cX3_comes 18 = .ok (.iconst 0, 1) := dk_3 (dk_at dksX3_comes_0 18 rfl rfl)
theorem dX3_comes_19 : decode cX3_comes 19 = .ok (.istore 6, 2) := dk_54 6 (dk_at dksX3_comes_0 19 rfl rfl)
theorem dX3_comes_21 : decode cX3_comes 21 = .ok (.iload 6, 2) := dk_21 6 (dk_at dksX3_comes_0 21 rfl rfl)
theorem dX3_comes_23 : decode cX3_comes 23 = .ok (.bipush 6, 2) := dk_16 6 (dk_at dksX3_comes_1 0 rfl rfl)
theorem dX3_comes_25 : decode cX3_comes 25 = .ok (.if_icmp .ge 20, 3) := dk_162 0 20 (dk_at dksX3_comes_1 2 rfl rfl)
theorem dX3_comes_28 : decode cX3_comes 28 = .ok (.aload_n 0, 1) := dk_42 (dk_at dksX3_comes_1 5 rfl rfl)
theorem dX3_comes_29 : decode cX3_comes 29 = .ok (.getfield 9, 3) := dk_180 0 9 (dk_at dksX3_comes_1 6 rfl rfl)
theorem dX3_comes_32 : decode cX3_comes 32 = .ok (.iload 5, 2) := dk_21 5 (dk_at dksX3_comes_1 9 rfl rfl)
theorem dX3_comes_34 : decode cX3_comes 34 = .ok (.iload 6, 2) := dk_21 6 (dk_at dksX3_comes_1 11 rfl rfl)
theorem dX3_comes_36 : decode cX3_comes 36 = .ok (.iadd, 1) := dk_96 (dk_at dksX3_comes_1 13 rfl rfl)
theorem dX3_comes_37 : decode cX3_comes 37 = .ok (.iconst 0, 1) := dk_3 (dk_at dksX3_comes_1 14 rfl rfl)
theorem dX3_comes_38 : decode cX3_comes 38 = .ok (.iastore, 1) := dk_79 (dk_at dksX3_comes_1 15 rfl rfl)
theorem dX3_comes_39 : decode cX3_comes 39 = .ok (.iinc 6 1, 3) := dk_132 6 1 (dk_at dksX3_comes_1 16 rfl rfl)
theorem dX3_comes_42 : decode cX3_comes 42 = .ok (.goto (-21), 3) := dk_167 255 235 (dk_at dksX3_comes_1 19 rfl rfl)
theorem dX3_comes_45 : decode cX3_comes 45 = .ok (.aload_n 0, 1) := dk_42 (dk_at dksX3_comes_1 22 rfl rfl)
theorem dX3_comes_46 : decode cX3_comes 46 = .ok (.getfield 9, 3) := dk_180 0 9 (dk_at dksX3_comes_2 0 rfl rfl)
theorem dX3_comes_49 : decode cX3_comes 49 = .ok (.iload 5, 2) := dk_21 5 (dk_at dksX3_comes_2 3 rfl rfl)
theorem dX3_comes_51 : decode cX3_comes 51 = .ok (.iload_n 1, 1) := dk_27 (dk_at dksX3_comes_2 5 rfl rfl)
theorem dX3_comes_52 : decode cX3_comes 52 = .ok (.iastore, 1) := dk_79 (dk_at dksX3_comes_2 6 rfl rfl)
theorem dX3_comes_53 : decode cX3_comes 53 = .ok (.aload_n 0, 1) := dk_42 (dk_at dksX3_comes_2 7 rfl rfl)
theorem dX3_comes_54 : decode cX3_comes 54 = .ok (.getfield 9, 3) := dk_180 0 9 (dk_at dksX3_comes_2 8 rfl rfl)
theorem dX3_comes_57 : decode cX3_comes 57 = .ok (.iload 5, 2) := dk_21 5 (dk_at dksX3_comes_2 11 rfl rfl)
theorem dX3_comes_59 : decode cX3_comes 59 = .ok (.iconst 1, 1) := dk_4 (dk_at dksX3_comes_2 13 rfl rfl)
theorem dX3_comes_60 : decode cX3_comes 60 = .ok (.iadd, 1) := dk_96 (dk_at dksX3_comes_2 14 rfl rfl)
theorem dX3_comes_61 : decode cX3_comes 61 = .ok (.iload_n 2, 1) := dk_28 (dk_at dksX3_comes_2 15 rfl rfl)
theorem dX3_comes_62 : decode cX3_comes 62 = .ok (.iastore, 1) := dk_79 (dk_at dksX3_comes_2 16 rfl rfl)
theorem dX3_comes_63 : decode cX3_comes 63 = .ok (.aload_n 0, 1) := dk_42 (dk_at dksX3_comes_2 17 rfl rfl)
theorem dX3_comes_64 : decode cX3_comes 64 = .ok (.getfield 9, 3) := dk_180 0 9 (dk_at dksX3_comes_2 18 rfl rfl)
theorem dX3_comes_67 : decode cX3_comes 67 = .ok (.iload 5, 2) := dk_21 5 (dk_at dksX3_comes_2 21 rfl rfl)
theorem dX3_comes_69 : decode cX3_comes 69 = .ok (.iconst 2, 1) := dk_5 (dk_at dksX3_comes_2 23 rfl rfl)
theorem dX3_comes_70 : decode cX3_comes 70 = .ok (.iadd, 1) := dk_96 (dk_at dksX3_comes_3 0 rfl rfl)
theorem dX3_comes_71 : decode cX3_comes 71 = .ok (.iload_n 3, 1) := dk_29 (dk_at dksX3_comes_3 1 rfl rfl)
theorem dX3_comes_72 : decode cX3_comes 72 = .ok (.iastore, 1) := dk_79 (dk_at dksX3_comes_3 2 rfl rfl)
theorem dX3_comes_73 : decode cX3_comes 73 = .ok (.aload_n 0, 1) := dk_42 (dk_at dksX3_comes_3 3 rfl rfl)
theorem dX3_comes_74 : decode cX3_comes 74 = .ok (.getfield 9, 3) := dk_180 0 9 (dk_at dksX3_comes_3 4 rfl rfl)
theorem dX3_comes_77 : decode cX3_comes 77 = .ok (.iconst 1, 1) := dk_4 (dk_at dksX3_comes_3 7 rfl rfl)
theorem dX3_comes_78 : decode cX3_comes 78 = .ok (.dup2, 1) := dk_92 (dk_at dksX3_comes_3 8 rfl rfl)
theorem dX3_comes_79 : decode cX3_comes 79 = .ok (.iaload, 1) := dk_46 (dk_at dksX3_comes_3 9 rfl rfl)
theorem dX3_comes_80 : decode cX3_comes 80 = .ok (.iconst 1, 1) := dk_4 (dk_at dksX3_comes_3 10 rfl rfl)
theorem dX3_comes_81 : decode cX3_comes 81 = .ok (.iadd, 1) := dk_96 (dk_at dksX3_comes_3 11 rfl rfl)
theorem dX3_comes_82 : decode cX3_comes 82 = .ok (.iastore, 1) := dk_79 (dk_at dksX3_comes_3 12 rfl rfl)
theorem dX3_comes_83 : decode cX3_comes 83 = .ok (.iload 4, 2) := dk_21 4 (dk_at dksX3_comes_3 13 rfl rfl)
theorem dX3_comes_85 : decode cX3_comes 85 = .ok (.ireturn, 1) := dk_172 (dk_at dksX3_comes_3 15 rfl rfl)
abbrev cX3_told : ByteArray := prog_22_method_19_code
def yX3_told : MethodName := ⟨RX3, "told", "(II)I"⟩
def dkwX3_told_4 : List UInt8 := [172]
abbrev dktX3_told_4 : List UInt8 := dkwX3_told_4 ++ []
def dkwX3_told_3 : List UInt8 := [172, 42, 27, 182, 0, 119, 172, 42, 27, 182, 0, 122, 172, 42, 27, 28, 8, 100, 182, 0, 92, 172, 18, 86]
abbrev dktX3_told_3 : List UInt8 := dkwX3_told_3 ++ dktX3_told_4
def dkwX3_told_2 : List UInt8 := [42, 27, 28, 182, 0, 92, 172, 42, 27, 182, 0, 96, 172, 42, 27, 182, 0, 109, 172, 42, 27, 182, 0, 116]
abbrev dktX3_told_2 : List UInt8 := dkwX3_told_2 ++ dktX3_told_3
def dkwX3_told_1 : List UInt8 := [170, 0, 0, 0, 0, 0, 0, 106, 0, 0, 0, 0, 0, 0, 0, 10, 0, 0, 0, 60, 0, 0, 0, 60, 0, 0, 0, 60, 0, 0, 0, 67, 0, 0, 0, 73, 0, 0, 0, 79, 0, 0, 0, 85, 0, 0, 0, 91, 0, 0, 0, 97, 0, 0, 0, 97, 0, 0, 0, 97]
abbrev dktX3_told_1 : List UInt8 := dkwX3_told_1 ++ dktX3_told_2
def dkwX3_told_0 : List UInt8 := [42, 27, 182, 0, 112, 154, 0, 6, 18, 86, 172, 28]
abbrev dktX3_told_0 : List UInt8 := dkwX3_told_0 ++ dktX3_told_1
theorem dksX3_told_0 : cX3_told.data.toList.drop 0 = dktX3_told_0 := by decide +kernel
theorem dksX3_told_1 : cX3_told.data.toList.drop 12 = dktX3_told_1 := dk_seg dksX3_told_0 12 rfl rfl
theorem dksX3_told_2 : cX3_told.data.toList.drop 72 = dktX3_told_2 := dk_seg dksX3_told_1 60 rfl rfl
theorem dksX3_told_3 : cX3_told.data.toList.drop 96 = dktX3_told_3 := dk_seg dksX3_told_2 24 rfl rfl
theorem dksX3_told_4 : cX3_told.data.toList.drop 120 = dktX3_told_4 := dk_seg dksX3_told_3 24 rfl rfl
theorem dX3_told_0 : decode cX3_told 0 = .ok (.aload_n 0, 1) := dk_42 (dk_at dksX3_told_0 0 rfl rfl)
theorem dX3_told_1 : decode cX3_told 1 = .ok (.iload_n 1, 1) := dk_27 (dk_at dksX3_told_0 1 rfl rfl)
theorem dX3_told_2 : decode cX3_told 2 = .ok (.invokevirtual 112, 3) := dk_182 0 112 (dk_at dksX3_told_0 2 rfl rfl)
theorem dX3_told_5 : decode cX3_told 5 = .ok (.ifCond .ne 6, 3) := dk_154 0 6 (dk_at dksX3_told_0 5 rfl rfl)
theorem dX3_told_8 : decode cX3_told 8 = .ok (.ldc 86, 2) := dk_18 86 (dk_at dksX3_told_0 8 rfl rfl)
theorem dX3_told_10 : decode cX3_told 10 = .ok (.ireturn, 1) := dk_172 (dk_at dksX3_told_0 10 rfl rfl)
theorem dX3_told_11 : decode cX3_told 11 = .ok (.iload_n 2, 1) := dk_28 (dk_at dksX3_told_0 11 rfl rfl)
theorem dX3_told_12 : decode cX3_told 12 = .ok (.tableswitch 106 0 10 #[60, 60, 60, 67, 73, 79, 85, 91, 97, 97, 97], 60) := by decide +kernel
theorem dX3_told_72 : decode cX3_told 72 = .ok (.aload_n 0, 1) := dk_42 (dk_at dksX3_told_2 0 rfl rfl)
theorem dX3_told_73 : decode cX3_told 73 = .ok (.iload_n 1, 1) := dk_27 (dk_at dksX3_told_2 1 rfl rfl)
theorem dX3_told_74 : decode cX3_told 74 = .ok (.iload_n 2, 1) := dk_28 (dk_at dksX3_told_2 2 rfl rfl)
theorem dX3_told_75 : decode cX3_told 75 = .ok (.invokevirtual 92, 3) := dk_182 0 92 (dk_at dksX3_told_2 3 rfl rfl)
theorem dX3_told_78 : decode cX3_told 78 = .ok (.ireturn, 1) := dk_172 (dk_at dksX3_told_2 6 rfl rfl)
theorem dX3_told_79 : decode cX3_told 79 = .ok (.aload_n 0, 1) := dk_42 (dk_at dksX3_told_2 7 rfl rfl)
theorem dX3_told_80 : decode cX3_told 80 = .ok (.iload_n 1, 1) := dk_27 (dk_at dksX3_told_2 8 rfl rfl)
theorem dX3_told_81 : decode cX3_told 81 = .ok (.invokevirtual 96, 3) := dk_182 0 96 (dk_at dksX3_told_2 9 rfl rfl)
theorem dX3_told_84 : decode cX3_told 84 = .ok (.ireturn, 1) := dk_172 (dk_at dksX3_told_2 12 rfl rfl)
theorem dX3_told_85 : decode cX3_told 85 = .ok (.aload_n 0, 1) := dk_42 (dk_at dksX3_told_2 13 rfl rfl)
theorem dX3_told_86 : decode cX3_told 86 = .ok (.iload_n 1, 1) := dk_27 (dk_at dksX3_told_2 14 rfl rfl)
theorem dX3_told_87 : decode cX3_told 87 = .ok (.invokevirtual 109, 3) := dk_182 0 109 (dk_at dksX3_told_2 15 rfl rfl)
theorem dX3_told_90 : decode cX3_told 90 = .ok (.ireturn, 1) := dk_172 (dk_at dksX3_told_2 18 rfl rfl)
theorem dX3_told_91 : decode cX3_told 91 = .ok (.aload_n 0, 1) := dk_42 (dk_at dksX3_told_2 19 rfl rfl)
theorem dX3_told_92 : decode cX3_told 92 = .ok (.iload_n 1, 1) := dk_27 (dk_at dksX3_told_2 20 rfl rfl)
theorem dX3_told_93 : decode cX3_told 93 = .ok (.invokevirtual 116, 3) := dk_182 0 116 (dk_at dksX3_told_2 21 rfl rfl)
theorem dX3_told_96 : decode cX3_told 96 = .ok (.ireturn, 1) := dk_172 (dk_at dksX3_told_3 0 rfl rfl)
theorem dX3_told_97 : decode cX3_told 97 = .ok (.aload_n 0, 1) := dk_42 (dk_at dksX3_told_3 1 rfl rfl)
theorem dX3_told_98 : decode cX3_told 98 = .ok (.iload_n 1, 1) := dk_27 (dk_at dksX3_told_3 2 rfl rfl)
theorem dX3_told_99 : decode cX3_told 99 = .ok (.invokevirtual 119, 3) := dk_182 0 119 (dk_at dksX3_told_3 3 rfl rfl)
theorem dX3_told_102 : decode cX3_told 102 = .ok (.ireturn, 1) := dk_172 (dk_at dksX3_told_3 6 rfl rfl)
theorem dX3_told_103 : decode cX3_told 103 = .ok (.aload_n 0, 1) := dk_42 (dk_at dksX3_told_3 7 rfl rfl)
theorem dX3_told_104 : decode cX3_told 104 = .ok (.iload_n 1, 1) := dk_27 (dk_at dksX3_told_3 8 rfl rfl)
theorem dX3_told_105 : decode cX3_told 105 = .ok (.invokevirtual 122, 3) := dk_182 0 122 (dk_at dksX3_told_3 9 rfl rfl)
theorem dX3_told_108 : decode cX3_told 108 = .ok (.ireturn, 1) := dk_172 (dk_at dksX3_told_3 12 rfl rfl)
theorem dX3_told_109 : decode cX3_told 109 = .ok (.aload_n 0, 1) := dk_42 (dk_at dksX3_told_3 13 rfl rfl)
theorem dX3_told_110 : decode cX3_told 110 = .ok (.iload_n 1, 1) := dk_27 (dk_at dksX3_told_3 14 rfl rfl)
theorem dX3_told_111 : decode cX3_told 111 = .ok (.iload_n 2, 1) := dk_28 (dk_at dksX3_told_3 15 rfl rfl)
theorem dX3_told_112 : decode cX3_told 112 = .ok (.iconst 5, 1) := dk_8 (dk_at dksX3_told_3 16 rfl rfl)
theorem dX3_told_113 : decode cX3_told 113 = .ok (.isub, 1) := dk_100 (dk_at dksX3_told_3 17 rfl rfl)
theorem dX3_told_114 : decode cX3_told 114 = .ok (.invokevirtual 92, 3) := dk_182 0 92 (dk_at dksX3_told_3 18 rfl rfl)
theorem dX3_told_117 : decode cX3_told 117 = .ok (.ireturn, 1) := dk_172 (dk_at dksX3_told_3 21 rfl rfl)
theorem dX3_told_118 : decode cX3_told 118 = .ok (.ldc 86, 2) := dk_18 86 (dk_at dksX3_told_3 22 rfl rfl)
theorem dX3_told_120 : decode cX3_told 120 = .ok (.ireturn, 1) := dk_172 (dk_at dksX3_told_4 0 rfl rfl)
abbrev cX3_isCellar : ByteArray := prog_22_method_6_code
def yX3_isCellar : MethodName := ⟨RX3, "isCellar", "(I)Z"⟩
def dkwX3_isCellar_0 : List UInt8 := [27, 3, 42, 180, 0, 9, 4, 46, 4, 100, 184, 0, 82, 172]
abbrev dktX3_isCellar_0 : List UInt8 := dkwX3_isCellar_0 ++ []
theorem dksX3_isCellar_0 : cX3_isCellar.data.toList.drop 0 = dktX3_isCellar_0 := by decide +kernel
theorem dX3_isCellar_0 : decode cX3_isCellar 0 = .ok (.iload_n 1, 1) := dk_27 (dk_at dksX3_isCellar_0 0 rfl rfl)
theorem dX3_isCellar_1 : decode cX3_isCellar 1 = .ok (.iconst 0, 1) := dk_3 (dk_at dksX3_isCellar_0 1 rfl rfl)
theorem dX3_isCellar_2 : decode cX3_isCellar 2 = .ok (.aload_n 0, 1) := dk_42 (dk_at dksX3_isCellar_0 2 rfl rfl)
theorem dX3_isCellar_3 : decode cX3_isCellar 3 = .ok (.getfield 9, 3) := dk_180 0 9 (dk_at dksX3_isCellar_0 3 rfl rfl)
theorem dX3_isCellar_6 : decode cX3_isCellar 6 = .ok (.iconst 1, 1) := dk_4 (dk_at dksX3_isCellar_0 6 rfl rfl)
theorem dX3_isCellar_7 : decode cX3_isCellar 7 = .ok (.iaload, 1) := dk_46 (dk_at dksX3_isCellar_0 7 rfl rfl)
theorem dX3_isCellar_8 : decode cX3_isCellar 8 = .ok (.iconst 1, 1) := dk_4 (dk_at dksX3_isCellar_0 8 rfl rfl)
theorem dX3_isCellar_9 : decode cX3_isCellar 9 = .ok (.isub, 1) := dk_100 (dk_at dksX3_isCellar_0 9 rfl rfl)
theorem dX3_isCellar_10 : decode cX3_isCellar 10 = .ok (.invokestatic 82, 3) := dk_184 0 82 (dk_at dksX3_isCellar_0 10 rfl rfl)
theorem dX3_isCellar_13 : decode cX3_isCellar 13 = .ok (.ireturn, 1) := dk_172 (dk_at dksX3_isCellar_0 13 rfl rfl)
abbrev cX3_of : ByteArray := prog_22_method_8_code
def yX3_of : MethodName := ⟨RX3, "of", "(II)I"⟩
def dkwX3_of_0 : List UInt8 := [42, 180, 0, 9, 16, 7, 16, 6, 27, 104, 96, 28, 96, 46, 172]
abbrev dktX3_of_0 : List UInt8 := dkwX3_of_0 ++ []
theorem dksX3_of_0 : cX3_of.data.toList.drop 0 = dktX3_of_0 := by decide +kernel
theorem dX3_of_0 : decode cX3_of 0 = .ok (.aload_n 0, 1) := dk_42 (dk_at dksX3_of_0 0 rfl rfl)
theorem dX3_of_1 : decode cX3_of 1 = .ok (.getfield 9, 3) := dk_180 0 9 (dk_at dksX3_of_0 1 rfl rfl)
theorem dX3_of_4 : decode cX3_of 4 = .ok (.bipush 7, 2) := dk_16 7 (dk_at dksX3_of_0 4 rfl rfl)
theorem dX3_of_6 : decode cX3_of 6 = .ok (.bipush 6, 2) := dk_16 6 (dk_at dksX3_of_0 6 rfl rfl)
theorem dX3_of_8 : decode cX3_of 8 = .ok (.iload_n 1, 1) := dk_27 (dk_at dksX3_of_0 8 rfl rfl)
theorem dX3_of_9 : decode cX3_of 9 = .ok (.imul, 1) := dk_104 (dk_at dksX3_of_0 9 rfl rfl)
theorem dX3_of_10 : decode cX3_of 10 = .ok (.iadd, 1) := dk_96 (dk_at dksX3_of_0 10 rfl rfl)
theorem dX3_of_11 : decode cX3_of 11 = .ok (.iload_n 2, 1) := dk_28 (dk_at dksX3_of_0 11 rfl rfl)
theorem dX3_of_12 : decode cX3_of 12 = .ok (.iadd, 1) := dk_96 (dk_at dksX3_of_0 12 rfl rfl)
theorem dX3_of_13 : decode cX3_of 13 = .ok (.iaload, 1) := dk_46 (dk_at dksX3_of_0 13 rfl rfl)
theorem dX3_of_14 : decode cX3_of 14 = .ok (.ireturn, 1) := dk_172 (dk_at dksX3_of_0 14 rfl rfl)
abbrev cX3_fullOf : ByteArray := prog_22_method_13_code
def yX3_fullOf : MethodName := ⟨RX3, "fullOf", "(I)I"⟩
def dkwX3_fullOf_0 : List UInt8 := [42, 27, 6, 182, 0, 92, 42, 27, 7, 182, 0, 92, 96, 42, 27, 8, 182, 0, 92, 96, 172]
abbrev dktX3_fullOf_0 : List UInt8 := dkwX3_fullOf_0 ++ []
theorem dksX3_fullOf_0 : cX3_fullOf.data.toList.drop 0 = dktX3_fullOf_0 := by decide +kernel
theorem dX3_fullOf_0 : decode cX3_fullOf 0 = .ok (.aload_n 0, 1) := dk_42 (dk_at dksX3_fullOf_0 0 rfl rfl)
theorem dX3_fullOf_1 : decode cX3_fullOf 1 = .ok (.iload_n 1, 1) := dk_27 (dk_at dksX3_fullOf_0 1 rfl rfl)
theorem dX3_fullOf_2 : decode cX3_fullOf 2 = .ok (.iconst 3, 1) := dk_6 (dk_at dksX3_fullOf_0 2 rfl rfl)
theorem dX3_fullOf_3 : decode cX3_fullOf 3 = .ok (.invokevirtual 92, 3) := dk_182 0 92 (dk_at dksX3_fullOf_0 3 rfl rfl)
theorem dX3_fullOf_6 : decode cX3_fullOf 6 = .ok (.aload_n 0, 1) := dk_42 (dk_at dksX3_fullOf_0 6 rfl rfl)
theorem dX3_fullOf_7 : decode cX3_fullOf 7 = .ok (.iload_n 1, 1) := dk_27 (dk_at dksX3_fullOf_0 7 rfl rfl)
theorem dX3_fullOf_8 : decode cX3_fullOf 8 = .ok (.iconst 4, 1) := dk_7 (dk_at dksX3_fullOf_0 8 rfl rfl)
theorem dX3_fullOf_9 : decode cX3_fullOf 9 = .ok (.invokevirtual 92, 3) := dk_182 0 92 (dk_at dksX3_fullOf_0 9 rfl rfl)
theorem dX3_fullOf_12 : decode cX3_fullOf 12 = .ok (.iadd, 1) := dk_96 (dk_at dksX3_fullOf_0 12 rfl rfl)
theorem dX3_fullOf_13 : decode cX3_fullOf 13 = .ok (.aload_n 0, 1) := dk_42 (dk_at dksX3_fullOf_0 13 rfl rfl)
theorem dX3_fullOf_14 : decode cX3_fullOf 14 = .ok (.iload_n 1, 1) := dk_27 (dk_at dksX3_fullOf_0 14 rfl rfl)
theorem dX3_fullOf_15 : decode cX3_fullOf 15 = .ok (.iconst 5, 1) := dk_8 (dk_at dksX3_fullOf_0 15 rfl rfl)
theorem dX3_fullOf_16 : decode cX3_fullOf 16 = .ok (.invokevirtual 92, 3) := dk_182 0 92 (dk_at dksX3_fullOf_0 16 rfl rfl)
theorem dX3_fullOf_19 : decode cX3_fullOf 19 = .ok (.iadd, 1) := dk_96 (dk_at dksX3_fullOf_0 19 rfl rfl)
theorem dX3_fullOf_20 : decode cX3_fullOf 20 = .ok (.ireturn, 1) := dk_172 (dk_at dksX3_fullOf_0 20 rfl rfl)
abbrev cX3_highOf : ByteArray := prog_22_method_14_code
def yX3_highOf : MethodName := ⟨RX3, "highOf", "(I)I"⟩
def dkwX3_highOf_6 : List UInt8 := [158, 0, 10, 21, 4, 4, 96, 167, 0, 5, 21, 4, 172, 3, 172, 21, 4, 172]
abbrev dktX3_highOf_6 : List UInt8 := dkwX3_highOf_6 ++ []
def dkwX3_highOf_5 : List UInt8 := [21, 4, 5, 108, 172, 21, 4, 7, 162, 0, 7, 3, 167, 0, 9, 21, 4, 5, 108, 5, 100, 172, 28]
abbrev dktX3_highOf_5 : List UInt8 := dkwX3_highOf_5 ++ dktX3_highOf_6
def dkwX3_highOf_4 : List UInt8 := [170, 0, 0, 0, 0, 0, 73, 0, 0, 0, 1, 0, 0, 0, 5, 0, 0, 0, 35, 0, 0, 0, 57, 0, 0, 0, 40, 0, 0, 0, 57, 0, 0, 0, 71]
abbrev dktX3_highOf_4 : List UInt8 := dkwX3_highOf_4 ++ dktX3_highOf_5
def dkwX3_highOf_3 : List UInt8 := [184, 0, 103, 54, 4, 42, 27, 3, 182, 0, 92]
abbrev dktX3_highOf_3 : List UInt8 := dkwX3_highOf_3 ++ dktX3_highOf_4
def dkwX3_highOf_2 : List UInt8 := [16, 10, 108, 3, 17, 3, 231, 184, 0, 103, 167, 0, 15, 42, 29, 182, 0, 106, 3, 17, 3, 231]
abbrev dktX3_highOf_2 : List UInt8 := dkwX3_highOf_2 ++ dktX3_highOf_3
def dkwX3_highOf_1 : List UInt8 := [42, 27, 5, 182, 0, 92, 79, 42, 180, 0, 51, 5, 42, 27, 6, 182, 0, 92, 79, 29, 156, 0, 17, 28]
abbrev dktX3_highOf_1 : List UInt8 := dkwX3_highOf_1 ++ dktX3_highOf_2
def dkwX3_highOf_0 : List UInt8 := [42, 27, 182, 0, 96, 61, 42, 3, 182, 0, 100, 62, 42, 180, 0, 51, 3, 28, 79, 42, 180, 0, 51, 4]
abbrev dktX3_highOf_0 : List UInt8 := dkwX3_highOf_0 ++ dktX3_highOf_1
theorem dksX3_highOf_0 : cX3_highOf.data.toList.drop 0 = dktX3_highOf_0 := by decide +kernel
theorem dksX3_highOf_1 : cX3_highOf.data.toList.drop 24 = dktX3_highOf_1 := dk_seg dksX3_highOf_0 24 rfl rfl
theorem dksX3_highOf_2 : cX3_highOf.data.toList.drop 48 = dktX3_highOf_2 := dk_seg dksX3_highOf_1 24 rfl rfl
theorem dksX3_highOf_3 : cX3_highOf.data.toList.drop 70 = dktX3_highOf_3 := dk_seg dksX3_highOf_2 22 rfl rfl
theorem dksX3_highOf_4 : cX3_highOf.data.toList.drop 81 = dktX3_highOf_4 := dk_seg dksX3_highOf_3 11 rfl rfl
theorem dksX3_highOf_5 : cX3_highOf.data.toList.drop 116 = dktX3_highOf_5 := dk_seg dksX3_highOf_4 35 rfl rfl
theorem dksX3_highOf_6 : cX3_highOf.data.toList.drop 139 = dktX3_highOf_6 := dk_seg dksX3_highOf_5 23 rfl rfl
theorem dX3_highOf_0 : decode cX3_highOf 0 = .ok (.aload_n 0, 1) := dk_42 (dk_at dksX3_highOf_0 0 rfl rfl)
theorem dX3_highOf_1 : decode cX3_highOf 1 = .ok (.iload_n 1, 1) := dk_27 (dk_at dksX3_highOf_0 1 rfl rfl)
theorem dX3_highOf_2 : decode cX3_highOf 2 = .ok (.invokevirtual 96, 3) := dk_182 0 96 (dk_at dksX3_highOf_0 2 rfl rfl)
theorem dX3_highOf_5 : decode cX3_highOf 5 = .ok (.istore_n 2, 1) := dk_61 (dk_at dksX3_highOf_0 5 rfl rfl)
theorem dX3_highOf_6 : decode cX3_highOf 6 = .ok (.aload_n 0, 1) := dk_42 (dk_at dksX3_highOf_0 6 rfl rfl)
theorem dX3_highOf_7 : decode cX3_highOf 7 = .ok (.iconst 0, 1) := dk_3 (dk_at dksX3_highOf_0 7 rfl rfl)
theorem dX3_highOf_8 : decode cX3_highOf 8 = .ok (.invokevirtual 100, 3) := dk_182 0 100 (dk_at dksX3_highOf_0 8 rfl rfl)
theorem dX3_highOf_11 : decode cX3_highOf 11 = .ok (.istore_n 3, 1) := dk_62 (dk_at dksX3_highOf_0 11 rfl rfl)
theorem dX3_highOf_12 : decode cX3_highOf 12 = .ok (.aload_n 0, 1) := dk_42 (dk_at dksX3_highOf_0 12 rfl rfl)
theorem dX3_highOf_13 : decode cX3_highOf 13 = .ok (.getfield 51, 3) := dk_180 0 51 (dk_at dksX3_highOf_0 13 rfl rfl)
theorem dX3_highOf_16 : decode cX3_highOf 16 = .ok (.iconst 0, 1) := dk_3 (dk_at dksX3_highOf_0 16 rfl rfl)
theorem dX3_highOf_17 : decode cX3_highOf 17 = .ok (.iload_n 2, 1) := dk_28 (dk_at dksX3_highOf_0 17 rfl rfl)
theorem dX3_highOf_18 : decode cX3_highOf 18 = .ok (.iastore, 1) := dk_79 (dk_at dksX3_highOf_0 18 rfl rfl)
theorem dX3_highOf_19 : decode cX3_highOf 19 = .ok (.aload_n 0, 1) := dk_42 (dk_at dksX3_highOf_0 19 rfl rfl)
theorem dX3_highOf_20 : decode cX3_highOf 20 = .ok (.getfield 51, 3) := dk_180 0 51 (dk_at dksX3_highOf_0 20 rfl rfl)
theorem dX3_highOf_23 : decode cX3_highOf 23 = .ok (.iconst 1, 1) := dk_4 (dk_at dksX3_highOf_0 23 rfl rfl)
theorem dX3_highOf_24 : decode cX3_highOf 24 = .ok (.aload_n 0, 1) := dk_42 (dk_at dksX3_highOf_1 0 rfl rfl)
theorem dX3_highOf_25 : decode cX3_highOf 25 = .ok (.iload_n 1, 1) := dk_27 (dk_at dksX3_highOf_1 1 rfl rfl)
theorem dX3_highOf_26 : decode cX3_highOf 26 = .ok (.iconst 2, 1) := dk_5 (dk_at dksX3_highOf_1 2 rfl rfl)
theorem dX3_highOf_27 : decode cX3_highOf 27 = .ok (.invokevirtual 92, 3) := dk_182 0 92 (dk_at dksX3_highOf_1 3 rfl rfl)
theorem dX3_highOf_30 : decode cX3_highOf 30 = .ok (.iastore, 1) := dk_79 (dk_at dksX3_highOf_1 6 rfl rfl)
theorem dX3_highOf_31 : decode cX3_highOf 31 = .ok (.aload_n 0, 1) := dk_42 (dk_at dksX3_highOf_1 7 rfl rfl)
theorem dX3_highOf_32 : decode cX3_highOf 32 = .ok (.getfield 51, 3) := dk_180 0 51 (dk_at dksX3_highOf_1 8 rfl rfl)
theorem dX3_highOf_35 : decode cX3_highOf 35 = .ok (.iconst 2, 1) := dk_5 (dk_at dksX3_highOf_1 11 rfl rfl)
theorem dX3_highOf_36 : decode cX3_highOf 36 = .ok (.aload_n 0, 1) := dk_42 (dk_at dksX3_highOf_1 12 rfl rfl)
theorem dX3_highOf_37 : decode cX3_highOf 37 = .ok (.iload_n 1, 1) := dk_27 (dk_at dksX3_highOf_1 13 rfl rfl)
theorem dX3_highOf_38 : decode cX3_highOf 38 = .ok (.iconst 3, 1) := dk_6 (dk_at dksX3_highOf_1 14 rfl rfl)
theorem dX3_highOf_39 : decode cX3_highOf 39 = .ok (.invokevirtual 92, 3) := dk_182 0 92 (dk_at dksX3_highOf_1 15 rfl rfl)
theorem dX3_highOf_42 : decode cX3_highOf 42 = .ok (.iastore, 1) := dk_79 (dk_at dksX3_highOf_1 18 rfl rfl)
theorem dX3_highOf_43 : decode cX3_highOf 43 = .ok (.iload_n 3, 1) := dk_29 (dk_at dksX3_highOf_1 19 rfl rfl)
theorem dX3_highOf_44 : decode cX3_highOf 44 = .ok (.ifCond .ge 17, 3) := dk_156 0 17 (dk_at dksX3_highOf_1 20 rfl rfl)
theorem dX3_highOf_47 : decode cX3_highOf 47 = .ok (.iload_n 2, 1) := dk_28 (dk_at dksX3_highOf_1 23 rfl rfl)
theorem dX3_highOf_48 : decode cX3_highOf 48 = .ok (.bipush 10, 2) := dk_16 10 (dk_at dksX3_highOf_2 0 rfl rfl)
theorem dX3_highOf_50 : decode cX3_highOf 50 = .ok (.idiv, 1) := dk_108 (dk_at dksX3_highOf_2 2 rfl rfl)
theorem dX3_highOf_51 : decode cX3_highOf 51 = .ok (.iconst 0, 1) := dk_3 (dk_at dksX3_highOf_2 3 rfl rfl)
theorem dX3_highOf_52 : decode cX3_highOf 52 = .ok (.sipush 999, 3) := dk_17 3 231 (dk_at dksX3_highOf_2 4 rfl rfl)
theorem dX3_highOf_55 : decode cX3_highOf 55 = .ok (.invokestatic 103, 3) := dk_184 0 103 (dk_at dksX3_highOf_2 7 rfl rfl)
theorem dX3_highOf_58 : decode cX3_highOf 58 = .ok (.goto 15, 3) := dk_167 0 15 (dk_at dksX3_highOf_2 10 rfl rfl)
theorem dX3_highOf_61 : decode cX3_highOf 61 = .ok (.aload_n 0, 1) := dk_42 (dk_at dksX3_highOf_2 13 rfl rfl)
theorem dX3_highOf_62 : decode cX3_highOf 62 = .ok (.iload_n 3, 1) := dk_29 (dk_at dksX3_highOf_2 14 rfl rfl)
theorem dX3_highOf_63 : decode cX3_highOf 63 = .ok (.invokevirtual 106, 3) := dk_182 0 106 (dk_at dksX3_highOf_2 15 rfl rfl)
theorem dX3_highOf_66 : decode cX3_highOf 66 = .ok (.iconst 0, 1) := dk_3 (dk_at dksX3_highOf_2 18 rfl rfl)
theorem dX3_highOf_67 : decode cX3_highOf 67 = .ok (.sipush 999, 3) := dk_17 3 231 (dk_at dksX3_highOf_2 19 rfl rfl)
theorem dX3_highOf_70 : decode cX3_highOf 70 = .ok (.invokestatic 103, 3) := dk_184 0 103 (dk_at dksX3_highOf_3 0 rfl rfl)
theorem dX3_highOf_73 : decode cX3_highOf 73 = .ok (.istore 4, 2) := dk_54 4 (dk_at dksX3_highOf_3 3 rfl rfl)
theorem dX3_highOf_75 : decode cX3_highOf 75 = .ok (.aload_n 0, 1) := dk_42 (dk_at dksX3_highOf_3 5 rfl rfl)
theorem dX3_highOf_76 : decode cX3_highOf 76 = .ok (.iload_n 1, 1) := dk_27 (dk_at dksX3_highOf_3 6 rfl rfl)
theorem dX3_highOf_77 : decode cX3_highOf 77 = .ok (.iconst 0, 1) := dk_3 (dk_at dksX3_highOf_3 7 rfl rfl)
theorem dX3_highOf_78 : decode cX3_highOf 78 = .ok (.invokevirtual 92, 3) := dk_182 0 92 (dk_at dksX3_highOf_3 8 rfl rfl)
theorem dX3_highOf_81 : decode cX3_highOf 81 = .ok (.tableswitch 73 1 5 #[35, 57, 40, 57, 71], 35) := by decide +kernel
theorem dX3_highOf_116 : decode cX3_highOf 116 = .ok (.iload 4, 2) := dk_21 4 (dk_at dksX3_highOf_5 0 rfl rfl)
theorem dX3_highOf_118 : decode cX3_highOf 118 = .ok (.iconst 2, 1) := dk_5 (dk_at dksX3_highOf_5 2 rfl rfl)
theorem dX3_highOf_119 : decode cX3_highOf 119 = .ok (.idiv, 1) := dk_108 (dk_at dksX3_highOf_5 3 rfl rfl)
theorem dX3_highOf_120 : decode cX3_highOf 120 = .ok (.ireturn, 1) := dk_172 (dk_at dksX3_highOf_5 4 rfl rfl)
theorem dX3_highOf_121 : decode cX3_highOf 121 = .ok (.iload 4, 2) := dk_21 4 (dk_at dksX3_highOf_5 5 rfl rfl)
theorem dX3_highOf_123 : decode cX3_highOf 123 = .ok (.iconst 4, 1) := dk_7 (dk_at dksX3_highOf_5 7 rfl rfl)
theorem dX3_highOf_124 : decode cX3_highOf 124 = .ok (.if_icmp .ge 7, 3) := dk_162 0 7 (dk_at dksX3_highOf_5 8 rfl rfl)
theorem dX3_highOf_127 : decode cX3_highOf 127 = .ok (.iconst 0, 1) := dk_3 (dk_at dksX3_highOf_5 11 rfl rfl)
theorem dX3_highOf_128 : decode cX3_highOf 128 = .ok (.goto 9, 3) := dk_167 0 9 (dk_at dksX3_highOf_5 12 rfl rfl)
theorem dX3_highOf_131 : decode cX3_highOf 131 = .ok (.iload 4, 2) := dk_21 4 (dk_at dksX3_highOf_5 15 rfl rfl)
theorem dX3_highOf_133 : decode cX3_highOf 133 = .ok (.iconst 2, 1) := dk_5 (dk_at dksX3_highOf_5 17 rfl rfl)
theorem dX3_highOf_134 : decode cX3_highOf 134 = .ok (.idiv, 1) := dk_108 (dk_at dksX3_highOf_5 18 rfl rfl)
theorem dX3_highOf_135 : decode cX3_highOf 135 = .ok (.iconst 2, 1) := dk_5 (dk_at dksX3_highOf_5 19 rfl rfl)
theorem dX3_highOf_136 : decode cX3_highOf 136 = .ok (.isub, 1) := dk_100 (dk_at dksX3_highOf_5 20 rfl rfl)
theorem dX3_highOf_137 : decode cX3_highOf 137 = .ok (.ireturn, 1) := dk_172 (dk_at dksX3_highOf_5 21 rfl rfl)
theorem dX3_highOf_138 : decode cX3_highOf 138 = .ok (.iload_n 2, 1) := dk_28 (dk_at dksX3_highOf_5 22 rfl rfl)
theorem dX3_highOf_139 : decode cX3_highOf 139 = .ok (.ifCond .le 10, 3) := dk_158 0 10 (dk_at dksX3_highOf_6 0 rfl rfl)
theorem dX3_highOf_142 : decode cX3_highOf 142 = .ok (.iload 4, 2) := dk_21 4 (dk_at dksX3_highOf_6 3 rfl rfl)
theorem dX3_highOf_144 : decode cX3_highOf 144 = .ok (.iconst 1, 1) := dk_4 (dk_at dksX3_highOf_6 5 rfl rfl)
theorem dX3_highOf_145 : decode cX3_highOf 145 = .ok (.iadd, 1) := dk_96 (dk_at dksX3_highOf_6 6 rfl rfl)
theorem dX3_highOf_146 : decode cX3_highOf 146 = .ok (.goto 5, 3) := dk_167 0 5 (dk_at dksX3_highOf_6 7 rfl rfl)
theorem dX3_highOf_149 : decode cX3_highOf 149 = .ok (.iload 4, 2) := dk_21 4 (dk_at dksX3_highOf_6 10 rfl rfl)
theorem dX3_highOf_151 : decode cX3_highOf 151 = .ok (.ireturn, 1) := dk_172 (dk_at dksX3_highOf_6 12 rfl rfl)
theorem dX3_highOf_152 : decode cX3_highOf 152 = .ok (.iconst 0, 1) := dk_3 (dk_at dksX3_highOf_6 13 rfl rfl)
theorem dX3_highOf_153 : decode cX3_highOf 153 = .ok (.ireturn, 1) := dk_172 (dk_at dksX3_highOf_6 14 rfl rfl)
theorem dX3_highOf_154 : decode cX3_highOf 154 = .ok (.iload 4, 2) := dk_21 4 (dk_at dksX3_highOf_6 15 rfl rfl)
theorem dX3_highOf_156 : decode cX3_highOf 156 = .ok (.ireturn, 1) := dk_172 (dk_at dksX3_highOf_6 17 rfl rfl)
abbrev cX3_counts : ByteArray := prog_22_method_74_code
def yX3_counts : MethodName := ⟨RX3, "counts", "(I)I"⟩
def dkwX3_counts_1 : List UInt8 := [46, 17, 3, 232, 108, 27, 160, 0, 5, 28, 172, 132, 2, 255, 167, 255, 228, 2, 172]
abbrev dktX3_counts_1 : List UInt8 := dkwX3_counts_1 ++ []
def dkwX3_counts_0 : List UInt8 := [42, 180, 0, 9, 16, 6, 46, 4, 100, 61, 28, 155, 0, 30, 42, 180, 0, 9, 16, 107, 5, 28, 104, 96]
abbrev dktX3_counts_0 : List UInt8 := dkwX3_counts_0 ++ dktX3_counts_1
theorem dksX3_counts_0 : cX3_counts.data.toList.drop 0 = dktX3_counts_0 := by decide +kernel
theorem dksX3_counts_1 : cX3_counts.data.toList.drop 24 = dktX3_counts_1 := dk_seg dksX3_counts_0 24 rfl rfl
theorem dX3_counts_0 : decode cX3_counts 0 = .ok (.aload_n 0, 1) := dk_42 (dk_at dksX3_counts_0 0 rfl rfl)
theorem dX3_counts_1 : decode cX3_counts 1 = .ok (.getfield 9, 3) := dk_180 0 9 (dk_at dksX3_counts_0 1 rfl rfl)
theorem dX3_counts_4 : decode cX3_counts 4 = .ok (.bipush 6, 2) := dk_16 6 (dk_at dksX3_counts_0 4 rfl rfl)
theorem dX3_counts_6 : decode cX3_counts 6 = .ok (.iaload, 1) := dk_46 (dk_at dksX3_counts_0 6 rfl rfl)
theorem dX3_counts_7 : decode cX3_counts 7 = .ok (.iconst 1, 1) := dk_4 (dk_at dksX3_counts_0 7 rfl rfl)
theorem dX3_counts_8 : decode cX3_counts 8 = .ok (.isub, 1) := dk_100 (dk_at dksX3_counts_0 8 rfl rfl)
theorem dX3_counts_9 : decode cX3_counts 9 = .ok (.istore_n 2, 1) := dk_61 (dk_at dksX3_counts_0 9 rfl rfl)
theorem dX3_counts_10 : decode cX3_counts 10 = .ok (.iload_n 2, 1) := dk_28 (dk_at dksX3_counts_0 10 rfl rfl)
theorem dX3_counts_11 : decode cX3_counts 11 = .ok (.ifCond .lt 30, 3) := dk_155 0 30 (dk_at dksX3_counts_0 11 rfl rfl)
theorem dX3_counts_14 : decode cX3_counts 14 = .ok (.aload_n 0, 1) := dk_42 (dk_at dksX3_counts_0 14 rfl rfl)
theorem dX3_counts_15 : decode cX3_counts 15 = .ok (.getfield 9, 3) := dk_180 0 9 (dk_at dksX3_counts_0 15 rfl rfl)
theorem dX3_counts_18 : decode cX3_counts 18 = .ok (.bipush 107, 2) := dk_16 107 (dk_at dksX3_counts_0 18 rfl rfl)
theorem dX3_counts_20 : decode cX3_counts 20 = .ok (.iconst 2, 1) := dk_5 (dk_at dksX3_counts_0 20 rfl rfl)
theorem dX3_counts_21 : decode cX3_counts 21 = .ok (.iload_n 2, 1) := dk_28 (dk_at dksX3_counts_0 21 rfl rfl)
theorem dX3_counts_22 : decode cX3_counts 22 = .ok (.imul, 1) := dk_104 (dk_at dksX3_counts_0 22 rfl rfl)
theorem dX3_counts_23 : decode cX3_counts 23 = .ok (.iadd, 1) := dk_96 (dk_at dksX3_counts_0 23 rfl rfl)
theorem dX3_counts_24 : decode cX3_counts 24 = .ok (.iaload, 1) := dk_46 (dk_at dksX3_counts_1 0 rfl rfl)
theorem dX3_counts_25 : decode cX3_counts 25 = .ok (.sipush 1000, 3) := dk_17 3 232 (dk_at dksX3_counts_1 1 rfl rfl)
theorem dX3_counts_28 : decode cX3_counts 28 = .ok (.idiv, 1) := dk_108 (dk_at dksX3_counts_1 4 rfl rfl)
theorem dX3_counts_29 : decode cX3_counts 29 = .ok (.iload_n 1, 1) := dk_27 (dk_at dksX3_counts_1 5 rfl rfl)
theorem dX3_counts_30 : decode cX3_counts 30 = .ok (.if_icmp .ne 5, 3) := dk_160 0 5 (dk_at dksX3_counts_1 6 rfl rfl)
theorem dX3_counts_33 : decode cX3_counts 33 = .ok (.iload_n 2, 1) := dk_28 (dk_at dksX3_counts_1 9 rfl rfl)
theorem dX3_counts_34 : decode cX3_counts 34 = .ok (.ireturn, 1) := dk_172 (dk_at dksX3_counts_1 10 rfl rfl)
theorem dX3_counts_35 : decode cX3_counts 35 = .ok (.iinc 2 (-1), 3) := dk_132 2 255 (dk_at dksX3_counts_1 11 rfl rfl)
theorem dX3_counts_38 : decode cX3_counts 38 = .ok (.goto (-28), 3) := dk_167 255 228 (dk_at dksX3_counts_1 14 rfl rfl)
theorem dX3_counts_41 : decode cX3_counts 41 = .ok (.iconst (-1), 1) := dk_2 (dk_at dksX3_counts_1 17 rfl rfl)
theorem dX3_counts_42 : decode cX3_counts 42 = .ok (.ireturn, 1) := dk_172 (dk_at dksX3_counts_1 18 rfl rfl)
abbrev cX3_within : ByteArray := prog_22_method_3_code
def yX3_within : MethodName := ⟨RX3, "within", "(III)I"⟩
def dkwX3_within_0 : List UInt8 := [26, 27, 162, 0, 7, 27, 167, 0, 13, 26, 28, 164, 0, 7, 28, 167, 0, 4, 26, 172]
abbrev dktX3_within_0 : List UInt8 := dkwX3_within_0 ++ []
theorem dksX3_within_0 : cX3_within.data.toList.drop 0 = dktX3_within_0 := by decide +kernel
theorem dX3_within_0 : decode cX3_within 0 = .ok (.iload_n 0, 1) := dk_26 (dk_at dksX3_within_0 0 rfl rfl)
theorem dX3_within_1 : decode cX3_within 1 = .ok (.iload_n 1, 1) := dk_27 (dk_at dksX3_within_0 1 rfl rfl)
theorem dX3_within_2 : decode cX3_within 2 = .ok (.if_icmp .ge 7, 3) := dk_162 0 7 (dk_at dksX3_within_0 2 rfl rfl)
theorem dX3_within_5 : decode cX3_within 5 = .ok (.iload_n 1, 1) := dk_27 (dk_at dksX3_within_0 5 rfl rfl)
theorem dX3_within_6 : decode cX3_within 6 = .ok (.goto 13, 3) := dk_167 0 13 (dk_at dksX3_within_0 6 rfl rfl)
theorem dX3_within_9 : decode cX3_within 9 = .ok (.iload_n 0, 1) := dk_26 (dk_at dksX3_within_0 9 rfl rfl)
theorem dX3_within_10 : decode cX3_within 10 = .ok (.iload_n 2, 1) := dk_28 (dk_at dksX3_within_0 10 rfl rfl)
theorem dX3_within_11 : decode cX3_within 11 = .ok (.if_icmp .le 7, 3) := dk_164 0 7 (dk_at dksX3_within_0 11 rfl rfl)
theorem dX3_within_14 : decode cX3_within 14 = .ok (.iload_n 2, 1) := dk_28 (dk_at dksX3_within_0 14 rfl rfl)
theorem dX3_within_15 : decode cX3_within 15 = .ok (.goto 4, 3) := dk_167 0 4 (dk_at dksX3_within_0 15 rfl rfl)
theorem dX3_within_18 : decode cX3_within 18 = .ok (.iload_n 0, 1) := dk_26 (dk_at dksX3_within_0 18 rfl rfl)
theorem dX3_within_19 : decode cX3_within 19 = .ok (.ireturn, 1) := dk_172 (dk_at dksX3_within_0 19 rfl rfl)
abbrev cX3_worksOut : ByteArray := prog_22_method_77_code
def yX3_worksOut : MethodName := ⟨RX3, "worksOut", "(I)I"⟩
def dkwX3_worksOut_6 : List UInt8 := [180, 0, 48, 28, 46, 184, 1, 12, 79, 132, 4, 1, 167, 255, 124, 42, 180, 0, 48, 3, 46, 172]
abbrev dktX3_worksOut_6 : List UInt8 := dkwX3_worksOut_6 ++ []
def dkwX3_worksOut_5 : List UInt8 := [167, 0, 33, 132, 2, 255, 42, 180, 0, 48, 28, 4, 100, 21, 5, 42, 180, 0, 48, 28, 4, 100, 46, 42]
abbrev dktX3_worksOut_5 : List UInt8 := dkwX3_worksOut_5 ++ dktX3_worksOut_6
def dkwX3_worksOut_4 : List UInt8 := [42, 180, 0, 48, 28, 4, 100, 42, 180, 0, 48, 28, 4, 100, 46, 154, 0, 7, 4, 167, 0, 4, 3, 79]
abbrev dktX3_worksOut_4 : List UInt8 := dkwX3_worksOut_4 ++ dktX3_worksOut_5
def dkwX3_worksOut_3 : List UInt8 := [180, 0, 51, 21, 5, 17, 39, 16, 100, 46, 79, 132, 2, 1, 167, 0, 67, 21, 5, 16, 246, 160, 0, 30]
abbrev dktX3_worksOut_3 : List UInt8 := dkwX3_worksOut_3 ++ dktX3_worksOut_4
def dkwX3_worksOut_2 : List UInt8 := [155, 0, 39, 42, 180, 0, 48, 28, 21, 5, 17, 39, 16, 162, 0, 8, 21, 5, 167, 0, 14, 42]
abbrev dktX3_worksOut_2 : List UInt8 := dkwX3_worksOut_2 ++ dktX3_worksOut_3
def dkwX3_worksOut_1 : List UInt8 := [162, 0, 132, 42, 180, 0, 9, 17, 0, 135, 16, 96, 27, 104, 96, 21, 4, 96, 46, 54, 5, 21, 5]
abbrev dktX3_worksOut_1 : List UInt8 := dkwX3_worksOut_1 ++ dktX3_worksOut_2
def dkwX3_worksOut_0 : List UInt8 := [3, 61, 42, 180, 0, 9, 16, 107, 5, 27, 104, 96, 46, 17, 3, 232, 112, 62, 3, 54, 4, 21, 4, 29]
abbrev dktX3_worksOut_0 : List UInt8 := dkwX3_worksOut_0 ++ dktX3_worksOut_1
theorem dksX3_worksOut_0 : cX3_worksOut.data.toList.drop 0 = dktX3_worksOut_0 := by decide +kernel
theorem dksX3_worksOut_1 : cX3_worksOut.data.toList.drop 24 = dktX3_worksOut_1 := dk_seg dksX3_worksOut_0 24 rfl rfl
theorem dksX3_worksOut_2 : cX3_worksOut.data.toList.drop 47 = dktX3_worksOut_2 := dk_seg dksX3_worksOut_1 23 rfl rfl
theorem dksX3_worksOut_3 : cX3_worksOut.data.toList.drop 69 = dktX3_worksOut_3 := dk_seg dksX3_worksOut_2 22 rfl rfl
theorem dksX3_worksOut_4 : cX3_worksOut.data.toList.drop 93 = dktX3_worksOut_4 := dk_seg dksX3_worksOut_3 24 rfl rfl
theorem dksX3_worksOut_5 : cX3_worksOut.data.toList.drop 117 = dktX3_worksOut_5 := dk_seg dksX3_worksOut_4 24 rfl rfl
theorem dksX3_worksOut_6 : cX3_worksOut.data.toList.drop 141 = dktX3_worksOut_6 := dk_seg dksX3_worksOut_5 24 rfl rfl
theorem dX3_worksOut_0 : decode cX3_worksOut 0 = .ok (.iconst 0, 1) := dk_3 (dk_at dksX3_worksOut_0 0 rfl rfl)
theorem dX3_worksOut_1 : decode cX3_worksOut 1 = .ok (.istore_n 2, 1) := dk_61 (dk_at dksX3_worksOut_0 1 rfl rfl)
theorem dX3_worksOut_2 : decode cX3_worksOut 2 = .ok (.aload_n 0, 1) := dk_42 (dk_at dksX3_worksOut_0 2 rfl rfl)
theorem dX3_worksOut_3 : decode cX3_worksOut 3 = .ok (.getfield 9, 3) := dk_180 0 9 (dk_at dksX3_worksOut_0 3 rfl rfl)
theorem dX3_worksOut_6 : decode cX3_worksOut 6 = .ok (.bipush 107, 2) := dk_16 107 (dk_at dksX3_worksOut_0 6 rfl rfl)
theorem dX3_worksOut_8 : decode cX3_worksOut 8 = .ok (.iconst 2, 1) := dk_5 (dk_at dksX3_worksOut_0 8 rfl rfl)
theorem dX3_worksOut_9 : decode cX3_worksOut 9 = .ok (.iload_n 1, 1) := dk_27 (dk_at dksX3_worksOut_0 9 rfl rfl)
theorem dX3_worksOut_10 : decode cX3_worksOut 10 = .ok (.imul, 1) := dk_104 (dk_at dksX3_worksOut_0 10 rfl rfl)
theorem dX3_worksOut_11 : decode cX3_worksOut 11 = .ok (.iadd, 1) := dk_96 (dk_at dksX3_worksOut_0 11 rfl rfl)
theorem dX3_worksOut_12 : decode cX3_worksOut 12 = .ok (.iaload, 1) := dk_46 (dk_at dksX3_worksOut_0 12 rfl rfl)
theorem dX3_worksOut_13 : decode cX3_worksOut 13 = .ok (.sipush 1000, 3) := dk_17 3 232 (dk_at dksX3_worksOut_0 13 rfl rfl)
theorem dX3_worksOut_16 : decode cX3_worksOut 16 = .ok (.irem, 1) := dk_112 (dk_at dksX3_worksOut_0 16 rfl rfl)
theorem dX3_worksOut_17 : decode cX3_worksOut 17 = .ok (.istore_n 3, 1) := dk_62 (dk_at dksX3_worksOut_0 17 rfl rfl)
theorem dX3_worksOut_18 : decode cX3_worksOut 18 = .ok (.iconst 0, 1) := dk_3 (dk_at dksX3_worksOut_0 18 rfl rfl)
theorem dX3_worksOut_19 : decode cX3_worksOut 19 = .ok (.istore 4, 2) := dk_54 4 (dk_at dksX3_worksOut_0 19 rfl rfl)
theorem dX3_worksOut_21 : decode cX3_worksOut 21 = .ok (.iload 4, 2) := dk_21 4 (dk_at dksX3_worksOut_0 21 rfl rfl)
theorem dX3_worksOut_23 : decode cX3_worksOut 23 = .ok (.iload_n 3, 1) := dk_29 (dk_at dksX3_worksOut_0 23 rfl rfl)
theorem dX3_worksOut_24 : decode cX3_worksOut 24 = .ok (.if_icmp .ge 132, 3) := dk_162 0 132 (dk_at dksX3_worksOut_1 0 rfl rfl)
theorem dX3_worksOut_27 : decode cX3_worksOut 27 = .ok (.aload_n 0, 1) := dk_42 (dk_at dksX3_worksOut_1 3 rfl rfl)
theorem dX3_worksOut_28 : decode cX3_worksOut 28 = .ok (.getfield 9, 3) := dk_180 0 9 (dk_at dksX3_worksOut_1 4 rfl rfl)
theorem dX3_worksOut_31 : decode cX3_worksOut 31 = .ok (.sipush 135, 3) := dk_17 0 135 (dk_at dksX3_worksOut_1 7 rfl rfl)
theorem dX3_worksOut_34 : decode cX3_worksOut 34 = .ok (.bipush 96, 2) := dk_16 96 (dk_at dksX3_worksOut_1 10 rfl rfl)
theorem dX3_worksOut_36 : decode cX3_worksOut 36 = .ok (.iload_n 1, 1) := dk_27 (dk_at dksX3_worksOut_1 12 rfl rfl)
theorem dX3_worksOut_37 : decode cX3_worksOut 37 = .ok (.imul, 1) := dk_104 (dk_at dksX3_worksOut_1 13 rfl rfl)
theorem dX3_worksOut_38 : decode cX3_worksOut 38 = .ok (.iadd, 1) := dk_96 (dk_at dksX3_worksOut_1 14 rfl rfl)
theorem dX3_worksOut_39 : decode cX3_worksOut 39 = .ok (.iload 4, 2) := dk_21 4 (dk_at dksX3_worksOut_1 15 rfl rfl)
theorem dX3_worksOut_41 : decode cX3_worksOut 41 = .ok (.iadd, 1) := dk_96 (dk_at dksX3_worksOut_1 17 rfl rfl)
theorem dX3_worksOut_42 : decode cX3_worksOut 42 = .ok (.iaload, 1) := dk_46 (dk_at dksX3_worksOut_1 18 rfl rfl)
theorem dX3_worksOut_43 : decode cX3_worksOut 43 = .ok (.istore 5, 2) := dk_54 5 (dk_at dksX3_worksOut_1 19 rfl rfl)
theorem dX3_worksOut_45 : decode cX3_worksOut 45 = .ok (.iload 5, 2) := dk_21 5 (dk_at dksX3_worksOut_1 21 rfl rfl)
theorem dX3_worksOut_47 : decode cX3_worksOut 47 = .ok (.ifCond .lt 39, 3) := dk_155 0 39 (dk_at dksX3_worksOut_2 0 rfl rfl)
theorem dX3_worksOut_50 : decode cX3_worksOut 50 = .ok (.aload_n 0, 1) := dk_42 (dk_at dksX3_worksOut_2 3 rfl rfl)
theorem dX3_worksOut_51 : decode cX3_worksOut 51 = .ok (.getfield 48, 3) := dk_180 0 48 (dk_at dksX3_worksOut_2 4 rfl rfl)
theorem dX3_worksOut_54 : decode cX3_worksOut 54 = .ok (.iload_n 2, 1) := dk_28 (dk_at dksX3_worksOut_2 7 rfl rfl)
theorem dX3_worksOut_55 : decode cX3_worksOut 55 = .ok (.iload 5, 2) := dk_21 5 (dk_at dksX3_worksOut_2 8 rfl rfl)
theorem dX3_worksOut_57 : decode cX3_worksOut 57 = .ok (.sipush 10000, 3) := dk_17 39 16 (dk_at dksX3_worksOut_2 10 rfl rfl)
theorem dX3_worksOut_60 : decode cX3_worksOut 60 = .ok (.if_icmp .ge 8, 3) := dk_162 0 8 (dk_at dksX3_worksOut_2 13 rfl rfl)
theorem dX3_worksOut_63 : decode cX3_worksOut 63 = .ok (.iload 5, 2) := dk_21 5 (dk_at dksX3_worksOut_2 16 rfl rfl)
theorem dX3_worksOut_65 : decode cX3_worksOut 65 = .ok (.goto 14, 3) := dk_167 0 14 (dk_at dksX3_worksOut_2 18 rfl rfl)
theorem dX3_worksOut_68 : decode cX3_worksOut 68 = .ok (.aload_n 0, 1) := dk_42 (dk_at dksX3_worksOut_2 21 rfl rfl)
theorem dX3_worksOut_69 : decode cX3_worksOut 69 = .ok (.getfield 51, 3) := dk_180 0 51 (dk_at dksX3_worksOut_3 0 rfl rfl)
theorem dX3_worksOut_72 : decode cX3_worksOut 72 = .ok (.iload 5, 2) := dk_21 5 (dk_at dksX3_worksOut_3 3 rfl rfl)
theorem dX3_worksOut_74 : decode cX3_worksOut 74 = .ok (.sipush 10000, 3) := dk_17 39 16 (dk_at dksX3_worksOut_3 5 rfl rfl)
theorem dX3_worksOut_77 : decode cX3_worksOut 77 = .ok (.isub, 1) := dk_100 (dk_at dksX3_worksOut_3 8 rfl rfl)
theorem dX3_worksOut_78 : decode cX3_worksOut 78 = .ok (.iaload, 1) := dk_46 (dk_at dksX3_worksOut_3 9 rfl rfl)
theorem dX3_worksOut_79 : decode cX3_worksOut 79 = .ok (.iastore, 1) := dk_79 (dk_at dksX3_worksOut_3 10 rfl rfl)
theorem dX3_worksOut_80 : decode cX3_worksOut 80 = .ok (.iinc 2 1, 3) := dk_132 2 1 (dk_at dksX3_worksOut_3 11 rfl rfl)
theorem dX3_worksOut_83 : decode cX3_worksOut 83 = .ok (.goto 67, 3) := dk_167 0 67 (dk_at dksX3_worksOut_3 14 rfl rfl)
theorem dX3_worksOut_86 : decode cX3_worksOut 86 = .ok (.iload 5, 2) := dk_21 5 (dk_at dksX3_worksOut_3 17 rfl rfl)
theorem dX3_worksOut_88 : decode cX3_worksOut 88 = .ok (.bipush (-10), 2) := dk_16 246 (dk_at dksX3_worksOut_3 19 rfl rfl)
theorem dX3_worksOut_90 : decode cX3_worksOut 90 = .ok (.if_icmp .ne 30, 3) := dk_160 0 30 (dk_at dksX3_worksOut_3 21 rfl rfl)
theorem dX3_worksOut_93 : decode cX3_worksOut 93 = .ok (.aload_n 0, 1) := dk_42 (dk_at dksX3_worksOut_4 0 rfl rfl)
theorem dX3_worksOut_94 : decode cX3_worksOut 94 = .ok (.getfield 48, 3) := dk_180 0 48 (dk_at dksX3_worksOut_4 1 rfl rfl)
theorem dX3_worksOut_97 : decode cX3_worksOut 97 = .ok (.iload_n 2, 1) := dk_28 (dk_at dksX3_worksOut_4 4 rfl rfl)
theorem dX3_worksOut_98 : decode cX3_worksOut 98 = .ok (.iconst 1, 1) := dk_4 (dk_at dksX3_worksOut_4 5 rfl rfl)
theorem dX3_worksOut_99 : decode cX3_worksOut 99 = .ok (.isub, 1) := dk_100 (dk_at dksX3_worksOut_4 6 rfl rfl)
theorem dX3_worksOut_100 : decode cX3_worksOut 100 = .ok (.aload_n 0, 1) := dk_42 (dk_at dksX3_worksOut_4 7 rfl rfl)
theorem dX3_worksOut_101 : decode cX3_worksOut 101 = .ok (.getfield 48, 3) := dk_180 0 48 (dk_at dksX3_worksOut_4 8 rfl rfl)
theorem dX3_worksOut_104 : decode cX3_worksOut 104 = .ok (.iload_n 2, 1) := dk_28 (dk_at dksX3_worksOut_4 11 rfl rfl)
theorem dX3_worksOut_105 : decode cX3_worksOut 105 = .ok (.iconst 1, 1) := dk_4 (dk_at dksX3_worksOut_4 12 rfl rfl)
theorem dX3_worksOut_106 : decode cX3_worksOut 106 = .ok (.isub, 1) := dk_100 (dk_at dksX3_worksOut_4 13 rfl rfl)
theorem dX3_worksOut_107 : decode cX3_worksOut 107 = .ok (.iaload, 1) := dk_46 (dk_at dksX3_worksOut_4 14 rfl rfl)
theorem dX3_worksOut_108 : decode cX3_worksOut 108 = .ok (.ifCond .ne 7, 3) := dk_154 0 7 (dk_at dksX3_worksOut_4 15 rfl rfl)
theorem dX3_worksOut_111 : decode cX3_worksOut 111 = .ok (.iconst 1, 1) := dk_4 (dk_at dksX3_worksOut_4 18 rfl rfl)
theorem dX3_worksOut_112 : decode cX3_worksOut 112 = .ok (.goto 4, 3) := dk_167 0 4 (dk_at dksX3_worksOut_4 19 rfl rfl)
theorem dX3_worksOut_115 : decode cX3_worksOut 115 = .ok (.iconst 0, 1) := dk_3 (dk_at dksX3_worksOut_4 22 rfl rfl)
theorem dX3_worksOut_116 : decode cX3_worksOut 116 = .ok (.iastore, 1) := dk_79 (dk_at dksX3_worksOut_4 23 rfl rfl)
theorem dX3_worksOut_117 : decode cX3_worksOut 117 = .ok (.goto 33, 3) := dk_167 0 33 (dk_at dksX3_worksOut_5 0 rfl rfl)
theorem dX3_worksOut_120 : decode cX3_worksOut 120 = .ok (.iinc 2 (-1), 3) := dk_132 2 255 (dk_at dksX3_worksOut_5 3 rfl rfl)
theorem dX3_worksOut_123 : decode cX3_worksOut 123 = .ok (.aload_n 0, 1) := dk_42 (dk_at dksX3_worksOut_5 6 rfl rfl)
theorem dX3_worksOut_124 : decode cX3_worksOut 124 = .ok (.getfield 48, 3) := dk_180 0 48 (dk_at dksX3_worksOut_5 7 rfl rfl)
theorem dX3_worksOut_127 : decode cX3_worksOut 127 = .ok (.iload_n 2, 1) := dk_28 (dk_at dksX3_worksOut_5 10 rfl rfl)
theorem dX3_worksOut_128 : decode cX3_worksOut 128 = .ok (.iconst 1, 1) := dk_4 (dk_at dksX3_worksOut_5 11 rfl rfl)
theorem dX3_worksOut_129 : decode cX3_worksOut 129 = .ok (.isub, 1) := dk_100 (dk_at dksX3_worksOut_5 12 rfl rfl)
theorem dX3_worksOut_130 : decode cX3_worksOut 130 = .ok (.iload 5, 2) := dk_21 5 (dk_at dksX3_worksOut_5 13 rfl rfl)
theorem dX3_worksOut_132 : decode cX3_worksOut 132 = .ok (.aload_n 0, 1) := dk_42 (dk_at dksX3_worksOut_5 15 rfl rfl)
theorem dX3_worksOut_133 : decode cX3_worksOut 133 = .ok (.getfield 48, 3) := dk_180 0 48 (dk_at dksX3_worksOut_5 16 rfl rfl)
theorem dX3_worksOut_136 : decode cX3_worksOut 136 = .ok (.iload_n 2, 1) := dk_28 (dk_at dksX3_worksOut_5 19 rfl rfl)
theorem dX3_worksOut_137 : decode cX3_worksOut 137 = .ok (.iconst 1, 1) := dk_4 (dk_at dksX3_worksOut_5 20 rfl rfl)
theorem dX3_worksOut_138 : decode cX3_worksOut 138 = .ok (.isub, 1) := dk_100 (dk_at dksX3_worksOut_5 21 rfl rfl)
theorem dX3_worksOut_139 : decode cX3_worksOut 139 = .ok (.iaload, 1) := dk_46 (dk_at dksX3_worksOut_5 22 rfl rfl)
theorem dX3_worksOut_140 : decode cX3_worksOut 140 = .ok (.aload_n 0, 1) := dk_42 (dk_at dksX3_worksOut_5 23 rfl rfl)
theorem dX3_worksOut_141 : decode cX3_worksOut 141 = .ok (.getfield 48, 3) := dk_180 0 48 (dk_at dksX3_worksOut_6 0 rfl rfl)
theorem dX3_worksOut_144 : decode cX3_worksOut 144 = .ok (.iload_n 2, 1) := dk_28 (dk_at dksX3_worksOut_6 3 rfl rfl)
theorem dX3_worksOut_145 : decode cX3_worksOut 145 = .ok (.iaload, 1) := dk_46 (dk_at dksX3_worksOut_6 4 rfl rfl)
theorem dX3_worksOut_146 : decode cX3_worksOut 146 = .ok (.invokestatic 268, 3) := dk_184 1 12 (dk_at dksX3_worksOut_6 5 rfl rfl)
theorem dX3_worksOut_149 : decode cX3_worksOut 149 = .ok (.iastore, 1) := dk_79 (dk_at dksX3_worksOut_6 8 rfl rfl)
theorem dX3_worksOut_150 : decode cX3_worksOut 150 = .ok (.iinc 4 1, 3) := dk_132 4 1 (dk_at dksX3_worksOut_6 9 rfl rfl)
theorem dX3_worksOut_153 : decode cX3_worksOut 153 = .ok (.goto (-132), 3) := dk_167 255 124 (dk_at dksX3_worksOut_6 12 rfl rfl)
theorem dX3_worksOut_156 : decode cX3_worksOut 156 = .ok (.aload_n 0, 1) := dk_42 (dk_at dksX3_worksOut_6 15 rfl rfl)
theorem dX3_worksOut_157 : decode cX3_worksOut 157 = .ok (.getfield 48, 3) := dk_180 0 48 (dk_at dksX3_worksOut_6 16 rfl rfl)
theorem dX3_worksOut_160 : decode cX3_worksOut 160 = .ok (.iconst 0, 1) := dk_3 (dk_at dksX3_worksOut_6 19 rfl rfl)
theorem dX3_worksOut_161 : decode cX3_worksOut 161 = .ok (.iaload, 1) := dk_46 (dk_at dksX3_worksOut_6 20 rfl rfl)
theorem dX3_worksOut_162 : decode cX3_worksOut 162 = .ok (.ireturn, 1) := dk_172 (dk_at dksX3_worksOut_6 21 rfl rfl)
abbrev cX3_two : ByteArray := prog_22_method_76_code
def yX3_two : MethodName := ⟨RX3, "two", "(III)I"⟩
def dkwX3_two_5 : List UInt8 := [27, 28, 104, 172, 28, 154, 0, 7, 3, 167, 0, 6, 27, 28, 108, 172]
abbrev dktX3_two_5 : List UInt8 := dkwX3_two_5 ++ []
def dkwX3_two_4 : List UInt8 := [167, 0, 4, 3, 172, 27, 28, 164, 0, 7, 4, 167, 0, 4, 3, 172, 27, 28, 96, 172, 27, 28, 100, 172]
abbrev dktX3_two_4 : List UInt8 := dkwX3_two_4 ++ dktX3_two_5
def dkwX3_two_3 : List UInt8 := [167, 0, 4, 3, 172, 27, 28, 162, 0, 7, 4, 167, 0, 4, 3, 172, 27, 28, 160, 0, 7, 4]
abbrev dktX3_two_3 : List UInt8 := dkwX3_two_3 ++ dktX3_two_4
def dkwX3_two_2 : List UInt8 := [27, 154, 0, 7, 28, 153, 0, 7, 4, 167, 0, 4, 3, 172, 27, 153, 0, 11, 28, 153, 0, 7, 4]
abbrev dktX3_two_2 : List UInt8 := dkwX3_two_2 ++ dktX3_two_3
def dkwX3_two_1 : List UInt8 := [170, 0, 0, 0, 0, 0, 120, 255, 255, 255, 248, 255, 255, 255, 255, 0, 0, 0, 116, 0, 0, 0, 112, 0, 0, 0, 108, 0, 0, 0, 97, 0, 0, 0, 86, 0, 0, 0, 75, 0, 0, 0, 61, 0, 0, 0, 47]
abbrev dktX3_two_1 : List UInt8 := dkwX3_two_1 ++ dktX3_two_2
def dkwX3_two_0 : List UInt8 := [26]
abbrev dktX3_two_0 : List UInt8 := dkwX3_two_0 ++ dktX3_two_1
theorem dksX3_two_0 : cX3_two.data.toList.drop 0 = dktX3_two_0 := by decide +kernel
theorem dksX3_two_1 : cX3_two.data.toList.drop 1 = dktX3_two_1 := dk_seg dksX3_two_0 1 rfl rfl
theorem dksX3_two_2 : cX3_two.data.toList.drop 48 = dktX3_two_2 := dk_seg dksX3_two_1 47 rfl rfl
theorem dksX3_two_3 : cX3_two.data.toList.drop 71 = dktX3_two_3 := dk_seg dksX3_two_2 23 rfl rfl
theorem dksX3_two_4 : cX3_two.data.toList.drop 93 = dktX3_two_4 := dk_seg dksX3_two_3 22 rfl rfl
theorem dksX3_two_5 : cX3_two.data.toList.drop 117 = dktX3_two_5 := dk_seg dksX3_two_4 24 rfl rfl
theorem dX3_two_0 : decode cX3_two 0 = .ok (.iload_n 0, 1) := dk_26 (dk_at dksX3_two_0 0 rfl rfl)
theorem dX3_two_1 : decode cX3_two 1 = .ok (.tableswitch 120 (-8) (-1) #[116, 112, 108, 97, 86, 75, 61, 47], 47) := by decide +kernel
theorem dX3_two_48 : decode cX3_two 48 = .ok (.iload_n 1, 1) := dk_27 (dk_at dksX3_two_2 0 rfl rfl)
theorem dX3_two_49 : decode cX3_two 49 = .ok (.ifCond .ne 7, 3) := dk_154 0 7 (dk_at dksX3_two_2 1 rfl rfl)
theorem dX3_two_52 : decode cX3_two 52 = .ok (.iload_n 2, 1) := dk_28 (dk_at dksX3_two_2 4 rfl rfl)
theorem dX3_two_53 : decode cX3_two 53 = .ok (.ifCond .eq 7, 3) := dk_153 0 7 (dk_at dksX3_two_2 5 rfl rfl)
theorem dX3_two_56 : decode cX3_two 56 = .ok (.iconst 1, 1) := dk_4 (dk_at dksX3_two_2 8 rfl rfl)
theorem dX3_two_57 : decode cX3_two 57 = .ok (.goto 4, 3) := dk_167 0 4 (dk_at dksX3_two_2 9 rfl rfl)
theorem dX3_two_60 : decode cX3_two 60 = .ok (.iconst 0, 1) := dk_3 (dk_at dksX3_two_2 12 rfl rfl)
theorem dX3_two_61 : decode cX3_two 61 = .ok (.ireturn, 1) := dk_172 (dk_at dksX3_two_2 13 rfl rfl)
theorem dX3_two_62 : decode cX3_two 62 = .ok (.iload_n 1, 1) := dk_27 (dk_at dksX3_two_2 14 rfl rfl)
theorem dX3_two_63 : decode cX3_two 63 = .ok (.ifCond .eq 11, 3) := dk_153 0 11 (dk_at dksX3_two_2 15 rfl rfl)
theorem dX3_two_66 : decode cX3_two 66 = .ok (.iload_n 2, 1) := dk_28 (dk_at dksX3_two_2 18 rfl rfl)
theorem dX3_two_67 : decode cX3_two 67 = .ok (.ifCond .eq 7, 3) := dk_153 0 7 (dk_at dksX3_two_2 19 rfl rfl)
theorem dX3_two_70 : decode cX3_two 70 = .ok (.iconst 1, 1) := dk_4 (dk_at dksX3_two_2 22 rfl rfl)
theorem dX3_two_71 : decode cX3_two 71 = .ok (.goto 4, 3) := dk_167 0 4 (dk_at dksX3_two_3 0 rfl rfl)
theorem dX3_two_74 : decode cX3_two 74 = .ok (.iconst 0, 1) := dk_3 (dk_at dksX3_two_3 3 rfl rfl)
theorem dX3_two_75 : decode cX3_two 75 = .ok (.ireturn, 1) := dk_172 (dk_at dksX3_two_3 4 rfl rfl)
theorem dX3_two_76 : decode cX3_two 76 = .ok (.iload_n 1, 1) := dk_27 (dk_at dksX3_two_3 5 rfl rfl)
theorem dX3_two_77 : decode cX3_two 77 = .ok (.iload_n 2, 1) := dk_28 (dk_at dksX3_two_3 6 rfl rfl)
theorem dX3_two_78 : decode cX3_two 78 = .ok (.if_icmp .ge 7, 3) := dk_162 0 7 (dk_at dksX3_two_3 7 rfl rfl)
theorem dX3_two_81 : decode cX3_two 81 = .ok (.iconst 1, 1) := dk_4 (dk_at dksX3_two_3 10 rfl rfl)
theorem dX3_two_82 : decode cX3_two 82 = .ok (.goto 4, 3) := dk_167 0 4 (dk_at dksX3_two_3 11 rfl rfl)
theorem dX3_two_85 : decode cX3_two 85 = .ok (.iconst 0, 1) := dk_3 (dk_at dksX3_two_3 14 rfl rfl)
theorem dX3_two_86 : decode cX3_two 86 = .ok (.ireturn, 1) := dk_172 (dk_at dksX3_two_3 15 rfl rfl)
theorem dX3_two_87 : decode cX3_two 87 = .ok (.iload_n 1, 1) := dk_27 (dk_at dksX3_two_3 16 rfl rfl)
theorem dX3_two_88 : decode cX3_two 88 = .ok (.iload_n 2, 1) := dk_28 (dk_at dksX3_two_3 17 rfl rfl)
theorem dX3_two_89 : decode cX3_two 89 = .ok (.if_icmp .ne 7, 3) := dk_160 0 7 (dk_at dksX3_two_3 18 rfl rfl)
theorem dX3_two_92 : decode cX3_two 92 = .ok (.iconst 1, 1) := dk_4 (dk_at dksX3_two_3 21 rfl rfl)
theorem dX3_two_93 : decode cX3_two 93 = .ok (.goto 4, 3) := dk_167 0 4 (dk_at dksX3_two_4 0 rfl rfl)
theorem dX3_two_96 : decode cX3_two 96 = .ok (.iconst 0, 1) := dk_3 (dk_at dksX3_two_4 3 rfl rfl)
theorem dX3_two_97 : decode cX3_two 97 = .ok (.ireturn, 1) := dk_172 (dk_at dksX3_two_4 4 rfl rfl)
theorem dX3_two_98 : decode cX3_two 98 = .ok (.iload_n 1, 1) := dk_27 (dk_at dksX3_two_4 5 rfl rfl)
theorem dX3_two_99 : decode cX3_two 99 = .ok (.iload_n 2, 1) := dk_28 (dk_at dksX3_two_4 6 rfl rfl)
theorem dX3_two_100 : decode cX3_two 100 = .ok (.if_icmp .le 7, 3) := dk_164 0 7 (dk_at dksX3_two_4 7 rfl rfl)
theorem dX3_two_103 : decode cX3_two 103 = .ok (.iconst 1, 1) := dk_4 (dk_at dksX3_two_4 10 rfl rfl)
theorem dX3_two_104 : decode cX3_two 104 = .ok (.goto 4, 3) := dk_167 0 4 (dk_at dksX3_two_4 11 rfl rfl)
theorem dX3_two_107 : decode cX3_two 107 = .ok (.iconst 0, 1) := dk_3 (dk_at dksX3_two_4 14 rfl rfl)
theorem dX3_two_108 : decode cX3_two 108 = .ok (.ireturn, 1) := dk_172 (dk_at dksX3_two_4 15 rfl rfl)
theorem dX3_two_109 : decode cX3_two 109 = .ok (.iload_n 1, 1) := dk_27 (dk_at dksX3_two_4 16 rfl rfl)
theorem dX3_two_110 : decode cX3_two 110 = .ok (.iload_n 2, 1) := dk_28 (dk_at dksX3_two_4 17 rfl rfl)
theorem dX3_two_111 : decode cX3_two 111 = .ok (.iadd, 1) := dk_96 (dk_at dksX3_two_4 18 rfl rfl)
theorem dX3_two_112 : decode cX3_two 112 = .ok (.ireturn, 1) := dk_172 (dk_at dksX3_two_4 19 rfl rfl)
theorem dX3_two_113 : decode cX3_two 113 = .ok (.iload_n 1, 1) := dk_27 (dk_at dksX3_two_4 20 rfl rfl)
theorem dX3_two_114 : decode cX3_two 114 = .ok (.iload_n 2, 1) := dk_28 (dk_at dksX3_two_4 21 rfl rfl)
theorem dX3_two_115 : decode cX3_two 115 = .ok (.isub, 1) := dk_100 (dk_at dksX3_two_4 22 rfl rfl)
theorem dX3_two_116 : decode cX3_two 116 = .ok (.ireturn, 1) := dk_172 (dk_at dksX3_two_4 23 rfl rfl)
theorem dX3_two_117 : decode cX3_two 117 = .ok (.iload_n 1, 1) := dk_27 (dk_at dksX3_two_5 0 rfl rfl)
theorem dX3_two_118 : decode cX3_two 118 = .ok (.iload_n 2, 1) := dk_28 (dk_at dksX3_two_5 1 rfl rfl)
theorem dX3_two_119 : decode cX3_two 119 = .ok (.imul, 1) := dk_104 (dk_at dksX3_two_5 2 rfl rfl)
theorem dX3_two_120 : decode cX3_two 120 = .ok (.ireturn, 1) := dk_172 (dk_at dksX3_two_5 3 rfl rfl)
theorem dX3_two_121 : decode cX3_two 121 = .ok (.iload_n 2, 1) := dk_28 (dk_at dksX3_two_5 4 rfl rfl)
theorem dX3_two_122 : decode cX3_two 122 = .ok (.ifCond .ne 7, 3) := dk_154 0 7 (dk_at dksX3_two_5 5 rfl rfl)
theorem dX3_two_125 : decode cX3_two 125 = .ok (.iconst 0, 1) := dk_3 (dk_at dksX3_two_5 8 rfl rfl)
theorem dX3_two_126 : decode cX3_two 126 = .ok (.goto 6, 3) := dk_167 0 6 (dk_at dksX3_two_5 9 rfl rfl)
theorem dX3_two_129 : decode cX3_two 129 = .ok (.iload_n 1, 1) := dk_27 (dk_at dksX3_two_5 12 rfl rfl)
theorem dX3_two_130 : decode cX3_two 130 = .ok (.iload_n 2, 1) := dk_28 (dk_at dksX3_two_5 13 rfl rfl)
theorem dX3_two_131 : decode cX3_two 131 = .ok (.idiv, 1) := dk_108 (dk_at dksX3_two_5 14 rfl rfl)
theorem dX3_two_132 : decode cX3_two 132 = .ok (.ireturn, 1) := dk_172 (dk_at dksX3_two_5 15 rfl rfl)
abbrev cX3_levelOf : ByteArray := prog_22_method_15_code
def yX3_levelOf : MethodName := ⟨RX3, "levelOf", "(I)I"⟩
def dkwX3_levelOf_0 : List UInt8 := [42, 27, 4, 182, 0, 92, 42, 27, 182, 0, 109, 96, 172]
abbrev dktX3_levelOf_0 : List UInt8 := dkwX3_levelOf_0 ++ []
theorem dksX3_levelOf_0 : cX3_levelOf.data.toList.drop 0 = dktX3_levelOf_0 := by decide +kernel
theorem dX3_levelOf_0 : decode cX3_levelOf 0 = .ok (.aload_n 0, 1) := dk_42 (dk_at dksX3_levelOf_0 0 rfl rfl)
theorem dX3_levelOf_1 : decode cX3_levelOf 1 = .ok (.iload_n 1, 1) := dk_27 (dk_at dksX3_levelOf_0 1 rfl rfl)
theorem dX3_levelOf_2 : decode cX3_levelOf 2 = .ok (.iconst 1, 1) := dk_4 (dk_at dksX3_levelOf_0 2 rfl rfl)
theorem dX3_levelOf_3 : decode cX3_levelOf 3 = .ok (.invokevirtual 92, 3) := dk_182 0 92 (dk_at dksX3_levelOf_0 3 rfl rfl)
theorem dX3_levelOf_6 : decode cX3_levelOf 6 = .ok (.aload_n 0, 1) := dk_42 (dk_at dksX3_levelOf_0 6 rfl rfl)
theorem dX3_levelOf_7 : decode cX3_levelOf 7 = .ok (.iload_n 1, 1) := dk_27 (dk_at dksX3_levelOf_0 7 rfl rfl)
theorem dX3_levelOf_8 : decode cX3_levelOf 8 = .ok (.invokevirtual 109, 3) := dk_182 0 109 (dk_at dksX3_levelOf_0 8 rfl rfl)
theorem dX3_levelOf_11 : decode cX3_levelOf 11 = .ok (.iadd, 1) := dk_96 (dk_at dksX3_levelOf_0 11 rfl rfl)
theorem dX3_levelOf_12 : decode cX3_levelOf 12 = .ok (.ireturn, 1) := dk_172 (dk_at dksX3_levelOf_0 12 rfl rfl)
abbrev cX3_losesOf : ByteArray := prog_22_method_16_code
def yX3_losesOf : MethodName := ⟨RX3, "losesOf", "(I)I"⟩
def dkwX3_losesOf_2 : List UInt8 := [28, 172, 28, 4, 162, 0, 7, 3, 167, 0, 6, 28, 4, 100, 172, 3, 172]
abbrev dktX3_losesOf_2 : List UInt8 := dkwX3_losesOf_2 ++ []
def dkwX3_losesOf_1 : List UInt8 := [171, 0, 0, 0, 40, 0, 0, 0, 2, 0, 0, 0, 2, 0, 0, 0, 25, 0, 0, 0, 4, 0, 0, 0, 27]
abbrev dktX3_losesOf_1 : List UInt8 := dkwX3_losesOf_1 ++ dktX3_losesOf_2
def dkwX3_losesOf_0 : List UInt8 := [42, 27, 182, 0, 96, 16, 20, 108, 61, 42, 27, 3, 182, 0, 92]
abbrev dktX3_losesOf_0 : List UInt8 := dkwX3_losesOf_0 ++ dktX3_losesOf_1
theorem dksX3_losesOf_0 : cX3_losesOf.data.toList.drop 0 = dktX3_losesOf_0 := by decide +kernel
theorem dksX3_losesOf_1 : cX3_losesOf.data.toList.drop 15 = dktX3_losesOf_1 := dk_seg dksX3_losesOf_0 15 rfl rfl
theorem dksX3_losesOf_2 : cX3_losesOf.data.toList.drop 40 = dktX3_losesOf_2 := dk_seg dksX3_losesOf_1 25 rfl rfl
theorem dX3_losesOf_0 : decode cX3_losesOf 0 = .ok (.aload_n 0, 1) := dk_42 (dk_at dksX3_losesOf_0 0 rfl rfl)
theorem dX3_losesOf_1 : decode cX3_losesOf 1 = .ok (.iload_n 1, 1) := dk_27 (dk_at dksX3_losesOf_0 1 rfl rfl)
theorem dX3_losesOf_2 : decode cX3_losesOf 2 = .ok (.invokevirtual 96, 3) := dk_182 0 96 (dk_at dksX3_losesOf_0 2 rfl rfl)
theorem dX3_losesOf_5 : decode cX3_losesOf 5 = .ok (.bipush 20, 2) := dk_16 20 (dk_at dksX3_losesOf_0 5 rfl rfl)
theorem dX3_losesOf_7 : decode cX3_losesOf 7 = .ok (.idiv, 1) := dk_108 (dk_at dksX3_losesOf_0 7 rfl rfl)
theorem dX3_losesOf_8 : decode cX3_losesOf 8 = .ok (.istore_n 2, 1) := dk_61 (dk_at dksX3_losesOf_0 8 rfl rfl)
theorem dX3_losesOf_9 : decode cX3_losesOf 9 = .ok (.aload_n 0, 1) := dk_42 (dk_at dksX3_losesOf_0 9 rfl rfl)
theorem dX3_losesOf_10 : decode cX3_losesOf 10 = .ok (.iload_n 1, 1) := dk_27 (dk_at dksX3_losesOf_0 10 rfl rfl)
theorem dX3_losesOf_11 : decode cX3_losesOf 11 = .ok (.iconst 0, 1) := dk_3 (dk_at dksX3_losesOf_0 11 rfl rfl)
theorem dX3_losesOf_12 : decode cX3_losesOf 12 = .ok (.invokevirtual 92, 3) := dk_182 0 92 (dk_at dksX3_losesOf_0 12 rfl rfl)
theorem dX3_losesOf_15 : decode cX3_losesOf 15 = .ok (.lookupswitch 40 #[(2, 25), (4, 27)], 25) := by decide +kernel
theorem dX3_losesOf_40 : decode cX3_losesOf 40 = .ok (.iload_n 2, 1) := dk_28 (dk_at dksX3_losesOf_2 0 rfl rfl)
theorem dX3_losesOf_41 : decode cX3_losesOf 41 = .ok (.ireturn, 1) := dk_172 (dk_at dksX3_losesOf_2 1 rfl rfl)
theorem dX3_losesOf_42 : decode cX3_losesOf 42 = .ok (.iload_n 2, 1) := dk_28 (dk_at dksX3_losesOf_2 2 rfl rfl)
theorem dX3_losesOf_43 : decode cX3_losesOf 43 = .ok (.iconst 1, 1) := dk_4 (dk_at dksX3_losesOf_2 3 rfl rfl)
theorem dX3_losesOf_44 : decode cX3_losesOf 44 = .ok (.if_icmp .ge 7, 3) := dk_162 0 7 (dk_at dksX3_losesOf_2 4 rfl rfl)
theorem dX3_losesOf_47 : decode cX3_losesOf 47 = .ok (.iconst 0, 1) := dk_3 (dk_at dksX3_losesOf_2 7 rfl rfl)
theorem dX3_losesOf_48 : decode cX3_losesOf 48 = .ok (.goto 6, 3) := dk_167 0 6 (dk_at dksX3_losesOf_2 8 rfl rfl)
theorem dX3_losesOf_51 : decode cX3_losesOf 51 = .ok (.iload_n 2, 1) := dk_28 (dk_at dksX3_losesOf_2 11 rfl rfl)
theorem dX3_losesOf_52 : decode cX3_losesOf 52 = .ok (.iconst 1, 1) := dk_4 (dk_at dksX3_losesOf_2 12 rfl rfl)
theorem dX3_losesOf_53 : decode cX3_losesOf 53 = .ok (.isub, 1) := dk_100 (dk_at dksX3_losesOf_2 13 rfl rfl)
theorem dX3_losesOf_54 : decode cX3_losesOf 54 = .ok (.ireturn, 1) := dk_172 (dk_at dksX3_losesOf_2 14 rfl rfl)
theorem dX3_losesOf_55 : decode cX3_losesOf 55 = .ok (.iconst 0, 1) := dk_3 (dk_at dksX3_losesOf_2 15 rfl rfl)
theorem dX3_losesOf_56 : decode cX3_losesOf 56 = .ok (.ireturn, 1) := dk_172 (dk_at dksX3_losesOf_2 16 rfl rfl)
abbrev cX3_worthOf : ByteArray := prog_22_method_18_code
def yX3_worthOf : MethodName := ⟨RX3, "worthOf", "(I)I"⟩
def dkwX3_worthOf_3 : List UInt8 := [28, 172]
abbrev dktX3_worthOf_3 : List UInt8 := dkwX3_worthOf_3 ++ []
def dkwX3_worthOf_2 : List UInt8 := [28, 16, 6, 96, 172, 16, 99, 28, 100, 172, 5, 28, 16, 6, 96, 104, 172, 16, 91, 28, 100, 172, 6, 172]
abbrev dktX3_worthOf_2 : List UInt8 := dkwX3_worthOf_2 ++ dktX3_worthOf_3
def dkwX3_worthOf_1 : List UInt8 := [170, 0, 0, 0, 0, 0, 59, 0, 0, 0, 1, 0, 0, 0, 5, 0, 0, 0, 35, 0, 0, 0, 40, 0, 0, 0, 45, 0, 0, 0, 52, 0, 0, 0, 57]
abbrev dktX3_worthOf_1 : List UInt8 := dkwX3_worthOf_1 ++ dktX3_worthOf_2
def dkwX3_worthOf_0 : List UInt8 := [42, 27, 5, 182, 0, 92, 61, 42, 27, 3, 182, 0, 92]
abbrev dktX3_worthOf_0 : List UInt8 := dkwX3_worthOf_0 ++ dktX3_worthOf_1
theorem dksX3_worthOf_0 : cX3_worthOf.data.toList.drop 0 = dktX3_worthOf_0 := by decide +kernel
theorem dksX3_worthOf_1 : cX3_worthOf.data.toList.drop 13 = dktX3_worthOf_1 := dk_seg dksX3_worthOf_0 13 rfl rfl
theorem dksX3_worthOf_2 : cX3_worthOf.data.toList.drop 48 = dktX3_worthOf_2 := dk_seg dksX3_worthOf_1 35 rfl rfl
theorem dksX3_worthOf_3 : cX3_worthOf.data.toList.drop 72 = dktX3_worthOf_3 := dk_seg dksX3_worthOf_2 24 rfl rfl
theorem dX3_worthOf_0 : decode cX3_worthOf 0 = .ok (.aload_n 0, 1) := dk_42 (dk_at dksX3_worthOf_0 0 rfl rfl)
theorem dX3_worthOf_1 : decode cX3_worthOf 1 = .ok (.iload_n 1, 1) := dk_27 (dk_at dksX3_worthOf_0 1 rfl rfl)
theorem dX3_worthOf_2 : decode cX3_worthOf 2 = .ok (.iconst 2, 1) := dk_5 (dk_at dksX3_worthOf_0 2 rfl rfl)
theorem dX3_worthOf_3 : decode cX3_worthOf 3 = .ok (.invokevirtual 92, 3) := dk_182 0 92 (dk_at dksX3_worthOf_0 3 rfl rfl)
theorem dX3_worthOf_6 : decode cX3_worthOf 6 = .ok (.istore_n 2, 1) := dk_61 (dk_at dksX3_worthOf_0 6 rfl rfl)
theorem dX3_worthOf_7 : decode cX3_worthOf 7 = .ok (.aload_n 0, 1) := dk_42 (dk_at dksX3_worthOf_0 7 rfl rfl)
theorem dX3_worthOf_8 : decode cX3_worthOf 8 = .ok (.iload_n 1, 1) := dk_27 (dk_at dksX3_worthOf_0 8 rfl rfl)
theorem dX3_worthOf_9 : decode cX3_worthOf 9 = .ok (.iconst 0, 1) := dk_3 (dk_at dksX3_worthOf_0 9 rfl rfl)
theorem dX3_worthOf_10 : decode cX3_worthOf 10 = .ok (.invokevirtual 92, 3) := dk_182 0 92 (dk_at dksX3_worthOf_0 10 rfl rfl)
theorem dX3_worthOf_13 : decode cX3_worthOf 13 = .ok (.tableswitch 59 1 5 #[35, 40, 45, 52, 57], 35) := by decide +kernel
theorem dX3_worthOf_48 : decode cX3_worthOf 48 = .ok (.iload_n 2, 1) := dk_28 (dk_at dksX3_worthOf_2 0 rfl rfl)
theorem dX3_worthOf_49 : decode cX3_worthOf 49 = .ok (.bipush 6, 2) := dk_16 6 (dk_at dksX3_worthOf_2 1 rfl rfl)
theorem dX3_worthOf_51 : decode cX3_worthOf 51 = .ok (.iadd, 1) := dk_96 (dk_at dksX3_worthOf_2 3 rfl rfl)
theorem dX3_worthOf_52 : decode cX3_worthOf 52 = .ok (.ireturn, 1) := dk_172 (dk_at dksX3_worthOf_2 4 rfl rfl)
theorem dX3_worthOf_53 : decode cX3_worthOf 53 = .ok (.bipush 99, 2) := dk_16 99 (dk_at dksX3_worthOf_2 5 rfl rfl)
theorem dX3_worthOf_55 : decode cX3_worthOf 55 = .ok (.iload_n 2, 1) := dk_28 (dk_at dksX3_worthOf_2 7 rfl rfl)
theorem dX3_worthOf_56 : decode cX3_worthOf 56 = .ok (.isub, 1) := dk_100 (dk_at dksX3_worthOf_2 8 rfl rfl)
theorem dX3_worthOf_57 : decode cX3_worthOf 57 = .ok (.ireturn, 1) := dk_172 (dk_at dksX3_worthOf_2 9 rfl rfl)
theorem dX3_worthOf_58 : decode cX3_worthOf 58 = .ok (.iconst 2, 1) := dk_5 (dk_at dksX3_worthOf_2 10 rfl rfl)
theorem dX3_worthOf_59 : decode cX3_worthOf 59 = .ok (.iload_n 2, 1) := dk_28 (dk_at dksX3_worthOf_2 11 rfl rfl)
theorem dX3_worthOf_60 : decode cX3_worthOf 60 = .ok (.bipush 6, 2) := dk_16 6 (dk_at dksX3_worthOf_2 12 rfl rfl)
theorem dX3_worthOf_62 : decode cX3_worthOf 62 = .ok (.iadd, 1) := dk_96 (dk_at dksX3_worthOf_2 14 rfl rfl)
theorem dX3_worthOf_63 : decode cX3_worthOf 63 = .ok (.imul, 1) := dk_104 (dk_at dksX3_worthOf_2 15 rfl rfl)
theorem dX3_worthOf_64 : decode cX3_worthOf 64 = .ok (.ireturn, 1) := dk_172 (dk_at dksX3_worthOf_2 16 rfl rfl)
theorem dX3_worthOf_65 : decode cX3_worthOf 65 = .ok (.bipush 91, 2) := dk_16 91 (dk_at dksX3_worthOf_2 17 rfl rfl)
theorem dX3_worthOf_67 : decode cX3_worthOf 67 = .ok (.iload_n 2, 1) := dk_28 (dk_at dksX3_worthOf_2 19 rfl rfl)
theorem dX3_worthOf_68 : decode cX3_worthOf 68 = .ok (.isub, 1) := dk_100 (dk_at dksX3_worthOf_2 20 rfl rfl)
theorem dX3_worthOf_69 : decode cX3_worthOf 69 = .ok (.ireturn, 1) := dk_172 (dk_at dksX3_worthOf_2 21 rfl rfl)
theorem dX3_worthOf_70 : decode cX3_worthOf 70 = .ok (.iconst 3, 1) := dk_6 (dk_at dksX3_worthOf_2 22 rfl rfl)
theorem dX3_worthOf_71 : decode cX3_worthOf 71 = .ok (.ireturn, 1) := dk_172 (dk_at dksX3_worthOf_2 23 rfl rfl)
theorem dX3_worthOf_72 : decode cX3_worthOf 72 = .ok (.iload_n 2, 1) := dk_28 (dk_at dksX3_worthOf_3 0 rfl rfl)
theorem dX3_worthOf_73 : decode cX3_worthOf 73 = .ok (.ireturn, 1) := dk_172 (dk_at dksX3_worthOf_3 1 rfl rfl)
abbrev cX3_takes : ByteArray := prog_22_method_20_code
def yX3_takes : MethodName := ⟨RX3, "takes", "(II)I"⟩
def dkwX3_takes_1 : List UInt8 := [182, 0, 125, 167, 0, 5, 18, 86, 172]
abbrev dktX3_takes_1 : List UInt8 := dkwX3_takes_1 ++ []
def dkwX3_takes_0 : List UInt8 := [42, 27, 182, 0, 112, 153, 0, 23, 28, 3, 17, 39, 15, 184, 0, 82, 153, 0, 12, 42, 27, 28]
abbrev dktX3_takes_0 : List UInt8 := dkwX3_takes_0 ++ dktX3_takes_1
theorem dksX3_takes_0 : cX3_takes.data.toList.drop 0 = dktX3_takes_0 := by decide +kernel
theorem dksX3_takes_1 : cX3_takes.data.toList.drop 22 = dktX3_takes_1 := dk_seg dksX3_takes_0 22 rfl rfl
theorem dX3_takes_0 : decode cX3_takes 0 = .ok (.aload_n 0, 1) := dk_42 (dk_at dksX3_takes_0 0 rfl rfl)
theorem dX3_takes_1 : decode cX3_takes 1 = .ok (.iload_n 1, 1) := dk_27 (dk_at dksX3_takes_0 1 rfl rfl)
theorem dX3_takes_2 : decode cX3_takes 2 = .ok (.invokevirtual 112, 3) := dk_182 0 112 (dk_at dksX3_takes_0 2 rfl rfl)
theorem dX3_takes_5 : decode cX3_takes 5 = .ok (.ifCond .eq 23, 3) := dk_153 0 23 (dk_at dksX3_takes_0 5 rfl rfl)
theorem dX3_takes_8 : decode cX3_takes 8 = .ok (.iload_n 2, 1) := dk_28 (dk_at dksX3_takes_0 8 rfl rfl)
theorem dX3_takes_9 : decode cX3_takes 9 = .ok (.iconst 0, 1) := dk_3 (dk_at dksX3_takes_0 9 rfl rfl)
theorem dX3_takes_10 : decode cX3_takes 10 = .ok (.sipush 9999, 3) := dk_17 39 15 (dk_at dksX3_takes_0 10 rfl rfl)
theorem dX3_takes_13 : decode cX3_takes 13 = .ok (.invokestatic 82, 3) := dk_184 0 82 (dk_at dksX3_takes_0 13 rfl rfl)
theorem dX3_takes_16 : decode cX3_takes 16 = .ok (.ifCond .eq 12, 3) := dk_153 0 12 (dk_at dksX3_takes_0 16 rfl rfl)
theorem dX3_takes_19 : decode cX3_takes 19 = .ok (.aload_n 0, 1) := dk_42 (dk_at dksX3_takes_0 19 rfl rfl)
theorem dX3_takes_20 : decode cX3_takes 20 = .ok (.iload_n 1, 1) := dk_27 (dk_at dksX3_takes_0 20 rfl rfl)
theorem dX3_takes_21 : decode cX3_takes 21 = .ok (.iload_n 2, 1) := dk_28 (dk_at dksX3_takes_0 21 rfl rfl)
theorem dX3_takes_22 : decode cX3_takes 22 = .ok (.invokevirtual 125, 3) := dk_182 0 125 (dk_at dksX3_takes_1 0 rfl rfl)
theorem dX3_takes_25 : decode cX3_takes 25 = .ok (.goto 5, 3) := dk_167 0 5 (dk_at dksX3_takes_1 3 rfl rfl)
theorem dX3_takes_28 : decode cX3_takes 28 = .ok (.ldc 86, 2) := dk_18 86 (dk_at dksX3_takes_1 6 rfl rfl)
theorem dX3_takes_30 : decode cX3_takes 30 = .ok (.ireturn, 1) := dk_172 (dk_at dksX3_takes_1 8 rfl rfl)
abbrev cX3_takesIn : ByteArray := prog_22_method_17_code
def yX3_takesIn : MethodName := ⟨RX3, "takesIn", "(II)I"⟩
def dkwX3_takesIn_1 : List UInt8 := [160, 0, 7, 3, 167, 0, 4, 28, 172]
abbrev dktX3_takesIn_1 : List UInt8 := dkwX3_takesIn_1 ++ []
def dkwX3_takesIn_0 : List UInt8 := [42, 27, 3, 182, 0, 92, 6, 160, 0, 9, 28, 5, 108, 167, 0, 18, 42, 27, 3, 182, 0, 92, 8]
abbrev dktX3_takesIn_0 : List UInt8 := dkwX3_takesIn_0 ++ dktX3_takesIn_1
theorem dksX3_takesIn_0 : cX3_takesIn.data.toList.drop 0 = dktX3_takesIn_0 := by decide +kernel
theorem dksX3_takesIn_1 : cX3_takesIn.data.toList.drop 23 = dktX3_takesIn_1 := dk_seg dksX3_takesIn_0 23 rfl rfl
theorem dX3_takesIn_0 : decode cX3_takesIn 0 = .ok (.aload_n 0, 1) := dk_42 (dk_at dksX3_takesIn_0 0 rfl rfl)
theorem dX3_takesIn_1 : decode cX3_takesIn 1 = .ok (.iload_n 1, 1) := dk_27 (dk_at dksX3_takesIn_0 1 rfl rfl)
theorem dX3_takesIn_2 : decode cX3_takesIn 2 = .ok (.iconst 0, 1) := dk_3 (dk_at dksX3_takesIn_0 2 rfl rfl)
theorem dX3_takesIn_3 : decode cX3_takesIn 3 = .ok (.invokevirtual 92, 3) := dk_182 0 92 (dk_at dksX3_takesIn_0 3 rfl rfl)
theorem dX3_takesIn_6 : decode cX3_takesIn 6 = .ok (.iconst 3, 1) := dk_6 (dk_at dksX3_takesIn_0 6 rfl rfl)
theorem dX3_takesIn_7 : decode cX3_takesIn 7 = .ok (.if_icmp .ne 9, 3) := dk_160 0 9 (dk_at dksX3_takesIn_0 7 rfl rfl)
theorem dX3_takesIn_10 : decode cX3_takesIn 10 = .ok (.iload_n 2, 1) := dk_28 (dk_at dksX3_takesIn_0 10 rfl rfl)
theorem dX3_takesIn_11 : decode cX3_takesIn 11 = .ok (.iconst 2, 1) := dk_5 (dk_at dksX3_takesIn_0 11 rfl rfl)
theorem dX3_takesIn_12 : decode cX3_takesIn 12 = .ok (.idiv, 1) := dk_108 (dk_at dksX3_takesIn_0 12 rfl rfl)
theorem dX3_takesIn_13 : decode cX3_takesIn 13 = .ok (.goto 18, 3) := dk_167 0 18 (dk_at dksX3_takesIn_0 13 rfl rfl)
theorem dX3_takesIn_16 : decode cX3_takesIn 16 = .ok (.aload_n 0, 1) := dk_42 (dk_at dksX3_takesIn_0 16 rfl rfl)
theorem dX3_takesIn_17 : decode cX3_takesIn 17 = .ok (.iload_n 1, 1) := dk_27 (dk_at dksX3_takesIn_0 17 rfl rfl)
theorem dX3_takesIn_18 : decode cX3_takesIn 18 = .ok (.iconst 0, 1) := dk_3 (dk_at dksX3_takesIn_0 18 rfl rfl)
theorem dX3_takesIn_19 : decode cX3_takesIn 19 = .ok (.invokevirtual 92, 3) := dk_182 0 92 (dk_at dksX3_takesIn_0 19 rfl rfl)
theorem dX3_takesIn_22 : decode cX3_takesIn 22 = .ok (.iconst 5, 1) := dk_8 (dk_at dksX3_takesIn_0 22 rfl rfl)
theorem dX3_takesIn_23 : decode cX3_takesIn 23 = .ok (.if_icmp .ne 7, 3) := dk_160 0 7 (dk_at dksX3_takesIn_1 0 rfl rfl)
theorem dX3_takesIn_26 : decode cX3_takesIn 26 = .ok (.iconst 0, 1) := dk_3 (dk_at dksX3_takesIn_1 3 rfl rfl)
theorem dX3_takesIn_27 : decode cX3_takesIn 27 = .ok (.goto 4, 3) := dk_167 0 4 (dk_at dksX3_takesIn_1 4 rfl rfl)
theorem dX3_takesIn_30 : decode cX3_takesIn 30 = .ok (.iload_n 2, 1) := dk_28 (dk_at dksX3_takesIn_1 7 rfl rfl)
theorem dX3_takesIn_31 : decode cX3_takesIn 31 = .ok (.ireturn, 1) := dk_172 (dk_at dksX3_takesIn_1 8 rfl rfl)
abbrev cX3_as : ByteArray := prog_22_method_22_code
def yX3_as : MethodName := ⟨RX3, "as", "(II)I"⟩
def dkwX3_as_1 : List UInt8 := [182, 0, 92, 28, 184, 0, 128, 153, 0, 12, 42, 27, 5, 182, 0, 92, 167, 0, 5, 18, 132, 172]
abbrev dktX3_as_1 : List UInt8 := dkwX3_as_1 ++ []
def dkwX3_as_0 : List UInt8 := [42, 27, 182, 0, 112, 153, 0, 12, 28, 3, 8, 184, 0, 82, 154, 0, 6, 18, 86, 172, 42, 27, 3]
abbrev dktX3_as_0 : List UInt8 := dkwX3_as_0 ++ dktX3_as_1
theorem dksX3_as_0 : cX3_as.data.toList.drop 0 = dktX3_as_0 := by decide +kernel
theorem dksX3_as_1 : cX3_as.data.toList.drop 23 = dktX3_as_1 := dk_seg dksX3_as_0 23 rfl rfl
theorem dX3_as_0 : decode cX3_as 0 = .ok (.aload_n 0, 1) := dk_42 (dk_at dksX3_as_0 0 rfl rfl)
theorem dX3_as_1 : decode cX3_as 1 = .ok (.iload_n 1, 1) := dk_27 (dk_at dksX3_as_0 1 rfl rfl)
theorem dX3_as_2 : decode cX3_as 2 = .ok (.invokevirtual 112, 3) := dk_182 0 112 (dk_at dksX3_as_0 2 rfl rfl)
theorem dX3_as_5 : decode cX3_as 5 = .ok (.ifCond .eq 12, 3) := dk_153 0 12 (dk_at dksX3_as_0 5 rfl rfl)
theorem dX3_as_8 : decode cX3_as 8 = .ok (.iload_n 2, 1) := dk_28 (dk_at dksX3_as_0 8 rfl rfl)
theorem dX3_as_9 : decode cX3_as 9 = .ok (.iconst 0, 1) := dk_3 (dk_at dksX3_as_0 9 rfl rfl)
theorem dX3_as_10 : decode cX3_as 10 = .ok (.iconst 5, 1) := dk_8 (dk_at dksX3_as_0 10 rfl rfl)
theorem dX3_as_11 : decode cX3_as 11 = .ok (.invokestatic 82, 3) := dk_184 0 82 (dk_at dksX3_as_0 11 rfl rfl)
theorem dX3_as_14 : decode cX3_as 14 = .ok (.ifCond .ne 6, 3) := dk_154 0 6 (dk_at dksX3_as_0 14 rfl rfl)
theorem dX3_as_17 : decode cX3_as 17 = .ok (.ldc 86, 2) := dk_18 86 (dk_at dksX3_as_0 17 rfl rfl)
theorem dX3_as_19 : decode cX3_as 19 = .ok (.ireturn, 1) := dk_172 (dk_at dksX3_as_0 19 rfl rfl)
theorem dX3_as_20 : decode cX3_as 20 = .ok (.aload_n 0, 1) := dk_42 (dk_at dksX3_as_0 20 rfl rfl)
theorem dX3_as_21 : decode cX3_as 21 = .ok (.iload_n 1, 1) := dk_27 (dk_at dksX3_as_0 21 rfl rfl)
theorem dX3_as_22 : decode cX3_as 22 = .ok (.iconst 0, 1) := dk_3 (dk_at dksX3_as_0 22 rfl rfl)
theorem dX3_as_23 : decode cX3_as 23 = .ok (.invokevirtual 92, 3) := dk_182 0 92 (dk_at dksX3_as_1 0 rfl rfl)
theorem dX3_as_26 : decode cX3_as 26 = .ok (.iload_n 2, 1) := dk_28 (dk_at dksX3_as_1 3 rfl rfl)
theorem dX3_as_27 : decode cX3_as 27 = .ok (.invokestatic 128, 3) := dk_184 0 128 (dk_at dksX3_as_1 4 rfl rfl)
theorem dX3_as_30 : decode cX3_as 30 = .ok (.ifCond .eq 12, 3) := dk_153 0 12 (dk_at dksX3_as_1 7 rfl rfl)
theorem dX3_as_33 : decode cX3_as 33 = .ok (.aload_n 0, 1) := dk_42 (dk_at dksX3_as_1 10 rfl rfl)
theorem dX3_as_34 : decode cX3_as 34 = .ok (.iload_n 1, 1) := dk_27 (dk_at dksX3_as_1 11 rfl rfl)
theorem dX3_as_35 : decode cX3_as 35 = .ok (.iconst 2, 1) := dk_5 (dk_at dksX3_as_1 12 rfl rfl)
theorem dX3_as_36 : decode cX3_as 36 = .ok (.invokevirtual 92, 3) := dk_182 0 92 (dk_at dksX3_as_1 13 rfl rfl)
theorem dX3_as_39 : decode cX3_as 39 = .ok (.goto 5, 3) := dk_167 0 5 (dk_at dksX3_as_1 16 rfl rfl)
theorem dX3_as_42 : decode cX3_as 42 = .ok (.ldc 132, 2) := dk_18 132 (dk_at dksX3_as_1 19 rfl rfl)
theorem dX3_as_44 : decode cX3_as 44 = .ok (.ireturn, 1) := dk_172 (dk_at dksX3_as_1 21 rfl rfl)
abbrev cX3_isUnder : ByteArray := prog_22_method_21_code
def yX3_isUnder : MethodName := ⟨RX3, "isUnder", "(II)Z"⟩
def dkwX3_isUnder_1 : List UInt8 := [26, 7, 160, 0, 7, 4, 167, 0, 4, 3, 172]
abbrev dktX3_isUnder_1 : List UInt8 := dkwX3_isUnder_1 ++ []
def dkwX3_isUnder_0 : List UInt8 := [27, 153, 0, 28, 26, 27, 159, 0, 23, 27, 4, 160, 0, 8, 26, 6, 159, 0, 13, 27, 5, 160, 0, 12]
abbrev dktX3_isUnder_0 : List UInt8 := dkwX3_isUnder_0 ++ dktX3_isUnder_1
theorem dksX3_isUnder_0 : cX3_isUnder.data.toList.drop 0 = dktX3_isUnder_0 := by decide +kernel
theorem dksX3_isUnder_1 : cX3_isUnder.data.toList.drop 24 = dktX3_isUnder_1 := dk_seg dksX3_isUnder_0 24 rfl rfl
theorem dX3_isUnder_0 : decode cX3_isUnder 0 = .ok (.iload_n 1, 1) := dk_27 (dk_at dksX3_isUnder_0 0 rfl rfl)
theorem dX3_isUnder_1 : decode cX3_isUnder 1 = .ok (.ifCond .eq 28, 3) := dk_153 0 28 (dk_at dksX3_isUnder_0 1 rfl rfl)
theorem dX3_isUnder_4 : decode cX3_isUnder 4 = .ok (.iload_n 0, 1) := dk_26 (dk_at dksX3_isUnder_0 4 rfl rfl)
theorem dX3_isUnder_5 : decode cX3_isUnder 5 = .ok (.iload_n 1, 1) := dk_27 (dk_at dksX3_isUnder_0 5 rfl rfl)
theorem dX3_isUnder_6 : decode cX3_isUnder 6 = .ok (.if_icmp .eq 23, 3) := dk_159 0 23 (dk_at dksX3_isUnder_0 6 rfl rfl)
theorem dX3_isUnder_9 : decode cX3_isUnder 9 = .ok (.iload_n 1, 1) := dk_27 (dk_at dksX3_isUnder_0 9 rfl rfl)
theorem dX3_isUnder_10 : decode cX3_isUnder 10 = .ok (.iconst 1, 1) := dk_4 (dk_at dksX3_isUnder_0 10 rfl rfl)
theorem dX3_isUnder_11 : decode cX3_isUnder 11 = .ok (.if_icmp .ne 8, 3) := dk_160 0 8 (dk_at dksX3_isUnder_0 11 rfl rfl)
theorem dX3_isUnder_14 : decode cX3_isUnder 14 = .ok (.iload_n 0, 1) := dk_26 (dk_at dksX3_isUnder_0 14 rfl rfl)
theorem dX3_isUnder_15 : decode cX3_isUnder 15 = .ok (.iconst 3, 1) := dk_6 (dk_at dksX3_isUnder_0 15 rfl rfl)
theorem dX3_isUnder_16 : decode cX3_isUnder 16 = .ok (.if_icmp .eq 13, 3) := dk_159 0 13 (dk_at dksX3_isUnder_0 16 rfl rfl)
theorem dX3_isUnder_19 : decode cX3_isUnder 19 = .ok (.iload_n 1, 1) := dk_27 (dk_at dksX3_isUnder_0 19 rfl rfl)
theorem dX3_isUnder_20 : decode cX3_isUnder 20 = .ok (.iconst 2, 1) := dk_5 (dk_at dksX3_isUnder_0 20 rfl rfl)
theorem dX3_isUnder_21 : decode cX3_isUnder 21 = .ok (.if_icmp .ne 12, 3) := dk_160 0 12 (dk_at dksX3_isUnder_0 21 rfl rfl)
theorem dX3_isUnder_24 : decode cX3_isUnder 24 = .ok (.iload_n 0, 1) := dk_26 (dk_at dksX3_isUnder_1 0 rfl rfl)
theorem dX3_isUnder_25 : decode cX3_isUnder 25 = .ok (.iconst 4, 1) := dk_7 (dk_at dksX3_isUnder_1 1 rfl rfl)
theorem dX3_isUnder_26 : decode cX3_isUnder 26 = .ok (.if_icmp .ne 7, 3) := dk_160 0 7 (dk_at dksX3_isUnder_1 2 rfl rfl)
theorem dX3_isUnder_29 : decode cX3_isUnder 29 = .ok (.iconst 1, 1) := dk_4 (dk_at dksX3_isUnder_1 5 rfl rfl)
theorem dX3_isUnder_30 : decode cX3_isUnder 30 = .ok (.goto 4, 3) := dk_167 0 4 (dk_at dksX3_isUnder_1 6 rfl rfl)
theorem dX3_isUnder_33 : decode cX3_isUnder 33 = .ok (.iconst 0, 1) := dk_3 (dk_at dksX3_isUnder_1 9 rfl rfl)
theorem dX3_isUnder_34 : decode cX3_isUnder 34 = .ok (.ireturn, 1) := dk_172 (dk_at dksX3_isUnder_1 10 rfl rfl)
abbrev cX3_turns : ByteArray := prog_22_method_23_code
def yX3_turns : MethodName := ⟨RX3, "turns", "(II)I"⟩
def dkwX3_turns_1 : List UInt8 := [96, 28, 182, 0, 133, 167, 0, 5, 18, 86, 172]
abbrev dktX3_turns_1 : List UInt8 := dkwX3_turns_1 ++ []
def dkwX3_turns_0 : List UInt8 := [42, 27, 182, 0, 112, 153, 0, 27, 28, 3, 8, 184, 0, 82, 153, 0, 18, 42, 16, 7, 16, 6, 27, 104]
abbrev dktX3_turns_0 : List UInt8 := dkwX3_turns_0 ++ dktX3_turns_1
theorem dksX3_turns_0 : cX3_turns.data.toList.drop 0 = dktX3_turns_0 := by decide +kernel
theorem dksX3_turns_1 : cX3_turns.data.toList.drop 24 = dktX3_turns_1 := dk_seg dksX3_turns_0 24 rfl rfl
theorem dX3_turns_0 : decode cX3_turns 0 = .ok (.aload_n 0, 1) := dk_42 (dk_at dksX3_turns_0 0 rfl rfl)
theorem dX3_turns_1 : decode cX3_turns 1 = .ok (.iload_n 1, 1) := dk_27 (dk_at dksX3_turns_0 1 rfl rfl)
theorem dX3_turns_2 : decode cX3_turns 2 = .ok (.invokevirtual 112, 3) := dk_182 0 112 (dk_at dksX3_turns_0 2 rfl rfl)
theorem dX3_turns_5 : decode cX3_turns 5 = .ok (.ifCond .eq 27, 3) := dk_153 0 27 (dk_at dksX3_turns_0 5 rfl rfl)
theorem dX3_turns_8 : decode cX3_turns 8 = .ok (.iload_n 2, 1) := dk_28 (dk_at dksX3_turns_0 8 rfl rfl)
theorem dX3_turns_9 : decode cX3_turns 9 = .ok (.iconst 0, 1) := dk_3 (dk_at dksX3_turns_0 9 rfl rfl)
theorem dX3_turns_10 : decode cX3_turns 10 = .ok (.iconst 5, 1) := dk_8 (dk_at dksX3_turns_0 10 rfl rfl)
theorem dX3_turns_11 : decode cX3_turns 11 = .ok (.invokestatic 82, 3) := dk_184 0 82 (dk_at dksX3_turns_0 11 rfl rfl)
theorem dX3_turns_14 : decode cX3_turns 14 = .ok (.ifCond .eq 18, 3) := dk_153 0 18 (dk_at dksX3_turns_0 14 rfl rfl)
theorem dX3_turns_17 : decode cX3_turns 17 = .ok (.aload_n 0, 1) := dk_42 (dk_at dksX3_turns_0 17 rfl rfl)
theorem dX3_turns_18 : decode cX3_turns 18 = .ok (.bipush 7, 2) := dk_16 7 (dk_at dksX3_turns_0 18 rfl rfl)
theorem dX3_turns_20 : decode cX3_turns 20 = .ok (.bipush 6, 2) := dk_16 6 (dk_at dksX3_turns_0 20 rfl rfl)
theorem dX3_turns_22 : decode cX3_turns 22 = .ok (.iload_n 1, 1) := dk_27 (dk_at dksX3_turns_0 22 rfl rfl)
theorem dX3_turns_23 : decode cX3_turns 23 = .ok (.imul, 1) := dk_104 (dk_at dksX3_turns_0 23 rfl rfl)
theorem dX3_turns_24 : decode cX3_turns 24 = .ok (.iadd, 1) := dk_96 (dk_at dksX3_turns_1 0 rfl rfl)
theorem dX3_turns_25 : decode cX3_turns 25 = .ok (.iload_n 2, 1) := dk_28 (dk_at dksX3_turns_1 1 rfl rfl)
theorem dX3_turns_26 : decode cX3_turns 26 = .ok (.invokevirtual 133, 3) := dk_182 0 133 (dk_at dksX3_turns_1 2 rfl rfl)
theorem dX3_turns_29 : decode cX3_turns 29 = .ok (.goto 5, 3) := dk_167 0 5 (dk_at dksX3_turns_1 5 rfl rfl)
theorem dX3_turns_32 : decode cX3_turns 32 = .ok (.ldc 86, 2) := dk_18 86 (dk_at dksX3_turns_1 8 rfl rfl)
theorem dX3_turns_34 : decode cX3_turns 34 = .ok (.ireturn, 1) := dk_172 (dk_at dksX3_turns_1 10 rfl rfl)
abbrev cX3_becomes : ByteArray := prog_22_method_10_code
def yX3_becomes : MethodName := ⟨RX3, "becomes", "(II)I"⟩
def dkwX3_becomes_0 : List UInt8 := [42, 180, 0, 9, 27, 46, 62, 42, 180, 0, 9, 27, 28, 79, 29, 172]
abbrev dktX3_becomes_0 : List UInt8 := dkwX3_becomes_0 ++ []
theorem dksX3_becomes_0 : cX3_becomes.data.toList.drop 0 = dktX3_becomes_0 := by decide +kernel
theorem dX3_becomes_0 : decode cX3_becomes 0 = .ok (.aload_n 0, 1) := dk_42 (dk_at dksX3_becomes_0 0 rfl rfl)
theorem dX3_becomes_1 : decode cX3_becomes 1 = .ok (.getfield 9, 3) := dk_180 0 9 (dk_at dksX3_becomes_0 1 rfl rfl)
theorem dX3_becomes_4 : decode cX3_becomes 4 = .ok (.iload_n 1, 1) := dk_27 (dk_at dksX3_becomes_0 4 rfl rfl)
theorem dX3_becomes_5 : decode cX3_becomes 5 = .ok (.iaload, 1) := dk_46 (dk_at dksX3_becomes_0 5 rfl rfl)
theorem dX3_becomes_6 : decode cX3_becomes 6 = .ok (.istore_n 3, 1) := dk_62 (dk_at dksX3_becomes_0 6 rfl rfl)
theorem dX3_becomes_7 : decode cX3_becomes 7 = .ok (.aload_n 0, 1) := dk_42 (dk_at dksX3_becomes_0 7 rfl rfl)
theorem dX3_becomes_8 : decode cX3_becomes 8 = .ok (.getfield 9, 3) := dk_180 0 9 (dk_at dksX3_becomes_0 8 rfl rfl)
theorem dX3_becomes_11 : decode cX3_becomes 11 = .ok (.iload_n 1, 1) := dk_27 (dk_at dksX3_becomes_0 11 rfl rfl)
theorem dX3_becomes_12 : decode cX3_becomes 12 = .ok (.iload_n 2, 1) := dk_28 (dk_at dksX3_becomes_0 12 rfl rfl)
theorem dX3_becomes_13 : decode cX3_becomes 13 = .ok (.iastore, 1) := dk_79 (dk_at dksX3_becomes_0 13 rfl rfl)
theorem dX3_becomes_14 : decode cX3_becomes 14 = .ok (.iload_n 3, 1) := dk_29 (dk_at dksX3_becomes_0 14 rfl rfl)
theorem dX3_becomes_15 : decode cX3_becomes 15 = .ok (.ireturn, 1) := dk_172 (dk_at dksX3_becomes_0 15 rfl rfl)
abbrev cX3_set : ByteArray := prog_22_method_24_code
def yX3_set : MethodName := ⟨RX3, "set", "(III)I"⟩
def dkwX3_set_4 : List UInt8 := [18, 86, 172]
abbrev dktX3_set_4 : List UInt8 := dkwX3_set_4 ++ []
def dkwX3_set_3 : List UInt8 := [184, 0, 82, 153, 0, 20, 42, 16, 7, 16, 6, 27, 104, 96, 28, 96, 29, 182, 0, 133, 167, 0, 5]
abbrev dktX3_set_3 : List UInt8 := dkwX3_set_3 ++ dktX3_set_4
def dkwX3_set_2 : List UInt8 := [182, 0, 133, 167, 0, 5, 18, 86, 172, 28, 4, 5, 184, 0, 82, 153, 0, 32, 29, 28, 4, 100, 16, 99]
abbrev dktX3_set_2 : List UInt8 := dkwX3_set_2 ++ dktX3_set_3
def dkwX3_set_1 : List UInt8 := [17, 3, 231, 184, 0, 82, 153, 0, 22, 42, 16, 7, 16, 6, 27, 104, 96, 28, 96, 8, 100, 29]
abbrev dktX3_set_1 : List UInt8 := dkwX3_set_1 ++ dktX3_set_2
def dkwX3_set_0 : List UInt8 := [42, 27, 182, 0, 112, 154, 0, 6, 18, 86, 172, 28, 16, 8, 16, 10, 184, 0, 82, 153, 0, 36, 29, 3]
abbrev dktX3_set_0 : List UInt8 := dkwX3_set_0 ++ dktX3_set_1
theorem dksX3_set_0 : cX3_set.data.toList.drop 0 = dktX3_set_0 := by decide +kernel
theorem dksX3_set_1 : cX3_set.data.toList.drop 24 = dktX3_set_1 := dk_seg dksX3_set_0 24 rfl rfl
theorem dksX3_set_2 : cX3_set.data.toList.drop 46 = dktX3_set_2 := dk_seg dksX3_set_1 22 rfl rfl
theorem dksX3_set_3 : cX3_set.data.toList.drop 70 = dktX3_set_3 := dk_seg dksX3_set_2 24 rfl rfl
theorem dksX3_set_4 : cX3_set.data.toList.drop 93 = dktX3_set_4 := dk_seg dksX3_set_3 23 rfl rfl
theorem dX3_set_0 : decode cX3_set 0 = .ok (.aload_n 0, 1) := dk_42 (dk_at dksX3_set_0 0 rfl rfl)
theorem dX3_set_1 : decode cX3_set 1 = .ok (.iload_n 1, 1) := dk_27 (dk_at dksX3_set_0 1 rfl rfl)
theorem dX3_set_2 : decode cX3_set 2 = .ok (.invokevirtual 112, 3) := dk_182 0 112 (dk_at dksX3_set_0 2 rfl rfl)
theorem dX3_set_5 : decode cX3_set 5 = .ok (.ifCond .ne 6, 3) := dk_154 0 6 (dk_at dksX3_set_0 5 rfl rfl)
theorem dX3_set_8 : decode cX3_set 8 = .ok (.ldc 86, 2) := dk_18 86 (dk_at dksX3_set_0 8 rfl rfl)
theorem dX3_set_10 : decode cX3_set 10 = .ok (.ireturn, 1) := dk_172 (dk_at dksX3_set_0 10 rfl rfl)
theorem dX3_set_11 : decode cX3_set 11 = .ok (.iload_n 2, 1) := dk_28 (dk_at dksX3_set_0 11 rfl rfl)
theorem dX3_set_12 : decode cX3_set 12 = .ok (.bipush 8, 2) := dk_16 8 (dk_at dksX3_set_0 12 rfl rfl)
theorem dX3_set_14 : decode cX3_set 14 = .ok (.bipush 10, 2) := dk_16 10 (dk_at dksX3_set_0 14 rfl rfl)
theorem dX3_set_16 : decode cX3_set 16 = .ok (.invokestatic 82, 3) := dk_184 0 82 (dk_at dksX3_set_0 16 rfl rfl)
theorem dX3_set_19 : decode cX3_set 19 = .ok (.ifCond .eq 36, 3) := dk_153 0 36 (dk_at dksX3_set_0 19 rfl rfl)
theorem dX3_set_22 : decode cX3_set 22 = .ok (.iload_n 3, 1) := dk_29 (dk_at dksX3_set_0 22 rfl rfl)
theorem dX3_set_23 : decode cX3_set 23 = .ok (.iconst 0, 1) := dk_3 (dk_at dksX3_set_0 23 rfl rfl)
theorem dX3_set_24 : decode cX3_set 24 = .ok (.sipush 999, 3) := dk_17 3 231 (dk_at dksX3_set_1 0 rfl rfl)
theorem dX3_set_27 : decode cX3_set 27 = .ok (.invokestatic 82, 3) := dk_184 0 82 (dk_at dksX3_set_1 3 rfl rfl)
theorem dX3_set_30 : decode cX3_set 30 = .ok (.ifCond .eq 22, 3) := dk_153 0 22 (dk_at dksX3_set_1 6 rfl rfl)
theorem dX3_set_33 : decode cX3_set 33 = .ok (.aload_n 0, 1) := dk_42 (dk_at dksX3_set_1 9 rfl rfl)
theorem dX3_set_34 : decode cX3_set 34 = .ok (.bipush 7, 2) := dk_16 7 (dk_at dksX3_set_1 10 rfl rfl)
theorem dX3_set_36 : decode cX3_set 36 = .ok (.bipush 6, 2) := dk_16 6 (dk_at dksX3_set_1 12 rfl rfl)
theorem dX3_set_38 : decode cX3_set 38 = .ok (.iload_n 1, 1) := dk_27 (dk_at dksX3_set_1 14 rfl rfl)
theorem dX3_set_39 : decode cX3_set 39 = .ok (.imul, 1) := dk_104 (dk_at dksX3_set_1 15 rfl rfl)
theorem dX3_set_40 : decode cX3_set 40 = .ok (.iadd, 1) := dk_96 (dk_at dksX3_set_1 16 rfl rfl)
theorem dX3_set_41 : decode cX3_set 41 = .ok (.iload_n 2, 1) := dk_28 (dk_at dksX3_set_1 17 rfl rfl)
theorem dX3_set_42 : decode cX3_set 42 = .ok (.iadd, 1) := dk_96 (dk_at dksX3_set_1 18 rfl rfl)
theorem dX3_set_43 : decode cX3_set 43 = .ok (.iconst 5, 1) := dk_8 (dk_at dksX3_set_1 19 rfl rfl)
theorem dX3_set_44 : decode cX3_set 44 = .ok (.isub, 1) := dk_100 (dk_at dksX3_set_1 20 rfl rfl)
theorem dX3_set_45 : decode cX3_set 45 = .ok (.iload_n 3, 1) := dk_29 (dk_at dksX3_set_1 21 rfl rfl)
theorem dX3_set_46 : decode cX3_set 46 = .ok (.invokevirtual 133, 3) := dk_182 0 133 (dk_at dksX3_set_2 0 rfl rfl)
theorem dX3_set_49 : decode cX3_set 49 = .ok (.goto 5, 3) := dk_167 0 5 (dk_at dksX3_set_2 3 rfl rfl)
theorem dX3_set_52 : decode cX3_set 52 = .ok (.ldc 86, 2) := dk_18 86 (dk_at dksX3_set_2 6 rfl rfl)
theorem dX3_set_54 : decode cX3_set 54 = .ok (.ireturn, 1) := dk_172 (dk_at dksX3_set_2 8 rfl rfl)
theorem dX3_set_55 : decode cX3_set 55 = .ok (.iload_n 2, 1) := dk_28 (dk_at dksX3_set_2 9 rfl rfl)
theorem dX3_set_56 : decode cX3_set 56 = .ok (.iconst 1, 1) := dk_4 (dk_at dksX3_set_2 10 rfl rfl)
theorem dX3_set_57 : decode cX3_set 57 = .ok (.iconst 2, 1) := dk_5 (dk_at dksX3_set_2 11 rfl rfl)
theorem dX3_set_58 : decode cX3_set 58 = .ok (.invokestatic 82, 3) := dk_184 0 82 (dk_at dksX3_set_2 12 rfl rfl)
theorem dX3_set_61 : decode cX3_set 61 = .ok (.ifCond .eq 32, 3) := dk_153 0 32 (dk_at dksX3_set_2 15 rfl rfl)
theorem dX3_set_64 : decode cX3_set 64 = .ok (.iload_n 3, 1) := dk_29 (dk_at dksX3_set_2 18 rfl rfl)
theorem dX3_set_65 : decode cX3_set 65 = .ok (.iload_n 2, 1) := dk_28 (dk_at dksX3_set_2 19 rfl rfl)
theorem dX3_set_66 : decode cX3_set 66 = .ok (.iconst 1, 1) := dk_4 (dk_at dksX3_set_2 20 rfl rfl)
theorem dX3_set_67 : decode cX3_set 67 = .ok (.isub, 1) := dk_100 (dk_at dksX3_set_2 21 rfl rfl)
theorem dX3_set_68 : decode cX3_set 68 = .ok (.bipush 99, 2) := dk_16 99 (dk_at dksX3_set_2 22 rfl rfl)
theorem dX3_set_70 : decode cX3_set 70 = .ok (.invokestatic 82, 3) := dk_184 0 82 (dk_at dksX3_set_3 0 rfl rfl)
theorem dX3_set_73 : decode cX3_set 73 = .ok (.ifCond .eq 20, 3) := dk_153 0 20 (dk_at dksX3_set_3 3 rfl rfl)
theorem dX3_set_76 : decode cX3_set 76 = .ok (.aload_n 0, 1) := dk_42 (dk_at dksX3_set_3 6 rfl rfl)
theorem dX3_set_77 : decode cX3_set 77 = .ok (.bipush 7, 2) := dk_16 7 (dk_at dksX3_set_3 7 rfl rfl)
theorem dX3_set_79 : decode cX3_set 79 = .ok (.bipush 6, 2) := dk_16 6 (dk_at dksX3_set_3 9 rfl rfl)
theorem dX3_set_81 : decode cX3_set 81 = .ok (.iload_n 1, 1) := dk_27 (dk_at dksX3_set_3 11 rfl rfl)
theorem dX3_set_82 : decode cX3_set 82 = .ok (.imul, 1) := dk_104 (dk_at dksX3_set_3 12 rfl rfl)
theorem dX3_set_83 : decode cX3_set 83 = .ok (.iadd, 1) := dk_96 (dk_at dksX3_set_3 13 rfl rfl)
theorem dX3_set_84 : decode cX3_set 84 = .ok (.iload_n 2, 1) := dk_28 (dk_at dksX3_set_3 14 rfl rfl)
theorem dX3_set_85 : decode cX3_set 85 = .ok (.iadd, 1) := dk_96 (dk_at dksX3_set_3 15 rfl rfl)
theorem dX3_set_86 : decode cX3_set 86 = .ok (.iload_n 3, 1) := dk_29 (dk_at dksX3_set_3 16 rfl rfl)
theorem dX3_set_87 : decode cX3_set 87 = .ok (.invokevirtual 133, 3) := dk_182 0 133 (dk_at dksX3_set_3 17 rfl rfl)
theorem dX3_set_90 : decode cX3_set 90 = .ok (.goto 5, 3) := dk_167 0 5 (dk_at dksX3_set_3 20 rfl rfl)
theorem dX3_set_93 : decode cX3_set 93 = .ok (.ldc 86, 2) := dk_18 86 (dk_at dksX3_set_4 0 rfl rfl)
theorem dX3_set_95 : decode cX3_set 95 = .ok (.ireturn, 1) := dk_172 (dk_at dksX3_set_4 2 rfl rfl)
abbrev cX3_pipe : ByteArray := prog_22_method_26_code
def yX3_pipe : MethodName := ⟨RX3, "pipe", "(III)I"⟩
def dkwX3_pipe_3 : List UInt8 := [42, 180, 0, 9, 5, 46, 4, 100, 172]
abbrev dktX3_pipe_3 : List UInt8 := dkwX3_pipe_3 ++ []
def dkwX3_pipe_2 : List UInt8 := [172, 42, 42, 180, 0, 9, 5, 46, 27, 28, 29, 182, 0, 136, 42, 180, 0, 9, 5, 92, 46, 4, 96, 79]
abbrev dktX3_pipe_2 : List UInt8 := dkwX3_pipe_2 ++ dktX3_pipe_3
def dkwX3_pipe_1 : List UInt8 := [16, 9, 184, 0, 82, 154, 0, 6, 18, 86, 172, 42, 180, 0, 9, 5, 46, 16, 12, 160, 0, 6, 18, 87]
abbrev dktX3_pipe_1 : List UInt8 := dkwX3_pipe_1 ++ dktX3_pipe_2
def dkwX3_pipe_0 : List UInt8 := [42, 27, 182, 0, 112, 153, 0, 26, 42, 28, 182, 0, 112, 153, 0, 18, 27, 28, 159, 0, 13, 29, 4]
abbrev dktX3_pipe_0 : List UInt8 := dkwX3_pipe_0 ++ dktX3_pipe_1
theorem dksX3_pipe_0 : cX3_pipe.data.toList.drop 0 = dktX3_pipe_0 := by decide +kernel
theorem dksX3_pipe_1 : cX3_pipe.data.toList.drop 23 = dktX3_pipe_1 := dk_seg dksX3_pipe_0 23 rfl rfl
theorem dksX3_pipe_2 : cX3_pipe.data.toList.drop 47 = dktX3_pipe_2 := dk_seg dksX3_pipe_1 24 rfl rfl
theorem dksX3_pipe_3 : cX3_pipe.data.toList.drop 71 = dktX3_pipe_3 := dk_seg dksX3_pipe_2 24 rfl rfl
theorem dX3_pipe_0 : decode cX3_pipe 0 = .ok (.aload_n 0, 1) := dk_42 (dk_at dksX3_pipe_0 0 rfl rfl)
theorem dX3_pipe_1 : decode cX3_pipe 1 = .ok (.iload_n 1, 1) := dk_27 (dk_at dksX3_pipe_0 1 rfl rfl)
theorem dX3_pipe_2 : decode cX3_pipe 2 = .ok (.invokevirtual 112, 3) := dk_182 0 112 (dk_at dksX3_pipe_0 2 rfl rfl)
theorem dX3_pipe_5 : decode cX3_pipe 5 = .ok (.ifCond .eq 26, 3) := dk_153 0 26 (dk_at dksX3_pipe_0 5 rfl rfl)
theorem dX3_pipe_8 : decode cX3_pipe 8 = .ok (.aload_n 0, 1) := dk_42 (dk_at dksX3_pipe_0 8 rfl rfl)
theorem dX3_pipe_9 : decode cX3_pipe 9 = .ok (.iload_n 2, 1) := dk_28 (dk_at dksX3_pipe_0 9 rfl rfl)
theorem dX3_pipe_10 : decode cX3_pipe 10 = .ok (.invokevirtual 112, 3) := dk_182 0 112 (dk_at dksX3_pipe_0 10 rfl rfl)
theorem dX3_pipe_13 : decode cX3_pipe 13 = .ok (.ifCond .eq 18, 3) := dk_153 0 18 (dk_at dksX3_pipe_0 13 rfl rfl)
theorem dX3_pipe_16 : decode cX3_pipe 16 = .ok (.iload_n 1, 1) := dk_27 (dk_at dksX3_pipe_0 16 rfl rfl)
theorem dX3_pipe_17 : decode cX3_pipe 17 = .ok (.iload_n 2, 1) := dk_28 (dk_at dksX3_pipe_0 17 rfl rfl)
theorem dX3_pipe_18 : decode cX3_pipe 18 = .ok (.if_icmp .eq 13, 3) := dk_159 0 13 (dk_at dksX3_pipe_0 18 rfl rfl)
theorem dX3_pipe_21 : decode cX3_pipe 21 = .ok (.iload_n 3, 1) := dk_29 (dk_at dksX3_pipe_0 21 rfl rfl)
theorem dX3_pipe_22 : decode cX3_pipe 22 = .ok (.iconst 1, 1) := dk_4 (dk_at dksX3_pipe_0 22 rfl rfl)
theorem dX3_pipe_23 : decode cX3_pipe 23 = .ok (.bipush 9, 2) := dk_16 9 (dk_at dksX3_pipe_1 0 rfl rfl)
theorem dX3_pipe_25 : decode cX3_pipe 25 = .ok (.invokestatic 82, 3) := dk_184 0 82 (dk_at dksX3_pipe_1 2 rfl rfl)
theorem dX3_pipe_28 : decode cX3_pipe 28 = .ok (.ifCond .ne 6, 3) := dk_154 0 6 (dk_at dksX3_pipe_1 5 rfl rfl)
theorem dX3_pipe_31 : decode cX3_pipe 31 = .ok (.ldc 86, 2) := dk_18 86 (dk_at dksX3_pipe_1 8 rfl rfl)
theorem dX3_pipe_33 : decode cX3_pipe 33 = .ok (.ireturn, 1) := dk_172 (dk_at dksX3_pipe_1 10 rfl rfl)
theorem dX3_pipe_34 : decode cX3_pipe 34 = .ok (.aload_n 0, 1) := dk_42 (dk_at dksX3_pipe_1 11 rfl rfl)
theorem dX3_pipe_35 : decode cX3_pipe 35 = .ok (.getfield 9, 3) := dk_180 0 9 (dk_at dksX3_pipe_1 12 rfl rfl)
theorem dX3_pipe_38 : decode cX3_pipe 38 = .ok (.iconst 2, 1) := dk_5 (dk_at dksX3_pipe_1 15 rfl rfl)
theorem dX3_pipe_39 : decode cX3_pipe 39 = .ok (.iaload, 1) := dk_46 (dk_at dksX3_pipe_1 16 rfl rfl)
theorem dX3_pipe_40 : decode cX3_pipe 40 = .ok (.bipush 12, 2) := dk_16 12 (dk_at dksX3_pipe_1 17 rfl rfl)
theorem dX3_pipe_42 : decode cX3_pipe 42 = .ok (.if_icmp .ne 6, 3) := dk_160 0 6 (dk_at dksX3_pipe_1 19 rfl rfl)
theorem dX3_pipe_45 : decode cX3_pipe 45 = .ok (.ldc 87, 2) := dk_18 87 (dk_at dksX3_pipe_1 22 rfl rfl)
theorem dX3_pipe_47 : decode cX3_pipe 47 = .ok (.ireturn, 1) := dk_172 (dk_at dksX3_pipe_2 0 rfl rfl)
theorem dX3_pipe_48 : decode cX3_pipe 48 = .ok (.aload_n 0, 1) := dk_42 (dk_at dksX3_pipe_2 1 rfl rfl)
theorem dX3_pipe_49 : decode cX3_pipe 49 = .ok (.aload_n 0, 1) := dk_42 (dk_at dksX3_pipe_2 2 rfl rfl)
theorem dX3_pipe_50 : decode cX3_pipe 50 = .ok (.getfield 9, 3) := dk_180 0 9 (dk_at dksX3_pipe_2 3 rfl rfl)
theorem dX3_pipe_53 : decode cX3_pipe 53 = .ok (.iconst 2, 1) := dk_5 (dk_at dksX3_pipe_2 6 rfl rfl)
theorem dX3_pipe_54 : decode cX3_pipe 54 = .ok (.iaload, 1) := dk_46 (dk_at dksX3_pipe_2 7 rfl rfl)
theorem dX3_pipe_55 : decode cX3_pipe 55 = .ok (.iload_n 1, 1) := dk_27 (dk_at dksX3_pipe_2 8 rfl rfl)
theorem dX3_pipe_56 : decode cX3_pipe 56 = .ok (.iload_n 2, 1) := dk_28 (dk_at dksX3_pipe_2 9 rfl rfl)
theorem dX3_pipe_57 : decode cX3_pipe 57 = .ok (.iload_n 3, 1) := dk_29 (dk_at dksX3_pipe_2 10 rfl rfl)
theorem dX3_pipe_58 : decode cX3_pipe 58 = .ok (.invokevirtual 136, 3) := dk_182 0 136 (dk_at dksX3_pipe_2 11 rfl rfl)
theorem dX3_pipe_61 : decode cX3_pipe 61 = .ok (.aload_n 0, 1) := dk_42 (dk_at dksX3_pipe_2 14 rfl rfl)
theorem dX3_pipe_62 : decode cX3_pipe 62 = .ok (.getfield 9, 3) := dk_180 0 9 (dk_at dksX3_pipe_2 15 rfl rfl)
theorem dX3_pipe_65 : decode cX3_pipe 65 = .ok (.iconst 2, 1) := dk_5 (dk_at dksX3_pipe_2 18 rfl rfl)
theorem dX3_pipe_66 : decode cX3_pipe 66 = .ok (.dup2, 1) := dk_92 (dk_at dksX3_pipe_2 19 rfl rfl)
theorem dX3_pipe_67 : decode cX3_pipe 67 = .ok (.iaload, 1) := dk_46 (dk_at dksX3_pipe_2 20 rfl rfl)
theorem dX3_pipe_68 : decode cX3_pipe 68 = .ok (.iconst 1, 1) := dk_4 (dk_at dksX3_pipe_2 21 rfl rfl)
theorem dX3_pipe_69 : decode cX3_pipe 69 = .ok (.iadd, 1) := dk_96 (dk_at dksX3_pipe_2 22 rfl rfl)
theorem dX3_pipe_70 : decode cX3_pipe 70 = .ok (.iastore, 1) := dk_79 (dk_at dksX3_pipe_2 23 rfl rfl)
theorem dX3_pipe_71 : decode cX3_pipe 71 = .ok (.aload_n 0, 1) := dk_42 (dk_at dksX3_pipe_3 0 rfl rfl)
theorem dX3_pipe_72 : decode cX3_pipe 72 = .ok (.getfield 9, 3) := dk_180 0 9 (dk_at dksX3_pipe_3 1 rfl rfl)
theorem dX3_pipe_75 : decode cX3_pipe 75 = .ok (.iconst 2, 1) := dk_5 (dk_at dksX3_pipe_3 4 rfl rfl)
theorem dX3_pipe_76 : decode cX3_pipe 76 = .ok (.iaload, 1) := dk_46 (dk_at dksX3_pipe_3 5 rfl rfl)
theorem dX3_pipe_77 : decode cX3_pipe 77 = .ok (.iconst 1, 1) := dk_4 (dk_at dksX3_pipe_3 6 rfl rfl)
theorem dX3_pipe_78 : decode cX3_pipe 78 = .ok (.isub, 1) := dk_100 (dk_at dksX3_pipe_3 7 rfl rfl)
theorem dX3_pipe_79 : decode cX3_pipe 79 = .ok (.ireturn, 1) := dk_172 (dk_at dksX3_pipe_3 8 rfl rfl)
abbrev cX3_lays : ByteArray := prog_22_method_25_code
def yX3_lays : MethodName := ⟨RX3, "lays", "(IIII)V"⟩
def dkwX3_lays_1 : List UInt8 := [29, 79, 42, 180, 0, 9, 21, 5, 5, 96, 21, 4, 79, 42, 180, 0, 9, 21, 5, 6, 96, 3, 79, 177]
abbrev dktX3_lays_1 : List UInt8 := dkwX3_lays_1 ++ []
def dkwX3_lays_0 : List UInt8 := [16, 55, 7, 27, 104, 96, 54, 5, 42, 180, 0, 9, 21, 5, 28, 79, 42, 180, 0, 9, 21, 5, 4, 96]
abbrev dktX3_lays_0 : List UInt8 := dkwX3_lays_0 ++ dktX3_lays_1
theorem dksX3_lays_0 : cX3_lays.data.toList.drop 0 = dktX3_lays_0 := by decide +kernel
theorem dksX3_lays_1 : cX3_lays.data.toList.drop 24 = dktX3_lays_1 := dk_seg dksX3_lays_0 24 rfl rfl
theorem dX3_lays_0 : decode cX3_lays 0 = .ok (.bipush 55, 2) := dk_16 55 (dk_at dksX3_lays_0 0 rfl rfl)
theorem dX3_lays_2 : decode cX3_lays 2 = .ok (.iconst 4, 1) := dk_7 (dk_at dksX3_lays_0 2 rfl rfl)
theorem dX3_lays_3 : decode cX3_lays 3 = .ok (.iload_n 1, 1) := dk_27 (dk_at dksX3_lays_0 3 rfl rfl)
theorem dX3_lays_4 : decode cX3_lays 4 = .ok (.imul, 1) := dk_104 (dk_at dksX3_lays_0 4 rfl rfl)
theorem dX3_lays_5 : decode cX3_lays 5 = .ok (.iadd, 1) := dk_96 (dk_at dksX3_lays_0 5 rfl rfl)
theorem dX3_lays_6 : decode cX3_lays 6 = .ok (.istore 5, 2) := dk_54 5 (dk_at dksX3_lays_0 6 rfl rfl)
theorem dX3_lays_8 : decode cX3_lays 8 = .ok (.aload_n 0, 1) := dk_42 (dk_at dksX3_lays_0 8 rfl rfl)
theorem dX3_lays_9 : decode cX3_lays 9 = .ok (.getfield 9, 3) := dk_180 0 9 (dk_at dksX3_lays_0 9 rfl rfl)
theorem dX3_lays_12 : decode cX3_lays 12 = .ok (.iload 5, 2) := dk_21 5 (dk_at dksX3_lays_0 12 rfl rfl)
theorem dX3_lays_14 : decode cX3_lays 14 = .ok (.iload_n 2, 1) := dk_28 (dk_at dksX3_lays_0 14 rfl rfl)
theorem dX3_lays_15 : decode cX3_lays 15 = .ok (.iastore, 1) := dk_79 (dk_at dksX3_lays_0 15 rfl rfl)
theorem dX3_lays_16 : decode cX3_lays 16 = .ok (.aload_n 0, 1) := dk_42 (dk_at dksX3_lays_0 16 rfl rfl)
theorem dX3_lays_17 : decode cX3_lays 17 = .ok (.getfield 9, 3) := dk_180 0 9 (dk_at dksX3_lays_0 17 rfl rfl)
theorem dX3_lays_20 : decode cX3_lays 20 = .ok (.iload 5, 2) := dk_21 5 (dk_at dksX3_lays_0 20 rfl rfl)
theorem dX3_lays_22 : decode cX3_lays 22 = .ok (.iconst 1, 1) := dk_4 (dk_at dksX3_lays_0 22 rfl rfl)
theorem dX3_lays_23 : decode cX3_lays 23 = .ok (.iadd, 1) := dk_96 (dk_at dksX3_lays_0 23 rfl rfl)
theorem dX3_lays_24 : decode cX3_lays 24 = .ok (.iload_n 3, 1) := dk_29 (dk_at dksX3_lays_1 0 rfl rfl)
theorem dX3_lays_25 : decode cX3_lays 25 = .ok (.iastore, 1) := dk_79 (dk_at dksX3_lays_1 1 rfl rfl)
theorem dX3_lays_26 : decode cX3_lays 26 = .ok (.aload_n 0, 1) := dk_42 (dk_at dksX3_lays_1 2 rfl rfl)
theorem dX3_lays_27 : decode cX3_lays 27 = .ok (.getfield 9, 3) := dk_180 0 9 (dk_at dksX3_lays_1 3 rfl rfl)
theorem dX3_lays_30 : decode cX3_lays 30 = .ok (.iload 5, 2) := dk_21 5 (dk_at dksX3_lays_1 6 rfl rfl)
theorem dX3_lays_32 : decode cX3_lays 32 = .ok (.iconst 2, 1) := dk_5 (dk_at dksX3_lays_1 8 rfl rfl)
theorem dX3_lays_33 : decode cX3_lays 33 = .ok (.iadd, 1) := dk_96 (dk_at dksX3_lays_1 9 rfl rfl)
theorem dX3_lays_34 : decode cX3_lays 34 = .ok (.iload 4, 2) := dk_21 4 (dk_at dksX3_lays_1 10 rfl rfl)
theorem dX3_lays_36 : decode cX3_lays 36 = .ok (.iastore, 1) := dk_79 (dk_at dksX3_lays_1 12 rfl rfl)
theorem dX3_lays_37 : decode cX3_lays 37 = .ok (.aload_n 0, 1) := dk_42 (dk_at dksX3_lays_1 13 rfl rfl)
theorem dX3_lays_38 : decode cX3_lays 38 = .ok (.getfield 9, 3) := dk_180 0 9 (dk_at dksX3_lays_1 14 rfl rfl)
theorem dX3_lays_41 : decode cX3_lays 41 = .ok (.iload 5, 2) := dk_21 5 (dk_at dksX3_lays_1 17 rfl rfl)
theorem dX3_lays_43 : decode cX3_lays 43 = .ok (.iconst 3, 1) := dk_6 (dk_at dksX3_lays_1 19 rfl rfl)
theorem dX3_lays_44 : decode cX3_lays 44 = .ok (.iadd, 1) := dk_96 (dk_at dksX3_lays_1 20 rfl rfl)
theorem dX3_lays_45 : decode cX3_lays 45 = .ok (.iconst 0, 1) := dk_3 (dk_at dksX3_lays_1 21 rfl rfl)
theorem dX3_lays_46 : decode cX3_lays 46 = .ok (.iastore, 1) := dk_79 (dk_at dksX3_lays_1 22 rfl rfl)
theorem dX3_lays_47 : decode cX3_lays 47 = .ok (.return_, 1) := dk_177 (dk_at dksX3_lays_1 23 rfl rfl)
abbrev cX3_pipeOf : ByteArray := prog_22_method_29_code
def yX3_pipeOf : MethodName := ⟨RX3, "pipeOf", "(II)I"⟩
def dkwX3_pipeOf_1 : List UInt8 := [160, 0, 11, 42, 27, 182, 0, 149, 167, 0, 9, 42, 27, 28, 182, 0, 140, 172]
abbrev dktX3_pipeOf_1 : List UInt8 := dkwX3_pipeOf_1 ++ []
def dkwX3_pipeOf_0 : List UInt8 := [42, 27, 182, 0, 146, 153, 0, 12, 28, 3, 7, 184, 0, 82, 154, 0, 6, 18, 86, 172, 28, 7]
abbrev dktX3_pipeOf_0 : List UInt8 := dkwX3_pipeOf_0 ++ dktX3_pipeOf_1
theorem dksX3_pipeOf_0 : cX3_pipeOf.data.toList.drop 0 = dktX3_pipeOf_0 := by decide +kernel
theorem dksX3_pipeOf_1 : cX3_pipeOf.data.toList.drop 22 = dktX3_pipeOf_1 := dk_seg dksX3_pipeOf_0 22 rfl rfl
theorem dX3_pipeOf_0 : decode cX3_pipeOf 0 = .ok (.aload_n 0, 1) := dk_42 (dk_at dksX3_pipeOf_0 0 rfl rfl)
theorem dX3_pipeOf_1 : decode cX3_pipeOf 1 = .ok (.iload_n 1, 1) := dk_27 (dk_at dksX3_pipeOf_0 1 rfl rfl)
theorem dX3_pipeOf_2 : decode cX3_pipeOf 2 = .ok (.invokevirtual 146, 3) := dk_182 0 146 (dk_at dksX3_pipeOf_0 2 rfl rfl)
theorem dX3_pipeOf_5 : decode cX3_pipeOf 5 = .ok (.ifCond .eq 12, 3) := dk_153 0 12 (dk_at dksX3_pipeOf_0 5 rfl rfl)
theorem dX3_pipeOf_8 : decode cX3_pipeOf 8 = .ok (.iload_n 2, 1) := dk_28 (dk_at dksX3_pipeOf_0 8 rfl rfl)
theorem dX3_pipeOf_9 : decode cX3_pipeOf 9 = .ok (.iconst 0, 1) := dk_3 (dk_at dksX3_pipeOf_0 9 rfl rfl)
theorem dX3_pipeOf_10 : decode cX3_pipeOf 10 = .ok (.iconst 4, 1) := dk_7 (dk_at dksX3_pipeOf_0 10 rfl rfl)
theorem dX3_pipeOf_11 : decode cX3_pipeOf 11 = .ok (.invokestatic 82, 3) := dk_184 0 82 (dk_at dksX3_pipeOf_0 11 rfl rfl)
theorem dX3_pipeOf_14 : decode cX3_pipeOf 14 = .ok (.ifCond .ne 6, 3) := dk_154 0 6 (dk_at dksX3_pipeOf_0 14 rfl rfl)
theorem dX3_pipeOf_17 : decode cX3_pipeOf 17 = .ok (.ldc 86, 2) := dk_18 86 (dk_at dksX3_pipeOf_0 17 rfl rfl)
theorem dX3_pipeOf_19 : decode cX3_pipeOf 19 = .ok (.ireturn, 1) := dk_172 (dk_at dksX3_pipeOf_0 19 rfl rfl)
theorem dX3_pipeOf_20 : decode cX3_pipeOf 20 = .ok (.iload_n 2, 1) := dk_28 (dk_at dksX3_pipeOf_0 20 rfl rfl)
theorem dX3_pipeOf_21 : decode cX3_pipeOf 21 = .ok (.iconst 4, 1) := dk_7 (dk_at dksX3_pipeOf_0 21 rfl rfl)
theorem dX3_pipeOf_22 : decode cX3_pipeOf 22 = .ok (.if_icmp .ne 11, 3) := dk_160 0 11 (dk_at dksX3_pipeOf_1 0 rfl rfl)
theorem dX3_pipeOf_25 : decode cX3_pipeOf 25 = .ok (.aload_n 0, 1) := dk_42 (dk_at dksX3_pipeOf_1 3 rfl rfl)
theorem dX3_pipeOf_26 : decode cX3_pipeOf 26 = .ok (.iload_n 1, 1) := dk_27 (dk_at dksX3_pipeOf_1 4 rfl rfl)
theorem dX3_pipeOf_27 : decode cX3_pipeOf 27 = .ok (.invokevirtual 149, 3) := dk_182 0 149 (dk_at dksX3_pipeOf_1 5 rfl rfl)
theorem dX3_pipeOf_30 : decode cX3_pipeOf 30 = .ok (.goto 9, 3) := dk_167 0 9 (dk_at dksX3_pipeOf_1 8 rfl rfl)
theorem dX3_pipeOf_33 : decode cX3_pipeOf 33 = .ok (.aload_n 0, 1) := dk_42 (dk_at dksX3_pipeOf_1 11 rfl rfl)
theorem dX3_pipeOf_34 : decode cX3_pipeOf 34 = .ok (.iload_n 1, 1) := dk_27 (dk_at dksX3_pipeOf_1 12 rfl rfl)
theorem dX3_pipeOf_35 : decode cX3_pipeOf 35 = .ok (.iload_n 2, 1) := dk_28 (dk_at dksX3_pipeOf_1 13 rfl rfl)
theorem dX3_pipeOf_36 : decode cX3_pipeOf 36 = .ok (.invokevirtual 140, 3) := dk_182 0 140 (dk_at dksX3_pipeOf_1 14 rfl rfl)
theorem dX3_pipeOf_39 : decode cX3_pipeOf 39 = .ok (.ireturn, 1) := dk_172 (dk_at dksX3_pipeOf_1 17 rfl rfl)
abbrev cX3_isPipe : ByteArray := prog_22_method_7_code
def yX3_isPipe : MethodName := ⟨RX3, "isPipe", "(I)Z"⟩
def dkwX3_isPipe_0 : List UInt8 := [27, 3, 42, 180, 0, 9, 5, 46, 4, 100, 184, 0, 82, 172]
abbrev dktX3_isPipe_0 : List UInt8 := dkwX3_isPipe_0 ++ []
theorem dksX3_isPipe_0 : cX3_isPipe.data.toList.drop 0 = dktX3_isPipe_0 := by decide +kernel
theorem dX3_isPipe_0 : decode cX3_isPipe 0 = .ok (.iload_n 1, 1) := dk_27 (dk_at dksX3_isPipe_0 0 rfl rfl)
theorem dX3_isPipe_1 : decode cX3_isPipe 1 = .ok (.iconst 0, 1) := dk_3 (dk_at dksX3_isPipe_0 1 rfl rfl)
theorem dX3_isPipe_2 : decode cX3_isPipe 2 = .ok (.aload_n 0, 1) := dk_42 (dk_at dksX3_isPipe_0 2 rfl rfl)
theorem dX3_isPipe_3 : decode cX3_isPipe 3 = .ok (.getfield 9, 3) := dk_180 0 9 (dk_at dksX3_isPipe_0 3 rfl rfl)
theorem dX3_isPipe_6 : decode cX3_isPipe 6 = .ok (.iconst 2, 1) := dk_5 (dk_at dksX3_isPipe_0 6 rfl rfl)
theorem dX3_isPipe_7 : decode cX3_isPipe 7 = .ok (.iaload, 1) := dk_46 (dk_at dksX3_isPipe_0 7 rfl rfl)
theorem dX3_isPipe_8 : decode cX3_isPipe 8 = .ok (.iconst 1, 1) := dk_4 (dk_at dksX3_isPipe_0 8 rfl rfl)
theorem dX3_isPipe_9 : decode cX3_isPipe 9 = .ok (.isub, 1) := dk_100 (dk_at dksX3_isPipe_0 9 rfl rfl)
theorem dX3_isPipe_10 : decode cX3_isPipe 10 = .ok (.invokestatic 82, 3) := dk_184 0 82 (dk_at dksX3_isPipe_0 10 rfl rfl)
theorem dX3_isPipe_13 : decode cX3_isPipe 13 = .ok (.ireturn, 1) := dk_172 (dk_at dksX3_isPipe_0 13 rfl rfl)
abbrev cX3_runsIn : ByteArray := prog_22_method_28_code
def yX3_runsIn : MethodName := ⟨RX3, "runsIn", "(I)I"⟩
def dkwX3_runsIn_3 : List UInt8 := [182, 0, 125, 172]
abbrev dktX3_runsIn_3 : List UInt8 := dkwX3_runsIn_3 ++ []
def dkwX3_runsIn_2 : List UInt8 := [182, 0, 116, 100, 104, 5, 108, 54, 4, 42, 29, 21, 4, 3, 42, 28, 182, 0, 96, 184, 0, 103]
abbrev dktX3_runsIn_2 : List UInt8 := dkwX3_runsIn_2 ++ dktX3_runsIn_3
def dkwX3_runsIn_1 : List UInt8 := [42, 27, 4, 182, 0, 140, 96, 28, 100, 62, 42, 27, 5, 182, 0, 140, 42, 28, 182, 0, 116, 42, 29]
abbrev dktX3_runsIn_1 : List UInt8 := dkwX3_runsIn_1 ++ dktX3_runsIn_2
def dkwX3_runsIn_0 : List UInt8 := [42, 27, 6, 182, 0, 140, 4, 160, 0, 5, 3, 172, 42, 27, 182, 0, 143, 61, 42, 27, 3, 182, 0, 140]
abbrev dktX3_runsIn_0 : List UInt8 := dkwX3_runsIn_0 ++ dktX3_runsIn_1
theorem dksX3_runsIn_0 : cX3_runsIn.data.toList.drop 0 = dktX3_runsIn_0 := by decide +kernel
theorem dksX3_runsIn_1 : cX3_runsIn.data.toList.drop 24 = dktX3_runsIn_1 := dk_seg dksX3_runsIn_0 24 rfl rfl
theorem dksX3_runsIn_2 : cX3_runsIn.data.toList.drop 47 = dktX3_runsIn_2 := dk_seg dksX3_runsIn_1 23 rfl rfl
theorem dksX3_runsIn_3 : cX3_runsIn.data.toList.drop 69 = dktX3_runsIn_3 := dk_seg dksX3_runsIn_2 22 rfl rfl
theorem dX3_runsIn_0 : decode cX3_runsIn 0 = .ok (.aload_n 0, 1) := dk_42 (dk_at dksX3_runsIn_0 0 rfl rfl)
theorem dX3_runsIn_1 : decode cX3_runsIn 1 = .ok (.iload_n 1, 1) := dk_27 (dk_at dksX3_runsIn_0 1 rfl rfl)
theorem dX3_runsIn_2 : decode cX3_runsIn 2 = .ok (.iconst 3, 1) := dk_6 (dk_at dksX3_runsIn_0 2 rfl rfl)
theorem dX3_runsIn_3 : decode cX3_runsIn 3 = .ok (.invokevirtual 140, 3) := dk_182 0 140 (dk_at dksX3_runsIn_0 3 rfl rfl)
theorem dX3_runsIn_6 : decode cX3_runsIn 6 = .ok (.iconst 1, 1) := dk_4 (dk_at dksX3_runsIn_0 6 rfl rfl)
theorem dX3_runsIn_7 : decode cX3_runsIn 7 = .ok (.if_icmp .ne 5, 3) := dk_160 0 5 (dk_at dksX3_runsIn_0 7 rfl rfl)
theorem dX3_runsIn_10 : decode cX3_runsIn 10 = .ok (.iconst 0, 1) := dk_3 (dk_at dksX3_runsIn_0 10 rfl rfl)
theorem dX3_runsIn_11 : decode cX3_runsIn 11 = .ok (.ireturn, 1) := dk_172 (dk_at dksX3_runsIn_0 11 rfl rfl)
theorem dX3_runsIn_12 : decode cX3_runsIn 12 = .ok (.aload_n 0, 1) := dk_42 (dk_at dksX3_runsIn_0 12 rfl rfl)
theorem dX3_runsIn_13 : decode cX3_runsIn 13 = .ok (.iload_n 1, 1) := dk_27 (dk_at dksX3_runsIn_0 13 rfl rfl)
theorem dX3_runsIn_14 : decode cX3_runsIn 14 = .ok (.invokevirtual 143, 3) := dk_182 0 143 (dk_at dksX3_runsIn_0 14 rfl rfl)
theorem dX3_runsIn_17 : decode cX3_runsIn 17 = .ok (.istore_n 2, 1) := dk_61 (dk_at dksX3_runsIn_0 17 rfl rfl)
theorem dX3_runsIn_18 : decode cX3_runsIn 18 = .ok (.aload_n 0, 1) := dk_42 (dk_at dksX3_runsIn_0 18 rfl rfl)
theorem dX3_runsIn_19 : decode cX3_runsIn 19 = .ok (.iload_n 1, 1) := dk_27 (dk_at dksX3_runsIn_0 19 rfl rfl)
theorem dX3_runsIn_20 : decode cX3_runsIn 20 = .ok (.iconst 0, 1) := dk_3 (dk_at dksX3_runsIn_0 20 rfl rfl)
theorem dX3_runsIn_21 : decode cX3_runsIn 21 = .ok (.invokevirtual 140, 3) := dk_182 0 140 (dk_at dksX3_runsIn_0 21 rfl rfl)
theorem dX3_runsIn_24 : decode cX3_runsIn 24 = .ok (.aload_n 0, 1) := dk_42 (dk_at dksX3_runsIn_1 0 rfl rfl)
theorem dX3_runsIn_25 : decode cX3_runsIn 25 = .ok (.iload_n 1, 1) := dk_27 (dk_at dksX3_runsIn_1 1 rfl rfl)
theorem dX3_runsIn_26 : decode cX3_runsIn 26 = .ok (.iconst 1, 1) := dk_4 (dk_at dksX3_runsIn_1 2 rfl rfl)
theorem dX3_runsIn_27 : decode cX3_runsIn 27 = .ok (.invokevirtual 140, 3) := dk_182 0 140 (dk_at dksX3_runsIn_1 3 rfl rfl)
theorem dX3_runsIn_30 : decode cX3_runsIn 30 = .ok (.iadd, 1) := dk_96 (dk_at dksX3_runsIn_1 6 rfl rfl)
theorem dX3_runsIn_31 : decode cX3_runsIn 31 = .ok (.iload_n 2, 1) := dk_28 (dk_at dksX3_runsIn_1 7 rfl rfl)
theorem dX3_runsIn_32 : decode cX3_runsIn 32 = .ok (.isub, 1) := dk_100 (dk_at dksX3_runsIn_1 8 rfl rfl)
theorem dX3_runsIn_33 : decode cX3_runsIn 33 = .ok (.istore_n 3, 1) := dk_62 (dk_at dksX3_runsIn_1 9 rfl rfl)
theorem dX3_runsIn_34 : decode cX3_runsIn 34 = .ok (.aload_n 0, 1) := dk_42 (dk_at dksX3_runsIn_1 10 rfl rfl)
theorem dX3_runsIn_35 : decode cX3_runsIn 35 = .ok (.iload_n 1, 1) := dk_27 (dk_at dksX3_runsIn_1 11 rfl rfl)
theorem dX3_runsIn_36 : decode cX3_runsIn 36 = .ok (.iconst 2, 1) := dk_5 (dk_at dksX3_runsIn_1 12 rfl rfl)
theorem dX3_runsIn_37 : decode cX3_runsIn 37 = .ok (.invokevirtual 140, 3) := dk_182 0 140 (dk_at dksX3_runsIn_1 13 rfl rfl)
theorem dX3_runsIn_40 : decode cX3_runsIn 40 = .ok (.aload_n 0, 1) := dk_42 (dk_at dksX3_runsIn_1 16 rfl rfl)
theorem dX3_runsIn_41 : decode cX3_runsIn 41 = .ok (.iload_n 2, 1) := dk_28 (dk_at dksX3_runsIn_1 17 rfl rfl)
theorem dX3_runsIn_42 : decode cX3_runsIn 42 = .ok (.invokevirtual 116, 3) := dk_182 0 116 (dk_at dksX3_runsIn_1 18 rfl rfl)
theorem dX3_runsIn_45 : decode cX3_runsIn 45 = .ok (.aload_n 0, 1) := dk_42 (dk_at dksX3_runsIn_1 21 rfl rfl)
theorem dX3_runsIn_46 : decode cX3_runsIn 46 = .ok (.iload_n 3, 1) := dk_29 (dk_at dksX3_runsIn_1 22 rfl rfl)
theorem dX3_runsIn_47 : decode cX3_runsIn 47 = .ok (.invokevirtual 116, 3) := dk_182 0 116 (dk_at dksX3_runsIn_2 0 rfl rfl)
theorem dX3_runsIn_50 : decode cX3_runsIn 50 = .ok (.isub, 1) := dk_100 (dk_at dksX3_runsIn_2 3 rfl rfl)
theorem dX3_runsIn_51 : decode cX3_runsIn 51 = .ok (.imul, 1) := dk_104 (dk_at dksX3_runsIn_2 4 rfl rfl)
theorem dX3_runsIn_52 : decode cX3_runsIn 52 = .ok (.iconst 2, 1) := dk_5 (dk_at dksX3_runsIn_2 5 rfl rfl)
theorem dX3_runsIn_53 : decode cX3_runsIn 53 = .ok (.idiv, 1) := dk_108 (dk_at dksX3_runsIn_2 6 rfl rfl)
theorem dX3_runsIn_54 : decode cX3_runsIn 54 = .ok (.istore 4, 2) := dk_54 4 (dk_at dksX3_runsIn_2 7 rfl rfl)
theorem dX3_runsIn_56 : decode cX3_runsIn 56 = .ok (.aload_n 0, 1) := dk_42 (dk_at dksX3_runsIn_2 9 rfl rfl)
theorem dX3_runsIn_57 : decode cX3_runsIn 57 = .ok (.iload_n 3, 1) := dk_29 (dk_at dksX3_runsIn_2 10 rfl rfl)
theorem dX3_runsIn_58 : decode cX3_runsIn 58 = .ok (.iload 4, 2) := dk_21 4 (dk_at dksX3_runsIn_2 11 rfl rfl)
theorem dX3_runsIn_60 : decode cX3_runsIn 60 = .ok (.iconst 0, 1) := dk_3 (dk_at dksX3_runsIn_2 13 rfl rfl)
theorem dX3_runsIn_61 : decode cX3_runsIn 61 = .ok (.aload_n 0, 1) := dk_42 (dk_at dksX3_runsIn_2 14 rfl rfl)
theorem dX3_runsIn_62 : decode cX3_runsIn 62 = .ok (.iload_n 2, 1) := dk_28 (dk_at dksX3_runsIn_2 15 rfl rfl)
theorem dX3_runsIn_63 : decode cX3_runsIn 63 = .ok (.invokevirtual 96, 3) := dk_182 0 96 (dk_at dksX3_runsIn_2 16 rfl rfl)
theorem dX3_runsIn_66 : decode cX3_runsIn 66 = .ok (.invokestatic 103, 3) := dk_184 0 103 (dk_at dksX3_runsIn_2 19 rfl rfl)
theorem dX3_runsIn_69 : decode cX3_runsIn 69 = .ok (.invokevirtual 125, 3) := dk_182 0 125 (dk_at dksX3_runsIn_3 0 rfl rfl)
theorem dX3_runsIn_72 : decode cX3_runsIn 72 = .ok (.ireturn, 1) := dk_172 (dk_at dksX3_runsIn_3 3 rfl rfl)
abbrev cX3_at : ByteArray := prog_22_method_9_code
def yX3_at : MethodName := ⟨RX3, "at", "(II)I"⟩
def dkwX3_at_0 : List UInt8 := [42, 180, 0, 9, 16, 55, 7, 27, 104, 96, 28, 96, 46, 172]
abbrev dktX3_at_0 : List UInt8 := dkwX3_at_0 ++ []
theorem dksX3_at_0 : cX3_at.data.toList.drop 0 = dktX3_at_0 := by decide +kernel
theorem dX3_at_0 : decode cX3_at 0 = .ok (.aload_n 0, 1) := dk_42 (dk_at dksX3_at_0 0 rfl rfl)
theorem dX3_at_1 : decode cX3_at 1 = .ok (.getfield 9, 3) := dk_180 0 9 (dk_at dksX3_at_0 1 rfl rfl)
theorem dX3_at_4 : decode cX3_at 4 = .ok (.bipush 55, 2) := dk_16 55 (dk_at dksX3_at_0 4 rfl rfl)
theorem dX3_at_6 : decode cX3_at 6 = .ok (.iconst 4, 1) := dk_7 (dk_at dksX3_at_0 6 rfl rfl)
theorem dX3_at_7 : decode cX3_at 7 = .ok (.iload_n 1, 1) := dk_27 (dk_at dksX3_at_0 7 rfl rfl)
theorem dX3_at_8 : decode cX3_at 8 = .ok (.imul, 1) := dk_104 (dk_at dksX3_at_0 8 rfl rfl)
theorem dX3_at_9 : decode cX3_at 9 = .ok (.iadd, 1) := dk_96 (dk_at dksX3_at_0 9 rfl rfl)
theorem dX3_at_10 : decode cX3_at 10 = .ok (.iload_n 2, 1) := dk_28 (dk_at dksX3_at_0 10 rfl rfl)
theorem dX3_at_11 : decode cX3_at 11 = .ok (.iadd, 1) := dk_96 (dk_at dksX3_at_0 11 rfl rfl)
theorem dX3_at_12 : decode cX3_at 12 = .ok (.iaload, 1) := dk_46 (dk_at dksX3_at_0 12 rfl rfl)
theorem dX3_at_13 : decode cX3_at 13 = .ok (.ireturn, 1) := dk_172 (dk_at dksX3_at_0 13 rfl rfl)
abbrev cX3_higher : ByteArray := prog_22_method_27_code
def yX3_higher : MethodName := ⟨RX3, "higher", "(I)I"⟩
def dkwX3_higher_1 : List UInt8 := [27, 3, 182, 0, 140, 167, 0, 9, 42, 27, 4, 182, 0, 140, 172]
abbrev dktX3_higher_1 : List UInt8 := dkwX3_higher_1 ++ []
def dkwX3_higher_0 : List UInt8 := [42, 42, 27, 3, 182, 0, 140, 182, 0, 116, 42, 42, 27, 4, 182, 0, 140, 182, 0, 116, 164, 0, 12, 42]
abbrev dktX3_higher_0 : List UInt8 := dkwX3_higher_0 ++ dktX3_higher_1
theorem dksX3_higher_0 : cX3_higher.data.toList.drop 0 = dktX3_higher_0 := by decide +kernel
theorem dksX3_higher_1 : cX3_higher.data.toList.drop 24 = dktX3_higher_1 := dk_seg dksX3_higher_0 24 rfl rfl
theorem dX3_higher_0 : decode cX3_higher 0 = .ok (.aload_n 0, 1) := dk_42 (dk_at dksX3_higher_0 0 rfl rfl)
theorem dX3_higher_1 : decode cX3_higher 1 = .ok (.aload_n 0, 1) := dk_42 (dk_at dksX3_higher_0 1 rfl rfl)
theorem dX3_higher_2 : decode cX3_higher 2 = .ok (.iload_n 1, 1) := dk_27 (dk_at dksX3_higher_0 2 rfl rfl)
theorem dX3_higher_3 : decode cX3_higher 3 = .ok (.iconst 0, 1) := dk_3 (dk_at dksX3_higher_0 3 rfl rfl)
theorem dX3_higher_4 : decode cX3_higher 4 = .ok (.invokevirtual 140, 3) := dk_182 0 140 (dk_at dksX3_higher_0 4 rfl rfl)
theorem dX3_higher_7 : decode cX3_higher 7 = .ok (.invokevirtual 116, 3) := dk_182 0 116 (dk_at dksX3_higher_0 7 rfl rfl)
theorem dX3_higher_10 : decode cX3_higher 10 = .ok (.aload_n 0, 1) := dk_42 (dk_at dksX3_higher_0 10 rfl rfl)
theorem dX3_higher_11 : decode cX3_higher 11 = .ok (.aload_n 0, 1) := dk_42 (dk_at dksX3_higher_0 11 rfl rfl)
theorem dX3_higher_12 : decode cX3_higher 12 = .ok (.iload_n 1, 1) := dk_27 (dk_at dksX3_higher_0 12 rfl rfl)
theorem dX3_higher_13 : decode cX3_higher 13 = .ok (.iconst 1, 1) := dk_4 (dk_at dksX3_higher_0 13 rfl rfl)
theorem dX3_higher_14 : decode cX3_higher 14 = .ok (.invokevirtual 140, 3) := dk_182 0 140 (dk_at dksX3_higher_0 14 rfl rfl)
theorem dX3_higher_17 : decode cX3_higher 17 = .ok (.invokevirtual 116, 3) := dk_182 0 116 (dk_at dksX3_higher_0 17 rfl rfl)
theorem dX3_higher_20 : decode cX3_higher 20 = .ok (.if_icmp .le 12, 3) := dk_164 0 12 (dk_at dksX3_higher_0 20 rfl rfl)
theorem dX3_higher_23 : decode cX3_higher 23 = .ok (.aload_n 0, 1) := dk_42 (dk_at dksX3_higher_0 23 rfl rfl)
theorem dX3_higher_24 : decode cX3_higher 24 = .ok (.iload_n 1, 1) := dk_27 (dk_at dksX3_higher_1 0 rfl rfl)
theorem dX3_higher_25 : decode cX3_higher 25 = .ok (.iconst 0, 1) := dk_3 (dk_at dksX3_higher_1 1 rfl rfl)
theorem dX3_higher_26 : decode cX3_higher 26 = .ok (.invokevirtual 140, 3) := dk_182 0 140 (dk_at dksX3_higher_1 2 rfl rfl)
theorem dX3_higher_29 : decode cX3_higher 29 = .ok (.goto 9, 3) := dk_167 0 9 (dk_at dksX3_higher_1 5 rfl rfl)
theorem dX3_higher_32 : decode cX3_higher 32 = .ok (.aload_n 0, 1) := dk_42 (dk_at dksX3_higher_1 8 rfl rfl)
theorem dX3_higher_33 : decode cX3_higher 33 = .ok (.iload_n 1, 1) := dk_27 (dk_at dksX3_higher_1 9 rfl rfl)
theorem dX3_higher_34 : decode cX3_higher 34 = .ok (.iconst 1, 1) := dk_4 (dk_at dksX3_higher_1 10 rfl rfl)
theorem dX3_higher_35 : decode cX3_higher 35 = .ok (.invokevirtual 140, 3) := dk_182 0 140 (dk_at dksX3_higher_1 11 rfl rfl)
theorem dX3_higher_38 : decode cX3_higher 38 = .ok (.ireturn, 1) := dk_172 (dk_at dksX3_higher_1 14 rfl rfl)
abbrev cX3_cork : ByteArray := prog_22_method_30_code
def yX3_cork : MethodName := ⟨RX3, "cork", "(II)I"⟩
def dkwX3_cork_1 : List UInt8 := [6, 96, 28, 182, 0, 133, 167, 0, 5, 18, 86, 172]
abbrev dktX3_cork_1 : List UInt8 := dkwX3_cork_1 ++ []
def dkwX3_cork_0 : List UInt8 := [42, 27, 182, 0, 146, 153, 0, 28, 28, 3, 4, 184, 0, 82, 153, 0, 19, 42, 16, 55, 7, 27, 104, 96]
abbrev dktX3_cork_0 : List UInt8 := dkwX3_cork_0 ++ dktX3_cork_1
theorem dksX3_cork_0 : cX3_cork.data.toList.drop 0 = dktX3_cork_0 := by decide +kernel
theorem dksX3_cork_1 : cX3_cork.data.toList.drop 24 = dktX3_cork_1 := dk_seg dksX3_cork_0 24 rfl rfl
theorem dX3_cork_0 : decode cX3_cork 0 = .ok (.aload_n 0, 1) := dk_42 (dk_at dksX3_cork_0 0 rfl rfl)
theorem dX3_cork_1 : decode cX3_cork 1 = .ok (.iload_n 1, 1) := dk_27 (dk_at dksX3_cork_0 1 rfl rfl)
theorem dX3_cork_2 : decode cX3_cork 2 = .ok (.invokevirtual 146, 3) := dk_182 0 146 (dk_at dksX3_cork_0 2 rfl rfl)
theorem dX3_cork_5 : decode cX3_cork 5 = .ok (.ifCond .eq 28, 3) := dk_153 0 28 (dk_at dksX3_cork_0 5 rfl rfl)
theorem dX3_cork_8 : decode cX3_cork 8 = .ok (.iload_n 2, 1) := dk_28 (dk_at dksX3_cork_0 8 rfl rfl)
theorem dX3_cork_9 : decode cX3_cork 9 = .ok (.iconst 0, 1) := dk_3 (dk_at dksX3_cork_0 9 rfl rfl)
theorem dX3_cork_10 : decode cX3_cork 10 = .ok (.iconst 1, 1) := dk_4 (dk_at dksX3_cork_0 10 rfl rfl)
theorem dX3_cork_11 : decode cX3_cork 11 = .ok (.invokestatic 82, 3) := dk_184 0 82 (dk_at dksX3_cork_0 11 rfl rfl)
theorem dX3_cork_14 : decode cX3_cork 14 = .ok (.ifCond .eq 19, 3) := dk_153 0 19 (dk_at dksX3_cork_0 14 rfl rfl)
theorem dX3_cork_17 : decode cX3_cork 17 = .ok (.aload_n 0, 1) := dk_42 (dk_at dksX3_cork_0 17 rfl rfl)
theorem dX3_cork_18 : decode cX3_cork 18 = .ok (.bipush 55, 2) := dk_16 55 (dk_at dksX3_cork_0 18 rfl rfl)
theorem dX3_cork_20 : decode cX3_cork 20 = .ok (.iconst 4, 1) := dk_7 (dk_at dksX3_cork_0 20 rfl rfl)
theorem dX3_cork_21 : decode cX3_cork 21 = .ok (.iload_n 1, 1) := dk_27 (dk_at dksX3_cork_0 21 rfl rfl)
theorem dX3_cork_22 : decode cX3_cork 22 = .ok (.imul, 1) := dk_104 (dk_at dksX3_cork_0 22 rfl rfl)
theorem dX3_cork_23 : decode cX3_cork 23 = .ok (.iadd, 1) := dk_96 (dk_at dksX3_cork_0 23 rfl rfl)
theorem dX3_cork_24 : decode cX3_cork 24 = .ok (.iconst 3, 1) := dk_6 (dk_at dksX3_cork_1 0 rfl rfl)
theorem dX3_cork_25 : decode cX3_cork 25 = .ok (.iadd, 1) := dk_96 (dk_at dksX3_cork_1 1 rfl rfl)
theorem dX3_cork_26 : decode cX3_cork 26 = .ok (.iload_n 2, 1) := dk_28 (dk_at dksX3_cork_1 2 rfl rfl)
theorem dX3_cork_27 : decode cX3_cork 27 = .ok (.invokevirtual 133, 3) := dk_182 0 133 (dk_at dksX3_cork_1 3 rfl rfl)
theorem dX3_cork_30 : decode cX3_cork 30 = .ok (.goto 5, 3) := dk_167 0 5 (dk_at dksX3_cork_1 6 rfl rfl)
theorem dX3_cork_33 : decode cX3_cork 33 = .ok (.ldc 86, 2) := dk_18 86 (dk_at dksX3_cork_1 9 rfl rfl)
theorem dX3_cork_35 : decode cX3_cork 35 = .ok (.ireturn, 1) := dk_172 (dk_at dksX3_cork_1 11 rfl rfl)
abbrev cX3_thirst : ByteArray := prog_22_method_31_code
def yX3_thirst : MethodName := ⟨RX3, "thirst", "(I)I"⟩
def dkwX3_thirst_0 : List UInt8 := [27, 3, 16, 100, 184, 0, 82, 153, 0, 12, 42, 7, 27, 182, 0, 133, 167, 0, 5, 18, 86, 172]
abbrev dktX3_thirst_0 : List UInt8 := dkwX3_thirst_0 ++ []
theorem dksX3_thirst_0 : cX3_thirst.data.toList.drop 0 = dktX3_thirst_0 := by decide +kernel
theorem dX3_thirst_0 : decode cX3_thirst 0 = .ok (.iload_n 1, 1) := dk_27 (dk_at dksX3_thirst_0 0 rfl rfl)
theorem dX3_thirst_1 : decode cX3_thirst 1 = .ok (.iconst 0, 1) := dk_3 (dk_at dksX3_thirst_0 1 rfl rfl)
theorem dX3_thirst_2 : decode cX3_thirst 2 = .ok (.bipush 100, 2) := dk_16 100 (dk_at dksX3_thirst_0 2 rfl rfl)
theorem dX3_thirst_4 : decode cX3_thirst 4 = .ok (.invokestatic 82, 3) := dk_184 0 82 (dk_at dksX3_thirst_0 4 rfl rfl)
theorem dX3_thirst_7 : decode cX3_thirst 7 = .ok (.ifCond .eq 12, 3) := dk_153 0 12 (dk_at dksX3_thirst_0 7 rfl rfl)
theorem dX3_thirst_10 : decode cX3_thirst 10 = .ok (.aload_n 0, 1) := dk_42 (dk_at dksX3_thirst_0 10 rfl rfl)
theorem dX3_thirst_11 : decode cX3_thirst 11 = .ok (.iconst 4, 1) := dk_7 (dk_at dksX3_thirst_0 11 rfl rfl)
theorem dX3_thirst_12 : decode cX3_thirst 12 = .ok (.iload_n 1, 1) := dk_27 (dk_at dksX3_thirst_0 12 rfl rfl)
theorem dX3_thirst_13 : decode cX3_thirst 13 = .ok (.invokevirtual 133, 3) := dk_182 0 133 (dk_at dksX3_thirst_0 13 rfl rfl)
theorem dX3_thirst_16 : decode cX3_thirst 16 = .ok (.goto 5, 3) := dk_167 0 5 (dk_at dksX3_thirst_0 16 rfl rfl)
theorem dX3_thirst_19 : decode cX3_thirst 19 = .ok (.ldc 86, 2) := dk_18 86 (dk_at dksX3_thirst_0 19 rfl rfl)
theorem dX3_thirst_21 : decode cX3_thirst 21 = .ok (.ireturn, 1) := dk_172 (dk_at dksX3_thirst_0 21 rfl rfl)
abbrev cX3_deal : ByteArray := prog_22_method_33_code
def yX3_deal : MethodName := ⟨RX3, "deal", "(I)I"⟩
def dkwX3_deal_4 : List UInt8 := [132, 2, 1, 167, 255, 174, 28, 172]
abbrev dktX3_deal_4 : List UInt8 := dkwX3_deal_4 ++ []
def dkwX3_deal_3 : List UInt8 := [16, 6, 21, 5, 104, 96, 6, 96, 21, 5, 6, 112, 96, 42, 182, 0, 153, 17, 1, 44, 112, 79]
abbrev dktX3_deal_3 : List UInt8 := dkwX3_deal_3 ++ dktX3_deal_4
def dkwX3_deal_2 : List UInt8 := [42, 29, 21, 4, 4, 42, 182, 0, 153, 16, 60, 112, 96, 182, 0, 88, 54, 5, 42, 180, 0, 9, 16, 7]
abbrev dktX3_deal_2 : List UInt8 := dkwX3_deal_2 ++ dktX3_deal_3
def dkwX3_deal_1 : List UInt8 := [4, 46, 16, 8, 162, 0, 72, 42, 182, 0, 153, 16, 6, 112, 62, 42, 182, 0, 153, 16, 60, 112, 54, 4]
abbrev dktX3_deal_1 : List UInt8 := dkwX3_deal_1 ++ dktX3_deal_2
def dkwX3_deal_0 : List UInt8 := [27, 4, 16, 8, 184, 0, 82, 154, 0, 6, 18, 86, 172, 3, 61, 28, 27, 162, 0, 83, 42, 180, 0, 9]
abbrev dktX3_deal_0 : List UInt8 := dkwX3_deal_0 ++ dktX3_deal_1
theorem dksX3_deal_0 : cX3_deal.data.toList.drop 0 = dktX3_deal_0 := by decide +kernel
theorem dksX3_deal_1 : cX3_deal.data.toList.drop 24 = dktX3_deal_1 := dk_seg dksX3_deal_0 24 rfl rfl
theorem dksX3_deal_2 : cX3_deal.data.toList.drop 48 = dktX3_deal_2 := dk_seg dksX3_deal_1 24 rfl rfl
theorem dksX3_deal_3 : cX3_deal.data.toList.drop 72 = dktX3_deal_3 := dk_seg dksX3_deal_2 24 rfl rfl
theorem dksX3_deal_4 : cX3_deal.data.toList.drop 94 = dktX3_deal_4 := dk_seg dksX3_deal_3 22 rfl rfl
theorem dX3_deal_0 : decode cX3_deal 0 = .ok (.iload_n 1, 1) := dk_27 (dk_at dksX3_deal_0 0 rfl rfl)
theorem dX3_deal_1 : decode cX3_deal 1 = .ok (.iconst 1, 1) := dk_4 (dk_at dksX3_deal_0 1 rfl rfl)
theorem dX3_deal_2 : decode cX3_deal 2 = .ok (.bipush 8, 2) := dk_16 8 (dk_at dksX3_deal_0 2 rfl rfl)
theorem dX3_deal_4 : decode cX3_deal 4 = .ok (.invokestatic 82, 3) := dk_184 0 82 (dk_at dksX3_deal_0 4 rfl rfl)
theorem dX3_deal_7 : decode cX3_deal 7 = .ok (.ifCond .ne 6, 3) := dk_154 0 6 (dk_at dksX3_deal_0 7 rfl rfl)
theorem dX3_deal_10 : decode cX3_deal 10 = .ok (.ldc 86, 2) := dk_18 86 (dk_at dksX3_deal_0 10 rfl rfl)
theorem dX3_deal_12 : decode cX3_deal 12 = .ok (.ireturn, 1) := dk_172 (dk_at dksX3_deal_0 12 rfl rfl)
theorem dX3_deal_13 : decode cX3_deal 13 = .ok (.iconst 0, 1) := dk_3 (dk_at dksX3_deal_0 13 rfl rfl)
theorem dX3_deal_14 : decode cX3_deal 14 = .ok (.istore_n 2, 1) := dk_61 (dk_at dksX3_deal_0 14 rfl rfl)
theorem dX3_deal_15 : decode cX3_deal 15 = .ok (.iload_n 2, 1) := dk_28 (dk_at dksX3_deal_0 15 rfl rfl)
theorem dX3_deal_16 : decode cX3_deal 16 = .ok (.iload_n 1, 1) := dk_27 (dk_at dksX3_deal_0 16 rfl rfl)
theorem dX3_deal_17 : decode cX3_deal 17 = .ok (.if_icmp .ge 83, 3) := dk_162 0 83 (dk_at dksX3_deal_0 17 rfl rfl)
theorem dX3_deal_20 : decode cX3_deal 20 = .ok (.aload_n 0, 1) := dk_42 (dk_at dksX3_deal_0 20 rfl rfl)
theorem dX3_deal_21 : decode cX3_deal 21 = .ok (.getfield 9, 3) := dk_180 0 9 (dk_at dksX3_deal_0 21 rfl rfl)
theorem dX3_deal_24 : decode cX3_deal 24 = .ok (.iconst 1, 1) := dk_4 (dk_at dksX3_deal_1 0 rfl rfl)
theorem dX3_deal_25 : decode cX3_deal 25 = .ok (.iaload, 1) := dk_46 (dk_at dksX3_deal_1 1 rfl rfl)
theorem dX3_deal_26 : decode cX3_deal 26 = .ok (.bipush 8, 2) := dk_16 8 (dk_at dksX3_deal_1 2 rfl rfl)
theorem dX3_deal_28 : decode cX3_deal 28 = .ok (.if_icmp .ge 72, 3) := dk_162 0 72 (dk_at dksX3_deal_1 4 rfl rfl)
theorem dX3_deal_31 : decode cX3_deal 31 = .ok (.aload_n 0, 1) := dk_42 (dk_at dksX3_deal_1 7 rfl rfl)
theorem dX3_deal_32 : decode cX3_deal 32 = .ok (.invokevirtual 153, 3) := dk_182 0 153 (dk_at dksX3_deal_1 8 rfl rfl)
theorem dX3_deal_35 : decode cX3_deal 35 = .ok (.bipush 6, 2) := dk_16 6 (dk_at dksX3_deal_1 11 rfl rfl)
theorem dX3_deal_37 : decode cX3_deal 37 = .ok (.irem, 1) := dk_112 (dk_at dksX3_deal_1 13 rfl rfl)
theorem dX3_deal_38 : decode cX3_deal 38 = .ok (.istore_n 3, 1) := dk_62 (dk_at dksX3_deal_1 14 rfl rfl)
theorem dX3_deal_39 : decode cX3_deal 39 = .ok (.aload_n 0, 1) := dk_42 (dk_at dksX3_deal_1 15 rfl rfl)
theorem dX3_deal_40 : decode cX3_deal 40 = .ok (.invokevirtual 153, 3) := dk_182 0 153 (dk_at dksX3_deal_1 16 rfl rfl)
theorem dX3_deal_43 : decode cX3_deal 43 = .ok (.bipush 60, 2) := dk_16 60 (dk_at dksX3_deal_1 19 rfl rfl)
theorem dX3_deal_45 : decode cX3_deal 45 = .ok (.irem, 1) := dk_112 (dk_at dksX3_deal_1 21 rfl rfl)
theorem dX3_deal_46 : decode cX3_deal 46 = .ok (.istore 4, 2) := dk_54 4 (dk_at dksX3_deal_1 22 rfl rfl)
theorem dX3_deal_48 : decode cX3_deal 48 = .ok (.aload_n 0, 1) := dk_42 (dk_at dksX3_deal_2 0 rfl rfl)
theorem dX3_deal_49 : decode cX3_deal 49 = .ok (.iload_n 3, 1) := dk_29 (dk_at dksX3_deal_2 1 rfl rfl)
theorem dX3_deal_50 : decode cX3_deal 50 = .ok (.iload 4, 2) := dk_21 4 (dk_at dksX3_deal_2 2 rfl rfl)
theorem dX3_deal_52 : decode cX3_deal 52 = .ok (.iconst 1, 1) := dk_4 (dk_at dksX3_deal_2 4 rfl rfl)
theorem dX3_deal_53 : decode cX3_deal 53 = .ok (.aload_n 0, 1) := dk_42 (dk_at dksX3_deal_2 5 rfl rfl)
theorem dX3_deal_54 : decode cX3_deal 54 = .ok (.invokevirtual 153, 3) := dk_182 0 153 (dk_at dksX3_deal_2 6 rfl rfl)
theorem dX3_deal_57 : decode cX3_deal 57 = .ok (.bipush 60, 2) := dk_16 60 (dk_at dksX3_deal_2 9 rfl rfl)
theorem dX3_deal_59 : decode cX3_deal 59 = .ok (.irem, 1) := dk_112 (dk_at dksX3_deal_2 11 rfl rfl)
theorem dX3_deal_60 : decode cX3_deal 60 = .ok (.iadd, 1) := dk_96 (dk_at dksX3_deal_2 12 rfl rfl)
theorem dX3_deal_61 : decode cX3_deal 61 = .ok (.invokevirtual 88, 3) := dk_182 0 88 (dk_at dksX3_deal_2 13 rfl rfl)
theorem dX3_deal_64 : decode cX3_deal 64 = .ok (.istore 5, 2) := dk_54 5 (dk_at dksX3_deal_2 16 rfl rfl)
theorem dX3_deal_66 : decode cX3_deal 66 = .ok (.aload_n 0, 1) := dk_42 (dk_at dksX3_deal_2 18 rfl rfl)
theorem dX3_deal_67 : decode cX3_deal 67 = .ok (.getfield 9, 3) := dk_180 0 9 (dk_at dksX3_deal_2 19 rfl rfl)
theorem dX3_deal_70 : decode cX3_deal 70 = .ok (.bipush 7, 2) := dk_16 7 (dk_at dksX3_deal_2 22 rfl rfl)
theorem dX3_deal_72 : decode cX3_deal 72 = .ok (.bipush 6, 2) := dk_16 6 (dk_at dksX3_deal_3 0 rfl rfl)
theorem dX3_deal_74 : decode cX3_deal 74 = .ok (.iload 5, 2) := dk_21 5 (dk_at dksX3_deal_3 2 rfl rfl)
theorem dX3_deal_76 : decode cX3_deal 76 = .ok (.imul, 1) := dk_104 (dk_at dksX3_deal_3 4 rfl rfl)
theorem dX3_deal_77 : decode cX3_deal 77 = .ok (.iadd, 1) := dk_96 (dk_at dksX3_deal_3 5 rfl rfl)
theorem dX3_deal_78 : decode cX3_deal 78 = .ok (.iconst 3, 1) := dk_6 (dk_at dksX3_deal_3 6 rfl rfl)
theorem dX3_deal_79 : decode cX3_deal 79 = .ok (.iadd, 1) := dk_96 (dk_at dksX3_deal_3 7 rfl rfl)
theorem dX3_deal_80 : decode cX3_deal 80 = .ok (.iload 5, 2) := dk_21 5 (dk_at dksX3_deal_3 8 rfl rfl)
theorem dX3_deal_82 : decode cX3_deal 82 = .ok (.iconst 3, 1) := dk_6 (dk_at dksX3_deal_3 10 rfl rfl)
theorem dX3_deal_83 : decode cX3_deal 83 = .ok (.irem, 1) := dk_112 (dk_at dksX3_deal_3 11 rfl rfl)
theorem dX3_deal_84 : decode cX3_deal 84 = .ok (.iadd, 1) := dk_96 (dk_at dksX3_deal_3 12 rfl rfl)
theorem dX3_deal_85 : decode cX3_deal 85 = .ok (.aload_n 0, 1) := dk_42 (dk_at dksX3_deal_3 13 rfl rfl)
theorem dX3_deal_86 : decode cX3_deal 86 = .ok (.invokevirtual 153, 3) := dk_182 0 153 (dk_at dksX3_deal_3 14 rfl rfl)
theorem dX3_deal_89 : decode cX3_deal 89 = .ok (.sipush 300, 3) := dk_17 1 44 (dk_at dksX3_deal_3 17 rfl rfl)
theorem dX3_deal_92 : decode cX3_deal 92 = .ok (.irem, 1) := dk_112 (dk_at dksX3_deal_3 20 rfl rfl)
theorem dX3_deal_93 : decode cX3_deal 93 = .ok (.iastore, 1) := dk_79 (dk_at dksX3_deal_3 21 rfl rfl)
theorem dX3_deal_94 : decode cX3_deal 94 = .ok (.iinc 2 1, 3) := dk_132 2 1 (dk_at dksX3_deal_4 0 rfl rfl)
theorem dX3_deal_97 : decode cX3_deal 97 = .ok (.goto (-82), 3) := dk_167 255 174 (dk_at dksX3_deal_4 3 rfl rfl)
theorem dX3_deal_100 : decode cX3_deal 100 = .ok (.iload_n 2, 1) := dk_28 (dk_at dksX3_deal_4 6 rfl rfl)
theorem dX3_deal_101 : decode cX3_deal 101 = .ok (.ireturn, 1) := dk_172 (dk_at dksX3_deal_4 7 rfl rfl)
abbrev cX3_draw : ByteArray := prog_22_method_32_code
def yX3_draw : MethodName := ⟨RX3, "draw", "()I"⟩
def dkwX3_draw_1 : List UInt8 := [46, 16, 8, 124, 172]
abbrev dktX3_draw_1 : List UInt8 := dkwX3_draw_1 ++ []
def dkwX3_draw_0 : List UInt8 := [42, 180, 0, 9, 3, 42, 180, 0, 9, 3, 46, 18, 152, 104, 17, 48, 57, 96, 79, 42, 180, 0, 9, 3]
abbrev dktX3_draw_0 : List UInt8 := dkwX3_draw_0 ++ dktX3_draw_1
theorem dksX3_draw_0 : cX3_draw.data.toList.drop 0 = dktX3_draw_0 := by decide +kernel
theorem dksX3_draw_1 : cX3_draw.data.toList.drop 24 = dktX3_draw_1 := dk_seg dksX3_draw_0 24 rfl rfl
theorem dX3_draw_0 : decode cX3_draw 0 = .ok (.aload_n 0, 1) := dk_42 (dk_at dksX3_draw_0 0 rfl rfl)
theorem dX3_draw_1 : decode cX3_draw 1 = .ok (.getfield 9, 3) := dk_180 0 9 (dk_at dksX3_draw_0 1 rfl rfl)
theorem dX3_draw_4 : decode cX3_draw 4 = .ok (.iconst 0, 1) := dk_3 (dk_at dksX3_draw_0 4 rfl rfl)
theorem dX3_draw_5 : decode cX3_draw 5 = .ok (.aload_n 0, 1) := dk_42 (dk_at dksX3_draw_0 5 rfl rfl)
theorem dX3_draw_6 : decode cX3_draw 6 = .ok (.getfield 9, 3) := dk_180 0 9 (dk_at dksX3_draw_0 6 rfl rfl)
theorem dX3_draw_9 : decode cX3_draw 9 = .ok (.iconst 0, 1) := dk_3 (dk_at dksX3_draw_0 9 rfl rfl)
theorem dX3_draw_10 : decode cX3_draw 10 = .ok (.iaload, 1) := dk_46 (dk_at dksX3_draw_0 10 rfl rfl)
theorem dX3_draw_11 : decode cX3_draw 11 = .ok (.ldc 152, 2) := dk_18 152 (dk_at dksX3_draw_0 11 rfl rfl)
theorem dX3_draw_13 : decode cX3_draw 13 = .ok (.imul, 1) := dk_104 (dk_at dksX3_draw_0 13 rfl rfl)
theorem dX3_draw_14 : decode cX3_draw 14 = .ok (.sipush 12345, 3) := dk_17 48 57 (dk_at dksX3_draw_0 14 rfl rfl)
theorem dX3_draw_17 : decode cX3_draw 17 = .ok (.iadd, 1) := dk_96 (dk_at dksX3_draw_0 17 rfl rfl)
theorem dX3_draw_18 : decode cX3_draw 18 = .ok (.iastore, 1) := dk_79 (dk_at dksX3_draw_0 18 rfl rfl)
theorem dX3_draw_19 : decode cX3_draw 19 = .ok (.aload_n 0, 1) := dk_42 (dk_at dksX3_draw_0 19 rfl rfl)
theorem dX3_draw_20 : decode cX3_draw 20 = .ok (.getfield 9, 3) := dk_180 0 9 (dk_at dksX3_draw_0 20 rfl rfl)
theorem dX3_draw_23 : decode cX3_draw 23 = .ok (.iconst 0, 1) := dk_3 (dk_at dksX3_draw_0 23 rfl rfl)
theorem dX3_draw_24 : decode cX3_draw 24 = .ok (.iaload, 1) := dk_46 (dk_at dksX3_draw_1 0 rfl rfl)
theorem dX3_draw_25 : decode cX3_draw 25 = .ok (.bipush 8, 2) := dk_16 8 (dk_at dksX3_draw_1 1 rfl rfl)
theorem dX3_draw_27 : decode cX3_draw 27 = .ok (.iushr, 1) := dk_124 (dk_at dksX3_draw_1 3 rfl rfl)
theorem dX3_draw_28 : decode cX3_draw 28 = .ok (.ireturn, 1) := dk_172 (dk_at dksX3_draw_1 4 rfl rfl)
abbrev cX3_seed : ByteArray := prog_22_method_34_code
def yX3_seed : MethodName := ⟨RX3, "seed", "(I)I"⟩
def dkwX3_seed_0 : List UInt8 := [42, 3, 27, 182, 0, 133, 172]
abbrev dktX3_seed_0 : List UInt8 := dkwX3_seed_0 ++ []
theorem dksX3_seed_0 : cX3_seed.data.toList.drop 0 = dktX3_seed_0 := by decide +kernel
theorem dX3_seed_0 : decode cX3_seed 0 = .ok (.aload_n 0, 1) := dk_42 (dk_at dksX3_seed_0 0 rfl rfl)
theorem dX3_seed_1 : decode cX3_seed 1 = .ok (.iconst 0, 1) := dk_3 (dk_at dksX3_seed_0 1 rfl rfl)
theorem dX3_seed_2 : decode cX3_seed 2 = .ok (.iload_n 1, 1) := dk_27 (dk_at dksX3_seed_0 2 rfl rfl)
theorem dX3_seed_3 : decode cX3_seed 3 = .ok (.invokevirtual 133, 3) := dk_182 0 133 (dk_at dksX3_seed_0 3 rfl rfl)
theorem dX3_seed_6 : decode cX3_seed 6 = .ok (.ireturn, 1) := dk_172 (dk_at dksX3_seed_0 6 rfl rfl)
abbrev cX3_hours : ByteArray := prog_22_method_40_code
def yX3_hours : MethodName := ⟨RX3, "hours", "(I)I"⟩
def dkwX3_hours_1 : List UInt8 := [42, 180, 0, 9, 6, 46, 100, 3, 27, 184, 0, 103, 182, 0, 171, 42, 180, 0, 9, 8, 46, 28, 100, 172]
abbrev dktX3_hours_1 : List UInt8 := dkwX3_hours_1 ++ []
def dkwX3_hours_0 : List UInt8 := [27, 4, 16, 100, 184, 0, 82, 154, 0, 6, 18, 86, 172, 42, 180, 0, 9, 8, 46, 61, 42, 17, 39, 15]
abbrev dktX3_hours_0 : List UInt8 := dkwX3_hours_0 ++ dktX3_hours_1
theorem dksX3_hours_0 : cX3_hours.data.toList.drop 0 = dktX3_hours_0 := by decide +kernel
theorem dksX3_hours_1 : cX3_hours.data.toList.drop 24 = dktX3_hours_1 := dk_seg dksX3_hours_0 24 rfl rfl
theorem dX3_hours_0 : decode cX3_hours 0 = .ok (.iload_n 1, 1) := dk_27 (dk_at dksX3_hours_0 0 rfl rfl)
theorem dX3_hours_1 : decode cX3_hours 1 = .ok (.iconst 1, 1) := dk_4 (dk_at dksX3_hours_0 1 rfl rfl)
theorem dX3_hours_2 : decode cX3_hours 2 = .ok (.bipush 100, 2) := dk_16 100 (dk_at dksX3_hours_0 2 rfl rfl)
theorem dX3_hours_4 : decode cX3_hours 4 = .ok (.invokestatic 82, 3) := dk_184 0 82 (dk_at dksX3_hours_0 4 rfl rfl)
theorem dX3_hours_7 : decode cX3_hours 7 = .ok (.ifCond .ne 6, 3) := dk_154 0 6 (dk_at dksX3_hours_0 7 rfl rfl)
theorem dX3_hours_10 : decode cX3_hours 10 = .ok (.ldc 86, 2) := dk_18 86 (dk_at dksX3_hours_0 10 rfl rfl)
theorem dX3_hours_12 : decode cX3_hours 12 = .ok (.ireturn, 1) := dk_172 (dk_at dksX3_hours_0 12 rfl rfl)
theorem dX3_hours_13 : decode cX3_hours 13 = .ok (.aload_n 0, 1) := dk_42 (dk_at dksX3_hours_0 13 rfl rfl)
theorem dX3_hours_14 : decode cX3_hours 14 = .ok (.getfield 9, 3) := dk_180 0 9 (dk_at dksX3_hours_0 14 rfl rfl)
theorem dX3_hours_17 : decode cX3_hours 17 = .ok (.iconst 5, 1) := dk_8 (dk_at dksX3_hours_0 17 rfl rfl)
theorem dX3_hours_18 : decode cX3_hours 18 = .ok (.iaload, 1) := dk_46 (dk_at dksX3_hours_0 18 rfl rfl)
theorem dX3_hours_19 : decode cX3_hours 19 = .ok (.istore_n 2, 1) := dk_61 (dk_at dksX3_hours_0 19 rfl rfl)
theorem dX3_hours_20 : decode cX3_hours 20 = .ok (.aload_n 0, 1) := dk_42 (dk_at dksX3_hours_0 20 rfl rfl)
theorem dX3_hours_21 : decode cX3_hours 21 = .ok (.sipush 9999, 3) := dk_17 39 15 (dk_at dksX3_hours_0 21 rfl rfl)
theorem dX3_hours_24 : decode cX3_hours 24 = .ok (.aload_n 0, 1) := dk_42 (dk_at dksX3_hours_1 0 rfl rfl)
theorem dX3_hours_25 : decode cX3_hours 25 = .ok (.getfield 9, 3) := dk_180 0 9 (dk_at dksX3_hours_1 1 rfl rfl)
theorem dX3_hours_28 : decode cX3_hours 28 = .ok (.iconst 3, 1) := dk_6 (dk_at dksX3_hours_1 4 rfl rfl)
theorem dX3_hours_29 : decode cX3_hours 29 = .ok (.iaload, 1) := dk_46 (dk_at dksX3_hours_1 5 rfl rfl)
theorem dX3_hours_30 : decode cX3_hours 30 = .ok (.isub, 1) := dk_100 (dk_at dksX3_hours_1 6 rfl rfl)
theorem dX3_hours_31 : decode cX3_hours 31 = .ok (.iconst 0, 1) := dk_3 (dk_at dksX3_hours_1 7 rfl rfl)
theorem dX3_hours_32 : decode cX3_hours 32 = .ok (.iload_n 1, 1) := dk_27 (dk_at dksX3_hours_1 8 rfl rfl)
theorem dX3_hours_33 : decode cX3_hours 33 = .ok (.invokestatic 103, 3) := dk_184 0 103 (dk_at dksX3_hours_1 9 rfl rfl)
theorem dX3_hours_36 : decode cX3_hours 36 = .ok (.invokevirtual 171, 3) := dk_182 0 171 (dk_at dksX3_hours_1 12 rfl rfl)
theorem dX3_hours_39 : decode cX3_hours 39 = .ok (.aload_n 0, 1) := dk_42 (dk_at dksX3_hours_1 15 rfl rfl)
theorem dX3_hours_40 : decode cX3_hours 40 = .ok (.getfield 9, 3) := dk_180 0 9 (dk_at dksX3_hours_1 16 rfl rfl)
theorem dX3_hours_43 : decode cX3_hours 43 = .ok (.iconst 5, 1) := dk_8 (dk_at dksX3_hours_1 19 rfl rfl)
theorem dX3_hours_44 : decode cX3_hours 44 = .ok (.iaload, 1) := dk_46 (dk_at dksX3_hours_1 20 rfl rfl)
theorem dX3_hours_45 : decode cX3_hours 45 = .ok (.iload_n 2, 1) := dk_28 (dk_at dksX3_hours_1 21 rfl rfl)
theorem dX3_hours_46 : decode cX3_hours 46 = .ok (.isub, 1) := dk_100 (dk_at dksX3_hours_1 22 rfl rfl)
theorem dX3_hours_47 : decode cX3_hours 47 = .ok (.ireturn, 1) := dk_172 (dk_at dksX3_hours_1 23 rfl rfl)
abbrev cX3_goesOn : ByteArray := prog_22_method_39_code
def yX3_goesOn : MethodName := ⟨RX3, "goesOn", "(I)V"⟩
def dkwX3_goesOn_0 : List UInt8 := [3, 61, 28, 27, 162, 0, 13, 42, 182, 0, 168, 132, 2, 1, 167, 255, 244, 177]
abbrev dktX3_goesOn_0 : List UInt8 := dkwX3_goesOn_0 ++ []
theorem dksX3_goesOn_0 : cX3_goesOn.data.toList.drop 0 = dktX3_goesOn_0 := by decide +kernel
theorem dX3_goesOn_0 : decode cX3_goesOn 0 = .ok (.iconst 0, 1) := dk_3 (dk_at dksX3_goesOn_0 0 rfl rfl)
theorem dX3_goesOn_1 : decode cX3_goesOn 1 = .ok (.istore_n 2, 1) := dk_61 (dk_at dksX3_goesOn_0 1 rfl rfl)
theorem dX3_goesOn_2 : decode cX3_goesOn 2 = .ok (.iload_n 2, 1) := dk_28 (dk_at dksX3_goesOn_0 2 rfl rfl)
theorem dX3_goesOn_3 : decode cX3_goesOn 3 = .ok (.iload_n 1, 1) := dk_27 (dk_at dksX3_goesOn_0 3 rfl rfl)
theorem dX3_goesOn_4 : decode cX3_goesOn 4 = .ok (.if_icmp .ge 13, 3) := dk_162 0 13 (dk_at dksX3_goesOn_0 4 rfl rfl)
theorem dX3_goesOn_7 : decode cX3_goesOn 7 = .ok (.aload_n 0, 1) := dk_42 (dk_at dksX3_goesOn_0 7 rfl rfl)
theorem dX3_goesOn_8 : decode cX3_goesOn 8 = .ok (.invokevirtual 168, 3) := dk_182 0 168 (dk_at dksX3_goesOn_0 8 rfl rfl)
theorem dX3_goesOn_11 : decode cX3_goesOn 11 = .ok (.iinc 2 1, 3) := dk_132 2 1 (dk_at dksX3_goesOn_0 11 rfl rfl)
theorem dX3_goesOn_14 : decode cX3_goesOn 14 = .ok (.goto (-12), 3) := dk_167 255 244 (dk_at dksX3_goesOn_0 14 rfl rfl)
theorem dX3_goesOn_17 : decode cX3_goesOn 17 = .ok (.return_, 1) := dk_177 (dk_at dksX3_goesOn_0 17 rfl rfl)
abbrev cX3_hour : ByteArray := prog_22_method_38_code
def yX3_hour : MethodName := ⟨RX3, "hour", "()V"⟩
def dkwX3_hour_7 : List UInt8 := [182, 0, 157, 42, 180, 0, 9, 6, 92, 46, 4, 96, 79, 177]
abbrev dktX3_hour_7 : List UInt8 := dkwX3_hour_7 ++ []
def dkwX3_hour_6 : List UInt8 := [182, 0, 153, 42, 180, 0, 9, 4, 46, 112, 61, 42, 28, 8, 3, 42, 28, 182, 0, 96, 184, 0, 103]
abbrev dktX3_hour_6 : List UInt8 := dkwX3_hour_6 ++ dktX3_hour_7
def dkwX3_hour_5 : List UInt8 := [46, 162, 0, 7, 4, 167, 0, 4, 3, 60, 27, 153, 0, 39, 42, 180, 0, 9, 4, 46, 158, 0, 30, 42]
abbrev dktX3_hour_5 : List UInt8 := dkwX3_hour_5 ++ dktX3_hour_6
def dkwX3_hour_4 : List UInt8 := [184, 0, 103, 182, 0, 165, 132, 1, 1, 167, 255, 206, 42, 182, 0, 153, 16, 100, 112, 42, 180, 0, 9, 7]
abbrev dktX3_hour_4 : List UInt8 := dkwX3_hour_4 ++ dktX3_hour_5
def dkwX3_hour_3 : List UInt8 := [182, 0, 92, 164, 0, 26, 42, 27, 42, 27, 182, 0, 96, 7, 108, 4, 96, 3, 42, 27, 182, 0, 96]
abbrev dktX3_hour_3 : List UInt8 := dkwX3_hour_3 ++ dktX3_hour_4
def dkwX3_hour_2 : List UInt8 := [167, 255, 233, 3, 60, 27, 42, 180, 0, 9, 4, 46, 162, 0, 46, 42, 27, 182, 0, 109, 42, 27, 5]
abbrev dktX3_hour_2 : List UInt8 := dkwX3_hour_2 ++ dktX3_hour_3
def dkwX3_hour_1 : List UInt8 := [60, 27, 42, 180, 0, 9, 4, 46, 162, 0, 19, 42, 27, 42, 27, 182, 0, 119, 182, 0, 165, 132, 1, 1]
abbrev dktX3_hour_1 : List UInt8 := dkwX3_hour_1 ++ dktX3_hour_2
def dkwX3_hour_0 : List UInt8 := [3, 60, 27, 42, 180, 0, 9, 5, 46, 162, 0, 14, 42, 27, 182, 0, 161, 132, 1, 1, 167, 255, 238, 3]
abbrev dktX3_hour_0 : List UInt8 := dkwX3_hour_0 ++ dktX3_hour_1
theorem dksX3_hour_0 : cX3_hour.data.toList.drop 0 = dktX3_hour_0 := by decide +kernel
theorem dksX3_hour_1 : cX3_hour.data.toList.drop 24 = dktX3_hour_1 := dk_seg dksX3_hour_0 24 rfl rfl
theorem dksX3_hour_2 : cX3_hour.data.toList.drop 48 = dktX3_hour_2 := dk_seg dksX3_hour_1 24 rfl rfl
theorem dksX3_hour_3 : cX3_hour.data.toList.drop 71 = dktX3_hour_3 := dk_seg dksX3_hour_2 23 rfl rfl
theorem dksX3_hour_4 : cX3_hour.data.toList.drop 94 = dktX3_hour_4 := dk_seg dksX3_hour_3 23 rfl rfl
theorem dksX3_hour_5 : cX3_hour.data.toList.drop 118 = dktX3_hour_5 := dk_seg dksX3_hour_4 24 rfl rfl
theorem dksX3_hour_6 : cX3_hour.data.toList.drop 142 = dktX3_hour_6 := dk_seg dksX3_hour_5 24 rfl rfl
theorem dksX3_hour_7 : cX3_hour.data.toList.drop 165 = dktX3_hour_7 := dk_seg dksX3_hour_6 23 rfl rfl
theorem dX3_hour_0 : decode cX3_hour 0 = .ok (.iconst 0, 1) := dk_3 (dk_at dksX3_hour_0 0 rfl rfl)
theorem dX3_hour_1 : decode cX3_hour 1 = .ok (.istore_n 1, 1) := dk_60 (dk_at dksX3_hour_0 1 rfl rfl)
theorem dX3_hour_2 : decode cX3_hour 2 = .ok (.iload_n 1, 1) := dk_27 (dk_at dksX3_hour_0 2 rfl rfl)
theorem dX3_hour_3 : decode cX3_hour 3 = .ok (.aload_n 0, 1) := dk_42 (dk_at dksX3_hour_0 3 rfl rfl)
theorem dX3_hour_4 : decode cX3_hour 4 = .ok (.getfield 9, 3) := dk_180 0 9 (dk_at dksX3_hour_0 4 rfl rfl)
theorem dX3_hour_7 : decode cX3_hour 7 = .ok (.iconst 2, 1) := dk_5 (dk_at dksX3_hour_0 7 rfl rfl)
theorem dX3_hour_8 : decode cX3_hour 8 = .ok (.iaload, 1) := dk_46 (dk_at dksX3_hour_0 8 rfl rfl)
theorem dX3_hour_9 : decode cX3_hour 9 = .ok (.if_icmp .ge 14, 3) := dk_162 0 14 (dk_at dksX3_hour_0 9 rfl rfl)
theorem dX3_hour_12 : decode cX3_hour 12 = .ok (.aload_n 0, 1) := dk_42 (dk_at dksX3_hour_0 12 rfl rfl)
theorem dX3_hour_13 : decode cX3_hour 13 = .ok (.iload_n 1, 1) := dk_27 (dk_at dksX3_hour_0 13 rfl rfl)
theorem dX3_hour_14 : decode cX3_hour 14 = .ok (.invokevirtual 161, 3) := dk_182 0 161 (dk_at dksX3_hour_0 14 rfl rfl)
theorem dX3_hour_17 : decode cX3_hour 17 = .ok (.iinc 1 1, 3) := dk_132 1 1 (dk_at dksX3_hour_0 17 rfl rfl)
theorem dX3_hour_20 : decode cX3_hour 20 = .ok (.goto (-18), 3) := dk_167 255 238 (dk_at dksX3_hour_0 20 rfl rfl)
theorem dX3_hour_23 : decode cX3_hour 23 = .ok (.iconst 0, 1) := dk_3 (dk_at dksX3_hour_0 23 rfl rfl)
theorem dX3_hour_24 : decode cX3_hour 24 = .ok (.istore_n 1, 1) := dk_60 (dk_at dksX3_hour_1 0 rfl rfl)
theorem dX3_hour_25 : decode cX3_hour 25 = .ok (.iload_n 1, 1) := dk_27 (dk_at dksX3_hour_1 1 rfl rfl)
theorem dX3_hour_26 : decode cX3_hour 26 = .ok (.aload_n 0, 1) := dk_42 (dk_at dksX3_hour_1 2 rfl rfl)
theorem dX3_hour_27 : decode cX3_hour 27 = .ok (.getfield 9, 3) := dk_180 0 9 (dk_at dksX3_hour_1 3 rfl rfl)
theorem dX3_hour_30 : decode cX3_hour 30 = .ok (.iconst 1, 1) := dk_4 (dk_at dksX3_hour_1 6 rfl rfl)
theorem dX3_hour_31 : decode cX3_hour 31 = .ok (.iaload, 1) := dk_46 (dk_at dksX3_hour_1 7 rfl rfl)
theorem dX3_hour_32 : decode cX3_hour 32 = .ok (.if_icmp .ge 19, 3) := dk_162 0 19 (dk_at dksX3_hour_1 8 rfl rfl)
theorem dX3_hour_35 : decode cX3_hour 35 = .ok (.aload_n 0, 1) := dk_42 (dk_at dksX3_hour_1 11 rfl rfl)
theorem dX3_hour_36 : decode cX3_hour 36 = .ok (.iload_n 1, 1) := dk_27 (dk_at dksX3_hour_1 12 rfl rfl)
theorem dX3_hour_37 : decode cX3_hour 37 = .ok (.aload_n 0, 1) := dk_42 (dk_at dksX3_hour_1 13 rfl rfl)
theorem dX3_hour_38 : decode cX3_hour 38 = .ok (.iload_n 1, 1) := dk_27 (dk_at dksX3_hour_1 14 rfl rfl)
theorem dX3_hour_39 : decode cX3_hour 39 = .ok (.invokevirtual 119, 3) := dk_182 0 119 (dk_at dksX3_hour_1 15 rfl rfl)
theorem dX3_hour_42 : decode cX3_hour 42 = .ok (.invokevirtual 165, 3) := dk_182 0 165 (dk_at dksX3_hour_1 18 rfl rfl)
theorem dX3_hour_45 : decode cX3_hour 45 = .ok (.iinc 1 1, 3) := dk_132 1 1 (dk_at dksX3_hour_1 21 rfl rfl)
theorem dX3_hour_48 : decode cX3_hour 48 = .ok (.goto (-23), 3) := dk_167 255 233 (dk_at dksX3_hour_2 0 rfl rfl)
theorem dX3_hour_51 : decode cX3_hour 51 = .ok (.iconst 0, 1) := dk_3 (dk_at dksX3_hour_2 3 rfl rfl)
theorem dX3_hour_52 : decode cX3_hour 52 = .ok (.istore_n 1, 1) := dk_60 (dk_at dksX3_hour_2 4 rfl rfl)
theorem dX3_hour_53 : decode cX3_hour 53 = .ok (.iload_n 1, 1) := dk_27 (dk_at dksX3_hour_2 5 rfl rfl)
theorem dX3_hour_54 : decode cX3_hour 54 = .ok (.aload_n 0, 1) := dk_42 (dk_at dksX3_hour_2 6 rfl rfl)
theorem dX3_hour_55 : decode cX3_hour 55 = .ok (.getfield 9, 3) := dk_180 0 9 (dk_at dksX3_hour_2 7 rfl rfl)
theorem dX3_hour_58 : decode cX3_hour 58 = .ok (.iconst 1, 1) := dk_4 (dk_at dksX3_hour_2 10 rfl rfl)
theorem dX3_hour_59 : decode cX3_hour 59 = .ok (.iaload, 1) := dk_46 (dk_at dksX3_hour_2 11 rfl rfl)
theorem dX3_hour_60 : decode cX3_hour 60 = .ok (.if_icmp .ge 46, 3) := dk_162 0 46 (dk_at dksX3_hour_2 12 rfl rfl)
theorem dX3_hour_63 : decode cX3_hour 63 = .ok (.aload_n 0, 1) := dk_42 (dk_at dksX3_hour_2 15 rfl rfl)
theorem dX3_hour_64 : decode cX3_hour 64 = .ok (.iload_n 1, 1) := dk_27 (dk_at dksX3_hour_2 16 rfl rfl)
theorem dX3_hour_65 : decode cX3_hour 65 = .ok (.invokevirtual 109, 3) := dk_182 0 109 (dk_at dksX3_hour_2 17 rfl rfl)
theorem dX3_hour_68 : decode cX3_hour 68 = .ok (.aload_n 0, 1) := dk_42 (dk_at dksX3_hour_2 20 rfl rfl)
theorem dX3_hour_69 : decode cX3_hour 69 = .ok (.iload_n 1, 1) := dk_27 (dk_at dksX3_hour_2 21 rfl rfl)
theorem dX3_hour_70 : decode cX3_hour 70 = .ok (.iconst 2, 1) := dk_5 (dk_at dksX3_hour_2 22 rfl rfl)
theorem dX3_hour_71 : decode cX3_hour 71 = .ok (.invokevirtual 92, 3) := dk_182 0 92 (dk_at dksX3_hour_3 0 rfl rfl)
theorem dX3_hour_74 : decode cX3_hour 74 = .ok (.if_icmp .le 26, 3) := dk_164 0 26 (dk_at dksX3_hour_3 3 rfl rfl)
theorem dX3_hour_77 : decode cX3_hour 77 = .ok (.aload_n 0, 1) := dk_42 (dk_at dksX3_hour_3 6 rfl rfl)
theorem dX3_hour_78 : decode cX3_hour 78 = .ok (.iload_n 1, 1) := dk_27 (dk_at dksX3_hour_3 7 rfl rfl)
theorem dX3_hour_79 : decode cX3_hour 79 = .ok (.aload_n 0, 1) := dk_42 (dk_at dksX3_hour_3 8 rfl rfl)
theorem dX3_hour_80 : decode cX3_hour 80 = .ok (.iload_n 1, 1) := dk_27 (dk_at dksX3_hour_3 9 rfl rfl)
theorem dX3_hour_81 : decode cX3_hour 81 = .ok (.invokevirtual 96, 3) := dk_182 0 96 (dk_at dksX3_hour_3 10 rfl rfl)
theorem dX3_hour_84 : decode cX3_hour 84 = .ok (.iconst 4, 1) := dk_7 (dk_at dksX3_hour_3 13 rfl rfl)
theorem dX3_hour_85 : decode cX3_hour 85 = .ok (.idiv, 1) := dk_108 (dk_at dksX3_hour_3 14 rfl rfl)
theorem dX3_hour_86 : decode cX3_hour 86 = .ok (.iconst 1, 1) := dk_4 (dk_at dksX3_hour_3 15 rfl rfl)
theorem dX3_hour_87 : decode cX3_hour 87 = .ok (.iadd, 1) := dk_96 (dk_at dksX3_hour_3 16 rfl rfl)
theorem dX3_hour_88 : decode cX3_hour 88 = .ok (.iconst 0, 1) := dk_3 (dk_at dksX3_hour_3 17 rfl rfl)
theorem dX3_hour_89 : decode cX3_hour 89 = .ok (.aload_n 0, 1) := dk_42 (dk_at dksX3_hour_3 18 rfl rfl)
theorem dX3_hour_90 : decode cX3_hour 90 = .ok (.iload_n 1, 1) := dk_27 (dk_at dksX3_hour_3 19 rfl rfl)
theorem dX3_hour_91 : decode cX3_hour 91 = .ok (.invokevirtual 96, 3) := dk_182 0 96 (dk_at dksX3_hour_3 20 rfl rfl)
theorem dX3_hour_94 : decode cX3_hour 94 = .ok (.invokestatic 103, 3) := dk_184 0 103 (dk_at dksX3_hour_4 0 rfl rfl)
theorem dX3_hour_97 : decode cX3_hour 97 = .ok (.invokevirtual 165, 3) := dk_182 0 165 (dk_at dksX3_hour_4 3 rfl rfl)
theorem dX3_hour_100 : decode cX3_hour 100 = .ok (.iinc 1 1, 3) := dk_132 1 1 (dk_at dksX3_hour_4 6 rfl rfl)
theorem dX3_hour_103 : decode cX3_hour 103 = .ok (.goto (-50), 3) := dk_167 255 206 (dk_at dksX3_hour_4 9 rfl rfl)
theorem dX3_hour_106 : decode cX3_hour 106 = .ok (.aload_n 0, 1) := dk_42 (dk_at dksX3_hour_4 12 rfl rfl)
theorem dX3_hour_107 : decode cX3_hour 107 = .ok (.invokevirtual 153, 3) := dk_182 0 153 (dk_at dksX3_hour_4 13 rfl rfl)
theorem dX3_hour_110 : decode cX3_hour 110 = .ok (.bipush 100, 2) := dk_16 100 (dk_at dksX3_hour_4 16 rfl rfl)
theorem dX3_hour_112 : decode cX3_hour 112 = .ok (.irem, 1) := dk_112 (dk_at dksX3_hour_4 18 rfl rfl)
theorem dX3_hour_113 : decode cX3_hour 113 = .ok (.aload_n 0, 1) := dk_42 (dk_at dksX3_hour_4 19 rfl rfl)
theorem dX3_hour_114 : decode cX3_hour 114 = .ok (.getfield 9, 3) := dk_180 0 9 (dk_at dksX3_hour_4 20 rfl rfl)
theorem dX3_hour_117 : decode cX3_hour 117 = .ok (.iconst 4, 1) := dk_7 (dk_at dksX3_hour_4 23 rfl rfl)
theorem dX3_hour_118 : decode cX3_hour 118 = .ok (.iaload, 1) := dk_46 (dk_at dksX3_hour_5 0 rfl rfl)
theorem dX3_hour_119 : decode cX3_hour 119 = .ok (.if_icmp .ge 7, 3) := dk_162 0 7 (dk_at dksX3_hour_5 1 rfl rfl)
theorem dX3_hour_122 : decode cX3_hour 122 = .ok (.iconst 1, 1) := dk_4 (dk_at dksX3_hour_5 4 rfl rfl)
theorem dX3_hour_123 : decode cX3_hour 123 = .ok (.goto 4, 3) := dk_167 0 4 (dk_at dksX3_hour_5 5 rfl rfl)
theorem dX3_hour_126 : decode cX3_hour 126 = .ok (.iconst 0, 1) := dk_3 (dk_at dksX3_hour_5 8 rfl rfl)
theorem dX3_hour_127 : decode cX3_hour 127 = .ok (.istore_n 1, 1) := dk_60 (dk_at dksX3_hour_5 9 rfl rfl)
theorem dX3_hour_128 : decode cX3_hour 128 = .ok (.iload_n 1, 1) := dk_27 (dk_at dksX3_hour_5 10 rfl rfl)
theorem dX3_hour_129 : decode cX3_hour 129 = .ok (.ifCond .eq 39, 3) := dk_153 0 39 (dk_at dksX3_hour_5 11 rfl rfl)
theorem dX3_hour_132 : decode cX3_hour 132 = .ok (.aload_n 0, 1) := dk_42 (dk_at dksX3_hour_5 14 rfl rfl)
theorem dX3_hour_133 : decode cX3_hour 133 = .ok (.getfield 9, 3) := dk_180 0 9 (dk_at dksX3_hour_5 15 rfl rfl)
theorem dX3_hour_136 : decode cX3_hour 136 = .ok (.iconst 1, 1) := dk_4 (dk_at dksX3_hour_5 18 rfl rfl)
theorem dX3_hour_137 : decode cX3_hour 137 = .ok (.iaload, 1) := dk_46 (dk_at dksX3_hour_5 19 rfl rfl)
theorem dX3_hour_138 : decode cX3_hour 138 = .ok (.ifCond .le 30, 3) := dk_158 0 30 (dk_at dksX3_hour_5 20 rfl rfl)
theorem dX3_hour_141 : decode cX3_hour 141 = .ok (.aload_n 0, 1) := dk_42 (dk_at dksX3_hour_5 23 rfl rfl)
theorem dX3_hour_142 : decode cX3_hour 142 = .ok (.invokevirtual 153, 3) := dk_182 0 153 (dk_at dksX3_hour_6 0 rfl rfl)
theorem dX3_hour_145 : decode cX3_hour 145 = .ok (.aload_n 0, 1) := dk_42 (dk_at dksX3_hour_6 3 rfl rfl)
theorem dX3_hour_146 : decode cX3_hour 146 = .ok (.getfield 9, 3) := dk_180 0 9 (dk_at dksX3_hour_6 4 rfl rfl)
theorem dX3_hour_149 : decode cX3_hour 149 = .ok (.iconst 1, 1) := dk_4 (dk_at dksX3_hour_6 7 rfl rfl)
theorem dX3_hour_150 : decode cX3_hour 150 = .ok (.iaload, 1) := dk_46 (dk_at dksX3_hour_6 8 rfl rfl)
theorem dX3_hour_151 : decode cX3_hour 151 = .ok (.irem, 1) := dk_112 (dk_at dksX3_hour_6 9 rfl rfl)
theorem dX3_hour_152 : decode cX3_hour 152 = .ok (.istore_n 2, 1) := dk_61 (dk_at dksX3_hour_6 10 rfl rfl)
theorem dX3_hour_153 : decode cX3_hour 153 = .ok (.aload_n 0, 1) := dk_42 (dk_at dksX3_hour_6 11 rfl rfl)
theorem dX3_hour_154 : decode cX3_hour 154 = .ok (.iload_n 2, 1) := dk_28 (dk_at dksX3_hour_6 12 rfl rfl)
theorem dX3_hour_155 : decode cX3_hour 155 = .ok (.iconst 5, 1) := dk_8 (dk_at dksX3_hour_6 13 rfl rfl)
theorem dX3_hour_156 : decode cX3_hour 156 = .ok (.iconst 0, 1) := dk_3 (dk_at dksX3_hour_6 14 rfl rfl)
theorem dX3_hour_157 : decode cX3_hour 157 = .ok (.aload_n 0, 1) := dk_42 (dk_at dksX3_hour_6 15 rfl rfl)
theorem dX3_hour_158 : decode cX3_hour 158 = .ok (.iload_n 2, 1) := dk_28 (dk_at dksX3_hour_6 16 rfl rfl)
theorem dX3_hour_159 : decode cX3_hour 159 = .ok (.invokevirtual 96, 3) := dk_182 0 96 (dk_at dksX3_hour_6 17 rfl rfl)
theorem dX3_hour_162 : decode cX3_hour 162 = .ok (.invokestatic 103, 3) := dk_184 0 103 (dk_at dksX3_hour_6 20 rfl rfl)
theorem dX3_hour_165 : decode cX3_hour 165 = .ok (.invokevirtual 157, 3) := dk_182 0 157 (dk_at dksX3_hour_7 0 rfl rfl)
theorem dX3_hour_168 : decode cX3_hour 168 = .ok (.aload_n 0, 1) := dk_42 (dk_at dksX3_hour_7 3 rfl rfl)
theorem dX3_hour_169 : decode cX3_hour 169 = .ok (.getfield 9, 3) := dk_180 0 9 (dk_at dksX3_hour_7 4 rfl rfl)
theorem dX3_hour_172 : decode cX3_hour 172 = .ok (.iconst 3, 1) := dk_6 (dk_at dksX3_hour_7 7 rfl rfl)
theorem dX3_hour_173 : decode cX3_hour 173 = .ok (.dup2, 1) := dk_92 (dk_at dksX3_hour_7 8 rfl rfl)
theorem dX3_hour_174 : decode cX3_hour 174 = .ok (.iaload, 1) := dk_46 (dk_at dksX3_hour_7 9 rfl rfl)
theorem dX3_hour_175 : decode cX3_hour 175 = .ok (.iconst 1, 1) := dk_4 (dk_at dksX3_hour_7 10 rfl rfl)
theorem dX3_hour_176 : decode cX3_hour 176 = .ok (.iadd, 1) := dk_96 (dk_at dksX3_hour_7 11 rfl rfl)
theorem dX3_hour_177 : decode cX3_hour 177 = .ok (.iastore, 1) := dk_79 (dk_at dksX3_hour_7 12 rfl rfl)
theorem dX3_hour_178 : decode cX3_hour 178 = .ok (.return_, 1) := dk_177 (dk_at dksX3_hour_7 13 rfl rfl)
abbrev cX3_flows : ByteArray := prog_22_method_36_code
def yX3_flows : MethodName := ⟨RX3, "flows", "(I)V"⟩
def dkwX3_flows_3 : List UInt8 := [21, 5, 46, 96, 79, 132, 5, 1, 167, 255, 219, 177]
abbrev dktX3_flows_3 : List UInt8 := dkwX3_flows_3 ++ []
def dkwX3_flows_2 : List UInt8 := [42, 180, 0, 9, 16, 7, 16, 6, 21, 4, 104, 96, 6, 96, 21, 5, 96, 92, 46, 42, 180, 0, 19]
abbrev dktX3_flows_2 : List UInt8 := dkwX3_flows_2 ++ dktX3_flows_3
def dkwX3_flows_1 : List UInt8 := [4, 182, 0, 140, 96, 29, 100, 54, 4, 42, 29, 28, 182, 0, 157, 3, 54, 5, 21, 5, 6, 162, 0, 37]
abbrev dktX3_flows_1 : List UInt8 := dkwX3_flows_1 ++ dktX3_flows_2
def dkwX3_flows_0 : List UInt8 := [42, 27, 182, 0, 149, 61, 28, 158, 0, 75, 42, 27, 182, 0, 143, 62, 42, 27, 3, 182, 0, 140, 42, 27]
abbrev dktX3_flows_0 : List UInt8 := dkwX3_flows_0 ++ dktX3_flows_1
theorem dksX3_flows_0 : cX3_flows.data.toList.drop 0 = dktX3_flows_0 := by decide +kernel
theorem dksX3_flows_1 : cX3_flows.data.toList.drop 24 = dktX3_flows_1 := dk_seg dksX3_flows_0 24 rfl rfl
theorem dksX3_flows_2 : cX3_flows.data.toList.drop 48 = dktX3_flows_2 := dk_seg dksX3_flows_1 24 rfl rfl
theorem dksX3_flows_3 : cX3_flows.data.toList.drop 71 = dktX3_flows_3 := dk_seg dksX3_flows_2 23 rfl rfl
theorem dX3_flows_0 : decode cX3_flows 0 = .ok (.aload_n 0, 1) := dk_42 (dk_at dksX3_flows_0 0 rfl rfl)
theorem dX3_flows_1 : decode cX3_flows 1 = .ok (.iload_n 1, 1) := dk_27 (dk_at dksX3_flows_0 1 rfl rfl)
theorem dX3_flows_2 : decode cX3_flows 2 = .ok (.invokevirtual 149, 3) := dk_182 0 149 (dk_at dksX3_flows_0 2 rfl rfl)
theorem dX3_flows_5 : decode cX3_flows 5 = .ok (.istore_n 2, 1) := dk_61 (dk_at dksX3_flows_0 5 rfl rfl)
theorem dX3_flows_6 : decode cX3_flows 6 = .ok (.iload_n 2, 1) := dk_28 (dk_at dksX3_flows_0 6 rfl rfl)
theorem dX3_flows_7 : decode cX3_flows 7 = .ok (.ifCond .le 75, 3) := dk_158 0 75 (dk_at dksX3_flows_0 7 rfl rfl)
theorem dX3_flows_10 : decode cX3_flows 10 = .ok (.aload_n 0, 1) := dk_42 (dk_at dksX3_flows_0 10 rfl rfl)
theorem dX3_flows_11 : decode cX3_flows 11 = .ok (.iload_n 1, 1) := dk_27 (dk_at dksX3_flows_0 11 rfl rfl)
theorem dX3_flows_12 : decode cX3_flows 12 = .ok (.invokevirtual 143, 3) := dk_182 0 143 (dk_at dksX3_flows_0 12 rfl rfl)
theorem dX3_flows_15 : decode cX3_flows 15 = .ok (.istore_n 3, 1) := dk_62 (dk_at dksX3_flows_0 15 rfl rfl)
theorem dX3_flows_16 : decode cX3_flows 16 = .ok (.aload_n 0, 1) := dk_42 (dk_at dksX3_flows_0 16 rfl rfl)
theorem dX3_flows_17 : decode cX3_flows 17 = .ok (.iload_n 1, 1) := dk_27 (dk_at dksX3_flows_0 17 rfl rfl)
theorem dX3_flows_18 : decode cX3_flows 18 = .ok (.iconst 0, 1) := dk_3 (dk_at dksX3_flows_0 18 rfl rfl)
theorem dX3_flows_19 : decode cX3_flows 19 = .ok (.invokevirtual 140, 3) := dk_182 0 140 (dk_at dksX3_flows_0 19 rfl rfl)
theorem dX3_flows_22 : decode cX3_flows 22 = .ok (.aload_n 0, 1) := dk_42 (dk_at dksX3_flows_0 22 rfl rfl)
theorem dX3_flows_23 : decode cX3_flows 23 = .ok (.iload_n 1, 1) := dk_27 (dk_at dksX3_flows_0 23 rfl rfl)
theorem dX3_flows_24 : decode cX3_flows 24 = .ok (.iconst 1, 1) := dk_4 (dk_at dksX3_flows_1 0 rfl rfl)
theorem dX3_flows_25 : decode cX3_flows 25 = .ok (.invokevirtual 140, 3) := dk_182 0 140 (dk_at dksX3_flows_1 1 rfl rfl)
theorem dX3_flows_28 : decode cX3_flows 28 = .ok (.iadd, 1) := dk_96 (dk_at dksX3_flows_1 4 rfl rfl)
theorem dX3_flows_29 : decode cX3_flows 29 = .ok (.iload_n 3, 1) := dk_29 (dk_at dksX3_flows_1 5 rfl rfl)
theorem dX3_flows_30 : decode cX3_flows 30 = .ok (.isub, 1) := dk_100 (dk_at dksX3_flows_1 6 rfl rfl)
theorem dX3_flows_31 : decode cX3_flows 31 = .ok (.istore 4, 2) := dk_54 4 (dk_at dksX3_flows_1 7 rfl rfl)
theorem dX3_flows_33 : decode cX3_flows 33 = .ok (.aload_n 0, 1) := dk_42 (dk_at dksX3_flows_1 9 rfl rfl)
theorem dX3_flows_34 : decode cX3_flows 34 = .ok (.iload_n 3, 1) := dk_29 (dk_at dksX3_flows_1 10 rfl rfl)
theorem dX3_flows_35 : decode cX3_flows 35 = .ok (.iload_n 2, 1) := dk_28 (dk_at dksX3_flows_1 11 rfl rfl)
theorem dX3_flows_36 : decode cX3_flows 36 = .ok (.invokevirtual 157, 3) := dk_182 0 157 (dk_at dksX3_flows_1 12 rfl rfl)
theorem dX3_flows_39 : decode cX3_flows 39 = .ok (.iconst 0, 1) := dk_3 (dk_at dksX3_flows_1 15 rfl rfl)
theorem dX3_flows_40 : decode cX3_flows 40 = .ok (.istore 5, 2) := dk_54 5 (dk_at dksX3_flows_1 16 rfl rfl)
theorem dX3_flows_42 : decode cX3_flows 42 = .ok (.iload 5, 2) := dk_21 5 (dk_at dksX3_flows_1 18 rfl rfl)
theorem dX3_flows_44 : decode cX3_flows 44 = .ok (.iconst 3, 1) := dk_6 (dk_at dksX3_flows_1 20 rfl rfl)
theorem dX3_flows_45 : decode cX3_flows 45 = .ok (.if_icmp .ge 37, 3) := dk_162 0 37 (dk_at dksX3_flows_1 21 rfl rfl)
theorem dX3_flows_48 : decode cX3_flows 48 = .ok (.aload_n 0, 1) := dk_42 (dk_at dksX3_flows_2 0 rfl rfl)
theorem dX3_flows_49 : decode cX3_flows 49 = .ok (.getfield 9, 3) := dk_180 0 9 (dk_at dksX3_flows_2 1 rfl rfl)
theorem dX3_flows_52 : decode cX3_flows 52 = .ok (.bipush 7, 2) := dk_16 7 (dk_at dksX3_flows_2 4 rfl rfl)
theorem dX3_flows_54 : decode cX3_flows 54 = .ok (.bipush 6, 2) := dk_16 6 (dk_at dksX3_flows_2 6 rfl rfl)
theorem dX3_flows_56 : decode cX3_flows 56 = .ok (.iload 4, 2) := dk_21 4 (dk_at dksX3_flows_2 8 rfl rfl)
theorem dX3_flows_58 : decode cX3_flows 58 = .ok (.imul, 1) := dk_104 (dk_at dksX3_flows_2 10 rfl rfl)
theorem dX3_flows_59 : decode cX3_flows 59 = .ok (.iadd, 1) := dk_96 (dk_at dksX3_flows_2 11 rfl rfl)
theorem dX3_flows_60 : decode cX3_flows 60 = .ok (.iconst 3, 1) := dk_6 (dk_at dksX3_flows_2 12 rfl rfl)
theorem dX3_flows_61 : decode cX3_flows 61 = .ok (.iadd, 1) := dk_96 (dk_at dksX3_flows_2 13 rfl rfl)
theorem dX3_flows_62 : decode cX3_flows 62 = .ok (.iload 5, 2) := dk_21 5 (dk_at dksX3_flows_2 14 rfl rfl)
theorem dX3_flows_64 : decode cX3_flows 64 = .ok (.iadd, 1) := dk_96 (dk_at dksX3_flows_2 16 rfl rfl)
theorem dX3_flows_65 : decode cX3_flows 65 = .ok (.dup2, 1) := dk_92 (dk_at dksX3_flows_2 17 rfl rfl)
theorem dX3_flows_66 : decode cX3_flows 66 = .ok (.iaload, 1) := dk_46 (dk_at dksX3_flows_2 18 rfl rfl)
theorem dX3_flows_67 : decode cX3_flows 67 = .ok (.aload_n 0, 1) := dk_42 (dk_at dksX3_flows_2 19 rfl rfl)
theorem dX3_flows_68 : decode cX3_flows 68 = .ok (.getfield 19, 3) := dk_180 0 19 (dk_at dksX3_flows_2 20 rfl rfl)
theorem dX3_flows_71 : decode cX3_flows 71 = .ok (.iload 5, 2) := dk_21 5 (dk_at dksX3_flows_3 0 rfl rfl)
theorem dX3_flows_73 : decode cX3_flows 73 = .ok (.iaload, 1) := dk_46 (dk_at dksX3_flows_3 2 rfl rfl)
theorem dX3_flows_74 : decode cX3_flows 74 = .ok (.iadd, 1) := dk_96 (dk_at dksX3_flows_3 3 rfl rfl)
theorem dX3_flows_75 : decode cX3_flows 75 = .ok (.iastore, 1) := dk_79 (dk_at dksX3_flows_3 4 rfl rfl)
theorem dX3_flows_76 : decode cX3_flows 76 = .ok (.iinc 5 1, 3) := dk_132 5 1 (dk_at dksX3_flows_3 5 rfl rfl)
theorem dX3_flows_79 : decode cX3_flows 79 = .ok (.goto (-37), 3) := dk_167 255 219 (dk_at dksX3_flows_3 8 rfl rfl)
theorem dX3_flows_82 : decode cX3_flows 82 = .ok (.return_, 1) := dk_177 (dk_at dksX3_flows_3 11 rfl rfl)
abbrev cX3_drains : ByteArray := prog_22_method_35_code
def yX3_drains : MethodName := ⟨RX3, "drains", "(II)V"⟩
def dkwX3_drains_6 : List UInt8 := [6, 96, 21, 5, 96, 92, 46, 42, 180, 0, 19, 21, 5, 46, 100, 79, 132, 5, 1, 167, 255, 166, 177]
abbrev dktX3_drains_6 : List UInt8 := dkwX3_drains_6 ++ []
def dkwX3_drains_5 : List UInt8 := [92, 46, 21, 7, 96, 79, 21, 4, 21, 7, 100, 54, 4, 42, 180, 0, 9, 16, 7, 16, 6, 27, 104, 96]
abbrev dktX3_drains_5 : List UInt8 := dkwX3_drains_5 ++ dktX3_drains_6
def dkwX3_drains_4 : List UInt8 := [54, 6, 21, 4, 21, 6, 162, 0, 8, 21, 4, 167, 0, 5, 21, 6, 54, 7, 42, 180, 0, 19, 21, 5]
abbrev dktX3_drains_4 : List UInt8 := dkwX3_drains_4 ++ dktX3_drains_5
def dkwX3_drains_3 : List UInt8 := [21, 5, 6, 162, 0, 90, 42, 27, 6, 21, 5, 96, 182, 0, 92, 42, 180, 0, 19, 21, 5, 46, 100]
abbrev dktX3_drains_3 : List UInt8 := dkwX3_drains_3 ++ dktX3_drains_4
def dkwX3_drains_2 : List UInt8 := [136, 79, 21, 4, 42, 180, 0, 19, 21, 5, 46, 100, 54, 4, 132, 5, 1, 167, 255, 203, 3, 54, 5]
abbrev dktX3_drains_2 : List UInt8 := dkwX3_drains_2 ++ dktX3_drains_3
def dkwX3_drains_1 : List UInt8 := [29, 154, 0, 7, 3, 167, 0, 20, 42, 27, 6, 21, 5, 96, 182, 0, 92, 133, 28, 133, 105, 29, 133, 109]
abbrev dktX3_drains_1 : List UInt8 := dkwX3_drains_1 ++ dktX3_drains_2
def dkwX3_drains_0 : List UInt8 := [42, 27, 182, 0, 96, 62, 28, 54, 4, 3, 54, 5, 21, 5, 6, 162, 0, 53, 42, 180, 0, 19, 21, 5]
abbrev dktX3_drains_0 : List UInt8 := dkwX3_drains_0 ++ dktX3_drains_1
theorem dksX3_drains_0 : cX3_drains.data.toList.drop 0 = dktX3_drains_0 := by decide +kernel
theorem dksX3_drains_1 : cX3_drains.data.toList.drop 24 = dktX3_drains_1 := dk_seg dksX3_drains_0 24 rfl rfl
theorem dksX3_drains_2 : cX3_drains.data.toList.drop 48 = dktX3_drains_2 := dk_seg dksX3_drains_1 24 rfl rfl
theorem dksX3_drains_3 : cX3_drains.data.toList.drop 71 = dktX3_drains_3 := dk_seg dksX3_drains_2 23 rfl rfl
theorem dksX3_drains_4 : cX3_drains.data.toList.drop 94 = dktX3_drains_4 := dk_seg dksX3_drains_3 23 rfl rfl
theorem dksX3_drains_5 : cX3_drains.data.toList.drop 118 = dktX3_drains_5 := dk_seg dksX3_drains_4 24 rfl rfl
theorem dksX3_drains_6 : cX3_drains.data.toList.drop 142 = dktX3_drains_6 := dk_seg dksX3_drains_5 24 rfl rfl
theorem dX3_drains_0 : decode cX3_drains 0 = .ok (.aload_n 0, 1) := dk_42 (dk_at dksX3_drains_0 0 rfl rfl)
theorem dX3_drains_1 : decode cX3_drains 1 = .ok (.iload_n 1, 1) := dk_27 (dk_at dksX3_drains_0 1 rfl rfl)
theorem dX3_drains_2 : decode cX3_drains 2 = .ok (.invokevirtual 96, 3) := dk_182 0 96 (dk_at dksX3_drains_0 2 rfl rfl)
theorem dX3_drains_5 : decode cX3_drains 5 = .ok (.istore_n 3, 1) := dk_62 (dk_at dksX3_drains_0 5 rfl rfl)
theorem dX3_drains_6 : decode cX3_drains 6 = .ok (.iload_n 2, 1) := dk_28 (dk_at dksX3_drains_0 6 rfl rfl)
theorem dX3_drains_7 : decode cX3_drains 7 = .ok (.istore 4, 2) := dk_54 4 (dk_at dksX3_drains_0 7 rfl rfl)
theorem dX3_drains_9 : decode cX3_drains 9 = .ok (.iconst 0, 1) := dk_3 (dk_at dksX3_drains_0 9 rfl rfl)
theorem dX3_drains_10 : decode cX3_drains 10 = .ok (.istore 5, 2) := dk_54 5 (dk_at dksX3_drains_0 10 rfl rfl)
theorem dX3_drains_12 : decode cX3_drains 12 = .ok (.iload 5, 2) := dk_21 5 (dk_at dksX3_drains_0 12 rfl rfl)
theorem dX3_drains_14 : decode cX3_drains 14 = .ok (.iconst 3, 1) := dk_6 (dk_at dksX3_drains_0 14 rfl rfl)
theorem dX3_drains_15 : decode cX3_drains 15 = .ok (.if_icmp .ge 53, 3) := dk_162 0 53 (dk_at dksX3_drains_0 15 rfl rfl)
theorem dX3_drains_18 : decode cX3_drains 18 = .ok (.aload_n 0, 1) := dk_42 (dk_at dksX3_drains_0 18 rfl rfl)
theorem dX3_drains_19 : decode cX3_drains 19 = .ok (.getfield 19, 3) := dk_180 0 19 (dk_at dksX3_drains_0 19 rfl rfl)
theorem dX3_drains_22 : decode cX3_drains 22 = .ok (.iload 5, 2) := dk_21 5 (dk_at dksX3_drains_0 22 rfl rfl)
theorem dX3_drains_24 : decode cX3_drains 24 = .ok (.iload_n 3, 1) := dk_29 (dk_at dksX3_drains_1 0 rfl rfl)
theorem dX3_drains_25 : decode cX3_drains 25 = .ok (.ifCond .ne 7, 3) := dk_154 0 7 (dk_at dksX3_drains_1 1 rfl rfl)
theorem dX3_drains_28 : decode cX3_drains 28 = .ok (.iconst 0, 1) := dk_3 (dk_at dksX3_drains_1 4 rfl rfl)
theorem dX3_drains_29 : decode cX3_drains 29 = .ok (.goto 20, 3) := dk_167 0 20 (dk_at dksX3_drains_1 5 rfl rfl)
theorem dX3_drains_32 : decode cX3_drains 32 = .ok (.aload_n 0, 1) := dk_42 (dk_at dksX3_drains_1 8 rfl rfl)
theorem dX3_drains_33 : decode cX3_drains 33 = .ok (.iload_n 1, 1) := dk_27 (dk_at dksX3_drains_1 9 rfl rfl)
theorem dX3_drains_34 : decode cX3_drains 34 = .ok (.iconst 3, 1) := dk_6 (dk_at dksX3_drains_1 10 rfl rfl)
theorem dX3_drains_35 : decode cX3_drains 35 = .ok (.iload 5, 2) := dk_21 5 (dk_at dksX3_drains_1 11 rfl rfl)
theorem dX3_drains_37 : decode cX3_drains 37 = .ok (.iadd, 1) := dk_96 (dk_at dksX3_drains_1 13 rfl rfl)
theorem dX3_drains_38 : decode cX3_drains 38 = .ok (.invokevirtual 92, 3) := dk_182 0 92 (dk_at dksX3_drains_1 14 rfl rfl)
theorem dX3_drains_41 : decode cX3_drains 41 = .ok (.i2l, 1) := dk_133 (dk_at dksX3_drains_1 17 rfl rfl)
theorem dX3_drains_42 : decode cX3_drains 42 = .ok (.iload_n 2, 1) := dk_28 (dk_at dksX3_drains_1 18 rfl rfl)
theorem dX3_drains_43 : decode cX3_drains 43 = .ok (.i2l, 1) := dk_133 (dk_at dksX3_drains_1 19 rfl rfl)
theorem dX3_drains_44 : decode cX3_drains 44 = .ok (.lmul, 1) := dk_105 (dk_at dksX3_drains_1 20 rfl rfl)
theorem dX3_drains_45 : decode cX3_drains 45 = .ok (.iload_n 3, 1) := dk_29 (dk_at dksX3_drains_1 21 rfl rfl)
theorem dX3_drains_46 : decode cX3_drains 46 = .ok (.i2l, 1) := dk_133 (dk_at dksX3_drains_1 22 rfl rfl)
theorem dX3_drains_47 : decode cX3_drains 47 = .ok (.ldiv, 1) := dk_109 (dk_at dksX3_drains_1 23 rfl rfl)
theorem dX3_drains_48 : decode cX3_drains 48 = .ok (.l2i, 1) := dk_136 (dk_at dksX3_drains_2 0 rfl rfl)
theorem dX3_drains_49 : decode cX3_drains 49 = .ok (.iastore, 1) := dk_79 (dk_at dksX3_drains_2 1 rfl rfl)
theorem dX3_drains_50 : decode cX3_drains 50 = .ok (.iload 4, 2) := dk_21 4 (dk_at dksX3_drains_2 2 rfl rfl)
theorem dX3_drains_52 : decode cX3_drains 52 = .ok (.aload_n 0, 1) := dk_42 (dk_at dksX3_drains_2 4 rfl rfl)
theorem dX3_drains_53 : decode cX3_drains 53 = .ok (.getfield 19, 3) := dk_180 0 19 (dk_at dksX3_drains_2 5 rfl rfl)
theorem dX3_drains_56 : decode cX3_drains 56 = .ok (.iload 5, 2) := dk_21 5 (dk_at dksX3_drains_2 8 rfl rfl)
theorem dX3_drains_58 : decode cX3_drains 58 = .ok (.iaload, 1) := dk_46 (dk_at dksX3_drains_2 10 rfl rfl)
theorem dX3_drains_59 : decode cX3_drains 59 = .ok (.isub, 1) := dk_100 (dk_at dksX3_drains_2 11 rfl rfl)
theorem dX3_drains_60 : decode cX3_drains 60 = .ok (.istore 4, 2) := dk_54 4 (dk_at dksX3_drains_2 12 rfl rfl)
theorem dX3_drains_62 : decode cX3_drains 62 = .ok (.iinc 5 1, 3) := dk_132 5 1 (dk_at dksX3_drains_2 14 rfl rfl)
theorem dX3_drains_65 : decode cX3_drains 65 = .ok (.goto (-53), 3) := dk_167 255 203 (dk_at dksX3_drains_2 17 rfl rfl)
theorem dX3_drains_68 : decode cX3_drains 68 = .ok (.iconst 0, 1) := dk_3 (dk_at dksX3_drains_2 20 rfl rfl)
theorem dX3_drains_69 : decode cX3_drains 69 = .ok (.istore 5, 2) := dk_54 5 (dk_at dksX3_drains_2 21 rfl rfl)
theorem dX3_drains_71 : decode cX3_drains 71 = .ok (.iload 5, 2) := dk_21 5 (dk_at dksX3_drains_3 0 rfl rfl)
theorem dX3_drains_73 : decode cX3_drains 73 = .ok (.iconst 3, 1) := dk_6 (dk_at dksX3_drains_3 2 rfl rfl)
theorem dX3_drains_74 : decode cX3_drains 74 = .ok (.if_icmp .ge 90, 3) := dk_162 0 90 (dk_at dksX3_drains_3 3 rfl rfl)
theorem dX3_drains_77 : decode cX3_drains 77 = .ok (.aload_n 0, 1) := dk_42 (dk_at dksX3_drains_3 6 rfl rfl)
theorem dX3_drains_78 : decode cX3_drains 78 = .ok (.iload_n 1, 1) := dk_27 (dk_at dksX3_drains_3 7 rfl rfl)
theorem dX3_drains_79 : decode cX3_drains 79 = .ok (.iconst 3, 1) := dk_6 (dk_at dksX3_drains_3 8 rfl rfl)
theorem dX3_drains_80 : decode cX3_drains 80 = .ok (.iload 5, 2) := dk_21 5 (dk_at dksX3_drains_3 9 rfl rfl)
theorem dX3_drains_82 : decode cX3_drains 82 = .ok (.iadd, 1) := dk_96 (dk_at dksX3_drains_3 11 rfl rfl)
theorem dX3_drains_83 : decode cX3_drains 83 = .ok (.invokevirtual 92, 3) := dk_182 0 92 (dk_at dksX3_drains_3 12 rfl rfl)
theorem dX3_drains_86 : decode cX3_drains 86 = .ok (.aload_n 0, 1) := dk_42 (dk_at dksX3_drains_3 15 rfl rfl)
theorem dX3_drains_87 : decode cX3_drains 87 = .ok (.getfield 19, 3) := dk_180 0 19 (dk_at dksX3_drains_3 16 rfl rfl)
theorem dX3_drains_90 : decode cX3_drains 90 = .ok (.iload 5, 2) := dk_21 5 (dk_at dksX3_drains_3 19 rfl rfl)
theorem dX3_drains_92 : decode cX3_drains 92 = .ok (.iaload, 1) := dk_46 (dk_at dksX3_drains_3 21 rfl rfl)
theorem dX3_drains_93 : decode cX3_drains 93 = .ok (.isub, 1) := dk_100 (dk_at dksX3_drains_3 22 rfl rfl)
theorem dX3_drains_94 : decode cX3_drains 94 = .ok (.istore 6, 2) := dk_54 6 (dk_at dksX3_drains_4 0 rfl rfl)
theorem dX3_drains_96 : decode cX3_drains 96 = .ok (.iload 4, 2) := dk_21 4 (dk_at dksX3_drains_4 2 rfl rfl)
theorem dX3_drains_98 : decode cX3_drains 98 = .ok (.iload 6, 2) := dk_21 6 (dk_at dksX3_drains_4 4 rfl rfl)
theorem dX3_drains_100 : decode cX3_drains 100 = .ok (.if_icmp .ge 8, 3) := dk_162 0 8 (dk_at dksX3_drains_4 6 rfl rfl)
theorem dX3_drains_103 : decode cX3_drains 103 = .ok (.iload 4, 2) := dk_21 4 (dk_at dksX3_drains_4 9 rfl rfl)
theorem dX3_drains_105 : decode cX3_drains 105 = .ok (.goto 5, 3) := dk_167 0 5 (dk_at dksX3_drains_4 11 rfl rfl)
theorem dX3_drains_108 : decode cX3_drains 108 = .ok (.iload 6, 2) := dk_21 6 (dk_at dksX3_drains_4 14 rfl rfl)
theorem dX3_drains_110 : decode cX3_drains 110 = .ok (.istore 7, 2) := dk_54 7 (dk_at dksX3_drains_4 16 rfl rfl)
theorem dX3_drains_112 : decode cX3_drains 112 = .ok (.aload_n 0, 1) := dk_42 (dk_at dksX3_drains_4 18 rfl rfl)
theorem dX3_drains_113 : decode cX3_drains 113 = .ok (.getfield 19, 3) := dk_180 0 19 (dk_at dksX3_drains_4 19 rfl rfl)
theorem dX3_drains_116 : decode cX3_drains 116 = .ok (.iload 5, 2) := dk_21 5 (dk_at dksX3_drains_4 22 rfl rfl)
theorem dX3_drains_118 : decode cX3_drains 118 = .ok (.dup2, 1) := dk_92 (dk_at dksX3_drains_5 0 rfl rfl)
theorem dX3_drains_119 : decode cX3_drains 119 = .ok (.iaload, 1) := dk_46 (dk_at dksX3_drains_5 1 rfl rfl)
theorem dX3_drains_120 : decode cX3_drains 120 = .ok (.iload 7, 2) := dk_21 7 (dk_at dksX3_drains_5 2 rfl rfl)
theorem dX3_drains_122 : decode cX3_drains 122 = .ok (.iadd, 1) := dk_96 (dk_at dksX3_drains_5 4 rfl rfl)
theorem dX3_drains_123 : decode cX3_drains 123 = .ok (.iastore, 1) := dk_79 (dk_at dksX3_drains_5 5 rfl rfl)
theorem dX3_drains_124 : decode cX3_drains 124 = .ok (.iload 4, 2) := dk_21 4 (dk_at dksX3_drains_5 6 rfl rfl)
theorem dX3_drains_126 : decode cX3_drains 126 = .ok (.iload 7, 2) := dk_21 7 (dk_at dksX3_drains_5 8 rfl rfl)
theorem dX3_drains_128 : decode cX3_drains 128 = .ok (.isub, 1) := dk_100 (dk_at dksX3_drains_5 10 rfl rfl)
theorem dX3_drains_129 : decode cX3_drains 129 = .ok (.istore 4, 2) := dk_54 4 (dk_at dksX3_drains_5 11 rfl rfl)
theorem dX3_drains_131 : decode cX3_drains 131 = .ok (.aload_n 0, 1) := dk_42 (dk_at dksX3_drains_5 13 rfl rfl)
theorem dX3_drains_132 : decode cX3_drains 132 = .ok (.getfield 9, 3) := dk_180 0 9 (dk_at dksX3_drains_5 14 rfl rfl)
theorem dX3_drains_135 : decode cX3_drains 135 = .ok (.bipush 7, 2) := dk_16 7 (dk_at dksX3_drains_5 17 rfl rfl)
theorem dX3_drains_137 : decode cX3_drains 137 = .ok (.bipush 6, 2) := dk_16 6 (dk_at dksX3_drains_5 19 rfl rfl)
theorem dX3_drains_139 : decode cX3_drains 139 = .ok (.iload_n 1, 1) := dk_27 (dk_at dksX3_drains_5 21 rfl rfl)
theorem dX3_drains_140 : decode cX3_drains 140 = .ok (.imul, 1) := dk_104 (dk_at dksX3_drains_5 22 rfl rfl)
theorem dX3_drains_141 : decode cX3_drains 141 = .ok (.iadd, 1) := dk_96 (dk_at dksX3_drains_5 23 rfl rfl)
theorem dX3_drains_142 : decode cX3_drains 142 = .ok (.iconst 3, 1) := dk_6 (dk_at dksX3_drains_6 0 rfl rfl)
theorem dX3_drains_143 : decode cX3_drains 143 = .ok (.iadd, 1) := dk_96 (dk_at dksX3_drains_6 1 rfl rfl)
theorem dX3_drains_144 : decode cX3_drains 144 = .ok (.iload 5, 2) := dk_21 5 (dk_at dksX3_drains_6 2 rfl rfl)
theorem dX3_drains_146 : decode cX3_drains 146 = .ok (.iadd, 1) := dk_96 (dk_at dksX3_drains_6 4 rfl rfl)
theorem dX3_drains_147 : decode cX3_drains 147 = .ok (.dup2, 1) := dk_92 (dk_at dksX3_drains_6 5 rfl rfl)
theorem dX3_drains_148 : decode cX3_drains 148 = .ok (.iaload, 1) := dk_46 (dk_at dksX3_drains_6 6 rfl rfl)
theorem dX3_drains_149 : decode cX3_drains 149 = .ok (.aload_n 0, 1) := dk_42 (dk_at dksX3_drains_6 7 rfl rfl)
theorem dX3_drains_150 : decode cX3_drains 150 = .ok (.getfield 19, 3) := dk_180 0 19 (dk_at dksX3_drains_6 8 rfl rfl)
theorem dX3_drains_153 : decode cX3_drains 153 = .ok (.iload 5, 2) := dk_21 5 (dk_at dksX3_drains_6 11 rfl rfl)
theorem dX3_drains_155 : decode cX3_drains 155 = .ok (.iaload, 1) := dk_46 (dk_at dksX3_drains_6 13 rfl rfl)
theorem dX3_drains_156 : decode cX3_drains 156 = .ok (.isub, 1) := dk_100 (dk_at dksX3_drains_6 14 rfl rfl)
theorem dX3_drains_157 : decode cX3_drains 157 = .ok (.iastore, 1) := dk_79 (dk_at dksX3_drains_6 15 rfl rfl)
theorem dX3_drains_158 : decode cX3_drains 158 = .ok (.iinc 5 1, 3) := dk_132 5 1 (dk_at dksX3_drains_6 16 rfl rfl)
theorem dX3_drains_161 : decode cX3_drains 161 = .ok (.goto (-90), 3) := dk_167 255 166 (dk_at dksX3_drains_6 19 rfl rfl)
theorem dX3_drains_164 : decode cX3_drains 164 = .ok (.return_, 1) := dk_177 (dk_at dksX3_drains_6 22 rfl rfl)
abbrev cX3_spills : ByteArray := prog_22_method_37_code
def yX3_spills : MethodName := ⟨RX3, "spills", "(II)V"⟩
def dkwX3_spills_0 : List UInt8 := [42, 27, 28, 182, 0, 157, 42, 180, 0, 9, 8, 92, 46, 28, 96, 79, 177]
abbrev dktX3_spills_0 : List UInt8 := dkwX3_spills_0 ++ []
theorem dksX3_spills_0 : cX3_spills.data.toList.drop 0 = dktX3_spills_0 := by decide +kernel
theorem dX3_spills_0 : decode cX3_spills 0 = .ok (.aload_n 0, 1) := dk_42 (dk_at dksX3_spills_0 0 rfl rfl)
theorem dX3_spills_1 : decode cX3_spills 1 = .ok (.iload_n 1, 1) := dk_27 (dk_at dksX3_spills_0 1 rfl rfl)
theorem dX3_spills_2 : decode cX3_spills 2 = .ok (.iload_n 2, 1) := dk_28 (dk_at dksX3_spills_0 2 rfl rfl)
theorem dX3_spills_3 : decode cX3_spills 3 = .ok (.invokevirtual 157, 3) := dk_182 0 157 (dk_at dksX3_spills_0 3 rfl rfl)
theorem dX3_spills_6 : decode cX3_spills 6 = .ok (.aload_n 0, 1) := dk_42 (dk_at dksX3_spills_0 6 rfl rfl)
theorem dX3_spills_7 : decode cX3_spills 7 = .ok (.getfield 9, 3) := dk_180 0 9 (dk_at dksX3_spills_0 7 rfl rfl)
theorem dX3_spills_10 : decode cX3_spills 10 = .ok (.iconst 5, 1) := dk_8 (dk_at dksX3_spills_0 10 rfl rfl)
theorem dX3_spills_11 : decode cX3_spills 11 = .ok (.dup2, 1) := dk_92 (dk_at dksX3_spills_0 11 rfl rfl)
theorem dX3_spills_12 : decode cX3_spills 12 = .ok (.iaload, 1) := dk_46 (dk_at dksX3_spills_0 12 rfl rfl)
theorem dX3_spills_13 : decode cX3_spills 13 = .ok (.iload_n 2, 1) := dk_28 (dk_at dksX3_spills_0 13 rfl rfl)
theorem dX3_spills_14 : decode cX3_spills 14 = .ok (.iadd, 1) := dk_96 (dk_at dksX3_spills_0 14 rfl rfl)
theorem dX3_spills_15 : decode cX3_spills 15 = .ok (.iastore, 1) := dk_79 (dk_at dksX3_spills_0 15 rfl rfl)
theorem dX3_spills_16 : decode cX3_spills 16 = .ok (.return_, 1) := dk_177 (dk_at dksX3_spills_0 16 rfl rfl)
abbrev cX3_town : ByteArray := prog_22_method_43_code
def yX3_town : MethodName := ⟨RX3, "town", "(I)I"⟩
def dkwX3_town_4 : List UInt8 := [128, 61, 132, 3, 1, 167, 255, 225, 28, 172, 18, 86, 172]
abbrev dktX3_town_4 : List UInt8 := dkwX3_town_4 ++ []
def dkwX3_town_3 : List UInt8 := [180, 0, 9, 4, 46, 162, 0, 27, 28, 42, 29, 182, 0, 96, 158, 0, 9, 4, 29, 120, 167, 0, 4, 3]
abbrev dktX3_town_3 : List UInt8 := dkwX3_town_3 ++ dktX3_town_4
def dkwX3_town_2 : List UInt8 := [42, 182, 0, 174, 172, 42, 180, 0, 9, 8, 46, 172, 42, 182, 0, 177, 172, 3, 61, 3, 62, 29, 42]
abbrev dktX3_town_2 : List UInt8 := dkwX3_town_2 ++ dktX3_town_3
def dkwX3_town_1 : List UInt8 := [170, 0, 0, 0, 0, 0, 88, 0, 0, 0, 0, 0, 0, 0, 3, 0, 0, 0, 31, 0, 0, 0, 36, 0, 0, 0, 43, 0, 0, 0, 48]
abbrev dktX3_town_1 : List UInt8 := dkwX3_town_1 ++ dktX3_town_2
def dkwX3_town_0 : List UInt8 := [27]
abbrev dktX3_town_0 : List UInt8 := dkwX3_town_0 ++ dktX3_town_1
theorem dksX3_town_0 : cX3_town.data.toList.drop 0 = dktX3_town_0 := by decide +kernel
theorem dksX3_town_1 : cX3_town.data.toList.drop 1 = dktX3_town_1 := dk_seg dksX3_town_0 1 rfl rfl
theorem dksX3_town_2 : cX3_town.data.toList.drop 32 = dktX3_town_2 := dk_seg dksX3_town_1 31 rfl rfl
theorem dksX3_town_3 : cX3_town.data.toList.drop 55 = dktX3_town_3 := dk_seg dksX3_town_2 23 rfl rfl
theorem dksX3_town_4 : cX3_town.data.toList.drop 79 = dktX3_town_4 := dk_seg dksX3_town_3 24 rfl rfl
theorem dX3_town_0 : decode cX3_town 0 = .ok (.iload_n 1, 1) := dk_27 (dk_at dksX3_town_0 0 rfl rfl)
theorem dX3_town_1 : decode cX3_town 1 = .ok (.tableswitch 88 0 3 #[31, 36, 43, 48], 31) := by decide +kernel
theorem dX3_town_32 : decode cX3_town 32 = .ok (.aload_n 0, 1) := dk_42 (dk_at dksX3_town_2 0 rfl rfl)
theorem dX3_town_33 : decode cX3_town 33 = .ok (.invokevirtual 174, 3) := dk_182 0 174 (dk_at dksX3_town_2 1 rfl rfl)
theorem dX3_town_36 : decode cX3_town 36 = .ok (.ireturn, 1) := dk_172 (dk_at dksX3_town_2 4 rfl rfl)
theorem dX3_town_37 : decode cX3_town 37 = .ok (.aload_n 0, 1) := dk_42 (dk_at dksX3_town_2 5 rfl rfl)
theorem dX3_town_38 : decode cX3_town 38 = .ok (.getfield 9, 3) := dk_180 0 9 (dk_at dksX3_town_2 6 rfl rfl)
theorem dX3_town_41 : decode cX3_town 41 = .ok (.iconst 5, 1) := dk_8 (dk_at dksX3_town_2 9 rfl rfl)
theorem dX3_town_42 : decode cX3_town 42 = .ok (.iaload, 1) := dk_46 (dk_at dksX3_town_2 10 rfl rfl)
theorem dX3_town_43 : decode cX3_town 43 = .ok (.ireturn, 1) := dk_172 (dk_at dksX3_town_2 11 rfl rfl)
theorem dX3_town_44 : decode cX3_town 44 = .ok (.aload_n 0, 1) := dk_42 (dk_at dksX3_town_2 12 rfl rfl)
theorem dX3_town_45 : decode cX3_town 45 = .ok (.invokevirtual 177, 3) := dk_182 0 177 (dk_at dksX3_town_2 13 rfl rfl)
theorem dX3_town_48 : decode cX3_town 48 = .ok (.ireturn, 1) := dk_172 (dk_at dksX3_town_2 16 rfl rfl)
theorem dX3_town_49 : decode cX3_town 49 = .ok (.iconst 0, 1) := dk_3 (dk_at dksX3_town_2 17 rfl rfl)
theorem dX3_town_50 : decode cX3_town 50 = .ok (.istore_n 2, 1) := dk_61 (dk_at dksX3_town_2 18 rfl rfl)
theorem dX3_town_51 : decode cX3_town 51 = .ok (.iconst 0, 1) := dk_3 (dk_at dksX3_town_2 19 rfl rfl)
theorem dX3_town_52 : decode cX3_town 52 = .ok (.istore_n 3, 1) := dk_62 (dk_at dksX3_town_2 20 rfl rfl)
theorem dX3_town_53 : decode cX3_town 53 = .ok (.iload_n 3, 1) := dk_29 (dk_at dksX3_town_2 21 rfl rfl)
theorem dX3_town_54 : decode cX3_town 54 = .ok (.aload_n 0, 1) := dk_42 (dk_at dksX3_town_2 22 rfl rfl)
theorem dX3_town_55 : decode cX3_town 55 = .ok (.getfield 9, 3) := dk_180 0 9 (dk_at dksX3_town_3 0 rfl rfl)
theorem dX3_town_58 : decode cX3_town 58 = .ok (.iconst 1, 1) := dk_4 (dk_at dksX3_town_3 3 rfl rfl)
theorem dX3_town_59 : decode cX3_town 59 = .ok (.iaload, 1) := dk_46 (dk_at dksX3_town_3 4 rfl rfl)
theorem dX3_town_60 : decode cX3_town 60 = .ok (.if_icmp .ge 27, 3) := dk_162 0 27 (dk_at dksX3_town_3 5 rfl rfl)
theorem dX3_town_63 : decode cX3_town 63 = .ok (.iload_n 2, 1) := dk_28 (dk_at dksX3_town_3 8 rfl rfl)
theorem dX3_town_64 : decode cX3_town 64 = .ok (.aload_n 0, 1) := dk_42 (dk_at dksX3_town_3 9 rfl rfl)
theorem dX3_town_65 : decode cX3_town 65 = .ok (.iload_n 3, 1) := dk_29 (dk_at dksX3_town_3 10 rfl rfl)
theorem dX3_town_66 : decode cX3_town 66 = .ok (.invokevirtual 96, 3) := dk_182 0 96 (dk_at dksX3_town_3 11 rfl rfl)
theorem dX3_town_69 : decode cX3_town 69 = .ok (.ifCond .le 9, 3) := dk_158 0 9 (dk_at dksX3_town_3 14 rfl rfl)
theorem dX3_town_72 : decode cX3_town 72 = .ok (.iconst 1, 1) := dk_4 (dk_at dksX3_town_3 17 rfl rfl)
theorem dX3_town_73 : decode cX3_town 73 = .ok (.iload_n 3, 1) := dk_29 (dk_at dksX3_town_3 18 rfl rfl)
theorem dX3_town_74 : decode cX3_town 74 = .ok (.ishl, 1) := dk_120 (dk_at dksX3_town_3 19 rfl rfl)
theorem dX3_town_75 : decode cX3_town 75 = .ok (.goto 4, 3) := dk_167 0 4 (dk_at dksX3_town_3 20 rfl rfl)
theorem dX3_town_78 : decode cX3_town 78 = .ok (.iconst 0, 1) := dk_3 (dk_at dksX3_town_3 23 rfl rfl)
theorem dX3_town_79 : decode cX3_town 79 = .ok (.ior, 1) := dk_128 (dk_at dksX3_town_4 0 rfl rfl)
theorem dX3_town_80 : decode cX3_town 80 = .ok (.istore_n 2, 1) := dk_61 (dk_at dksX3_town_4 1 rfl rfl)
theorem dX3_town_81 : decode cX3_town 81 = .ok (.iinc 3 1, 3) := dk_132 3 1 (dk_at dksX3_town_4 2 rfl rfl)
theorem dX3_town_84 : decode cX3_town 84 = .ok (.goto (-31), 3) := dk_167 255 225 (dk_at dksX3_town_4 5 rfl rfl)
theorem dX3_town_87 : decode cX3_town 87 = .ok (.iload_n 2, 1) := dk_28 (dk_at dksX3_town_4 8 rfl rfl)
theorem dX3_town_88 : decode cX3_town 88 = .ok (.ireturn, 1) := dk_172 (dk_at dksX3_town_4 9 rfl rfl)
theorem dX3_town_89 : decode cX3_town 89 = .ok (.ldc 86, 2) := dk_18 86 (dk_at dksX3_town_4 10 rfl rfl)
theorem dX3_town_91 : decode cX3_town 91 = .ok (.ireturn, 1) := dk_172 (dk_at dksX3_town_4 12 rfl rfl)
abbrev cX3_fullOfAll : ByteArray := prog_22_method_41_code
def yX3_fullOfAll : MethodName := ⟨RX3, "fullOfAll", "()I"⟩
def dkwX3_fullOfAll_1 : List UInt8 := [132, 2, 1, 167, 255, 235, 27, 172]
abbrev dktX3_fullOfAll_1 : List UInt8 := dkwX3_fullOfAll_1 ++ []
def dkwX3_fullOfAll_0 : List UInt8 := [3, 60, 3, 61, 28, 42, 180, 0, 9, 4, 46, 162, 0, 17, 27, 42, 28, 182, 0, 96, 96, 60]
abbrev dktX3_fullOfAll_0 : List UInt8 := dkwX3_fullOfAll_0 ++ dktX3_fullOfAll_1
theorem dksX3_fullOfAll_0 : cX3_fullOfAll.data.toList.drop 0 = dktX3_fullOfAll_0 := by decide +kernel
theorem dksX3_fullOfAll_1 : cX3_fullOfAll.data.toList.drop 22 = dktX3_fullOfAll_1 := dk_seg dksX3_fullOfAll_0 22 rfl rfl
theorem dX3_fullOfAll_0 : decode cX3_fullOfAll 0 = .ok (.iconst 0, 1) := dk_3 (dk_at dksX3_fullOfAll_0 0 rfl rfl)
theorem dX3_fullOfAll_1 : decode cX3_fullOfAll 1 = .ok (.istore_n 1, 1) := dk_60 (dk_at dksX3_fullOfAll_0 1 rfl rfl)
theorem dX3_fullOfAll_2 : decode cX3_fullOfAll 2 = .ok (.iconst 0, 1) := dk_3 (dk_at dksX3_fullOfAll_0 2 rfl rfl)
theorem dX3_fullOfAll_3 : decode cX3_fullOfAll 3 = .ok (.istore_n 2, 1) := dk_61 (dk_at dksX3_fullOfAll_0 3 rfl rfl)
theorem dX3_fullOfAll_4 : decode cX3_fullOfAll 4 = .ok (.iload_n 2, 1) := dk_28 (dk_at dksX3_fullOfAll_0 4 rfl rfl)
theorem dX3_fullOfAll_5 : decode cX3_fullOfAll 5 = .ok (.aload_n 0, 1) := dk_42 (dk_at dksX3_fullOfAll_0 5 rfl rfl)
theorem dX3_fullOfAll_6 : decode cX3_fullOfAll 6 = .ok (.getfield 9, 3) := dk_180 0 9 (dk_at dksX3_fullOfAll_0 6 rfl rfl)
theorem dX3_fullOfAll_9 : decode cX3_fullOfAll 9 = .ok (.iconst 1, 1) := dk_4 (dk_at dksX3_fullOfAll_0 9 rfl rfl)
theorem dX3_fullOfAll_10 : decode cX3_fullOfAll 10 = .ok (.iaload, 1) := dk_46 (dk_at dksX3_fullOfAll_0 10 rfl rfl)
theorem dX3_fullOfAll_11 : decode cX3_fullOfAll 11 = .ok (.if_icmp .ge 17, 3) := dk_162 0 17 (dk_at dksX3_fullOfAll_0 11 rfl rfl)
theorem dX3_fullOfAll_14 : decode cX3_fullOfAll 14 = .ok (.iload_n 1, 1) := dk_27 (dk_at dksX3_fullOfAll_0 14 rfl rfl)
theorem dX3_fullOfAll_15 : decode cX3_fullOfAll 15 = .ok (.aload_n 0, 1) := dk_42 (dk_at dksX3_fullOfAll_0 15 rfl rfl)
theorem dX3_fullOfAll_16 : decode cX3_fullOfAll 16 = .ok (.iload_n 2, 1) := dk_28 (dk_at dksX3_fullOfAll_0 16 rfl rfl)
theorem dX3_fullOfAll_17 : decode cX3_fullOfAll 17 = .ok (.invokevirtual 96, 3) := dk_182 0 96 (dk_at dksX3_fullOfAll_0 17 rfl rfl)
theorem dX3_fullOfAll_20 : decode cX3_fullOfAll 20 = .ok (.iadd, 1) := dk_96 (dk_at dksX3_fullOfAll_0 20 rfl rfl)
theorem dX3_fullOfAll_21 : decode cX3_fullOfAll 21 = .ok (.istore_n 1, 1) := dk_60 (dk_at dksX3_fullOfAll_0 21 rfl rfl)
theorem dX3_fullOfAll_22 : decode cX3_fullOfAll 22 = .ok (.iinc 2 1, 3) := dk_132 2 1 (dk_at dksX3_fullOfAll_1 0 rfl rfl)
theorem dX3_fullOfAll_25 : decode cX3_fullOfAll 25 = .ok (.goto (-21), 3) := dk_167 255 235 (dk_at dksX3_fullOfAll_1 3 rfl rfl)
theorem dX3_fullOfAll_28 : decode cX3_fullOfAll 28 = .ok (.iload_n 1, 1) := dk_27 (dk_at dksX3_fullOfAll_1 6 rfl rfl)
theorem dX3_fullOfAll_29 : decode cX3_fullOfAll 29 = .ok (.ireturn, 1) := dk_172 (dk_at dksX3_fullOfAll_1 7 rfl rfl)
abbrev cX3_running : ByteArray := prog_22_method_42_code
def yX3_running : MethodName := ⟨RX3, "running", "()I"⟩
def dkwX3_running_1 : List UInt8 := [167, 0, 4, 3, 96, 60, 132, 2, 1, 167, 255, 227, 27, 172]
abbrev dktX3_running_1 : List UInt8 := dkwX3_running_1 ++ []
def dkwX3_running_0 : List UInt8 := [3, 60, 3, 61, 28, 42, 180, 0, 9, 5, 46, 162, 0, 25, 27, 42, 28, 182, 0, 149, 158, 0, 7, 4]
abbrev dktX3_running_0 : List UInt8 := dkwX3_running_0 ++ dktX3_running_1
theorem dksX3_running_0 : cX3_running.data.toList.drop 0 = dktX3_running_0 := by decide +kernel
theorem dksX3_running_1 : cX3_running.data.toList.drop 24 = dktX3_running_1 := dk_seg dksX3_running_0 24 rfl rfl
theorem dX3_running_0 : decode cX3_running 0 = .ok (.iconst 0, 1) := dk_3 (dk_at dksX3_running_0 0 rfl rfl)
theorem dX3_running_1 : decode cX3_running 1 = .ok (.istore_n 1, 1) := dk_60 (dk_at dksX3_running_0 1 rfl rfl)
theorem dX3_running_2 : decode cX3_running 2 = .ok (.iconst 0, 1) := dk_3 (dk_at dksX3_running_0 2 rfl rfl)
theorem dX3_running_3 : decode cX3_running 3 = .ok (.istore_n 2, 1) := dk_61 (dk_at dksX3_running_0 3 rfl rfl)
theorem dX3_running_4 : decode cX3_running 4 = .ok (.iload_n 2, 1) := dk_28 (dk_at dksX3_running_0 4 rfl rfl)
theorem dX3_running_5 : decode cX3_running 5 = .ok (.aload_n 0, 1) := dk_42 (dk_at dksX3_running_0 5 rfl rfl)
theorem dX3_running_6 : decode cX3_running 6 = .ok (.getfield 9, 3) := dk_180 0 9 (dk_at dksX3_running_0 6 rfl rfl)
theorem dX3_running_9 : decode cX3_running 9 = .ok (.iconst 2, 1) := dk_5 (dk_at dksX3_running_0 9 rfl rfl)
theorem dX3_running_10 : decode cX3_running 10 = .ok (.iaload, 1) := dk_46 (dk_at dksX3_running_0 10 rfl rfl)
theorem dX3_running_11 : decode cX3_running 11 = .ok (.if_icmp .ge 25, 3) := dk_162 0 25 (dk_at dksX3_running_0 11 rfl rfl)
theorem dX3_running_14 : decode cX3_running 14 = .ok (.iload_n 1, 1) := dk_27 (dk_at dksX3_running_0 14 rfl rfl)
theorem dX3_running_15 : decode cX3_running 15 = .ok (.aload_n 0, 1) := dk_42 (dk_at dksX3_running_0 15 rfl rfl)
theorem dX3_running_16 : decode cX3_running 16 = .ok (.iload_n 2, 1) := dk_28 (dk_at dksX3_running_0 16 rfl rfl)
theorem dX3_running_17 : decode cX3_running 17 = .ok (.invokevirtual 149, 3) := dk_182 0 149 (dk_at dksX3_running_0 17 rfl rfl)
theorem dX3_running_20 : decode cX3_running 20 = .ok (.ifCond .le 7, 3) := dk_158 0 7 (dk_at dksX3_running_0 20 rfl rfl)
theorem dX3_running_23 : decode cX3_running 23 = .ok (.iconst 1, 1) := dk_4 (dk_at dksX3_running_0 23 rfl rfl)
theorem dX3_running_24 : decode cX3_running 24 = .ok (.goto 4, 3) := dk_167 0 4 (dk_at dksX3_running_1 0 rfl rfl)
theorem dX3_running_27 : decode cX3_running 27 = .ok (.iconst 0, 1) := dk_3 (dk_at dksX3_running_1 3 rfl rfl)
theorem dX3_running_28 : decode cX3_running 28 = .ok (.iadd, 1) := dk_96 (dk_at dksX3_running_1 4 rfl rfl)
theorem dX3_running_29 : decode cX3_running 29 = .ok (.istore_n 1, 1) := dk_60 (dk_at dksX3_running_1 5 rfl rfl)
theorem dX3_running_30 : decode cX3_running 30 = .ok (.iinc 2 1, 3) := dk_132 2 1 (dk_at dksX3_running_1 6 rfl rfl)
theorem dX3_running_33 : decode cX3_running 33 = .ok (.goto (-29), 3) := dk_167 255 227 (dk_at dksX3_running_1 9 rfl rfl)
theorem dX3_running_36 : decode cX3_running 36 = .ok (.iload_n 1, 1) := dk_27 (dk_at dksX3_running_1 12 rfl rfl)
theorem dX3_running_37 : decode cX3_running 37 = .ok (.ireturn, 1) := dk_172 (dk_at dksX3_running_1 13 rfl rfl)
abbrev cX3_behind : ByteArray := prog_22_method_46_code
def yX3_behind : MethodName := ⟨RX3, "behind", "(II)I"⟩
def dkwX3_behind_3 : List UInt8 := [182, 0, 96, 62, 42, 182, 0, 183, 29, 172]
abbrev dktX3_behind_3 : List UInt8 := dkwX3_behind_3 ++ []
def dkwX3_behind_2 : List UInt8 := [182, 0, 174, 167, 0, 24, 28, 4, 160, 0, 12, 42, 180, 0, 9, 8, 46, 167, 0, 10, 42, 28, 5, 100]
abbrev dktX3_behind_2 : List UInt8 := dkwX3_behind_2 ++ dktX3_behind_3
def dkwX3_behind_1 : List UInt8 := [182, 0, 112, 154, 0, 6, 18, 86, 172, 42, 182, 0, 180, 42, 27, 182, 0, 171, 28, 154, 0, 10, 42]
abbrev dktX3_behind_1 : List UInt8 := dkwX3_behind_1 ++ dktX3_behind_2
def dkwX3_behind_0 : List UInt8 := [27, 3, 16, 100, 184, 0, 82, 153, 0, 22, 28, 155, 0, 18, 28, 4, 164, 0, 16, 42, 28, 5, 100]
abbrev dktX3_behind_0 : List UInt8 := dkwX3_behind_0 ++ dktX3_behind_1
theorem dksX3_behind_0 : cX3_behind.data.toList.drop 0 = dktX3_behind_0 := by decide +kernel
theorem dksX3_behind_1 : cX3_behind.data.toList.drop 23 = dktX3_behind_1 := dk_seg dksX3_behind_0 23 rfl rfl
theorem dksX3_behind_2 : cX3_behind.data.toList.drop 46 = dktX3_behind_2 := dk_seg dksX3_behind_1 23 rfl rfl
theorem dksX3_behind_3 : cX3_behind.data.toList.drop 70 = dktX3_behind_3 := dk_seg dksX3_behind_2 24 rfl rfl
theorem dX3_behind_0 : decode cX3_behind 0 = .ok (.iload_n 1, 1) := dk_27 (dk_at dksX3_behind_0 0 rfl rfl)
theorem dX3_behind_1 : decode cX3_behind 1 = .ok (.iconst 0, 1) := dk_3 (dk_at dksX3_behind_0 1 rfl rfl)
theorem dX3_behind_2 : decode cX3_behind 2 = .ok (.bipush 100, 2) := dk_16 100 (dk_at dksX3_behind_0 2 rfl rfl)
theorem dX3_behind_4 : decode cX3_behind 4 = .ok (.invokestatic 82, 3) := dk_184 0 82 (dk_at dksX3_behind_0 4 rfl rfl)
theorem dX3_behind_7 : decode cX3_behind 7 = .ok (.ifCond .eq 22, 3) := dk_153 0 22 (dk_at dksX3_behind_0 7 rfl rfl)
theorem dX3_behind_10 : decode cX3_behind 10 = .ok (.iload_n 2, 1) := dk_28 (dk_at dksX3_behind_0 10 rfl rfl)
theorem dX3_behind_11 : decode cX3_behind 11 = .ok (.ifCond .lt 18, 3) := dk_155 0 18 (dk_at dksX3_behind_0 11 rfl rfl)
theorem dX3_behind_14 : decode cX3_behind 14 = .ok (.iload_n 2, 1) := dk_28 (dk_at dksX3_behind_0 14 rfl rfl)
theorem dX3_behind_15 : decode cX3_behind 15 = .ok (.iconst 1, 1) := dk_4 (dk_at dksX3_behind_0 15 rfl rfl)
theorem dX3_behind_16 : decode cX3_behind 16 = .ok (.if_icmp .le 16, 3) := dk_164 0 16 (dk_at dksX3_behind_0 16 rfl rfl)
theorem dX3_behind_19 : decode cX3_behind 19 = .ok (.aload_n 0, 1) := dk_42 (dk_at dksX3_behind_0 19 rfl rfl)
theorem dX3_behind_20 : decode cX3_behind 20 = .ok (.iload_n 2, 1) := dk_28 (dk_at dksX3_behind_0 20 rfl rfl)
theorem dX3_behind_21 : decode cX3_behind 21 = .ok (.iconst 2, 1) := dk_5 (dk_at dksX3_behind_0 21 rfl rfl)
theorem dX3_behind_22 : decode cX3_behind 22 = .ok (.isub, 1) := dk_100 (dk_at dksX3_behind_0 22 rfl rfl)
theorem dX3_behind_23 : decode cX3_behind 23 = .ok (.invokevirtual 112, 3) := dk_182 0 112 (dk_at dksX3_behind_1 0 rfl rfl)
theorem dX3_behind_26 : decode cX3_behind 26 = .ok (.ifCond .ne 6, 3) := dk_154 0 6 (dk_at dksX3_behind_1 3 rfl rfl)
theorem dX3_behind_29 : decode cX3_behind 29 = .ok (.ldc 86, 2) := dk_18 86 (dk_at dksX3_behind_1 6 rfl rfl)
theorem dX3_behind_31 : decode cX3_behind 31 = .ok (.ireturn, 1) := dk_172 (dk_at dksX3_behind_1 8 rfl rfl)
theorem dX3_behind_32 : decode cX3_behind 32 = .ok (.aload_n 0, 1) := dk_42 (dk_at dksX3_behind_1 9 rfl rfl)
theorem dX3_behind_33 : decode cX3_behind 33 = .ok (.invokevirtual 180, 3) := dk_182 0 180 (dk_at dksX3_behind_1 10 rfl rfl)
theorem dX3_behind_36 : decode cX3_behind 36 = .ok (.aload_n 0, 1) := dk_42 (dk_at dksX3_behind_1 13 rfl rfl)
theorem dX3_behind_37 : decode cX3_behind 37 = .ok (.iload_n 1, 1) := dk_27 (dk_at dksX3_behind_1 14 rfl rfl)
theorem dX3_behind_38 : decode cX3_behind 38 = .ok (.invokevirtual 171, 3) := dk_182 0 171 (dk_at dksX3_behind_1 15 rfl rfl)
theorem dX3_behind_41 : decode cX3_behind 41 = .ok (.iload_n 2, 1) := dk_28 (dk_at dksX3_behind_1 18 rfl rfl)
theorem dX3_behind_42 : decode cX3_behind 42 = .ok (.ifCond .ne 10, 3) := dk_154 0 10 (dk_at dksX3_behind_1 19 rfl rfl)
theorem dX3_behind_45 : decode cX3_behind 45 = .ok (.aload_n 0, 1) := dk_42 (dk_at dksX3_behind_1 22 rfl rfl)
theorem dX3_behind_46 : decode cX3_behind 46 = .ok (.invokevirtual 174, 3) := dk_182 0 174 (dk_at dksX3_behind_2 0 rfl rfl)
theorem dX3_behind_49 : decode cX3_behind 49 = .ok (.goto 24, 3) := dk_167 0 24 (dk_at dksX3_behind_2 3 rfl rfl)
theorem dX3_behind_52 : decode cX3_behind 52 = .ok (.iload_n 2, 1) := dk_28 (dk_at dksX3_behind_2 6 rfl rfl)
theorem dX3_behind_53 : decode cX3_behind 53 = .ok (.iconst 1, 1) := dk_4 (dk_at dksX3_behind_2 7 rfl rfl)
theorem dX3_behind_54 : decode cX3_behind 54 = .ok (.if_icmp .ne 12, 3) := dk_160 0 12 (dk_at dksX3_behind_2 8 rfl rfl)
theorem dX3_behind_57 : decode cX3_behind 57 = .ok (.aload_n 0, 1) := dk_42 (dk_at dksX3_behind_2 11 rfl rfl)
theorem dX3_behind_58 : decode cX3_behind 58 = .ok (.getfield 9, 3) := dk_180 0 9 (dk_at dksX3_behind_2 12 rfl rfl)
theorem dX3_behind_61 : decode cX3_behind 61 = .ok (.iconst 5, 1) := dk_8 (dk_at dksX3_behind_2 15 rfl rfl)
theorem dX3_behind_62 : decode cX3_behind 62 = .ok (.iaload, 1) := dk_46 (dk_at dksX3_behind_2 16 rfl rfl)
theorem dX3_behind_63 : decode cX3_behind 63 = .ok (.goto 10, 3) := dk_167 0 10 (dk_at dksX3_behind_2 17 rfl rfl)
theorem dX3_behind_66 : decode cX3_behind 66 = .ok (.aload_n 0, 1) := dk_42 (dk_at dksX3_behind_2 20 rfl rfl)
theorem dX3_behind_67 : decode cX3_behind 67 = .ok (.iload_n 2, 1) := dk_28 (dk_at dksX3_behind_2 21 rfl rfl)
theorem dX3_behind_68 : decode cX3_behind 68 = .ok (.iconst 2, 1) := dk_5 (dk_at dksX3_behind_2 22 rfl rfl)
theorem dX3_behind_69 : decode cX3_behind 69 = .ok (.isub, 1) := dk_100 (dk_at dksX3_behind_2 23 rfl rfl)
theorem dX3_behind_70 : decode cX3_behind 70 = .ok (.invokevirtual 96, 3) := dk_182 0 96 (dk_at dksX3_behind_3 0 rfl rfl)
theorem dX3_behind_73 : decode cX3_behind 73 = .ok (.istore_n 3, 1) := dk_62 (dk_at dksX3_behind_3 3 rfl rfl)
theorem dX3_behind_74 : decode cX3_behind 74 = .ok (.aload_n 0, 1) := dk_42 (dk_at dksX3_behind_3 4 rfl rfl)
theorem dX3_behind_75 : decode cX3_behind 75 = .ok (.invokevirtual 183, 3) := dk_182 0 183 (dk_at dksX3_behind_3 5 rfl rfl)
theorem dX3_behind_78 : decode cX3_behind 78 = .ok (.iload_n 3, 1) := dk_29 (dk_at dksX3_behind_3 8 rfl rfl)
theorem dX3_behind_79 : decode cX3_behind 79 = .ok (.ireturn, 1) := dk_172 (dk_at dksX3_behind_3 9 rfl rfl)
abbrev cX3_thinks : ByteArray := prog_22_method_44_code
def yX3_thinks : MethodName := ⟨RX3, "thinks", "()V"⟩
def dkwX3_thinks_1 : List UInt8 := [167, 255, 235, 177]
abbrev dktX3_thinks_1 : List UInt8 := dkwX3_thinks_1 ++ []
def dkwX3_thinks_0 : List UInt8 := [3, 60, 27, 16, 107, 162, 0, 21, 42, 180, 0, 22, 27, 42, 180, 0, 9, 27, 46, 79, 132, 1, 1]
abbrev dktX3_thinks_0 : List UInt8 := dkwX3_thinks_0 ++ dktX3_thinks_1
theorem dksX3_thinks_0 : cX3_thinks.data.toList.drop 0 = dktX3_thinks_0 := by decide +kernel
theorem dksX3_thinks_1 : cX3_thinks.data.toList.drop 23 = dktX3_thinks_1 := dk_seg dksX3_thinks_0 23 rfl rfl
theorem dX3_thinks_0 : decode cX3_thinks 0 = .ok (.iconst 0, 1) := dk_3 (dk_at dksX3_thinks_0 0 rfl rfl)
theorem dX3_thinks_1 : decode cX3_thinks 1 = .ok (.istore_n 1, 1) := dk_60 (dk_at dksX3_thinks_0 1 rfl rfl)
theorem dX3_thinks_2 : decode cX3_thinks 2 = .ok (.iload_n 1, 1) := dk_27 (dk_at dksX3_thinks_0 2 rfl rfl)
theorem dX3_thinks_3 : decode cX3_thinks 3 = .ok (.bipush 107, 2) := dk_16 107 (dk_at dksX3_thinks_0 3 rfl rfl)
theorem dX3_thinks_5 : decode cX3_thinks 5 = .ok (.if_icmp .ge 21, 3) := dk_162 0 21 (dk_at dksX3_thinks_0 5 rfl rfl)
theorem dX3_thinks_8 : decode cX3_thinks 8 = .ok (.aload_n 0, 1) := dk_42 (dk_at dksX3_thinks_0 8 rfl rfl)
theorem dX3_thinks_9 : decode cX3_thinks 9 = .ok (.getfield 22, 3) := dk_180 0 22 (dk_at dksX3_thinks_0 9 rfl rfl)
theorem dX3_thinks_12 : decode cX3_thinks 12 = .ok (.iload_n 1, 1) := dk_27 (dk_at dksX3_thinks_0 12 rfl rfl)
theorem dX3_thinks_13 : decode cX3_thinks 13 = .ok (.aload_n 0, 1) := dk_42 (dk_at dksX3_thinks_0 13 rfl rfl)
theorem dX3_thinks_14 : decode cX3_thinks 14 = .ok (.getfield 9, 3) := dk_180 0 9 (dk_at dksX3_thinks_0 14 rfl rfl)
theorem dX3_thinks_17 : decode cX3_thinks 17 = .ok (.iload_n 1, 1) := dk_27 (dk_at dksX3_thinks_0 17 rfl rfl)
theorem dX3_thinks_18 : decode cX3_thinks 18 = .ok (.iaload, 1) := dk_46 (dk_at dksX3_thinks_0 18 rfl rfl)
theorem dX3_thinks_19 : decode cX3_thinks 19 = .ok (.iastore, 1) := dk_79 (dk_at dksX3_thinks_0 19 rfl rfl)
theorem dX3_thinks_20 : decode cX3_thinks 20 = .ok (.iinc 1 1, 3) := dk_132 1 1 (dk_at dksX3_thinks_0 20 rfl rfl)
theorem dX3_thinks_23 : decode cX3_thinks 23 = .ok (.goto (-21), 3) := dk_167 255 235 (dk_at dksX3_thinks_1 0 rfl rfl)
theorem dX3_thinks_26 : decode cX3_thinks 26 = .ok (.return_, 1) := dk_177 (dk_at dksX3_thinks_1 3 rfl rfl)
abbrev cX3_putsBack : ByteArray := prog_22_method_45_code
def yX3_putsBack : MethodName := ⟨RX3, "putsBack", "()V"⟩
def dkwX3_putsBack_1 : List UInt8 := [167, 255, 235, 177]
abbrev dktX3_putsBack_1 : List UInt8 := dkwX3_putsBack_1 ++ []
def dkwX3_putsBack_0 : List UInt8 := [3, 60, 27, 16, 107, 162, 0, 21, 42, 180, 0, 9, 27, 42, 180, 0, 22, 27, 46, 79, 132, 1, 1]
abbrev dktX3_putsBack_0 : List UInt8 := dkwX3_putsBack_0 ++ dktX3_putsBack_1
theorem dksX3_putsBack_0 : cX3_putsBack.data.toList.drop 0 = dktX3_putsBack_0 := by decide +kernel
theorem dksX3_putsBack_1 : cX3_putsBack.data.toList.drop 23 = dktX3_putsBack_1 := dk_seg dksX3_putsBack_0 23 rfl rfl
theorem dX3_putsBack_0 : decode cX3_putsBack 0 = .ok (.iconst 0, 1) := dk_3 (dk_at dksX3_putsBack_0 0 rfl rfl)
theorem dX3_putsBack_1 : decode cX3_putsBack 1 = .ok (.istore_n 1, 1) := dk_60 (dk_at dksX3_putsBack_0 1 rfl rfl)
theorem dX3_putsBack_2 : decode cX3_putsBack 2 = .ok (.iload_n 1, 1) := dk_27 (dk_at dksX3_putsBack_0 2 rfl rfl)
theorem dX3_putsBack_3 : decode cX3_putsBack 3 = .ok (.bipush 107, 2) := dk_16 107 (dk_at dksX3_putsBack_0 3 rfl rfl)
theorem dX3_putsBack_5 : decode cX3_putsBack 5 = .ok (.if_icmp .ge 21, 3) := dk_162 0 21 (dk_at dksX3_putsBack_0 5 rfl rfl)
theorem dX3_putsBack_8 : decode cX3_putsBack 8 = .ok (.aload_n 0, 1) := dk_42 (dk_at dksX3_putsBack_0 8 rfl rfl)
theorem dX3_putsBack_9 : decode cX3_putsBack 9 = .ok (.getfield 9, 3) := dk_180 0 9 (dk_at dksX3_putsBack_0 9 rfl rfl)
theorem dX3_putsBack_12 : decode cX3_putsBack 12 = .ok (.iload_n 1, 1) := dk_27 (dk_at dksX3_putsBack_0 12 rfl rfl)
theorem dX3_putsBack_13 : decode cX3_putsBack 13 = .ok (.aload_n 0, 1) := dk_42 (dk_at dksX3_putsBack_0 13 rfl rfl)
theorem dX3_putsBack_14 : decode cX3_putsBack 14 = .ok (.getfield 22, 3) := dk_180 0 22 (dk_at dksX3_putsBack_0 14 rfl rfl)
theorem dX3_putsBack_17 : decode cX3_putsBack 17 = .ok (.iload_n 1, 1) := dk_27 (dk_at dksX3_putsBack_0 17 rfl rfl)
theorem dX3_putsBack_18 : decode cX3_putsBack 18 = .ok (.iaload, 1) := dk_46 (dk_at dksX3_putsBack_0 18 rfl rfl)
theorem dX3_putsBack_19 : decode cX3_putsBack 19 = .ok (.iastore, 1) := dk_79 (dk_at dksX3_putsBack_0 19 rfl rfl)
theorem dX3_putsBack_20 : decode cX3_putsBack 20 = .ok (.iinc 1 1, 3) := dk_132 1 1 (dk_at dksX3_putsBack_0 20 rfl rfl)
theorem dX3_putsBack_23 : decode cX3_putsBack 23 = .ok (.goto (-21), 3) := dk_167 255 235 (dk_at dksX3_putsBack_1 0 rfl rfl)
theorem dX3_putsBack_26 : decode cX3_putsBack 26 = .ok (.return_, 1) := dk_177 (dk_at dksX3_putsBack_1 3 rfl rfl)
abbrev cX3_taste : ByteArray := prog_22_method_47_code
def yX3_taste : MethodName := ⟨RX3, "taste", "(III)I"⟩
def dkwX3_taste_2 : List UInt8 := [54, 4, 42, 182, 0, 183, 21, 4, 172]
abbrev dktX3_taste_2 : List UInt8 := dkwX3_taste_2 ++ []
def dkwX3_taste_1 : List UInt8 := [154, 0, 6, 18, 86, 172, 42, 182, 0, 180, 42, 29, 182, 0, 171, 42, 27, 6, 28, 96, 182, 0, 92]
abbrev dktX3_taste_1 : List UInt8 := dkwX3_taste_1 ++ dktX3_taste_2
def dkwX3_taste_0 : List UInt8 := [42, 27, 182, 0, 112, 153, 0, 22, 28, 3, 5, 184, 0, 82, 153, 0, 13, 29, 3, 16, 100, 184, 0, 82]
abbrev dktX3_taste_0 : List UInt8 := dkwX3_taste_0 ++ dktX3_taste_1
theorem dksX3_taste_0 : cX3_taste.data.toList.drop 0 = dktX3_taste_0 := by decide +kernel
theorem dksX3_taste_1 : cX3_taste.data.toList.drop 24 = dktX3_taste_1 := dk_seg dksX3_taste_0 24 rfl rfl
theorem dksX3_taste_2 : cX3_taste.data.toList.drop 47 = dktX3_taste_2 := dk_seg dksX3_taste_1 23 rfl rfl
theorem dX3_taste_0 : decode cX3_taste 0 = .ok (.aload_n 0, 1) := dk_42 (dk_at dksX3_taste_0 0 rfl rfl)
theorem dX3_taste_1 : decode cX3_taste 1 = .ok (.iload_n 1, 1) := dk_27 (dk_at dksX3_taste_0 1 rfl rfl)
theorem dX3_taste_2 : decode cX3_taste 2 = .ok (.invokevirtual 112, 3) := dk_182 0 112 (dk_at dksX3_taste_0 2 rfl rfl)
theorem dX3_taste_5 : decode cX3_taste 5 = .ok (.ifCond .eq 22, 3) := dk_153 0 22 (dk_at dksX3_taste_0 5 rfl rfl)
theorem dX3_taste_8 : decode cX3_taste 8 = .ok (.iload_n 2, 1) := dk_28 (dk_at dksX3_taste_0 8 rfl rfl)
theorem dX3_taste_9 : decode cX3_taste 9 = .ok (.iconst 0, 1) := dk_3 (dk_at dksX3_taste_0 9 rfl rfl)
theorem dX3_taste_10 : decode cX3_taste 10 = .ok (.iconst 2, 1) := dk_5 (dk_at dksX3_taste_0 10 rfl rfl)
theorem dX3_taste_11 : decode cX3_taste 11 = .ok (.invokestatic 82, 3) := dk_184 0 82 (dk_at dksX3_taste_0 11 rfl rfl)
theorem dX3_taste_14 : decode cX3_taste 14 = .ok (.ifCond .eq 13, 3) := dk_153 0 13 (dk_at dksX3_taste_0 14 rfl rfl)
theorem dX3_taste_17 : decode cX3_taste 17 = .ok (.iload_n 3, 1) := dk_29 (dk_at dksX3_taste_0 17 rfl rfl)
theorem dX3_taste_18 : decode cX3_taste 18 = .ok (.iconst 0, 1) := dk_3 (dk_at dksX3_taste_0 18 rfl rfl)
theorem dX3_taste_19 : decode cX3_taste 19 = .ok (.bipush 100, 2) := dk_16 100 (dk_at dksX3_taste_0 19 rfl rfl)
theorem dX3_taste_21 : decode cX3_taste 21 = .ok (.invokestatic 82, 3) := dk_184 0 82 (dk_at dksX3_taste_0 21 rfl rfl)
theorem dX3_taste_24 : decode cX3_taste 24 = .ok (.ifCond .ne 6, 3) := dk_154 0 6 (dk_at dksX3_taste_1 0 rfl rfl)
theorem dX3_taste_27 : decode cX3_taste 27 = .ok (.ldc 86, 2) := dk_18 86 (dk_at dksX3_taste_1 3 rfl rfl)
theorem dX3_taste_29 : decode cX3_taste 29 = .ok (.ireturn, 1) := dk_172 (dk_at dksX3_taste_1 5 rfl rfl)
theorem dX3_taste_30 : decode cX3_taste 30 = .ok (.aload_n 0, 1) := dk_42 (dk_at dksX3_taste_1 6 rfl rfl)
theorem dX3_taste_31 : decode cX3_taste 31 = .ok (.invokevirtual 180, 3) := dk_182 0 180 (dk_at dksX3_taste_1 7 rfl rfl)
theorem dX3_taste_34 : decode cX3_taste 34 = .ok (.aload_n 0, 1) := dk_42 (dk_at dksX3_taste_1 10 rfl rfl)
theorem dX3_taste_35 : decode cX3_taste 35 = .ok (.iload_n 3, 1) := dk_29 (dk_at dksX3_taste_1 11 rfl rfl)
theorem dX3_taste_36 : decode cX3_taste 36 = .ok (.invokevirtual 171, 3) := dk_182 0 171 (dk_at dksX3_taste_1 12 rfl rfl)
theorem dX3_taste_39 : decode cX3_taste 39 = .ok (.aload_n 0, 1) := dk_42 (dk_at dksX3_taste_1 15 rfl rfl)
theorem dX3_taste_40 : decode cX3_taste 40 = .ok (.iload_n 1, 1) := dk_27 (dk_at dksX3_taste_1 16 rfl rfl)
theorem dX3_taste_41 : decode cX3_taste 41 = .ok (.iconst 3, 1) := dk_6 (dk_at dksX3_taste_1 17 rfl rfl)
theorem dX3_taste_42 : decode cX3_taste 42 = .ok (.iload_n 2, 1) := dk_28 (dk_at dksX3_taste_1 18 rfl rfl)
theorem dX3_taste_43 : decode cX3_taste 43 = .ok (.iadd, 1) := dk_96 (dk_at dksX3_taste_1 19 rfl rfl)
theorem dX3_taste_44 : decode cX3_taste 44 = .ok (.invokevirtual 92, 3) := dk_182 0 92 (dk_at dksX3_taste_1 20 rfl rfl)
theorem dX3_taste_47 : decode cX3_taste 47 = .ok (.istore 4, 2) := dk_54 4 (dk_at dksX3_taste_2 0 rfl rfl)
theorem dX3_taste_49 : decode cX3_taste 49 = .ok (.aload_n 0, 1) := dk_42 (dk_at dksX3_taste_2 2 rfl rfl)
theorem dX3_taste_50 : decode cX3_taste 50 = .ok (.invokevirtual 183, 3) := dk_182 0 183 (dk_at dksX3_taste_2 3 rfl rfl)
theorem dX3_taste_53 : decode cX3_taste 53 = .ok (.iload 4, 2) := dk_21 4 (dk_at dksX3_taste_2 6 rfl rfl)
theorem dX3_taste_55 : decode cX3_taste 55 = .ok (.ireturn, 1) := dk_172 (dk_at dksX3_taste_2 8 rfl rfl)
abbrev cX3_rests : ByteArray := prog_22_method_48_code
def yX3_rests : MethodName := ⟨RX3, "rests", "()I"⟩
def dkwX3_rests_1 : List UInt8 := [132, 1, 1, 167, 255, 235, 42, 182, 0, 183, 27, 17, 1, 44, 164, 0, 8, 18, 81, 167, 0, 4, 27, 172]
abbrev dktX3_rests_1 : List UInt8 := dkwX3_rests_1 ++ []
def dkwX3_rests_0 : List UInt8 := [42, 182, 0, 180, 3, 60, 27, 17, 1, 44, 163, 0, 20, 42, 182, 0, 177, 158, 0, 13, 42, 182, 0, 168]
abbrev dktX3_rests_0 : List UInt8 := dkwX3_rests_0 ++ dktX3_rests_1
theorem dksX3_rests_0 : cX3_rests.data.toList.drop 0 = dktX3_rests_0 := by decide +kernel
theorem dksX3_rests_1 : cX3_rests.data.toList.drop 24 = dktX3_rests_1 := dk_seg dksX3_rests_0 24 rfl rfl
theorem dX3_rests_0 : decode cX3_rests 0 = .ok (.aload_n 0, 1) := dk_42 (dk_at dksX3_rests_0 0 rfl rfl)
theorem dX3_rests_1 : decode cX3_rests 1 = .ok (.invokevirtual 180, 3) := dk_182 0 180 (dk_at dksX3_rests_0 1 rfl rfl)
theorem dX3_rests_4 : decode cX3_rests 4 = .ok (.iconst 0, 1) := dk_3 (dk_at dksX3_rests_0 4 rfl rfl)
theorem dX3_rests_5 : decode cX3_rests 5 = .ok (.istore_n 1, 1) := dk_60 (dk_at dksX3_rests_0 5 rfl rfl)
theorem dX3_rests_6 : decode cX3_rests 6 = .ok (.iload_n 1, 1) := dk_27 (dk_at dksX3_rests_0 6 rfl rfl)
theorem dX3_rests_7 : decode cX3_rests 7 = .ok (.sipush 300, 3) := dk_17 1 44 (dk_at dksX3_rests_0 7 rfl rfl)
theorem dX3_rests_10 : decode cX3_rests 10 = .ok (.if_icmp .gt 20, 3) := dk_163 0 20 (dk_at dksX3_rests_0 10 rfl rfl)
theorem dX3_rests_13 : decode cX3_rests 13 = .ok (.aload_n 0, 1) := dk_42 (dk_at dksX3_rests_0 13 rfl rfl)
theorem dX3_rests_14 : decode cX3_rests 14 = .ok (.invokevirtual 177, 3) := dk_182 0 177 (dk_at dksX3_rests_0 14 rfl rfl)
theorem dX3_rests_17 : decode cX3_rests 17 = .ok (.ifCond .le 13, 3) := dk_158 0 13 (dk_at dksX3_rests_0 17 rfl rfl)
theorem dX3_rests_20 : decode cX3_rests 20 = .ok (.aload_n 0, 1) := dk_42 (dk_at dksX3_rests_0 20 rfl rfl)
theorem dX3_rests_21 : decode cX3_rests 21 = .ok (.invokevirtual 168, 3) := dk_182 0 168 (dk_at dksX3_rests_0 21 rfl rfl)
theorem dX3_rests_24 : decode cX3_rests 24 = .ok (.iinc 1 1, 3) := dk_132 1 1 (dk_at dksX3_rests_1 0 rfl rfl)
theorem dX3_rests_27 : decode cX3_rests 27 = .ok (.goto (-21), 3) := dk_167 255 235 (dk_at dksX3_rests_1 3 rfl rfl)
theorem dX3_rests_30 : decode cX3_rests 30 = .ok (.aload_n 0, 1) := dk_42 (dk_at dksX3_rests_1 6 rfl rfl)
theorem dX3_rests_31 : decode cX3_rests 31 = .ok (.invokevirtual 183, 3) := dk_182 0 183 (dk_at dksX3_rests_1 7 rfl rfl)
theorem dX3_rests_34 : decode cX3_rests 34 = .ok (.iload_n 1, 1) := dk_27 (dk_at dksX3_rests_1 10 rfl rfl)
theorem dX3_rests_35 : decode cX3_rests 35 = .ok (.sipush 300, 3) := dk_17 1 44 (dk_at dksX3_rests_1 11 rfl rfl)
theorem dX3_rests_38 : decode cX3_rests 38 = .ok (.if_icmp .le 8, 3) := dk_164 0 8 (dk_at dksX3_rests_1 14 rfl rfl)
theorem dX3_rests_41 : decode cX3_rests 41 = .ok (.ldc 81, 2) := dk_18 81 (dk_at dksX3_rests_1 17 rfl rfl)
theorem dX3_rests_43 : decode cX3_rests 43 = .ok (.goto 4, 3) := dk_167 0 4 (dk_at dksX3_rests_1 19 rfl rfl)
theorem dX3_rests_46 : decode cX3_rests 46 = .ok (.iload_n 1, 1) := dk_27 (dk_at dksX3_rests_1 22 rfl rfl)
theorem dX3_rests_47 : decode cX3_rests 47 = .ok (.ireturn, 1) := dk_172 (dk_at dksX3_rests_1 23 rfl rfl)
abbrev cX3_corks : ByteArray := prog_22_method_49_code
def yX3_corks : MethodName := ⟨RX3, "corks", "(III)I"⟩
def dkwX3_corks_6 : List UInt8 := [18, 81, 167, 0, 14, 29, 154, 0, 8, 21, 4, 167, 0, 5, 21, 5, 172]
abbrev dktX3_corks_6 : List UInt8 := dkwX3_corks_6 ++ []
def dkwX3_corks_5 : List UInt8 := [164, 0, 8, 21, 7, 167, 0, 5, 21, 5, 54, 5, 132, 6, 1, 167, 255, 169, 21, 4, 156, 0, 8]
abbrev dktX3_corks_5 : List UInt8 := dkwX3_corks_5 ++ dktX3_corks_6
def dkwX3_corks_4 : List UInt8 := [182, 0, 183, 21, 7, 21, 5, 164, 0, 8, 21, 6, 167, 0, 5, 21, 4, 54, 4, 21, 7, 21, 5]
abbrev dktX3_corks_4 : List UInt8 := dkwX3_corks_4 ++ dktX3_corks_5
def dkwX3_corks_3 : List UInt8 := [7, 21, 6, 104, 96, 6, 96, 4, 79, 42, 28, 182, 0, 171, 42, 27, 182, 0, 96, 54, 7, 42]
abbrev dktX3_corks_3 : List UInt8 := dkwX3_corks_3 ++ dktX3_corks_4
def dkwX3_corks_2 : List UInt8 := [180, 0, 9, 5, 46, 162, 0, 82, 42, 21, 6, 6, 182, 0, 140, 154, 0, 66, 42, 180, 0, 9, 16, 55]
abbrev dktX3_corks_2 : List UInt8 := dkwX3_corks_2 ++ dktX3_corks_3
def dkwX3_corks_1 : List UInt8 := [154, 0, 6, 18, 86, 172, 42, 182, 0, 180, 2, 54, 4, 2, 54, 5, 3, 54, 6, 21, 6, 42]
abbrev dktX3_corks_1 : List UInt8 := dkwX3_corks_1 ++ dktX3_corks_2
def dkwX3_corks_0 : List UInt8 := [42, 27, 182, 0, 112, 153, 0, 22, 28, 4, 16, 60, 184, 0, 82, 153, 0, 12, 29, 3, 4, 184, 0, 82]
abbrev dktX3_corks_0 : List UInt8 := dkwX3_corks_0 ++ dktX3_corks_1
theorem dksX3_corks_0 : cX3_corks.data.toList.drop 0 = dktX3_corks_0 := by decide +kernel
theorem dksX3_corks_1 : cX3_corks.data.toList.drop 24 = dktX3_corks_1 := dk_seg dksX3_corks_0 24 rfl rfl
theorem dksX3_corks_2 : cX3_corks.data.toList.drop 46 = dktX3_corks_2 := dk_seg dksX3_corks_1 22 rfl rfl
theorem dksX3_corks_3 : cX3_corks.data.toList.drop 70 = dktX3_corks_3 := dk_seg dksX3_corks_2 24 rfl rfl
theorem dksX3_corks_4 : cX3_corks.data.toList.drop 92 = dktX3_corks_4 := dk_seg dksX3_corks_3 22 rfl rfl
theorem dksX3_corks_5 : cX3_corks.data.toList.drop 115 = dktX3_corks_5 := dk_seg dksX3_corks_4 23 rfl rfl
theorem dksX3_corks_6 : cX3_corks.data.toList.drop 138 = dktX3_corks_6 := dk_seg dksX3_corks_5 23 rfl rfl
theorem dX3_corks_0 : decode cX3_corks 0 = .ok (.aload_n 0, 1) := dk_42 (dk_at dksX3_corks_0 0 rfl rfl)
theorem dX3_corks_1 : decode cX3_corks 1 = .ok (.iload_n 1, 1) := dk_27 (dk_at dksX3_corks_0 1 rfl rfl)
theorem dX3_corks_2 : decode cX3_corks 2 = .ok (.invokevirtual 112, 3) := dk_182 0 112 (dk_at dksX3_corks_0 2 rfl rfl)
theorem dX3_corks_5 : decode cX3_corks 5 = .ok (.ifCond .eq 22, 3) := dk_153 0 22 (dk_at dksX3_corks_0 5 rfl rfl)
theorem dX3_corks_8 : decode cX3_corks 8 = .ok (.iload_n 2, 1) := dk_28 (dk_at dksX3_corks_0 8 rfl rfl)
theorem dX3_corks_9 : decode cX3_corks 9 = .ok (.iconst 1, 1) := dk_4 (dk_at dksX3_corks_0 9 rfl rfl)
theorem dX3_corks_10 : decode cX3_corks 10 = .ok (.bipush 60, 2) := dk_16 60 (dk_at dksX3_corks_0 10 rfl rfl)
theorem dX3_corks_12 : decode cX3_corks 12 = .ok (.invokestatic 82, 3) := dk_184 0 82 (dk_at dksX3_corks_0 12 rfl rfl)
theorem dX3_corks_15 : decode cX3_corks 15 = .ok (.ifCond .eq 12, 3) := dk_153 0 12 (dk_at dksX3_corks_0 15 rfl rfl)
theorem dX3_corks_18 : decode cX3_corks 18 = .ok (.iload_n 3, 1) := dk_29 (dk_at dksX3_corks_0 18 rfl rfl)
theorem dX3_corks_19 : decode cX3_corks 19 = .ok (.iconst 0, 1) := dk_3 (dk_at dksX3_corks_0 19 rfl rfl)
theorem dX3_corks_20 : decode cX3_corks 20 = .ok (.iconst 1, 1) := dk_4 (dk_at dksX3_corks_0 20 rfl rfl)
theorem dX3_corks_21 : decode cX3_corks 21 = .ok (.invokestatic 82, 3) := dk_184 0 82 (dk_at dksX3_corks_0 21 rfl rfl)
theorem dX3_corks_24 : decode cX3_corks 24 = .ok (.ifCond .ne 6, 3) := dk_154 0 6 (dk_at dksX3_corks_1 0 rfl rfl)
theorem dX3_corks_27 : decode cX3_corks 27 = .ok (.ldc 86, 2) := dk_18 86 (dk_at dksX3_corks_1 3 rfl rfl)
theorem dX3_corks_29 : decode cX3_corks 29 = .ok (.ireturn, 1) := dk_172 (dk_at dksX3_corks_1 5 rfl rfl)
theorem dX3_corks_30 : decode cX3_corks 30 = .ok (.aload_n 0, 1) := dk_42 (dk_at dksX3_corks_1 6 rfl rfl)
theorem dX3_corks_31 : decode cX3_corks 31 = .ok (.invokevirtual 180, 3) := dk_182 0 180 (dk_at dksX3_corks_1 7 rfl rfl)
theorem dX3_corks_34 : decode cX3_corks 34 = .ok (.iconst (-1), 1) := dk_2 (dk_at dksX3_corks_1 10 rfl rfl)
theorem dX3_corks_35 : decode cX3_corks 35 = .ok (.istore 4, 2) := dk_54 4 (dk_at dksX3_corks_1 11 rfl rfl)
theorem dX3_corks_37 : decode cX3_corks 37 = .ok (.iconst (-1), 1) := dk_2 (dk_at dksX3_corks_1 13 rfl rfl)
theorem dX3_corks_38 : decode cX3_corks 38 = .ok (.istore 5, 2) := dk_54 5 (dk_at dksX3_corks_1 14 rfl rfl)
theorem dX3_corks_40 : decode cX3_corks 40 = .ok (.iconst 0, 1) := dk_3 (dk_at dksX3_corks_1 16 rfl rfl)
theorem dX3_corks_41 : decode cX3_corks 41 = .ok (.istore 6, 2) := dk_54 6 (dk_at dksX3_corks_1 17 rfl rfl)
theorem dX3_corks_43 : decode cX3_corks 43 = .ok (.iload 6, 2) := dk_21 6 (dk_at dksX3_corks_1 19 rfl rfl)
theorem dX3_corks_45 : decode cX3_corks 45 = .ok (.aload_n 0, 1) := dk_42 (dk_at dksX3_corks_1 21 rfl rfl)
theorem dX3_corks_46 : decode cX3_corks 46 = .ok (.getfield 9, 3) := dk_180 0 9 (dk_at dksX3_corks_2 0 rfl rfl)
theorem dX3_corks_49 : decode cX3_corks 49 = .ok (.iconst 2, 1) := dk_5 (dk_at dksX3_corks_2 3 rfl rfl)
theorem dX3_corks_50 : decode cX3_corks 50 = .ok (.iaload, 1) := dk_46 (dk_at dksX3_corks_2 4 rfl rfl)
theorem dX3_corks_51 : decode cX3_corks 51 = .ok (.if_icmp .ge 82, 3) := dk_162 0 82 (dk_at dksX3_corks_2 5 rfl rfl)
theorem dX3_corks_54 : decode cX3_corks 54 = .ok (.aload_n 0, 1) := dk_42 (dk_at dksX3_corks_2 8 rfl rfl)
theorem dX3_corks_55 : decode cX3_corks 55 = .ok (.iload 6, 2) := dk_21 6 (dk_at dksX3_corks_2 9 rfl rfl)
theorem dX3_corks_57 : decode cX3_corks 57 = .ok (.iconst 3, 1) := dk_6 (dk_at dksX3_corks_2 11 rfl rfl)
theorem dX3_corks_58 : decode cX3_corks 58 = .ok (.invokevirtual 140, 3) := dk_182 0 140 (dk_at dksX3_corks_2 12 rfl rfl)
theorem dX3_corks_61 : decode cX3_corks 61 = .ok (.ifCond .ne 66, 3) := dk_154 0 66 (dk_at dksX3_corks_2 15 rfl rfl)
theorem dX3_corks_64 : decode cX3_corks 64 = .ok (.aload_n 0, 1) := dk_42 (dk_at dksX3_corks_2 18 rfl rfl)
theorem dX3_corks_65 : decode cX3_corks 65 = .ok (.getfield 9, 3) := dk_180 0 9 (dk_at dksX3_corks_2 19 rfl rfl)
theorem dX3_corks_68 : decode cX3_corks 68 = .ok (.bipush 55, 2) := dk_16 55 (dk_at dksX3_corks_2 22 rfl rfl)
theorem dX3_corks_70 : decode cX3_corks 70 = .ok (.iconst 4, 1) := dk_7 (dk_at dksX3_corks_3 0 rfl rfl)
theorem dX3_corks_71 : decode cX3_corks 71 = .ok (.iload 6, 2) := dk_21 6 (dk_at dksX3_corks_3 1 rfl rfl)
theorem dX3_corks_73 : decode cX3_corks 73 = .ok (.imul, 1) := dk_104 (dk_at dksX3_corks_3 3 rfl rfl)
theorem dX3_corks_74 : decode cX3_corks 74 = .ok (.iadd, 1) := dk_96 (dk_at dksX3_corks_3 4 rfl rfl)
theorem dX3_corks_75 : decode cX3_corks 75 = .ok (.iconst 3, 1) := dk_6 (dk_at dksX3_corks_3 5 rfl rfl)
theorem dX3_corks_76 : decode cX3_corks 76 = .ok (.iadd, 1) := dk_96 (dk_at dksX3_corks_3 6 rfl rfl)
theorem dX3_corks_77 : decode cX3_corks 77 = .ok (.iconst 1, 1) := dk_4 (dk_at dksX3_corks_3 7 rfl rfl)
theorem dX3_corks_78 : decode cX3_corks 78 = .ok (.iastore, 1) := dk_79 (dk_at dksX3_corks_3 8 rfl rfl)
theorem dX3_corks_79 : decode cX3_corks 79 = .ok (.aload_n 0, 1) := dk_42 (dk_at dksX3_corks_3 9 rfl rfl)
theorem dX3_corks_80 : decode cX3_corks 80 = .ok (.iload_n 2, 1) := dk_28 (dk_at dksX3_corks_3 10 rfl rfl)
theorem dX3_corks_81 : decode cX3_corks 81 = .ok (.invokevirtual 171, 3) := dk_182 0 171 (dk_at dksX3_corks_3 11 rfl rfl)
theorem dX3_corks_84 : decode cX3_corks 84 = .ok (.aload_n 0, 1) := dk_42 (dk_at dksX3_corks_3 14 rfl rfl)
theorem dX3_corks_85 : decode cX3_corks 85 = .ok (.iload_n 1, 1) := dk_27 (dk_at dksX3_corks_3 15 rfl rfl)
theorem dX3_corks_86 : decode cX3_corks 86 = .ok (.invokevirtual 96, 3) := dk_182 0 96 (dk_at dksX3_corks_3 16 rfl rfl)
theorem dX3_corks_89 : decode cX3_corks 89 = .ok (.istore 7, 2) := dk_54 7 (dk_at dksX3_corks_3 19 rfl rfl)
theorem dX3_corks_91 : decode cX3_corks 91 = .ok (.aload_n 0, 1) := dk_42 (dk_at dksX3_corks_3 21 rfl rfl)
theorem dX3_corks_92 : decode cX3_corks 92 = .ok (.invokevirtual 183, 3) := dk_182 0 183 (dk_at dksX3_corks_4 0 rfl rfl)
theorem dX3_corks_95 : decode cX3_corks 95 = .ok (.iload 7, 2) := dk_21 7 (dk_at dksX3_corks_4 3 rfl rfl)
theorem dX3_corks_97 : decode cX3_corks 97 = .ok (.iload 5, 2) := dk_21 5 (dk_at dksX3_corks_4 5 rfl rfl)
theorem dX3_corks_99 : decode cX3_corks 99 = .ok (.if_icmp .le 8, 3) := dk_164 0 8 (dk_at dksX3_corks_4 7 rfl rfl)
theorem dX3_corks_102 : decode cX3_corks 102 = .ok (.iload 6, 2) := dk_21 6 (dk_at dksX3_corks_4 10 rfl rfl)
theorem dX3_corks_104 : decode cX3_corks 104 = .ok (.goto 5, 3) := dk_167 0 5 (dk_at dksX3_corks_4 12 rfl rfl)
theorem dX3_corks_107 : decode cX3_corks 107 = .ok (.iload 4, 2) := dk_21 4 (dk_at dksX3_corks_4 15 rfl rfl)
theorem dX3_corks_109 : decode cX3_corks 109 = .ok (.istore 4, 2) := dk_54 4 (dk_at dksX3_corks_4 17 rfl rfl)
theorem dX3_corks_111 : decode cX3_corks 111 = .ok (.iload 7, 2) := dk_21 7 (dk_at dksX3_corks_4 19 rfl rfl)
theorem dX3_corks_113 : decode cX3_corks 113 = .ok (.iload 5, 2) := dk_21 5 (dk_at dksX3_corks_4 21 rfl rfl)
theorem dX3_corks_115 : decode cX3_corks 115 = .ok (.if_icmp .le 8, 3) := dk_164 0 8 (dk_at dksX3_corks_5 0 rfl rfl)
theorem dX3_corks_118 : decode cX3_corks 118 = .ok (.iload 7, 2) := dk_21 7 (dk_at dksX3_corks_5 3 rfl rfl)
theorem dX3_corks_120 : decode cX3_corks 120 = .ok (.goto 5, 3) := dk_167 0 5 (dk_at dksX3_corks_5 5 rfl rfl)
theorem dX3_corks_123 : decode cX3_corks 123 = .ok (.iload 5, 2) := dk_21 5 (dk_at dksX3_corks_5 8 rfl rfl)
theorem dX3_corks_125 : decode cX3_corks 125 = .ok (.istore 5, 2) := dk_54 5 (dk_at dksX3_corks_5 10 rfl rfl)
theorem dX3_corks_127 : decode cX3_corks 127 = .ok (.iinc 6 1, 3) := dk_132 6 1 (dk_at dksX3_corks_5 12 rfl rfl)
theorem dX3_corks_130 : decode cX3_corks 130 = .ok (.goto (-87), 3) := dk_167 255 169 (dk_at dksX3_corks_5 15 rfl rfl)
theorem dX3_corks_133 : decode cX3_corks 133 = .ok (.iload 4, 2) := dk_21 4 (dk_at dksX3_corks_5 18 rfl rfl)
theorem dX3_corks_135 : decode cX3_corks 135 = .ok (.ifCond .ge 8, 3) := dk_156 0 8 (dk_at dksX3_corks_5 20 rfl rfl)
theorem dX3_corks_138 : decode cX3_corks 138 = .ok (.ldc 81, 2) := dk_18 81 (dk_at dksX3_corks_6 0 rfl rfl)
theorem dX3_corks_140 : decode cX3_corks 140 = .ok (.goto 14, 3) := dk_167 0 14 (dk_at dksX3_corks_6 2 rfl rfl)
theorem dX3_corks_143 : decode cX3_corks 143 = .ok (.iload_n 3, 1) := dk_29 (dk_at dksX3_corks_6 5 rfl rfl)
theorem dX3_corks_144 : decode cX3_corks 144 = .ok (.ifCond .ne 8, 3) := dk_154 0 8 (dk_at dksX3_corks_6 6 rfl rfl)
theorem dX3_corks_147 : decode cX3_corks 147 = .ok (.iload 4, 2) := dk_21 4 (dk_at dksX3_corks_6 9 rfl rfl)
theorem dX3_corks_149 : decode cX3_corks 149 = .ok (.goto 5, 3) := dk_167 0 5 (dk_at dksX3_corks_6 11 rfl rfl)
theorem dX3_corks_152 : decode cX3_corks 152 = .ok (.iload 5, 2) := dk_21 5 (dk_at dksX3_corks_6 14 rfl rfl)
theorem dX3_corks_154 : decode cX3_corks 154 = .ok (.ireturn, 1) := dk_172 (dk_at dksX3_corks_6 16 rfl rfl)
abbrev cX3_dig : ByteArray := prog_22_method_51_code
def yX3_dig : MethodName := ⟨RX3, "dig", "(II)I"⟩
def dkwX3_dig_7 : List UInt8 := [154, 0, 7, 29, 167, 0, 5, 21, 4, 172]
abbrev dktX3_dig_7 : List UInt8 := dkwX3_dig_7 ++ []
def dkwX3_dig_6 : List UInt8 := [132, 6, 1, 167, 255, 165, 132, 5, 1, 167, 255, 142, 29, 156, 0, 8, 18, 81, 167, 0, 13, 28]
abbrev dktX3_dig_6 : List UInt8 := dkwX3_dig_6 ++ dktX3_dig_7
def dkwX3_dig_5 : List UInt8 := [155, 0, 10, 21, 7, 21, 4, 162, 0, 16, 16, 10, 21, 5, 104, 21, 6, 96, 62, 21, 7, 54, 4]
abbrev dktX3_dig_5 : List UInt8 := dkwX3_dig_5 ++ dktX3_dig_6
def dkwX3_dig_4 : List UInt8 := [46, 4, 96, 79, 42, 27, 182, 0, 171, 42, 180, 0, 9, 8, 46, 54, 7, 42, 182, 0, 183, 29]
abbrev dktX3_dig_4 : List UInt8 := dkwX3_dig_4 ++ dktX3_dig_5
def dkwX3_dig_3 : List UInt8 := [154, 0, 69, 42, 42, 180, 0, 9, 5, 46, 21, 5, 21, 6, 6, 182, 0, 136, 42, 180, 0, 9, 5, 92]
abbrev dktX3_dig_3 : List UInt8 := dkwX3_dig_3 ++ dktX3_dig_4
def dkwX3_dig_2 : List UInt8 := [4, 96, 54, 6, 21, 6, 42, 180, 0, 9, 4, 46, 162, 0, 86, 42, 21, 5, 21, 6, 182, 0, 186]
abbrev dktX3_dig_2 : List UInt8 := dkwX3_dig_2 ++ dktX3_dig_3
def dkwX3_dig_1 : List UInt8 := [182, 0, 180, 2, 62, 3, 54, 4, 3, 54, 5, 21, 5, 42, 180, 0, 9, 4, 46, 162, 0, 109, 21, 5]
abbrev dktX3_dig_1 : List UInt8 := dkwX3_dig_1 ++ dktX3_dig_2
def dkwX3_dig_0 : List UInt8 := [27, 4, 16, 40, 184, 0, 82, 153, 0, 12, 28, 3, 4, 184, 0, 82, 154, 0, 6, 18, 86, 172, 42]
abbrev dktX3_dig_0 : List UInt8 := dkwX3_dig_0 ++ dktX3_dig_1
theorem dksX3_dig_0 : cX3_dig.data.toList.drop 0 = dktX3_dig_0 := by decide +kernel
theorem dksX3_dig_1 : cX3_dig.data.toList.drop 23 = dktX3_dig_1 := dk_seg dksX3_dig_0 23 rfl rfl
theorem dksX3_dig_2 : cX3_dig.data.toList.drop 47 = dktX3_dig_2 := dk_seg dksX3_dig_1 24 rfl rfl
theorem dksX3_dig_3 : cX3_dig.data.toList.drop 70 = dktX3_dig_3 := dk_seg dksX3_dig_2 23 rfl rfl
theorem dksX3_dig_4 : cX3_dig.data.toList.drop 94 = dktX3_dig_4 := dk_seg dksX3_dig_3 24 rfl rfl
theorem dksX3_dig_5 : cX3_dig.data.toList.drop 116 = dktX3_dig_5 := dk_seg dksX3_dig_4 22 rfl rfl
theorem dksX3_dig_6 : cX3_dig.data.toList.drop 139 = dktX3_dig_6 := dk_seg dksX3_dig_5 23 rfl rfl
theorem dksX3_dig_7 : cX3_dig.data.toList.drop 161 = dktX3_dig_7 := dk_seg dksX3_dig_6 22 rfl rfl
theorem dX3_dig_0 : decode cX3_dig 0 = .ok (.iload_n 1, 1) := dk_27 (dk_at dksX3_dig_0 0 rfl rfl)
theorem dX3_dig_1 : decode cX3_dig 1 = .ok (.iconst 1, 1) := dk_4 (dk_at dksX3_dig_0 1 rfl rfl)
theorem dX3_dig_2 : decode cX3_dig 2 = .ok (.bipush 40, 2) := dk_16 40 (dk_at dksX3_dig_0 2 rfl rfl)
theorem dX3_dig_4 : decode cX3_dig 4 = .ok (.invokestatic 82, 3) := dk_184 0 82 (dk_at dksX3_dig_0 4 rfl rfl)
theorem dX3_dig_7 : decode cX3_dig 7 = .ok (.ifCond .eq 12, 3) := dk_153 0 12 (dk_at dksX3_dig_0 7 rfl rfl)
theorem dX3_dig_10 : decode cX3_dig 10 = .ok (.iload_n 2, 1) := dk_28 (dk_at dksX3_dig_0 10 rfl rfl)
theorem dX3_dig_11 : decode cX3_dig 11 = .ok (.iconst 0, 1) := dk_3 (dk_at dksX3_dig_0 11 rfl rfl)
theorem dX3_dig_12 : decode cX3_dig 12 = .ok (.iconst 1, 1) := dk_4 (dk_at dksX3_dig_0 12 rfl rfl)
theorem dX3_dig_13 : decode cX3_dig 13 = .ok (.invokestatic 82, 3) := dk_184 0 82 (dk_at dksX3_dig_0 13 rfl rfl)
theorem dX3_dig_16 : decode cX3_dig 16 = .ok (.ifCond .ne 6, 3) := dk_154 0 6 (dk_at dksX3_dig_0 16 rfl rfl)
theorem dX3_dig_19 : decode cX3_dig 19 = .ok (.ldc 86, 2) := dk_18 86 (dk_at dksX3_dig_0 19 rfl rfl)
theorem dX3_dig_21 : decode cX3_dig 21 = .ok (.ireturn, 1) := dk_172 (dk_at dksX3_dig_0 21 rfl rfl)
theorem dX3_dig_22 : decode cX3_dig 22 = .ok (.aload_n 0, 1) := dk_42 (dk_at dksX3_dig_0 22 rfl rfl)
theorem dX3_dig_23 : decode cX3_dig 23 = .ok (.invokevirtual 180, 3) := dk_182 0 180 (dk_at dksX3_dig_1 0 rfl rfl)
theorem dX3_dig_26 : decode cX3_dig 26 = .ok (.iconst (-1), 1) := dk_2 (dk_at dksX3_dig_1 3 rfl rfl)
theorem dX3_dig_27 : decode cX3_dig 27 = .ok (.istore_n 3, 1) := dk_62 (dk_at dksX3_dig_1 4 rfl rfl)
theorem dX3_dig_28 : decode cX3_dig 28 = .ok (.iconst 0, 1) := dk_3 (dk_at dksX3_dig_1 5 rfl rfl)
theorem dX3_dig_29 : decode cX3_dig 29 = .ok (.istore 4, 2) := dk_54 4 (dk_at dksX3_dig_1 6 rfl rfl)
theorem dX3_dig_31 : decode cX3_dig 31 = .ok (.iconst 0, 1) := dk_3 (dk_at dksX3_dig_1 8 rfl rfl)
theorem dX3_dig_32 : decode cX3_dig 32 = .ok (.istore 5, 2) := dk_54 5 (dk_at dksX3_dig_1 9 rfl rfl)
theorem dX3_dig_34 : decode cX3_dig 34 = .ok (.iload 5, 2) := dk_21 5 (dk_at dksX3_dig_1 11 rfl rfl)
theorem dX3_dig_36 : decode cX3_dig 36 = .ok (.aload_n 0, 1) := dk_42 (dk_at dksX3_dig_1 13 rfl rfl)
theorem dX3_dig_37 : decode cX3_dig 37 = .ok (.getfield 9, 3) := dk_180 0 9 (dk_at dksX3_dig_1 14 rfl rfl)
theorem dX3_dig_40 : decode cX3_dig 40 = .ok (.iconst 1, 1) := dk_4 (dk_at dksX3_dig_1 17 rfl rfl)
theorem dX3_dig_41 : decode cX3_dig 41 = .ok (.iaload, 1) := dk_46 (dk_at dksX3_dig_1 18 rfl rfl)
theorem dX3_dig_42 : decode cX3_dig 42 = .ok (.if_icmp .ge 109, 3) := dk_162 0 109 (dk_at dksX3_dig_1 19 rfl rfl)
theorem dX3_dig_45 : decode cX3_dig 45 = .ok (.iload 5, 2) := dk_21 5 (dk_at dksX3_dig_1 22 rfl rfl)
theorem dX3_dig_47 : decode cX3_dig 47 = .ok (.iconst 1, 1) := dk_4 (dk_at dksX3_dig_2 0 rfl rfl)
theorem dX3_dig_48 : decode cX3_dig 48 = .ok (.iadd, 1) := dk_96 (dk_at dksX3_dig_2 1 rfl rfl)
theorem dX3_dig_49 : decode cX3_dig 49 = .ok (.istore 6, 2) := dk_54 6 (dk_at dksX3_dig_2 2 rfl rfl)
theorem dX3_dig_51 : decode cX3_dig 51 = .ok (.iload 6, 2) := dk_21 6 (dk_at dksX3_dig_2 4 rfl rfl)
theorem dX3_dig_53 : decode cX3_dig 53 = .ok (.aload_n 0, 1) := dk_42 (dk_at dksX3_dig_2 6 rfl rfl)
theorem dX3_dig_54 : decode cX3_dig 54 = .ok (.getfield 9, 3) := dk_180 0 9 (dk_at dksX3_dig_2 7 rfl rfl)
theorem dX3_dig_57 : decode cX3_dig 57 = .ok (.iconst 1, 1) := dk_4 (dk_at dksX3_dig_2 10 rfl rfl)
theorem dX3_dig_58 : decode cX3_dig 58 = .ok (.iaload, 1) := dk_46 (dk_at dksX3_dig_2 11 rfl rfl)
theorem dX3_dig_59 : decode cX3_dig 59 = .ok (.if_icmp .ge 86, 3) := dk_162 0 86 (dk_at dksX3_dig_2 12 rfl rfl)
theorem dX3_dig_62 : decode cX3_dig 62 = .ok (.aload_n 0, 1) := dk_42 (dk_at dksX3_dig_2 15 rfl rfl)
theorem dX3_dig_63 : decode cX3_dig 63 = .ok (.iload 5, 2) := dk_21 5 (dk_at dksX3_dig_2 16 rfl rfl)
theorem dX3_dig_65 : decode cX3_dig 65 = .ok (.iload 6, 2) := dk_21 6 (dk_at dksX3_dig_2 18 rfl rfl)
theorem dX3_dig_67 : decode cX3_dig 67 = .ok (.invokevirtual 186, 3) := dk_182 0 186 (dk_at dksX3_dig_2 20 rfl rfl)
theorem dX3_dig_70 : decode cX3_dig 70 = .ok (.ifCond .ne 69, 3) := dk_154 0 69 (dk_at dksX3_dig_3 0 rfl rfl)
theorem dX3_dig_73 : decode cX3_dig 73 = .ok (.aload_n 0, 1) := dk_42 (dk_at dksX3_dig_3 3 rfl rfl)
theorem dX3_dig_74 : decode cX3_dig 74 = .ok (.aload_n 0, 1) := dk_42 (dk_at dksX3_dig_3 4 rfl rfl)
theorem dX3_dig_75 : decode cX3_dig 75 = .ok (.getfield 9, 3) := dk_180 0 9 (dk_at dksX3_dig_3 5 rfl rfl)
theorem dX3_dig_78 : decode cX3_dig 78 = .ok (.iconst 2, 1) := dk_5 (dk_at dksX3_dig_3 8 rfl rfl)
theorem dX3_dig_79 : decode cX3_dig 79 = .ok (.iaload, 1) := dk_46 (dk_at dksX3_dig_3 9 rfl rfl)
theorem dX3_dig_80 : decode cX3_dig 80 = .ok (.iload 5, 2) := dk_21 5 (dk_at dksX3_dig_3 10 rfl rfl)
theorem dX3_dig_82 : decode cX3_dig 82 = .ok (.iload 6, 2) := dk_21 6 (dk_at dksX3_dig_3 12 rfl rfl)
theorem dX3_dig_84 : decode cX3_dig 84 = .ok (.iconst 3, 1) := dk_6 (dk_at dksX3_dig_3 14 rfl rfl)
theorem dX3_dig_85 : decode cX3_dig 85 = .ok (.invokevirtual 136, 3) := dk_182 0 136 (dk_at dksX3_dig_3 15 rfl rfl)
theorem dX3_dig_88 : decode cX3_dig 88 = .ok (.aload_n 0, 1) := dk_42 (dk_at dksX3_dig_3 18 rfl rfl)
theorem dX3_dig_89 : decode cX3_dig 89 = .ok (.getfield 9, 3) := dk_180 0 9 (dk_at dksX3_dig_3 19 rfl rfl)
theorem dX3_dig_92 : decode cX3_dig 92 = .ok (.iconst 2, 1) := dk_5 (dk_at dksX3_dig_3 22 rfl rfl)
theorem dX3_dig_93 : decode cX3_dig 93 = .ok (.dup2, 1) := dk_92 (dk_at dksX3_dig_3 23 rfl rfl)
theorem dX3_dig_94 : decode cX3_dig 94 = .ok (.iaload, 1) := dk_46 (dk_at dksX3_dig_4 0 rfl rfl)
theorem dX3_dig_95 : decode cX3_dig 95 = .ok (.iconst 1, 1) := dk_4 (dk_at dksX3_dig_4 1 rfl rfl)
theorem dX3_dig_96 : decode cX3_dig 96 = .ok (.iadd, 1) := dk_96 (dk_at dksX3_dig_4 2 rfl rfl)
theorem dX3_dig_97 : decode cX3_dig 97 = .ok (.iastore, 1) := dk_79 (dk_at dksX3_dig_4 3 rfl rfl)
theorem dX3_dig_98 : decode cX3_dig 98 = .ok (.aload_n 0, 1) := dk_42 (dk_at dksX3_dig_4 4 rfl rfl)
theorem dX3_dig_99 : decode cX3_dig 99 = .ok (.iload_n 1, 1) := dk_27 (dk_at dksX3_dig_4 5 rfl rfl)
theorem dX3_dig_100 : decode cX3_dig 100 = .ok (.invokevirtual 171, 3) := dk_182 0 171 (dk_at dksX3_dig_4 6 rfl rfl)
theorem dX3_dig_103 : decode cX3_dig 103 = .ok (.aload_n 0, 1) := dk_42 (dk_at dksX3_dig_4 9 rfl rfl)
theorem dX3_dig_104 : decode cX3_dig 104 = .ok (.getfield 9, 3) := dk_180 0 9 (dk_at dksX3_dig_4 10 rfl rfl)
theorem dX3_dig_107 : decode cX3_dig 107 = .ok (.iconst 5, 1) := dk_8 (dk_at dksX3_dig_4 13 rfl rfl)
theorem dX3_dig_108 : decode cX3_dig 108 = .ok (.iaload, 1) := dk_46 (dk_at dksX3_dig_4 14 rfl rfl)
theorem dX3_dig_109 : decode cX3_dig 109 = .ok (.istore 7, 2) := dk_54 7 (dk_at dksX3_dig_4 15 rfl rfl)
theorem dX3_dig_111 : decode cX3_dig 111 = .ok (.aload_n 0, 1) := dk_42 (dk_at dksX3_dig_4 17 rfl rfl)
theorem dX3_dig_112 : decode cX3_dig 112 = .ok (.invokevirtual 183, 3) := dk_182 0 183 (dk_at dksX3_dig_4 18 rfl rfl)
theorem dX3_dig_115 : decode cX3_dig 115 = .ok (.iload_n 3, 1) := dk_29 (dk_at dksX3_dig_4 21 rfl rfl)
theorem dX3_dig_116 : decode cX3_dig 116 = .ok (.ifCond .lt 10, 3) := dk_155 0 10 (dk_at dksX3_dig_5 0 rfl rfl)
theorem dX3_dig_119 : decode cX3_dig 119 = .ok (.iload 7, 2) := dk_21 7 (dk_at dksX3_dig_5 3 rfl rfl)
theorem dX3_dig_121 : decode cX3_dig 121 = .ok (.iload 4, 2) := dk_21 4 (dk_at dksX3_dig_5 5 rfl rfl)
theorem dX3_dig_123 : decode cX3_dig 123 = .ok (.if_icmp .ge 16, 3) := dk_162 0 16 (dk_at dksX3_dig_5 7 rfl rfl)
theorem dX3_dig_126 : decode cX3_dig 126 = .ok (.bipush 10, 2) := dk_16 10 (dk_at dksX3_dig_5 10 rfl rfl)
theorem dX3_dig_128 : decode cX3_dig 128 = .ok (.iload 5, 2) := dk_21 5 (dk_at dksX3_dig_5 12 rfl rfl)
theorem dX3_dig_130 : decode cX3_dig 130 = .ok (.imul, 1) := dk_104 (dk_at dksX3_dig_5 14 rfl rfl)
theorem dX3_dig_131 : decode cX3_dig 131 = .ok (.iload 6, 2) := dk_21 6 (dk_at dksX3_dig_5 15 rfl rfl)
theorem dX3_dig_133 : decode cX3_dig 133 = .ok (.iadd, 1) := dk_96 (dk_at dksX3_dig_5 17 rfl rfl)
theorem dX3_dig_134 : decode cX3_dig 134 = .ok (.istore_n 3, 1) := dk_62 (dk_at dksX3_dig_5 18 rfl rfl)
theorem dX3_dig_135 : decode cX3_dig 135 = .ok (.iload 7, 2) := dk_21 7 (dk_at dksX3_dig_5 19 rfl rfl)
theorem dX3_dig_137 : decode cX3_dig 137 = .ok (.istore 4, 2) := dk_54 4 (dk_at dksX3_dig_5 21 rfl rfl)
theorem dX3_dig_139 : decode cX3_dig 139 = .ok (.iinc 6 1, 3) := dk_132 6 1 (dk_at dksX3_dig_6 0 rfl rfl)
theorem dX3_dig_142 : decode cX3_dig 142 = .ok (.goto (-91), 3) := dk_167 255 165 (dk_at dksX3_dig_6 3 rfl rfl)
theorem dX3_dig_145 : decode cX3_dig 145 = .ok (.iinc 5 1, 3) := dk_132 5 1 (dk_at dksX3_dig_6 6 rfl rfl)
theorem dX3_dig_148 : decode cX3_dig 148 = .ok (.goto (-114), 3) := dk_167 255 142 (dk_at dksX3_dig_6 9 rfl rfl)
theorem dX3_dig_151 : decode cX3_dig 151 = .ok (.iload_n 3, 1) := dk_29 (dk_at dksX3_dig_6 12 rfl rfl)
theorem dX3_dig_152 : decode cX3_dig 152 = .ok (.ifCond .ge 8, 3) := dk_156 0 8 (dk_at dksX3_dig_6 13 rfl rfl)
theorem dX3_dig_155 : decode cX3_dig 155 = .ok (.ldc 81, 2) := dk_18 81 (dk_at dksX3_dig_6 16 rfl rfl)
theorem dX3_dig_157 : decode cX3_dig 157 = .ok (.goto 13, 3) := dk_167 0 13 (dk_at dksX3_dig_6 18 rfl rfl)
theorem dX3_dig_160 : decode cX3_dig 160 = .ok (.iload_n 2, 1) := dk_28 (dk_at dksX3_dig_6 21 rfl rfl)
theorem dX3_dig_161 : decode cX3_dig 161 = .ok (.ifCond .ne 7, 3) := dk_154 0 7 (dk_at dksX3_dig_7 0 rfl rfl)
theorem dX3_dig_164 : decode cX3_dig 164 = .ok (.iload_n 3, 1) := dk_29 (dk_at dksX3_dig_7 3 rfl rfl)
theorem dX3_dig_165 : decode cX3_dig 165 = .ok (.goto 5, 3) := dk_167 0 5 (dk_at dksX3_dig_7 4 rfl rfl)
theorem dX3_dig_168 : decode cX3_dig 168 = .ok (.iload 4, 2) := dk_21 4 (dk_at dksX3_dig_7 7 rfl rfl)
theorem dX3_dig_170 : decode cX3_dig 170 = .ok (.ireturn, 1) := dk_172 (dk_at dksX3_dig_7 9 rfl rfl)
abbrev cX3_areJoined : ByteArray := prog_22_method_50_code
def yX3_areJoined : MethodName := ⟨RX3, "areJoined", "(II)Z"⟩
def dkwX3_areJoined_3 : List UInt8 := [132, 4, 1, 167, 255, 188, 29, 172]
abbrev dktX3_areJoined_3 : List UInt8 := dkwX3_areJoined_3 ++ []
def dkwX3_areJoined_2 : List UInt8 := [182, 0, 140, 28, 160, 0, 18, 42, 21, 4, 4, 182, 0, 140, 27, 160, 0, 7, 4, 167, 0, 4, 3, 62]
abbrev dktX3_areJoined_2 : List UInt8 := dkwX3_areJoined_2 ++ dktX3_areJoined_3
def dkwX3_areJoined_1 : List UInt8 := [182, 0, 140, 27, 160, 0, 14, 42, 21, 4, 4, 182, 0, 140, 28, 159, 0, 25, 42, 21, 4, 3]
abbrev dktX3_areJoined_1 : List UInt8 := dkwX3_areJoined_1 ++ dktX3_areJoined_2
def dkwX3_areJoined_0 : List UInt8 := [3, 62, 3, 54, 4, 21, 4, 42, 180, 0, 9, 5, 46, 162, 0, 63, 29, 154, 0, 47, 42, 21, 4, 3]
abbrev dktX3_areJoined_0 : List UInt8 := dkwX3_areJoined_0 ++ dktX3_areJoined_1
theorem dksX3_areJoined_0 : cX3_areJoined.data.toList.drop 0 = dktX3_areJoined_0 := by decide +kernel
theorem dksX3_areJoined_1 : cX3_areJoined.data.toList.drop 24 = dktX3_areJoined_1 := dk_seg dksX3_areJoined_0 24 rfl rfl
theorem dksX3_areJoined_2 : cX3_areJoined.data.toList.drop 46 = dktX3_areJoined_2 := dk_seg dksX3_areJoined_1 22 rfl rfl
theorem dksX3_areJoined_3 : cX3_areJoined.data.toList.drop 70 = dktX3_areJoined_3 := dk_seg dksX3_areJoined_2 24 rfl rfl
theorem dX3_areJoined_0 : decode cX3_areJoined 0 = .ok (.iconst 0, 1) := dk_3 (dk_at dksX3_areJoined_0 0 rfl rfl)
theorem dX3_areJoined_1 : decode cX3_areJoined 1 = .ok (.istore_n 3, 1) := dk_62 (dk_at dksX3_areJoined_0 1 rfl rfl)
theorem dX3_areJoined_2 : decode cX3_areJoined 2 = .ok (.iconst 0, 1) := dk_3 (dk_at dksX3_areJoined_0 2 rfl rfl)
theorem dX3_areJoined_3 : decode cX3_areJoined 3 = .ok (.istore 4, 2) := dk_54 4 (dk_at dksX3_areJoined_0 3 rfl rfl)
theorem dX3_areJoined_5 : decode cX3_areJoined 5 = .ok (.iload 4, 2) := dk_21 4 (dk_at dksX3_areJoined_0 5 rfl rfl)
theorem dX3_areJoined_7 : decode cX3_areJoined 7 = .ok (.aload_n 0, 1) := dk_42 (dk_at dksX3_areJoined_0 7 rfl rfl)
theorem dX3_areJoined_8 : decode cX3_areJoined 8 = .ok (.getfield 9, 3) := dk_180 0 9 (dk_at dksX3_areJoined_0 8 rfl rfl)
theorem dX3_areJoined_11 : decode cX3_areJoined 11 = .ok (.iconst 2, 1) := dk_5 (dk_at dksX3_areJoined_0 11 rfl rfl)
theorem dX3_areJoined_12 : decode cX3_areJoined 12 = .ok (.iaload, 1) := dk_46 (dk_at dksX3_areJoined_0 12 rfl rfl)
theorem dX3_areJoined_13 : decode cX3_areJoined 13 = .ok (.if_icmp .ge 63, 3) := dk_162 0 63 (dk_at dksX3_areJoined_0 13 rfl rfl)
theorem dX3_areJoined_16 : decode cX3_areJoined 16 = .ok (.iload_n 3, 1) := dk_29 (dk_at dksX3_areJoined_0 16 rfl rfl)
theorem dX3_areJoined_17 : decode cX3_areJoined 17 = .ok (.ifCond .ne 47, 3) := dk_154 0 47 (dk_at dksX3_areJoined_0 17 rfl rfl)
theorem dX3_areJoined_20 : decode cX3_areJoined 20 = .ok (.aload_n 0, 1) := dk_42 (dk_at dksX3_areJoined_0 20 rfl rfl)
theorem dX3_areJoined_21 : decode cX3_areJoined 21 = .ok (.iload 4, 2) := dk_21 4 (dk_at dksX3_areJoined_0 21 rfl rfl)
theorem dX3_areJoined_23 : decode cX3_areJoined 23 = .ok (.iconst 0, 1) := dk_3 (dk_at dksX3_areJoined_0 23 rfl rfl)
theorem dX3_areJoined_24 : decode cX3_areJoined 24 = .ok (.invokevirtual 140, 3) := dk_182 0 140 (dk_at dksX3_areJoined_1 0 rfl rfl)
theorem dX3_areJoined_27 : decode cX3_areJoined 27 = .ok (.iload_n 1, 1) := dk_27 (dk_at dksX3_areJoined_1 3 rfl rfl)
theorem dX3_areJoined_28 : decode cX3_areJoined 28 = .ok (.if_icmp .ne 14, 3) := dk_160 0 14 (dk_at dksX3_areJoined_1 4 rfl rfl)
theorem dX3_areJoined_31 : decode cX3_areJoined 31 = .ok (.aload_n 0, 1) := dk_42 (dk_at dksX3_areJoined_1 7 rfl rfl)
theorem dX3_areJoined_32 : decode cX3_areJoined 32 = .ok (.iload 4, 2) := dk_21 4 (dk_at dksX3_areJoined_1 8 rfl rfl)
theorem dX3_areJoined_34 : decode cX3_areJoined 34 = .ok (.iconst 1, 1) := dk_4 (dk_at dksX3_areJoined_1 10 rfl rfl)
theorem dX3_areJoined_35 : decode cX3_areJoined 35 = .ok (.invokevirtual 140, 3) := dk_182 0 140 (dk_at dksX3_areJoined_1 11 rfl rfl)
theorem dX3_areJoined_38 : decode cX3_areJoined 38 = .ok (.iload_n 2, 1) := dk_28 (dk_at dksX3_areJoined_1 14 rfl rfl)
theorem dX3_areJoined_39 : decode cX3_areJoined 39 = .ok (.if_icmp .eq 25, 3) := dk_159 0 25 (dk_at dksX3_areJoined_1 15 rfl rfl)
theorem dX3_areJoined_42 : decode cX3_areJoined 42 = .ok (.aload_n 0, 1) := dk_42 (dk_at dksX3_areJoined_1 18 rfl rfl)
theorem dX3_areJoined_43 : decode cX3_areJoined 43 = .ok (.iload 4, 2) := dk_21 4 (dk_at dksX3_areJoined_1 19 rfl rfl)
theorem dX3_areJoined_45 : decode cX3_areJoined 45 = .ok (.iconst 0, 1) := dk_3 (dk_at dksX3_areJoined_1 21 rfl rfl)
theorem dX3_areJoined_46 : decode cX3_areJoined 46 = .ok (.invokevirtual 140, 3) := dk_182 0 140 (dk_at dksX3_areJoined_2 0 rfl rfl)
theorem dX3_areJoined_49 : decode cX3_areJoined 49 = .ok (.iload_n 2, 1) := dk_28 (dk_at dksX3_areJoined_2 3 rfl rfl)
theorem dX3_areJoined_50 : decode cX3_areJoined 50 = .ok (.if_icmp .ne 18, 3) := dk_160 0 18 (dk_at dksX3_areJoined_2 4 rfl rfl)
theorem dX3_areJoined_53 : decode cX3_areJoined 53 = .ok (.aload_n 0, 1) := dk_42 (dk_at dksX3_areJoined_2 7 rfl rfl)
theorem dX3_areJoined_54 : decode cX3_areJoined 54 = .ok (.iload 4, 2) := dk_21 4 (dk_at dksX3_areJoined_2 8 rfl rfl)
theorem dX3_areJoined_56 : decode cX3_areJoined 56 = .ok (.iconst 1, 1) := dk_4 (dk_at dksX3_areJoined_2 10 rfl rfl)
theorem dX3_areJoined_57 : decode cX3_areJoined 57 = .ok (.invokevirtual 140, 3) := dk_182 0 140 (dk_at dksX3_areJoined_2 11 rfl rfl)
theorem dX3_areJoined_60 : decode cX3_areJoined 60 = .ok (.iload_n 1, 1) := dk_27 (dk_at dksX3_areJoined_2 14 rfl rfl)
theorem dX3_areJoined_61 : decode cX3_areJoined 61 = .ok (.if_icmp .ne 7, 3) := dk_160 0 7 (dk_at dksX3_areJoined_2 15 rfl rfl)
theorem dX3_areJoined_64 : decode cX3_areJoined 64 = .ok (.iconst 1, 1) := dk_4 (dk_at dksX3_areJoined_2 18 rfl rfl)
theorem dX3_areJoined_65 : decode cX3_areJoined 65 = .ok (.goto 4, 3) := dk_167 0 4 (dk_at dksX3_areJoined_2 19 rfl rfl)
theorem dX3_areJoined_68 : decode cX3_areJoined 68 = .ok (.iconst 0, 1) := dk_3 (dk_at dksX3_areJoined_2 22 rfl rfl)
theorem dX3_areJoined_69 : decode cX3_areJoined 69 = .ok (.istore_n 3, 1) := dk_62 (dk_at dksX3_areJoined_2 23 rfl rfl)
theorem dX3_areJoined_70 : decode cX3_areJoined 70 = .ok (.iinc 4 1, 3) := dk_132 4 1 (dk_at dksX3_areJoined_3 0 rfl rfl)
theorem dX3_areJoined_73 : decode cX3_areJoined 73 = .ok (.goto (-68), 3) := dk_167 255 188 (dk_at dksX3_areJoined_3 3 rfl rfl)
theorem dX3_areJoined_76 : decode cX3_areJoined 76 = .ok (.iload_n 3, 1) := dk_29 (dk_at dksX3_areJoined_3 6 rfl rfl)
theorem dX3_areJoined_77 : decode cX3_areJoined 77 = .ok (.ireturn, 1) := dk_172 (dk_at dksX3_areJoined_3 7 rfl rfl)
abbrev cX3_loser : ByteArray := prog_22_method_52_code
def yX3_loser : MethodName := ⟨RX3, "loser", "(II)I"⟩
def dkwX3_loser_5 : List UInt8 := [42, 182, 0, 183, 29, 156, 0, 8, 18, 81, 167, 0, 13, 28, 154, 0, 7, 29, 167, 0, 5, 21, 4, 172]
abbrev dktX3_loser_5 : List UInt8 := dkwX3_loser_5 ++ []
def dkwX3_loser_4 : List UInt8 := [29, 155, 0, 10, 21, 6, 21, 4, 164, 0, 10, 21, 5, 62, 21, 6, 54, 4, 132, 5, 1, 167, 255, 208]
abbrev dktX3_loser_4 : List UInt8 := dkwX3_loser_4 ++ dktX3_loser_5
def dkwX3_loser_3 : List UInt8 := [180, 0, 9, 4, 46, 162, 0, 43, 42, 180, 0, 25, 21, 5, 46, 42, 21, 5, 182, 0, 96, 100, 54, 6]
abbrev dktX3_loser_3 : List UInt8 := dkwX3_loser_3 ++ dktX3_loser_4
def dkwX3_loser_2 : List UInt8 := [167, 255, 232, 42, 182, 0, 180, 42, 27, 182, 0, 171, 2, 62, 3, 54, 4, 3, 54, 5, 21, 5, 42]
abbrev dktX3_loser_2 : List UInt8 := dkwX3_loser_2 ++ dktX3_loser_3
def dkwX3_loser_1 : List UInt8 := [29, 42, 180, 0, 9, 4, 46, 162, 0, 20, 42, 180, 0, 25, 29, 42, 29, 182, 0, 96, 79, 132, 3, 1]
abbrev dktX3_loser_1 : List UInt8 := dkwX3_loser_1 ++ dktX3_loser_2
def dkwX3_loser_0 : List UInt8 := [27, 4, 16, 60, 184, 0, 82, 153, 0, 12, 28, 3, 4, 184, 0, 82, 154, 0, 6, 18, 86, 172, 3, 62]
abbrev dktX3_loser_0 : List UInt8 := dkwX3_loser_0 ++ dktX3_loser_1
theorem dksX3_loser_0 : cX3_loser.data.toList.drop 0 = dktX3_loser_0 := by decide +kernel
theorem dksX3_loser_1 : cX3_loser.data.toList.drop 24 = dktX3_loser_1 := dk_seg dksX3_loser_0 24 rfl rfl
theorem dksX3_loser_2 : cX3_loser.data.toList.drop 48 = dktX3_loser_2 := dk_seg dksX3_loser_1 24 rfl rfl
theorem dksX3_loser_3 : cX3_loser.data.toList.drop 71 = dktX3_loser_3 := dk_seg dksX3_loser_2 23 rfl rfl
theorem dksX3_loser_4 : cX3_loser.data.toList.drop 95 = dktX3_loser_4 := dk_seg dksX3_loser_3 24 rfl rfl
theorem dksX3_loser_5 : cX3_loser.data.toList.drop 119 = dktX3_loser_5 := dk_seg dksX3_loser_4 24 rfl rfl
theorem dX3_loser_0 : decode cX3_loser 0 = .ok (.iload_n 1, 1) := dk_27 (dk_at dksX3_loser_0 0 rfl rfl)
theorem dX3_loser_1 : decode cX3_loser 1 = .ok (.iconst 1, 1) := dk_4 (dk_at dksX3_loser_0 1 rfl rfl)
theorem dX3_loser_2 : decode cX3_loser 2 = .ok (.bipush 60, 2) := dk_16 60 (dk_at dksX3_loser_0 2 rfl rfl)
theorem dX3_loser_4 : decode cX3_loser 4 = .ok (.invokestatic 82, 3) := dk_184 0 82 (dk_at dksX3_loser_0 4 rfl rfl)
theorem dX3_loser_7 : decode cX3_loser 7 = .ok (.ifCond .eq 12, 3) := dk_153 0 12 (dk_at dksX3_loser_0 7 rfl rfl)
theorem dX3_loser_10 : decode cX3_loser 10 = .ok (.iload_n 2, 1) := dk_28 (dk_at dksX3_loser_0 10 rfl rfl)
theorem dX3_loser_11 : decode cX3_loser 11 = .ok (.iconst 0, 1) := dk_3 (dk_at dksX3_loser_0 11 rfl rfl)
theorem dX3_loser_12 : decode cX3_loser 12 = .ok (.iconst 1, 1) := dk_4 (dk_at dksX3_loser_0 12 rfl rfl)
theorem dX3_loser_13 : decode cX3_loser 13 = .ok (.invokestatic 82, 3) := dk_184 0 82 (dk_at dksX3_loser_0 13 rfl rfl)
theorem dX3_loser_16 : decode cX3_loser 16 = .ok (.ifCond .ne 6, 3) := dk_154 0 6 (dk_at dksX3_loser_0 16 rfl rfl)
theorem dX3_loser_19 : decode cX3_loser 19 = .ok (.ldc 86, 2) := dk_18 86 (dk_at dksX3_loser_0 19 rfl rfl)
theorem dX3_loser_21 : decode cX3_loser 21 = .ok (.ireturn, 1) := dk_172 (dk_at dksX3_loser_0 21 rfl rfl)
theorem dX3_loser_22 : decode cX3_loser 22 = .ok (.iconst 0, 1) := dk_3 (dk_at dksX3_loser_0 22 rfl rfl)
theorem dX3_loser_23 : decode cX3_loser 23 = .ok (.istore_n 3, 1) := dk_62 (dk_at dksX3_loser_0 23 rfl rfl)
theorem dX3_loser_24 : decode cX3_loser 24 = .ok (.iload_n 3, 1) := dk_29 (dk_at dksX3_loser_1 0 rfl rfl)
theorem dX3_loser_25 : decode cX3_loser 25 = .ok (.aload_n 0, 1) := dk_42 (dk_at dksX3_loser_1 1 rfl rfl)
theorem dX3_loser_26 : decode cX3_loser 26 = .ok (.getfield 9, 3) := dk_180 0 9 (dk_at dksX3_loser_1 2 rfl rfl)
theorem dX3_loser_29 : decode cX3_loser 29 = .ok (.iconst 1, 1) := dk_4 (dk_at dksX3_loser_1 5 rfl rfl)
theorem dX3_loser_30 : decode cX3_loser 30 = .ok (.iaload, 1) := dk_46 (dk_at dksX3_loser_1 6 rfl rfl)
theorem dX3_loser_31 : decode cX3_loser 31 = .ok (.if_icmp .ge 20, 3) := dk_162 0 20 (dk_at dksX3_loser_1 7 rfl rfl)
theorem dX3_loser_34 : decode cX3_loser 34 = .ok (.aload_n 0, 1) := dk_42 (dk_at dksX3_loser_1 10 rfl rfl)
theorem dX3_loser_35 : decode cX3_loser 35 = .ok (.getfield 25, 3) := dk_180 0 25 (dk_at dksX3_loser_1 11 rfl rfl)
theorem dX3_loser_38 : decode cX3_loser 38 = .ok (.iload_n 3, 1) := dk_29 (dk_at dksX3_loser_1 14 rfl rfl)
theorem dX3_loser_39 : decode cX3_loser 39 = .ok (.aload_n 0, 1) := dk_42 (dk_at dksX3_loser_1 15 rfl rfl)
theorem dX3_loser_40 : decode cX3_loser 40 = .ok (.iload_n 3, 1) := dk_29 (dk_at dksX3_loser_1 16 rfl rfl)
theorem dX3_loser_41 : decode cX3_loser 41 = .ok (.invokevirtual 96, 3) := dk_182 0 96 (dk_at dksX3_loser_1 17 rfl rfl)
theorem dX3_loser_44 : decode cX3_loser 44 = .ok (.iastore, 1) := dk_79 (dk_at dksX3_loser_1 20 rfl rfl)
theorem dX3_loser_45 : decode cX3_loser 45 = .ok (.iinc 3 1, 3) := dk_132 3 1 (dk_at dksX3_loser_1 21 rfl rfl)
theorem dX3_loser_48 : decode cX3_loser 48 = .ok (.goto (-24), 3) := dk_167 255 232 (dk_at dksX3_loser_2 0 rfl rfl)
theorem dX3_loser_51 : decode cX3_loser 51 = .ok (.aload_n 0, 1) := dk_42 (dk_at dksX3_loser_2 3 rfl rfl)
theorem dX3_loser_52 : decode cX3_loser 52 = .ok (.invokevirtual 180, 3) := dk_182 0 180 (dk_at dksX3_loser_2 4 rfl rfl)
theorem dX3_loser_55 : decode cX3_loser 55 = .ok (.aload_n 0, 1) := dk_42 (dk_at dksX3_loser_2 7 rfl rfl)
theorem dX3_loser_56 : decode cX3_loser 56 = .ok (.iload_n 1, 1) := dk_27 (dk_at dksX3_loser_2 8 rfl rfl)
theorem dX3_loser_57 : decode cX3_loser 57 = .ok (.invokevirtual 171, 3) := dk_182 0 171 (dk_at dksX3_loser_2 9 rfl rfl)
theorem dX3_loser_60 : decode cX3_loser 60 = .ok (.iconst (-1), 1) := dk_2 (dk_at dksX3_loser_2 12 rfl rfl)
theorem dX3_loser_61 : decode cX3_loser 61 = .ok (.istore_n 3, 1) := dk_62 (dk_at dksX3_loser_2 13 rfl rfl)
theorem dX3_loser_62 : decode cX3_loser 62 = .ok (.iconst 0, 1) := dk_3 (dk_at dksX3_loser_2 14 rfl rfl)
theorem dX3_loser_63 : decode cX3_loser 63 = .ok (.istore 4, 2) := dk_54 4 (dk_at dksX3_loser_2 15 rfl rfl)
theorem dX3_loser_65 : decode cX3_loser 65 = .ok (.iconst 0, 1) := dk_3 (dk_at dksX3_loser_2 17 rfl rfl)
theorem dX3_loser_66 : decode cX3_loser 66 = .ok (.istore 5, 2) := dk_54 5 (dk_at dksX3_loser_2 18 rfl rfl)
theorem dX3_loser_68 : decode cX3_loser 68 = .ok (.iload 5, 2) := dk_21 5 (dk_at dksX3_loser_2 20 rfl rfl)
theorem dX3_loser_70 : decode cX3_loser 70 = .ok (.aload_n 0, 1) := dk_42 (dk_at dksX3_loser_2 22 rfl rfl)
theorem dX3_loser_71 : decode cX3_loser 71 = .ok (.getfield 9, 3) := dk_180 0 9 (dk_at dksX3_loser_3 0 rfl rfl)
theorem dX3_loser_74 : decode cX3_loser 74 = .ok (.iconst 1, 1) := dk_4 (dk_at dksX3_loser_3 3 rfl rfl)
theorem dX3_loser_75 : decode cX3_loser 75 = .ok (.iaload, 1) := dk_46 (dk_at dksX3_loser_3 4 rfl rfl)
theorem dX3_loser_76 : decode cX3_loser 76 = .ok (.if_icmp .ge 43, 3) := dk_162 0 43 (dk_at dksX3_loser_3 5 rfl rfl)
theorem dX3_loser_79 : decode cX3_loser 79 = .ok (.aload_n 0, 1) := dk_42 (dk_at dksX3_loser_3 8 rfl rfl)
theorem dX3_loser_80 : decode cX3_loser 80 = .ok (.getfield 25, 3) := dk_180 0 25 (dk_at dksX3_loser_3 9 rfl rfl)
theorem dX3_loser_83 : decode cX3_loser 83 = .ok (.iload 5, 2) := dk_21 5 (dk_at dksX3_loser_3 12 rfl rfl)
theorem dX3_loser_85 : decode cX3_loser 85 = .ok (.iaload, 1) := dk_46 (dk_at dksX3_loser_3 14 rfl rfl)
theorem dX3_loser_86 : decode cX3_loser 86 = .ok (.aload_n 0, 1) := dk_42 (dk_at dksX3_loser_3 15 rfl rfl)
theorem dX3_loser_87 : decode cX3_loser 87 = .ok (.iload 5, 2) := dk_21 5 (dk_at dksX3_loser_3 16 rfl rfl)
theorem dX3_loser_89 : decode cX3_loser 89 = .ok (.invokevirtual 96, 3) := dk_182 0 96 (dk_at dksX3_loser_3 18 rfl rfl)
theorem dX3_loser_92 : decode cX3_loser 92 = .ok (.isub, 1) := dk_100 (dk_at dksX3_loser_3 21 rfl rfl)
theorem dX3_loser_93 : decode cX3_loser 93 = .ok (.istore 6, 2) := dk_54 6 (dk_at dksX3_loser_3 22 rfl rfl)
theorem dX3_loser_95 : decode cX3_loser 95 = .ok (.iload_n 3, 1) := dk_29 (dk_at dksX3_loser_4 0 rfl rfl)
theorem dX3_loser_96 : decode cX3_loser 96 = .ok (.ifCond .lt 10, 3) := dk_155 0 10 (dk_at dksX3_loser_4 1 rfl rfl)
theorem dX3_loser_99 : decode cX3_loser 99 = .ok (.iload 6, 2) := dk_21 6 (dk_at dksX3_loser_4 4 rfl rfl)
theorem dX3_loser_101 : decode cX3_loser 101 = .ok (.iload 4, 2) := dk_21 4 (dk_at dksX3_loser_4 6 rfl rfl)
theorem dX3_loser_103 : decode cX3_loser 103 = .ok (.if_icmp .le 10, 3) := dk_164 0 10 (dk_at dksX3_loser_4 8 rfl rfl)
theorem dX3_loser_106 : decode cX3_loser 106 = .ok (.iload 5, 2) := dk_21 5 (dk_at dksX3_loser_4 11 rfl rfl)
theorem dX3_loser_108 : decode cX3_loser 108 = .ok (.istore_n 3, 1) := dk_62 (dk_at dksX3_loser_4 13 rfl rfl)
theorem dX3_loser_109 : decode cX3_loser 109 = .ok (.iload 6, 2) := dk_21 6 (dk_at dksX3_loser_4 14 rfl rfl)
theorem dX3_loser_111 : decode cX3_loser 111 = .ok (.istore 4, 2) := dk_54 4 (dk_at dksX3_loser_4 16 rfl rfl)
theorem dX3_loser_113 : decode cX3_loser 113 = .ok (.iinc 5 1, 3) := dk_132 5 1 (dk_at dksX3_loser_4 18 rfl rfl)
theorem dX3_loser_116 : decode cX3_loser 116 = .ok (.goto (-48), 3) := dk_167 255 208 (dk_at dksX3_loser_4 21 rfl rfl)
theorem dX3_loser_119 : decode cX3_loser 119 = .ok (.aload_n 0, 1) := dk_42 (dk_at dksX3_loser_5 0 rfl rfl)
theorem dX3_loser_120 : decode cX3_loser 120 = .ok (.invokevirtual 183, 3) := dk_182 0 183 (dk_at dksX3_loser_5 1 rfl rfl)
theorem dX3_loser_123 : decode cX3_loser 123 = .ok (.iload_n 3, 1) := dk_29 (dk_at dksX3_loser_5 4 rfl rfl)
theorem dX3_loser_124 : decode cX3_loser 124 = .ok (.ifCond .ge 8, 3) := dk_156 0 8 (dk_at dksX3_loser_5 5 rfl rfl)
theorem dX3_loser_127 : decode cX3_loser 127 = .ok (.ldc 81, 2) := dk_18 81 (dk_at dksX3_loser_5 8 rfl rfl)
theorem dX3_loser_129 : decode cX3_loser 129 = .ok (.goto 13, 3) := dk_167 0 13 (dk_at dksX3_loser_5 10 rfl rfl)
theorem dX3_loser_132 : decode cX3_loser 132 = .ok (.iload_n 2, 1) := dk_28 (dk_at dksX3_loser_5 13 rfl rfl)
theorem dX3_loser_133 : decode cX3_loser 133 = .ok (.ifCond .ne 7, 3) := dk_154 0 7 (dk_at dksX3_loser_5 14 rfl rfl)
theorem dX3_loser_136 : decode cX3_loser 136 = .ok (.iload_n 3, 1) := dk_29 (dk_at dksX3_loser_5 17 rfl rfl)
theorem dX3_loser_137 : decode cX3_loser 137 = .ok (.goto 5, 3) := dk_167 0 5 (dk_at dksX3_loser_5 18 rfl rfl)
theorem dX3_loser_140 : decode cX3_loser 140 = .ok (.iload 4, 2) := dk_21 4 (dk_at dksX3_loser_5 21 rfl rfl)
theorem dX3_loser_142 : decode cX3_loser 142 = .ok (.ireturn, 1) := dk_172 (dk_at dksX3_loser_5 23 rfl rfl)
abbrev cX3_tap : ByteArray := prog_22_method_54_code
def yX3_tap : MethodName := ⟨RX3, "tap", "(II)I"⟩
def dkwX3_tap_3 : List UInt8 := [182, 0, 189, 100, 172]
abbrev dktX3_tap_3 : List UInt8 := dkwX3_tap_3 ++ []
def dkwX3_tap_2 : List UInt8 := [16, 7, 16, 6, 27, 104, 96, 6, 96, 21, 4, 96, 3, 79, 132, 4, 1, 167, 255, 229, 29, 42, 27, 28]
abbrev dktX3_tap_2 : List UInt8 := dkwX3_tap_2 ++ dktX3_tap_3
def dkwX3_tap_1 : List UInt8 := [182, 0, 180, 42, 27, 28, 182, 0, 189, 62, 3, 54, 4, 21, 4, 6, 162, 0, 27, 42, 180, 0, 9]
abbrev dktX3_tap_1 : List UInt8 := dkwX3_tap_1 ++ dktX3_tap_2
def dkwX3_tap_0 : List UInt8 := [42, 27, 182, 0, 112, 153, 0, 13, 28, 4, 16, 60, 184, 0, 82, 154, 0, 6, 18, 86, 172, 42]
abbrev dktX3_tap_0 : List UInt8 := dkwX3_tap_0 ++ dktX3_tap_1
theorem dksX3_tap_0 : cX3_tap.data.toList.drop 0 = dktX3_tap_0 := by decide +kernel
theorem dksX3_tap_1 : cX3_tap.data.toList.drop 22 = dktX3_tap_1 := dk_seg dksX3_tap_0 22 rfl rfl
theorem dksX3_tap_2 : cX3_tap.data.toList.drop 45 = dktX3_tap_2 := dk_seg dksX3_tap_1 23 rfl rfl
theorem dksX3_tap_3 : cX3_tap.data.toList.drop 69 = dktX3_tap_3 := dk_seg dksX3_tap_2 24 rfl rfl
theorem dX3_tap_0 : decode cX3_tap 0 = .ok (.aload_n 0, 1) := dk_42 (dk_at dksX3_tap_0 0 rfl rfl)
theorem dX3_tap_1 : decode cX3_tap 1 = .ok (.iload_n 1, 1) := dk_27 (dk_at dksX3_tap_0 1 rfl rfl)
theorem dX3_tap_2 : decode cX3_tap 2 = .ok (.invokevirtual 112, 3) := dk_182 0 112 (dk_at dksX3_tap_0 2 rfl rfl)
theorem dX3_tap_5 : decode cX3_tap 5 = .ok (.ifCond .eq 13, 3) := dk_153 0 13 (dk_at dksX3_tap_0 5 rfl rfl)
theorem dX3_tap_8 : decode cX3_tap 8 = .ok (.iload_n 2, 1) := dk_28 (dk_at dksX3_tap_0 8 rfl rfl)
theorem dX3_tap_9 : decode cX3_tap 9 = .ok (.iconst 1, 1) := dk_4 (dk_at dksX3_tap_0 9 rfl rfl)
theorem dX3_tap_10 : decode cX3_tap 10 = .ok (.bipush 60, 2) := dk_16 60 (dk_at dksX3_tap_0 10 rfl rfl)
theorem dX3_tap_12 : decode cX3_tap 12 = .ok (.invokestatic 82, 3) := dk_184 0 82 (dk_at dksX3_tap_0 12 rfl rfl)
theorem dX3_tap_15 : decode cX3_tap 15 = .ok (.ifCond .ne 6, 3) := dk_154 0 6 (dk_at dksX3_tap_0 15 rfl rfl)
theorem dX3_tap_18 : decode cX3_tap 18 = .ok (.ldc 86, 2) := dk_18 86 (dk_at dksX3_tap_0 18 rfl rfl)
theorem dX3_tap_20 : decode cX3_tap 20 = .ok (.ireturn, 1) := dk_172 (dk_at dksX3_tap_0 20 rfl rfl)
theorem dX3_tap_21 : decode cX3_tap 21 = .ok (.aload_n 0, 1) := dk_42 (dk_at dksX3_tap_0 21 rfl rfl)
theorem dX3_tap_22 : decode cX3_tap 22 = .ok (.invokevirtual 180, 3) := dk_182 0 180 (dk_at dksX3_tap_1 0 rfl rfl)
theorem dX3_tap_25 : decode cX3_tap 25 = .ok (.aload_n 0, 1) := dk_42 (dk_at dksX3_tap_1 3 rfl rfl)
theorem dX3_tap_26 : decode cX3_tap 26 = .ok (.iload_n 1, 1) := dk_27 (dk_at dksX3_tap_1 4 rfl rfl)
theorem dX3_tap_27 : decode cX3_tap 27 = .ok (.iload_n 2, 1) := dk_28 (dk_at dksX3_tap_1 5 rfl rfl)
theorem dX3_tap_28 : decode cX3_tap 28 = .ok (.invokevirtual 189, 3) := dk_182 0 189 (dk_at dksX3_tap_1 6 rfl rfl)
theorem dX3_tap_31 : decode cX3_tap 31 = .ok (.istore_n 3, 1) := dk_62 (dk_at dksX3_tap_1 9 rfl rfl)
theorem dX3_tap_32 : decode cX3_tap 32 = .ok (.iconst 0, 1) := dk_3 (dk_at dksX3_tap_1 10 rfl rfl)
theorem dX3_tap_33 : decode cX3_tap 33 = .ok (.istore 4, 2) := dk_54 4 (dk_at dksX3_tap_1 11 rfl rfl)
theorem dX3_tap_35 : decode cX3_tap 35 = .ok (.iload 4, 2) := dk_21 4 (dk_at dksX3_tap_1 13 rfl rfl)
theorem dX3_tap_37 : decode cX3_tap 37 = .ok (.iconst 3, 1) := dk_6 (dk_at dksX3_tap_1 15 rfl rfl)
theorem dX3_tap_38 : decode cX3_tap 38 = .ok (.if_icmp .ge 27, 3) := dk_162 0 27 (dk_at dksX3_tap_1 16 rfl rfl)
theorem dX3_tap_41 : decode cX3_tap 41 = .ok (.aload_n 0, 1) := dk_42 (dk_at dksX3_tap_1 19 rfl rfl)
theorem dX3_tap_42 : decode cX3_tap 42 = .ok (.getfield 9, 3) := dk_180 0 9 (dk_at dksX3_tap_1 20 rfl rfl)
theorem dX3_tap_45 : decode cX3_tap 45 = .ok (.bipush 7, 2) := dk_16 7 (dk_at dksX3_tap_2 0 rfl rfl)
theorem dX3_tap_47 : decode cX3_tap 47 = .ok (.bipush 6, 2) := dk_16 6 (dk_at dksX3_tap_2 2 rfl rfl)
theorem dX3_tap_49 : decode cX3_tap 49 = .ok (.iload_n 1, 1) := dk_27 (dk_at dksX3_tap_2 4 rfl rfl)
theorem dX3_tap_50 : decode cX3_tap 50 = .ok (.imul, 1) := dk_104 (dk_at dksX3_tap_2 5 rfl rfl)
theorem dX3_tap_51 : decode cX3_tap 51 = .ok (.iadd, 1) := dk_96 (dk_at dksX3_tap_2 6 rfl rfl)
theorem dX3_tap_52 : decode cX3_tap 52 = .ok (.iconst 3, 1) := dk_6 (dk_at dksX3_tap_2 7 rfl rfl)
theorem dX3_tap_53 : decode cX3_tap 53 = .ok (.iadd, 1) := dk_96 (dk_at dksX3_tap_2 8 rfl rfl)
theorem dX3_tap_54 : decode cX3_tap 54 = .ok (.iload 4, 2) := dk_21 4 (dk_at dksX3_tap_2 9 rfl rfl)
theorem dX3_tap_56 : decode cX3_tap 56 = .ok (.iadd, 1) := dk_96 (dk_at dksX3_tap_2 11 rfl rfl)
theorem dX3_tap_57 : decode cX3_tap 57 = .ok (.iconst 0, 1) := dk_3 (dk_at dksX3_tap_2 12 rfl rfl)
theorem dX3_tap_58 : decode cX3_tap 58 = .ok (.iastore, 1) := dk_79 (dk_at dksX3_tap_2 13 rfl rfl)
theorem dX3_tap_59 : decode cX3_tap 59 = .ok (.iinc 4 1, 3) := dk_132 4 1 (dk_at dksX3_tap_2 14 rfl rfl)
theorem dX3_tap_62 : decode cX3_tap 62 = .ok (.goto (-27), 3) := dk_167 255 229 (dk_at dksX3_tap_2 17 rfl rfl)
theorem dX3_tap_65 : decode cX3_tap 65 = .ok (.iload_n 3, 1) := dk_29 (dk_at dksX3_tap_2 20 rfl rfl)
theorem dX3_tap_66 : decode cX3_tap 66 = .ok (.aload_n 0, 1) := dk_42 (dk_at dksX3_tap_2 21 rfl rfl)
theorem dX3_tap_67 : decode cX3_tap 67 = .ok (.iload_n 1, 1) := dk_27 (dk_at dksX3_tap_2 22 rfl rfl)
theorem dX3_tap_68 : decode cX3_tap 68 = .ok (.iload_n 2, 1) := dk_28 (dk_at dksX3_tap_2 23 rfl rfl)
theorem dX3_tap_69 : decode cX3_tap 69 = .ok (.invokevirtual 189, 3) := dk_182 0 189 (dk_at dksX3_tap_3 0 rfl rfl)
theorem dX3_tap_72 : decode cX3_tap 72 = .ok (.isub, 1) := dk_100 (dk_at dksX3_tap_3 3 rfl rfl)
theorem dX3_tap_73 : decode cX3_tap 73 = .ok (.ireturn, 1) := dk_172 (dk_at dksX3_tap_3 4 rfl rfl)
abbrev cX3_othersBehind : ByteArray := prog_22_method_53_code
def yX3_othersBehind : MethodName := ⟨RX3, "othersBehind", "(II)I"⟩
def dkwX3_othersBehind_0 : List UInt8 := [42, 28, 182, 0, 171, 42, 182, 0, 174, 42, 27, 182, 0, 96, 100, 62, 42, 182, 0, 183, 29, 172]
abbrev dktX3_othersBehind_0 : List UInt8 := dkwX3_othersBehind_0 ++ []
theorem dksX3_othersBehind_0 : cX3_othersBehind.data.toList.drop 0 = dktX3_othersBehind_0 := by decide +kernel
theorem dX3_othersBehind_0 : decode cX3_othersBehind 0 = .ok (.aload_n 0, 1) := dk_42 (dk_at dksX3_othersBehind_0 0 rfl rfl)
theorem dX3_othersBehind_1 : decode cX3_othersBehind 1 = .ok (.iload_n 2, 1) := dk_28 (dk_at dksX3_othersBehind_0 1 rfl rfl)
theorem dX3_othersBehind_2 : decode cX3_othersBehind 2 = .ok (.invokevirtual 171, 3) := dk_182 0 171 (dk_at dksX3_othersBehind_0 2 rfl rfl)
theorem dX3_othersBehind_5 : decode cX3_othersBehind 5 = .ok (.aload_n 0, 1) := dk_42 (dk_at dksX3_othersBehind_0 5 rfl rfl)
theorem dX3_othersBehind_6 : decode cX3_othersBehind 6 = .ok (.invokevirtual 174, 3) := dk_182 0 174 (dk_at dksX3_othersBehind_0 6 rfl rfl)
theorem dX3_othersBehind_9 : decode cX3_othersBehind 9 = .ok (.aload_n 0, 1) := dk_42 (dk_at dksX3_othersBehind_0 9 rfl rfl)
theorem dX3_othersBehind_10 : decode cX3_othersBehind 10 = .ok (.iload_n 1, 1) := dk_27 (dk_at dksX3_othersBehind_0 10 rfl rfl)
theorem dX3_othersBehind_11 : decode cX3_othersBehind 11 = .ok (.invokevirtual 96, 3) := dk_182 0 96 (dk_at dksX3_othersBehind_0 11 rfl rfl)
theorem dX3_othersBehind_14 : decode cX3_othersBehind 14 = .ok (.isub, 1) := dk_100 (dk_at dksX3_othersBehind_0 14 rfl rfl)
theorem dX3_othersBehind_15 : decode cX3_othersBehind 15 = .ok (.istore_n 3, 1) := dk_62 (dk_at dksX3_othersBehind_0 15 rfl rfl)
theorem dX3_othersBehind_16 : decode cX3_othersBehind 16 = .ok (.aload_n 0, 1) := dk_42 (dk_at dksX3_othersBehind_0 16 rfl rfl)
theorem dX3_othersBehind_17 : decode cX3_othersBehind 17 = .ok (.invokevirtual 183, 3) := dk_182 0 183 (dk_at dksX3_othersBehind_0 17 rfl rfl)
theorem dX3_othersBehind_20 : decode cX3_othersBehind 20 = .ok (.iload_n 3, 1) := dk_29 (dk_at dksX3_othersBehind_0 20 rfl rfl)
theorem dX3_othersBehind_21 : decode cX3_othersBehind 21 = .ok (.ireturn, 1) := dk_172 (dk_at dksX3_othersBehind_0 21 rfl rfl)
abbrev cX3_dug : ByteArray := prog_22_method_56_code
def yX3_dug : MethodName := ⟨RX3, "dug", "(III)I"⟩
def dkwX3_dug_6 : List UInt8 := [167, 0, 6, 22, 5, 136, 172]
abbrev dktX3_dug_6 : List UInt8 := dkwX3_dug_6 ++ []
def dkwX3_dug_5 : List UInt8 := [167, 0, 5, 22, 5, 55, 5, 132, 7, 1, 167, 255, 185, 29, 154, 0, 11, 21, 4, 184, 0, 200]
abbrev dktX3_dug_5 : List UInt8 := dkwX3_dug_5 ++ dktX3_dug_6
def dkwX3_dug_4 : List UInt8 := [156, 0, 8, 21, 7, 167, 0, 5, 21, 4, 54, 4, 22, 8, 22, 5, 148, 156, 0, 8, 22, 8]
abbrev dktX3_dug_4 : List UInt8 := dkwX3_dug_4 ++ dktX3_dug_5
def dkwX3_dug_3 : List UInt8 := [16, 55, 7, 21, 7, 104, 96, 6, 96, 4, 79, 42, 27, 28, 182, 0, 196, 55, 8, 22, 8, 22, 5, 148]
abbrev dktX3_dug_3 : List UInt8 := dkwX3_dug_3 ++ dktX3_dug_4
def dkwX3_dug_2 : List UInt8 := [28, 182, 0, 196, 55, 5, 3, 54, 7, 21, 7, 42, 180, 0, 9, 5, 46, 162, 0, 66, 42, 180, 0, 9]
abbrev dktX3_dug_2 : List UInt8 := dkwX3_dug_2 ++ dktX3_dug_3
def dkwX3_dug_1 : List UInt8 := [18, 86, 172, 42, 180, 0, 54, 27, 46, 156, 0, 6, 18, 195, 172, 42, 182, 0, 180, 2, 54, 4, 42, 27]
abbrev dktX3_dug_1 : List UInt8 := dkwX3_dug_1 ++ dktX3_dug_2
def dkwX3_dug_0 : List UInt8 := [27, 184, 0, 192, 153, 0, 20, 42, 28, 182, 0, 112, 153, 0, 12, 29, 3, 4, 184, 0, 82, 154, 0, 6]
abbrev dktX3_dug_0 : List UInt8 := dkwX3_dug_0 ++ dktX3_dug_1
theorem dksX3_dug_0 : cX3_dug.data.toList.drop 0 = dktX3_dug_0 := by decide +kernel
theorem dksX3_dug_1 : cX3_dug.data.toList.drop 24 = dktX3_dug_1 := dk_seg dksX3_dug_0 24 rfl rfl
theorem dksX3_dug_2 : cX3_dug.data.toList.drop 48 = dktX3_dug_2 := dk_seg dksX3_dug_1 24 rfl rfl
theorem dksX3_dug_3 : cX3_dug.data.toList.drop 72 = dktX3_dug_3 := dk_seg dksX3_dug_2 24 rfl rfl
theorem dksX3_dug_4 : cX3_dug.data.toList.drop 96 = dktX3_dug_4 := dk_seg dksX3_dug_3 24 rfl rfl
theorem dksX3_dug_5 : cX3_dug.data.toList.drop 118 = dktX3_dug_5 := dk_seg dksX3_dug_4 22 rfl rfl
theorem dksX3_dug_6 : cX3_dug.data.toList.drop 140 = dktX3_dug_6 := dk_seg dksX3_dug_5 22 rfl rfl
theorem dX3_dug_0 : decode cX3_dug 0 = .ok (.iload_n 1, 1) := dk_27 (dk_at dksX3_dug_0 0 rfl rfl)
theorem dX3_dug_1 : decode cX3_dug 1 = .ok (.invokestatic 192, 3) := dk_184 0 192 (dk_at dksX3_dug_0 1 rfl rfl)
theorem dX3_dug_4 : decode cX3_dug 4 = .ok (.ifCond .eq 20, 3) := dk_153 0 20 (dk_at dksX3_dug_0 4 rfl rfl)
theorem dX3_dug_7 : decode cX3_dug 7 = .ok (.aload_n 0, 1) := dk_42 (dk_at dksX3_dug_0 7 rfl rfl)
theorem dX3_dug_8 : decode cX3_dug 8 = .ok (.iload_n 2, 1) := dk_28 (dk_at dksX3_dug_0 8 rfl rfl)
theorem dX3_dug_9 : decode cX3_dug 9 = .ok (.invokevirtual 112, 3) := dk_182 0 112 (dk_at dksX3_dug_0 9 rfl rfl)
theorem dX3_dug_12 : decode cX3_dug 12 = .ok (.ifCond .eq 12, 3) := dk_153 0 12 (dk_at dksX3_dug_0 12 rfl rfl)
theorem dX3_dug_15 : decode cX3_dug 15 = .ok (.iload_n 3, 1) := dk_29 (dk_at dksX3_dug_0 15 rfl rfl)
theorem dX3_dug_16 : decode cX3_dug 16 = .ok (.iconst 0, 1) := dk_3 (dk_at dksX3_dug_0 16 rfl rfl)
theorem dX3_dug_17 : decode cX3_dug 17 = .ok (.iconst 1, 1) := dk_4 (dk_at dksX3_dug_0 17 rfl rfl)
theorem dX3_dug_18 : decode cX3_dug 18 = .ok (.invokestatic 82, 3) := dk_184 0 82 (dk_at dksX3_dug_0 18 rfl rfl)
theorem dX3_dug_21 : decode cX3_dug 21 = .ok (.ifCond .ne 6, 3) := dk_154 0 6 (dk_at dksX3_dug_0 21 rfl rfl)
theorem dX3_dug_24 : decode cX3_dug 24 = .ok (.ldc 86, 2) := dk_18 86 (dk_at dksX3_dug_1 0 rfl rfl)
theorem dX3_dug_26 : decode cX3_dug 26 = .ok (.ireturn, 1) := dk_172 (dk_at dksX3_dug_1 2 rfl rfl)
theorem dX3_dug_27 : decode cX3_dug 27 = .ok (.aload_n 0, 1) := dk_42 (dk_at dksX3_dug_1 3 rfl rfl)
theorem dX3_dug_28 : decode cX3_dug 28 = .ok (.getfield 54, 3) := dk_180 0 54 (dk_at dksX3_dug_1 4 rfl rfl)
theorem dX3_dug_31 : decode cX3_dug 31 = .ok (.iload_n 1, 1) := dk_27 (dk_at dksX3_dug_1 7 rfl rfl)
theorem dX3_dug_32 : decode cX3_dug 32 = .ok (.iaload, 1) := dk_46 (dk_at dksX3_dug_1 8 rfl rfl)
theorem dX3_dug_33 : decode cX3_dug 33 = .ok (.ifCond .ge 6, 3) := dk_156 0 6 (dk_at dksX3_dug_1 9 rfl rfl)
theorem dX3_dug_36 : decode cX3_dug 36 = .ok (.ldc 195, 2) := dk_18 195 (dk_at dksX3_dug_1 12 rfl rfl)
theorem dX3_dug_38 : decode cX3_dug 38 = .ok (.ireturn, 1) := dk_172 (dk_at dksX3_dug_1 14 rfl rfl)
theorem dX3_dug_39 : decode cX3_dug 39 = .ok (.aload_n 0, 1) := dk_42 (dk_at dksX3_dug_1 15 rfl rfl)
theorem dX3_dug_40 : decode cX3_dug 40 = .ok (.invokevirtual 180, 3) := dk_182 0 180 (dk_at dksX3_dug_1 16 rfl rfl)
theorem dX3_dug_43 : decode cX3_dug 43 = .ok (.iconst (-1), 1) := dk_2 (dk_at dksX3_dug_1 19 rfl rfl)
theorem dX3_dug_44 : decode cX3_dug 44 = .ok (.istore 4, 2) := dk_54 4 (dk_at dksX3_dug_1 20 rfl rfl)
theorem dX3_dug_46 : decode cX3_dug 46 = .ok (.aload_n 0, 1) := dk_42 (dk_at dksX3_dug_1 22 rfl rfl)
theorem dX3_dug_47 : decode cX3_dug 47 = .ok (.iload_n 1, 1) := dk_27 (dk_at dksX3_dug_1 23 rfl rfl)
theorem dX3_dug_48 : decode cX3_dug 48 = .ok (.iload_n 2, 1) := dk_28 (dk_at dksX3_dug_2 0 rfl rfl)
theorem dX3_dug_49 : decode cX3_dug 49 = .ok (.invokevirtual 196, 3) := dk_182 0 196 (dk_at dksX3_dug_2 1 rfl rfl)
theorem dX3_dug_52 : decode cX3_dug 52 = .ok (.lstore 5, 2) := dk_55 5 (dk_at dksX3_dug_2 4 rfl rfl)
theorem dX3_dug_54 : decode cX3_dug 54 = .ok (.iconst 0, 1) := dk_3 (dk_at dksX3_dug_2 6 rfl rfl)
theorem dX3_dug_55 : decode cX3_dug 55 = .ok (.istore 7, 2) := dk_54 7 (dk_at dksX3_dug_2 7 rfl rfl)
theorem dX3_dug_57 : decode cX3_dug 57 = .ok (.iload 7, 2) := dk_21 7 (dk_at dksX3_dug_2 9 rfl rfl)
theorem dX3_dug_59 : decode cX3_dug 59 = .ok (.aload_n 0, 1) := dk_42 (dk_at dksX3_dug_2 11 rfl rfl)
theorem dX3_dug_60 : decode cX3_dug 60 = .ok (.getfield 9, 3) := dk_180 0 9 (dk_at dksX3_dug_2 12 rfl rfl)
theorem dX3_dug_63 : decode cX3_dug 63 = .ok (.iconst 2, 1) := dk_5 (dk_at dksX3_dug_2 15 rfl rfl)
theorem dX3_dug_64 : decode cX3_dug 64 = .ok (.iaload, 1) := dk_46 (dk_at dksX3_dug_2 16 rfl rfl)
theorem dX3_dug_65 : decode cX3_dug 65 = .ok (.if_icmp .ge 66, 3) := dk_162 0 66 (dk_at dksX3_dug_2 17 rfl rfl)
theorem dX3_dug_68 : decode cX3_dug 68 = .ok (.aload_n 0, 1) := dk_42 (dk_at dksX3_dug_2 20 rfl rfl)
theorem dX3_dug_69 : decode cX3_dug 69 = .ok (.getfield 9, 3) := dk_180 0 9 (dk_at dksX3_dug_2 21 rfl rfl)
theorem dX3_dug_72 : decode cX3_dug 72 = .ok (.bipush 55, 2) := dk_16 55 (dk_at dksX3_dug_3 0 rfl rfl)
theorem dX3_dug_74 : decode cX3_dug 74 = .ok (.iconst 4, 1) := dk_7 (dk_at dksX3_dug_3 2 rfl rfl)
theorem dX3_dug_75 : decode cX3_dug 75 = .ok (.iload 7, 2) := dk_21 7 (dk_at dksX3_dug_3 3 rfl rfl)
theorem dX3_dug_77 : decode cX3_dug 77 = .ok (.imul, 1) := dk_104 (dk_at dksX3_dug_3 5 rfl rfl)
theorem dX3_dug_78 : decode cX3_dug 78 = .ok (.iadd, 1) := dk_96 (dk_at dksX3_dug_3 6 rfl rfl)
theorem dX3_dug_79 : decode cX3_dug 79 = .ok (.iconst 3, 1) := dk_6 (dk_at dksX3_dug_3 7 rfl rfl)
theorem dX3_dug_80 : decode cX3_dug 80 = .ok (.iadd, 1) := dk_96 (dk_at dksX3_dug_3 8 rfl rfl)
theorem dX3_dug_81 : decode cX3_dug 81 = .ok (.iconst 1, 1) := dk_4 (dk_at dksX3_dug_3 9 rfl rfl)
theorem dX3_dug_82 : decode cX3_dug 82 = .ok (.iastore, 1) := dk_79 (dk_at dksX3_dug_3 10 rfl rfl)
theorem dX3_dug_83 : decode cX3_dug 83 = .ok (.aload_n 0, 1) := dk_42 (dk_at dksX3_dug_3 11 rfl rfl)
theorem dX3_dug_84 : decode cX3_dug 84 = .ok (.iload_n 1, 1) := dk_27 (dk_at dksX3_dug_3 12 rfl rfl)
theorem dX3_dug_85 : decode cX3_dug 85 = .ok (.iload_n 2, 1) := dk_28 (dk_at dksX3_dug_3 13 rfl rfl)
theorem dX3_dug_86 : decode cX3_dug 86 = .ok (.invokevirtual 196, 3) := dk_182 0 196 (dk_at dksX3_dug_3 14 rfl rfl)
theorem dX3_dug_89 : decode cX3_dug 89 = .ok (.lstore 8, 2) := dk_55 8 (dk_at dksX3_dug_3 17 rfl rfl)
theorem dX3_dug_91 : decode cX3_dug 91 = .ok (.lload 8, 2) := dk_22 8 (dk_at dksX3_dug_3 19 rfl rfl)
theorem dX3_dug_93 : decode cX3_dug 93 = .ok (.lload 5, 2) := dk_22 5 (dk_at dksX3_dug_3 21 rfl rfl)
theorem dX3_dug_95 : decode cX3_dug 95 = .ok (.lcmp, 1) := dk_148 (dk_at dksX3_dug_3 23 rfl rfl)
theorem dX3_dug_96 : decode cX3_dug 96 = .ok (.ifCond .ge 8, 3) := dk_156 0 8 (dk_at dksX3_dug_4 0 rfl rfl)
theorem dX3_dug_99 : decode cX3_dug 99 = .ok (.iload 7, 2) := dk_21 7 (dk_at dksX3_dug_4 3 rfl rfl)
theorem dX3_dug_101 : decode cX3_dug 101 = .ok (.goto 5, 3) := dk_167 0 5 (dk_at dksX3_dug_4 5 rfl rfl)
theorem dX3_dug_104 : decode cX3_dug 104 = .ok (.iload 4, 2) := dk_21 4 (dk_at dksX3_dug_4 8 rfl rfl)
theorem dX3_dug_106 : decode cX3_dug 106 = .ok (.istore 4, 2) := dk_54 4 (dk_at dksX3_dug_4 10 rfl rfl)
theorem dX3_dug_108 : decode cX3_dug 108 = .ok (.lload 8, 2) := dk_22 8 (dk_at dksX3_dug_4 12 rfl rfl)
theorem dX3_dug_110 : decode cX3_dug 110 = .ok (.lload 5, 2) := dk_22 5 (dk_at dksX3_dug_4 14 rfl rfl)
theorem dX3_dug_112 : decode cX3_dug 112 = .ok (.lcmp, 1) := dk_148 (dk_at dksX3_dug_4 16 rfl rfl)
theorem dX3_dug_113 : decode cX3_dug 113 = .ok (.ifCond .ge 8, 3) := dk_156 0 8 (dk_at dksX3_dug_4 17 rfl rfl)
theorem dX3_dug_116 : decode cX3_dug 116 = .ok (.lload 8, 2) := dk_22 8 (dk_at dksX3_dug_4 20 rfl rfl)
theorem dX3_dug_118 : decode cX3_dug 118 = .ok (.goto 5, 3) := dk_167 0 5 (dk_at dksX3_dug_5 0 rfl rfl)
theorem dX3_dug_121 : decode cX3_dug 121 = .ok (.lload 5, 2) := dk_22 5 (dk_at dksX3_dug_5 3 rfl rfl)
theorem dX3_dug_123 : decode cX3_dug 123 = .ok (.lstore 5, 2) := dk_55 5 (dk_at dksX3_dug_5 5 rfl rfl)
theorem dX3_dug_125 : decode cX3_dug 125 = .ok (.iinc 7 1, 3) := dk_132 7 1 (dk_at dksX3_dug_5 7 rfl rfl)
theorem dX3_dug_128 : decode cX3_dug 128 = .ok (.goto (-71), 3) := dk_167 255 185 (dk_at dksX3_dug_5 10 rfl rfl)
theorem dX3_dug_131 : decode cX3_dug 131 = .ok (.iload_n 3, 1) := dk_29 (dk_at dksX3_dug_5 13 rfl rfl)
theorem dX3_dug_132 : decode cX3_dug 132 = .ok (.ifCond .ne 11, 3) := dk_154 0 11 (dk_at dksX3_dug_5 14 rfl rfl)
theorem dX3_dug_135 : decode cX3_dug 135 = .ok (.iload 4, 2) := dk_21 4 (dk_at dksX3_dug_5 17 rfl rfl)
theorem dX3_dug_137 : decode cX3_dug 137 = .ok (.invokestatic 200, 3) := dk_184 0 200 (dk_at dksX3_dug_5 19 rfl rfl)
theorem dX3_dug_140 : decode cX3_dug 140 = .ok (.goto 6, 3) := dk_167 0 6 (dk_at dksX3_dug_6 0 rfl rfl)
theorem dX3_dug_143 : decode cX3_dug 143 = .ok (.lload 5, 2) := dk_22 5 (dk_at dksX3_dug_6 3 rfl rfl)
theorem dX3_dug_145 : decode cX3_dug 145 = .ok (.l2i, 1) := dk_136 (dk_at dksX3_dug_6 5 rfl rfl)
theorem dX3_dug_146 : decode cX3_dug 146 = .ok (.ireturn, 1) := dk_172 (dk_at dksX3_dug_6 6 rfl rfl)
abbrev cX3_isSheet : ByteArray := prog_22_method_78_code
def yX3_isSheet : MethodName := ⟨RX3, "isSheet", "(I)Z"⟩
def dkwX3_isSheet_0 : List UInt8 := [26, 3, 6, 184, 0, 82, 172]
abbrev dktX3_isSheet_0 : List UInt8 := dkwX3_isSheet_0 ++ []
theorem dksX3_isSheet_0 : cX3_isSheet.data.toList.drop 0 = dktX3_isSheet_0 := by decide +kernel
theorem dX3_isSheet_0 : decode cX3_isSheet 0 = .ok (.iload_n 0, 1) := dk_26 (dk_at dksX3_isSheet_0 0 rfl rfl)
theorem dX3_isSheet_1 : decode cX3_isSheet 1 = .ok (.iconst 0, 1) := dk_3 (dk_at dksX3_isSheet_0 1 rfl rfl)
theorem dX3_isSheet_2 : decode cX3_isSheet 2 = .ok (.iconst 3, 1) := dk_6 (dk_at dksX3_isSheet_0 2 rfl rfl)
theorem dX3_isSheet_3 : decode cX3_isSheet 3 = .ok (.invokestatic 82, 3) := dk_184 0 82 (dk_at dksX3_isSheet_0 3 rfl rfl)
theorem dX3_isSheet_6 : decode cX3_isSheet 6 = .ok (.ireturn, 1) := dk_172 (dk_at dksX3_isSheet_0 6 rfl rfl)
abbrev cX3_offBy : ByteArray := prog_22_method_55_code
def yX3_offBy : MethodName := ⟨RX3, "offBy", "(II)J"⟩
def dkwX3_offBy_3 : List UInt8 := [42, 182, 0, 168, 132, 5, 1, 167, 255, 183, 42, 182, 0, 183, 33, 173]
abbrev dktX3_offBy_3 : List UInt8 := dkwX3_offBy_3 ++ []
def dkwX3_offBy_2 : List UInt8 := [160, 0, 7, 9, 167, 0, 18, 22, 7, 9, 148, 156, 0, 9, 22, 7, 117, 167, 0, 5, 22, 7, 97, 66]
abbrev dktX3_offBy_2 : List UInt8 := dkwX3_offBy_2 ++ dktX3_offBy_3
def dkwX3_offBy_1 : List UInt8 := [21, 5, 96, 46, 54, 6, 21, 6, 133, 42, 28, 182, 0, 116, 133, 101, 55, 7, 33, 21, 6, 18, 81]
abbrev dktX3_offBy_1 : List UInt8 := dkwX3_offBy_1 ++ dktX3_offBy_2
def dkwX3_offBy_0 : List UInt8 := [9, 66, 3, 54, 5, 21, 5, 42, 180, 0, 57, 27, 46, 162, 0, 68, 42, 180, 0, 60, 16, 24, 27, 104]
abbrev dktX3_offBy_0 : List UInt8 := dkwX3_offBy_0 ++ dktX3_offBy_1
theorem dksX3_offBy_0 : cX3_offBy.data.toList.drop 0 = dktX3_offBy_0 := by decide +kernel
theorem dksX3_offBy_1 : cX3_offBy.data.toList.drop 24 = dktX3_offBy_1 := dk_seg dksX3_offBy_0 24 rfl rfl
theorem dksX3_offBy_2 : cX3_offBy.data.toList.drop 47 = dktX3_offBy_2 := dk_seg dksX3_offBy_1 23 rfl rfl
theorem dksX3_offBy_3 : cX3_offBy.data.toList.drop 71 = dktX3_offBy_3 := dk_seg dksX3_offBy_2 24 rfl rfl
theorem dX3_offBy_0 : decode cX3_offBy 0 = .ok (.lconst 0, 1) := dk_9 (dk_at dksX3_offBy_0 0 rfl rfl)
theorem dX3_offBy_1 : decode cX3_offBy 1 = .ok (.lstore_n 3, 1) := dk_66 (dk_at dksX3_offBy_0 1 rfl rfl)
theorem dX3_offBy_2 : decode cX3_offBy 2 = .ok (.iconst 0, 1) := dk_3 (dk_at dksX3_offBy_0 2 rfl rfl)
theorem dX3_offBy_3 : decode cX3_offBy 3 = .ok (.istore 5, 2) := dk_54 5 (dk_at dksX3_offBy_0 3 rfl rfl)
theorem dX3_offBy_5 : decode cX3_offBy 5 = .ok (.iload 5, 2) := dk_21 5 (dk_at dksX3_offBy_0 5 rfl rfl)
theorem dX3_offBy_7 : decode cX3_offBy 7 = .ok (.aload_n 0, 1) := dk_42 (dk_at dksX3_offBy_0 7 rfl rfl)
theorem dX3_offBy_8 : decode cX3_offBy 8 = .ok (.getfield 57, 3) := dk_180 0 57 (dk_at dksX3_offBy_0 8 rfl rfl)
theorem dX3_offBy_11 : decode cX3_offBy 11 = .ok (.iload_n 1, 1) := dk_27 (dk_at dksX3_offBy_0 11 rfl rfl)
theorem dX3_offBy_12 : decode cX3_offBy 12 = .ok (.iaload, 1) := dk_46 (dk_at dksX3_offBy_0 12 rfl rfl)
theorem dX3_offBy_13 : decode cX3_offBy 13 = .ok (.if_icmp .ge 68, 3) := dk_162 0 68 (dk_at dksX3_offBy_0 13 rfl rfl)
theorem dX3_offBy_16 : decode cX3_offBy 16 = .ok (.aload_n 0, 1) := dk_42 (dk_at dksX3_offBy_0 16 rfl rfl)
theorem dX3_offBy_17 : decode cX3_offBy 17 = .ok (.getfield 60, 3) := dk_180 0 60 (dk_at dksX3_offBy_0 17 rfl rfl)
theorem dX3_offBy_20 : decode cX3_offBy 20 = .ok (.bipush 24, 2) := dk_16 24 (dk_at dksX3_offBy_0 20 rfl rfl)
theorem dX3_offBy_22 : decode cX3_offBy 22 = .ok (.iload_n 1, 1) := dk_27 (dk_at dksX3_offBy_0 22 rfl rfl)
theorem dX3_offBy_23 : decode cX3_offBy 23 = .ok (.imul, 1) := dk_104 (dk_at dksX3_offBy_0 23 rfl rfl)
theorem dX3_offBy_24 : decode cX3_offBy 24 = .ok (.iload 5, 2) := dk_21 5 (dk_at dksX3_offBy_1 0 rfl rfl)
theorem dX3_offBy_26 : decode cX3_offBy 26 = .ok (.iadd, 1) := dk_96 (dk_at dksX3_offBy_1 2 rfl rfl)
theorem dX3_offBy_27 : decode cX3_offBy 27 = .ok (.iaload, 1) := dk_46 (dk_at dksX3_offBy_1 3 rfl rfl)
theorem dX3_offBy_28 : decode cX3_offBy 28 = .ok (.istore 6, 2) := dk_54 6 (dk_at dksX3_offBy_1 4 rfl rfl)
theorem dX3_offBy_30 : decode cX3_offBy 30 = .ok (.iload 6, 2) := dk_21 6 (dk_at dksX3_offBy_1 6 rfl rfl)
theorem dX3_offBy_32 : decode cX3_offBy 32 = .ok (.i2l, 1) := dk_133 (dk_at dksX3_offBy_1 8 rfl rfl)
theorem dX3_offBy_33 : decode cX3_offBy 33 = .ok (.aload_n 0, 1) := dk_42 (dk_at dksX3_offBy_1 9 rfl rfl)
theorem dX3_offBy_34 : decode cX3_offBy 34 = .ok (.iload_n 2, 1) := dk_28 (dk_at dksX3_offBy_1 10 rfl rfl)
theorem dX3_offBy_35 : decode cX3_offBy 35 = .ok (.invokevirtual 116, 3) := dk_182 0 116 (dk_at dksX3_offBy_1 11 rfl rfl)
theorem dX3_offBy_38 : decode cX3_offBy 38 = .ok (.i2l, 1) := dk_133 (dk_at dksX3_offBy_1 14 rfl rfl)
theorem dX3_offBy_39 : decode cX3_offBy 39 = .ok (.lsub, 1) := dk_101 (dk_at dksX3_offBy_1 15 rfl rfl)
theorem dX3_offBy_40 : decode cX3_offBy 40 = .ok (.lstore 7, 2) := dk_55 7 (dk_at dksX3_offBy_1 16 rfl rfl)
theorem dX3_offBy_42 : decode cX3_offBy 42 = .ok (.lload_n 3, 1) := dk_33 (dk_at dksX3_offBy_1 18 rfl rfl)
theorem dX3_offBy_43 : decode cX3_offBy 43 = .ok (.iload 6, 2) := dk_21 6 (dk_at dksX3_offBy_1 19 rfl rfl)
theorem dX3_offBy_45 : decode cX3_offBy 45 = .ok (.ldc 81, 2) := dk_18 81 (dk_at dksX3_offBy_1 21 rfl rfl)
theorem dX3_offBy_47 : decode cX3_offBy 47 = .ok (.if_icmp .ne 7, 3) := dk_160 0 7 (dk_at dksX3_offBy_2 0 rfl rfl)
theorem dX3_offBy_50 : decode cX3_offBy 50 = .ok (.lconst 0, 1) := dk_9 (dk_at dksX3_offBy_2 3 rfl rfl)
theorem dX3_offBy_51 : decode cX3_offBy 51 = .ok (.goto 18, 3) := dk_167 0 18 (dk_at dksX3_offBy_2 4 rfl rfl)
theorem dX3_offBy_54 : decode cX3_offBy 54 = .ok (.lload 7, 2) := dk_22 7 (dk_at dksX3_offBy_2 7 rfl rfl)
theorem dX3_offBy_56 : decode cX3_offBy 56 = .ok (.lconst 0, 1) := dk_9 (dk_at dksX3_offBy_2 9 rfl rfl)
theorem dX3_offBy_57 : decode cX3_offBy 57 = .ok (.lcmp, 1) := dk_148 (dk_at dksX3_offBy_2 10 rfl rfl)
theorem dX3_offBy_58 : decode cX3_offBy 58 = .ok (.ifCond .ge 9, 3) := dk_156 0 9 (dk_at dksX3_offBy_2 11 rfl rfl)
theorem dX3_offBy_61 : decode cX3_offBy 61 = .ok (.lload 7, 2) := dk_22 7 (dk_at dksX3_offBy_2 14 rfl rfl)
theorem dX3_offBy_63 : decode cX3_offBy 63 = .ok (.lneg, 1) := dk_117 (dk_at dksX3_offBy_2 16 rfl rfl)
theorem dX3_offBy_64 : decode cX3_offBy 64 = .ok (.goto 5, 3) := dk_167 0 5 (dk_at dksX3_offBy_2 17 rfl rfl)
theorem dX3_offBy_67 : decode cX3_offBy 67 = .ok (.lload 7, 2) := dk_22 7 (dk_at dksX3_offBy_2 20 rfl rfl)
theorem dX3_offBy_69 : decode cX3_offBy 69 = .ok (.ladd, 1) := dk_97 (dk_at dksX3_offBy_2 22 rfl rfl)
theorem dX3_offBy_70 : decode cX3_offBy 70 = .ok (.lstore_n 3, 1) := dk_66 (dk_at dksX3_offBy_2 23 rfl rfl)
theorem dX3_offBy_71 : decode cX3_offBy 71 = .ok (.aload_n 0, 1) := dk_42 (dk_at dksX3_offBy_3 0 rfl rfl)
theorem dX3_offBy_72 : decode cX3_offBy 72 = .ok (.invokevirtual 168, 3) := dk_182 0 168 (dk_at dksX3_offBy_3 1 rfl rfl)
theorem dX3_offBy_75 : decode cX3_offBy 75 = .ok (.iinc 5 1, 3) := dk_132 5 1 (dk_at dksX3_offBy_3 4 rfl rfl)
theorem dX3_offBy_78 : decode cX3_offBy 78 = .ok (.goto (-73), 3) := dk_167 255 183 (dk_at dksX3_offBy_3 7 rfl rfl)
theorem dX3_offBy_81 : decode cX3_offBy 81 = .ok (.aload_n 0, 1) := dk_42 (dk_at dksX3_offBy_3 10 rfl rfl)
theorem dX3_offBy_82 : decode cX3_offBy 82 = .ok (.invokevirtual 183, 3) := dk_182 0 183 (dk_at dksX3_offBy_3 11 rfl rfl)
theorem dX3_offBy_85 : decode cX3_offBy 85 = .ok (.lload_n 3, 1) := dk_33 (dk_at dksX3_offBy_3 14 rfl rfl)
theorem dX3_offBy_86 : decode cX3_offBy 86 = .ok (.lreturn, 1) := dk_173 (dk_at dksX3_offBy_3 15 rfl rfl)
abbrev cX3_told0 : ByteArray := prog_22_method_5_code
def yX3_told0 : MethodName := ⟨RX3, "told0", "(I)I"⟩
def dkwX3_told0_0 : List UInt8 := [26, 156, 0, 8, 18, 81, 167, 0, 4, 26, 172]
abbrev dktX3_told0_0 : List UInt8 := dkwX3_told0_0 ++ []
theorem dksX3_told0_0 : cX3_told0.data.toList.drop 0 = dktX3_told0_0 := by decide +kernel
theorem dX3_told0_0 : decode cX3_told0 0 = .ok (.iload_n 0, 1) := dk_26 (dk_at dksX3_told0_0 0 rfl rfl)
theorem dX3_told0_1 : decode cX3_told0 1 = .ok (.ifCond .ge 8, 3) := dk_156 0 8 (dk_at dksX3_told0_0 1 rfl rfl)
theorem dX3_told0_4 : decode cX3_told0 4 = .ok (.ldc 81, 2) := dk_18 81 (dk_at dksX3_told0_0 4 rfl rfl)
theorem dX3_told0_6 : decode cX3_told0 6 = .ok (.goto 4, 3) := dk_167 0 4 (dk_at dksX3_told0_0 6 rfl rfl)
theorem dX3_told0_9 : decode cX3_told0 9 = .ok (.iload_n 0, 1) := dk_26 (dk_at dksX3_told0_0 9 rfl rfl)
theorem dX3_told0_10 : decode cX3_told0 10 = .ok (.ireturn, 1) := dk_172 (dk_at dksX3_told0_0 10 rfl rfl)
abbrev cX3_fee : ByteArray := prog_22_method_57_code
def yX3_fee : MethodName := ⟨RX3, "fee", "()I"⟩
def dkwX3_fee_2 : List UInt8 := [172]
abbrev dktX3_fee_2 : List UInt8 := dkwX3_fee_2 ++ []
def dkwX3_fee_1 : List UInt8 := [180, 0, 9, 6, 46, 79, 27, 156, 0, 12, 42, 180, 0, 9, 8, 46, 167, 0, 8, 42, 27, 182, 0, 106]
abbrev dktX3_fee_1 : List UInt8 := dkwX3_fee_1 ++ dktX3_fee_2
def dkwX3_fee_0 : List UInt8 := [42, 4, 182, 0, 100, 60, 42, 180, 0, 51, 3, 42, 180, 0, 9, 8, 46, 79, 42, 180, 0, 51, 4, 42]
abbrev dktX3_fee_0 : List UInt8 := dkwX3_fee_0 ++ dktX3_fee_1
theorem dksX3_fee_0 : cX3_fee.data.toList.drop 0 = dktX3_fee_0 := by decide +kernel
theorem dksX3_fee_1 : cX3_fee.data.toList.drop 24 = dktX3_fee_1 := dk_seg dksX3_fee_0 24 rfl rfl
theorem dksX3_fee_2 : cX3_fee.data.toList.drop 48 = dktX3_fee_2 := dk_seg dksX3_fee_1 24 rfl rfl
theorem dX3_fee_0 : decode cX3_fee 0 = .ok (.aload_n 0, 1) := dk_42 (dk_at dksX3_fee_0 0 rfl rfl)
theorem dX3_fee_1 : decode cX3_fee 1 = .ok (.iconst 1, 1) := dk_4 (dk_at dksX3_fee_0 1 rfl rfl)
theorem dX3_fee_2 : decode cX3_fee 2 = .ok (.invokevirtual 100, 3) := dk_182 0 100 (dk_at dksX3_fee_0 2 rfl rfl)
theorem dX3_fee_5 : decode cX3_fee 5 = .ok (.istore_n 1, 1) := dk_60 (dk_at dksX3_fee_0 5 rfl rfl)
theorem dX3_fee_6 : decode cX3_fee 6 = .ok (.aload_n 0, 1) := dk_42 (dk_at dksX3_fee_0 6 rfl rfl)
theorem dX3_fee_7 : decode cX3_fee 7 = .ok (.getfield 51, 3) := dk_180 0 51 (dk_at dksX3_fee_0 7 rfl rfl)
theorem dX3_fee_10 : decode cX3_fee 10 = .ok (.iconst 0, 1) := dk_3 (dk_at dksX3_fee_0 10 rfl rfl)
theorem dX3_fee_11 : decode cX3_fee 11 = .ok (.aload_n 0, 1) := dk_42 (dk_at dksX3_fee_0 11 rfl rfl)
theorem dX3_fee_12 : decode cX3_fee 12 = .ok (.getfield 9, 3) := dk_180 0 9 (dk_at dksX3_fee_0 12 rfl rfl)
theorem dX3_fee_15 : decode cX3_fee 15 = .ok (.iconst 5, 1) := dk_8 (dk_at dksX3_fee_0 15 rfl rfl)
theorem dX3_fee_16 : decode cX3_fee 16 = .ok (.iaload, 1) := dk_46 (dk_at dksX3_fee_0 16 rfl rfl)
theorem dX3_fee_17 : decode cX3_fee 17 = .ok (.iastore, 1) := dk_79 (dk_at dksX3_fee_0 17 rfl rfl)
theorem dX3_fee_18 : decode cX3_fee 18 = .ok (.aload_n 0, 1) := dk_42 (dk_at dksX3_fee_0 18 rfl rfl)
theorem dX3_fee_19 : decode cX3_fee 19 = .ok (.getfield 51, 3) := dk_180 0 51 (dk_at dksX3_fee_0 19 rfl rfl)
theorem dX3_fee_22 : decode cX3_fee 22 = .ok (.iconst 1, 1) := dk_4 (dk_at dksX3_fee_0 22 rfl rfl)
theorem dX3_fee_23 : decode cX3_fee 23 = .ok (.aload_n 0, 1) := dk_42 (dk_at dksX3_fee_0 23 rfl rfl)
theorem dX3_fee_24 : decode cX3_fee 24 = .ok (.getfield 9, 3) := dk_180 0 9 (dk_at dksX3_fee_1 0 rfl rfl)
theorem dX3_fee_27 : decode cX3_fee 27 = .ok (.iconst 3, 1) := dk_6 (dk_at dksX3_fee_1 3 rfl rfl)
theorem dX3_fee_28 : decode cX3_fee 28 = .ok (.iaload, 1) := dk_46 (dk_at dksX3_fee_1 4 rfl rfl)
theorem dX3_fee_29 : decode cX3_fee 29 = .ok (.iastore, 1) := dk_79 (dk_at dksX3_fee_1 5 rfl rfl)
theorem dX3_fee_30 : decode cX3_fee 30 = .ok (.iload_n 1, 1) := dk_27 (dk_at dksX3_fee_1 6 rfl rfl)
theorem dX3_fee_31 : decode cX3_fee 31 = .ok (.ifCond .ge 12, 3) := dk_156 0 12 (dk_at dksX3_fee_1 7 rfl rfl)
theorem dX3_fee_34 : decode cX3_fee 34 = .ok (.aload_n 0, 1) := dk_42 (dk_at dksX3_fee_1 10 rfl rfl)
theorem dX3_fee_35 : decode cX3_fee 35 = .ok (.getfield 9, 3) := dk_180 0 9 (dk_at dksX3_fee_1 11 rfl rfl)
theorem dX3_fee_38 : decode cX3_fee 38 = .ok (.iconst 5, 1) := dk_8 (dk_at dksX3_fee_1 14 rfl rfl)
theorem dX3_fee_39 : decode cX3_fee 39 = .ok (.iaload, 1) := dk_46 (dk_at dksX3_fee_1 15 rfl rfl)
theorem dX3_fee_40 : decode cX3_fee 40 = .ok (.goto 8, 3) := dk_167 0 8 (dk_at dksX3_fee_1 16 rfl rfl)
theorem dX3_fee_43 : decode cX3_fee 43 = .ok (.aload_n 0, 1) := dk_42 (dk_at dksX3_fee_1 19 rfl rfl)
theorem dX3_fee_44 : decode cX3_fee 44 = .ok (.iload_n 1, 1) := dk_27 (dk_at dksX3_fee_1 20 rfl rfl)
theorem dX3_fee_45 : decode cX3_fee 45 = .ok (.invokevirtual 106, 3) := dk_182 0 106 (dk_at dksX3_fee_1 21 rfl rfl)
theorem dX3_fee_48 : decode cX3_fee 48 = .ok (.ireturn, 1) := dk_172 (dk_at dksX3_fee_2 0 rfl rfl)
abbrev cX3_fine : ByteArray := prog_22_method_58_code
def yX3_fine : MethodName := ⟨RX3, "fine", "(I)I"⟩
def dkwX3_fine_2 : List UInt8 := [182, 0, 96, 167, 0, 8, 42, 29, 182, 0, 106, 172]
abbrev dktX3_fine_2 : List UInt8 := dkwX3_fine_2 ++ []
def dkwX3_fine_1 : List UInt8 := [180, 0, 51, 3, 42, 27, 182, 0, 96, 79, 42, 180, 0, 51, 4, 28, 79, 29, 156, 0, 11, 42, 27]
abbrev dktX3_fine_1 : List UInt8 := dkwX3_fine_1 ++ dktX3_fine_2
def dkwX3_fine_0 : List UInt8 := [42, 27, 182, 0, 112, 154, 0, 6, 18, 86, 172, 42, 27, 182, 0, 116, 61, 42, 5, 182, 0, 100, 62, 42]
abbrev dktX3_fine_0 : List UInt8 := dkwX3_fine_0 ++ dktX3_fine_1
theorem dksX3_fine_0 : cX3_fine.data.toList.drop 0 = dktX3_fine_0 := by decide +kernel
theorem dksX3_fine_1 : cX3_fine.data.toList.drop 24 = dktX3_fine_1 := dk_seg dksX3_fine_0 24 rfl rfl
theorem dksX3_fine_2 : cX3_fine.data.toList.drop 47 = dktX3_fine_2 := dk_seg dksX3_fine_1 23 rfl rfl
theorem dX3_fine_0 : decode cX3_fine 0 = .ok (.aload_n 0, 1) := dk_42 (dk_at dksX3_fine_0 0 rfl rfl)
theorem dX3_fine_1 : decode cX3_fine 1 = .ok (.iload_n 1, 1) := dk_27 (dk_at dksX3_fine_0 1 rfl rfl)
theorem dX3_fine_2 : decode cX3_fine 2 = .ok (.invokevirtual 112, 3) := dk_182 0 112 (dk_at dksX3_fine_0 2 rfl rfl)
theorem dX3_fine_5 : decode cX3_fine 5 = .ok (.ifCond .ne 6, 3) := dk_154 0 6 (dk_at dksX3_fine_0 5 rfl rfl)
theorem dX3_fine_8 : decode cX3_fine 8 = .ok (.ldc 86, 2) := dk_18 86 (dk_at dksX3_fine_0 8 rfl rfl)
theorem dX3_fine_10 : decode cX3_fine 10 = .ok (.ireturn, 1) := dk_172 (dk_at dksX3_fine_0 10 rfl rfl)
theorem dX3_fine_11 : decode cX3_fine 11 = .ok (.aload_n 0, 1) := dk_42 (dk_at dksX3_fine_0 11 rfl rfl)
theorem dX3_fine_12 : decode cX3_fine 12 = .ok (.iload_n 1, 1) := dk_27 (dk_at dksX3_fine_0 12 rfl rfl)
theorem dX3_fine_13 : decode cX3_fine 13 = .ok (.invokevirtual 116, 3) := dk_182 0 116 (dk_at dksX3_fine_0 13 rfl rfl)
theorem dX3_fine_16 : decode cX3_fine 16 = .ok (.istore_n 2, 1) := dk_61 (dk_at dksX3_fine_0 16 rfl rfl)
theorem dX3_fine_17 : decode cX3_fine 17 = .ok (.aload_n 0, 1) := dk_42 (dk_at dksX3_fine_0 17 rfl rfl)
theorem dX3_fine_18 : decode cX3_fine 18 = .ok (.iconst 2, 1) := dk_5 (dk_at dksX3_fine_0 18 rfl rfl)
theorem dX3_fine_19 : decode cX3_fine 19 = .ok (.invokevirtual 100, 3) := dk_182 0 100 (dk_at dksX3_fine_0 19 rfl rfl)
theorem dX3_fine_22 : decode cX3_fine 22 = .ok (.istore_n 3, 1) := dk_62 (dk_at dksX3_fine_0 22 rfl rfl)
theorem dX3_fine_23 : decode cX3_fine 23 = .ok (.aload_n 0, 1) := dk_42 (dk_at dksX3_fine_0 23 rfl rfl)
theorem dX3_fine_24 : decode cX3_fine 24 = .ok (.getfield 51, 3) := dk_180 0 51 (dk_at dksX3_fine_1 0 rfl rfl)
theorem dX3_fine_27 : decode cX3_fine 27 = .ok (.iconst 0, 1) := dk_3 (dk_at dksX3_fine_1 3 rfl rfl)
theorem dX3_fine_28 : decode cX3_fine 28 = .ok (.aload_n 0, 1) := dk_42 (dk_at dksX3_fine_1 4 rfl rfl)
theorem dX3_fine_29 : decode cX3_fine 29 = .ok (.iload_n 1, 1) := dk_27 (dk_at dksX3_fine_1 5 rfl rfl)
theorem dX3_fine_30 : decode cX3_fine 30 = .ok (.invokevirtual 96, 3) := dk_182 0 96 (dk_at dksX3_fine_1 6 rfl rfl)
theorem dX3_fine_33 : decode cX3_fine 33 = .ok (.iastore, 1) := dk_79 (dk_at dksX3_fine_1 9 rfl rfl)
theorem dX3_fine_34 : decode cX3_fine 34 = .ok (.aload_n 0, 1) := dk_42 (dk_at dksX3_fine_1 10 rfl rfl)
theorem dX3_fine_35 : decode cX3_fine 35 = .ok (.getfield 51, 3) := dk_180 0 51 (dk_at dksX3_fine_1 11 rfl rfl)
theorem dX3_fine_38 : decode cX3_fine 38 = .ok (.iconst 1, 1) := dk_4 (dk_at dksX3_fine_1 14 rfl rfl)
theorem dX3_fine_39 : decode cX3_fine 39 = .ok (.iload_n 2, 1) := dk_28 (dk_at dksX3_fine_1 15 rfl rfl)
theorem dX3_fine_40 : decode cX3_fine 40 = .ok (.iastore, 1) := dk_79 (dk_at dksX3_fine_1 16 rfl rfl)
theorem dX3_fine_41 : decode cX3_fine 41 = .ok (.iload_n 3, 1) := dk_29 (dk_at dksX3_fine_1 17 rfl rfl)
theorem dX3_fine_42 : decode cX3_fine 42 = .ok (.ifCond .ge 11, 3) := dk_156 0 11 (dk_at dksX3_fine_1 18 rfl rfl)
theorem dX3_fine_45 : decode cX3_fine 45 = .ok (.aload_n 0, 1) := dk_42 (dk_at dksX3_fine_1 21 rfl rfl)
theorem dX3_fine_46 : decode cX3_fine 46 = .ok (.iload_n 1, 1) := dk_27 (dk_at dksX3_fine_1 22 rfl rfl)
theorem dX3_fine_47 : decode cX3_fine 47 = .ok (.invokevirtual 96, 3) := dk_182 0 96 (dk_at dksX3_fine_2 0 rfl rfl)
theorem dX3_fine_50 : decode cX3_fine 50 = .ok (.goto 8, 3) := dk_167 0 8 (dk_at dksX3_fine_2 3 rfl rfl)
theorem dX3_fine_53 : decode cX3_fine 53 = .ok (.aload_n 0, 1) := dk_42 (dk_at dksX3_fine_2 6 rfl rfl)
theorem dX3_fine_54 : decode cX3_fine 54 = .ok (.iload_n 3, 1) := dk_29 (dk_at dksX3_fine_2 7 rfl rfl)
theorem dX3_fine_55 : decode cX3_fine 55 = .ok (.invokevirtual 106, 3) := dk_182 0 106 (dk_at dksX3_fine_2 8 rfl rfl)
theorem dX3_fine_58 : decode cX3_fine 58 = .ok (.ireturn, 1) := dk_172 (dk_at dksX3_fine_2 11 rfl rfl)
abbrev cX3_feed : ByteArray := prog_22_method_59_code
def yX3_feed : MethodName := ⟨RX3, "feed", "(III)I"⟩
def dkwX3_feed_4 : List UInt8 := [181, 0, 203, 42, 180, 0, 203, 172]
abbrev dktX3_feed_4 : List UInt8 := dkwX3_feed_4 ++ []
def dkwX3_feed_3 : List UInt8 := [104, 100, 122, 17, 0, 255, 126, 79, 132, 4, 1, 167, 255, 193, 42, 89, 180, 0, 203, 16, 12, 96]
abbrev dktX3_feed_3 : List UInt8 := dkwX3_feed_3 ++ dktX3_feed_4
def dkwX3_feed_2 : List UInt8 := [29, 54, 5, 42, 180, 0, 28, 42, 180, 0, 203, 21, 4, 96, 21, 5, 16, 24, 16, 8, 21, 4, 7, 112]
abbrev dktX3_feed_2 : List UInt8 := dkwX3_feed_2 ++ dktX3_feed_3
def dkwX3_feed_1 : List UInt8 := [162, 0, 62, 21, 4, 7, 162, 0, 7, 27, 167, 0, 15, 21, 4, 16, 8, 162, 0, 7, 28, 167, 0, 4]
abbrev dktX3_feed_1 : List UInt8 := dkwX3_feed_1 ++ dktX3_feed_2
def dkwX3_feed_0 : List UInt8 := [42, 180, 0, 203, 16, 12, 96, 16, 96, 164, 0, 6, 18, 87, 172, 3, 54, 4, 21, 4, 16, 12]
abbrev dktX3_feed_0 : List UInt8 := dkwX3_feed_0 ++ dktX3_feed_1
theorem dksX3_feed_0 : cX3_feed.data.toList.drop 0 = dktX3_feed_0 := by decide +kernel
theorem dksX3_feed_1 : cX3_feed.data.toList.drop 22 = dktX3_feed_1 := dk_seg dksX3_feed_0 22 rfl rfl
theorem dksX3_feed_2 : cX3_feed.data.toList.drop 46 = dktX3_feed_2 := dk_seg dksX3_feed_1 24 rfl rfl
theorem dksX3_feed_3 : cX3_feed.data.toList.drop 70 = dktX3_feed_3 := dk_seg dksX3_feed_2 24 rfl rfl
theorem dksX3_feed_4 : cX3_feed.data.toList.drop 92 = dktX3_feed_4 := dk_seg dksX3_feed_3 22 rfl rfl
theorem dX3_feed_0 : decode cX3_feed 0 = .ok (.aload_n 0, 1) := dk_42 (dk_at dksX3_feed_0 0 rfl rfl)
theorem dX3_feed_1 : decode cX3_feed 1 = .ok (.getfield 203, 3) := dk_180 0 203 (dk_at dksX3_feed_0 1 rfl rfl)
theorem dX3_feed_4 : decode cX3_feed 4 = .ok (.bipush 12, 2) := dk_16 12 (dk_at dksX3_feed_0 4 rfl rfl)
theorem dX3_feed_6 : decode cX3_feed 6 = .ok (.iadd, 1) := dk_96 (dk_at dksX3_feed_0 6 rfl rfl)
theorem dX3_feed_7 : decode cX3_feed 7 = .ok (.bipush 96, 2) := dk_16 96 (dk_at dksX3_feed_0 7 rfl rfl)
theorem dX3_feed_9 : decode cX3_feed 9 = .ok (.if_icmp .le 6, 3) := dk_164 0 6 (dk_at dksX3_feed_0 9 rfl rfl)
theorem dX3_feed_12 : decode cX3_feed 12 = .ok (.ldc 87, 2) := dk_18 87 (dk_at dksX3_feed_0 12 rfl rfl)
theorem dX3_feed_14 : decode cX3_feed 14 = .ok (.ireturn, 1) := dk_172 (dk_at dksX3_feed_0 14 rfl rfl)
theorem dX3_feed_15 : decode cX3_feed 15 = .ok (.iconst 0, 1) := dk_3 (dk_at dksX3_feed_0 15 rfl rfl)
theorem dX3_feed_16 : decode cX3_feed 16 = .ok (.istore 4, 2) := dk_54 4 (dk_at dksX3_feed_0 16 rfl rfl)
theorem dX3_feed_18 : decode cX3_feed 18 = .ok (.iload 4, 2) := dk_21 4 (dk_at dksX3_feed_0 18 rfl rfl)
theorem dX3_feed_20 : decode cX3_feed 20 = .ok (.bipush 12, 2) := dk_16 12 (dk_at dksX3_feed_0 20 rfl rfl)
theorem dX3_feed_22 : decode cX3_feed 22 = .ok (.if_icmp .ge 62, 3) := dk_162 0 62 (dk_at dksX3_feed_1 0 rfl rfl)
theorem dX3_feed_25 : decode cX3_feed 25 = .ok (.iload 4, 2) := dk_21 4 (dk_at dksX3_feed_1 3 rfl rfl)
theorem dX3_feed_27 : decode cX3_feed 27 = .ok (.iconst 4, 1) := dk_7 (dk_at dksX3_feed_1 5 rfl rfl)
theorem dX3_feed_28 : decode cX3_feed 28 = .ok (.if_icmp .ge 7, 3) := dk_162 0 7 (dk_at dksX3_feed_1 6 rfl rfl)
theorem dX3_feed_31 : decode cX3_feed 31 = .ok (.iload_n 1, 1) := dk_27 (dk_at dksX3_feed_1 9 rfl rfl)
theorem dX3_feed_32 : decode cX3_feed 32 = .ok (.goto 15, 3) := dk_167 0 15 (dk_at dksX3_feed_1 10 rfl rfl)
theorem dX3_feed_35 : decode cX3_feed 35 = .ok (.iload 4, 2) := dk_21 4 (dk_at dksX3_feed_1 13 rfl rfl)
theorem dX3_feed_37 : decode cX3_feed 37 = .ok (.bipush 8, 2) := dk_16 8 (dk_at dksX3_feed_1 15 rfl rfl)
theorem dX3_feed_39 : decode cX3_feed 39 = .ok (.if_icmp .ge 7, 3) := dk_162 0 7 (dk_at dksX3_feed_1 17 rfl rfl)
theorem dX3_feed_42 : decode cX3_feed 42 = .ok (.iload_n 2, 1) := dk_28 (dk_at dksX3_feed_1 20 rfl rfl)
theorem dX3_feed_43 : decode cX3_feed 43 = .ok (.goto 4, 3) := dk_167 0 4 (dk_at dksX3_feed_1 21 rfl rfl)
theorem dX3_feed_46 : decode cX3_feed 46 = .ok (.iload_n 3, 1) := dk_29 (dk_at dksX3_feed_2 0 rfl rfl)
theorem dX3_feed_47 : decode cX3_feed 47 = .ok (.istore 5, 2) := dk_54 5 (dk_at dksX3_feed_2 1 rfl rfl)
theorem dX3_feed_49 : decode cX3_feed 49 = .ok (.aload_n 0, 1) := dk_42 (dk_at dksX3_feed_2 3 rfl rfl)
theorem dX3_feed_50 : decode cX3_feed 50 = .ok (.getfield 28, 3) := dk_180 0 28 (dk_at dksX3_feed_2 4 rfl rfl)
theorem dX3_feed_53 : decode cX3_feed 53 = .ok (.aload_n 0, 1) := dk_42 (dk_at dksX3_feed_2 7 rfl rfl)
theorem dX3_feed_54 : decode cX3_feed 54 = .ok (.getfield 203, 3) := dk_180 0 203 (dk_at dksX3_feed_2 8 rfl rfl)
theorem dX3_feed_57 : decode cX3_feed 57 = .ok (.iload 4, 2) := dk_21 4 (dk_at dksX3_feed_2 11 rfl rfl)
theorem dX3_feed_59 : decode cX3_feed 59 = .ok (.iadd, 1) := dk_96 (dk_at dksX3_feed_2 13 rfl rfl)
theorem dX3_feed_60 : decode cX3_feed 60 = .ok (.iload 5, 2) := dk_21 5 (dk_at dksX3_feed_2 14 rfl rfl)
theorem dX3_feed_62 : decode cX3_feed 62 = .ok (.bipush 24, 2) := dk_16 24 (dk_at dksX3_feed_2 16 rfl rfl)
theorem dX3_feed_64 : decode cX3_feed 64 = .ok (.bipush 8, 2) := dk_16 8 (dk_at dksX3_feed_2 18 rfl rfl)
theorem dX3_feed_66 : decode cX3_feed 66 = .ok (.iload 4, 2) := dk_21 4 (dk_at dksX3_feed_2 20 rfl rfl)
theorem dX3_feed_68 : decode cX3_feed 68 = .ok (.iconst 4, 1) := dk_7 (dk_at dksX3_feed_2 22 rfl rfl)
theorem dX3_feed_69 : decode cX3_feed 69 = .ok (.irem, 1) := dk_112 (dk_at dksX3_feed_2 23 rfl rfl)
theorem dX3_feed_70 : decode cX3_feed 70 = .ok (.imul, 1) := dk_104 (dk_at dksX3_feed_3 0 rfl rfl)
theorem dX3_feed_71 : decode cX3_feed 71 = .ok (.isub, 1) := dk_100 (dk_at dksX3_feed_3 1 rfl rfl)
theorem dX3_feed_72 : decode cX3_feed 72 = .ok (.ishr, 1) := dk_122 (dk_at dksX3_feed_3 2 rfl rfl)
theorem dX3_feed_73 : decode cX3_feed 73 = .ok (.sipush 255, 3) := dk_17 0 255 (dk_at dksX3_feed_3 3 rfl rfl)
theorem dX3_feed_76 : decode cX3_feed 76 = .ok (.iand, 1) := dk_126 (dk_at dksX3_feed_3 6 rfl rfl)
theorem dX3_feed_77 : decode cX3_feed 77 = .ok (.iastore, 1) := dk_79 (dk_at dksX3_feed_3 7 rfl rfl)
theorem dX3_feed_78 : decode cX3_feed 78 = .ok (.iinc 4 1, 3) := dk_132 4 1 (dk_at dksX3_feed_3 8 rfl rfl)
theorem dX3_feed_81 : decode cX3_feed 81 = .ok (.goto (-63), 3) := dk_167 255 193 (dk_at dksX3_feed_3 11 rfl rfl)
theorem dX3_feed_84 : decode cX3_feed 84 = .ok (.aload_n 0, 1) := dk_42 (dk_at dksX3_feed_3 14 rfl rfl)
theorem dX3_feed_85 : decode cX3_feed 85 = .ok (.dup, 1) := dk_89 (dk_at dksX3_feed_3 15 rfl rfl)
theorem dX3_feed_86 : decode cX3_feed 86 = .ok (.getfield 203, 3) := dk_180 0 203 (dk_at dksX3_feed_3 16 rfl rfl)
theorem dX3_feed_89 : decode cX3_feed 89 = .ok (.bipush 12, 2) := dk_16 12 (dk_at dksX3_feed_3 19 rfl rfl)
theorem dX3_feed_91 : decode cX3_feed 91 = .ok (.iadd, 1) := dk_96 (dk_at dksX3_feed_3 21 rfl rfl)
theorem dX3_feed_92 : decode cX3_feed 92 = .ok (.putfield 203, 3) := dk_181 0 203 (dk_at dksX3_feed_4 0 rfl rfl)
theorem dX3_feed_95 : decode cX3_feed 95 = .ok (.aload_n 0, 1) := dk_42 (dk_at dksX3_feed_4 3 rfl rfl)
theorem dX3_feed_96 : decode cX3_feed 96 = .ok (.getfield 203, 3) := dk_180 0 203 (dk_at dksX3_feed_4 4 rfl rfl)
theorem dX3_feed_99 : decode cX3_feed 99 = .ok (.ireturn, 1) := dk_172 (dk_at dksX3_feed_4 7 rfl rfl)
abbrev cX3_trim : ByteArray := prog_22_method_60_code
def yX3_trim : MethodName := ⟨RX3, "trim", "(I)I"⟩
def dkwX3_trim_0 : List UInt8 := [27, 3, 42, 180, 0, 203, 184, 0, 82, 154, 0, 6, 18, 86, 172, 42, 27, 181, 0, 203, 27, 172]
abbrev dktX3_trim_0 : List UInt8 := dkwX3_trim_0 ++ []
theorem dksX3_trim_0 : cX3_trim.data.toList.drop 0 = dktX3_trim_0 := by decide +kernel
theorem dX3_trim_0 : decode cX3_trim 0 = .ok (.iload_n 1, 1) := dk_27 (dk_at dksX3_trim_0 0 rfl rfl)
theorem dX3_trim_1 : decode cX3_trim 1 = .ok (.iconst 0, 1) := dk_3 (dk_at dksX3_trim_0 1 rfl rfl)
theorem dX3_trim_2 : decode cX3_trim 2 = .ok (.aload_n 0, 1) := dk_42 (dk_at dksX3_trim_0 2 rfl rfl)
theorem dX3_trim_3 : decode cX3_trim 3 = .ok (.getfield 203, 3) := dk_180 0 203 (dk_at dksX3_trim_0 3 rfl rfl)
theorem dX3_trim_6 : decode cX3_trim 6 = .ok (.invokestatic 82, 3) := dk_184 0 82 (dk_at dksX3_trim_0 6 rfl rfl)
theorem dX3_trim_9 : decode cX3_trim 9 = .ok (.ifCond .ne 6, 3) := dk_154 0 6 (dk_at dksX3_trim_0 9 rfl rfl)
theorem dX3_trim_12 : decode cX3_trim 12 = .ok (.ldc 86, 2) := dk_18 86 (dk_at dksX3_trim_0 12 rfl rfl)
theorem dX3_trim_14 : decode cX3_trim 14 = .ok (.ireturn, 1) := dk_172 (dk_at dksX3_trim_0 14 rfl rfl)
theorem dX3_trim_15 : decode cX3_trim 15 = .ok (.aload_n 0, 1) := dk_42 (dk_at dksX3_trim_0 15 rfl rfl)
theorem dX3_trim_16 : decode cX3_trim 16 = .ok (.iload_n 1, 1) := dk_27 (dk_at dksX3_trim_0 16 rfl rfl)
theorem dX3_trim_17 : decode cX3_trim 17 = .ok (.putfield 203, 3) := dk_181 0 203 (dk_at dksX3_trim_0 17 rfl rfl)
theorem dX3_trim_20 : decode cX3_trim 20 = .ok (.iload_n 1, 1) := dk_27 (dk_at dksX3_trim_0 20 rfl rfl)
theorem dX3_trim_21 : decode cX3_trim 21 = .ok (.ireturn, 1) := dk_172 (dk_at dksX3_trim_0 21 rfl rfl)
abbrev cX3_text : ByteArray := prog_22_method_72_code
def yX3_text : MethodName := ⟨RX3, "text", "()I"⟩
def dkwX3_text_7 : List UInt8 := [172]
abbrev dktX3_text_7 : List UInt8 := dkwX3_text_7 ++ []
def dkwX3_text_6 : List UInt8 := [180, 0, 38, 29, 46, 79, 132, 3, 1, 167, 255, 224, 42, 180, 0, 9, 16, 6, 92, 46, 4, 96, 79, 28]
abbrev dktX3_text_6 : List UInt8 := dkwX3_text_6 ++ dktX3_text_7
def dkwX3_text_5 : List UInt8 := [29, 42, 180, 0, 240, 162, 0, 30, 42, 180, 0, 9, 17, 0, 135, 16, 96, 28, 104, 96, 29, 96, 42]
abbrev dktX3_text_5 : List UInt8 := dkwX3_text_5 ++ dktX3_text_6
def dkwX3_text_4 : List UInt8 := [180, 0, 240, 96, 79, 42, 180, 0, 9, 16, 107, 5, 28, 104, 96, 4, 96, 42, 180, 0, 246, 79, 3, 62]
abbrev dktX3_text_4 : List UInt8 := dkwX3_text_4 ++ dktX3_text_5
def dkwX3_text_3 : List UInt8 := [16, 6, 46, 61, 42, 180, 0, 9, 16, 107, 5, 28, 104, 96, 17, 3, 232, 42, 180, 0, 228, 104, 42]
abbrev dktX3_text_3 : List UInt8 := dkwX3_text_3 ++ dktX3_text_4
def dkwX3_text_2 : List UInt8 := [180, 0, 210, 100, 172, 42, 180, 0, 9, 16, 6, 46, 16, 14, 160, 0, 6, 18, 87, 172, 42, 180, 0, 9]
abbrev dktX3_text_2 : List UInt8 := dkwX3_text_2 ++ dktX3_text_3
def dkwX3_text_1 : List UInt8 := [182, 1, 9, 153, 0, 7, 4, 167, 0, 4, 3, 60, 42, 3, 181, 0, 203, 27, 154, 0, 11, 16, 156, 42]
abbrev dktX3_text_1 : List UInt8 := dkwX3_text_1 ++ dktX3_text_2
def dkwX3_text_0 : List UInt8 := [42, 3, 181, 0, 207, 42, 2, 181, 0, 213, 42, 182, 0, 231, 42, 182, 1, 6, 153, 0, 14, 42]
abbrev dktX3_text_0 : List UInt8 := dkwX3_text_0 ++ dktX3_text_1
theorem dksX3_text_0 : cX3_text.data.toList.drop 0 = dktX3_text_0 := by decide +kernel
theorem dksX3_text_1 : cX3_text.data.toList.drop 22 = dktX3_text_1 := dk_seg dksX3_text_0 22 rfl rfl
theorem dksX3_text_2 : cX3_text.data.toList.drop 46 = dktX3_text_2 := dk_seg dksX3_text_1 24 rfl rfl
theorem dksX3_text_3 : cX3_text.data.toList.drop 70 = dktX3_text_3 := dk_seg dksX3_text_2 24 rfl rfl
theorem dksX3_text_4 : cX3_text.data.toList.drop 93 = dktX3_text_4 := dk_seg dksX3_text_3 23 rfl rfl
theorem dksX3_text_5 : cX3_text.data.toList.drop 117 = dktX3_text_5 := dk_seg dksX3_text_4 24 rfl rfl
theorem dksX3_text_6 : cX3_text.data.toList.drop 140 = dktX3_text_6 := dk_seg dksX3_text_5 23 rfl rfl
theorem dksX3_text_7 : cX3_text.data.toList.drop 164 = dktX3_text_7 := dk_seg dksX3_text_6 24 rfl rfl
theorem dX3_text_0 : decode cX3_text 0 = .ok (.aload_n 0, 1) := dk_42 (dk_at dksX3_text_0 0 rfl rfl)
theorem dX3_text_1 : decode cX3_text 1 = .ok (.iconst 0, 1) := dk_3 (dk_at dksX3_text_0 1 rfl rfl)
theorem dX3_text_2 : decode cX3_text 2 = .ok (.putfield 207, 3) := dk_181 0 207 (dk_at dksX3_text_0 2 rfl rfl)
theorem dX3_text_5 : decode cX3_text 5 = .ok (.aload_n 0, 1) := dk_42 (dk_at dksX3_text_0 5 rfl rfl)
theorem dX3_text_6 : decode cX3_text 6 = .ok (.iconst (-1), 1) := dk_2 (dk_at dksX3_text_0 6 rfl rfl)
theorem dX3_text_7 : decode cX3_text 7 = .ok (.putfield 213, 3) := dk_181 0 213 (dk_at dksX3_text_0 7 rfl rfl)
theorem dX3_text_10 : decode cX3_text 10 = .ok (.aload_n 0, 1) := dk_42 (dk_at dksX3_text_0 10 rfl rfl)
theorem dX3_text_11 : decode cX3_text 11 = .ok (.invokevirtual 231, 3) := dk_182 0 231 (dk_at dksX3_text_0 11 rfl rfl)
theorem dX3_text_14 : decode cX3_text 14 = .ok (.aload_n 0, 1) := dk_42 (dk_at dksX3_text_0 14 rfl rfl)
theorem dX3_text_15 : decode cX3_text 15 = .ok (.invokevirtual 262, 3) := dk_182 1 6 (dk_at dksX3_text_0 15 rfl rfl)
theorem dX3_text_18 : decode cX3_text 18 = .ok (.ifCond .eq 14, 3) := dk_153 0 14 (dk_at dksX3_text_0 18 rfl rfl)
theorem dX3_text_21 : decode cX3_text 21 = .ok (.aload_n 0, 1) := dk_42 (dk_at dksX3_text_0 21 rfl rfl)
theorem dX3_text_22 : decode cX3_text 22 = .ok (.invokevirtual 265, 3) := dk_182 1 9 (dk_at dksX3_text_1 0 rfl rfl)
theorem dX3_text_25 : decode cX3_text 25 = .ok (.ifCond .eq 7, 3) := dk_153 0 7 (dk_at dksX3_text_1 3 rfl rfl)
theorem dX3_text_28 : decode cX3_text 28 = .ok (.iconst 1, 1) := dk_4 (dk_at dksX3_text_1 6 rfl rfl)
theorem dX3_text_29 : decode cX3_text 29 = .ok (.goto 4, 3) := dk_167 0 4 (dk_at dksX3_text_1 7 rfl rfl)
theorem dX3_text_32 : decode cX3_text 32 = .ok (.iconst 0, 1) := dk_3 (dk_at dksX3_text_1 10 rfl rfl)
theorem dX3_text_33 : decode cX3_text 33 = .ok (.istore_n 1, 1) := dk_60 (dk_at dksX3_text_1 11 rfl rfl)
theorem dX3_text_34 : decode cX3_text 34 = .ok (.aload_n 0, 1) := dk_42 (dk_at dksX3_text_1 12 rfl rfl)
theorem dX3_text_35 : decode cX3_text 35 = .ok (.iconst 0, 1) := dk_3 (dk_at dksX3_text_1 13 rfl rfl)
theorem dX3_text_36 : decode cX3_text 36 = .ok (.putfield 203, 3) := dk_181 0 203 (dk_at dksX3_text_1 14 rfl rfl)
theorem dX3_text_39 : decode cX3_text 39 = .ok (.iload_n 1, 1) := dk_27 (dk_at dksX3_text_1 17 rfl rfl)
theorem dX3_text_40 : decode cX3_text 40 = .ok (.ifCond .ne 11, 3) := dk_154 0 11 (dk_at dksX3_text_1 18 rfl rfl)
theorem dX3_text_43 : decode cX3_text 43 = .ok (.bipush (-100), 2) := dk_16 156 (dk_at dksX3_text_1 21 rfl rfl)
theorem dX3_text_45 : decode cX3_text 45 = .ok (.aload_n 0, 1) := dk_42 (dk_at dksX3_text_1 23 rfl rfl)
theorem dX3_text_46 : decode cX3_text 46 = .ok (.getfield 210, 3) := dk_180 0 210 (dk_at dksX3_text_2 0 rfl rfl)
theorem dX3_text_49 : decode cX3_text 49 = .ok (.isub, 1) := dk_100 (dk_at dksX3_text_2 3 rfl rfl)
theorem dX3_text_50 : decode cX3_text 50 = .ok (.ireturn, 1) := dk_172 (dk_at dksX3_text_2 4 rfl rfl)
theorem dX3_text_51 : decode cX3_text 51 = .ok (.aload_n 0, 1) := dk_42 (dk_at dksX3_text_2 5 rfl rfl)
theorem dX3_text_52 : decode cX3_text 52 = .ok (.getfield 9, 3) := dk_180 0 9 (dk_at dksX3_text_2 6 rfl rfl)
theorem dX3_text_55 : decode cX3_text 55 = .ok (.bipush 6, 2) := dk_16 6 (dk_at dksX3_text_2 9 rfl rfl)
theorem dX3_text_57 : decode cX3_text 57 = .ok (.iaload, 1) := dk_46 (dk_at dksX3_text_2 11 rfl rfl)
theorem dX3_text_58 : decode cX3_text 58 = .ok (.bipush 14, 2) := dk_16 14 (dk_at dksX3_text_2 12 rfl rfl)
theorem dX3_text_60 : decode cX3_text 60 = .ok (.if_icmp .ne 6, 3) := dk_160 0 6 (dk_at dksX3_text_2 14 rfl rfl)
theorem dX3_text_63 : decode cX3_text 63 = .ok (.ldc 87, 2) := dk_18 87 (dk_at dksX3_text_2 17 rfl rfl)
theorem dX3_text_65 : decode cX3_text 65 = .ok (.ireturn, 1) := dk_172 (dk_at dksX3_text_2 19 rfl rfl)
theorem dX3_text_66 : decode cX3_text 66 = .ok (.aload_n 0, 1) := dk_42 (dk_at dksX3_text_2 20 rfl rfl)
theorem dX3_text_67 : decode cX3_text 67 = .ok (.getfield 9, 3) := dk_180 0 9 (dk_at dksX3_text_2 21 rfl rfl)
theorem dX3_text_70 : decode cX3_text 70 = .ok (.bipush 6, 2) := dk_16 6 (dk_at dksX3_text_3 0 rfl rfl)
theorem dX3_text_72 : decode cX3_text 72 = .ok (.iaload, 1) := dk_46 (dk_at dksX3_text_3 2 rfl rfl)
theorem dX3_text_73 : decode cX3_text 73 = .ok (.istore_n 2, 1) := dk_61 (dk_at dksX3_text_3 3 rfl rfl)
theorem dX3_text_74 : decode cX3_text 74 = .ok (.aload_n 0, 1) := dk_42 (dk_at dksX3_text_3 4 rfl rfl)
theorem dX3_text_75 : decode cX3_text 75 = .ok (.getfield 9, 3) := dk_180 0 9 (dk_at dksX3_text_3 5 rfl rfl)
theorem dX3_text_78 : decode cX3_text 78 = .ok (.bipush 107, 2) := dk_16 107 (dk_at dksX3_text_3 8 rfl rfl)
theorem dX3_text_80 : decode cX3_text 80 = .ok (.iconst 2, 1) := dk_5 (dk_at dksX3_text_3 10 rfl rfl)
theorem dX3_text_81 : decode cX3_text 81 = .ok (.iload_n 2, 1) := dk_28 (dk_at dksX3_text_3 11 rfl rfl)
theorem dX3_text_82 : decode cX3_text 82 = .ok (.imul, 1) := dk_104 (dk_at dksX3_text_3 12 rfl rfl)
theorem dX3_text_83 : decode cX3_text 83 = .ok (.iadd, 1) := dk_96 (dk_at dksX3_text_3 13 rfl rfl)
theorem dX3_text_84 : decode cX3_text 84 = .ok (.sipush 1000, 3) := dk_17 3 232 (dk_at dksX3_text_3 14 rfl rfl)
theorem dX3_text_87 : decode cX3_text 87 = .ok (.aload_n 0, 1) := dk_42 (dk_at dksX3_text_3 17 rfl rfl)
theorem dX3_text_88 : decode cX3_text 88 = .ok (.getfield 228, 3) := dk_180 0 228 (dk_at dksX3_text_3 18 rfl rfl)
theorem dX3_text_91 : decode cX3_text 91 = .ok (.imul, 1) := dk_104 (dk_at dksX3_text_3 21 rfl rfl)
theorem dX3_text_92 : decode cX3_text 92 = .ok (.aload_n 0, 1) := dk_42 (dk_at dksX3_text_3 22 rfl rfl)
theorem dX3_text_93 : decode cX3_text 93 = .ok (.getfield 240, 3) := dk_180 0 240 (dk_at dksX3_text_4 0 rfl rfl)
theorem dX3_text_96 : decode cX3_text 96 = .ok (.iadd, 1) := dk_96 (dk_at dksX3_text_4 3 rfl rfl)
theorem dX3_text_97 : decode cX3_text 97 = .ok (.iastore, 1) := dk_79 (dk_at dksX3_text_4 4 rfl rfl)
theorem dX3_text_98 : decode cX3_text 98 = .ok (.aload_n 0, 1) := dk_42 (dk_at dksX3_text_4 5 rfl rfl)
theorem dX3_text_99 : decode cX3_text 99 = .ok (.getfield 9, 3) := dk_180 0 9 (dk_at dksX3_text_4 6 rfl rfl)
theorem dX3_text_102 : decode cX3_text 102 = .ok (.bipush 107, 2) := dk_16 107 (dk_at dksX3_text_4 9 rfl rfl)
theorem dX3_text_104 : decode cX3_text 104 = .ok (.iconst 2, 1) := dk_5 (dk_at dksX3_text_4 11 rfl rfl)
theorem dX3_text_105 : decode cX3_text 105 = .ok (.iload_n 2, 1) := dk_28 (dk_at dksX3_text_4 12 rfl rfl)
theorem dX3_text_106 : decode cX3_text 106 = .ok (.imul, 1) := dk_104 (dk_at dksX3_text_4 13 rfl rfl)
theorem dX3_text_107 : decode cX3_text 107 = .ok (.iadd, 1) := dk_96 (dk_at dksX3_text_4 14 rfl rfl)
theorem dX3_text_108 : decode cX3_text 108 = .ok (.iconst 1, 1) := dk_4 (dk_at dksX3_text_4 15 rfl rfl)
theorem dX3_text_109 : decode cX3_text 109 = .ok (.iadd, 1) := dk_96 (dk_at dksX3_text_4 16 rfl rfl)
theorem dX3_text_110 : decode cX3_text 110 = .ok (.aload_n 0, 1) := dk_42 (dk_at dksX3_text_4 17 rfl rfl)
theorem dX3_text_111 : decode cX3_text 111 = .ok (.getfield 246, 3) := dk_180 0 246 (dk_at dksX3_text_4 18 rfl rfl)
theorem dX3_text_114 : decode cX3_text 114 = .ok (.iastore, 1) := dk_79 (dk_at dksX3_text_4 21 rfl rfl)
theorem dX3_text_115 : decode cX3_text 115 = .ok (.iconst 0, 1) := dk_3 (dk_at dksX3_text_4 22 rfl rfl)
theorem dX3_text_116 : decode cX3_text 116 = .ok (.istore_n 3, 1) := dk_62 (dk_at dksX3_text_4 23 rfl rfl)
theorem dX3_text_117 : decode cX3_text 117 = .ok (.iload_n 3, 1) := dk_29 (dk_at dksX3_text_5 0 rfl rfl)
theorem dX3_text_118 : decode cX3_text 118 = .ok (.aload_n 0, 1) := dk_42 (dk_at dksX3_text_5 1 rfl rfl)
theorem dX3_text_119 : decode cX3_text 119 = .ok (.getfield 240, 3) := dk_180 0 240 (dk_at dksX3_text_5 2 rfl rfl)
theorem dX3_text_122 : decode cX3_text 122 = .ok (.if_icmp .ge 30, 3) := dk_162 0 30 (dk_at dksX3_text_5 5 rfl rfl)
theorem dX3_text_125 : decode cX3_text 125 = .ok (.aload_n 0, 1) := dk_42 (dk_at dksX3_text_5 8 rfl rfl)
theorem dX3_text_126 : decode cX3_text 126 = .ok (.getfield 9, 3) := dk_180 0 9 (dk_at dksX3_text_5 9 rfl rfl)
theorem dX3_text_129 : decode cX3_text 129 = .ok (.sipush 135, 3) := dk_17 0 135 (dk_at dksX3_text_5 12 rfl rfl)
theorem dX3_text_132 : decode cX3_text 132 = .ok (.bipush 96, 2) := dk_16 96 (dk_at dksX3_text_5 15 rfl rfl)
theorem dX3_text_134 : decode cX3_text 134 = .ok (.iload_n 2, 1) := dk_28 (dk_at dksX3_text_5 17 rfl rfl)
theorem dX3_text_135 : decode cX3_text 135 = .ok (.imul, 1) := dk_104 (dk_at dksX3_text_5 18 rfl rfl)
theorem dX3_text_136 : decode cX3_text 136 = .ok (.iadd, 1) := dk_96 (dk_at dksX3_text_5 19 rfl rfl)
theorem dX3_text_137 : decode cX3_text 137 = .ok (.iload_n 3, 1) := dk_29 (dk_at dksX3_text_5 20 rfl rfl)
theorem dX3_text_138 : decode cX3_text 138 = .ok (.iadd, 1) := dk_96 (dk_at dksX3_text_5 21 rfl rfl)
theorem dX3_text_139 : decode cX3_text 139 = .ok (.aload_n 0, 1) := dk_42 (dk_at dksX3_text_5 22 rfl rfl)
theorem dX3_text_140 : decode cX3_text 140 = .ok (.getfield 38, 3) := dk_180 0 38 (dk_at dksX3_text_6 0 rfl rfl)
theorem dX3_text_143 : decode cX3_text 143 = .ok (.iload_n 3, 1) := dk_29 (dk_at dksX3_text_6 3 rfl rfl)
theorem dX3_text_144 : decode cX3_text 144 = .ok (.iaload, 1) := dk_46 (dk_at dksX3_text_6 4 rfl rfl)
theorem dX3_text_145 : decode cX3_text 145 = .ok (.iastore, 1) := dk_79 (dk_at dksX3_text_6 5 rfl rfl)
theorem dX3_text_146 : decode cX3_text 146 = .ok (.iinc 3 1, 3) := dk_132 3 1 (dk_at dksX3_text_6 6 rfl rfl)
theorem dX3_text_149 : decode cX3_text 149 = .ok (.goto (-32), 3) := dk_167 255 224 (dk_at dksX3_text_6 9 rfl rfl)
theorem dX3_text_152 : decode cX3_text 152 = .ok (.aload_n 0, 1) := dk_42 (dk_at dksX3_text_6 12 rfl rfl)
theorem dX3_text_153 : decode cX3_text 153 = .ok (.getfield 9, 3) := dk_180 0 9 (dk_at dksX3_text_6 13 rfl rfl)
theorem dX3_text_156 : decode cX3_text 156 = .ok (.bipush 6, 2) := dk_16 6 (dk_at dksX3_text_6 16 rfl rfl)
theorem dX3_text_158 : decode cX3_text 158 = .ok (.dup2, 1) := dk_92 (dk_at dksX3_text_6 18 rfl rfl)
theorem dX3_text_159 : decode cX3_text 159 = .ok (.iaload, 1) := dk_46 (dk_at dksX3_text_6 19 rfl rfl)
theorem dX3_text_160 : decode cX3_text 160 = .ok (.iconst 1, 1) := dk_4 (dk_at dksX3_text_6 20 rfl rfl)
theorem dX3_text_161 : decode cX3_text 161 = .ok (.iadd, 1) := dk_96 (dk_at dksX3_text_6 21 rfl rfl)
theorem dX3_text_162 : decode cX3_text 162 = .ok (.iastore, 1) := dk_79 (dk_at dksX3_text_6 22 rfl rfl)
theorem dX3_text_163 : decode cX3_text 163 = .ok (.iload_n 2, 1) := dk_28 (dk_at dksX3_text_6 23 rfl rfl)
theorem dX3_text_164 : decode cX3_text 164 = .ok (.ireturn, 1) := dk_172 (dk_at dksX3_text_7 0 rfl rfl)
abbrev cX3_go : ByteArray := prog_22_method_63_code
def yX3_go : MethodName := ⟨RX3, "go", "()V"⟩
def dkwX3_go_13 : List UInt8 := [181, 0, 207, 177]
abbrev dktX3_go_13 : List UInt8 := dkwX3_go_13 ++ []
def dkwX3_go_12 : List UInt8 := [181, 0, 216, 42, 42, 180, 0, 28, 42, 180, 0, 210, 46, 181, 0, 222, 42, 89, 180, 0, 207, 4, 96]
abbrev dktX3_go_12 : List UInt8 := dkwX3_go_12 ++ dktX3_go_13
def dkwX3_go_11 : List UInt8 := [164, 0, 7, 7, 167, 0, 4, 5, 181, 0, 216, 42, 42, 180, 0, 207, 181, 0, 213, 167, 0, 31, 42, 6]
abbrev dktX3_go_11 : List UInt8 := dkwX3_go_11 ++ dktX3_go_12
def dkwX3_go_10 : List UInt8 := [96, 181, 0, 207, 167, 255, 191, 42, 27, 154, 0, 16, 42, 180, 0, 207, 42, 180, 0, 210, 100, 7]
abbrev dktX3_go_10 : List UInt8 := dkwX3_go_10 ++ dktX3_go_11
def dkwX3_go_9 : List UInt8 := [180, 0, 207, 46, 96, 16, 48, 100, 167, 0, 7, 42, 180, 0, 222, 181, 0, 222, 42, 89, 180, 0, 207, 4]
abbrev dktX3_go_9 : List UInt8 := dkwX3_go_9 ++ dktX3_go_10
def dkwX3_go_8 : List UInt8 := [180, 0, 207, 42, 180, 0, 210, 100, 7, 162, 0, 26, 16, 10, 42, 180, 0, 222, 104, 42, 180, 0, 28, 42]
abbrev dktX3_go_8 : List UInt8 := dkwX3_go_8 ++ dktX3_go_9
def dkwX3_go_7 : List UInt8 := [182, 0, 225, 153, 0, 113, 42, 3, 181, 0, 222, 42, 42, 180, 0, 207, 182, 0, 225, 153, 0, 60, 42, 42]
abbrev dktX3_go_7 : List UInt8 := dkwX3_go_7 ++ dktX3_go_8
def dkwX3_go_6 : List UInt8 := [180, 0, 210, 46, 181, 0, 222, 42, 42, 180, 0, 207, 181, 0, 213, 167, 0, 152, 42, 42, 180, 0, 210]
abbrev dktX3_go_6 : List UInt8 := dkwX3_go_6 ++ dktX3_go_7
def dkwX3_go_5 : List UInt8 := [167, 255, 235, 42, 27, 153, 0, 7, 7, 167, 0, 4, 4, 181, 0, 216, 42, 42, 180, 0, 28, 42]
abbrev dktX3_go_5 : List UInt8 := dkwX3_go_5 ++ dktX3_go_6
def dkwX3_go_4 : List UInt8 := [153, 0, 64, 42, 42, 180, 0, 207, 182, 0, 219, 153, 0, 16, 42, 89, 180, 0, 207, 4, 96, 181, 0, 207]
abbrev dktX3_go_4 : List UInt8 := dkwX3_go_4 ++ dktX3_go_5
def dkwX3_go_3 : List UInt8 := [180, 0, 203, 160, 0, 11, 42, 3, 181, 0, 216, 167, 0, 224, 42, 42, 180, 0, 210, 182, 0, 219]
abbrev dktX3_go_3 : List UInt8 := dkwX3_go_3 ++ dktX3_go_4
def dkwX3_go_2 : List UInt8 := [42, 180, 0, 210, 42, 180, 0, 213, 160, 0, 7, 4, 167, 0, 4, 3, 60, 42, 180, 0, 210, 42]
abbrev dktX3_go_2 : List UInt8 := dkwX3_go_2 ++ dktX3_go_3
def dkwX3_go_1 : List UInt8 := [160, 0, 16, 42, 89, 180, 0, 207, 4, 96, 181, 0, 207, 167, 255, 221, 42, 42, 180, 0, 207, 181, 0, 210]
abbrev dktX3_go_1 : List UInt8 := dkwX3_go_1 ++ dktX3_go_2
def dkwX3_go_0 : List UInt8 := [42, 180, 0, 207, 42, 180, 0, 203, 162, 0, 30, 42, 180, 0, 28, 42, 180, 0, 207, 46, 16, 32]
abbrev dktX3_go_0 : List UInt8 := dkwX3_go_0 ++ dktX3_go_1
theorem dksX3_go_0 : cX3_go.data.toList.drop 0 = dktX3_go_0 := by decide +kernel
theorem dksX3_go_1 : cX3_go.data.toList.drop 22 = dktX3_go_1 := dk_seg dksX3_go_0 22 rfl rfl
theorem dksX3_go_2 : cX3_go.data.toList.drop 46 = dktX3_go_2 := dk_seg dksX3_go_1 24 rfl rfl
theorem dksX3_go_3 : cX3_go.data.toList.drop 68 = dktX3_go_3 := dk_seg dksX3_go_2 22 rfl rfl
theorem dksX3_go_4 : cX3_go.data.toList.drop 90 = dktX3_go_4 := dk_seg dksX3_go_3 22 rfl rfl
theorem dksX3_go_5 : cX3_go.data.toList.drop 114 = dktX3_go_5 := dk_seg dksX3_go_4 24 rfl rfl
theorem dksX3_go_6 : cX3_go.data.toList.drop 136 = dktX3_go_6 := dk_seg dksX3_go_5 22 rfl rfl
theorem dksX3_go_7 : cX3_go.data.toList.drop 159 = dktX3_go_7 := dk_seg dksX3_go_6 23 rfl rfl
theorem dksX3_go_8 : cX3_go.data.toList.drop 183 = dktX3_go_8 := dk_seg dksX3_go_7 24 rfl rfl
theorem dksX3_go_9 : cX3_go.data.toList.drop 207 = dktX3_go_9 := dk_seg dksX3_go_8 24 rfl rfl
theorem dksX3_go_10 : cX3_go.data.toList.drop 231 = dktX3_go_10 := dk_seg dksX3_go_9 24 rfl rfl
theorem dksX3_go_11 : cX3_go.data.toList.drop 253 = dktX3_go_11 := dk_seg dksX3_go_10 22 rfl rfl
theorem dksX3_go_12 : cX3_go.data.toList.drop 277 = dktX3_go_12 := dk_seg dksX3_go_11 24 rfl rfl
theorem dksX3_go_13 : cX3_go.data.toList.drop 300 = dktX3_go_13 := dk_seg dksX3_go_12 23 rfl rfl
theorem dX3_go_0 : decode cX3_go 0 = .ok (.aload_n 0, 1) := dk_42 (dk_at dksX3_go_0 0 rfl rfl)
theorem dX3_go_1 : decode cX3_go 1 = .ok (.getfield 207, 3) := dk_180 0 207 (dk_at dksX3_go_0 1 rfl rfl)
theorem dX3_go_4 : decode cX3_go 4 = .ok (.aload_n 0, 1) := dk_42 (dk_at dksX3_go_0 4 rfl rfl)
theorem dX3_go_5 : decode cX3_go 5 = .ok (.getfield 203, 3) := dk_180 0 203 (dk_at dksX3_go_0 5 rfl rfl)
theorem dX3_go_8 : decode cX3_go 8 = .ok (.if_icmp .ge 30, 3) := dk_162 0 30 (dk_at dksX3_go_0 8 rfl rfl)
theorem dX3_go_11 : decode cX3_go 11 = .ok (.aload_n 0, 1) := dk_42 (dk_at dksX3_go_0 11 rfl rfl)
theorem dX3_go_12 : decode cX3_go 12 = .ok (.getfield 28, 3) := dk_180 0 28 (dk_at dksX3_go_0 12 rfl rfl)
theorem dX3_go_15 : decode cX3_go 15 = .ok (.aload_n 0, 1) := dk_42 (dk_at dksX3_go_0 15 rfl rfl)
theorem dX3_go_16 : decode cX3_go 16 = .ok (.getfield 207, 3) := dk_180 0 207 (dk_at dksX3_go_0 16 rfl rfl)
theorem dX3_go_19 : decode cX3_go 19 = .ok (.iaload, 1) := dk_46 (dk_at dksX3_go_0 19 rfl rfl)
theorem dX3_go_20 : decode cX3_go 20 = .ok (.bipush 32, 2) := dk_16 32 (dk_at dksX3_go_0 20 rfl rfl)
theorem dX3_go_22 : decode cX3_go 22 = .ok (.if_icmp .ne 16, 3) := dk_160 0 16 (dk_at dksX3_go_1 0 rfl rfl)
theorem dX3_go_25 : decode cX3_go 25 = .ok (.aload_n 0, 1) := dk_42 (dk_at dksX3_go_1 3 rfl rfl)
theorem dX3_go_26 : decode cX3_go 26 = .ok (.dup, 1) := dk_89 (dk_at dksX3_go_1 4 rfl rfl)
theorem dX3_go_27 : decode cX3_go 27 = .ok (.getfield 207, 3) := dk_180 0 207 (dk_at dksX3_go_1 5 rfl rfl)
theorem dX3_go_30 : decode cX3_go 30 = .ok (.iconst 1, 1) := dk_4 (dk_at dksX3_go_1 8 rfl rfl)
theorem dX3_go_31 : decode cX3_go 31 = .ok (.iadd, 1) := dk_96 (dk_at dksX3_go_1 9 rfl rfl)
theorem dX3_go_32 : decode cX3_go 32 = .ok (.putfield 207, 3) := dk_181 0 207 (dk_at dksX3_go_1 10 rfl rfl)
theorem dX3_go_35 : decode cX3_go 35 = .ok (.goto (-35), 3) := dk_167 255 221 (dk_at dksX3_go_1 13 rfl rfl)
theorem dX3_go_38 : decode cX3_go 38 = .ok (.aload_n 0, 1) := dk_42 (dk_at dksX3_go_1 16 rfl rfl)
theorem dX3_go_39 : decode cX3_go 39 = .ok (.aload_n 0, 1) := dk_42 (dk_at dksX3_go_1 17 rfl rfl)
theorem dX3_go_40 : decode cX3_go 40 = .ok (.getfield 207, 3) := dk_180 0 207 (dk_at dksX3_go_1 18 rfl rfl)
theorem dX3_go_43 : decode cX3_go 43 = .ok (.putfield 210, 3) := dk_181 0 210 (dk_at dksX3_go_1 21 rfl rfl)
theorem dX3_go_46 : decode cX3_go 46 = .ok (.aload_n 0, 1) := dk_42 (dk_at dksX3_go_2 0 rfl rfl)
theorem dX3_go_47 : decode cX3_go 47 = .ok (.getfield 210, 3) := dk_180 0 210 (dk_at dksX3_go_2 1 rfl rfl)
theorem dX3_go_50 : decode cX3_go 50 = .ok (.aload_n 0, 1) := dk_42 (dk_at dksX3_go_2 4 rfl rfl)
theorem dX3_go_51 : decode cX3_go 51 = .ok (.getfield 213, 3) := dk_180 0 213 (dk_at dksX3_go_2 5 rfl rfl)
theorem dX3_go_54 : decode cX3_go 54 = .ok (.if_icmp .ne 7, 3) := dk_160 0 7 (dk_at dksX3_go_2 8 rfl rfl)
theorem dX3_go_57 : decode cX3_go 57 = .ok (.iconst 1, 1) := dk_4 (dk_at dksX3_go_2 11 rfl rfl)
theorem dX3_go_58 : decode cX3_go 58 = .ok (.goto 4, 3) := dk_167 0 4 (dk_at dksX3_go_2 12 rfl rfl)
theorem dX3_go_61 : decode cX3_go 61 = .ok (.iconst 0, 1) := dk_3 (dk_at dksX3_go_2 15 rfl rfl)
theorem dX3_go_62 : decode cX3_go 62 = .ok (.istore_n 1, 1) := dk_60 (dk_at dksX3_go_2 16 rfl rfl)
theorem dX3_go_63 : decode cX3_go 63 = .ok (.aload_n 0, 1) := dk_42 (dk_at dksX3_go_2 17 rfl rfl)
theorem dX3_go_64 : decode cX3_go 64 = .ok (.getfield 210, 3) := dk_180 0 210 (dk_at dksX3_go_2 18 rfl rfl)
theorem dX3_go_67 : decode cX3_go 67 = .ok (.aload_n 0, 1) := dk_42 (dk_at dksX3_go_2 21 rfl rfl)
theorem dX3_go_68 : decode cX3_go 68 = .ok (.getfield 203, 3) := dk_180 0 203 (dk_at dksX3_go_3 0 rfl rfl)
theorem dX3_go_71 : decode cX3_go 71 = .ok (.if_icmp .ne 11, 3) := dk_160 0 11 (dk_at dksX3_go_3 3 rfl rfl)
theorem dX3_go_74 : decode cX3_go 74 = .ok (.aload_n 0, 1) := dk_42 (dk_at dksX3_go_3 6 rfl rfl)
theorem dX3_go_75 : decode cX3_go 75 = .ok (.iconst 0, 1) := dk_3 (dk_at dksX3_go_3 7 rfl rfl)
theorem dX3_go_76 : decode cX3_go 76 = .ok (.putfield 216, 3) := dk_181 0 216 (dk_at dksX3_go_3 8 rfl rfl)
theorem dX3_go_79 : decode cX3_go 79 = .ok (.goto 224, 3) := dk_167 0 224 (dk_at dksX3_go_3 11 rfl rfl)
theorem dX3_go_82 : decode cX3_go 82 = .ok (.aload_n 0, 1) := dk_42 (dk_at dksX3_go_3 14 rfl rfl)
theorem dX3_go_83 : decode cX3_go 83 = .ok (.aload_n 0, 1) := dk_42 (dk_at dksX3_go_3 15 rfl rfl)
theorem dX3_go_84 : decode cX3_go 84 = .ok (.getfield 210, 3) := dk_180 0 210 (dk_at dksX3_go_3 16 rfl rfl)
theorem dX3_go_87 : decode cX3_go 87 = .ok (.invokevirtual 219, 3) := dk_182 0 219 (dk_at dksX3_go_3 19 rfl rfl)
theorem dX3_go_90 : decode cX3_go 90 = .ok (.ifCond .eq 64, 3) := dk_153 0 64 (dk_at dksX3_go_4 0 rfl rfl)
theorem dX3_go_93 : decode cX3_go 93 = .ok (.aload_n 0, 1) := dk_42 (dk_at dksX3_go_4 3 rfl rfl)
theorem dX3_go_94 : decode cX3_go 94 = .ok (.aload_n 0, 1) := dk_42 (dk_at dksX3_go_4 4 rfl rfl)
theorem dX3_go_95 : decode cX3_go 95 = .ok (.getfield 207, 3) := dk_180 0 207 (dk_at dksX3_go_4 5 rfl rfl)
theorem dX3_go_98 : decode cX3_go 98 = .ok (.invokevirtual 219, 3) := dk_182 0 219 (dk_at dksX3_go_4 8 rfl rfl)
theorem dX3_go_101 : decode cX3_go 101 = .ok (.ifCond .eq 16, 3) := dk_153 0 16 (dk_at dksX3_go_4 11 rfl rfl)
theorem dX3_go_104 : decode cX3_go 104 = .ok (.aload_n 0, 1) := dk_42 (dk_at dksX3_go_4 14 rfl rfl)
theorem dX3_go_105 : decode cX3_go 105 = .ok (.dup, 1) := dk_89 (dk_at dksX3_go_4 15 rfl rfl)
theorem dX3_go_106 : decode cX3_go 106 = .ok (.getfield 207, 3) := dk_180 0 207 (dk_at dksX3_go_4 16 rfl rfl)
theorem dX3_go_109 : decode cX3_go 109 = .ok (.iconst 1, 1) := dk_4 (dk_at dksX3_go_4 19 rfl rfl)
theorem dX3_go_110 : decode cX3_go 110 = .ok (.iadd, 1) := dk_96 (dk_at dksX3_go_4 20 rfl rfl)
theorem dX3_go_111 : decode cX3_go 111 = .ok (.putfield 207, 3) := dk_181 0 207 (dk_at dksX3_go_4 21 rfl rfl)
theorem dX3_go_114 : decode cX3_go 114 = .ok (.goto (-21), 3) := dk_167 255 235 (dk_at dksX3_go_5 0 rfl rfl)
theorem dX3_go_117 : decode cX3_go 117 = .ok (.aload_n 0, 1) := dk_42 (dk_at dksX3_go_5 3 rfl rfl)
theorem dX3_go_118 : decode cX3_go 118 = .ok (.iload_n 1, 1) := dk_27 (dk_at dksX3_go_5 4 rfl rfl)
theorem dX3_go_119 : decode cX3_go 119 = .ok (.ifCond .eq 7, 3) := dk_153 0 7 (dk_at dksX3_go_5 5 rfl rfl)
theorem dX3_go_122 : decode cX3_go 122 = .ok (.iconst 4, 1) := dk_7 (dk_at dksX3_go_5 8 rfl rfl)
theorem dX3_go_123 : decode cX3_go 123 = .ok (.goto 4, 3) := dk_167 0 4 (dk_at dksX3_go_5 9 rfl rfl)
theorem dX3_go_126 : decode cX3_go 126 = .ok (.iconst 1, 1) := dk_4 (dk_at dksX3_go_5 12 rfl rfl)
theorem dX3_go_127 : decode cX3_go 127 = .ok (.putfield 216, 3) := dk_181 0 216 (dk_at dksX3_go_5 13 rfl rfl)
theorem dX3_go_130 : decode cX3_go 130 = .ok (.aload_n 0, 1) := dk_42 (dk_at dksX3_go_5 16 rfl rfl)
theorem dX3_go_131 : decode cX3_go 131 = .ok (.aload_n 0, 1) := dk_42 (dk_at dksX3_go_5 17 rfl rfl)
theorem dX3_go_132 : decode cX3_go 132 = .ok (.getfield 28, 3) := dk_180 0 28 (dk_at dksX3_go_5 18 rfl rfl)
theorem dX3_go_135 : decode cX3_go 135 = .ok (.aload_n 0, 1) := dk_42 (dk_at dksX3_go_5 21 rfl rfl)
theorem dX3_go_136 : decode cX3_go 136 = .ok (.getfield 210, 3) := dk_180 0 210 (dk_at dksX3_go_6 0 rfl rfl)
theorem dX3_go_139 : decode cX3_go 139 = .ok (.iaload, 1) := dk_46 (dk_at dksX3_go_6 3 rfl rfl)
theorem dX3_go_140 : decode cX3_go 140 = .ok (.putfield 222, 3) := dk_181 0 222 (dk_at dksX3_go_6 4 rfl rfl)
theorem dX3_go_143 : decode cX3_go 143 = .ok (.aload_n 0, 1) := dk_42 (dk_at dksX3_go_6 7 rfl rfl)
theorem dX3_go_144 : decode cX3_go 144 = .ok (.aload_n 0, 1) := dk_42 (dk_at dksX3_go_6 8 rfl rfl)
theorem dX3_go_145 : decode cX3_go 145 = .ok (.getfield 207, 3) := dk_180 0 207 (dk_at dksX3_go_6 9 rfl rfl)
theorem dX3_go_148 : decode cX3_go 148 = .ok (.putfield 213, 3) := dk_181 0 213 (dk_at dksX3_go_6 12 rfl rfl)
theorem dX3_go_151 : decode cX3_go 151 = .ok (.goto 152, 3) := dk_167 0 152 (dk_at dksX3_go_6 15 rfl rfl)
theorem dX3_go_154 : decode cX3_go 154 = .ok (.aload_n 0, 1) := dk_42 (dk_at dksX3_go_6 18 rfl rfl)
theorem dX3_go_155 : decode cX3_go 155 = .ok (.aload_n 0, 1) := dk_42 (dk_at dksX3_go_6 19 rfl rfl)
theorem dX3_go_156 : decode cX3_go 156 = .ok (.getfield 210, 3) := dk_180 0 210 (dk_at dksX3_go_6 20 rfl rfl)
theorem dX3_go_159 : decode cX3_go 159 = .ok (.invokevirtual 225, 3) := dk_182 0 225 (dk_at dksX3_go_7 0 rfl rfl)
theorem dX3_go_162 : decode cX3_go 162 = .ok (.ifCond .eq 113, 3) := dk_153 0 113 (dk_at dksX3_go_7 3 rfl rfl)
theorem dX3_go_165 : decode cX3_go 165 = .ok (.aload_n 0, 1) := dk_42 (dk_at dksX3_go_7 6 rfl rfl)
theorem dX3_go_166 : decode cX3_go 166 = .ok (.iconst 0, 1) := dk_3 (dk_at dksX3_go_7 7 rfl rfl)
theorem dX3_go_167 : decode cX3_go 167 = .ok (.putfield 222, 3) := dk_181 0 222 (dk_at dksX3_go_7 8 rfl rfl)
theorem dX3_go_170 : decode cX3_go 170 = .ok (.aload_n 0, 1) := dk_42 (dk_at dksX3_go_7 11 rfl rfl)
theorem dX3_go_171 : decode cX3_go 171 = .ok (.aload_n 0, 1) := dk_42 (dk_at dksX3_go_7 12 rfl rfl)
theorem dX3_go_172 : decode cX3_go 172 = .ok (.getfield 207, 3) := dk_180 0 207 (dk_at dksX3_go_7 13 rfl rfl)
theorem dX3_go_175 : decode cX3_go 175 = .ok (.invokevirtual 225, 3) := dk_182 0 225 (dk_at dksX3_go_7 16 rfl rfl)
theorem dX3_go_178 : decode cX3_go 178 = .ok (.ifCond .eq 60, 3) := dk_153 0 60 (dk_at dksX3_go_7 19 rfl rfl)
theorem dX3_go_181 : decode cX3_go 181 = .ok (.aload_n 0, 1) := dk_42 (dk_at dksX3_go_7 22 rfl rfl)
theorem dX3_go_182 : decode cX3_go 182 = .ok (.aload_n 0, 1) := dk_42 (dk_at dksX3_go_7 23 rfl rfl)
theorem dX3_go_183 : decode cX3_go 183 = .ok (.getfield 207, 3) := dk_180 0 207 (dk_at dksX3_go_8 0 rfl rfl)
theorem dX3_go_186 : decode cX3_go 186 = .ok (.aload_n 0, 1) := dk_42 (dk_at dksX3_go_8 3 rfl rfl)
theorem dX3_go_187 : decode cX3_go 187 = .ok (.getfield 210, 3) := dk_180 0 210 (dk_at dksX3_go_8 4 rfl rfl)
theorem dX3_go_190 : decode cX3_go 190 = .ok (.isub, 1) := dk_100 (dk_at dksX3_go_8 7 rfl rfl)
theorem dX3_go_191 : decode cX3_go 191 = .ok (.iconst 4, 1) := dk_7 (dk_at dksX3_go_8 8 rfl rfl)
theorem dX3_go_192 : decode cX3_go 192 = .ok (.if_icmp .ge 26, 3) := dk_162 0 26 (dk_at dksX3_go_8 9 rfl rfl)
theorem dX3_go_195 : decode cX3_go 195 = .ok (.bipush 10, 2) := dk_16 10 (dk_at dksX3_go_8 12 rfl rfl)
theorem dX3_go_197 : decode cX3_go 197 = .ok (.aload_n 0, 1) := dk_42 (dk_at dksX3_go_8 14 rfl rfl)
theorem dX3_go_198 : decode cX3_go 198 = .ok (.getfield 222, 3) := dk_180 0 222 (dk_at dksX3_go_8 15 rfl rfl)
theorem dX3_go_201 : decode cX3_go 201 = .ok (.imul, 1) := dk_104 (dk_at dksX3_go_8 18 rfl rfl)
theorem dX3_go_202 : decode cX3_go 202 = .ok (.aload_n 0, 1) := dk_42 (dk_at dksX3_go_8 19 rfl rfl)
theorem dX3_go_203 : decode cX3_go 203 = .ok (.getfield 28, 3) := dk_180 0 28 (dk_at dksX3_go_8 20 rfl rfl)
theorem dX3_go_206 : decode cX3_go 206 = .ok (.aload_n 0, 1) := dk_42 (dk_at dksX3_go_8 23 rfl rfl)
theorem dX3_go_207 : decode cX3_go 207 = .ok (.getfield 207, 3) := dk_180 0 207 (dk_at dksX3_go_9 0 rfl rfl)
theorem dX3_go_210 : decode cX3_go 210 = .ok (.iaload, 1) := dk_46 (dk_at dksX3_go_9 3 rfl rfl)
theorem dX3_go_211 : decode cX3_go 211 = .ok (.iadd, 1) := dk_96 (dk_at dksX3_go_9 4 rfl rfl)
theorem dX3_go_212 : decode cX3_go 212 = .ok (.bipush 48, 2) := dk_16 48 (dk_at dksX3_go_9 5 rfl rfl)
theorem dX3_go_214 : decode cX3_go 214 = .ok (.isub, 1) := dk_100 (dk_at dksX3_go_9 7 rfl rfl)
theorem dX3_go_215 : decode cX3_go 215 = .ok (.goto 7, 3) := dk_167 0 7 (dk_at dksX3_go_9 8 rfl rfl)
theorem dX3_go_218 : decode cX3_go 218 = .ok (.aload_n 0, 1) := dk_42 (dk_at dksX3_go_9 11 rfl rfl)
theorem dX3_go_219 : decode cX3_go 219 = .ok (.getfield 222, 3) := dk_180 0 222 (dk_at dksX3_go_9 12 rfl rfl)
theorem dX3_go_222 : decode cX3_go 222 = .ok (.putfield 222, 3) := dk_181 0 222 (dk_at dksX3_go_9 15 rfl rfl)
theorem dX3_go_225 : decode cX3_go 225 = .ok (.aload_n 0, 1) := dk_42 (dk_at dksX3_go_9 18 rfl rfl)
theorem dX3_go_226 : decode cX3_go 226 = .ok (.dup, 1) := dk_89 (dk_at dksX3_go_9 19 rfl rfl)
theorem dX3_go_227 : decode cX3_go 227 = .ok (.getfield 207, 3) := dk_180 0 207 (dk_at dksX3_go_9 20 rfl rfl)
theorem dX3_go_230 : decode cX3_go 230 = .ok (.iconst 1, 1) := dk_4 (dk_at dksX3_go_9 23 rfl rfl)
theorem dX3_go_231 : decode cX3_go 231 = .ok (.iadd, 1) := dk_96 (dk_at dksX3_go_10 0 rfl rfl)
theorem dX3_go_232 : decode cX3_go 232 = .ok (.putfield 207, 3) := dk_181 0 207 (dk_at dksX3_go_10 1 rfl rfl)
theorem dX3_go_235 : decode cX3_go 235 = .ok (.goto (-65), 3) := dk_167 255 191 (dk_at dksX3_go_10 4 rfl rfl)
theorem dX3_go_238 : decode cX3_go 238 = .ok (.aload_n 0, 1) := dk_42 (dk_at dksX3_go_10 7 rfl rfl)
theorem dX3_go_239 : decode cX3_go 239 = .ok (.iload_n 1, 1) := dk_27 (dk_at dksX3_go_10 8 rfl rfl)
theorem dX3_go_240 : decode cX3_go 240 = .ok (.ifCond .ne 16, 3) := dk_154 0 16 (dk_at dksX3_go_10 9 rfl rfl)
theorem dX3_go_243 : decode cX3_go 243 = .ok (.aload_n 0, 1) := dk_42 (dk_at dksX3_go_10 12 rfl rfl)
theorem dX3_go_244 : decode cX3_go 244 = .ok (.getfield 207, 3) := dk_180 0 207 (dk_at dksX3_go_10 13 rfl rfl)
theorem dX3_go_247 : decode cX3_go 247 = .ok (.aload_n 0, 1) := dk_42 (dk_at dksX3_go_10 16 rfl rfl)
theorem dX3_go_248 : decode cX3_go 248 = .ok (.getfield 210, 3) := dk_180 0 210 (dk_at dksX3_go_10 17 rfl rfl)
theorem dX3_go_251 : decode cX3_go 251 = .ok (.isub, 1) := dk_100 (dk_at dksX3_go_10 20 rfl rfl)
theorem dX3_go_252 : decode cX3_go 252 = .ok (.iconst 4, 1) := dk_7 (dk_at dksX3_go_10 21 rfl rfl)
theorem dX3_go_253 : decode cX3_go 253 = .ok (.if_icmp .le 7, 3) := dk_164 0 7 (dk_at dksX3_go_11 0 rfl rfl)
theorem dX3_go_256 : decode cX3_go 256 = .ok (.iconst 4, 1) := dk_7 (dk_at dksX3_go_11 3 rfl rfl)
theorem dX3_go_257 : decode cX3_go 257 = .ok (.goto 4, 3) := dk_167 0 4 (dk_at dksX3_go_11 4 rfl rfl)
theorem dX3_go_260 : decode cX3_go 260 = .ok (.iconst 2, 1) := dk_5 (dk_at dksX3_go_11 7 rfl rfl)
theorem dX3_go_261 : decode cX3_go 261 = .ok (.putfield 216, 3) := dk_181 0 216 (dk_at dksX3_go_11 8 rfl rfl)
theorem dX3_go_264 : decode cX3_go 264 = .ok (.aload_n 0, 1) := dk_42 (dk_at dksX3_go_11 11 rfl rfl)
theorem dX3_go_265 : decode cX3_go 265 = .ok (.aload_n 0, 1) := dk_42 (dk_at dksX3_go_11 12 rfl rfl)
theorem dX3_go_266 : decode cX3_go 266 = .ok (.getfield 207, 3) := dk_180 0 207 (dk_at dksX3_go_11 13 rfl rfl)
theorem dX3_go_269 : decode cX3_go 269 = .ok (.putfield 213, 3) := dk_181 0 213 (dk_at dksX3_go_11 16 rfl rfl)
theorem dX3_go_272 : decode cX3_go 272 = .ok (.goto 31, 3) := dk_167 0 31 (dk_at dksX3_go_11 19 rfl rfl)
theorem dX3_go_275 : decode cX3_go 275 = .ok (.aload_n 0, 1) := dk_42 (dk_at dksX3_go_11 22 rfl rfl)
theorem dX3_go_276 : decode cX3_go 276 = .ok (.iconst 3, 1) := dk_6 (dk_at dksX3_go_11 23 rfl rfl)
theorem dX3_go_277 : decode cX3_go 277 = .ok (.putfield 216, 3) := dk_181 0 216 (dk_at dksX3_go_12 0 rfl rfl)
theorem dX3_go_280 : decode cX3_go 280 = .ok (.aload_n 0, 1) := dk_42 (dk_at dksX3_go_12 3 rfl rfl)
theorem dX3_go_281 : decode cX3_go 281 = .ok (.aload_n 0, 1) := dk_42 (dk_at dksX3_go_12 4 rfl rfl)
theorem dX3_go_282 : decode cX3_go 282 = .ok (.getfield 28, 3) := dk_180 0 28 (dk_at dksX3_go_12 5 rfl rfl)
theorem dX3_go_285 : decode cX3_go 285 = .ok (.aload_n 0, 1) := dk_42 (dk_at dksX3_go_12 8 rfl rfl)
theorem dX3_go_286 : decode cX3_go 286 = .ok (.getfield 210, 3) := dk_180 0 210 (dk_at dksX3_go_12 9 rfl rfl)
theorem dX3_go_289 : decode cX3_go 289 = .ok (.iaload, 1) := dk_46 (dk_at dksX3_go_12 12 rfl rfl)
theorem dX3_go_290 : decode cX3_go 290 = .ok (.putfield 222, 3) := dk_181 0 222 (dk_at dksX3_go_12 13 rfl rfl)
theorem dX3_go_293 : decode cX3_go 293 = .ok (.aload_n 0, 1) := dk_42 (dk_at dksX3_go_12 16 rfl rfl)
theorem dX3_go_294 : decode cX3_go 294 = .ok (.dup, 1) := dk_89 (dk_at dksX3_go_12 17 rfl rfl)
theorem dX3_go_295 : decode cX3_go 295 = .ok (.getfield 207, 3) := dk_180 0 207 (dk_at dksX3_go_12 18 rfl rfl)
theorem dX3_go_298 : decode cX3_go 298 = .ok (.iconst 1, 1) := dk_4 (dk_at dksX3_go_12 21 rfl rfl)
theorem dX3_go_299 : decode cX3_go 299 = .ok (.iadd, 1) := dk_96 (dk_at dksX3_go_12 22 rfl rfl)
theorem dX3_go_300 : decode cX3_go 300 = .ok (.putfield 207, 3) := dk_181 0 207 (dk_at dksX3_go_13 0 rfl rfl)
theorem dX3_go_303 : decode cX3_go 303 = .ok (.return_, 1) := dk_177 (dk_at dksX3_go_13 3 rfl rfl)
abbrev cX3_isLetter : ByteArray := prog_22_method_61_code
def yX3_isLetter : MethodName := ⟨RX3, "isLetter", "(I)Z"⟩
def dkwX3_isLetter_1 : List UInt8 := [46, 16, 122, 163, 0, 7, 4, 167, 0, 4, 3, 172]
abbrev dktX3_isLetter_1 : List UInt8 := dkwX3_isLetter_1 ++ []
def dkwX3_isLetter_0 : List UInt8 := [27, 42, 180, 0, 203, 162, 0, 29, 42, 180, 0, 28, 27, 46, 16, 97, 161, 0, 18, 42, 180, 0, 28, 27]
abbrev dktX3_isLetter_0 : List UInt8 := dkwX3_isLetter_0 ++ dktX3_isLetter_1
theorem dksX3_isLetter_0 : cX3_isLetter.data.toList.drop 0 = dktX3_isLetter_0 := by decide +kernel
theorem dksX3_isLetter_1 : cX3_isLetter.data.toList.drop 24 = dktX3_isLetter_1 := dk_seg dksX3_isLetter_0 24 rfl rfl
theorem dX3_isLetter_0 : decode cX3_isLetter 0 = .ok (.iload_n 1, 1) := dk_27 (dk_at dksX3_isLetter_0 0 rfl rfl)
theorem dX3_isLetter_1 : decode cX3_isLetter 1 = .ok (.aload_n 0, 1) := dk_42 (dk_at dksX3_isLetter_0 1 rfl rfl)
theorem dX3_isLetter_2 : decode cX3_isLetter 2 = .ok (.getfield 203, 3) := dk_180 0 203 (dk_at dksX3_isLetter_0 2 rfl rfl)
theorem dX3_isLetter_5 : decode cX3_isLetter 5 = .ok (.if_icmp .ge 29, 3) := dk_162 0 29 (dk_at dksX3_isLetter_0 5 rfl rfl)
theorem dX3_isLetter_8 : decode cX3_isLetter 8 = .ok (.aload_n 0, 1) := dk_42 (dk_at dksX3_isLetter_0 8 rfl rfl)
theorem dX3_isLetter_9 : decode cX3_isLetter 9 = .ok (.getfield 28, 3) := dk_180 0 28 (dk_at dksX3_isLetter_0 9 rfl rfl)
theorem dX3_isLetter_12 : decode cX3_isLetter 12 = .ok (.iload_n 1, 1) := dk_27 (dk_at dksX3_isLetter_0 12 rfl rfl)
theorem dX3_isLetter_13 : decode cX3_isLetter 13 = .ok (.iaload, 1) := dk_46 (dk_at dksX3_isLetter_0 13 rfl rfl)
theorem dX3_isLetter_14 : decode cX3_isLetter 14 = .ok (.bipush 97, 2) := dk_16 97 (dk_at dksX3_isLetter_0 14 rfl rfl)
theorem dX3_isLetter_16 : decode cX3_isLetter 16 = .ok (.if_icmp .lt 18, 3) := dk_161 0 18 (dk_at dksX3_isLetter_0 16 rfl rfl)
theorem dX3_isLetter_19 : decode cX3_isLetter 19 = .ok (.aload_n 0, 1) := dk_42 (dk_at dksX3_isLetter_0 19 rfl rfl)
theorem dX3_isLetter_20 : decode cX3_isLetter 20 = .ok (.getfield 28, 3) := dk_180 0 28 (dk_at dksX3_isLetter_0 20 rfl rfl)
theorem dX3_isLetter_23 : decode cX3_isLetter 23 = .ok (.iload_n 1, 1) := dk_27 (dk_at dksX3_isLetter_0 23 rfl rfl)
theorem dX3_isLetter_24 : decode cX3_isLetter 24 = .ok (.iaload, 1) := dk_46 (dk_at dksX3_isLetter_1 0 rfl rfl)
theorem dX3_isLetter_25 : decode cX3_isLetter 25 = .ok (.bipush 122, 2) := dk_16 122 (dk_at dksX3_isLetter_1 1 rfl rfl)
theorem dX3_isLetter_27 : decode cX3_isLetter 27 = .ok (.if_icmp .gt 7, 3) := dk_163 0 7 (dk_at dksX3_isLetter_1 3 rfl rfl)
theorem dX3_isLetter_30 : decode cX3_isLetter 30 = .ok (.iconst 1, 1) := dk_4 (dk_at dksX3_isLetter_1 6 rfl rfl)
theorem dX3_isLetter_31 : decode cX3_isLetter 31 = .ok (.goto 4, 3) := dk_167 0 4 (dk_at dksX3_isLetter_1 7 rfl rfl)
theorem dX3_isLetter_34 : decode cX3_isLetter 34 = .ok (.iconst 0, 1) := dk_3 (dk_at dksX3_isLetter_1 10 rfl rfl)
theorem dX3_isLetter_35 : decode cX3_isLetter 35 = .ok (.ireturn, 1) := dk_172 (dk_at dksX3_isLetter_1 11 rfl rfl)
abbrev cX3_isFigure : ByteArray := prog_22_method_62_code
def yX3_isFigure : MethodName := ⟨RX3, "isFigure", "(I)Z"⟩
def dkwX3_isFigure_1 : List UInt8 := [46, 16, 57, 163, 0, 7, 4, 167, 0, 4, 3, 172]
abbrev dktX3_isFigure_1 : List UInt8 := dkwX3_isFigure_1 ++ []
def dkwX3_isFigure_0 : List UInt8 := [27, 42, 180, 0, 203, 162, 0, 29, 42, 180, 0, 28, 27, 46, 16, 48, 161, 0, 18, 42, 180, 0, 28, 27]
abbrev dktX3_isFigure_0 : List UInt8 := dkwX3_isFigure_0 ++ dktX3_isFigure_1
theorem dksX3_isFigure_0 : cX3_isFigure.data.toList.drop 0 = dktX3_isFigure_0 := by decide +kernel
theorem dksX3_isFigure_1 : cX3_isFigure.data.toList.drop 24 = dktX3_isFigure_1 := dk_seg dksX3_isFigure_0 24 rfl rfl
theorem dX3_isFigure_0 : decode cX3_isFigure 0 = .ok (.iload_n 1, 1) := dk_27 (dk_at dksX3_isFigure_0 0 rfl rfl)
theorem dX3_isFigure_1 : decode cX3_isFigure 1 = .ok (.aload_n 0, 1) := dk_42 (dk_at dksX3_isFigure_0 1 rfl rfl)
theorem dX3_isFigure_2 : decode cX3_isFigure 2 = .ok (.getfield 203, 3) := dk_180 0 203 (dk_at dksX3_isFigure_0 2 rfl rfl)
theorem dX3_isFigure_5 : decode cX3_isFigure 5 = .ok (.if_icmp .ge 29, 3) := dk_162 0 29 (dk_at dksX3_isFigure_0 5 rfl rfl)
theorem dX3_isFigure_8 : decode cX3_isFigure 8 = .ok (.aload_n 0, 1) := dk_42 (dk_at dksX3_isFigure_0 8 rfl rfl)
theorem dX3_isFigure_9 : decode cX3_isFigure 9 = .ok (.getfield 28, 3) := dk_180 0 28 (dk_at dksX3_isFigure_0 9 rfl rfl)
theorem dX3_isFigure_12 : decode cX3_isFigure 12 = .ok (.iload_n 1, 1) := dk_27 (dk_at dksX3_isFigure_0 12 rfl rfl)
theorem dX3_isFigure_13 : decode cX3_isFigure 13 = .ok (.iaload, 1) := dk_46 (dk_at dksX3_isFigure_0 13 rfl rfl)
theorem dX3_isFigure_14 : decode cX3_isFigure 14 = .ok (.bipush 48, 2) := dk_16 48 (dk_at dksX3_isFigure_0 14 rfl rfl)
theorem dX3_isFigure_16 : decode cX3_isFigure 16 = .ok (.if_icmp .lt 18, 3) := dk_161 0 18 (dk_at dksX3_isFigure_0 16 rfl rfl)
theorem dX3_isFigure_19 : decode cX3_isFigure 19 = .ok (.aload_n 0, 1) := dk_42 (dk_at dksX3_isFigure_0 19 rfl rfl)
theorem dX3_isFigure_20 : decode cX3_isFigure 20 = .ok (.getfield 28, 3) := dk_180 0 28 (dk_at dksX3_isFigure_0 20 rfl rfl)
theorem dX3_isFigure_23 : decode cX3_isFigure 23 = .ok (.iload_n 1, 1) := dk_27 (dk_at dksX3_isFigure_0 23 rfl rfl)
theorem dX3_isFigure_24 : decode cX3_isFigure 24 = .ok (.iaload, 1) := dk_46 (dk_at dksX3_isFigure_1 0 rfl rfl)
theorem dX3_isFigure_25 : decode cX3_isFigure 25 = .ok (.bipush 57, 2) := dk_16 57 (dk_at dksX3_isFigure_1 1 rfl rfl)
theorem dX3_isFigure_27 : decode cX3_isFigure 27 = .ok (.if_icmp .gt 7, 3) := dk_163 0 7 (dk_at dksX3_isFigure_1 3 rfl rfl)
theorem dX3_isFigure_30 : decode cX3_isFigure 30 = .ok (.iconst 1, 1) := dk_4 (dk_at dksX3_isFigure_1 6 rfl rfl)
theorem dX3_isFigure_31 : decode cX3_isFigure 31 = .ok (.goto 4, 3) := dk_167 0 4 (dk_at dksX3_isFigure_1 7 rfl rfl)
theorem dX3_isFigure_34 : decode cX3_isFigure 34 = .ok (.iconst 0, 1) := dk_3 (dk_at dksX3_isFigure_1 10 rfl rfl)
theorem dX3_isFigure_35 : decode cX3_isFigure 35 = .ok (.ireturn, 1) := dk_172 (dk_at dksX3_isFigure_1 11 rfl rfl)
abbrev cX3_takesKey : ByteArray := prog_22_method_64_code
def yX3_takesKey : MethodName := ⟨RX3, "takesKey", "()Z"⟩
def dkwX3_takesKey_5 : List UInt8 := [182, 0, 231, 4, 172, 132, 1, 1, 167, 255, 144, 3, 172]
abbrev dktX3_takesKey_5 : List UInt8 := dkwX3_takesKey_5 ++ []
def dkwX3_takesKey_4 : List UInt8 := [4, 167, 0, 4, 3, 62, 132, 4, 1, 167, 255, 208, 29, 153, 0, 14, 42, 27, 181, 0, 228, 42]
abbrev dktX3_takesKey_4 : List UInt8 := dkwX3_takesKey_4 ++ dktX3_takesKey_5
def dkwX3_takesKey_3 : List UInt8 := [180, 0, 210, 21, 4, 96, 46, 42, 180, 0, 31, 42, 180, 0, 35, 27, 46, 21, 4, 96, 52, 160, 0, 7]
abbrev dktX3_takesKey_3 : List UInt8 := dkwX3_takesKey_3 ++ dktX3_takesKey_4
def dkwX3_takesKey_2 : List UInt8 := [167, 0, 4, 3, 62, 3, 54, 4, 21, 4, 28, 162, 0, 48, 29, 153, 0, 44, 42, 180, 0, 28, 42]
abbrev dktX3_takesKey_2 : List UInt8 := dkwX3_takesKey_2 ++ dktX3_takesKey_3
def dkwX3_takesKey_1 : List UInt8 := [46, 42, 180, 0, 35, 27, 46, 100, 61, 28, 42, 180, 0, 207, 42, 180, 0, 210, 100, 160, 0, 7, 4]
abbrev dktX3_takesKey_1 : List UInt8 := dkwX3_takesKey_1 ++ dktX3_takesKey_2
def dkwX3_takesKey_0 : List UInt8 := [42, 180, 0, 216, 4, 159, 0, 5, 3, 172, 3, 60, 27, 6, 162, 0, 113, 42, 180, 0, 35, 27, 4, 96]
abbrev dktX3_takesKey_0 : List UInt8 := dkwX3_takesKey_0 ++ dktX3_takesKey_1
theorem dksX3_takesKey_0 : cX3_takesKey.data.toList.drop 0 = dktX3_takesKey_0 := by decide +kernel
theorem dksX3_takesKey_1 : cX3_takesKey.data.toList.drop 24 = dktX3_takesKey_1 := dk_seg dksX3_takesKey_0 24 rfl rfl
theorem dksX3_takesKey_2 : cX3_takesKey.data.toList.drop 47 = dktX3_takesKey_2 := dk_seg dksX3_takesKey_1 23 rfl rfl
theorem dksX3_takesKey_3 : cX3_takesKey.data.toList.drop 70 = dktX3_takesKey_3 := dk_seg dksX3_takesKey_2 23 rfl rfl
theorem dksX3_takesKey_4 : cX3_takesKey.data.toList.drop 94 = dktX3_takesKey_4 := dk_seg dksX3_takesKey_3 24 rfl rfl
theorem dksX3_takesKey_5 : cX3_takesKey.data.toList.drop 116 = dktX3_takesKey_5 := dk_seg dksX3_takesKey_4 22 rfl rfl
theorem dX3_takesKey_0 : decode cX3_takesKey 0 = .ok (.aload_n 0, 1) := dk_42 (dk_at dksX3_takesKey_0 0 rfl rfl)
theorem dX3_takesKey_1 : decode cX3_takesKey 1 = .ok (.getfield 216, 3) := dk_180 0 216 (dk_at dksX3_takesKey_0 1 rfl rfl)
theorem dX3_takesKey_4 : decode cX3_takesKey 4 = .ok (.iconst 1, 1) := dk_4 (dk_at dksX3_takesKey_0 4 rfl rfl)
theorem dX3_takesKey_5 : decode cX3_takesKey 5 = .ok (.if_icmp .eq 5, 3) := dk_159 0 5 (dk_at dksX3_takesKey_0 5 rfl rfl)
theorem dX3_takesKey_8 : decode cX3_takesKey 8 = .ok (.iconst 0, 1) := dk_3 (dk_at dksX3_takesKey_0 8 rfl rfl)
theorem dX3_takesKey_9 : decode cX3_takesKey 9 = .ok (.ireturn, 1) := dk_172 (dk_at dksX3_takesKey_0 9 rfl rfl)
theorem dX3_takesKey_10 : decode cX3_takesKey 10 = .ok (.iconst 0, 1) := dk_3 (dk_at dksX3_takesKey_0 10 rfl rfl)
theorem dX3_takesKey_11 : decode cX3_takesKey 11 = .ok (.istore_n 1, 1) := dk_60 (dk_at dksX3_takesKey_0 11 rfl rfl)
theorem dX3_takesKey_12 : decode cX3_takesKey 12 = .ok (.iload_n 1, 1) := dk_27 (dk_at dksX3_takesKey_0 12 rfl rfl)
theorem dX3_takesKey_13 : decode cX3_takesKey 13 = .ok (.iconst 3, 1) := dk_6 (dk_at dksX3_takesKey_0 13 rfl rfl)
theorem dX3_takesKey_14 : decode cX3_takesKey 14 = .ok (.if_icmp .ge 113, 3) := dk_162 0 113 (dk_at dksX3_takesKey_0 14 rfl rfl)
theorem dX3_takesKey_17 : decode cX3_takesKey 17 = .ok (.aload_n 0, 1) := dk_42 (dk_at dksX3_takesKey_0 17 rfl rfl)
theorem dX3_takesKey_18 : decode cX3_takesKey 18 = .ok (.getfield 35, 3) := dk_180 0 35 (dk_at dksX3_takesKey_0 18 rfl rfl)
theorem dX3_takesKey_21 : decode cX3_takesKey 21 = .ok (.iload_n 1, 1) := dk_27 (dk_at dksX3_takesKey_0 21 rfl rfl)
theorem dX3_takesKey_22 : decode cX3_takesKey 22 = .ok (.iconst 1, 1) := dk_4 (dk_at dksX3_takesKey_0 22 rfl rfl)
theorem dX3_takesKey_23 : decode cX3_takesKey 23 = .ok (.iadd, 1) := dk_96 (dk_at dksX3_takesKey_0 23 rfl rfl)
theorem dX3_takesKey_24 : decode cX3_takesKey 24 = .ok (.iaload, 1) := dk_46 (dk_at dksX3_takesKey_1 0 rfl rfl)
theorem dX3_takesKey_25 : decode cX3_takesKey 25 = .ok (.aload_n 0, 1) := dk_42 (dk_at dksX3_takesKey_1 1 rfl rfl)
theorem dX3_takesKey_26 : decode cX3_takesKey 26 = .ok (.getfield 35, 3) := dk_180 0 35 (dk_at dksX3_takesKey_1 2 rfl rfl)
theorem dX3_takesKey_29 : decode cX3_takesKey 29 = .ok (.iload_n 1, 1) := dk_27 (dk_at dksX3_takesKey_1 5 rfl rfl)
theorem dX3_takesKey_30 : decode cX3_takesKey 30 = .ok (.iaload, 1) := dk_46 (dk_at dksX3_takesKey_1 6 rfl rfl)
theorem dX3_takesKey_31 : decode cX3_takesKey 31 = .ok (.isub, 1) := dk_100 (dk_at dksX3_takesKey_1 7 rfl rfl)
theorem dX3_takesKey_32 : decode cX3_takesKey 32 = .ok (.istore_n 2, 1) := dk_61 (dk_at dksX3_takesKey_1 8 rfl rfl)
theorem dX3_takesKey_33 : decode cX3_takesKey 33 = .ok (.iload_n 2, 1) := dk_28 (dk_at dksX3_takesKey_1 9 rfl rfl)
theorem dX3_takesKey_34 : decode cX3_takesKey 34 = .ok (.aload_n 0, 1) := dk_42 (dk_at dksX3_takesKey_1 10 rfl rfl)
theorem dX3_takesKey_35 : decode cX3_takesKey 35 = .ok (.getfield 207, 3) := dk_180 0 207 (dk_at dksX3_takesKey_1 11 rfl rfl)
theorem dX3_takesKey_38 : decode cX3_takesKey 38 = .ok (.aload_n 0, 1) := dk_42 (dk_at dksX3_takesKey_1 14 rfl rfl)
theorem dX3_takesKey_39 : decode cX3_takesKey 39 = .ok (.getfield 210, 3) := dk_180 0 210 (dk_at dksX3_takesKey_1 15 rfl rfl)
theorem dX3_takesKey_42 : decode cX3_takesKey 42 = .ok (.isub, 1) := dk_100 (dk_at dksX3_takesKey_1 18 rfl rfl)
theorem dX3_takesKey_43 : decode cX3_takesKey 43 = .ok (.if_icmp .ne 7, 3) := dk_160 0 7 (dk_at dksX3_takesKey_1 19 rfl rfl)
theorem dX3_takesKey_46 : decode cX3_takesKey 46 = .ok (.iconst 1, 1) := dk_4 (dk_at dksX3_takesKey_1 22 rfl rfl)
theorem dX3_takesKey_47 : decode cX3_takesKey 47 = .ok (.goto 4, 3) := dk_167 0 4 (dk_at dksX3_takesKey_2 0 rfl rfl)
theorem dX3_takesKey_50 : decode cX3_takesKey 50 = .ok (.iconst 0, 1) := dk_3 (dk_at dksX3_takesKey_2 3 rfl rfl)
theorem dX3_takesKey_51 : decode cX3_takesKey 51 = .ok (.istore_n 3, 1) := dk_62 (dk_at dksX3_takesKey_2 4 rfl rfl)
theorem dX3_takesKey_52 : decode cX3_takesKey 52 = .ok (.iconst 0, 1) := dk_3 (dk_at dksX3_takesKey_2 5 rfl rfl)
theorem dX3_takesKey_53 : decode cX3_takesKey 53 = .ok (.istore 4, 2) := dk_54 4 (dk_at dksX3_takesKey_2 6 rfl rfl)
theorem dX3_takesKey_55 : decode cX3_takesKey 55 = .ok (.iload 4, 2) := dk_21 4 (dk_at dksX3_takesKey_2 8 rfl rfl)
theorem dX3_takesKey_57 : decode cX3_takesKey 57 = .ok (.iload_n 2, 1) := dk_28 (dk_at dksX3_takesKey_2 10 rfl rfl)
theorem dX3_takesKey_58 : decode cX3_takesKey 58 = .ok (.if_icmp .ge 48, 3) := dk_162 0 48 (dk_at dksX3_takesKey_2 11 rfl rfl)
theorem dX3_takesKey_61 : decode cX3_takesKey 61 = .ok (.iload_n 3, 1) := dk_29 (dk_at dksX3_takesKey_2 14 rfl rfl)
theorem dX3_takesKey_62 : decode cX3_takesKey 62 = .ok (.ifCond .eq 44, 3) := dk_153 0 44 (dk_at dksX3_takesKey_2 15 rfl rfl)
theorem dX3_takesKey_65 : decode cX3_takesKey 65 = .ok (.aload_n 0, 1) := dk_42 (dk_at dksX3_takesKey_2 18 rfl rfl)
theorem dX3_takesKey_66 : decode cX3_takesKey 66 = .ok (.getfield 28, 3) := dk_180 0 28 (dk_at dksX3_takesKey_2 19 rfl rfl)
theorem dX3_takesKey_69 : decode cX3_takesKey 69 = .ok (.aload_n 0, 1) := dk_42 (dk_at dksX3_takesKey_2 22 rfl rfl)
theorem dX3_takesKey_70 : decode cX3_takesKey 70 = .ok (.getfield 210, 3) := dk_180 0 210 (dk_at dksX3_takesKey_3 0 rfl rfl)
theorem dX3_takesKey_73 : decode cX3_takesKey 73 = .ok (.iload 4, 2) := dk_21 4 (dk_at dksX3_takesKey_3 3 rfl rfl)
theorem dX3_takesKey_75 : decode cX3_takesKey 75 = .ok (.iadd, 1) := dk_96 (dk_at dksX3_takesKey_3 5 rfl rfl)
theorem dX3_takesKey_76 : decode cX3_takesKey 76 = .ok (.iaload, 1) := dk_46 (dk_at dksX3_takesKey_3 6 rfl rfl)
theorem dX3_takesKey_77 : decode cX3_takesKey 77 = .ok (.aload_n 0, 1) := dk_42 (dk_at dksX3_takesKey_3 7 rfl rfl)
theorem dX3_takesKey_78 : decode cX3_takesKey 78 = .ok (.getfield 31, 3) := dk_180 0 31 (dk_at dksX3_takesKey_3 8 rfl rfl)
theorem dX3_takesKey_81 : decode cX3_takesKey 81 = .ok (.aload_n 0, 1) := dk_42 (dk_at dksX3_takesKey_3 11 rfl rfl)
theorem dX3_takesKey_82 : decode cX3_takesKey 82 = .ok (.getfield 35, 3) := dk_180 0 35 (dk_at dksX3_takesKey_3 12 rfl rfl)
theorem dX3_takesKey_85 : decode cX3_takesKey 85 = .ok (.iload_n 1, 1) := dk_27 (dk_at dksX3_takesKey_3 15 rfl rfl)
theorem dX3_takesKey_86 : decode cX3_takesKey 86 = .ok (.iaload, 1) := dk_46 (dk_at dksX3_takesKey_3 16 rfl rfl)
theorem dX3_takesKey_87 : decode cX3_takesKey 87 = .ok (.iload 4, 2) := dk_21 4 (dk_at dksX3_takesKey_3 17 rfl rfl)
theorem dX3_takesKey_89 : decode cX3_takesKey 89 = .ok (.iadd, 1) := dk_96 (dk_at dksX3_takesKey_3 19 rfl rfl)
theorem dX3_takesKey_90 : decode cX3_takesKey 90 = .ok (.caload, 1) := dk_52 (dk_at dksX3_takesKey_3 20 rfl rfl)
theorem dX3_takesKey_91 : decode cX3_takesKey 91 = .ok (.if_icmp .ne 7, 3) := dk_160 0 7 (dk_at dksX3_takesKey_3 21 rfl rfl)
theorem dX3_takesKey_94 : decode cX3_takesKey 94 = .ok (.iconst 1, 1) := dk_4 (dk_at dksX3_takesKey_4 0 rfl rfl)
theorem dX3_takesKey_95 : decode cX3_takesKey 95 = .ok (.goto 4, 3) := dk_167 0 4 (dk_at dksX3_takesKey_4 1 rfl rfl)
theorem dX3_takesKey_98 : decode cX3_takesKey 98 = .ok (.iconst 0, 1) := dk_3 (dk_at dksX3_takesKey_4 4 rfl rfl)
theorem dX3_takesKey_99 : decode cX3_takesKey 99 = .ok (.istore_n 3, 1) := dk_62 (dk_at dksX3_takesKey_4 5 rfl rfl)
theorem dX3_takesKey_100 : decode cX3_takesKey 100 = .ok (.iinc 4 1, 3) := dk_132 4 1 (dk_at dksX3_takesKey_4 6 rfl rfl)
theorem dX3_takesKey_103 : decode cX3_takesKey 103 = .ok (.goto (-48), 3) := dk_167 255 208 (dk_at dksX3_takesKey_4 9 rfl rfl)
theorem dX3_takesKey_106 : decode cX3_takesKey 106 = .ok (.iload_n 3, 1) := dk_29 (dk_at dksX3_takesKey_4 12 rfl rfl)
theorem dX3_takesKey_107 : decode cX3_takesKey 107 = .ok (.ifCond .eq 14, 3) := dk_153 0 14 (dk_at dksX3_takesKey_4 13 rfl rfl)
theorem dX3_takesKey_110 : decode cX3_takesKey 110 = .ok (.aload_n 0, 1) := dk_42 (dk_at dksX3_takesKey_4 16 rfl rfl)
theorem dX3_takesKey_111 : decode cX3_takesKey 111 = .ok (.iload_n 1, 1) := dk_27 (dk_at dksX3_takesKey_4 17 rfl rfl)
theorem dX3_takesKey_112 : decode cX3_takesKey 112 = .ok (.putfield 228, 3) := dk_181 0 228 (dk_at dksX3_takesKey_4 18 rfl rfl)
theorem dX3_takesKey_115 : decode cX3_takesKey 115 = .ok (.aload_n 0, 1) := dk_42 (dk_at dksX3_takesKey_4 21 rfl rfl)
theorem dX3_takesKey_116 : decode cX3_takesKey 116 = .ok (.invokevirtual 231, 3) := dk_182 0 231 (dk_at dksX3_takesKey_5 0 rfl rfl)
theorem dX3_takesKey_119 : decode cX3_takesKey 119 = .ok (.iconst 1, 1) := dk_4 (dk_at dksX3_takesKey_5 3 rfl rfl)
theorem dX3_takesKey_120 : decode cX3_takesKey 120 = .ok (.ireturn, 1) := dk_172 (dk_at dksX3_takesKey_5 4 rfl rfl)
theorem dX3_takesKey_121 : decode cX3_takesKey 121 = .ok (.iinc 1 1, 3) := dk_132 1 1 (dk_at dksX3_takesKey_5 5 rfl rfl)
theorem dX3_takesKey_124 : decode cX3_takesKey 124 = .ok (.goto (-112), 3) := dk_167 255 144 (dk_at dksX3_takesKey_5 8 rfl rfl)
theorem dX3_takesKey_127 : decode cX3_takesKey 127 = .ok (.iconst 0, 1) := dk_3 (dk_at dksX3_takesKey_5 11 rfl rfl)
theorem dX3_takesKey_128 : decode cX3_takesKey 128 = .ok (.ireturn, 1) := dk_172 (dk_at dksX3_takesKey_5 12 rfl rfl)
abbrev cX3_takesE : ByteArray := prog_22_method_70_code
def yX3_takesE : MethodName := ⟨RX3, "takesE", "()Z"⟩
def dkwX3_takesE_15 : List UInt8 := [182, 0, 249, 27, 154, 0, 7, 4, 167, 0, 4, 3, 172]
abbrev dktX3_takesE_15 : List UInt8 := dkwX3_takesE_15 ++ []
def dkwX3_takesE_14 : List UInt8 := [79, 42, 89, 180, 0, 234, 4, 96, 181, 0, 234, 4, 62, 42, 182, 0, 231, 167, 254, 198, 42, 3]
abbrev dktX3_takesE_14 : List UInt8 := dkwX3_takesE_14 ++ dktX3_takesE_15
def dkwX3_takesE_13 : List UInt8 := [167, 0, 4, 3, 84, 42, 21, 4, 184, 0, 237, 182, 0, 249, 42, 180, 0, 41, 42, 180, 0, 234, 21, 4]
abbrev dktX3_takesE_13 : List UInt8 := dkwX3_takesE_13 ++ dktX3_takesE_14
def dkwX3_takesE_12 : List UInt8 := [6, 159, 0, 21, 21, 4, 184, 0, 237, 6, 164, 0, 16, 42, 180, 0, 44, 27, 51, 153, 0, 7, 4]
abbrev dktX3_takesE_12 : List UInt8 := dkwX3_takesE_12 ++ dktX3_takesE_13
def dkwX3_takesE_11 : List UInt8 := [160, 0, 14, 42, 180, 0, 44, 27, 51, 153, 0, 5, 3, 172, 42, 180, 0, 44, 27, 21, 4, 184, 0, 237]
abbrev dktX3_takesE_11 : List UInt8 := dkwX3_takesE_11 ++ dktX3_takesE_12
def dkwX3_takesE_10 : List UInt8 := [182, 0, 231, 167, 255, 50, 42, 182, 1, 3, 54, 4, 21, 4, 153, 0, 21, 21, 4, 184, 0, 237, 6]
abbrev dktX3_takesE_10 : List UInt8 := dkwX3_takesE_10 ++ dktX3_takesE_11
def dkwX3_takesE_9 : List UInt8 := [180, 0, 234, 4, 100, 181, 0, 234, 132, 1, 255, 42, 16, 6, 182, 0, 249, 42, 182, 1, 0, 61, 42]
abbrev dktX3_takesE_9 : List UInt8 := dkwX3_takesE_9 ++ dktX3_takesE_10
def dkwX3_takesE_8 : List UInt8 := [160, 0, 52, 42, 180, 0, 222, 16, 41, 160, 0, 43, 27, 158, 0, 39, 42, 3, 182, 0, 249, 42, 89]
abbrev dktX3_takesE_8 : List UInt8 := dkwX3_takesE_8 ++ dktX3_takesE_9
def dkwX3_takesE_7 : List UInt8 := [153, 0, 8, 3, 62, 167, 0, 5, 3, 172, 42, 182, 1, 0, 61, 167, 255, 107, 42, 180, 0, 216, 6]
abbrev dktX3_takesE_7 : List UInt8 := dkwX3_takesE_7 ++ dktX3_takesE_8
def dkwX3_takesE_6 : List UInt8 := [181, 0, 234, 132, 1, 1, 42, 180, 0, 44, 27, 3, 84, 42, 182, 0, 231, 167, 0, 17, 42, 182, 0, 252]
abbrev dktX3_takesE_6 : List UInt8 := dkwX3_takesE_6 ++ dktX3_takesE_7
def dkwX3_takesE_5 : List UInt8 := [16, 8, 162, 0, 41, 42, 180, 0, 41, 42, 180, 0, 234, 16, 245, 79, 42, 89, 180, 0, 234, 4, 96]
abbrev dktX3_takesE_5 : List UInt8 := dkwX3_takesE_5 ++ dktX3_takesE_6
def dkwX3_takesE_4 : List UInt8 := [182, 0, 231, 167, 0, 78, 42, 180, 0, 216, 6, 160, 0, 56, 42, 180, 0, 222, 16, 40, 160, 0, 47, 27]
abbrev dktX3_takesE_4 : List UInt8 := dkwX3_takesE_4 ++ dktX3_takesE_5
def dkwX3_takesE_3 : List UInt8 := [180, 0, 41, 42, 180, 0, 234, 16, 246, 79, 42, 89, 180, 0, 234, 4, 96, 181, 0, 234, 132, 2, 1, 42]
abbrev dktX3_takesE_3 : List UInt8 := dkwX3_takesE_3 ++ dktX3_takesE_4
def dkwX3_takesE_2 : List UInt8 := [180, 0, 216, 6, 160, 0, 49, 42, 180, 0, 222, 16, 33, 160, 0, 40, 28, 16, 8, 162, 0, 34, 42]
abbrev dktX3_takesE_2 : List UInt8 := dkwX3_takesE_2 ++ dktX3_takesE_3
def dkwX3_takesE_1 : List UInt8 := [180, 0, 44, 3, 3, 84, 29, 154, 0, 10, 42, 180, 0, 216, 153, 1, 53, 29, 153, 0, 140, 42]
abbrev dktX3_takesE_1 : List UInt8 := dkwX3_takesE_1 ++ dktX3_takesE_2
def dkwX3_takesE_0 : List UInt8 := [3, 60, 3, 61, 4, 62, 42, 3, 181, 0, 240, 42, 3, 181, 0, 246, 42, 3, 181, 0, 234, 42]
abbrev dktX3_takesE_0 : List UInt8 := dkwX3_takesE_0 ++ dktX3_takesE_1
theorem dksX3_takesE_0 : cX3_takesE.data.toList.drop 0 = dktX3_takesE_0 := by decide +kernel
theorem dksX3_takesE_1 : cX3_takesE.data.toList.drop 22 = dktX3_takesE_1 := dk_seg dksX3_takesE_0 22 rfl rfl
theorem dksX3_takesE_2 : cX3_takesE.data.toList.drop 44 = dktX3_takesE_2 := dk_seg dksX3_takesE_1 22 rfl rfl
theorem dksX3_takesE_3 : cX3_takesE.data.toList.drop 67 = dktX3_takesE_3 := dk_seg dksX3_takesE_2 23 rfl rfl
theorem dksX3_takesE_4 : cX3_takesE.data.toList.drop 91 = dktX3_takesE_4 := dk_seg dksX3_takesE_3 24 rfl rfl
theorem dksX3_takesE_5 : cX3_takesE.data.toList.drop 115 = dktX3_takesE_5 := dk_seg dksX3_takesE_4 24 rfl rfl
theorem dksX3_takesE_6 : cX3_takesE.data.toList.drop 138 = dktX3_takesE_6 := dk_seg dksX3_takesE_5 23 rfl rfl
theorem dksX3_takesE_7 : cX3_takesE.data.toList.drop 162 = dktX3_takesE_7 := dk_seg dksX3_takesE_6 24 rfl rfl
theorem dksX3_takesE_8 : cX3_takesE.data.toList.drop 185 = dktX3_takesE_8 := dk_seg dksX3_takesE_7 23 rfl rfl
theorem dksX3_takesE_9 : cX3_takesE.data.toList.drop 208 = dktX3_takesE_9 := dk_seg dksX3_takesE_8 23 rfl rfl
theorem dksX3_takesE_10 : cX3_takesE.data.toList.drop 231 = dktX3_takesE_10 := dk_seg dksX3_takesE_9 23 rfl rfl
theorem dksX3_takesE_11 : cX3_takesE.data.toList.drop 254 = dktX3_takesE_11 := dk_seg dksX3_takesE_10 23 rfl rfl
theorem dksX3_takesE_12 : cX3_takesE.data.toList.drop 278 = dktX3_takesE_12 := dk_seg dksX3_takesE_11 24 rfl rfl
theorem dksX3_takesE_13 : cX3_takesE.data.toList.drop 301 = dktX3_takesE_13 := dk_seg dksX3_takesE_12 23 rfl rfl
theorem dksX3_takesE_14 : cX3_takesE.data.toList.drop 325 = dktX3_takesE_14 := dk_seg dksX3_takesE_13 24 rfl rfl
theorem dksX3_takesE_15 : cX3_takesE.data.toList.drop 347 = dktX3_takesE_15 := dk_seg dksX3_takesE_14 22 rfl rfl
theorem dX3_takesE_0 : decode cX3_takesE 0 = .ok (.iconst 0, 1) := dk_3 (dk_at dksX3_takesE_0 0 rfl rfl)
theorem dX3_takesE_1 : decode cX3_takesE 1 = .ok (.istore_n 1, 1) := dk_60 (dk_at dksX3_takesE_0 1 rfl rfl)
theorem dX3_takesE_2 : decode cX3_takesE 2 = .ok (.iconst 0, 1) := dk_3 (dk_at dksX3_takesE_0 2 rfl rfl)
theorem dX3_takesE_3 : decode cX3_takesE 3 = .ok (.istore_n 2, 1) := dk_61 (dk_at dksX3_takesE_0 3 rfl rfl)
theorem dX3_takesE_4 : decode cX3_takesE 4 = .ok (.iconst 1, 1) := dk_4 (dk_at dksX3_takesE_0 4 rfl rfl)
theorem dX3_takesE_5 : decode cX3_takesE 5 = .ok (.istore_n 3, 1) := dk_62 (dk_at dksX3_takesE_0 5 rfl rfl)
theorem dX3_takesE_6 : decode cX3_takesE 6 = .ok (.aload_n 0, 1) := dk_42 (dk_at dksX3_takesE_0 6 rfl rfl)
theorem dX3_takesE_7 : decode cX3_takesE 7 = .ok (.iconst 0, 1) := dk_3 (dk_at dksX3_takesE_0 7 rfl rfl)
theorem dX3_takesE_8 : decode cX3_takesE 8 = .ok (.putfield 240, 3) := dk_181 0 240 (dk_at dksX3_takesE_0 8 rfl rfl)
theorem dX3_takesE_11 : decode cX3_takesE 11 = .ok (.aload_n 0, 1) := dk_42 (dk_at dksX3_takesE_0 11 rfl rfl)
theorem dX3_takesE_12 : decode cX3_takesE 12 = .ok (.iconst 0, 1) := dk_3 (dk_at dksX3_takesE_0 12 rfl rfl)
theorem dX3_takesE_13 : decode cX3_takesE 13 = .ok (.putfield 246, 3) := dk_181 0 246 (dk_at dksX3_takesE_0 13 rfl rfl)
theorem dX3_takesE_16 : decode cX3_takesE 16 = .ok (.aload_n 0, 1) := dk_42 (dk_at dksX3_takesE_0 16 rfl rfl)
theorem dX3_takesE_17 : decode cX3_takesE 17 = .ok (.iconst 0, 1) := dk_3 (dk_at dksX3_takesE_0 17 rfl rfl)
theorem dX3_takesE_18 : decode cX3_takesE 18 = .ok (.putfield 234, 3) := dk_181 0 234 (dk_at dksX3_takesE_0 18 rfl rfl)
theorem dX3_takesE_21 : decode cX3_takesE 21 = .ok (.aload_n 0, 1) := dk_42 (dk_at dksX3_takesE_0 21 rfl rfl)
theorem dX3_takesE_22 : decode cX3_takesE 22 = .ok (.getfield 44, 3) := dk_180 0 44 (dk_at dksX3_takesE_1 0 rfl rfl)
theorem dX3_takesE_25 : decode cX3_takesE 25 = .ok (.iconst 0, 1) := dk_3 (dk_at dksX3_takesE_1 3 rfl rfl)
theorem dX3_takesE_26 : decode cX3_takesE 26 = .ok (.iconst 0, 1) := dk_3 (dk_at dksX3_takesE_1 4 rfl rfl)
theorem dX3_takesE_27 : decode cX3_takesE 27 = .ok (.bastore, 1) := dk_84 (dk_at dksX3_takesE_1 5 rfl rfl)
theorem dX3_takesE_28 : decode cX3_takesE 28 = .ok (.iload_n 3, 1) := dk_29 (dk_at dksX3_takesE_1 6 rfl rfl)
theorem dX3_takesE_29 : decode cX3_takesE 29 = .ok (.ifCond .ne 10, 3) := dk_154 0 10 (dk_at dksX3_takesE_1 7 rfl rfl)
theorem dX3_takesE_32 : decode cX3_takesE 32 = .ok (.aload_n 0, 1) := dk_42 (dk_at dksX3_takesE_1 10 rfl rfl)
theorem dX3_takesE_33 : decode cX3_takesE 33 = .ok (.getfield 216, 3) := dk_180 0 216 (dk_at dksX3_takesE_1 11 rfl rfl)
theorem dX3_takesE_36 : decode cX3_takesE 36 = .ok (.ifCond .eq 309, 3) := dk_153 1 53 (dk_at dksX3_takesE_1 14 rfl rfl)
theorem dX3_takesE_39 : decode cX3_takesE 39 = .ok (.iload_n 3, 1) := dk_29 (dk_at dksX3_takesE_1 17 rfl rfl)
theorem dX3_takesE_40 : decode cX3_takesE 40 = .ok (.ifCond .eq 140, 3) := dk_153 0 140 (dk_at dksX3_takesE_1 18 rfl rfl)
theorem dX3_takesE_43 : decode cX3_takesE 43 = .ok (.aload_n 0, 1) := dk_42 (dk_at dksX3_takesE_1 21 rfl rfl)
theorem dX3_takesE_44 : decode cX3_takesE 44 = .ok (.getfield 216, 3) := dk_180 0 216 (dk_at dksX3_takesE_2 0 rfl rfl)
theorem dX3_takesE_47 : decode cX3_takesE 47 = .ok (.iconst 3, 1) := dk_6 (dk_at dksX3_takesE_2 3 rfl rfl)
theorem dX3_takesE_48 : decode cX3_takesE 48 = .ok (.if_icmp .ne 49, 3) := dk_160 0 49 (dk_at dksX3_takesE_2 4 rfl rfl)
theorem dX3_takesE_51 : decode cX3_takesE 51 = .ok (.aload_n 0, 1) := dk_42 (dk_at dksX3_takesE_2 7 rfl rfl)
theorem dX3_takesE_52 : decode cX3_takesE 52 = .ok (.getfield 222, 3) := dk_180 0 222 (dk_at dksX3_takesE_2 8 rfl rfl)
theorem dX3_takesE_55 : decode cX3_takesE 55 = .ok (.bipush 33, 2) := dk_16 33 (dk_at dksX3_takesE_2 11 rfl rfl)
theorem dX3_takesE_57 : decode cX3_takesE 57 = .ok (.if_icmp .ne 40, 3) := dk_160 0 40 (dk_at dksX3_takesE_2 13 rfl rfl)
theorem dX3_takesE_60 : decode cX3_takesE 60 = .ok (.iload_n 2, 1) := dk_28 (dk_at dksX3_takesE_2 16 rfl rfl)
theorem dX3_takesE_61 : decode cX3_takesE 61 = .ok (.bipush 8, 2) := dk_16 8 (dk_at dksX3_takesE_2 17 rfl rfl)
theorem dX3_takesE_63 : decode cX3_takesE 63 = .ok (.if_icmp .ge 34, 3) := dk_162 0 34 (dk_at dksX3_takesE_2 19 rfl rfl)
theorem dX3_takesE_66 : decode cX3_takesE 66 = .ok (.aload_n 0, 1) := dk_42 (dk_at dksX3_takesE_2 22 rfl rfl)
theorem dX3_takesE_67 : decode cX3_takesE 67 = .ok (.getfield 41, 3) := dk_180 0 41 (dk_at dksX3_takesE_3 0 rfl rfl)
theorem dX3_takesE_70 : decode cX3_takesE 70 = .ok (.aload_n 0, 1) := dk_42 (dk_at dksX3_takesE_3 3 rfl rfl)
theorem dX3_takesE_71 : decode cX3_takesE 71 = .ok (.getfield 234, 3) := dk_180 0 234 (dk_at dksX3_takesE_3 4 rfl rfl)
theorem dX3_takesE_74 : decode cX3_takesE 74 = .ok (.bipush (-10), 2) := dk_16 246 (dk_at dksX3_takesE_3 7 rfl rfl)
theorem dX3_takesE_76 : decode cX3_takesE 76 = .ok (.iastore, 1) := dk_79 (dk_at dksX3_takesE_3 9 rfl rfl)
theorem dX3_takesE_77 : decode cX3_takesE 77 = .ok (.aload_n 0, 1) := dk_42 (dk_at dksX3_takesE_3 10 rfl rfl)
theorem dX3_takesE_78 : decode cX3_takesE 78 = .ok (.dup, 1) := dk_89 (dk_at dksX3_takesE_3 11 rfl rfl)
theorem dX3_takesE_79 : decode cX3_takesE 79 = .ok (.getfield 234, 3) := dk_180 0 234 (dk_at dksX3_takesE_3 12 rfl rfl)
theorem dX3_takesE_82 : decode cX3_takesE 82 = .ok (.iconst 1, 1) := dk_4 (dk_at dksX3_takesE_3 15 rfl rfl)
theorem dX3_takesE_83 : decode cX3_takesE 83 = .ok (.iadd, 1) := dk_96 (dk_at dksX3_takesE_3 16 rfl rfl)
theorem dX3_takesE_84 : decode cX3_takesE 84 = .ok (.putfield 234, 3) := dk_181 0 234 (dk_at dksX3_takesE_3 17 rfl rfl)
theorem dX3_takesE_87 : decode cX3_takesE 87 = .ok (.iinc 2 1, 3) := dk_132 2 1 (dk_at dksX3_takesE_3 20 rfl rfl)
theorem dX3_takesE_90 : decode cX3_takesE 90 = .ok (.aload_n 0, 1) := dk_42 (dk_at dksX3_takesE_3 23 rfl rfl)
theorem dX3_takesE_91 : decode cX3_takesE 91 = .ok (.invokevirtual 231, 3) := dk_182 0 231 (dk_at dksX3_takesE_4 0 rfl rfl)
theorem dX3_takesE_94 : decode cX3_takesE 94 = .ok (.goto 78, 3) := dk_167 0 78 (dk_at dksX3_takesE_4 3 rfl rfl)
theorem dX3_takesE_97 : decode cX3_takesE 97 = .ok (.aload_n 0, 1) := dk_42 (dk_at dksX3_takesE_4 6 rfl rfl)
theorem dX3_takesE_98 : decode cX3_takesE 98 = .ok (.getfield 216, 3) := dk_180 0 216 (dk_at dksX3_takesE_4 7 rfl rfl)
theorem dX3_takesE_101 : decode cX3_takesE 101 = .ok (.iconst 3, 1) := dk_6 (dk_at dksX3_takesE_4 10 rfl rfl)
theorem dX3_takesE_102 : decode cX3_takesE 102 = .ok (.if_icmp .ne 56, 3) := dk_160 0 56 (dk_at dksX3_takesE_4 11 rfl rfl)
theorem dX3_takesE_105 : decode cX3_takesE 105 = .ok (.aload_n 0, 1) := dk_42 (dk_at dksX3_takesE_4 14 rfl rfl)
theorem dX3_takesE_106 : decode cX3_takesE 106 = .ok (.getfield 222, 3) := dk_180 0 222 (dk_at dksX3_takesE_4 15 rfl rfl)
theorem dX3_takesE_109 : decode cX3_takesE 109 = .ok (.bipush 40, 2) := dk_16 40 (dk_at dksX3_takesE_4 18 rfl rfl)
theorem dX3_takesE_111 : decode cX3_takesE 111 = .ok (.if_icmp .ne 47, 3) := dk_160 0 47 (dk_at dksX3_takesE_4 20 rfl rfl)
theorem dX3_takesE_114 : decode cX3_takesE 114 = .ok (.iload_n 1, 1) := dk_27 (dk_at dksX3_takesE_4 23 rfl rfl)
theorem dX3_takesE_115 : decode cX3_takesE 115 = .ok (.bipush 8, 2) := dk_16 8 (dk_at dksX3_takesE_5 0 rfl rfl)
theorem dX3_takesE_117 : decode cX3_takesE 117 = .ok (.if_icmp .ge 41, 3) := dk_162 0 41 (dk_at dksX3_takesE_5 2 rfl rfl)
theorem dX3_takesE_120 : decode cX3_takesE 120 = .ok (.aload_n 0, 1) := dk_42 (dk_at dksX3_takesE_5 5 rfl rfl)
theorem dX3_takesE_121 : decode cX3_takesE 121 = .ok (.getfield 41, 3) := dk_180 0 41 (dk_at dksX3_takesE_5 6 rfl rfl)
theorem dX3_takesE_124 : decode cX3_takesE 124 = .ok (.aload_n 0, 1) := dk_42 (dk_at dksX3_takesE_5 9 rfl rfl)
theorem dX3_takesE_125 : decode cX3_takesE 125 = .ok (.getfield 234, 3) := dk_180 0 234 (dk_at dksX3_takesE_5 10 rfl rfl)
theorem dX3_takesE_128 : decode cX3_takesE 128 = .ok (.bipush (-11), 2) := dk_16 245 (dk_at dksX3_takesE_5 13 rfl rfl)
theorem dX3_takesE_130 : decode cX3_takesE 130 = .ok (.iastore, 1) := dk_79 (dk_at dksX3_takesE_5 15 rfl rfl)
theorem dX3_takesE_131 : decode cX3_takesE 131 = .ok (.aload_n 0, 1) := dk_42 (dk_at dksX3_takesE_5 16 rfl rfl)
theorem dX3_takesE_132 : decode cX3_takesE 132 = .ok (.dup, 1) := dk_89 (dk_at dksX3_takesE_5 17 rfl rfl)
theorem dX3_takesE_133 : decode cX3_takesE 133 = .ok (.getfield 234, 3) := dk_180 0 234 (dk_at dksX3_takesE_5 18 rfl rfl)
theorem dX3_takesE_136 : decode cX3_takesE 136 = .ok (.iconst 1, 1) := dk_4 (dk_at dksX3_takesE_5 21 rfl rfl)
theorem dX3_takesE_137 : decode cX3_takesE 137 = .ok (.iadd, 1) := dk_96 (dk_at dksX3_takesE_5 22 rfl rfl)
theorem dX3_takesE_138 : decode cX3_takesE 138 = .ok (.putfield 234, 3) := dk_181 0 234 (dk_at dksX3_takesE_6 0 rfl rfl)
theorem dX3_takesE_141 : decode cX3_takesE 141 = .ok (.iinc 1 1, 3) := dk_132 1 1 (dk_at dksX3_takesE_6 3 rfl rfl)
theorem dX3_takesE_144 : decode cX3_takesE 144 = .ok (.aload_n 0, 1) := dk_42 (dk_at dksX3_takesE_6 6 rfl rfl)
theorem dX3_takesE_145 : decode cX3_takesE 145 = .ok (.getfield 44, 3) := dk_180 0 44 (dk_at dksX3_takesE_6 7 rfl rfl)
theorem dX3_takesE_148 : decode cX3_takesE 148 = .ok (.iload_n 1, 1) := dk_27 (dk_at dksX3_takesE_6 10 rfl rfl)
theorem dX3_takesE_149 : decode cX3_takesE 149 = .ok (.iconst 0, 1) := dk_3 (dk_at dksX3_takesE_6 11 rfl rfl)
theorem dX3_takesE_150 : decode cX3_takesE 150 = .ok (.bastore, 1) := dk_84 (dk_at dksX3_takesE_6 12 rfl rfl)
theorem dX3_takesE_151 : decode cX3_takesE 151 = .ok (.aload_n 0, 1) := dk_42 (dk_at dksX3_takesE_6 13 rfl rfl)
theorem dX3_takesE_152 : decode cX3_takesE 152 = .ok (.invokevirtual 231, 3) := dk_182 0 231 (dk_at dksX3_takesE_6 14 rfl rfl)
theorem dX3_takesE_155 : decode cX3_takesE 155 = .ok (.goto 17, 3) := dk_167 0 17 (dk_at dksX3_takesE_6 17 rfl rfl)
theorem dX3_takesE_158 : decode cX3_takesE 158 = .ok (.aload_n 0, 1) := dk_42 (dk_at dksX3_takesE_6 20 rfl rfl)
theorem dX3_takesE_159 : decode cX3_takesE 159 = .ok (.invokevirtual 252, 3) := dk_182 0 252 (dk_at dksX3_takesE_6 21 rfl rfl)
theorem dX3_takesE_162 : decode cX3_takesE 162 = .ok (.ifCond .eq 8, 3) := dk_153 0 8 (dk_at dksX3_takesE_7 0 rfl rfl)
theorem dX3_takesE_165 : decode cX3_takesE 165 = .ok (.iconst 0, 1) := dk_3 (dk_at dksX3_takesE_7 3 rfl rfl)
theorem dX3_takesE_166 : decode cX3_takesE 166 = .ok (.istore_n 3, 1) := dk_62 (dk_at dksX3_takesE_7 4 rfl rfl)
theorem dX3_takesE_167 : decode cX3_takesE 167 = .ok (.goto 5, 3) := dk_167 0 5 (dk_at dksX3_takesE_7 5 rfl rfl)
theorem dX3_takesE_170 : decode cX3_takesE 170 = .ok (.iconst 0, 1) := dk_3 (dk_at dksX3_takesE_7 8 rfl rfl)
theorem dX3_takesE_171 : decode cX3_takesE 171 = .ok (.ireturn, 1) := dk_172 (dk_at dksX3_takesE_7 9 rfl rfl)
theorem dX3_takesE_172 : decode cX3_takesE 172 = .ok (.aload_n 0, 1) := dk_42 (dk_at dksX3_takesE_7 10 rfl rfl)
theorem dX3_takesE_173 : decode cX3_takesE 173 = .ok (.invokevirtual 256, 3) := dk_182 1 0 (dk_at dksX3_takesE_7 11 rfl rfl)
theorem dX3_takesE_176 : decode cX3_takesE 176 = .ok (.istore_n 2, 1) := dk_61 (dk_at dksX3_takesE_7 14 rfl rfl)
theorem dX3_takesE_177 : decode cX3_takesE 177 = .ok (.goto (-149), 3) := dk_167 255 107 (dk_at dksX3_takesE_7 15 rfl rfl)
theorem dX3_takesE_180 : decode cX3_takesE 180 = .ok (.aload_n 0, 1) := dk_42 (dk_at dksX3_takesE_7 18 rfl rfl)
theorem dX3_takesE_181 : decode cX3_takesE 181 = .ok (.getfield 216, 3) := dk_180 0 216 (dk_at dksX3_takesE_7 19 rfl rfl)
theorem dX3_takesE_184 : decode cX3_takesE 184 = .ok (.iconst 3, 1) := dk_6 (dk_at dksX3_takesE_7 22 rfl rfl)
theorem dX3_takesE_185 : decode cX3_takesE 185 = .ok (.if_icmp .ne 52, 3) := dk_160 0 52 (dk_at dksX3_takesE_8 0 rfl rfl)
theorem dX3_takesE_188 : decode cX3_takesE 188 = .ok (.aload_n 0, 1) := dk_42 (dk_at dksX3_takesE_8 3 rfl rfl)
theorem dX3_takesE_189 : decode cX3_takesE 189 = .ok (.getfield 222, 3) := dk_180 0 222 (dk_at dksX3_takesE_8 4 rfl rfl)
theorem dX3_takesE_192 : decode cX3_takesE 192 = .ok (.bipush 41, 2) := dk_16 41 (dk_at dksX3_takesE_8 7 rfl rfl)
theorem dX3_takesE_194 : decode cX3_takesE 194 = .ok (.if_icmp .ne 43, 3) := dk_160 0 43 (dk_at dksX3_takesE_8 9 rfl rfl)
theorem dX3_takesE_197 : decode cX3_takesE 197 = .ok (.iload_n 1, 1) := dk_27 (dk_at dksX3_takesE_8 12 rfl rfl)
theorem dX3_takesE_198 : decode cX3_takesE 198 = .ok (.ifCond .le 39, 3) := dk_158 0 39 (dk_at dksX3_takesE_8 13 rfl rfl)
theorem dX3_takesE_201 : decode cX3_takesE 201 = .ok (.aload_n 0, 1) := dk_42 (dk_at dksX3_takesE_8 16 rfl rfl)
theorem dX3_takesE_202 : decode cX3_takesE 202 = .ok (.iconst 0, 1) := dk_3 (dk_at dksX3_takesE_8 17 rfl rfl)
theorem dX3_takesE_203 : decode cX3_takesE 203 = .ok (.invokevirtual 249, 3) := dk_182 0 249 (dk_at dksX3_takesE_8 18 rfl rfl)
theorem dX3_takesE_206 : decode cX3_takesE 206 = .ok (.aload_n 0, 1) := dk_42 (dk_at dksX3_takesE_8 21 rfl rfl)
theorem dX3_takesE_207 : decode cX3_takesE 207 = .ok (.dup, 1) := dk_89 (dk_at dksX3_takesE_8 22 rfl rfl)
theorem dX3_takesE_208 : decode cX3_takesE 208 = .ok (.getfield 234, 3) := dk_180 0 234 (dk_at dksX3_takesE_9 0 rfl rfl)
theorem dX3_takesE_211 : decode cX3_takesE 211 = .ok (.iconst 1, 1) := dk_4 (dk_at dksX3_takesE_9 3 rfl rfl)
theorem dX3_takesE_212 : decode cX3_takesE 212 = .ok (.isub, 1) := dk_100 (dk_at dksX3_takesE_9 4 rfl rfl)
theorem dX3_takesE_213 : decode cX3_takesE 213 = .ok (.putfield 234, 3) := dk_181 0 234 (dk_at dksX3_takesE_9 5 rfl rfl)
theorem dX3_takesE_216 : decode cX3_takesE 216 = .ok (.iinc 1 (-1), 3) := dk_132 1 255 (dk_at dksX3_takesE_9 8 rfl rfl)
theorem dX3_takesE_219 : decode cX3_takesE 219 = .ok (.aload_n 0, 1) := dk_42 (dk_at dksX3_takesE_9 11 rfl rfl)
theorem dX3_takesE_220 : decode cX3_takesE 220 = .ok (.bipush 6, 2) := dk_16 6 (dk_at dksX3_takesE_9 12 rfl rfl)
theorem dX3_takesE_222 : decode cX3_takesE 222 = .ok (.invokevirtual 249, 3) := dk_182 0 249 (dk_at dksX3_takesE_9 14 rfl rfl)
theorem dX3_takesE_225 : decode cX3_takesE 225 = .ok (.aload_n 0, 1) := dk_42 (dk_at dksX3_takesE_9 17 rfl rfl)
theorem dX3_takesE_226 : decode cX3_takesE 226 = .ok (.invokevirtual 256, 3) := dk_182 1 0 (dk_at dksX3_takesE_9 18 rfl rfl)
theorem dX3_takesE_229 : decode cX3_takesE 229 = .ok (.istore_n 2, 1) := dk_61 (dk_at dksX3_takesE_9 21 rfl rfl)
theorem dX3_takesE_230 : decode cX3_takesE 230 = .ok (.aload_n 0, 1) := dk_42 (dk_at dksX3_takesE_9 22 rfl rfl)
theorem dX3_takesE_231 : decode cX3_takesE 231 = .ok (.invokevirtual 231, 3) := dk_182 0 231 (dk_at dksX3_takesE_10 0 rfl rfl)
theorem dX3_takesE_234 : decode cX3_takesE 234 = .ok (.goto (-206), 3) := dk_167 255 50 (dk_at dksX3_takesE_10 3 rfl rfl)
theorem dX3_takesE_237 : decode cX3_takesE 237 = .ok (.aload_n 0, 1) := dk_42 (dk_at dksX3_takesE_10 6 rfl rfl)
theorem dX3_takesE_238 : decode cX3_takesE 238 = .ok (.invokevirtual 259, 3) := dk_182 1 3 (dk_at dksX3_takesE_10 7 rfl rfl)
theorem dX3_takesE_241 : decode cX3_takesE 241 = .ok (.istore 4, 2) := dk_54 4 (dk_at dksX3_takesE_10 10 rfl rfl)
theorem dX3_takesE_243 : decode cX3_takesE 243 = .ok (.iload 4, 2) := dk_21 4 (dk_at dksX3_takesE_10 12 rfl rfl)
theorem dX3_takesE_245 : decode cX3_takesE 245 = .ok (.ifCond .eq 21, 3) := dk_153 0 21 (dk_at dksX3_takesE_10 14 rfl rfl)
theorem dX3_takesE_248 : decode cX3_takesE 248 = .ok (.iload 4, 2) := dk_21 4 (dk_at dksX3_takesE_10 17 rfl rfl)
theorem dX3_takesE_250 : decode cX3_takesE 250 = .ok (.invokestatic 237, 3) := dk_184 0 237 (dk_at dksX3_takesE_10 19 rfl rfl)
theorem dX3_takesE_253 : decode cX3_takesE 253 = .ok (.iconst 3, 1) := dk_6 (dk_at dksX3_takesE_10 22 rfl rfl)
theorem dX3_takesE_254 : decode cX3_takesE 254 = .ok (.if_icmp .ne 14, 3) := dk_160 0 14 (dk_at dksX3_takesE_11 0 rfl rfl)
theorem dX3_takesE_257 : decode cX3_takesE 257 = .ok (.aload_n 0, 1) := dk_42 (dk_at dksX3_takesE_11 3 rfl rfl)
theorem dX3_takesE_258 : decode cX3_takesE 258 = .ok (.getfield 44, 3) := dk_180 0 44 (dk_at dksX3_takesE_11 4 rfl rfl)
theorem dX3_takesE_261 : decode cX3_takesE 261 = .ok (.iload_n 1, 1) := dk_27 (dk_at dksX3_takesE_11 7 rfl rfl)
theorem dX3_takesE_262 : decode cX3_takesE 262 = .ok (.baload, 1) := dk_51 (dk_at dksX3_takesE_11 8 rfl rfl)
theorem dX3_takesE_263 : decode cX3_takesE 263 = .ok (.ifCond .eq 5, 3) := dk_153 0 5 (dk_at dksX3_takesE_11 9 rfl rfl)
theorem dX3_takesE_266 : decode cX3_takesE 266 = .ok (.iconst 0, 1) := dk_3 (dk_at dksX3_takesE_11 12 rfl rfl)
theorem dX3_takesE_267 : decode cX3_takesE 267 = .ok (.ireturn, 1) := dk_172 (dk_at dksX3_takesE_11 13 rfl rfl)
theorem dX3_takesE_268 : decode cX3_takesE 268 = .ok (.aload_n 0, 1) := dk_42 (dk_at dksX3_takesE_11 14 rfl rfl)
theorem dX3_takesE_269 : decode cX3_takesE 269 = .ok (.getfield 44, 3) := dk_180 0 44 (dk_at dksX3_takesE_11 15 rfl rfl)
theorem dX3_takesE_272 : decode cX3_takesE 272 = .ok (.iload_n 1, 1) := dk_27 (dk_at dksX3_takesE_11 18 rfl rfl)
theorem dX3_takesE_273 : decode cX3_takesE 273 = .ok (.iload 4, 2) := dk_21 4 (dk_at dksX3_takesE_11 19 rfl rfl)
theorem dX3_takesE_275 : decode cX3_takesE 275 = .ok (.invokestatic 237, 3) := dk_184 0 237 (dk_at dksX3_takesE_11 21 rfl rfl)
theorem dX3_takesE_278 : decode cX3_takesE 278 = .ok (.iconst 3, 1) := dk_6 (dk_at dksX3_takesE_12 0 rfl rfl)
theorem dX3_takesE_279 : decode cX3_takesE 279 = .ok (.if_icmp .eq 21, 3) := dk_159 0 21 (dk_at dksX3_takesE_12 1 rfl rfl)
theorem dX3_takesE_282 : decode cX3_takesE 282 = .ok (.iload 4, 2) := dk_21 4 (dk_at dksX3_takesE_12 4 rfl rfl)
theorem dX3_takesE_284 : decode cX3_takesE 284 = .ok (.invokestatic 237, 3) := dk_184 0 237 (dk_at dksX3_takesE_12 6 rfl rfl)
theorem dX3_takesE_287 : decode cX3_takesE 287 = .ok (.iconst 3, 1) := dk_6 (dk_at dksX3_takesE_12 9 rfl rfl)
theorem dX3_takesE_288 : decode cX3_takesE 288 = .ok (.if_icmp .le 16, 3) := dk_164 0 16 (dk_at dksX3_takesE_12 10 rfl rfl)
theorem dX3_takesE_291 : decode cX3_takesE 291 = .ok (.aload_n 0, 1) := dk_42 (dk_at dksX3_takesE_12 13 rfl rfl)
theorem dX3_takesE_292 : decode cX3_takesE 292 = .ok (.getfield 44, 3) := dk_180 0 44 (dk_at dksX3_takesE_12 14 rfl rfl)
theorem dX3_takesE_295 : decode cX3_takesE 295 = .ok (.iload_n 1, 1) := dk_27 (dk_at dksX3_takesE_12 17 rfl rfl)
theorem dX3_takesE_296 : decode cX3_takesE 296 = .ok (.baload, 1) := dk_51 (dk_at dksX3_takesE_12 18 rfl rfl)
theorem dX3_takesE_297 : decode cX3_takesE 297 = .ok (.ifCond .eq 7, 3) := dk_153 0 7 (dk_at dksX3_takesE_12 19 rfl rfl)
theorem dX3_takesE_300 : decode cX3_takesE 300 = .ok (.iconst 1, 1) := dk_4 (dk_at dksX3_takesE_12 22 rfl rfl)
theorem dX3_takesE_301 : decode cX3_takesE 301 = .ok (.goto 4, 3) := dk_167 0 4 (dk_at dksX3_takesE_13 0 rfl rfl)
theorem dX3_takesE_304 : decode cX3_takesE 304 = .ok (.iconst 0, 1) := dk_3 (dk_at dksX3_takesE_13 3 rfl rfl)
theorem dX3_takesE_305 : decode cX3_takesE 305 = .ok (.bastore, 1) := dk_84 (dk_at dksX3_takesE_13 4 rfl rfl)
theorem dX3_takesE_306 : decode cX3_takesE 306 = .ok (.aload_n 0, 1) := dk_42 (dk_at dksX3_takesE_13 5 rfl rfl)
theorem dX3_takesE_307 : decode cX3_takesE 307 = .ok (.iload 4, 2) := dk_21 4 (dk_at dksX3_takesE_13 6 rfl rfl)
theorem dX3_takesE_309 : decode cX3_takesE 309 = .ok (.invokestatic 237, 3) := dk_184 0 237 (dk_at dksX3_takesE_13 8 rfl rfl)
theorem dX3_takesE_312 : decode cX3_takesE 312 = .ok (.invokevirtual 249, 3) := dk_182 0 249 (dk_at dksX3_takesE_13 11 rfl rfl)
theorem dX3_takesE_315 : decode cX3_takesE 315 = .ok (.aload_n 0, 1) := dk_42 (dk_at dksX3_takesE_13 14 rfl rfl)
theorem dX3_takesE_316 : decode cX3_takesE 316 = .ok (.getfield 41, 3) := dk_180 0 41 (dk_at dksX3_takesE_13 15 rfl rfl)
theorem dX3_takesE_319 : decode cX3_takesE 319 = .ok (.aload_n 0, 1) := dk_42 (dk_at dksX3_takesE_13 18 rfl rfl)
theorem dX3_takesE_320 : decode cX3_takesE 320 = .ok (.getfield 234, 3) := dk_180 0 234 (dk_at dksX3_takesE_13 19 rfl rfl)
theorem dX3_takesE_323 : decode cX3_takesE 323 = .ok (.iload 4, 2) := dk_21 4 (dk_at dksX3_takesE_13 22 rfl rfl)
theorem dX3_takesE_325 : decode cX3_takesE 325 = .ok (.iastore, 1) := dk_79 (dk_at dksX3_takesE_14 0 rfl rfl)
theorem dX3_takesE_326 : decode cX3_takesE 326 = .ok (.aload_n 0, 1) := dk_42 (dk_at dksX3_takesE_14 1 rfl rfl)
theorem dX3_takesE_327 : decode cX3_takesE 327 = .ok (.dup, 1) := dk_89 (dk_at dksX3_takesE_14 2 rfl rfl)
theorem dX3_takesE_328 : decode cX3_takesE 328 = .ok (.getfield 234, 3) := dk_180 0 234 (dk_at dksX3_takesE_14 3 rfl rfl)
theorem dX3_takesE_331 : decode cX3_takesE 331 = .ok (.iconst 1, 1) := dk_4 (dk_at dksX3_takesE_14 6 rfl rfl)
theorem dX3_takesE_332 : decode cX3_takesE 332 = .ok (.iadd, 1) := dk_96 (dk_at dksX3_takesE_14 7 rfl rfl)
theorem dX3_takesE_333 : decode cX3_takesE 333 = .ok (.putfield 234, 3) := dk_181 0 234 (dk_at dksX3_takesE_14 8 rfl rfl)
theorem dX3_takesE_336 : decode cX3_takesE 336 = .ok (.iconst 1, 1) := dk_4 (dk_at dksX3_takesE_14 11 rfl rfl)
theorem dX3_takesE_337 : decode cX3_takesE 337 = .ok (.istore_n 3, 1) := dk_62 (dk_at dksX3_takesE_14 12 rfl rfl)
theorem dX3_takesE_338 : decode cX3_takesE 338 = .ok (.aload_n 0, 1) := dk_42 (dk_at dksX3_takesE_14 13 rfl rfl)
theorem dX3_takesE_339 : decode cX3_takesE 339 = .ok (.invokevirtual 231, 3) := dk_182 0 231 (dk_at dksX3_takesE_14 14 rfl rfl)
theorem dX3_takesE_342 : decode cX3_takesE 342 = .ok (.goto (-314), 3) := dk_167 254 198 (dk_at dksX3_takesE_14 17 rfl rfl)
theorem dX3_takesE_345 : decode cX3_takesE 345 = .ok (.aload_n 0, 1) := dk_42 (dk_at dksX3_takesE_14 20 rfl rfl)
theorem dX3_takesE_346 : decode cX3_takesE 346 = .ok (.iconst 0, 1) := dk_3 (dk_at dksX3_takesE_14 21 rfl rfl)
theorem dX3_takesE_347 : decode cX3_takesE 347 = .ok (.invokevirtual 249, 3) := dk_182 0 249 (dk_at dksX3_takesE_15 0 rfl rfl)
theorem dX3_takesE_350 : decode cX3_takesE 350 = .ok (.iload_n 1, 1) := dk_27 (dk_at dksX3_takesE_15 3 rfl rfl)
theorem dX3_takesE_351 : decode cX3_takesE 351 = .ok (.ifCond .ne 7, 3) := dk_154 0 7 (dk_at dksX3_takesE_15 4 rfl rfl)
theorem dX3_takesE_354 : decode cX3_takesE 354 = .ok (.iconst 1, 1) := dk_4 (dk_at dksX3_takesE_15 7 rfl rfl)
theorem dX3_takesE_355 : decode cX3_takesE 355 = .ok (.goto 4, 3) := dk_167 0 4 (dk_at dksX3_takesE_15 8 rfl rfl)
theorem dX3_takesE_358 : decode cX3_takesE 358 = .ok (.iconst 0, 1) := dk_3 (dk_at dksX3_takesE_15 11 rfl rfl)
theorem dX3_takesE_359 : decode cX3_takesE 359 = .ok (.ireturn, 1) := dk_172 (dk_at dksX3_takesE_15 12 rfl rfl)
abbrev cX3_takesPart : ByteArray := prog_22_method_69_code
def yX3_takesPart : MethodName := ⟨RX3, "takesPart", "()Z"⟩
def dkwX3_takesPart_5 : List UInt8 := [182, 0, 231, 4, 172]
abbrev dktX3_takesPart_5 : List UInt8 := dkwX3_takesPart_5 ++ []
def dkwX3_takesPart_4 : List UInt8 := [4, 96, 181, 0, 240, 42, 89, 180, 0, 246, 4, 96, 181, 0, 246, 42, 16, 6, 182, 0, 249, 42]
abbrev dktX3_takesPart_4 : List UInt8 := dkwX3_takesPart_4 ++ dktX3_takesPart_5
def dkwX3_takesPart_3 : List UInt8 := [180, 0, 222, 167, 0, 15, 17, 39, 16, 42, 42, 180, 0, 222, 182, 0, 243, 96, 79, 42, 89, 180, 0, 240]
abbrev dktX3_takesPart_3 : List UInt8 := dkwX3_takesPart_3 ++ dktX3_takesPart_4
def dkwX3_takesPart_2 : List UInt8 := [154, 0, 5, 3, 172, 42, 180, 0, 38, 42, 180, 0, 240, 42, 180, 0, 216, 5, 160, 0, 10, 42]
abbrev dktX3_takesPart_2 : List UInt8 := dkwX3_takesPart_2 ++ dktX3_takesPart_3
def dkwX3_takesPart_1 : List UInt8 := [180, 0, 222, 182, 0, 243, 155, 0, 7, 4, 167, 0, 4, 3, 60, 42, 180, 0, 216, 5, 159, 0, 9, 27]
abbrev dktX3_takesPart_1 : List UInt8 := dkwX3_takesPart_1 ++ dktX3_takesPart_2
def dkwX3_takesPart_0 : List UInt8 := [42, 180, 0, 216, 4, 160, 0, 31, 42, 180, 0, 207, 42, 180, 0, 210, 100, 4, 160, 0, 18, 42, 42]
abbrev dktX3_takesPart_0 : List UInt8 := dkwX3_takesPart_0 ++ dktX3_takesPart_1
theorem dksX3_takesPart_0 : cX3_takesPart.data.toList.drop 0 = dktX3_takesPart_0 := by decide +kernel
theorem dksX3_takesPart_1 : cX3_takesPart.data.toList.drop 23 = dktX3_takesPart_1 := dk_seg dksX3_takesPart_0 23 rfl rfl
theorem dksX3_takesPart_2 : cX3_takesPart.data.toList.drop 47 = dktX3_takesPart_2 := dk_seg dksX3_takesPart_1 24 rfl rfl
theorem dksX3_takesPart_3 : cX3_takesPart.data.toList.drop 69 = dktX3_takesPart_3 := dk_seg dksX3_takesPart_2 22 rfl rfl
theorem dksX3_takesPart_4 : cX3_takesPart.data.toList.drop 93 = dktX3_takesPart_4 := dk_seg dksX3_takesPart_3 24 rfl rfl
theorem dksX3_takesPart_5 : cX3_takesPart.data.toList.drop 115 = dktX3_takesPart_5 := dk_seg dksX3_takesPart_4 22 rfl rfl
theorem dX3_takesPart_0 : decode cX3_takesPart 0 = .ok (.aload_n 0, 1) := dk_42 (dk_at dksX3_takesPart_0 0 rfl rfl)
theorem dX3_takesPart_1 : decode cX3_takesPart 1 = .ok (.getfield 216, 3) := dk_180 0 216 (dk_at dksX3_takesPart_0 1 rfl rfl)
theorem dX3_takesPart_4 : decode cX3_takesPart 4 = .ok (.iconst 1, 1) := dk_4 (dk_at dksX3_takesPart_0 4 rfl rfl)
theorem dX3_takesPart_5 : decode cX3_takesPart 5 = .ok (.if_icmp .ne 31, 3) := dk_160 0 31 (dk_at dksX3_takesPart_0 5 rfl rfl)
theorem dX3_takesPart_8 : decode cX3_takesPart 8 = .ok (.aload_n 0, 1) := dk_42 (dk_at dksX3_takesPart_0 8 rfl rfl)
theorem dX3_takesPart_9 : decode cX3_takesPart 9 = .ok (.getfield 207, 3) := dk_180 0 207 (dk_at dksX3_takesPart_0 9 rfl rfl)
theorem dX3_takesPart_12 : decode cX3_takesPart 12 = .ok (.aload_n 0, 1) := dk_42 (dk_at dksX3_takesPart_0 12 rfl rfl)
theorem dX3_takesPart_13 : decode cX3_takesPart 13 = .ok (.getfield 210, 3) := dk_180 0 210 (dk_at dksX3_takesPart_0 13 rfl rfl)
theorem dX3_takesPart_16 : decode cX3_takesPart 16 = .ok (.isub, 1) := dk_100 (dk_at dksX3_takesPart_0 16 rfl rfl)
theorem dX3_takesPart_17 : decode cX3_takesPart 17 = .ok (.iconst 1, 1) := dk_4 (dk_at dksX3_takesPart_0 17 rfl rfl)
theorem dX3_takesPart_18 : decode cX3_takesPart 18 = .ok (.if_icmp .ne 18, 3) := dk_160 0 18 (dk_at dksX3_takesPart_0 18 rfl rfl)
theorem dX3_takesPart_21 : decode cX3_takesPart 21 = .ok (.aload_n 0, 1) := dk_42 (dk_at dksX3_takesPart_0 21 rfl rfl)
theorem dX3_takesPart_22 : decode cX3_takesPart 22 = .ok (.aload_n 0, 1) := dk_42 (dk_at dksX3_takesPart_0 22 rfl rfl)
theorem dX3_takesPart_23 : decode cX3_takesPart 23 = .ok (.getfield 222, 3) := dk_180 0 222 (dk_at dksX3_takesPart_1 0 rfl rfl)
theorem dX3_takesPart_26 : decode cX3_takesPart 26 = .ok (.invokevirtual 243, 3) := dk_182 0 243 (dk_at dksX3_takesPart_1 3 rfl rfl)
theorem dX3_takesPart_29 : decode cX3_takesPart 29 = .ok (.ifCond .lt 7, 3) := dk_155 0 7 (dk_at dksX3_takesPart_1 6 rfl rfl)
theorem dX3_takesPart_32 : decode cX3_takesPart 32 = .ok (.iconst 1, 1) := dk_4 (dk_at dksX3_takesPart_1 9 rfl rfl)
theorem dX3_takesPart_33 : decode cX3_takesPart 33 = .ok (.goto 4, 3) := dk_167 0 4 (dk_at dksX3_takesPart_1 10 rfl rfl)
theorem dX3_takesPart_36 : decode cX3_takesPart 36 = .ok (.iconst 0, 1) := dk_3 (dk_at dksX3_takesPart_1 13 rfl rfl)
theorem dX3_takesPart_37 : decode cX3_takesPart 37 = .ok (.istore_n 1, 1) := dk_60 (dk_at dksX3_takesPart_1 14 rfl rfl)
theorem dX3_takesPart_38 : decode cX3_takesPart 38 = .ok (.aload_n 0, 1) := dk_42 (dk_at dksX3_takesPart_1 15 rfl rfl)
theorem dX3_takesPart_39 : decode cX3_takesPart 39 = .ok (.getfield 216, 3) := dk_180 0 216 (dk_at dksX3_takesPart_1 16 rfl rfl)
theorem dX3_takesPart_42 : decode cX3_takesPart 42 = .ok (.iconst 2, 1) := dk_5 (dk_at dksX3_takesPart_1 19 rfl rfl)
theorem dX3_takesPart_43 : decode cX3_takesPart 43 = .ok (.if_icmp .eq 9, 3) := dk_159 0 9 (dk_at dksX3_takesPart_1 20 rfl rfl)
theorem dX3_takesPart_46 : decode cX3_takesPart 46 = .ok (.iload_n 1, 1) := dk_27 (dk_at dksX3_takesPart_1 23 rfl rfl)
theorem dX3_takesPart_47 : decode cX3_takesPart 47 = .ok (.ifCond .ne 5, 3) := dk_154 0 5 (dk_at dksX3_takesPart_2 0 rfl rfl)
theorem dX3_takesPart_50 : decode cX3_takesPart 50 = .ok (.iconst 0, 1) := dk_3 (dk_at dksX3_takesPart_2 3 rfl rfl)
theorem dX3_takesPart_51 : decode cX3_takesPart 51 = .ok (.ireturn, 1) := dk_172 (dk_at dksX3_takesPart_2 4 rfl rfl)
theorem dX3_takesPart_52 : decode cX3_takesPart 52 = .ok (.aload_n 0, 1) := dk_42 (dk_at dksX3_takesPart_2 5 rfl rfl)
theorem dX3_takesPart_53 : decode cX3_takesPart 53 = .ok (.getfield 38, 3) := dk_180 0 38 (dk_at dksX3_takesPart_2 6 rfl rfl)
theorem dX3_takesPart_56 : decode cX3_takesPart 56 = .ok (.aload_n 0, 1) := dk_42 (dk_at dksX3_takesPart_2 9 rfl rfl)
theorem dX3_takesPart_57 : decode cX3_takesPart 57 = .ok (.getfield 240, 3) := dk_180 0 240 (dk_at dksX3_takesPart_2 10 rfl rfl)
theorem dX3_takesPart_60 : decode cX3_takesPart 60 = .ok (.aload_n 0, 1) := dk_42 (dk_at dksX3_takesPart_2 13 rfl rfl)
theorem dX3_takesPart_61 : decode cX3_takesPart 61 = .ok (.getfield 216, 3) := dk_180 0 216 (dk_at dksX3_takesPart_2 14 rfl rfl)
theorem dX3_takesPart_64 : decode cX3_takesPart 64 = .ok (.iconst 2, 1) := dk_5 (dk_at dksX3_takesPart_2 17 rfl rfl)
theorem dX3_takesPart_65 : decode cX3_takesPart 65 = .ok (.if_icmp .ne 10, 3) := dk_160 0 10 (dk_at dksX3_takesPart_2 18 rfl rfl)
theorem dX3_takesPart_68 : decode cX3_takesPart 68 = .ok (.aload_n 0, 1) := dk_42 (dk_at dksX3_takesPart_2 21 rfl rfl)
theorem dX3_takesPart_69 : decode cX3_takesPart 69 = .ok (.getfield 222, 3) := dk_180 0 222 (dk_at dksX3_takesPart_3 0 rfl rfl)
theorem dX3_takesPart_72 : decode cX3_takesPart 72 = .ok (.goto 15, 3) := dk_167 0 15 (dk_at dksX3_takesPart_3 3 rfl rfl)
theorem dX3_takesPart_75 : decode cX3_takesPart 75 = .ok (.sipush 10000, 3) := dk_17 39 16 (dk_at dksX3_takesPart_3 6 rfl rfl)
theorem dX3_takesPart_78 : decode cX3_takesPart 78 = .ok (.aload_n 0, 1) := dk_42 (dk_at dksX3_takesPart_3 9 rfl rfl)
theorem dX3_takesPart_79 : decode cX3_takesPart 79 = .ok (.aload_n 0, 1) := dk_42 (dk_at dksX3_takesPart_3 10 rfl rfl)
theorem dX3_takesPart_80 : decode cX3_takesPart 80 = .ok (.getfield 222, 3) := dk_180 0 222 (dk_at dksX3_takesPart_3 11 rfl rfl)
theorem dX3_takesPart_83 : decode cX3_takesPart 83 = .ok (.invokevirtual 243, 3) := dk_182 0 243 (dk_at dksX3_takesPart_3 14 rfl rfl)
theorem dX3_takesPart_86 : decode cX3_takesPart 86 = .ok (.iadd, 1) := dk_96 (dk_at dksX3_takesPart_3 17 rfl rfl)
theorem dX3_takesPart_87 : decode cX3_takesPart 87 = .ok (.iastore, 1) := dk_79 (dk_at dksX3_takesPart_3 18 rfl rfl)
theorem dX3_takesPart_88 : decode cX3_takesPart 88 = .ok (.aload_n 0, 1) := dk_42 (dk_at dksX3_takesPart_3 19 rfl rfl)
theorem dX3_takesPart_89 : decode cX3_takesPart 89 = .ok (.dup, 1) := dk_89 (dk_at dksX3_takesPart_3 20 rfl rfl)
theorem dX3_takesPart_90 : decode cX3_takesPart 90 = .ok (.getfield 240, 3) := dk_180 0 240 (dk_at dksX3_takesPart_3 21 rfl rfl)
theorem dX3_takesPart_93 : decode cX3_takesPart 93 = .ok (.iconst 1, 1) := dk_4 (dk_at dksX3_takesPart_4 0 rfl rfl)
theorem dX3_takesPart_94 : decode cX3_takesPart 94 = .ok (.iadd, 1) := dk_96 (dk_at dksX3_takesPart_4 1 rfl rfl)
theorem dX3_takesPart_95 : decode cX3_takesPart 95 = .ok (.putfield 240, 3) := dk_181 0 240 (dk_at dksX3_takesPart_4 2 rfl rfl)
theorem dX3_takesPart_98 : decode cX3_takesPart 98 = .ok (.aload_n 0, 1) := dk_42 (dk_at dksX3_takesPart_4 5 rfl rfl)
theorem dX3_takesPart_99 : decode cX3_takesPart 99 = .ok (.dup, 1) := dk_89 (dk_at dksX3_takesPart_4 6 rfl rfl)
theorem dX3_takesPart_100 : decode cX3_takesPart 100 = .ok (.getfield 246, 3) := dk_180 0 246 (dk_at dksX3_takesPart_4 7 rfl rfl)
theorem dX3_takesPart_103 : decode cX3_takesPart 103 = .ok (.iconst 1, 1) := dk_4 (dk_at dksX3_takesPart_4 10 rfl rfl)
theorem dX3_takesPart_104 : decode cX3_takesPart 104 = .ok (.iadd, 1) := dk_96 (dk_at dksX3_takesPart_4 11 rfl rfl)
theorem dX3_takesPart_105 : decode cX3_takesPart 105 = .ok (.putfield 246, 3) := dk_181 0 246 (dk_at dksX3_takesPart_4 12 rfl rfl)
theorem dX3_takesPart_108 : decode cX3_takesPart 108 = .ok (.aload_n 0, 1) := dk_42 (dk_at dksX3_takesPart_4 15 rfl rfl)
theorem dX3_takesPart_109 : decode cX3_takesPart 109 = .ok (.bipush 6, 2) := dk_16 6 (dk_at dksX3_takesPart_4 16 rfl rfl)
theorem dX3_takesPart_111 : decode cX3_takesPart 111 = .ok (.invokevirtual 249, 3) := dk_182 0 249 (dk_at dksX3_takesPart_4 18 rfl rfl)
theorem dX3_takesPart_114 : decode cX3_takesPart 114 = .ok (.aload_n 0, 1) := dk_42 (dk_at dksX3_takesPart_4 21 rfl rfl)
theorem dX3_takesPart_115 : decode cX3_takesPart 115 = .ok (.invokevirtual 231, 3) := dk_182 0 231 (dk_at dksX3_takesPart_5 0 rfl rfl)
theorem dX3_takesPart_118 : decode cX3_takesPart 118 = .ok (.iconst 1, 1) := dk_4 (dk_at dksX3_takesPart_5 3 rfl rfl)
theorem dX3_takesPart_119 : decode cX3_takesPart 119 = .ok (.ireturn, 1) := dk_172 (dk_at dksX3_takesPart_5 4 rfl rfl)
abbrev cX3_nameOf : ByteArray := prog_22_method_65_code
def yX3_nameOf : MethodName := ⟨RX3, "nameOf", "(I)I"⟩
def dkwX3_nameOf_5 : List UInt8 := [160, 0, 7, 4, 167, 0, 4, 2, 172]
abbrev dktX3_nameOf_5 : List UInt8 := dkwX3_nameOf_5 ++ []
def dkwX3_nameOf_4 : List UInt8 := [160, 0, 7, 4, 167, 0, 4, 2, 172, 27, 16, 119, 160, 0, 7, 3, 167, 0, 14, 27, 16, 108]
abbrev dktX3_nameOf_4 : List UInt8 := dkwX3_nameOf_4 ++ dktX3_nameOf_5
def dkwX3_nameOf_3 : List UInt8 := [160, 0, 7, 5, 167, 0, 4, 2, 172, 27, 16, 115, 160, 0, 7, 3, 167, 0, 14, 27, 16, 104]
abbrev dktX3_nameOf_3 : List UInt8 := dkwX3_nameOf_3 ++ dktX3_nameOf_4
def dkwX3_nameOf_2 : List UInt8 := [27, 16, 102, 160, 0, 7, 3, 167, 0, 24, 27, 16, 108, 160, 0, 7, 4, 167, 0, 14, 27, 16, 119]
abbrev dktX3_nameOf_2 : List UInt8 := dkwX3_nameOf_2 ++ dktX3_nameOf_3
def dkwX3_nameOf_1 : List UInt8 := [171, 0, 0, 0, 0, 0, 0, 82, 0, 0, 0, 2, 0, 0, 0, 0, 0, 0, 0, 28, 0, 0, 0, 1, 0, 0, 0, 60]
abbrev dktX3_nameOf_1 : List UInt8 := dkwX3_nameOf_1 ++ dktX3_nameOf_2
def dkwX3_nameOf_0 : List UInt8 := [42, 180, 0, 228]
abbrev dktX3_nameOf_0 : List UInt8 := dkwX3_nameOf_0 ++ dktX3_nameOf_1
theorem dksX3_nameOf_0 : cX3_nameOf.data.toList.drop 0 = dktX3_nameOf_0 := by decide +kernel
theorem dksX3_nameOf_1 : cX3_nameOf.data.toList.drop 4 = dktX3_nameOf_1 := dk_seg dksX3_nameOf_0 4 rfl rfl
theorem dksX3_nameOf_2 : cX3_nameOf.data.toList.drop 32 = dktX3_nameOf_2 := dk_seg dksX3_nameOf_1 28 rfl rfl
theorem dksX3_nameOf_3 : cX3_nameOf.data.toList.drop 55 = dktX3_nameOf_3 := dk_seg dksX3_nameOf_2 23 rfl rfl
theorem dksX3_nameOf_4 : cX3_nameOf.data.toList.drop 77 = dktX3_nameOf_4 := dk_seg dksX3_nameOf_3 22 rfl rfl
theorem dksX3_nameOf_5 : cX3_nameOf.data.toList.drop 99 = dktX3_nameOf_5 := dk_seg dksX3_nameOf_4 22 rfl rfl
theorem dX3_nameOf_0 : decode cX3_nameOf 0 = .ok (.aload_n 0, 1) := dk_42 (dk_at dksX3_nameOf_0 0 rfl rfl)
theorem dX3_nameOf_1 : decode cX3_nameOf 1 = .ok (.getfield 228, 3) := dk_180 0 228 (dk_at dksX3_nameOf_0 1 rfl rfl)
theorem dX3_nameOf_4 : decode cX3_nameOf 4 = .ok (.lookupswitch 82 #[(0, 28), (1, 60)], 28) := by decide +kernel
theorem dX3_nameOf_32 : decode cX3_nameOf 32 = .ok (.iload_n 1, 1) := dk_27 (dk_at dksX3_nameOf_2 0 rfl rfl)
theorem dX3_nameOf_33 : decode cX3_nameOf 33 = .ok (.bipush 102, 2) := dk_16 102 (dk_at dksX3_nameOf_2 1 rfl rfl)
theorem dX3_nameOf_35 : decode cX3_nameOf 35 = .ok (.if_icmp .ne 7, 3) := dk_160 0 7 (dk_at dksX3_nameOf_2 3 rfl rfl)
theorem dX3_nameOf_38 : decode cX3_nameOf 38 = .ok (.iconst 0, 1) := dk_3 (dk_at dksX3_nameOf_2 6 rfl rfl)
theorem dX3_nameOf_39 : decode cX3_nameOf 39 = .ok (.goto 24, 3) := dk_167 0 24 (dk_at dksX3_nameOf_2 7 rfl rfl)
theorem dX3_nameOf_42 : decode cX3_nameOf 42 = .ok (.iload_n 1, 1) := dk_27 (dk_at dksX3_nameOf_2 10 rfl rfl)
theorem dX3_nameOf_43 : decode cX3_nameOf 43 = .ok (.bipush 108, 2) := dk_16 108 (dk_at dksX3_nameOf_2 11 rfl rfl)
theorem dX3_nameOf_45 : decode cX3_nameOf 45 = .ok (.if_icmp .ne 7, 3) := dk_160 0 7 (dk_at dksX3_nameOf_2 13 rfl rfl)
theorem dX3_nameOf_48 : decode cX3_nameOf 48 = .ok (.iconst 1, 1) := dk_4 (dk_at dksX3_nameOf_2 16 rfl rfl)
theorem dX3_nameOf_49 : decode cX3_nameOf 49 = .ok (.goto 14, 3) := dk_167 0 14 (dk_at dksX3_nameOf_2 17 rfl rfl)
theorem dX3_nameOf_52 : decode cX3_nameOf 52 = .ok (.iload_n 1, 1) := dk_27 (dk_at dksX3_nameOf_2 20 rfl rfl)
theorem dX3_nameOf_53 : decode cX3_nameOf 53 = .ok (.bipush 119, 2) := dk_16 119 (dk_at dksX3_nameOf_2 21 rfl rfl)
theorem dX3_nameOf_55 : decode cX3_nameOf 55 = .ok (.if_icmp .ne 7, 3) := dk_160 0 7 (dk_at dksX3_nameOf_3 0 rfl rfl)
theorem dX3_nameOf_58 : decode cX3_nameOf 58 = .ok (.iconst 2, 1) := dk_5 (dk_at dksX3_nameOf_3 3 rfl rfl)
theorem dX3_nameOf_59 : decode cX3_nameOf 59 = .ok (.goto 4, 3) := dk_167 0 4 (dk_at dksX3_nameOf_3 4 rfl rfl)
theorem dX3_nameOf_62 : decode cX3_nameOf 62 = .ok (.iconst (-1), 1) := dk_2 (dk_at dksX3_nameOf_3 7 rfl rfl)
theorem dX3_nameOf_63 : decode cX3_nameOf 63 = .ok (.ireturn, 1) := dk_172 (dk_at dksX3_nameOf_3 8 rfl rfl)
theorem dX3_nameOf_64 : decode cX3_nameOf 64 = .ok (.iload_n 1, 1) := dk_27 (dk_at dksX3_nameOf_3 9 rfl rfl)
theorem dX3_nameOf_65 : decode cX3_nameOf 65 = .ok (.bipush 115, 2) := dk_16 115 (dk_at dksX3_nameOf_3 10 rfl rfl)
theorem dX3_nameOf_67 : decode cX3_nameOf 67 = .ok (.if_icmp .ne 7, 3) := dk_160 0 7 (dk_at dksX3_nameOf_3 12 rfl rfl)
theorem dX3_nameOf_70 : decode cX3_nameOf 70 = .ok (.iconst 0, 1) := dk_3 (dk_at dksX3_nameOf_3 15 rfl rfl)
theorem dX3_nameOf_71 : decode cX3_nameOf 71 = .ok (.goto 14, 3) := dk_167 0 14 (dk_at dksX3_nameOf_3 16 rfl rfl)
theorem dX3_nameOf_74 : decode cX3_nameOf 74 = .ok (.iload_n 1, 1) := dk_27 (dk_at dksX3_nameOf_3 19 rfl rfl)
theorem dX3_nameOf_75 : decode cX3_nameOf 75 = .ok (.bipush 104, 2) := dk_16 104 (dk_at dksX3_nameOf_3 20 rfl rfl)
theorem dX3_nameOf_77 : decode cX3_nameOf 77 = .ok (.if_icmp .ne 7, 3) := dk_160 0 7 (dk_at dksX3_nameOf_4 0 rfl rfl)
theorem dX3_nameOf_80 : decode cX3_nameOf 80 = .ok (.iconst 1, 1) := dk_4 (dk_at dksX3_nameOf_4 3 rfl rfl)
theorem dX3_nameOf_81 : decode cX3_nameOf 81 = .ok (.goto 4, 3) := dk_167 0 4 (dk_at dksX3_nameOf_4 4 rfl rfl)
theorem dX3_nameOf_84 : decode cX3_nameOf 84 = .ok (.iconst (-1), 1) := dk_2 (dk_at dksX3_nameOf_4 7 rfl rfl)
theorem dX3_nameOf_85 : decode cX3_nameOf 85 = .ok (.ireturn, 1) := dk_172 (dk_at dksX3_nameOf_4 8 rfl rfl)
theorem dX3_nameOf_86 : decode cX3_nameOf 86 = .ok (.iload_n 1, 1) := dk_27 (dk_at dksX3_nameOf_4 9 rfl rfl)
theorem dX3_nameOf_87 : decode cX3_nameOf 87 = .ok (.bipush 119, 2) := dk_16 119 (dk_at dksX3_nameOf_4 10 rfl rfl)
theorem dX3_nameOf_89 : decode cX3_nameOf 89 = .ok (.if_icmp .ne 7, 3) := dk_160 0 7 (dk_at dksX3_nameOf_4 12 rfl rfl)
theorem dX3_nameOf_92 : decode cX3_nameOf 92 = .ok (.iconst 0, 1) := dk_3 (dk_at dksX3_nameOf_4 15 rfl rfl)
theorem dX3_nameOf_93 : decode cX3_nameOf 93 = .ok (.goto 14, 3) := dk_167 0 14 (dk_at dksX3_nameOf_4 16 rfl rfl)
theorem dX3_nameOf_96 : decode cX3_nameOf 96 = .ok (.iload_n 1, 1) := dk_27 (dk_at dksX3_nameOf_4 19 rfl rfl)
theorem dX3_nameOf_97 : decode cX3_nameOf 97 = .ok (.bipush 108, 2) := dk_16 108 (dk_at dksX3_nameOf_4 20 rfl rfl)
theorem dX3_nameOf_99 : decode cX3_nameOf 99 = .ok (.if_icmp .ne 7, 3) := dk_160 0 7 (dk_at dksX3_nameOf_5 0 rfl rfl)
theorem dX3_nameOf_102 : decode cX3_nameOf 102 = .ok (.iconst 1, 1) := dk_4 (dk_at dksX3_nameOf_5 3 rfl rfl)
theorem dX3_nameOf_103 : decode cX3_nameOf 103 = .ok (.goto 4, 3) := dk_167 0 4 (dk_at dksX3_nameOf_5 4 rfl rfl)
theorem dX3_nameOf_106 : decode cX3_nameOf 106 = .ok (.iconst (-1), 1) := dk_2 (dk_at dksX3_nameOf_5 7 rfl rfl)
theorem dX3_nameOf_107 : decode cX3_nameOf 107 = .ok (.ireturn, 1) := dk_172 (dk_at dksX3_nameOf_5 8 rfl rfl)
abbrev cX3_settle : ByteArray := prog_22_method_67_code
def yX3_settle : MethodName := ⟨RX3, "settle", "(I)V"⟩
def dkwX3_settle_3 : List UInt8 := [180, 0, 240, 4, 96, 181, 0, 240, 167, 255, 177, 177]
abbrev dktX3_settle_3 : List UInt8 := dkwX3_settle_3 ++ []
def dkwX3_settle_2 : List UInt8 := [181, 0, 234, 42, 180, 0, 38, 42, 180, 0, 240, 42, 180, 0, 41, 42, 180, 0, 234, 46, 79, 42, 89]
abbrev dktX3_settle_2 : List UInt8 := dkwX3_settle_2 ++ dktX3_settle_3
def dkwX3_settle_1 : List UInt8 := [180, 0, 41, 42, 180, 0, 234, 4, 100, 46, 184, 0, 237, 27, 161, 0, 44, 42, 89, 180, 0, 234, 4, 100]
abbrev dktX3_settle_1 : List UInt8 := dkwX3_settle_1 ++ dktX3_settle_2
def dkwX3_settle_0 : List UInt8 := [42, 180, 0, 234, 158, 0, 78, 42, 180, 0, 41, 42, 180, 0, 234, 4, 100, 46, 16, 245, 159, 0, 62, 42]
abbrev dktX3_settle_0 : List UInt8 := dkwX3_settle_0 ++ dktX3_settle_1
theorem dksX3_settle_0 : cX3_settle.data.toList.drop 0 = dktX3_settle_0 := by decide +kernel
theorem dksX3_settle_1 : cX3_settle.data.toList.drop 24 = dktX3_settle_1 := dk_seg dksX3_settle_0 24 rfl rfl
theorem dksX3_settle_2 : cX3_settle.data.toList.drop 48 = dktX3_settle_2 := dk_seg dksX3_settle_1 24 rfl rfl
theorem dksX3_settle_3 : cX3_settle.data.toList.drop 71 = dktX3_settle_3 := dk_seg dksX3_settle_2 23 rfl rfl
theorem dX3_settle_0 : decode cX3_settle 0 = .ok (.aload_n 0, 1) := dk_42 (dk_at dksX3_settle_0 0 rfl rfl)
theorem dX3_settle_1 : decode cX3_settle 1 = .ok (.getfield 234, 3) := dk_180 0 234 (dk_at dksX3_settle_0 1 rfl rfl)
theorem dX3_settle_4 : decode cX3_settle 4 = .ok (.ifCond .le 78, 3) := dk_158 0 78 (dk_at dksX3_settle_0 4 rfl rfl)
theorem dX3_settle_7 : decode cX3_settle 7 = .ok (.aload_n 0, 1) := dk_42 (dk_at dksX3_settle_0 7 rfl rfl)
theorem dX3_settle_8 : decode cX3_settle 8 = .ok (.getfield 41, 3) := dk_180 0 41 (dk_at dksX3_settle_0 8 rfl rfl)
theorem dX3_settle_11 : decode cX3_settle 11 = .ok (.aload_n 0, 1) := dk_42 (dk_at dksX3_settle_0 11 rfl rfl)
theorem dX3_settle_12 : decode cX3_settle 12 = .ok (.getfield 234, 3) := dk_180 0 234 (dk_at dksX3_settle_0 12 rfl rfl)
theorem dX3_settle_15 : decode cX3_settle 15 = .ok (.iconst 1, 1) := dk_4 (dk_at dksX3_settle_0 15 rfl rfl)
theorem dX3_settle_16 : decode cX3_settle 16 = .ok (.isub, 1) := dk_100 (dk_at dksX3_settle_0 16 rfl rfl)
theorem dX3_settle_17 : decode cX3_settle 17 = .ok (.iaload, 1) := dk_46 (dk_at dksX3_settle_0 17 rfl rfl)
theorem dX3_settle_18 : decode cX3_settle 18 = .ok (.bipush (-11), 2) := dk_16 245 (dk_at dksX3_settle_0 18 rfl rfl)
theorem dX3_settle_20 : decode cX3_settle 20 = .ok (.if_icmp .eq 62, 3) := dk_159 0 62 (dk_at dksX3_settle_0 20 rfl rfl)
theorem dX3_settle_23 : decode cX3_settle 23 = .ok (.aload_n 0, 1) := dk_42 (dk_at dksX3_settle_0 23 rfl rfl)
theorem dX3_settle_24 : decode cX3_settle 24 = .ok (.getfield 41, 3) := dk_180 0 41 (dk_at dksX3_settle_1 0 rfl rfl)
theorem dX3_settle_27 : decode cX3_settle 27 = .ok (.aload_n 0, 1) := dk_42 (dk_at dksX3_settle_1 3 rfl rfl)
theorem dX3_settle_28 : decode cX3_settle 28 = .ok (.getfield 234, 3) := dk_180 0 234 (dk_at dksX3_settle_1 4 rfl rfl)
theorem dX3_settle_31 : decode cX3_settle 31 = .ok (.iconst 1, 1) := dk_4 (dk_at dksX3_settle_1 7 rfl rfl)
theorem dX3_settle_32 : decode cX3_settle 32 = .ok (.isub, 1) := dk_100 (dk_at dksX3_settle_1 8 rfl rfl)
theorem dX3_settle_33 : decode cX3_settle 33 = .ok (.iaload, 1) := dk_46 (dk_at dksX3_settle_1 9 rfl rfl)
theorem dX3_settle_34 : decode cX3_settle 34 = .ok (.invokestatic 237, 3) := dk_184 0 237 (dk_at dksX3_settle_1 10 rfl rfl)
theorem dX3_settle_37 : decode cX3_settle 37 = .ok (.iload_n 1, 1) := dk_27 (dk_at dksX3_settle_1 13 rfl rfl)
theorem dX3_settle_38 : decode cX3_settle 38 = .ok (.if_icmp .lt 44, 3) := dk_161 0 44 (dk_at dksX3_settle_1 14 rfl rfl)
theorem dX3_settle_41 : decode cX3_settle 41 = .ok (.aload_n 0, 1) := dk_42 (dk_at dksX3_settle_1 17 rfl rfl)
theorem dX3_settle_42 : decode cX3_settle 42 = .ok (.dup, 1) := dk_89 (dk_at dksX3_settle_1 18 rfl rfl)
theorem dX3_settle_43 : decode cX3_settle 43 = .ok (.getfield 234, 3) := dk_180 0 234 (dk_at dksX3_settle_1 19 rfl rfl)
theorem dX3_settle_46 : decode cX3_settle 46 = .ok (.iconst 1, 1) := dk_4 (dk_at dksX3_settle_1 22 rfl rfl)
theorem dX3_settle_47 : decode cX3_settle 47 = .ok (.isub, 1) := dk_100 (dk_at dksX3_settle_1 23 rfl rfl)
theorem dX3_settle_48 : decode cX3_settle 48 = .ok (.putfield 234, 3) := dk_181 0 234 (dk_at dksX3_settle_2 0 rfl rfl)
theorem dX3_settle_51 : decode cX3_settle 51 = .ok (.aload_n 0, 1) := dk_42 (dk_at dksX3_settle_2 3 rfl rfl)
theorem dX3_settle_52 : decode cX3_settle 52 = .ok (.getfield 38, 3) := dk_180 0 38 (dk_at dksX3_settle_2 4 rfl rfl)
theorem dX3_settle_55 : decode cX3_settle 55 = .ok (.aload_n 0, 1) := dk_42 (dk_at dksX3_settle_2 7 rfl rfl)
theorem dX3_settle_56 : decode cX3_settle 56 = .ok (.getfield 240, 3) := dk_180 0 240 (dk_at dksX3_settle_2 8 rfl rfl)
theorem dX3_settle_59 : decode cX3_settle 59 = .ok (.aload_n 0, 1) := dk_42 (dk_at dksX3_settle_2 11 rfl rfl)
theorem dX3_settle_60 : decode cX3_settle 60 = .ok (.getfield 41, 3) := dk_180 0 41 (dk_at dksX3_settle_2 12 rfl rfl)
theorem dX3_settle_63 : decode cX3_settle 63 = .ok (.aload_n 0, 1) := dk_42 (dk_at dksX3_settle_2 15 rfl rfl)
theorem dX3_settle_64 : decode cX3_settle 64 = .ok (.getfield 234, 3) := dk_180 0 234 (dk_at dksX3_settle_2 16 rfl rfl)
theorem dX3_settle_67 : decode cX3_settle 67 = .ok (.iaload, 1) := dk_46 (dk_at dksX3_settle_2 19 rfl rfl)
theorem dX3_settle_68 : decode cX3_settle 68 = .ok (.iastore, 1) := dk_79 (dk_at dksX3_settle_2 20 rfl rfl)
theorem dX3_settle_69 : decode cX3_settle 69 = .ok (.aload_n 0, 1) := dk_42 (dk_at dksX3_settle_2 21 rfl rfl)
theorem dX3_settle_70 : decode cX3_settle 70 = .ok (.dup, 1) := dk_89 (dk_at dksX3_settle_2 22 rfl rfl)
theorem dX3_settle_71 : decode cX3_settle 71 = .ok (.getfield 240, 3) := dk_180 0 240 (dk_at dksX3_settle_3 0 rfl rfl)
theorem dX3_settle_74 : decode cX3_settle 74 = .ok (.iconst 1, 1) := dk_4 (dk_at dksX3_settle_3 3 rfl rfl)
theorem dX3_settle_75 : decode cX3_settle 75 = .ok (.iadd, 1) := dk_96 (dk_at dksX3_settle_3 4 rfl rfl)
theorem dX3_settle_76 : decode cX3_settle 76 = .ok (.putfield 240, 3) := dk_181 0 240 (dk_at dksX3_settle_3 5 rfl rfl)
theorem dX3_settle_79 : decode cX3_settle 79 = .ok (.goto (-79), 3) := dk_167 255 177 (dk_at dksX3_settle_3 8 rfl rfl)
theorem dX3_settle_82 : decode cX3_settle 82 = .ok (.return_, 1) := dk_177 (dk_at dksX3_settle_3 11 rfl rfl)
abbrev cX3_rank : ByteArray := prog_22_method_66_code
def yX3_rank : MethodName := ⟨RX3, "rank", "(I)I"⟩
def dkwX3_rank_2 : List UInt8 := [167, 0, 5, 16, 6, 172]
abbrev dktX3_rank_2 : List UInt8 := dkwX3_rank_2 ++ []
def dkwX3_rank_1 : List UInt8 := [161, 0, 7, 6, 167, 0, 25, 26, 16, 249, 161, 0, 7, 7, 167, 0, 15, 26, 16, 247, 161, 0, 7, 8]
abbrev dktX3_rank_1 : List UInt8 := dkwX3_rank_1 ++ dktX3_rank_2
def dkwX3_rank_0 : List UInt8 := [26, 2, 160, 0, 7, 4, 167, 0, 45, 26, 16, 254, 160, 0, 7, 5, 167, 0, 35, 26, 16, 251]
abbrev dktX3_rank_0 : List UInt8 := dkwX3_rank_0 ++ dktX3_rank_1
theorem dksX3_rank_0 : cX3_rank.data.toList.drop 0 = dktX3_rank_0 := by decide +kernel
theorem dksX3_rank_1 : cX3_rank.data.toList.drop 22 = dktX3_rank_1 := dk_seg dksX3_rank_0 22 rfl rfl
theorem dksX3_rank_2 : cX3_rank.data.toList.drop 46 = dktX3_rank_2 := dk_seg dksX3_rank_1 24 rfl rfl
theorem dX3_rank_0 : decode cX3_rank 0 = .ok (.iload_n 0, 1) := dk_26 (dk_at dksX3_rank_0 0 rfl rfl)
theorem dX3_rank_1 : decode cX3_rank 1 = .ok (.iconst (-1), 1) := dk_2 (dk_at dksX3_rank_0 1 rfl rfl)
theorem dX3_rank_2 : decode cX3_rank 2 = .ok (.if_icmp .ne 7, 3) := dk_160 0 7 (dk_at dksX3_rank_0 2 rfl rfl)
theorem dX3_rank_5 : decode cX3_rank 5 = .ok (.iconst 1, 1) := dk_4 (dk_at dksX3_rank_0 5 rfl rfl)
theorem dX3_rank_6 : decode cX3_rank 6 = .ok (.goto 45, 3) := dk_167 0 45 (dk_at dksX3_rank_0 6 rfl rfl)
theorem dX3_rank_9 : decode cX3_rank 9 = .ok (.iload_n 0, 1) := dk_26 (dk_at dksX3_rank_0 9 rfl rfl)
theorem dX3_rank_10 : decode cX3_rank 10 = .ok (.bipush (-2), 2) := dk_16 254 (dk_at dksX3_rank_0 10 rfl rfl)
theorem dX3_rank_12 : decode cX3_rank 12 = .ok (.if_icmp .ne 7, 3) := dk_160 0 7 (dk_at dksX3_rank_0 12 rfl rfl)
theorem dX3_rank_15 : decode cX3_rank 15 = .ok (.iconst 2, 1) := dk_5 (dk_at dksX3_rank_0 15 rfl rfl)
theorem dX3_rank_16 : decode cX3_rank 16 = .ok (.goto 35, 3) := dk_167 0 35 (dk_at dksX3_rank_0 16 rfl rfl)
theorem dX3_rank_19 : decode cX3_rank 19 = .ok (.iload_n 0, 1) := dk_26 (dk_at dksX3_rank_0 19 rfl rfl)
theorem dX3_rank_20 : decode cX3_rank 20 = .ok (.bipush (-5), 2) := dk_16 251 (dk_at dksX3_rank_0 20 rfl rfl)
theorem dX3_rank_22 : decode cX3_rank 22 = .ok (.if_icmp .lt 7, 3) := dk_161 0 7 (dk_at dksX3_rank_1 0 rfl rfl)
theorem dX3_rank_25 : decode cX3_rank 25 = .ok (.iconst 3, 1) := dk_6 (dk_at dksX3_rank_1 3 rfl rfl)
theorem dX3_rank_26 : decode cX3_rank 26 = .ok (.goto 25, 3) := dk_167 0 25 (dk_at dksX3_rank_1 4 rfl rfl)
theorem dX3_rank_29 : decode cX3_rank 29 = .ok (.iload_n 0, 1) := dk_26 (dk_at dksX3_rank_1 7 rfl rfl)
theorem dX3_rank_30 : decode cX3_rank 30 = .ok (.bipush (-7), 2) := dk_16 249 (dk_at dksX3_rank_1 8 rfl rfl)
theorem dX3_rank_32 : decode cX3_rank 32 = .ok (.if_icmp .lt 7, 3) := dk_161 0 7 (dk_at dksX3_rank_1 10 rfl rfl)
theorem dX3_rank_35 : decode cX3_rank 35 = .ok (.iconst 4, 1) := dk_7 (dk_at dksX3_rank_1 13 rfl rfl)
theorem dX3_rank_36 : decode cX3_rank 36 = .ok (.goto 15, 3) := dk_167 0 15 (dk_at dksX3_rank_1 14 rfl rfl)
theorem dX3_rank_39 : decode cX3_rank 39 = .ok (.iload_n 0, 1) := dk_26 (dk_at dksX3_rank_1 17 rfl rfl)
theorem dX3_rank_40 : decode cX3_rank 40 = .ok (.bipush (-9), 2) := dk_16 247 (dk_at dksX3_rank_1 18 rfl rfl)
theorem dX3_rank_42 : decode cX3_rank 42 = .ok (.if_icmp .lt 7, 3) := dk_161 0 7 (dk_at dksX3_rank_1 20 rfl rfl)
theorem dX3_rank_45 : decode cX3_rank 45 = .ok (.iconst 5, 1) := dk_8 (dk_at dksX3_rank_1 23 rfl rfl)
theorem dX3_rank_46 : decode cX3_rank 46 = .ok (.goto 5, 3) := dk_167 0 5 (dk_at dksX3_rank_2 0 rfl rfl)
theorem dX3_rank_49 : decode cX3_rank 49 = .ok (.bipush 6, 2) := dk_16 6 (dk_at dksX3_rank_2 3 rfl rfl)
theorem dX3_rank_51 : decode cX3_rank 51 = .ok (.ireturn, 1) := dk_172 (dk_at dksX3_rank_2 5 rfl rfl)
abbrev cX3_notsOpen : ByteArray := prog_22_method_71_code
def yX3_notsOpen : MethodName := ⟨RX3, "notsOpen", "()I"⟩
def dkwX3_notsOpen_1 : List UInt8 := [4, 167, 0, 4, 3, 96, 60, 132, 2, 1, 167, 255, 226, 27, 172]
abbrev dktX3_notsOpen_1 : List UInt8 := dkwX3_notsOpen_1 ++ []
def dkwX3_notsOpen_0 : List UInt8 := [3, 60, 3, 61, 28, 42, 180, 0, 234, 162, 0, 28, 27, 42, 180, 0, 41, 28, 46, 16, 246, 160, 0, 7]
abbrev dktX3_notsOpen_0 : List UInt8 := dkwX3_notsOpen_0 ++ dktX3_notsOpen_1
theorem dksX3_notsOpen_0 : cX3_notsOpen.data.toList.drop 0 = dktX3_notsOpen_0 := by decide +kernel
theorem dksX3_notsOpen_1 : cX3_notsOpen.data.toList.drop 24 = dktX3_notsOpen_1 := dk_seg dksX3_notsOpen_0 24 rfl rfl
theorem dX3_notsOpen_0 : decode cX3_notsOpen 0 = .ok (.iconst 0, 1) := dk_3 (dk_at dksX3_notsOpen_0 0 rfl rfl)
theorem dX3_notsOpen_1 : decode cX3_notsOpen 1 = .ok (.istore_n 1, 1) := dk_60 (dk_at dksX3_notsOpen_0 1 rfl rfl)
theorem dX3_notsOpen_2 : decode cX3_notsOpen 2 = .ok (.iconst 0, 1) := dk_3 (dk_at dksX3_notsOpen_0 2 rfl rfl)
theorem dX3_notsOpen_3 : decode cX3_notsOpen 3 = .ok (.istore_n 2, 1) := dk_61 (dk_at dksX3_notsOpen_0 3 rfl rfl)
theorem dX3_notsOpen_4 : decode cX3_notsOpen 4 = .ok (.iload_n 2, 1) := dk_28 (dk_at dksX3_notsOpen_0 4 rfl rfl)
theorem dX3_notsOpen_5 : decode cX3_notsOpen 5 = .ok (.aload_n 0, 1) := dk_42 (dk_at dksX3_notsOpen_0 5 rfl rfl)
theorem dX3_notsOpen_6 : decode cX3_notsOpen 6 = .ok (.getfield 234, 3) := dk_180 0 234 (dk_at dksX3_notsOpen_0 6 rfl rfl)
theorem dX3_notsOpen_9 : decode cX3_notsOpen 9 = .ok (.if_icmp .ge 28, 3) := dk_162 0 28 (dk_at dksX3_notsOpen_0 9 rfl rfl)
theorem dX3_notsOpen_12 : decode cX3_notsOpen 12 = .ok (.iload_n 1, 1) := dk_27 (dk_at dksX3_notsOpen_0 12 rfl rfl)
theorem dX3_notsOpen_13 : decode cX3_notsOpen 13 = .ok (.aload_n 0, 1) := dk_42 (dk_at dksX3_notsOpen_0 13 rfl rfl)
theorem dX3_notsOpen_14 : decode cX3_notsOpen 14 = .ok (.getfield 41, 3) := dk_180 0 41 (dk_at dksX3_notsOpen_0 14 rfl rfl)
theorem dX3_notsOpen_17 : decode cX3_notsOpen 17 = .ok (.iload_n 2, 1) := dk_28 (dk_at dksX3_notsOpen_0 17 rfl rfl)
theorem dX3_notsOpen_18 : decode cX3_notsOpen 18 = .ok (.iaload, 1) := dk_46 (dk_at dksX3_notsOpen_0 18 rfl rfl)
theorem dX3_notsOpen_19 : decode cX3_notsOpen 19 = .ok (.bipush (-10), 2) := dk_16 246 (dk_at dksX3_notsOpen_0 19 rfl rfl)
theorem dX3_notsOpen_21 : decode cX3_notsOpen 21 = .ok (.if_icmp .ne 7, 3) := dk_160 0 7 (dk_at dksX3_notsOpen_0 21 rfl rfl)
theorem dX3_notsOpen_24 : decode cX3_notsOpen 24 = .ok (.iconst 1, 1) := dk_4 (dk_at dksX3_notsOpen_1 0 rfl rfl)
theorem dX3_notsOpen_25 : decode cX3_notsOpen 25 = .ok (.goto 4, 3) := dk_167 0 4 (dk_at dksX3_notsOpen_1 1 rfl rfl)
theorem dX3_notsOpen_28 : decode cX3_notsOpen 28 = .ok (.iconst 0, 1) := dk_3 (dk_at dksX3_notsOpen_1 4 rfl rfl)
theorem dX3_notsOpen_29 : decode cX3_notsOpen 29 = .ok (.iadd, 1) := dk_96 (dk_at dksX3_notsOpen_1 5 rfl rfl)
theorem dX3_notsOpen_30 : decode cX3_notsOpen 30 = .ok (.istore_n 1, 1) := dk_60 (dk_at dksX3_notsOpen_1 6 rfl rfl)
theorem dX3_notsOpen_31 : decode cX3_notsOpen 31 = .ok (.iinc 2 1, 3) := dk_132 2 1 (dk_at dksX3_notsOpen_1 7 rfl rfl)
theorem dX3_notsOpen_34 : decode cX3_notsOpen 34 = .ok (.goto (-30), 3) := dk_167 255 226 (dk_at dksX3_notsOpen_1 10 rfl rfl)
theorem dX3_notsOpen_37 : decode cX3_notsOpen 37 = .ok (.iload_n 1, 1) := dk_27 (dk_at dksX3_notsOpen_1 13 rfl rfl)
theorem dX3_notsOpen_38 : decode cX3_notsOpen 38 = .ok (.ireturn, 1) := dk_172 (dk_at dksX3_notsOpen_1 14 rfl rfl)
abbrev cX3_signHere : ByteArray := prog_22_method_68_code
def yX3_signHere : MethodName := ⟨RX3, "signHere", "()I"⟩
def dkwX3_signHere_3 : List UInt8 := [16, 247, 172, 3, 172]
abbrev dktX3_signHere_3 : List UInt8 := dkwX3_signHere_3 ++ []
def dkwX3_signHere_2 : List UInt8 := [2, 172, 16, 254, 172, 16, 253, 172, 16, 252, 172, 16, 251, 172, 16, 250, 172, 16, 249, 172, 16, 248, 172]
abbrev dktX3_signHere_2 : List UInt8 := dkwX3_signHere_2 ++ dktX3_signHere_3
def dkwX3_signHere_1 : List UInt8 := [171, 0, 0, 0, 0, 108, 0, 0, 0, 9, 0, 0, 0, 38, 0, 0, 0, 84, 0, 0, 0, 42, 0, 0, 0, 102, 0, 0, 0, 43, 0, 0, 0, 96, 0, 0, 0, 45, 0, 0, 0, 99, 0, 0, 0, 47, 0, 0, 0, 105, 0, 0, 0, 60, 0, 0, 0, 87, 0, 0, 0, 61, 0, 0, 0, 90, 0, 0, 0, 62, 0, 0, 0, 93, 0, 0, 0, 124, 0, 0, 0, 82]
abbrev dktX3_signHere_1 : List UInt8 := dkwX3_signHere_1 ++ dktX3_signHere_2
def dkwX3_signHere_0 : List UInt8 := [42, 180, 0, 216, 6, 159, 0, 5, 3, 172, 42, 180, 0, 222]
abbrev dktX3_signHere_0 : List UInt8 := dkwX3_signHere_0 ++ dktX3_signHere_1
theorem dksX3_signHere_0 : cX3_signHere.data.toList.drop 0 = dktX3_signHere_0 := by decide +kernel
theorem dksX3_signHere_1 : cX3_signHere.data.toList.drop 14 = dktX3_signHere_1 := dk_seg dksX3_signHere_0 14 rfl rfl
theorem dksX3_signHere_2 : cX3_signHere.data.toList.drop 96 = dktX3_signHere_2 := dk_seg dksX3_signHere_1 82 rfl rfl
theorem dksX3_signHere_3 : cX3_signHere.data.toList.drop 119 = dktX3_signHere_3 := dk_seg dksX3_signHere_2 23 rfl rfl
theorem dX3_signHere_0 : decode cX3_signHere 0 = .ok (.aload_n 0, 1) := dk_42 (dk_at dksX3_signHere_0 0 rfl rfl)
theorem dX3_signHere_1 : decode cX3_signHere 1 = .ok (.getfield 216, 3) := dk_180 0 216 (dk_at dksX3_signHere_0 1 rfl rfl)
theorem dX3_signHere_4 : decode cX3_signHere 4 = .ok (.iconst 3, 1) := dk_6 (dk_at dksX3_signHere_0 4 rfl rfl)
theorem dX3_signHere_5 : decode cX3_signHere 5 = .ok (.if_icmp .eq 5, 3) := dk_159 0 5 (dk_at dksX3_signHere_0 5 rfl rfl)
theorem dX3_signHere_8 : decode cX3_signHere 8 = .ok (.iconst 0, 1) := dk_3 (dk_at dksX3_signHere_0 8 rfl rfl)
theorem dX3_signHere_9 : decode cX3_signHere 9 = .ok (.ireturn, 1) := dk_172 (dk_at dksX3_signHere_0 9 rfl rfl)
theorem dX3_signHere_10 : decode cX3_signHere 10 = .ok (.aload_n 0, 1) := dk_42 (dk_at dksX3_signHere_0 10 rfl rfl)
theorem dX3_signHere_11 : decode cX3_signHere 11 = .ok (.getfield 222, 3) := dk_180 0 222 (dk_at dksX3_signHere_0 11 rfl rfl)
theorem dX3_signHere_14 : decode cX3_signHere 14 = .ok (.lookupswitch 108 #[(38, 84), (42, 102), (43, 96), (45, 99), (47, 105), (60, 87), (61, 90), (62, 93), (124, 82)], 82) := by decide +kernel
theorem dX3_signHere_96 : decode cX3_signHere 96 = .ok (.iconst (-1), 1) := dk_2 (dk_at dksX3_signHere_2 0 rfl rfl)
theorem dX3_signHere_97 : decode cX3_signHere 97 = .ok (.ireturn, 1) := dk_172 (dk_at dksX3_signHere_2 1 rfl rfl)
theorem dX3_signHere_98 : decode cX3_signHere 98 = .ok (.bipush (-2), 2) := dk_16 254 (dk_at dksX3_signHere_2 2 rfl rfl)
theorem dX3_signHere_100 : decode cX3_signHere 100 = .ok (.ireturn, 1) := dk_172 (dk_at dksX3_signHere_2 4 rfl rfl)
theorem dX3_signHere_101 : decode cX3_signHere 101 = .ok (.bipush (-3), 2) := dk_16 253 (dk_at dksX3_signHere_2 5 rfl rfl)
theorem dX3_signHere_103 : decode cX3_signHere 103 = .ok (.ireturn, 1) := dk_172 (dk_at dksX3_signHere_2 7 rfl rfl)
theorem dX3_signHere_104 : decode cX3_signHere 104 = .ok (.bipush (-4), 2) := dk_16 252 (dk_at dksX3_signHere_2 8 rfl rfl)
theorem dX3_signHere_106 : decode cX3_signHere 106 = .ok (.ireturn, 1) := dk_172 (dk_at dksX3_signHere_2 10 rfl rfl)
theorem dX3_signHere_107 : decode cX3_signHere 107 = .ok (.bipush (-5), 2) := dk_16 251 (dk_at dksX3_signHere_2 11 rfl rfl)
theorem dX3_signHere_109 : decode cX3_signHere 109 = .ok (.ireturn, 1) := dk_172 (dk_at dksX3_signHere_2 13 rfl rfl)
theorem dX3_signHere_110 : decode cX3_signHere 110 = .ok (.bipush (-6), 2) := dk_16 250 (dk_at dksX3_signHere_2 14 rfl rfl)
theorem dX3_signHere_112 : decode cX3_signHere 112 = .ok (.ireturn, 1) := dk_172 (dk_at dksX3_signHere_2 16 rfl rfl)
theorem dX3_signHere_113 : decode cX3_signHere 113 = .ok (.bipush (-7), 2) := dk_16 249 (dk_at dksX3_signHere_2 17 rfl rfl)
theorem dX3_signHere_115 : decode cX3_signHere 115 = .ok (.ireturn, 1) := dk_172 (dk_at dksX3_signHere_2 19 rfl rfl)
theorem dX3_signHere_116 : decode cX3_signHere 116 = .ok (.bipush (-8), 2) := dk_16 248 (dk_at dksX3_signHere_2 20 rfl rfl)
theorem dX3_signHere_118 : decode cX3_signHere 118 = .ok (.ireturn, 1) := dk_172 (dk_at dksX3_signHere_2 22 rfl rfl)
theorem dX3_signHere_119 : decode cX3_signHere 119 = .ok (.bipush (-9), 2) := dk_16 247 (dk_at dksX3_signHere_3 0 rfl rfl)
theorem dX3_signHere_121 : decode cX3_signHere 121 = .ok (.ireturn, 1) := dk_172 (dk_at dksX3_signHere_3 2 rfl rfl)
theorem dX3_signHere_122 : decode cX3_signHere 122 = .ok (.iconst 0, 1) := dk_3 (dk_at dksX3_signHere_3 3 rfl rfl)
theorem dX3_signHere_123 : decode cX3_signHere 123 = .ok (.ireturn, 1) := dk_172 (dk_at dksX3_signHere_3 4 rfl rfl)
abbrev cX3_textTold : ByteArray := prog_22_method_73_code
def yX3_textTold : MethodName := ⟨RX3, "textTold", "(II)I"⟩
def dkwX3_textTold_2 : List UInt8 := [108, 167, 0, 16, 42, 180, 0, 9, 16, 107, 5, 27, 104, 96, 4, 96, 46, 172]
abbrev dktX3_textTold_2 : List UInt8 := dkwX3_textTold_2 ++ []
def dkwX3_textTold_1 : List UInt8 := [154, 0, 6, 18, 86, 172, 28, 154, 0, 21, 42, 180, 0, 9, 16, 107, 5, 27, 104, 96, 46, 17, 3, 232]
abbrev dktX3_textTold_1 : List UInt8 := dkwX3_textTold_1 ++ dktX3_textTold_2
def dkwX3_textTold_0 : List UInt8 := [27, 3, 42, 180, 0, 9, 16, 6, 46, 4, 100, 184, 0, 82, 153, 0, 12, 28, 3, 4, 184, 0, 82]
abbrev dktX3_textTold_0 : List UInt8 := dkwX3_textTold_0 ++ dktX3_textTold_1
theorem dksX3_textTold_0 : cX3_textTold.data.toList.drop 0 = dktX3_textTold_0 := by decide +kernel
theorem dksX3_textTold_1 : cX3_textTold.data.toList.drop 23 = dktX3_textTold_1 := dk_seg dksX3_textTold_0 23 rfl rfl
theorem dksX3_textTold_2 : cX3_textTold.data.toList.drop 47 = dktX3_textTold_2 := dk_seg dksX3_textTold_1 24 rfl rfl
theorem dX3_textTold_0 : decode cX3_textTold 0 = .ok (.iload_n 1, 1) := dk_27 (dk_at dksX3_textTold_0 0 rfl rfl)
theorem dX3_textTold_1 : decode cX3_textTold 1 = .ok (.iconst 0, 1) := dk_3 (dk_at dksX3_textTold_0 1 rfl rfl)
theorem dX3_textTold_2 : decode cX3_textTold 2 = .ok (.aload_n 0, 1) := dk_42 (dk_at dksX3_textTold_0 2 rfl rfl)
theorem dX3_textTold_3 : decode cX3_textTold 3 = .ok (.getfield 9, 3) := dk_180 0 9 (dk_at dksX3_textTold_0 3 rfl rfl)
theorem dX3_textTold_6 : decode cX3_textTold 6 = .ok (.bipush 6, 2) := dk_16 6 (dk_at dksX3_textTold_0 6 rfl rfl)
theorem dX3_textTold_8 : decode cX3_textTold 8 = .ok (.iaload, 1) := dk_46 (dk_at dksX3_textTold_0 8 rfl rfl)
theorem dX3_textTold_9 : decode cX3_textTold 9 = .ok (.iconst 1, 1) := dk_4 (dk_at dksX3_textTold_0 9 rfl rfl)
theorem dX3_textTold_10 : decode cX3_textTold 10 = .ok (.isub, 1) := dk_100 (dk_at dksX3_textTold_0 10 rfl rfl)
theorem dX3_textTold_11 : decode cX3_textTold 11 = .ok (.invokestatic 82, 3) := dk_184 0 82 (dk_at dksX3_textTold_0 11 rfl rfl)
theorem dX3_textTold_14 : decode cX3_textTold 14 = .ok (.ifCond .eq 12, 3) := dk_153 0 12 (dk_at dksX3_textTold_0 14 rfl rfl)
theorem dX3_textTold_17 : decode cX3_textTold 17 = .ok (.iload_n 2, 1) := dk_28 (dk_at dksX3_textTold_0 17 rfl rfl)
theorem dX3_textTold_18 : decode cX3_textTold 18 = .ok (.iconst 0, 1) := dk_3 (dk_at dksX3_textTold_0 18 rfl rfl)
theorem dX3_textTold_19 : decode cX3_textTold 19 = .ok (.iconst 1, 1) := dk_4 (dk_at dksX3_textTold_0 19 rfl rfl)
theorem dX3_textTold_20 : decode cX3_textTold 20 = .ok (.invokestatic 82, 3) := dk_184 0 82 (dk_at dksX3_textTold_0 20 rfl rfl)
theorem dX3_textTold_23 : decode cX3_textTold 23 = .ok (.ifCond .ne 6, 3) := dk_154 0 6 (dk_at dksX3_textTold_1 0 rfl rfl)
theorem dX3_textTold_26 : decode cX3_textTold 26 = .ok (.ldc 86, 2) := dk_18 86 (dk_at dksX3_textTold_1 3 rfl rfl)
theorem dX3_textTold_28 : decode cX3_textTold 28 = .ok (.ireturn, 1) := dk_172 (dk_at dksX3_textTold_1 5 rfl rfl)
theorem dX3_textTold_29 : decode cX3_textTold 29 = .ok (.iload_n 2, 1) := dk_28 (dk_at dksX3_textTold_1 6 rfl rfl)
theorem dX3_textTold_30 : decode cX3_textTold 30 = .ok (.ifCond .ne 21, 3) := dk_154 0 21 (dk_at dksX3_textTold_1 7 rfl rfl)
theorem dX3_textTold_33 : decode cX3_textTold 33 = .ok (.aload_n 0, 1) := dk_42 (dk_at dksX3_textTold_1 10 rfl rfl)
theorem dX3_textTold_34 : decode cX3_textTold 34 = .ok (.getfield 9, 3) := dk_180 0 9 (dk_at dksX3_textTold_1 11 rfl rfl)
theorem dX3_textTold_37 : decode cX3_textTold 37 = .ok (.bipush 107, 2) := dk_16 107 (dk_at dksX3_textTold_1 14 rfl rfl)
theorem dX3_textTold_39 : decode cX3_textTold 39 = .ok (.iconst 2, 1) := dk_5 (dk_at dksX3_textTold_1 16 rfl rfl)
theorem dX3_textTold_40 : decode cX3_textTold 40 = .ok (.iload_n 1, 1) := dk_27 (dk_at dksX3_textTold_1 17 rfl rfl)
theorem dX3_textTold_41 : decode cX3_textTold 41 = .ok (.imul, 1) := dk_104 (dk_at dksX3_textTold_1 18 rfl rfl)
theorem dX3_textTold_42 : decode cX3_textTold 42 = .ok (.iadd, 1) := dk_96 (dk_at dksX3_textTold_1 19 rfl rfl)
theorem dX3_textTold_43 : decode cX3_textTold 43 = .ok (.iaload, 1) := dk_46 (dk_at dksX3_textTold_1 20 rfl rfl)
theorem dX3_textTold_44 : decode cX3_textTold 44 = .ok (.sipush 1000, 3) := dk_17 3 232 (dk_at dksX3_textTold_1 21 rfl rfl)
theorem dX3_textTold_47 : decode cX3_textTold 47 = .ok (.idiv, 1) := dk_108 (dk_at dksX3_textTold_2 0 rfl rfl)
theorem dX3_textTold_48 : decode cX3_textTold 48 = .ok (.goto 16, 3) := dk_167 0 16 (dk_at dksX3_textTold_2 1 rfl rfl)
theorem dX3_textTold_51 : decode cX3_textTold 51 = .ok (.aload_n 0, 1) := dk_42 (dk_at dksX3_textTold_2 4 rfl rfl)
theorem dX3_textTold_52 : decode cX3_textTold 52 = .ok (.getfield 9, 3) := dk_180 0 9 (dk_at dksX3_textTold_2 5 rfl rfl)
theorem dX3_textTold_55 : decode cX3_textTold 55 = .ok (.bipush 107, 2) := dk_16 107 (dk_at dksX3_textTold_2 8 rfl rfl)
theorem dX3_textTold_57 : decode cX3_textTold 57 = .ok (.iconst 2, 1) := dk_5 (dk_at dksX3_textTold_2 10 rfl rfl)
theorem dX3_textTold_58 : decode cX3_textTold 58 = .ok (.iload_n 1, 1) := dk_27 (dk_at dksX3_textTold_2 11 rfl rfl)
theorem dX3_textTold_59 : decode cX3_textTold 59 = .ok (.imul, 1) := dk_104 (dk_at dksX3_textTold_2 12 rfl rfl)
theorem dX3_textTold_60 : decode cX3_textTold 60 = .ok (.iadd, 1) := dk_96 (dk_at dksX3_textTold_2 13 rfl rfl)
theorem dX3_textTold_61 : decode cX3_textTold 61 = .ok (.iconst 1, 1) := dk_4 (dk_at dksX3_textTold_2 14 rfl rfl)
theorem dX3_textTold_62 : decode cX3_textTold 62 = .ok (.iadd, 1) := dk_96 (dk_at dksX3_textTold_2 15 rfl rfl)
theorem dX3_textTold_63 : decode cX3_textTold 63 = .ok (.iaload, 1) := dk_46 (dk_at dksX3_textTold_2 16 rfl rfl)
theorem dX3_textTold_64 : decode cX3_textTold 64 = .ok (.ireturn, 1) := dk_172 (dk_at dksX3_textTold_2 17 rfl rfl)
abbrev cX3_why : ByteArray := prog_22_method_75_code
def yX3_why : MethodName := ⟨RX3, "why", "(I)I"⟩
def dkwX3_why_1 : List UInt8 := [167, 0, 4, 28, 172]
abbrev dktX3_why_1 : List UInt8 := dkwX3_why_1 ++ []
def dkwX3_why_0 : List UInt8 := [27, 3, 5, 184, 0, 82, 154, 0, 6, 18, 86, 172, 42, 27, 182, 0, 100, 61, 28, 156, 0, 8, 18, 81]
abbrev dktX3_why_0 : List UInt8 := dkwX3_why_0 ++ dktX3_why_1
theorem dksX3_why_0 : cX3_why.data.toList.drop 0 = dktX3_why_0 := by decide +kernel
theorem dksX3_why_1 : cX3_why.data.toList.drop 24 = dktX3_why_1 := dk_seg dksX3_why_0 24 rfl rfl
theorem dX3_why_0 : decode cX3_why 0 = .ok (.iload_n 1, 1) := dk_27 (dk_at dksX3_why_0 0 rfl rfl)
theorem dX3_why_1 : decode cX3_why 1 = .ok (.iconst 0, 1) := dk_3 (dk_at dksX3_why_0 1 rfl rfl)
theorem dX3_why_2 : decode cX3_why 2 = .ok (.iconst 2, 1) := dk_5 (dk_at dksX3_why_0 2 rfl rfl)
theorem dX3_why_3 : decode cX3_why 3 = .ok (.invokestatic 82, 3) := dk_184 0 82 (dk_at dksX3_why_0 3 rfl rfl)
theorem dX3_why_6 : decode cX3_why 6 = .ok (.ifCond .ne 6, 3) := dk_154 0 6 (dk_at dksX3_why_0 6 rfl rfl)
theorem dX3_why_9 : decode cX3_why 9 = .ok (.ldc 86, 2) := dk_18 86 (dk_at dksX3_why_0 9 rfl rfl)
theorem dX3_why_11 : decode cX3_why 11 = .ok (.ireturn, 1) := dk_172 (dk_at dksX3_why_0 11 rfl rfl)
theorem dX3_why_12 : decode cX3_why 12 = .ok (.aload_n 0, 1) := dk_42 (dk_at dksX3_why_0 12 rfl rfl)
theorem dX3_why_13 : decode cX3_why 13 = .ok (.iload_n 1, 1) := dk_27 (dk_at dksX3_why_0 13 rfl rfl)
theorem dX3_why_14 : decode cX3_why 14 = .ok (.invokevirtual 100, 3) := dk_182 0 100 (dk_at dksX3_why_0 14 rfl rfl)
theorem dX3_why_17 : decode cX3_why 17 = .ok (.istore_n 2, 1) := dk_61 (dk_at dksX3_why_0 17 rfl rfl)
theorem dX3_why_18 : decode cX3_why 18 = .ok (.iload_n 2, 1) := dk_28 (dk_at dksX3_why_0 18 rfl rfl)
theorem dX3_why_19 : decode cX3_why 19 = .ok (.ifCond .ge 8, 3) := dk_156 0 8 (dk_at dksX3_why_0 19 rfl rfl)
theorem dX3_why_22 : decode cX3_why 22 = .ok (.ldc 81, 2) := dk_18 81 (dk_at dksX3_why_0 22 rfl rfl)
theorem dX3_why_24 : decode cX3_why 24 = .ok (.goto 4, 3) := dk_167 0 4 (dk_at dksX3_why_1 0 rfl rfl)
theorem dX3_why_27 : decode cX3_why 27 = .ok (.iload_n 2, 1) := dk_28 (dk_at dksX3_why_1 3 rfl rfl)
theorem dX3_why_28 : decode cX3_why 28 = .ok (.ireturn, 1) := dk_172 (dk_at dksX3_why_1 4 rfl rfl)
abbrev cX3_sheet : ByteArray := prog_22_method_80_code
def yX3_sheet : MethodName := ⟨RX3, "sheet", "(III)I"⟩
def dkwX3_sheet_4 : List UInt8 := [180, 0, 57, 27, 46, 172]
abbrev dktX3_sheet_4 : List UInt8 := dkwX3_sheet_4 ++ []
def dkwX3_sheet_3 : List UInt8 := [162, 0, 22, 42, 180, 0, 60, 16, 24, 27, 104, 21, 4, 96, 3, 79, 132, 4, 1, 167, 255, 233, 42]
abbrev dktX3_sheet_3 : List UInt8 := dkwX3_sheet_3 ++ dktX3_sheet_4
def dkwX3_sheet_2 : List UInt8 := [79, 42, 180, 0, 57, 27, 28, 156, 0, 7, 3, 167, 0, 4, 29, 79, 3, 54, 4, 21, 4, 16, 24]
abbrev dktX3_sheet_2 : List UInt8 := dkwX3_sheet_2 ++ dktX3_sheet_3
def dkwX3_sheet_1 : List UInt8 := [164, 0, 6, 18, 86, 172, 28, 155, 0, 11, 29, 156, 0, 7, 19, 1, 15, 172, 42, 180, 0, 54, 27, 28]
abbrev dktX3_sheet_1 : List UInt8 := dkwX3_sheet_1 ++ dktX3_sheet_2
def dkwX3_sheet_0 : List UInt8 := [27, 184, 0, 192, 153, 0, 22, 28, 2, 4, 184, 0, 82, 153, 0, 13, 28, 155, 0, 12, 29, 16, 24]
abbrev dktX3_sheet_0 : List UInt8 := dkwX3_sheet_0 ++ dktX3_sheet_1
theorem dksX3_sheet_0 : cX3_sheet.data.toList.drop 0 = dktX3_sheet_0 := by decide +kernel
theorem dksX3_sheet_1 : cX3_sheet.data.toList.drop 23 = dktX3_sheet_1 := dk_seg dksX3_sheet_0 23 rfl rfl
theorem dksX3_sheet_2 : cX3_sheet.data.toList.drop 47 = dktX3_sheet_2 := dk_seg dksX3_sheet_1 24 rfl rfl
theorem dksX3_sheet_3 : cX3_sheet.data.toList.drop 70 = dktX3_sheet_3 := dk_seg dksX3_sheet_2 23 rfl rfl
theorem dksX3_sheet_4 : cX3_sheet.data.toList.drop 93 = dktX3_sheet_4 := dk_seg dksX3_sheet_3 23 rfl rfl
theorem dX3_sheet_0 : decode cX3_sheet 0 = .ok (.iload_n 1, 1) := dk_27 (dk_at dksX3_sheet_0 0 rfl rfl)
theorem dX3_sheet_1 : decode cX3_sheet 1 = .ok (.invokestatic 192, 3) := dk_184 0 192 (dk_at dksX3_sheet_0 1 rfl rfl)
theorem dX3_sheet_4 : decode cX3_sheet 4 = .ok (.ifCond .eq 22, 3) := dk_153 0 22 (dk_at dksX3_sheet_0 4 rfl rfl)
theorem dX3_sheet_7 : decode cX3_sheet 7 = .ok (.iload_n 2, 1) := dk_28 (dk_at dksX3_sheet_0 7 rfl rfl)
theorem dX3_sheet_8 : decode cX3_sheet 8 = .ok (.iconst (-1), 1) := dk_2 (dk_at dksX3_sheet_0 8 rfl rfl)
theorem dX3_sheet_9 : decode cX3_sheet 9 = .ok (.iconst 1, 1) := dk_4 (dk_at dksX3_sheet_0 9 rfl rfl)
theorem dX3_sheet_10 : decode cX3_sheet 10 = .ok (.invokestatic 82, 3) := dk_184 0 82 (dk_at dksX3_sheet_0 10 rfl rfl)
theorem dX3_sheet_13 : decode cX3_sheet 13 = .ok (.ifCond .eq 13, 3) := dk_153 0 13 (dk_at dksX3_sheet_0 13 rfl rfl)
theorem dX3_sheet_16 : decode cX3_sheet 16 = .ok (.iload_n 2, 1) := dk_28 (dk_at dksX3_sheet_0 16 rfl rfl)
theorem dX3_sheet_17 : decode cX3_sheet 17 = .ok (.ifCond .lt 12, 3) := dk_155 0 12 (dk_at dksX3_sheet_0 17 rfl rfl)
theorem dX3_sheet_20 : decode cX3_sheet 20 = .ok (.iload_n 3, 1) := dk_29 (dk_at dksX3_sheet_0 20 rfl rfl)
theorem dX3_sheet_21 : decode cX3_sheet 21 = .ok (.bipush 24, 2) := dk_16 24 (dk_at dksX3_sheet_0 21 rfl rfl)
theorem dX3_sheet_23 : decode cX3_sheet 23 = .ok (.if_icmp .le 6, 3) := dk_164 0 6 (dk_at dksX3_sheet_1 0 rfl rfl)
theorem dX3_sheet_26 : decode cX3_sheet 26 = .ok (.ldc 86, 2) := dk_18 86 (dk_at dksX3_sheet_1 3 rfl rfl)
theorem dX3_sheet_28 : decode cX3_sheet 28 = .ok (.ireturn, 1) := dk_172 (dk_at dksX3_sheet_1 5 rfl rfl)
theorem dX3_sheet_29 : decode cX3_sheet 29 = .ok (.iload_n 2, 1) := dk_28 (dk_at dksX3_sheet_1 6 rfl rfl)
theorem dX3_sheet_30 : decode cX3_sheet 30 = .ok (.ifCond .lt 11, 3) := dk_155 0 11 (dk_at dksX3_sheet_1 7 rfl rfl)
theorem dX3_sheet_33 : decode cX3_sheet 33 = .ok (.iload_n 3, 1) := dk_29 (dk_at dksX3_sheet_1 10 rfl rfl)
theorem dX3_sheet_34 : decode cX3_sheet 34 = .ok (.ifCond .ge 7, 3) := dk_156 0 7 (dk_at dksX3_sheet_1 11 rfl rfl)
theorem dX3_sheet_37 : decode cX3_sheet 37 = .ok (.ldc_w 271, 3) := dk_19 1 15 (dk_at dksX3_sheet_1 14 rfl rfl)
theorem dX3_sheet_40 : decode cX3_sheet 40 = .ok (.ireturn, 1) := dk_172 (dk_at dksX3_sheet_1 17 rfl rfl)
theorem dX3_sheet_41 : decode cX3_sheet 41 = .ok (.aload_n 0, 1) := dk_42 (dk_at dksX3_sheet_1 18 rfl rfl)
theorem dX3_sheet_42 : decode cX3_sheet 42 = .ok (.getfield 54, 3) := dk_180 0 54 (dk_at dksX3_sheet_1 19 rfl rfl)
theorem dX3_sheet_45 : decode cX3_sheet 45 = .ok (.iload_n 1, 1) := dk_27 (dk_at dksX3_sheet_1 22 rfl rfl)
theorem dX3_sheet_46 : decode cX3_sheet 46 = .ok (.iload_n 2, 1) := dk_28 (dk_at dksX3_sheet_1 23 rfl rfl)
theorem dX3_sheet_47 : decode cX3_sheet 47 = .ok (.iastore, 1) := dk_79 (dk_at dksX3_sheet_2 0 rfl rfl)
theorem dX3_sheet_48 : decode cX3_sheet 48 = .ok (.aload_n 0, 1) := dk_42 (dk_at dksX3_sheet_2 1 rfl rfl)
theorem dX3_sheet_49 : decode cX3_sheet 49 = .ok (.getfield 57, 3) := dk_180 0 57 (dk_at dksX3_sheet_2 2 rfl rfl)
theorem dX3_sheet_52 : decode cX3_sheet 52 = .ok (.iload_n 1, 1) := dk_27 (dk_at dksX3_sheet_2 5 rfl rfl)
theorem dX3_sheet_53 : decode cX3_sheet 53 = .ok (.iload_n 2, 1) := dk_28 (dk_at dksX3_sheet_2 6 rfl rfl)
theorem dX3_sheet_54 : decode cX3_sheet 54 = .ok (.ifCond .ge 7, 3) := dk_156 0 7 (dk_at dksX3_sheet_2 7 rfl rfl)
theorem dX3_sheet_57 : decode cX3_sheet 57 = .ok (.iconst 0, 1) := dk_3 (dk_at dksX3_sheet_2 10 rfl rfl)
theorem dX3_sheet_58 : decode cX3_sheet 58 = .ok (.goto 4, 3) := dk_167 0 4 (dk_at dksX3_sheet_2 11 rfl rfl)
theorem dX3_sheet_61 : decode cX3_sheet 61 = .ok (.iload_n 3, 1) := dk_29 (dk_at dksX3_sheet_2 14 rfl rfl)
theorem dX3_sheet_62 : decode cX3_sheet 62 = .ok (.iastore, 1) := dk_79 (dk_at dksX3_sheet_2 15 rfl rfl)
theorem dX3_sheet_63 : decode cX3_sheet 63 = .ok (.iconst 0, 1) := dk_3 (dk_at dksX3_sheet_2 16 rfl rfl)
theorem dX3_sheet_64 : decode cX3_sheet 64 = .ok (.istore 4, 2) := dk_54 4 (dk_at dksX3_sheet_2 17 rfl rfl)
theorem dX3_sheet_66 : decode cX3_sheet 66 = .ok (.iload 4, 2) := dk_21 4 (dk_at dksX3_sheet_2 19 rfl rfl)
theorem dX3_sheet_68 : decode cX3_sheet 68 = .ok (.bipush 24, 2) := dk_16 24 (dk_at dksX3_sheet_2 21 rfl rfl)
theorem dX3_sheet_70 : decode cX3_sheet 70 = .ok (.if_icmp .ge 22, 3) := dk_162 0 22 (dk_at dksX3_sheet_3 0 rfl rfl)
theorem dX3_sheet_73 : decode cX3_sheet 73 = .ok (.aload_n 0, 1) := dk_42 (dk_at dksX3_sheet_3 3 rfl rfl)
theorem dX3_sheet_74 : decode cX3_sheet 74 = .ok (.getfield 60, 3) := dk_180 0 60 (dk_at dksX3_sheet_3 4 rfl rfl)
theorem dX3_sheet_77 : decode cX3_sheet 77 = .ok (.bipush 24, 2) := dk_16 24 (dk_at dksX3_sheet_3 7 rfl rfl)
theorem dX3_sheet_79 : decode cX3_sheet 79 = .ok (.iload_n 1, 1) := dk_27 (dk_at dksX3_sheet_3 9 rfl rfl)
theorem dX3_sheet_80 : decode cX3_sheet 80 = .ok (.imul, 1) := dk_104 (dk_at dksX3_sheet_3 10 rfl rfl)
theorem dX3_sheet_81 : decode cX3_sheet 81 = .ok (.iload 4, 2) := dk_21 4 (dk_at dksX3_sheet_3 11 rfl rfl)
theorem dX3_sheet_83 : decode cX3_sheet 83 = .ok (.iadd, 1) := dk_96 (dk_at dksX3_sheet_3 13 rfl rfl)
theorem dX3_sheet_84 : decode cX3_sheet 84 = .ok (.iconst 0, 1) := dk_3 (dk_at dksX3_sheet_3 14 rfl rfl)
theorem dX3_sheet_85 : decode cX3_sheet 85 = .ok (.iastore, 1) := dk_79 (dk_at dksX3_sheet_3 15 rfl rfl)
theorem dX3_sheet_86 : decode cX3_sheet 86 = .ok (.iinc 4 1, 3) := dk_132 4 1 (dk_at dksX3_sheet_3 16 rfl rfl)
theorem dX3_sheet_89 : decode cX3_sheet 89 = .ok (.goto (-23), 3) := dk_167 255 233 (dk_at dksX3_sheet_3 19 rfl rfl)
theorem dX3_sheet_92 : decode cX3_sheet 92 = .ok (.aload_n 0, 1) := dk_42 (dk_at dksX3_sheet_3 22 rfl rfl)
theorem dX3_sheet_93 : decode cX3_sheet 93 = .ok (.getfield 57, 3) := dk_180 0 57 (dk_at dksX3_sheet_4 0 rfl rfl)
theorem dX3_sheet_96 : decode cX3_sheet 96 = .ok (.iload_n 1, 1) := dk_27 (dk_at dksX3_sheet_4 3 rfl rfl)
theorem dX3_sheet_97 : decode cX3_sheet 97 = .ok (.iaload, 1) := dk_46 (dk_at dksX3_sheet_4 4 rfl rfl)
theorem dX3_sheet_98 : decode cX3_sheet 98 = .ok (.ireturn, 1) := dk_172 (dk_at dksX3_sheet_4 5 rfl rfl)
abbrev cX3_mark : ByteArray := prog_22_method_81_code
def yX3_mark : MethodName := ⟨RX3, "mark", "(III)I"⟩
def dkwX3_mark_5 : List UInt8 := [79, 4, 172]
abbrev dktX3_mark_5 : List UInt8 := dkwX3_mark_5 ++ []
def dkwX3_mark_4 : List UInt8 := [180, 0, 60, 16, 24, 27, 104, 28, 96, 42, 180, 0, 54, 27, 46, 154, 0, 8, 29, 147, 167, 0, 4, 29]
abbrev dktX3_mark_4 : List UInt8 := dkwX3_mark_4 ++ dktX3_mark_5
def dkwX3_mark_3 : List UInt8 := [18, 81, 159, 0, 19, 29, 19, 1, 17, 19, 1, 18, 184, 0, 82, 154, 0, 6, 18, 86, 172, 42]
abbrev dktX3_mark_3 : List UInt8 := dkwX3_mark_3 ++ dktX3_mark_4
def dkwX3_mark_2 : List UInt8 := [154, 0, 12, 29, 18, 81, 160, 0, 6, 18, 132, 172, 42, 180, 0, 54, 27, 46, 4, 160, 0, 25, 29]
abbrev dktX3_mark_2 : List UInt8 := dkwX3_mark_2 ++ dktX3_mark_3
def dkwX3_mark_1 : List UInt8 := [42, 180, 0, 57, 27, 46, 4, 100, 184, 0, 82, 154, 0, 7, 19, 1, 16, 172, 42, 180, 0, 54, 27, 46]
abbrev dktX3_mark_1 : List UInt8 := dkwX3_mark_1 ++ dktX3_mark_2
def dkwX3_mark_0 : List UInt8 := [27, 184, 0, 192, 154, 0, 6, 18, 86, 172, 42, 180, 0, 54, 27, 46, 156, 0, 6, 18, 195, 172, 28, 3]
abbrev dktX3_mark_0 : List UInt8 := dkwX3_mark_0 ++ dktX3_mark_1
theorem dksX3_mark_0 : cX3_mark.data.toList.drop 0 = dktX3_mark_0 := by decide +kernel
theorem dksX3_mark_1 : cX3_mark.data.toList.drop 24 = dktX3_mark_1 := dk_seg dksX3_mark_0 24 rfl rfl
theorem dksX3_mark_2 : cX3_mark.data.toList.drop 48 = dktX3_mark_2 := dk_seg dksX3_mark_1 24 rfl rfl
theorem dksX3_mark_3 : cX3_mark.data.toList.drop 71 = dktX3_mark_3 := dk_seg dksX3_mark_2 23 rfl rfl
theorem dksX3_mark_4 : cX3_mark.data.toList.drop 93 = dktX3_mark_4 := dk_seg dksX3_mark_3 22 rfl rfl
theorem dksX3_mark_5 : cX3_mark.data.toList.drop 117 = dktX3_mark_5 := dk_seg dksX3_mark_4 24 rfl rfl
theorem dX3_mark_0 : decode cX3_mark 0 = .ok (.iload_n 1, 1) := dk_27 (dk_at dksX3_mark_0 0 rfl rfl)
theorem dX3_mark_1 : decode cX3_mark 1 = .ok (.invokestatic 192, 3) := dk_184 0 192 (dk_at dksX3_mark_0 1 rfl rfl)
theorem dX3_mark_4 : decode cX3_mark 4 = .ok (.ifCond .ne 6, 3) := dk_154 0 6 (dk_at dksX3_mark_0 4 rfl rfl)
theorem dX3_mark_7 : decode cX3_mark 7 = .ok (.ldc 86, 2) := dk_18 86 (dk_at dksX3_mark_0 7 rfl rfl)
theorem dX3_mark_9 : decode cX3_mark 9 = .ok (.ireturn, 1) := dk_172 (dk_at dksX3_mark_0 9 rfl rfl)
theorem dX3_mark_10 : decode cX3_mark 10 = .ok (.aload_n 0, 1) := dk_42 (dk_at dksX3_mark_0 10 rfl rfl)
theorem dX3_mark_11 : decode cX3_mark 11 = .ok (.getfield 54, 3) := dk_180 0 54 (dk_at dksX3_mark_0 11 rfl rfl)
theorem dX3_mark_14 : decode cX3_mark 14 = .ok (.iload_n 1, 1) := dk_27 (dk_at dksX3_mark_0 14 rfl rfl)
theorem dX3_mark_15 : decode cX3_mark 15 = .ok (.iaload, 1) := dk_46 (dk_at dksX3_mark_0 15 rfl rfl)
theorem dX3_mark_16 : decode cX3_mark 16 = .ok (.ifCond .ge 6, 3) := dk_156 0 6 (dk_at dksX3_mark_0 16 rfl rfl)
theorem dX3_mark_19 : decode cX3_mark 19 = .ok (.ldc 195, 2) := dk_18 195 (dk_at dksX3_mark_0 19 rfl rfl)
theorem dX3_mark_21 : decode cX3_mark 21 = .ok (.ireturn, 1) := dk_172 (dk_at dksX3_mark_0 21 rfl rfl)
theorem dX3_mark_22 : decode cX3_mark 22 = .ok (.iload_n 2, 1) := dk_28 (dk_at dksX3_mark_0 22 rfl rfl)
theorem dX3_mark_23 : decode cX3_mark 23 = .ok (.iconst 0, 1) := dk_3 (dk_at dksX3_mark_0 23 rfl rfl)
theorem dX3_mark_24 : decode cX3_mark 24 = .ok (.aload_n 0, 1) := dk_42 (dk_at dksX3_mark_1 0 rfl rfl)
theorem dX3_mark_25 : decode cX3_mark 25 = .ok (.getfield 57, 3) := dk_180 0 57 (dk_at dksX3_mark_1 1 rfl rfl)
theorem dX3_mark_28 : decode cX3_mark 28 = .ok (.iload_n 1, 1) := dk_27 (dk_at dksX3_mark_1 4 rfl rfl)
theorem dX3_mark_29 : decode cX3_mark 29 = .ok (.iaload, 1) := dk_46 (dk_at dksX3_mark_1 5 rfl rfl)
theorem dX3_mark_30 : decode cX3_mark 30 = .ok (.iconst 1, 1) := dk_4 (dk_at dksX3_mark_1 6 rfl rfl)
theorem dX3_mark_31 : decode cX3_mark 31 = .ok (.isub, 1) := dk_100 (dk_at dksX3_mark_1 7 rfl rfl)
theorem dX3_mark_32 : decode cX3_mark 32 = .ok (.invokestatic 82, 3) := dk_184 0 82 (dk_at dksX3_mark_1 8 rfl rfl)
theorem dX3_mark_35 : decode cX3_mark 35 = .ok (.ifCond .ne 7, 3) := dk_154 0 7 (dk_at dksX3_mark_1 11 rfl rfl)
theorem dX3_mark_38 : decode cX3_mark 38 = .ok (.ldc_w 272, 3) := dk_19 1 16 (dk_at dksX3_mark_1 14 rfl rfl)
theorem dX3_mark_41 : decode cX3_mark 41 = .ok (.ireturn, 1) := dk_172 (dk_at dksX3_mark_1 17 rfl rfl)
theorem dX3_mark_42 : decode cX3_mark 42 = .ok (.aload_n 0, 1) := dk_42 (dk_at dksX3_mark_1 18 rfl rfl)
theorem dX3_mark_43 : decode cX3_mark 43 = .ok (.getfield 54, 3) := dk_180 0 54 (dk_at dksX3_mark_1 19 rfl rfl)
theorem dX3_mark_46 : decode cX3_mark 46 = .ok (.iload_n 1, 1) := dk_27 (dk_at dksX3_mark_1 22 rfl rfl)
theorem dX3_mark_47 : decode cX3_mark 47 = .ok (.iaload, 1) := dk_46 (dk_at dksX3_mark_1 23 rfl rfl)
theorem dX3_mark_48 : decode cX3_mark 48 = .ok (.ifCond .ne 12, 3) := dk_154 0 12 (dk_at dksX3_mark_2 0 rfl rfl)
theorem dX3_mark_51 : decode cX3_mark 51 = .ok (.iload_n 3, 1) := dk_29 (dk_at dksX3_mark_2 3 rfl rfl)
theorem dX3_mark_52 : decode cX3_mark 52 = .ok (.ldc 81, 2) := dk_18 81 (dk_at dksX3_mark_2 4 rfl rfl)
theorem dX3_mark_54 : decode cX3_mark 54 = .ok (.if_icmp .ne 6, 3) := dk_160 0 6 (dk_at dksX3_mark_2 6 rfl rfl)
theorem dX3_mark_57 : decode cX3_mark 57 = .ok (.ldc 132, 2) := dk_18 132 (dk_at dksX3_mark_2 9 rfl rfl)
theorem dX3_mark_59 : decode cX3_mark 59 = .ok (.ireturn, 1) := dk_172 (dk_at dksX3_mark_2 11 rfl rfl)
theorem dX3_mark_60 : decode cX3_mark 60 = .ok (.aload_n 0, 1) := dk_42 (dk_at dksX3_mark_2 12 rfl rfl)
theorem dX3_mark_61 : decode cX3_mark 61 = .ok (.getfield 54, 3) := dk_180 0 54 (dk_at dksX3_mark_2 13 rfl rfl)
theorem dX3_mark_64 : decode cX3_mark 64 = .ok (.iload_n 1, 1) := dk_27 (dk_at dksX3_mark_2 16 rfl rfl)
theorem dX3_mark_65 : decode cX3_mark 65 = .ok (.iaload, 1) := dk_46 (dk_at dksX3_mark_2 17 rfl rfl)
theorem dX3_mark_66 : decode cX3_mark 66 = .ok (.iconst 1, 1) := dk_4 (dk_at dksX3_mark_2 18 rfl rfl)
theorem dX3_mark_67 : decode cX3_mark 67 = .ok (.if_icmp .ne 25, 3) := dk_160 0 25 (dk_at dksX3_mark_2 19 rfl rfl)
theorem dX3_mark_70 : decode cX3_mark 70 = .ok (.iload_n 3, 1) := dk_29 (dk_at dksX3_mark_2 22 rfl rfl)
theorem dX3_mark_71 : decode cX3_mark 71 = .ok (.ldc 81, 2) := dk_18 81 (dk_at dksX3_mark_3 0 rfl rfl)
theorem dX3_mark_73 : decode cX3_mark 73 = .ok (.if_icmp .eq 19, 3) := dk_159 0 19 (dk_at dksX3_mark_3 2 rfl rfl)
theorem dX3_mark_76 : decode cX3_mark 76 = .ok (.iload_n 3, 1) := dk_29 (dk_at dksX3_mark_3 5 rfl rfl)
theorem dX3_mark_77 : decode cX3_mark 77 = .ok (.ldc_w 273, 3) := dk_19 1 17 (dk_at dksX3_mark_3 6 rfl rfl)
theorem dX3_mark_80 : decode cX3_mark 80 = .ok (.ldc_w 274, 3) := dk_19 1 18 (dk_at dksX3_mark_3 9 rfl rfl)
theorem dX3_mark_83 : decode cX3_mark 83 = .ok (.invokestatic 82, 3) := dk_184 0 82 (dk_at dksX3_mark_3 12 rfl rfl)
theorem dX3_mark_86 : decode cX3_mark 86 = .ok (.ifCond .ne 6, 3) := dk_154 0 6 (dk_at dksX3_mark_3 15 rfl rfl)
theorem dX3_mark_89 : decode cX3_mark 89 = .ok (.ldc 86, 2) := dk_18 86 (dk_at dksX3_mark_3 18 rfl rfl)
theorem dX3_mark_91 : decode cX3_mark 91 = .ok (.ireturn, 1) := dk_172 (dk_at dksX3_mark_3 20 rfl rfl)
theorem dX3_mark_92 : decode cX3_mark 92 = .ok (.aload_n 0, 1) := dk_42 (dk_at dksX3_mark_3 21 rfl rfl)
theorem dX3_mark_93 : decode cX3_mark 93 = .ok (.getfield 60, 3) := dk_180 0 60 (dk_at dksX3_mark_4 0 rfl rfl)
theorem dX3_mark_96 : decode cX3_mark 96 = .ok (.bipush 24, 2) := dk_16 24 (dk_at dksX3_mark_4 3 rfl rfl)
theorem dX3_mark_98 : decode cX3_mark 98 = .ok (.iload_n 1, 1) := dk_27 (dk_at dksX3_mark_4 5 rfl rfl)
theorem dX3_mark_99 : decode cX3_mark 99 = .ok (.imul, 1) := dk_104 (dk_at dksX3_mark_4 6 rfl rfl)
theorem dX3_mark_100 : decode cX3_mark 100 = .ok (.iload_n 2, 1) := dk_28 (dk_at dksX3_mark_4 7 rfl rfl)
theorem dX3_mark_101 : decode cX3_mark 101 = .ok (.iadd, 1) := dk_96 (dk_at dksX3_mark_4 8 rfl rfl)
theorem dX3_mark_102 : decode cX3_mark 102 = .ok (.aload_n 0, 1) := dk_42 (dk_at dksX3_mark_4 9 rfl rfl)
theorem dX3_mark_103 : decode cX3_mark 103 = .ok (.getfield 54, 3) := dk_180 0 54 (dk_at dksX3_mark_4 10 rfl rfl)
theorem dX3_mark_106 : decode cX3_mark 106 = .ok (.iload_n 1, 1) := dk_27 (dk_at dksX3_mark_4 13 rfl rfl)
theorem dX3_mark_107 : decode cX3_mark 107 = .ok (.iaload, 1) := dk_46 (dk_at dksX3_mark_4 14 rfl rfl)
theorem dX3_mark_108 : decode cX3_mark 108 = .ok (.ifCond .ne 8, 3) := dk_154 0 8 (dk_at dksX3_mark_4 15 rfl rfl)
theorem dX3_mark_111 : decode cX3_mark 111 = .ok (.iload_n 3, 1) := dk_29 (dk_at dksX3_mark_4 18 rfl rfl)
theorem dX3_mark_112 : decode cX3_mark 112 = .ok (.i2s, 1) := dk_147 (dk_at dksX3_mark_4 19 rfl rfl)
theorem dX3_mark_113 : decode cX3_mark 113 = .ok (.goto 4, 3) := dk_167 0 4 (dk_at dksX3_mark_4 20 rfl rfl)
theorem dX3_mark_116 : decode cX3_mark 116 = .ok (.iload_n 3, 1) := dk_29 (dk_at dksX3_mark_4 23 rfl rfl)
theorem dX3_mark_117 : decode cX3_mark 117 = .ok (.iastore, 1) := dk_79 (dk_at dksX3_mark_5 0 rfl rfl)
theorem dX3_mark_118 : decode cX3_mark 118 = .ok (.iconst 1, 1) := dk_4 (dk_at dksX3_mark_5 1 rfl rfl)
theorem dX3_mark_119 : decode cX3_mark 119 = .ok (.ireturn, 1) := dk_172 (dk_at dksX3_mark_5 2 rfl rfl)
abbrev cX3_pour : ByteArray := prog_22_method_82_code
def yX3_pour : MethodName := ⟨RX3, "pour", "(I)I"⟩
def dkwX3_pour_5 : List UInt8 := [167, 255, 165, 28, 172]
abbrev dktX3_pour_5 : List UInt8 := dkwX3_pour_5 ++ []
def dkwX3_pour_4 : List UInt8 := [104, 96, 6, 96, 21, 5, 182, 0, 133, 21, 5, 160, 0, 7, 3, 167, 0, 4, 4, 96, 61, 132, 3, 1]
abbrev dktX3_pour_4 : List UInt8 := dkwX3_pour_4 ++ dktX3_pour_5
def dkwX3_pour_3 : List UInt8 := [182, 0, 92, 167, 0, 12, 21, 4, 3, 17, 3, 231, 184, 0, 103, 54, 5, 28, 42, 16, 7, 16, 6, 29]
abbrev dktX3_pour_3 : List UInt8 := dkwX3_pour_3 ++ dktX3_pour_4
def dkwX3_pour_2 : List UInt8 := [180, 0, 60, 16, 24, 27, 104, 29, 96, 46, 54, 4, 21, 4, 18, 81, 160, 0, 12, 42, 29, 6]
abbrev dktX3_pour_2 : List UInt8 := dkwX3_pour_2 ++ dktX3_pour_3
def dkwX3_pour_1 : List UInt8 := [3, 62, 29, 42, 180, 0, 57, 27, 46, 162, 0, 87, 29, 42, 180, 0, 9, 4, 46, 162, 0, 77, 42]
abbrev dktX3_pour_1 : List UInt8 := dkwX3_pour_1 ++ dktX3_pour_2
def dkwX3_pour_0 : List UInt8 := [27, 184, 0, 192, 154, 0, 6, 18, 86, 172, 42, 180, 0, 54, 27, 46, 156, 0, 6, 18, 195, 172, 3, 61]
abbrev dktX3_pour_0 : List UInt8 := dkwX3_pour_0 ++ dktX3_pour_1
theorem dksX3_pour_0 : cX3_pour.data.toList.drop 0 = dktX3_pour_0 := by decide +kernel
theorem dksX3_pour_1 : cX3_pour.data.toList.drop 24 = dktX3_pour_1 := dk_seg dksX3_pour_0 24 rfl rfl
theorem dksX3_pour_2 : cX3_pour.data.toList.drop 47 = dktX3_pour_2 := dk_seg dksX3_pour_1 23 rfl rfl
theorem dksX3_pour_3 : cX3_pour.data.toList.drop 69 = dktX3_pour_3 := dk_seg dksX3_pour_2 22 rfl rfl
theorem dksX3_pour_4 : cX3_pour.data.toList.drop 93 = dktX3_pour_4 := dk_seg dksX3_pour_3 24 rfl rfl
theorem dksX3_pour_5 : cX3_pour.data.toList.drop 117 = dktX3_pour_5 := dk_seg dksX3_pour_4 24 rfl rfl
theorem dX3_pour_0 : decode cX3_pour 0 = .ok (.iload_n 1, 1) := dk_27 (dk_at dksX3_pour_0 0 rfl rfl)
theorem dX3_pour_1 : decode cX3_pour 1 = .ok (.invokestatic 192, 3) := dk_184 0 192 (dk_at dksX3_pour_0 1 rfl rfl)
theorem dX3_pour_4 : decode cX3_pour 4 = .ok (.ifCond .ne 6, 3) := dk_154 0 6 (dk_at dksX3_pour_0 4 rfl rfl)
theorem dX3_pour_7 : decode cX3_pour 7 = .ok (.ldc 86, 2) := dk_18 86 (dk_at dksX3_pour_0 7 rfl rfl)
theorem dX3_pour_9 : decode cX3_pour 9 = .ok (.ireturn, 1) := dk_172 (dk_at dksX3_pour_0 9 rfl rfl)
theorem dX3_pour_10 : decode cX3_pour 10 = .ok (.aload_n 0, 1) := dk_42 (dk_at dksX3_pour_0 10 rfl rfl)
theorem dX3_pour_11 : decode cX3_pour 11 = .ok (.getfield 54, 3) := dk_180 0 54 (dk_at dksX3_pour_0 11 rfl rfl)
theorem dX3_pour_14 : decode cX3_pour 14 = .ok (.iload_n 1, 1) := dk_27 (dk_at dksX3_pour_0 14 rfl rfl)
theorem dX3_pour_15 : decode cX3_pour 15 = .ok (.iaload, 1) := dk_46 (dk_at dksX3_pour_0 15 rfl rfl)
theorem dX3_pour_16 : decode cX3_pour 16 = .ok (.ifCond .ge 6, 3) := dk_156 0 6 (dk_at dksX3_pour_0 16 rfl rfl)
theorem dX3_pour_19 : decode cX3_pour 19 = .ok (.ldc 195, 2) := dk_18 195 (dk_at dksX3_pour_0 19 rfl rfl)
theorem dX3_pour_21 : decode cX3_pour 21 = .ok (.ireturn, 1) := dk_172 (dk_at dksX3_pour_0 21 rfl rfl)
theorem dX3_pour_22 : decode cX3_pour 22 = .ok (.iconst 0, 1) := dk_3 (dk_at dksX3_pour_0 22 rfl rfl)
theorem dX3_pour_23 : decode cX3_pour 23 = .ok (.istore_n 2, 1) := dk_61 (dk_at dksX3_pour_0 23 rfl rfl)
theorem dX3_pour_24 : decode cX3_pour 24 = .ok (.iconst 0, 1) := dk_3 (dk_at dksX3_pour_1 0 rfl rfl)
theorem dX3_pour_25 : decode cX3_pour 25 = .ok (.istore_n 3, 1) := dk_62 (dk_at dksX3_pour_1 1 rfl rfl)
theorem dX3_pour_26 : decode cX3_pour 26 = .ok (.iload_n 3, 1) := dk_29 (dk_at dksX3_pour_1 2 rfl rfl)
theorem dX3_pour_27 : decode cX3_pour 27 = .ok (.aload_n 0, 1) := dk_42 (dk_at dksX3_pour_1 3 rfl rfl)
theorem dX3_pour_28 : decode cX3_pour 28 = .ok (.getfield 57, 3) := dk_180 0 57 (dk_at dksX3_pour_1 4 rfl rfl)
theorem dX3_pour_31 : decode cX3_pour 31 = .ok (.iload_n 1, 1) := dk_27 (dk_at dksX3_pour_1 7 rfl rfl)
theorem dX3_pour_32 : decode cX3_pour 32 = .ok (.iaload, 1) := dk_46 (dk_at dksX3_pour_1 8 rfl rfl)
theorem dX3_pour_33 : decode cX3_pour 33 = .ok (.if_icmp .ge 87, 3) := dk_162 0 87 (dk_at dksX3_pour_1 9 rfl rfl)
theorem dX3_pour_36 : decode cX3_pour 36 = .ok (.iload_n 3, 1) := dk_29 (dk_at dksX3_pour_1 12 rfl rfl)
theorem dX3_pour_37 : decode cX3_pour 37 = .ok (.aload_n 0, 1) := dk_42 (dk_at dksX3_pour_1 13 rfl rfl)
theorem dX3_pour_38 : decode cX3_pour 38 = .ok (.getfield 9, 3) := dk_180 0 9 (dk_at dksX3_pour_1 14 rfl rfl)
theorem dX3_pour_41 : decode cX3_pour 41 = .ok (.iconst 1, 1) := dk_4 (dk_at dksX3_pour_1 17 rfl rfl)
theorem dX3_pour_42 : decode cX3_pour 42 = .ok (.iaload, 1) := dk_46 (dk_at dksX3_pour_1 18 rfl rfl)
theorem dX3_pour_43 : decode cX3_pour 43 = .ok (.if_icmp .ge 77, 3) := dk_162 0 77 (dk_at dksX3_pour_1 19 rfl rfl)
theorem dX3_pour_46 : decode cX3_pour 46 = .ok (.aload_n 0, 1) := dk_42 (dk_at dksX3_pour_1 22 rfl rfl)
theorem dX3_pour_47 : decode cX3_pour 47 = .ok (.getfield 60, 3) := dk_180 0 60 (dk_at dksX3_pour_2 0 rfl rfl)
theorem dX3_pour_50 : decode cX3_pour 50 = .ok (.bipush 24, 2) := dk_16 24 (dk_at dksX3_pour_2 3 rfl rfl)
theorem dX3_pour_52 : decode cX3_pour 52 = .ok (.iload_n 1, 1) := dk_27 (dk_at dksX3_pour_2 5 rfl rfl)
theorem dX3_pour_53 : decode cX3_pour 53 = .ok (.imul, 1) := dk_104 (dk_at dksX3_pour_2 6 rfl rfl)
theorem dX3_pour_54 : decode cX3_pour 54 = .ok (.iload_n 3, 1) := dk_29 (dk_at dksX3_pour_2 7 rfl rfl)
theorem dX3_pour_55 : decode cX3_pour 55 = .ok (.iadd, 1) := dk_96 (dk_at dksX3_pour_2 8 rfl rfl)
theorem dX3_pour_56 : decode cX3_pour 56 = .ok (.iaload, 1) := dk_46 (dk_at dksX3_pour_2 9 rfl rfl)
theorem dX3_pour_57 : decode cX3_pour 57 = .ok (.istore 4, 2) := dk_54 4 (dk_at dksX3_pour_2 10 rfl rfl)
theorem dX3_pour_59 : decode cX3_pour 59 = .ok (.iload 4, 2) := dk_21 4 (dk_at dksX3_pour_2 12 rfl rfl)
theorem dX3_pour_61 : decode cX3_pour 61 = .ok (.ldc 81, 2) := dk_18 81 (dk_at dksX3_pour_2 14 rfl rfl)
theorem dX3_pour_63 : decode cX3_pour 63 = .ok (.if_icmp .ne 12, 3) := dk_160 0 12 (dk_at dksX3_pour_2 16 rfl rfl)
theorem dX3_pour_66 : decode cX3_pour 66 = .ok (.aload_n 0, 1) := dk_42 (dk_at dksX3_pour_2 19 rfl rfl)
theorem dX3_pour_67 : decode cX3_pour 67 = .ok (.iload_n 3, 1) := dk_29 (dk_at dksX3_pour_2 20 rfl rfl)
theorem dX3_pour_68 : decode cX3_pour 68 = .ok (.iconst 3, 1) := dk_6 (dk_at dksX3_pour_2 21 rfl rfl)
theorem dX3_pour_69 : decode cX3_pour 69 = .ok (.invokevirtual 92, 3) := dk_182 0 92 (dk_at dksX3_pour_3 0 rfl rfl)
theorem dX3_pour_72 : decode cX3_pour 72 = .ok (.goto 12, 3) := dk_167 0 12 (dk_at dksX3_pour_3 3 rfl rfl)
theorem dX3_pour_75 : decode cX3_pour 75 = .ok (.iload 4, 2) := dk_21 4 (dk_at dksX3_pour_3 6 rfl rfl)
theorem dX3_pour_77 : decode cX3_pour 77 = .ok (.iconst 0, 1) := dk_3 (dk_at dksX3_pour_3 8 rfl rfl)
theorem dX3_pour_78 : decode cX3_pour 78 = .ok (.sipush 999, 3) := dk_17 3 231 (dk_at dksX3_pour_3 9 rfl rfl)
theorem dX3_pour_81 : decode cX3_pour 81 = .ok (.invokestatic 103, 3) := dk_184 0 103 (dk_at dksX3_pour_3 12 rfl rfl)
theorem dX3_pour_84 : decode cX3_pour 84 = .ok (.istore 5, 2) := dk_54 5 (dk_at dksX3_pour_3 15 rfl rfl)
theorem dX3_pour_86 : decode cX3_pour 86 = .ok (.iload_n 2, 1) := dk_28 (dk_at dksX3_pour_3 17 rfl rfl)
theorem dX3_pour_87 : decode cX3_pour 87 = .ok (.aload_n 0, 1) := dk_42 (dk_at dksX3_pour_3 18 rfl rfl)
theorem dX3_pour_88 : decode cX3_pour 88 = .ok (.bipush 7, 2) := dk_16 7 (dk_at dksX3_pour_3 19 rfl rfl)
theorem dX3_pour_90 : decode cX3_pour 90 = .ok (.bipush 6, 2) := dk_16 6 (dk_at dksX3_pour_3 21 rfl rfl)
theorem dX3_pour_92 : decode cX3_pour 92 = .ok (.iload_n 3, 1) := dk_29 (dk_at dksX3_pour_3 23 rfl rfl)
theorem dX3_pour_93 : decode cX3_pour 93 = .ok (.imul, 1) := dk_104 (dk_at dksX3_pour_4 0 rfl rfl)
theorem dX3_pour_94 : decode cX3_pour 94 = .ok (.iadd, 1) := dk_96 (dk_at dksX3_pour_4 1 rfl rfl)
theorem dX3_pour_95 : decode cX3_pour 95 = .ok (.iconst 3, 1) := dk_6 (dk_at dksX3_pour_4 2 rfl rfl)
theorem dX3_pour_96 : decode cX3_pour 96 = .ok (.iadd, 1) := dk_96 (dk_at dksX3_pour_4 3 rfl rfl)
theorem dX3_pour_97 : decode cX3_pour 97 = .ok (.iload 5, 2) := dk_21 5 (dk_at dksX3_pour_4 4 rfl rfl)
theorem dX3_pour_99 : decode cX3_pour 99 = .ok (.invokevirtual 133, 3) := dk_182 0 133 (dk_at dksX3_pour_4 6 rfl rfl)
theorem dX3_pour_102 : decode cX3_pour 102 = .ok (.iload 5, 2) := dk_21 5 (dk_at dksX3_pour_4 9 rfl rfl)
theorem dX3_pour_104 : decode cX3_pour 104 = .ok (.if_icmp .ne 7, 3) := dk_160 0 7 (dk_at dksX3_pour_4 11 rfl rfl)
theorem dX3_pour_107 : decode cX3_pour 107 = .ok (.iconst 0, 1) := dk_3 (dk_at dksX3_pour_4 14 rfl rfl)
theorem dX3_pour_108 : decode cX3_pour 108 = .ok (.goto 4, 3) := dk_167 0 4 (dk_at dksX3_pour_4 15 rfl rfl)
theorem dX3_pour_111 : decode cX3_pour 111 = .ok (.iconst 1, 1) := dk_4 (dk_at dksX3_pour_4 18 rfl rfl)
theorem dX3_pour_112 : decode cX3_pour 112 = .ok (.iadd, 1) := dk_96 (dk_at dksX3_pour_4 19 rfl rfl)
theorem dX3_pour_113 : decode cX3_pour 113 = .ok (.istore_n 2, 1) := dk_61 (dk_at dksX3_pour_4 20 rfl rfl)
theorem dX3_pour_114 : decode cX3_pour 114 = .ok (.iinc 3 1, 3) := dk_132 3 1 (dk_at dksX3_pour_4 21 rfl rfl)
theorem dX3_pour_117 : decode cX3_pour 117 = .ok (.goto (-91), 3) := dk_167 255 165 (dk_at dksX3_pour_5 0 rfl rfl)
theorem dX3_pour_120 : decode cX3_pour 120 = .ok (.iload_n 2, 1) := dk_28 (dk_at dksX3_pour_5 3 rfl rfl)
theorem dX3_pour_121 : decode cX3_pour 121 = .ok (.ireturn, 1) := dk_172 (dk_at dksX3_pour_5 4 rfl rfl)
abbrev cX3_reads : ByteArray := prog_22_method_83_code
def yX3_reads : MethodName := ⟨RX3, "reads", "(I)I"⟩
def dkwX3_reads_3 : List UInt8 := [132, 2, 1, 167, 255, 206, 18, 81, 172]
abbrev dktX3_reads_3 : List UInt8 := dkwX3_reads_3 ++ []
def dkwX3_reads_2 : List UInt8 := [18, 81, 159, 0, 22, 42, 28, 182, 0, 112, 153, 0, 12, 29, 42, 28, 182, 0, 116, 159, 0, 5, 28, 172]
abbrev dktX3_reads_2 : List UInt8 := dkwX3_reads_2 ++ dktX3_reads_3
def dkwX3_reads_1 : List UInt8 := [28, 42, 180, 0, 57, 27, 46, 162, 0, 46, 42, 180, 0, 60, 16, 24, 27, 104, 28, 96, 46, 62, 29]
abbrev dktX3_reads_1 : List UInt8 := dkwX3_reads_1 ++ dktX3_reads_2
def dkwX3_reads_0 : List UInt8 := [27, 184, 0, 192, 154, 0, 6, 18, 86, 172, 42, 180, 0, 54, 27, 46, 156, 0, 6, 18, 195, 172, 3, 61]
abbrev dktX3_reads_0 : List UInt8 := dkwX3_reads_0 ++ dktX3_reads_1
theorem dksX3_reads_0 : cX3_reads.data.toList.drop 0 = dktX3_reads_0 := by decide +kernel
theorem dksX3_reads_1 : cX3_reads.data.toList.drop 24 = dktX3_reads_1 := dk_seg dksX3_reads_0 24 rfl rfl
theorem dksX3_reads_2 : cX3_reads.data.toList.drop 47 = dktX3_reads_2 := dk_seg dksX3_reads_1 23 rfl rfl
theorem dksX3_reads_3 : cX3_reads.data.toList.drop 71 = dktX3_reads_3 := dk_seg dksX3_reads_2 24 rfl rfl
theorem dX3_reads_0 : decode cX3_reads 0 = .ok (.iload_n 1, 1) := dk_27 (dk_at dksX3_reads_0 0 rfl rfl)
theorem dX3_reads_1 : decode cX3_reads 1 = .ok (.invokestatic 192, 3) := dk_184 0 192 (dk_at dksX3_reads_0 1 rfl rfl)
theorem dX3_reads_4 : decode cX3_reads 4 = .ok (.ifCond .ne 6, 3) := dk_154 0 6 (dk_at dksX3_reads_0 4 rfl rfl)
theorem dX3_reads_7 : decode cX3_reads 7 = .ok (.ldc 86, 2) := dk_18 86 (dk_at dksX3_reads_0 7 rfl rfl)
theorem dX3_reads_9 : decode cX3_reads 9 = .ok (.ireturn, 1) := dk_172 (dk_at dksX3_reads_0 9 rfl rfl)
theorem dX3_reads_10 : decode cX3_reads 10 = .ok (.aload_n 0, 1) := dk_42 (dk_at dksX3_reads_0 10 rfl rfl)
theorem dX3_reads_11 : decode cX3_reads 11 = .ok (.getfield 54, 3) := dk_180 0 54 (dk_at dksX3_reads_0 11 rfl rfl)
theorem dX3_reads_14 : decode cX3_reads 14 = .ok (.iload_n 1, 1) := dk_27 (dk_at dksX3_reads_0 14 rfl rfl)
theorem dX3_reads_15 : decode cX3_reads 15 = .ok (.iaload, 1) := dk_46 (dk_at dksX3_reads_0 15 rfl rfl)
theorem dX3_reads_16 : decode cX3_reads 16 = .ok (.ifCond .ge 6, 3) := dk_156 0 6 (dk_at dksX3_reads_0 16 rfl rfl)
theorem dX3_reads_19 : decode cX3_reads 19 = .ok (.ldc 195, 2) := dk_18 195 (dk_at dksX3_reads_0 19 rfl rfl)
theorem dX3_reads_21 : decode cX3_reads 21 = .ok (.ireturn, 1) := dk_172 (dk_at dksX3_reads_0 21 rfl rfl)
theorem dX3_reads_22 : decode cX3_reads 22 = .ok (.iconst 0, 1) := dk_3 (dk_at dksX3_reads_0 22 rfl rfl)
theorem dX3_reads_23 : decode cX3_reads 23 = .ok (.istore_n 2, 1) := dk_61 (dk_at dksX3_reads_0 23 rfl rfl)
theorem dX3_reads_24 : decode cX3_reads 24 = .ok (.iload_n 2, 1) := dk_28 (dk_at dksX3_reads_1 0 rfl rfl)
theorem dX3_reads_25 : decode cX3_reads 25 = .ok (.aload_n 0, 1) := dk_42 (dk_at dksX3_reads_1 1 rfl rfl)
theorem dX3_reads_26 : decode cX3_reads 26 = .ok (.getfield 57, 3) := dk_180 0 57 (dk_at dksX3_reads_1 2 rfl rfl)
theorem dX3_reads_29 : decode cX3_reads 29 = .ok (.iload_n 1, 1) := dk_27 (dk_at dksX3_reads_1 5 rfl rfl)
theorem dX3_reads_30 : decode cX3_reads 30 = .ok (.iaload, 1) := dk_46 (dk_at dksX3_reads_1 6 rfl rfl)
theorem dX3_reads_31 : decode cX3_reads 31 = .ok (.if_icmp .ge 46, 3) := dk_162 0 46 (dk_at dksX3_reads_1 7 rfl rfl)
theorem dX3_reads_34 : decode cX3_reads 34 = .ok (.aload_n 0, 1) := dk_42 (dk_at dksX3_reads_1 10 rfl rfl)
theorem dX3_reads_35 : decode cX3_reads 35 = .ok (.getfield 60, 3) := dk_180 0 60 (dk_at dksX3_reads_1 11 rfl rfl)
theorem dX3_reads_38 : decode cX3_reads 38 = .ok (.bipush 24, 2) := dk_16 24 (dk_at dksX3_reads_1 14 rfl rfl)
theorem dX3_reads_40 : decode cX3_reads 40 = .ok (.iload_n 1, 1) := dk_27 (dk_at dksX3_reads_1 16 rfl rfl)
theorem dX3_reads_41 : decode cX3_reads 41 = .ok (.imul, 1) := dk_104 (dk_at dksX3_reads_1 17 rfl rfl)
theorem dX3_reads_42 : decode cX3_reads 42 = .ok (.iload_n 2, 1) := dk_28 (dk_at dksX3_reads_1 18 rfl rfl)
theorem dX3_reads_43 : decode cX3_reads 43 = .ok (.iadd, 1) := dk_96 (dk_at dksX3_reads_1 19 rfl rfl)
theorem dX3_reads_44 : decode cX3_reads 44 = .ok (.iaload, 1) := dk_46 (dk_at dksX3_reads_1 20 rfl rfl)
theorem dX3_reads_45 : decode cX3_reads 45 = .ok (.istore_n 3, 1) := dk_62 (dk_at dksX3_reads_1 21 rfl rfl)
theorem dX3_reads_46 : decode cX3_reads 46 = .ok (.iload_n 3, 1) := dk_29 (dk_at dksX3_reads_1 22 rfl rfl)
theorem dX3_reads_47 : decode cX3_reads 47 = .ok (.ldc 81, 2) := dk_18 81 (dk_at dksX3_reads_2 0 rfl rfl)
theorem dX3_reads_49 : decode cX3_reads 49 = .ok (.if_icmp .eq 22, 3) := dk_159 0 22 (dk_at dksX3_reads_2 2 rfl rfl)
theorem dX3_reads_52 : decode cX3_reads 52 = .ok (.aload_n 0, 1) := dk_42 (dk_at dksX3_reads_2 5 rfl rfl)
theorem dX3_reads_53 : decode cX3_reads 53 = .ok (.iload_n 2, 1) := dk_28 (dk_at dksX3_reads_2 6 rfl rfl)
theorem dX3_reads_54 : decode cX3_reads 54 = .ok (.invokevirtual 112, 3) := dk_182 0 112 (dk_at dksX3_reads_2 7 rfl rfl)
theorem dX3_reads_57 : decode cX3_reads 57 = .ok (.ifCond .eq 12, 3) := dk_153 0 12 (dk_at dksX3_reads_2 10 rfl rfl)
theorem dX3_reads_60 : decode cX3_reads 60 = .ok (.iload_n 3, 1) := dk_29 (dk_at dksX3_reads_2 13 rfl rfl)
theorem dX3_reads_61 : decode cX3_reads 61 = .ok (.aload_n 0, 1) := dk_42 (dk_at dksX3_reads_2 14 rfl rfl)
theorem dX3_reads_62 : decode cX3_reads 62 = .ok (.iload_n 2, 1) := dk_28 (dk_at dksX3_reads_2 15 rfl rfl)
theorem dX3_reads_63 : decode cX3_reads 63 = .ok (.invokevirtual 116, 3) := dk_182 0 116 (dk_at dksX3_reads_2 16 rfl rfl)
theorem dX3_reads_66 : decode cX3_reads 66 = .ok (.if_icmp .eq 5, 3) := dk_159 0 5 (dk_at dksX3_reads_2 19 rfl rfl)
theorem dX3_reads_69 : decode cX3_reads 69 = .ok (.iload_n 2, 1) := dk_28 (dk_at dksX3_reads_2 22 rfl rfl)
theorem dX3_reads_70 : decode cX3_reads 70 = .ok (.ireturn, 1) := dk_172 (dk_at dksX3_reads_2 23 rfl rfl)
theorem dX3_reads_71 : decode cX3_reads 71 = .ok (.iinc 2 1, 3) := dk_132 2 1 (dk_at dksX3_reads_3 0 rfl rfl)
theorem dX3_reads_74 : decode cX3_reads 74 = .ok (.goto (-50), 3) := dk_167 255 206 (dk_at dksX3_reads_3 3 rfl rfl)
theorem dX3_reads_77 : decode cX3_reads 77 = .ok (.ldc 81, 2) := dk_18 81 (dk_at dksX3_reads_3 6 rfl rfl)
theorem dX3_reads_79 : decode cX3_reads 79 = .ok (.ireturn, 1) := dk_172 (dk_at dksX3_reads_3 8 rfl rfl)
abbrev cX3_copy : ByteArray := prog_22_method_84_code
def yX3_copy : MethodName := ⟨RX3, "copy", "(IIIII)I"⟩
def dkwX3_copy_7 : List UInt8 := [180, 0, 75, 21, 6, 46, 79, 132, 6, 1, 167, 255, 224, 21, 5, 172]
abbrev dktX3_copy_7 : List UInt8 := dkwX3_copy_7 ++ []
def dkwX3_copy_6 : List UInt8 := [54, 6, 21, 6, 21, 5, 162, 0, 31, 42, 180, 0, 60, 16, 24, 29, 104, 21, 4, 96, 21, 6, 96, 42]
abbrev dktX3_copy_6 : List UInt8 := dkwX3_copy_6 ++ dktX3_copy_7
def dkwX3_copy_5 : List UInt8 := [21, 6, 42, 180, 0, 60, 16, 24, 27, 104, 28, 96, 21, 6, 96, 46, 79, 132, 6, 1, 167, 255, 225, 3]
abbrev dktX3_copy_5 : List UInt8 := dkwX3_copy_5 ++ dktX3_copy_6
def dkwX3_copy_4 : List UInt8 := [21, 5, 100, 164, 0, 7, 19, 1, 16, 172, 3, 54, 6, 21, 6, 21, 5, 162, 0, 30, 42, 180, 0, 75]
abbrev dktX3_copy_4 : List UInt8 := dkwX3_copy_4 ++ dktX3_copy_5
def dkwX3_copy_3 : List UInt8 := [155, 0, 30, 28, 42, 180, 0, 57, 27, 46, 21, 5, 100, 163, 0, 17, 21, 4, 42, 180, 0, 57, 29, 46]
abbrev dktX3_copy_3 : List UInt8 := dkwX3_copy_3 ++ dktX3_copy_4
def dkwX3_copy_2 : List UInt8 := [180, 0, 54, 29, 46, 159, 0, 6, 18, 132, 172, 28, 155, 0, 40, 21, 4, 155, 0, 35, 21, 5]
abbrev dktX3_copy_2 : List UInt8 := dkwX3_copy_2 ++ dktX3_copy_3
def dkwX3_copy_1 : List UInt8 := [155, 0, 12, 42, 180, 0, 54, 29, 46, 156, 0, 6, 18, 195, 172, 42, 180, 0, 54, 27, 46, 42]
abbrev dktX3_copy_1 : List UInt8 := dkwX3_copy_1 ++ dktX3_copy_2
def dkwX3_copy_0 : List UInt8 := [27, 184, 0, 192, 153, 0, 10, 29, 184, 0, 192, 154, 0, 6, 18, 86, 172, 42, 180, 0, 54, 27, 46]
abbrev dktX3_copy_0 : List UInt8 := dkwX3_copy_0 ++ dktX3_copy_1
theorem dksX3_copy_0 : cX3_copy.data.toList.drop 0 = dktX3_copy_0 := by decide +kernel
theorem dksX3_copy_1 : cX3_copy.data.toList.drop 23 = dktX3_copy_1 := dk_seg dksX3_copy_0 23 rfl rfl
theorem dksX3_copy_2 : cX3_copy.data.toList.drop 45 = dktX3_copy_2 := dk_seg dksX3_copy_1 22 rfl rfl
theorem dksX3_copy_3 : cX3_copy.data.toList.drop 67 = dktX3_copy_3 := dk_seg dksX3_copy_2 22 rfl rfl
theorem dksX3_copy_4 : cX3_copy.data.toList.drop 91 = dktX3_copy_4 := dk_seg dksX3_copy_3 24 rfl rfl
theorem dksX3_copy_5 : cX3_copy.data.toList.drop 115 = dktX3_copy_5 := dk_seg dksX3_copy_4 24 rfl rfl
theorem dksX3_copy_6 : cX3_copy.data.toList.drop 139 = dktX3_copy_6 := dk_seg dksX3_copy_5 24 rfl rfl
theorem dksX3_copy_7 : cX3_copy.data.toList.drop 163 = dktX3_copy_7 := dk_seg dksX3_copy_6 24 rfl rfl
theorem dX3_copy_0 : decode cX3_copy 0 = .ok (.iload_n 1, 1) := dk_27 (dk_at dksX3_copy_0 0 rfl rfl)
theorem dX3_copy_1 : decode cX3_copy 1 = .ok (.invokestatic 192, 3) := dk_184 0 192 (dk_at dksX3_copy_0 1 rfl rfl)
theorem dX3_copy_4 : decode cX3_copy 4 = .ok (.ifCond .eq 10, 3) := dk_153 0 10 (dk_at dksX3_copy_0 4 rfl rfl)
theorem dX3_copy_7 : decode cX3_copy 7 = .ok (.iload_n 3, 1) := dk_29 (dk_at dksX3_copy_0 7 rfl rfl)
theorem dX3_copy_8 : decode cX3_copy 8 = .ok (.invokestatic 192, 3) := dk_184 0 192 (dk_at dksX3_copy_0 8 rfl rfl)
theorem dX3_copy_11 : decode cX3_copy 11 = .ok (.ifCond .ne 6, 3) := dk_154 0 6 (dk_at dksX3_copy_0 11 rfl rfl)
theorem dX3_copy_14 : decode cX3_copy 14 = .ok (.ldc 86, 2) := dk_18 86 (dk_at dksX3_copy_0 14 rfl rfl)
theorem dX3_copy_16 : decode cX3_copy 16 = .ok (.ireturn, 1) := dk_172 (dk_at dksX3_copy_0 16 rfl rfl)
theorem dX3_copy_17 : decode cX3_copy 17 = .ok (.aload_n 0, 1) := dk_42 (dk_at dksX3_copy_0 17 rfl rfl)
theorem dX3_copy_18 : decode cX3_copy 18 = .ok (.getfield 54, 3) := dk_180 0 54 (dk_at dksX3_copy_0 18 rfl rfl)
theorem dX3_copy_21 : decode cX3_copy 21 = .ok (.iload_n 1, 1) := dk_27 (dk_at dksX3_copy_0 21 rfl rfl)
theorem dX3_copy_22 : decode cX3_copy 22 = .ok (.iaload, 1) := dk_46 (dk_at dksX3_copy_0 22 rfl rfl)
theorem dX3_copy_23 : decode cX3_copy 23 = .ok (.ifCond .lt 12, 3) := dk_155 0 12 (dk_at dksX3_copy_1 0 rfl rfl)
theorem dX3_copy_26 : decode cX3_copy 26 = .ok (.aload_n 0, 1) := dk_42 (dk_at dksX3_copy_1 3 rfl rfl)
theorem dX3_copy_27 : decode cX3_copy 27 = .ok (.getfield 54, 3) := dk_180 0 54 (dk_at dksX3_copy_1 4 rfl rfl)
theorem dX3_copy_30 : decode cX3_copy 30 = .ok (.iload_n 3, 1) := dk_29 (dk_at dksX3_copy_1 7 rfl rfl)
theorem dX3_copy_31 : decode cX3_copy 31 = .ok (.iaload, 1) := dk_46 (dk_at dksX3_copy_1 8 rfl rfl)
theorem dX3_copy_32 : decode cX3_copy 32 = .ok (.ifCond .ge 6, 3) := dk_156 0 6 (dk_at dksX3_copy_1 9 rfl rfl)
theorem dX3_copy_35 : decode cX3_copy 35 = .ok (.ldc 195, 2) := dk_18 195 (dk_at dksX3_copy_1 12 rfl rfl)
theorem dX3_copy_37 : decode cX3_copy 37 = .ok (.ireturn, 1) := dk_172 (dk_at dksX3_copy_1 14 rfl rfl)
theorem dX3_copy_38 : decode cX3_copy 38 = .ok (.aload_n 0, 1) := dk_42 (dk_at dksX3_copy_1 15 rfl rfl)
theorem dX3_copy_39 : decode cX3_copy 39 = .ok (.getfield 54, 3) := dk_180 0 54 (dk_at dksX3_copy_1 16 rfl rfl)
theorem dX3_copy_42 : decode cX3_copy 42 = .ok (.iload_n 1, 1) := dk_27 (dk_at dksX3_copy_1 19 rfl rfl)
theorem dX3_copy_43 : decode cX3_copy 43 = .ok (.iaload, 1) := dk_46 (dk_at dksX3_copy_1 20 rfl rfl)
theorem dX3_copy_44 : decode cX3_copy 44 = .ok (.aload_n 0, 1) := dk_42 (dk_at dksX3_copy_1 21 rfl rfl)
theorem dX3_copy_45 : decode cX3_copy 45 = .ok (.getfield 54, 3) := dk_180 0 54 (dk_at dksX3_copy_2 0 rfl rfl)
theorem dX3_copy_48 : decode cX3_copy 48 = .ok (.iload_n 3, 1) := dk_29 (dk_at dksX3_copy_2 3 rfl rfl)
theorem dX3_copy_49 : decode cX3_copy 49 = .ok (.iaload, 1) := dk_46 (dk_at dksX3_copy_2 4 rfl rfl)
theorem dX3_copy_50 : decode cX3_copy 50 = .ok (.if_icmp .eq 6, 3) := dk_159 0 6 (dk_at dksX3_copy_2 5 rfl rfl)
theorem dX3_copy_53 : decode cX3_copy 53 = .ok (.ldc 132, 2) := dk_18 132 (dk_at dksX3_copy_2 8 rfl rfl)
theorem dX3_copy_55 : decode cX3_copy 55 = .ok (.ireturn, 1) := dk_172 (dk_at dksX3_copy_2 10 rfl rfl)
theorem dX3_copy_56 : decode cX3_copy 56 = .ok (.iload_n 2, 1) := dk_28 (dk_at dksX3_copy_2 11 rfl rfl)
theorem dX3_copy_57 : decode cX3_copy 57 = .ok (.ifCond .lt 40, 3) := dk_155 0 40 (dk_at dksX3_copy_2 12 rfl rfl)
theorem dX3_copy_60 : decode cX3_copy 60 = .ok (.iload 4, 2) := dk_21 4 (dk_at dksX3_copy_2 15 rfl rfl)
theorem dX3_copy_62 : decode cX3_copy 62 = .ok (.ifCond .lt 35, 3) := dk_155 0 35 (dk_at dksX3_copy_2 17 rfl rfl)
theorem dX3_copy_65 : decode cX3_copy 65 = .ok (.iload 5, 2) := dk_21 5 (dk_at dksX3_copy_2 20 rfl rfl)
theorem dX3_copy_67 : decode cX3_copy 67 = .ok (.ifCond .lt 30, 3) := dk_155 0 30 (dk_at dksX3_copy_3 0 rfl rfl)
theorem dX3_copy_70 : decode cX3_copy 70 = .ok (.iload_n 2, 1) := dk_28 (dk_at dksX3_copy_3 3 rfl rfl)
theorem dX3_copy_71 : decode cX3_copy 71 = .ok (.aload_n 0, 1) := dk_42 (dk_at dksX3_copy_3 4 rfl rfl)
theorem dX3_copy_72 : decode cX3_copy 72 = .ok (.getfield 57, 3) := dk_180 0 57 (dk_at dksX3_copy_3 5 rfl rfl)
theorem dX3_copy_75 : decode cX3_copy 75 = .ok (.iload_n 1, 1) := dk_27 (dk_at dksX3_copy_3 8 rfl rfl)
theorem dX3_copy_76 : decode cX3_copy 76 = .ok (.iaload, 1) := dk_46 (dk_at dksX3_copy_3 9 rfl rfl)
theorem dX3_copy_77 : decode cX3_copy 77 = .ok (.iload 5, 2) := dk_21 5 (dk_at dksX3_copy_3 10 rfl rfl)
theorem dX3_copy_79 : decode cX3_copy 79 = .ok (.isub, 1) := dk_100 (dk_at dksX3_copy_3 12 rfl rfl)
theorem dX3_copy_80 : decode cX3_copy 80 = .ok (.if_icmp .gt 17, 3) := dk_163 0 17 (dk_at dksX3_copy_3 13 rfl rfl)
theorem dX3_copy_83 : decode cX3_copy 83 = .ok (.iload 4, 2) := dk_21 4 (dk_at dksX3_copy_3 16 rfl rfl)
theorem dX3_copy_85 : decode cX3_copy 85 = .ok (.aload_n 0, 1) := dk_42 (dk_at dksX3_copy_3 18 rfl rfl)
theorem dX3_copy_86 : decode cX3_copy 86 = .ok (.getfield 57, 3) := dk_180 0 57 (dk_at dksX3_copy_3 19 rfl rfl)
theorem dX3_copy_89 : decode cX3_copy 89 = .ok (.iload_n 3, 1) := dk_29 (dk_at dksX3_copy_3 22 rfl rfl)
theorem dX3_copy_90 : decode cX3_copy 90 = .ok (.iaload, 1) := dk_46 (dk_at dksX3_copy_3 23 rfl rfl)
theorem dX3_copy_91 : decode cX3_copy 91 = .ok (.iload 5, 2) := dk_21 5 (dk_at dksX3_copy_4 0 rfl rfl)
theorem dX3_copy_93 : decode cX3_copy 93 = .ok (.isub, 1) := dk_100 (dk_at dksX3_copy_4 2 rfl rfl)
theorem dX3_copy_94 : decode cX3_copy 94 = .ok (.if_icmp .le 7, 3) := dk_164 0 7 (dk_at dksX3_copy_4 3 rfl rfl)
theorem dX3_copy_97 : decode cX3_copy 97 = .ok (.ldc_w 272, 3) := dk_19 1 16 (dk_at dksX3_copy_4 6 rfl rfl)
theorem dX3_copy_100 : decode cX3_copy 100 = .ok (.ireturn, 1) := dk_172 (dk_at dksX3_copy_4 9 rfl rfl)
theorem dX3_copy_101 : decode cX3_copy 101 = .ok (.iconst 0, 1) := dk_3 (dk_at dksX3_copy_4 10 rfl rfl)
theorem dX3_copy_102 : decode cX3_copy 102 = .ok (.istore 6, 2) := dk_54 6 (dk_at dksX3_copy_4 11 rfl rfl)
theorem dX3_copy_104 : decode cX3_copy 104 = .ok (.iload 6, 2) := dk_21 6 (dk_at dksX3_copy_4 13 rfl rfl)
theorem dX3_copy_106 : decode cX3_copy 106 = .ok (.iload 5, 2) := dk_21 5 (dk_at dksX3_copy_4 15 rfl rfl)
theorem dX3_copy_108 : decode cX3_copy 108 = .ok (.if_icmp .ge 30, 3) := dk_162 0 30 (dk_at dksX3_copy_4 17 rfl rfl)
theorem dX3_copy_111 : decode cX3_copy 111 = .ok (.aload_n 0, 1) := dk_42 (dk_at dksX3_copy_4 20 rfl rfl)
theorem dX3_copy_112 : decode cX3_copy 112 = .ok (.getfield 75, 3) := dk_180 0 75 (dk_at dksX3_copy_4 21 rfl rfl)
theorem dX3_copy_115 : decode cX3_copy 115 = .ok (.iload 6, 2) := dk_21 6 (dk_at dksX3_copy_5 0 rfl rfl)
theorem dX3_copy_117 : decode cX3_copy 117 = .ok (.aload_n 0, 1) := dk_42 (dk_at dksX3_copy_5 2 rfl rfl)
theorem dX3_copy_118 : decode cX3_copy 118 = .ok (.getfield 60, 3) := dk_180 0 60 (dk_at dksX3_copy_5 3 rfl rfl)
theorem dX3_copy_121 : decode cX3_copy 121 = .ok (.bipush 24, 2) := dk_16 24 (dk_at dksX3_copy_5 6 rfl rfl)
theorem dX3_copy_123 : decode cX3_copy 123 = .ok (.iload_n 1, 1) := dk_27 (dk_at dksX3_copy_5 8 rfl rfl)
theorem dX3_copy_124 : decode cX3_copy 124 = .ok (.imul, 1) := dk_104 (dk_at dksX3_copy_5 9 rfl rfl)
theorem dX3_copy_125 : decode cX3_copy 125 = .ok (.iload_n 2, 1) := dk_28 (dk_at dksX3_copy_5 10 rfl rfl)
theorem dX3_copy_126 : decode cX3_copy 126 = .ok (.iadd, 1) := dk_96 (dk_at dksX3_copy_5 11 rfl rfl)
theorem dX3_copy_127 : decode cX3_copy 127 = .ok (.iload 6, 2) := dk_21 6 (dk_at dksX3_copy_5 12 rfl rfl)
theorem dX3_copy_129 : decode cX3_copy 129 = .ok (.iadd, 1) := dk_96 (dk_at dksX3_copy_5 14 rfl rfl)
theorem dX3_copy_130 : decode cX3_copy 130 = .ok (.iaload, 1) := dk_46 (dk_at dksX3_copy_5 15 rfl rfl)
theorem dX3_copy_131 : decode cX3_copy 131 = .ok (.iastore, 1) := dk_79 (dk_at dksX3_copy_5 16 rfl rfl)
theorem dX3_copy_132 : decode cX3_copy 132 = .ok (.iinc 6 1, 3) := dk_132 6 1 (dk_at dksX3_copy_5 17 rfl rfl)
theorem dX3_copy_135 : decode cX3_copy 135 = .ok (.goto (-31), 3) := dk_167 255 225 (dk_at dksX3_copy_5 20 rfl rfl)
theorem dX3_copy_138 : decode cX3_copy 138 = .ok (.iconst 0, 1) := dk_3 (dk_at dksX3_copy_5 23 rfl rfl)
theorem dX3_copy_139 : decode cX3_copy 139 = .ok (.istore 6, 2) := dk_54 6 (dk_at dksX3_copy_6 0 rfl rfl)
theorem dX3_copy_141 : decode cX3_copy 141 = .ok (.iload 6, 2) := dk_21 6 (dk_at dksX3_copy_6 2 rfl rfl)
theorem dX3_copy_143 : decode cX3_copy 143 = .ok (.iload 5, 2) := dk_21 5 (dk_at dksX3_copy_6 4 rfl rfl)
theorem dX3_copy_145 : decode cX3_copy 145 = .ok (.if_icmp .ge 31, 3) := dk_162 0 31 (dk_at dksX3_copy_6 6 rfl rfl)
theorem dX3_copy_148 : decode cX3_copy 148 = .ok (.aload_n 0, 1) := dk_42 (dk_at dksX3_copy_6 9 rfl rfl)
theorem dX3_copy_149 : decode cX3_copy 149 = .ok (.getfield 60, 3) := dk_180 0 60 (dk_at dksX3_copy_6 10 rfl rfl)
theorem dX3_copy_152 : decode cX3_copy 152 = .ok (.bipush 24, 2) := dk_16 24 (dk_at dksX3_copy_6 13 rfl rfl)
theorem dX3_copy_154 : decode cX3_copy 154 = .ok (.iload_n 3, 1) := dk_29 (dk_at dksX3_copy_6 15 rfl rfl)
theorem dX3_copy_155 : decode cX3_copy 155 = .ok (.imul, 1) := dk_104 (dk_at dksX3_copy_6 16 rfl rfl)
theorem dX3_copy_156 : decode cX3_copy 156 = .ok (.iload 4, 2) := dk_21 4 (dk_at dksX3_copy_6 17 rfl rfl)
theorem dX3_copy_158 : decode cX3_copy 158 = .ok (.iadd, 1) := dk_96 (dk_at dksX3_copy_6 19 rfl rfl)
theorem dX3_copy_159 : decode cX3_copy 159 = .ok (.iload 6, 2) := dk_21 6 (dk_at dksX3_copy_6 20 rfl rfl)
theorem dX3_copy_161 : decode cX3_copy 161 = .ok (.iadd, 1) := dk_96 (dk_at dksX3_copy_6 22 rfl rfl)
theorem dX3_copy_162 : decode cX3_copy 162 = .ok (.aload_n 0, 1) := dk_42 (dk_at dksX3_copy_6 23 rfl rfl)
theorem dX3_copy_163 : decode cX3_copy 163 = .ok (.getfield 75, 3) := dk_180 0 75 (dk_at dksX3_copy_7 0 rfl rfl)
theorem dX3_copy_166 : decode cX3_copy 166 = .ok (.iload 6, 2) := dk_21 6 (dk_at dksX3_copy_7 3 rfl rfl)
theorem dX3_copy_168 : decode cX3_copy 168 = .ok (.iaload, 1) := dk_46 (dk_at dksX3_copy_7 5 rfl rfl)
theorem dX3_copy_169 : decode cX3_copy 169 = .ok (.iastore, 1) := dk_79 (dk_at dksX3_copy_7 6 rfl rfl)
theorem dX3_copy_170 : decode cX3_copy 170 = .ok (.iinc 6 1, 3) := dk_132 6 1 (dk_at dksX3_copy_7 7 rfl rfl)
theorem dX3_copy_173 : decode cX3_copy 173 = .ok (.goto (-32), 3) := dk_167 255 224 (dk_at dksX3_copy_7 10 rfl rfl)
theorem dX3_copy_176 : decode cX3_copy 176 = .ok (.iload 5, 2) := dk_21 5 (dk_at dksX3_copy_7 13 rfl rfl)
theorem dX3_copy_178 : decode cX3_copy 178 = .ok (.ireturn, 1) := dk_172 (dk_at dksX3_copy_7 15 rfl rfl)
abbrev cX3_lay : ByteArray := prog_22_method_85_code
def yX3_lay : MethodName := ⟨RX3, "lay", "(III)I"⟩
def dkwX3_lay_7 : List UInt8 := [16, 24, 29, 104, 21, 5, 96, 46, 79, 132, 5, 1, 167, 255, 217, 21, 4, 172]
abbrev dktX3_lay_7 : List UInt8 := dkwX3_lay_7 ++ []
def dkwX3_lay_6 : List UInt8 := [162, 0, 38, 28, 5, 160, 0, 33, 42, 180, 0, 72, 16, 24, 27, 104, 21, 5, 96, 42, 180, 0, 60]
abbrev dktX3_lay_6 : List UInt8 := dkwX3_lay_6 ++ dktX3_lay_7
def dkwX3_lay_5 : List UInt8 := [28, 4, 160, 0, 11, 42, 29, 182, 0, 122, 167, 0, 4, 3, 79, 3, 54, 5, 21, 5, 16, 24]
abbrev dktX3_lay_5 : List UInt8 := dkwX3_lay_5 ++ dktX3_lay_6
def dkwX3_lay_4 : List UInt8 := [167, 0, 18, 28, 5, 160, 0, 12, 42, 180, 0, 57, 29, 46, 167, 0, 4, 29, 79, 42, 180, 0, 69, 27]
abbrev dktX3_lay_4 : List UInt8 := dkwX3_lay_4 ++ dktX3_lay_5
def dkwX3_lay_3 : List UInt8 := [180, 0, 63, 27, 28, 79, 42, 180, 0, 66, 27, 28, 4, 160, 0, 12, 42, 29, 3, 182, 0, 92]
abbrev dktX3_lay_3 : List UInt8 := dkwX3_lay_3 ++ dktX3_lay_4
def dkwX3_lay_2 : List UInt8 := [160, 0, 15, 42, 180, 0, 54, 29, 46, 156, 0, 6, 18, 195, 172, 42, 180, 0, 63, 27, 46, 54, 4, 42]
abbrev dktX3_lay_2 : List UInt8 := dkwX3_lay_2 ++ dktX3_lay_3
def dkwX3_lay_1 : List UInt8 := [182, 0, 112, 153, 0, 15, 28, 5, 160, 0, 13, 29, 184, 0, 192, 154, 0, 6, 18, 86, 172, 28, 5]
abbrev dktX3_lay_1 : List UInt8 := dkwX3_lay_1 ++ dktX3_lay_2
def dkwX3_lay_0 : List UInt8 := [27, 184, 1, 19, 153, 0, 37, 28, 3, 6, 184, 0, 82, 153, 0, 28, 28, 4, 160, 0, 11, 42, 29]
abbrev dktX3_lay_0 : List UInt8 := dkwX3_lay_0 ++ dktX3_lay_1
theorem dksX3_lay_0 : cX3_lay.data.toList.drop 0 = dktX3_lay_0 := by decide +kernel
theorem dksX3_lay_1 : cX3_lay.data.toList.drop 23 = dktX3_lay_1 := dk_seg dksX3_lay_0 23 rfl rfl
theorem dksX3_lay_2 : cX3_lay.data.toList.drop 46 = dktX3_lay_2 := dk_seg dksX3_lay_1 23 rfl rfl
theorem dksX3_lay_3 : cX3_lay.data.toList.drop 70 = dktX3_lay_3 := dk_seg dksX3_lay_2 24 rfl rfl
theorem dksX3_lay_4 : cX3_lay.data.toList.drop 92 = dktX3_lay_4 := dk_seg dksX3_lay_3 22 rfl rfl
theorem dksX3_lay_5 : cX3_lay.data.toList.drop 116 = dktX3_lay_5 := dk_seg dksX3_lay_4 24 rfl rfl
theorem dksX3_lay_6 : cX3_lay.data.toList.drop 138 = dktX3_lay_6 := dk_seg dksX3_lay_5 22 rfl rfl
theorem dksX3_lay_7 : cX3_lay.data.toList.drop 161 = dktX3_lay_7 := dk_seg dksX3_lay_6 23 rfl rfl
theorem dX3_lay_0 : decode cX3_lay 0 = .ok (.iload_n 1, 1) := dk_27 (dk_at dksX3_lay_0 0 rfl rfl)
theorem dX3_lay_1 : decode cX3_lay 1 = .ok (.invokestatic 275, 3) := dk_184 1 19 (dk_at dksX3_lay_0 1 rfl rfl)
theorem dX3_lay_4 : decode cX3_lay 4 = .ok (.ifCond .eq 37, 3) := dk_153 0 37 (dk_at dksX3_lay_0 4 rfl rfl)
theorem dX3_lay_7 : decode cX3_lay 7 = .ok (.iload_n 2, 1) := dk_28 (dk_at dksX3_lay_0 7 rfl rfl)
theorem dX3_lay_8 : decode cX3_lay 8 = .ok (.iconst 0, 1) := dk_3 (dk_at dksX3_lay_0 8 rfl rfl)
theorem dX3_lay_9 : decode cX3_lay 9 = .ok (.iconst 3, 1) := dk_6 (dk_at dksX3_lay_0 9 rfl rfl)
theorem dX3_lay_10 : decode cX3_lay 10 = .ok (.invokestatic 82, 3) := dk_184 0 82 (dk_at dksX3_lay_0 10 rfl rfl)
theorem dX3_lay_13 : decode cX3_lay 13 = .ok (.ifCond .eq 28, 3) := dk_153 0 28 (dk_at dksX3_lay_0 13 rfl rfl)
theorem dX3_lay_16 : decode cX3_lay 16 = .ok (.iload_n 2, 1) := dk_28 (dk_at dksX3_lay_0 16 rfl rfl)
theorem dX3_lay_17 : decode cX3_lay 17 = .ok (.iconst 1, 1) := dk_4 (dk_at dksX3_lay_0 17 rfl rfl)
theorem dX3_lay_18 : decode cX3_lay 18 = .ok (.if_icmp .ne 11, 3) := dk_160 0 11 (dk_at dksX3_lay_0 18 rfl rfl)
theorem dX3_lay_21 : decode cX3_lay 21 = .ok (.aload_n 0, 1) := dk_42 (dk_at dksX3_lay_0 21 rfl rfl)
theorem dX3_lay_22 : decode cX3_lay 22 = .ok (.iload_n 3, 1) := dk_29 (dk_at dksX3_lay_0 22 rfl rfl)
theorem dX3_lay_23 : decode cX3_lay 23 = .ok (.invokevirtual 112, 3) := dk_182 0 112 (dk_at dksX3_lay_1 0 rfl rfl)
theorem dX3_lay_26 : decode cX3_lay 26 = .ok (.ifCond .eq 15, 3) := dk_153 0 15 (dk_at dksX3_lay_1 3 rfl rfl)
theorem dX3_lay_29 : decode cX3_lay 29 = .ok (.iload_n 2, 1) := dk_28 (dk_at dksX3_lay_1 6 rfl rfl)
theorem dX3_lay_30 : decode cX3_lay 30 = .ok (.iconst 2, 1) := dk_5 (dk_at dksX3_lay_1 7 rfl rfl)
theorem dX3_lay_31 : decode cX3_lay 31 = .ok (.if_icmp .ne 13, 3) := dk_160 0 13 (dk_at dksX3_lay_1 8 rfl rfl)
theorem dX3_lay_34 : decode cX3_lay 34 = .ok (.iload_n 3, 1) := dk_29 (dk_at dksX3_lay_1 11 rfl rfl)
theorem dX3_lay_35 : decode cX3_lay 35 = .ok (.invokestatic 192, 3) := dk_184 0 192 (dk_at dksX3_lay_1 12 rfl rfl)
theorem dX3_lay_38 : decode cX3_lay 38 = .ok (.ifCond .ne 6, 3) := dk_154 0 6 (dk_at dksX3_lay_1 15 rfl rfl)
theorem dX3_lay_41 : decode cX3_lay 41 = .ok (.ldc 86, 2) := dk_18 86 (dk_at dksX3_lay_1 18 rfl rfl)
theorem dX3_lay_43 : decode cX3_lay 43 = .ok (.ireturn, 1) := dk_172 (dk_at dksX3_lay_1 20 rfl rfl)
theorem dX3_lay_44 : decode cX3_lay 44 = .ok (.iload_n 2, 1) := dk_28 (dk_at dksX3_lay_1 21 rfl rfl)
theorem dX3_lay_45 : decode cX3_lay 45 = .ok (.iconst 2, 1) := dk_5 (dk_at dksX3_lay_1 22 rfl rfl)
theorem dX3_lay_46 : decode cX3_lay 46 = .ok (.if_icmp .ne 15, 3) := dk_160 0 15 (dk_at dksX3_lay_2 0 rfl rfl)
theorem dX3_lay_49 : decode cX3_lay 49 = .ok (.aload_n 0, 1) := dk_42 (dk_at dksX3_lay_2 3 rfl rfl)
theorem dX3_lay_50 : decode cX3_lay 50 = .ok (.getfield 54, 3) := dk_180 0 54 (dk_at dksX3_lay_2 4 rfl rfl)
theorem dX3_lay_53 : decode cX3_lay 53 = .ok (.iload_n 3, 1) := dk_29 (dk_at dksX3_lay_2 7 rfl rfl)
theorem dX3_lay_54 : decode cX3_lay 54 = .ok (.iaload, 1) := dk_46 (dk_at dksX3_lay_2 8 rfl rfl)
theorem dX3_lay_55 : decode cX3_lay 55 = .ok (.ifCond .ge 6, 3) := dk_156 0 6 (dk_at dksX3_lay_2 9 rfl rfl)
theorem dX3_lay_58 : decode cX3_lay 58 = .ok (.ldc 195, 2) := dk_18 195 (dk_at dksX3_lay_2 12 rfl rfl)
theorem dX3_lay_60 : decode cX3_lay 60 = .ok (.ireturn, 1) := dk_172 (dk_at dksX3_lay_2 14 rfl rfl)
theorem dX3_lay_61 : decode cX3_lay 61 = .ok (.aload_n 0, 1) := dk_42 (dk_at dksX3_lay_2 15 rfl rfl)
theorem dX3_lay_62 : decode cX3_lay 62 = .ok (.getfield 63, 3) := dk_180 0 63 (dk_at dksX3_lay_2 16 rfl rfl)
theorem dX3_lay_65 : decode cX3_lay 65 = .ok (.iload_n 1, 1) := dk_27 (dk_at dksX3_lay_2 19 rfl rfl)
theorem dX3_lay_66 : decode cX3_lay 66 = .ok (.iaload, 1) := dk_46 (dk_at dksX3_lay_2 20 rfl rfl)
theorem dX3_lay_67 : decode cX3_lay 67 = .ok (.istore 4, 2) := dk_54 4 (dk_at dksX3_lay_2 21 rfl rfl)
theorem dX3_lay_69 : decode cX3_lay 69 = .ok (.aload_n 0, 1) := dk_42 (dk_at dksX3_lay_2 23 rfl rfl)
theorem dX3_lay_70 : decode cX3_lay 70 = .ok (.getfield 63, 3) := dk_180 0 63 (dk_at dksX3_lay_3 0 rfl rfl)
theorem dX3_lay_73 : decode cX3_lay 73 = .ok (.iload_n 1, 1) := dk_27 (dk_at dksX3_lay_3 3 rfl rfl)
theorem dX3_lay_74 : decode cX3_lay 74 = .ok (.iload_n 2, 1) := dk_28 (dk_at dksX3_lay_3 4 rfl rfl)
theorem dX3_lay_75 : decode cX3_lay 75 = .ok (.iastore, 1) := dk_79 (dk_at dksX3_lay_3 5 rfl rfl)
theorem dX3_lay_76 : decode cX3_lay 76 = .ok (.aload_n 0, 1) := dk_42 (dk_at dksX3_lay_3 6 rfl rfl)
theorem dX3_lay_77 : decode cX3_lay 77 = .ok (.getfield 66, 3) := dk_180 0 66 (dk_at dksX3_lay_3 7 rfl rfl)
theorem dX3_lay_80 : decode cX3_lay 80 = .ok (.iload_n 1, 1) := dk_27 (dk_at dksX3_lay_3 10 rfl rfl)
theorem dX3_lay_81 : decode cX3_lay 81 = .ok (.iload_n 2, 1) := dk_28 (dk_at dksX3_lay_3 11 rfl rfl)
theorem dX3_lay_82 : decode cX3_lay 82 = .ok (.iconst 1, 1) := dk_4 (dk_at dksX3_lay_3 12 rfl rfl)
theorem dX3_lay_83 : decode cX3_lay 83 = .ok (.if_icmp .ne 12, 3) := dk_160 0 12 (dk_at dksX3_lay_3 13 rfl rfl)
theorem dX3_lay_86 : decode cX3_lay 86 = .ok (.aload_n 0, 1) := dk_42 (dk_at dksX3_lay_3 16 rfl rfl)
theorem dX3_lay_87 : decode cX3_lay 87 = .ok (.iload_n 3, 1) := dk_29 (dk_at dksX3_lay_3 17 rfl rfl)
theorem dX3_lay_88 : decode cX3_lay 88 = .ok (.iconst 0, 1) := dk_3 (dk_at dksX3_lay_3 18 rfl rfl)
theorem dX3_lay_89 : decode cX3_lay 89 = .ok (.invokevirtual 92, 3) := dk_182 0 92 (dk_at dksX3_lay_3 19 rfl rfl)
theorem dX3_lay_92 : decode cX3_lay 92 = .ok (.goto 18, 3) := dk_167 0 18 (dk_at dksX3_lay_4 0 rfl rfl)
theorem dX3_lay_95 : decode cX3_lay 95 = .ok (.iload_n 2, 1) := dk_28 (dk_at dksX3_lay_4 3 rfl rfl)
theorem dX3_lay_96 : decode cX3_lay 96 = .ok (.iconst 2, 1) := dk_5 (dk_at dksX3_lay_4 4 rfl rfl)
theorem dX3_lay_97 : decode cX3_lay 97 = .ok (.if_icmp .ne 12, 3) := dk_160 0 12 (dk_at dksX3_lay_4 5 rfl rfl)
theorem dX3_lay_100 : decode cX3_lay 100 = .ok (.aload_n 0, 1) := dk_42 (dk_at dksX3_lay_4 8 rfl rfl)
theorem dX3_lay_101 : decode cX3_lay 101 = .ok (.getfield 57, 3) := dk_180 0 57 (dk_at dksX3_lay_4 9 rfl rfl)
theorem dX3_lay_104 : decode cX3_lay 104 = .ok (.iload_n 3, 1) := dk_29 (dk_at dksX3_lay_4 12 rfl rfl)
theorem dX3_lay_105 : decode cX3_lay 105 = .ok (.iaload, 1) := dk_46 (dk_at dksX3_lay_4 13 rfl rfl)
theorem dX3_lay_106 : decode cX3_lay 106 = .ok (.goto 4, 3) := dk_167 0 4 (dk_at dksX3_lay_4 14 rfl rfl)
theorem dX3_lay_109 : decode cX3_lay 109 = .ok (.iload_n 3, 1) := dk_29 (dk_at dksX3_lay_4 17 rfl rfl)
theorem dX3_lay_110 : decode cX3_lay 110 = .ok (.iastore, 1) := dk_79 (dk_at dksX3_lay_4 18 rfl rfl)
theorem dX3_lay_111 : decode cX3_lay 111 = .ok (.aload_n 0, 1) := dk_42 (dk_at dksX3_lay_4 19 rfl rfl)
theorem dX3_lay_112 : decode cX3_lay 112 = .ok (.getfield 69, 3) := dk_180 0 69 (dk_at dksX3_lay_4 20 rfl rfl)
theorem dX3_lay_115 : decode cX3_lay 115 = .ok (.iload_n 1, 1) := dk_27 (dk_at dksX3_lay_4 23 rfl rfl)
theorem dX3_lay_116 : decode cX3_lay 116 = .ok (.iload_n 2, 1) := dk_28 (dk_at dksX3_lay_5 0 rfl rfl)
theorem dX3_lay_117 : decode cX3_lay 117 = .ok (.iconst 1, 1) := dk_4 (dk_at dksX3_lay_5 1 rfl rfl)
theorem dX3_lay_118 : decode cX3_lay 118 = .ok (.if_icmp .ne 11, 3) := dk_160 0 11 (dk_at dksX3_lay_5 2 rfl rfl)
theorem dX3_lay_121 : decode cX3_lay 121 = .ok (.aload_n 0, 1) := dk_42 (dk_at dksX3_lay_5 5 rfl rfl)
theorem dX3_lay_122 : decode cX3_lay 122 = .ok (.iload_n 3, 1) := dk_29 (dk_at dksX3_lay_5 6 rfl rfl)
theorem dX3_lay_123 : decode cX3_lay 123 = .ok (.invokevirtual 122, 3) := dk_182 0 122 (dk_at dksX3_lay_5 7 rfl rfl)
theorem dX3_lay_126 : decode cX3_lay 126 = .ok (.goto 4, 3) := dk_167 0 4 (dk_at dksX3_lay_5 10 rfl rfl)
theorem dX3_lay_129 : decode cX3_lay 129 = .ok (.iconst 0, 1) := dk_3 (dk_at dksX3_lay_5 13 rfl rfl)
theorem dX3_lay_130 : decode cX3_lay 130 = .ok (.iastore, 1) := dk_79 (dk_at dksX3_lay_5 14 rfl rfl)
theorem dX3_lay_131 : decode cX3_lay 131 = .ok (.iconst 0, 1) := dk_3 (dk_at dksX3_lay_5 15 rfl rfl)
theorem dX3_lay_132 : decode cX3_lay 132 = .ok (.istore 5, 2) := dk_54 5 (dk_at dksX3_lay_5 16 rfl rfl)
theorem dX3_lay_134 : decode cX3_lay 134 = .ok (.iload 5, 2) := dk_21 5 (dk_at dksX3_lay_5 18 rfl rfl)
theorem dX3_lay_136 : decode cX3_lay 136 = .ok (.bipush 24, 2) := dk_16 24 (dk_at dksX3_lay_5 20 rfl rfl)
theorem dX3_lay_138 : decode cX3_lay 138 = .ok (.if_icmp .ge 38, 3) := dk_162 0 38 (dk_at dksX3_lay_6 0 rfl rfl)
theorem dX3_lay_141 : decode cX3_lay 141 = .ok (.iload_n 2, 1) := dk_28 (dk_at dksX3_lay_6 3 rfl rfl)
theorem dX3_lay_142 : decode cX3_lay 142 = .ok (.iconst 2, 1) := dk_5 (dk_at dksX3_lay_6 4 rfl rfl)
theorem dX3_lay_143 : decode cX3_lay 143 = .ok (.if_icmp .ne 33, 3) := dk_160 0 33 (dk_at dksX3_lay_6 5 rfl rfl)
theorem dX3_lay_146 : decode cX3_lay 146 = .ok (.aload_n 0, 1) := dk_42 (dk_at dksX3_lay_6 8 rfl rfl)
theorem dX3_lay_147 : decode cX3_lay 147 = .ok (.getfield 72, 3) := dk_180 0 72 (dk_at dksX3_lay_6 9 rfl rfl)
theorem dX3_lay_150 : decode cX3_lay 150 = .ok (.bipush 24, 2) := dk_16 24 (dk_at dksX3_lay_6 12 rfl rfl)
theorem dX3_lay_152 : decode cX3_lay 152 = .ok (.iload_n 1, 1) := dk_27 (dk_at dksX3_lay_6 14 rfl rfl)
theorem dX3_lay_153 : decode cX3_lay 153 = .ok (.imul, 1) := dk_104 (dk_at dksX3_lay_6 15 rfl rfl)
theorem dX3_lay_154 : decode cX3_lay 154 = .ok (.iload 5, 2) := dk_21 5 (dk_at dksX3_lay_6 16 rfl rfl)
theorem dX3_lay_156 : decode cX3_lay 156 = .ok (.iadd, 1) := dk_96 (dk_at dksX3_lay_6 18 rfl rfl)
theorem dX3_lay_157 : decode cX3_lay 157 = .ok (.aload_n 0, 1) := dk_42 (dk_at dksX3_lay_6 19 rfl rfl)
theorem dX3_lay_158 : decode cX3_lay 158 = .ok (.getfield 60, 3) := dk_180 0 60 (dk_at dksX3_lay_6 20 rfl rfl)
theorem dX3_lay_161 : decode cX3_lay 161 = .ok (.bipush 24, 2) := dk_16 24 (dk_at dksX3_lay_7 0 rfl rfl)
theorem dX3_lay_163 : decode cX3_lay 163 = .ok (.iload_n 3, 1) := dk_29 (dk_at dksX3_lay_7 2 rfl rfl)
theorem dX3_lay_164 : decode cX3_lay 164 = .ok (.imul, 1) := dk_104 (dk_at dksX3_lay_7 3 rfl rfl)
theorem dX3_lay_165 : decode cX3_lay 165 = .ok (.iload 5, 2) := dk_21 5 (dk_at dksX3_lay_7 4 rfl rfl)
theorem dX3_lay_167 : decode cX3_lay 167 = .ok (.iadd, 1) := dk_96 (dk_at dksX3_lay_7 6 rfl rfl)
theorem dX3_lay_168 : decode cX3_lay 168 = .ok (.iaload, 1) := dk_46 (dk_at dksX3_lay_7 7 rfl rfl)
theorem dX3_lay_169 : decode cX3_lay 169 = .ok (.iastore, 1) := dk_79 (dk_at dksX3_lay_7 8 rfl rfl)
theorem dX3_lay_170 : decode cX3_lay 170 = .ok (.iinc 5 1, 3) := dk_132 5 1 (dk_at dksX3_lay_7 9 rfl rfl)
theorem dX3_lay_173 : decode cX3_lay 173 = .ok (.goto (-39), 3) := dk_167 255 217 (dk_at dksX3_lay_7 12 rfl rfl)
theorem dX3_lay_176 : decode cX3_lay 176 = .ok (.iload 4, 2) := dk_21 4 (dk_at dksX3_lay_7 15 rfl rfl)
theorem dX3_lay_178 : decode cX3_lay 178 = .ok (.ireturn, 1) := dk_172 (dk_at dksX3_lay_7 17 rfl rfl)
abbrev cX3_isSlot : ByteArray := prog_22_method_79_code
def yX3_isSlot : MethodName := ⟨RX3, "isSlot", "(I)Z"⟩
def dkwX3_isSlot_0 : List UInt8 := [26, 3, 7, 184, 0, 82, 172]
abbrev dktX3_isSlot_0 : List UInt8 := dkwX3_isSlot_0 ++ []
theorem dksX3_isSlot_0 : cX3_isSlot.data.toList.drop 0 = dktX3_isSlot_0 := by decide +kernel
theorem dX3_isSlot_0 : decode cX3_isSlot 0 = .ok (.iload_n 0, 1) := dk_26 (dk_at dksX3_isSlot_0 0 rfl rfl)
theorem dX3_isSlot_1 : decode cX3_isSlot 1 = .ok (.iconst 0, 1) := dk_3 (dk_at dksX3_isSlot_0 1 rfl rfl)
theorem dX3_isSlot_2 : decode cX3_isSlot 2 = .ok (.iconst 4, 1) := dk_7 (dk_at dksX3_isSlot_0 2 rfl rfl)
theorem dX3_isSlot_3 : decode cX3_isSlot 3 = .ok (.invokestatic 82, 3) := dk_184 0 82 (dk_at dksX3_isSlot_0 3 rfl rfl)
theorem dX3_isSlot_6 : decode cX3_isSlot 6 = .ok (.ireturn, 1) := dk_172 (dk_at dksX3_isSlot_0 6 rfl rfl)
abbrev cX3_ask : ByteArray := prog_22_method_86_code
def yX3_ask : MethodName := ⟨RX3, "ask", "(II)I"⟩
def dkwX3_ask_2 : List UInt8 := [184, 0, 128, 153, 0, 12, 42, 180, 0, 69, 27, 46, 167, 0, 5, 18, 132, 172]
abbrev dktX3_ask_2 : List UInt8 := dkwX3_ask_2 ++ []
def dkwX3_ask_1 : List UInt8 := [46, 154, 0, 6, 18, 195, 172, 42, 180, 0, 63, 27, 46, 4, 160, 0, 25, 42, 180, 0, 66, 27, 46, 28]
abbrev dktX3_ask_1 : List UInt8 := dkwX3_ask_1 ++ dktX3_ask_2
def dkwX3_ask_0 : List UInt8 := [27, 184, 1, 19, 153, 0, 12, 28, 3, 8, 184, 0, 82, 154, 0, 6, 18, 86, 172, 42, 180, 0, 63, 27]
abbrev dktX3_ask_0 : List UInt8 := dkwX3_ask_0 ++ dktX3_ask_1
theorem dksX3_ask_0 : cX3_ask.data.toList.drop 0 = dktX3_ask_0 := by decide +kernel
theorem dksX3_ask_1 : cX3_ask.data.toList.drop 24 = dktX3_ask_1 := dk_seg dksX3_ask_0 24 rfl rfl
theorem dksX3_ask_2 : cX3_ask.data.toList.drop 48 = dktX3_ask_2 := dk_seg dksX3_ask_1 24 rfl rfl
theorem dX3_ask_0 : decode cX3_ask 0 = .ok (.iload_n 1, 1) := dk_27 (dk_at dksX3_ask_0 0 rfl rfl)
theorem dX3_ask_1 : decode cX3_ask 1 = .ok (.invokestatic 275, 3) := dk_184 1 19 (dk_at dksX3_ask_0 1 rfl rfl)
theorem dX3_ask_4 : decode cX3_ask 4 = .ok (.ifCond .eq 12, 3) := dk_153 0 12 (dk_at dksX3_ask_0 4 rfl rfl)
theorem dX3_ask_7 : decode cX3_ask 7 = .ok (.iload_n 2, 1) := dk_28 (dk_at dksX3_ask_0 7 rfl rfl)
theorem dX3_ask_8 : decode cX3_ask 8 = .ok (.iconst 0, 1) := dk_3 (dk_at dksX3_ask_0 8 rfl rfl)
theorem dX3_ask_9 : decode cX3_ask 9 = .ok (.iconst 5, 1) := dk_8 (dk_at dksX3_ask_0 9 rfl rfl)
theorem dX3_ask_10 : decode cX3_ask 10 = .ok (.invokestatic 82, 3) := dk_184 0 82 (dk_at dksX3_ask_0 10 rfl rfl)
theorem dX3_ask_13 : decode cX3_ask 13 = .ok (.ifCond .ne 6, 3) := dk_154 0 6 (dk_at dksX3_ask_0 13 rfl rfl)
theorem dX3_ask_16 : decode cX3_ask 16 = .ok (.ldc 86, 2) := dk_18 86 (dk_at dksX3_ask_0 16 rfl rfl)
theorem dX3_ask_18 : decode cX3_ask 18 = .ok (.ireturn, 1) := dk_172 (dk_at dksX3_ask_0 18 rfl rfl)
theorem dX3_ask_19 : decode cX3_ask 19 = .ok (.aload_n 0, 1) := dk_42 (dk_at dksX3_ask_0 19 rfl rfl)
theorem dX3_ask_20 : decode cX3_ask 20 = .ok (.getfield 63, 3) := dk_180 0 63 (dk_at dksX3_ask_0 20 rfl rfl)
theorem dX3_ask_23 : decode cX3_ask 23 = .ok (.iload_n 1, 1) := dk_27 (dk_at dksX3_ask_0 23 rfl rfl)
theorem dX3_ask_24 : decode cX3_ask 24 = .ok (.iaload, 1) := dk_46 (dk_at dksX3_ask_1 0 rfl rfl)
theorem dX3_ask_25 : decode cX3_ask 25 = .ok (.ifCond .ne 6, 3) := dk_154 0 6 (dk_at dksX3_ask_1 1 rfl rfl)
theorem dX3_ask_28 : decode cX3_ask 28 = .ok (.ldc 195, 2) := dk_18 195 (dk_at dksX3_ask_1 4 rfl rfl)
theorem dX3_ask_30 : decode cX3_ask 30 = .ok (.ireturn, 1) := dk_172 (dk_at dksX3_ask_1 6 rfl rfl)
theorem dX3_ask_31 : decode cX3_ask 31 = .ok (.aload_n 0, 1) := dk_42 (dk_at dksX3_ask_1 7 rfl rfl)
theorem dX3_ask_32 : decode cX3_ask 32 = .ok (.getfield 63, 3) := dk_180 0 63 (dk_at dksX3_ask_1 8 rfl rfl)
theorem dX3_ask_35 : decode cX3_ask 35 = .ok (.iload_n 1, 1) := dk_27 (dk_at dksX3_ask_1 11 rfl rfl)
theorem dX3_ask_36 : decode cX3_ask 36 = .ok (.iaload, 1) := dk_46 (dk_at dksX3_ask_1 12 rfl rfl)
theorem dX3_ask_37 : decode cX3_ask 37 = .ok (.iconst 1, 1) := dk_4 (dk_at dksX3_ask_1 13 rfl rfl)
theorem dX3_ask_38 : decode cX3_ask 38 = .ok (.if_icmp .ne 25, 3) := dk_160 0 25 (dk_at dksX3_ask_1 14 rfl rfl)
theorem dX3_ask_41 : decode cX3_ask 41 = .ok (.aload_n 0, 1) := dk_42 (dk_at dksX3_ask_1 17 rfl rfl)
theorem dX3_ask_42 : decode cX3_ask 42 = .ok (.getfield 66, 3) := dk_180 0 66 (dk_at dksX3_ask_1 18 rfl rfl)
theorem dX3_ask_45 : decode cX3_ask 45 = .ok (.iload_n 1, 1) := dk_27 (dk_at dksX3_ask_1 21 rfl rfl)
theorem dX3_ask_46 : decode cX3_ask 46 = .ok (.iaload, 1) := dk_46 (dk_at dksX3_ask_1 22 rfl rfl)
theorem dX3_ask_47 : decode cX3_ask 47 = .ok (.iload_n 2, 1) := dk_28 (dk_at dksX3_ask_1 23 rfl rfl)
theorem dX3_ask_48 : decode cX3_ask 48 = .ok (.invokestatic 128, 3) := dk_184 0 128 (dk_at dksX3_ask_2 0 rfl rfl)
theorem dX3_ask_51 : decode cX3_ask 51 = .ok (.ifCond .eq 12, 3) := dk_153 0 12 (dk_at dksX3_ask_2 3 rfl rfl)
theorem dX3_ask_54 : decode cX3_ask 54 = .ok (.aload_n 0, 1) := dk_42 (dk_at dksX3_ask_2 6 rfl rfl)
theorem dX3_ask_55 : decode cX3_ask 55 = .ok (.getfield 69, 3) := dk_180 0 69 (dk_at dksX3_ask_2 7 rfl rfl)
theorem dX3_ask_58 : decode cX3_ask 58 = .ok (.iload_n 1, 1) := dk_27 (dk_at dksX3_ask_2 10 rfl rfl)
theorem dX3_ask_59 : decode cX3_ask 59 = .ok (.iaload, 1) := dk_46 (dk_at dksX3_ask_2 11 rfl rfl)
theorem dX3_ask_60 : decode cX3_ask 60 = .ok (.goto 5, 3) := dk_167 0 5 (dk_at dksX3_ask_2 12 rfl rfl)
theorem dX3_ask_63 : decode cX3_ask 63 = .ok (.ldc 132, 2) := dk_18 132 (dk_at dksX3_ask_2 15 rfl rfl)
theorem dX3_ask_65 : decode cX3_ask 65 = .ok (.ireturn, 1) := dk_172 (dk_at dksX3_ask_2 17 rfl rfl)
abbrev cX3_item : ByteArray := prog_22_method_87_code
def yX3_item : MethodName := ⟨RX3, "item", "(II)I"⟩
def dkwX3_item_3 : List UInt8 := [18, 81, 160, 0, 8, 18, 132, 167, 0, 4, 29, 172]
abbrev dktX3_item_3 : List UInt8 := dkwX3_item_3 ++ []
def dkwX3_item_2 : List UInt8 := [184, 0, 82, 154, 0, 7, 19, 1, 16, 172, 42, 180, 0, 72, 16, 24, 27, 104, 28, 96, 46, 62, 29]
abbrev dktX3_item_2 : List UInt8 := dkwX3_item_2 ++ dktX3_item_3
def dkwX3_item_1 : List UInt8 := [180, 0, 63, 27, 46, 5, 159, 0, 6, 18, 132, 172, 28, 3, 42, 180, 0, 66, 27, 46, 4, 100]
abbrev dktX3_item_1 : List UInt8 := dkwX3_item_1 ++ dktX3_item_2
def dkwX3_item_0 : List UInt8 := [27, 184, 1, 19, 154, 0, 6, 18, 86, 172, 42, 180, 0, 63, 27, 46, 154, 0, 6, 18, 195, 172, 42]
abbrev dktX3_item_0 : List UInt8 := dkwX3_item_0 ++ dktX3_item_1
theorem dksX3_item_0 : cX3_item.data.toList.drop 0 = dktX3_item_0 := by decide +kernel
theorem dksX3_item_1 : cX3_item.data.toList.drop 23 = dktX3_item_1 := dk_seg dksX3_item_0 23 rfl rfl
theorem dksX3_item_2 : cX3_item.data.toList.drop 45 = dktX3_item_2 := dk_seg dksX3_item_1 22 rfl rfl
theorem dksX3_item_3 : cX3_item.data.toList.drop 68 = dktX3_item_3 := dk_seg dksX3_item_2 23 rfl rfl
theorem dX3_item_0 : decode cX3_item 0 = .ok (.iload_n 1, 1) := dk_27 (dk_at dksX3_item_0 0 rfl rfl)
theorem dX3_item_1 : decode cX3_item 1 = .ok (.invokestatic 275, 3) := dk_184 1 19 (dk_at dksX3_item_0 1 rfl rfl)
theorem dX3_item_4 : decode cX3_item 4 = .ok (.ifCond .ne 6, 3) := dk_154 0 6 (dk_at dksX3_item_0 4 rfl rfl)
theorem dX3_item_7 : decode cX3_item 7 = .ok (.ldc 86, 2) := dk_18 86 (dk_at dksX3_item_0 7 rfl rfl)
theorem dX3_item_9 : decode cX3_item 9 = .ok (.ireturn, 1) := dk_172 (dk_at dksX3_item_0 9 rfl rfl)
theorem dX3_item_10 : decode cX3_item 10 = .ok (.aload_n 0, 1) := dk_42 (dk_at dksX3_item_0 10 rfl rfl)
theorem dX3_item_11 : decode cX3_item 11 = .ok (.getfield 63, 3) := dk_180 0 63 (dk_at dksX3_item_0 11 rfl rfl)
theorem dX3_item_14 : decode cX3_item 14 = .ok (.iload_n 1, 1) := dk_27 (dk_at dksX3_item_0 14 rfl rfl)
theorem dX3_item_15 : decode cX3_item 15 = .ok (.iaload, 1) := dk_46 (dk_at dksX3_item_0 15 rfl rfl)
theorem dX3_item_16 : decode cX3_item 16 = .ok (.ifCond .ne 6, 3) := dk_154 0 6 (dk_at dksX3_item_0 16 rfl rfl)
theorem dX3_item_19 : decode cX3_item 19 = .ok (.ldc 195, 2) := dk_18 195 (dk_at dksX3_item_0 19 rfl rfl)
theorem dX3_item_21 : decode cX3_item 21 = .ok (.ireturn, 1) := dk_172 (dk_at dksX3_item_0 21 rfl rfl)
theorem dX3_item_22 : decode cX3_item 22 = .ok (.aload_n 0, 1) := dk_42 (dk_at dksX3_item_0 22 rfl rfl)
theorem dX3_item_23 : decode cX3_item 23 = .ok (.getfield 63, 3) := dk_180 0 63 (dk_at dksX3_item_1 0 rfl rfl)
theorem dX3_item_26 : decode cX3_item 26 = .ok (.iload_n 1, 1) := dk_27 (dk_at dksX3_item_1 3 rfl rfl)
theorem dX3_item_27 : decode cX3_item 27 = .ok (.iaload, 1) := dk_46 (dk_at dksX3_item_1 4 rfl rfl)
theorem dX3_item_28 : decode cX3_item 28 = .ok (.iconst 2, 1) := dk_5 (dk_at dksX3_item_1 5 rfl rfl)
theorem dX3_item_29 : decode cX3_item 29 = .ok (.if_icmp .eq 6, 3) := dk_159 0 6 (dk_at dksX3_item_1 6 rfl rfl)
theorem dX3_item_32 : decode cX3_item 32 = .ok (.ldc 132, 2) := dk_18 132 (dk_at dksX3_item_1 9 rfl rfl)
theorem dX3_item_34 : decode cX3_item 34 = .ok (.ireturn, 1) := dk_172 (dk_at dksX3_item_1 11 rfl rfl)
theorem dX3_item_35 : decode cX3_item 35 = .ok (.iload_n 2, 1) := dk_28 (dk_at dksX3_item_1 12 rfl rfl)
theorem dX3_item_36 : decode cX3_item 36 = .ok (.iconst 0, 1) := dk_3 (dk_at dksX3_item_1 13 rfl rfl)
theorem dX3_item_37 : decode cX3_item 37 = .ok (.aload_n 0, 1) := dk_42 (dk_at dksX3_item_1 14 rfl rfl)
theorem dX3_item_38 : decode cX3_item 38 = .ok (.getfield 66, 3) := dk_180 0 66 (dk_at dksX3_item_1 15 rfl rfl)
theorem dX3_item_41 : decode cX3_item 41 = .ok (.iload_n 1, 1) := dk_27 (dk_at dksX3_item_1 18 rfl rfl)
theorem dX3_item_42 : decode cX3_item 42 = .ok (.iaload, 1) := dk_46 (dk_at dksX3_item_1 19 rfl rfl)
theorem dX3_item_43 : decode cX3_item 43 = .ok (.iconst 1, 1) := dk_4 (dk_at dksX3_item_1 20 rfl rfl)
theorem dX3_item_44 : decode cX3_item 44 = .ok (.isub, 1) := dk_100 (dk_at dksX3_item_1 21 rfl rfl)
theorem dX3_item_45 : decode cX3_item 45 = .ok (.invokestatic 82, 3) := dk_184 0 82 (dk_at dksX3_item_2 0 rfl rfl)
theorem dX3_item_48 : decode cX3_item 48 = .ok (.ifCond .ne 7, 3) := dk_154 0 7 (dk_at dksX3_item_2 3 rfl rfl)
theorem dX3_item_51 : decode cX3_item 51 = .ok (.ldc_w 272, 3) := dk_19 1 16 (dk_at dksX3_item_2 6 rfl rfl)
theorem dX3_item_54 : decode cX3_item 54 = .ok (.ireturn, 1) := dk_172 (dk_at dksX3_item_2 9 rfl rfl)
theorem dX3_item_55 : decode cX3_item 55 = .ok (.aload_n 0, 1) := dk_42 (dk_at dksX3_item_2 10 rfl rfl)
theorem dX3_item_56 : decode cX3_item 56 = .ok (.getfield 72, 3) := dk_180 0 72 (dk_at dksX3_item_2 11 rfl rfl)
theorem dX3_item_59 : decode cX3_item 59 = .ok (.bipush 24, 2) := dk_16 24 (dk_at dksX3_item_2 14 rfl rfl)
theorem dX3_item_61 : decode cX3_item 61 = .ok (.iload_n 1, 1) := dk_27 (dk_at dksX3_item_2 16 rfl rfl)
theorem dX3_item_62 : decode cX3_item 62 = .ok (.imul, 1) := dk_104 (dk_at dksX3_item_2 17 rfl rfl)
theorem dX3_item_63 : decode cX3_item 63 = .ok (.iload_n 2, 1) := dk_28 (dk_at dksX3_item_2 18 rfl rfl)
theorem dX3_item_64 : decode cX3_item 64 = .ok (.iadd, 1) := dk_96 (dk_at dksX3_item_2 19 rfl rfl)
theorem dX3_item_65 : decode cX3_item 65 = .ok (.iaload, 1) := dk_46 (dk_at dksX3_item_2 20 rfl rfl)
theorem dX3_item_66 : decode cX3_item 66 = .ok (.istore_n 3, 1) := dk_62 (dk_at dksX3_item_2 21 rfl rfl)
theorem dX3_item_67 : decode cX3_item 67 = .ok (.iload_n 3, 1) := dk_29 (dk_at dksX3_item_2 22 rfl rfl)
theorem dX3_item_68 : decode cX3_item 68 = .ok (.ldc 81, 2) := dk_18 81 (dk_at dksX3_item_3 0 rfl rfl)
theorem dX3_item_70 : decode cX3_item 70 = .ok (.if_icmp .ne 8, 3) := dk_160 0 8 (dk_at dksX3_item_3 2 rfl rfl)
theorem dX3_item_73 : decode cX3_item 73 = .ok (.ldc 132, 2) := dk_18 132 (dk_at dksX3_item_3 5 rfl rfl)
theorem dX3_item_75 : decode cX3_item 75 = .ok (.goto 4, 3) := dk_167 0 4 (dk_at dksX3_item_3 7 rfl rfl)
theorem dX3_item_78 : decode cX3_item 78 = .ok (.iload_n 3, 1) := dk_29 (dk_at dksX3_item_3 10 rfl rfl)
theorem dX3_item_79 : decode cX3_item 79 = .ok (.ireturn, 1) := dk_172 (dk_at dksX3_item_3 11 rfl rfl)
abbrev cX3_rest : ByteArray := prog_22_method_88_code
def yX3_rest : MethodName := ⟨RX3, "rest", "(II)I"⟩
def dkwX3_rest_2 : List UInt8 := [160, 0, 7, 3, 167, 0, 11, 42, 180, 0, 66, 27, 46, 28, 112, 172]
abbrev dktX3_rest_2 : List UInt8 := dkwX3_rest_2 ++ []
def dkwX3_rest_1 : List UInt8 := [180, 0, 63, 27, 46, 6, 159, 0, 6, 18, 132, 172, 28, 154, 0, 9, 19, 1, 22, 167, 0, 20, 28, 2]
abbrev dktX3_rest_1 : List UInt8 := dkwX3_rest_1 ++ dktX3_rest_2
def dkwX3_rest_0 : List UInt8 := [27, 184, 1, 19, 154, 0, 6, 18, 86, 172, 42, 180, 0, 63, 27, 46, 154, 0, 6, 18, 195, 172, 42]
abbrev dktX3_rest_0 : List UInt8 := dkwX3_rest_0 ++ dktX3_rest_1
theorem dksX3_rest_0 : cX3_rest.data.toList.drop 0 = dktX3_rest_0 := by decide +kernel
theorem dksX3_rest_1 : cX3_rest.data.toList.drop 23 = dktX3_rest_1 := dk_seg dksX3_rest_0 23 rfl rfl
theorem dksX3_rest_2 : cX3_rest.data.toList.drop 47 = dktX3_rest_2 := dk_seg dksX3_rest_1 24 rfl rfl
theorem dX3_rest_0 : decode cX3_rest 0 = .ok (.iload_n 1, 1) := dk_27 (dk_at dksX3_rest_0 0 rfl rfl)
theorem dX3_rest_1 : decode cX3_rest 1 = .ok (.invokestatic 275, 3) := dk_184 1 19 (dk_at dksX3_rest_0 1 rfl rfl)
theorem dX3_rest_4 : decode cX3_rest 4 = .ok (.ifCond .ne 6, 3) := dk_154 0 6 (dk_at dksX3_rest_0 4 rfl rfl)
theorem dX3_rest_7 : decode cX3_rest 7 = .ok (.ldc 86, 2) := dk_18 86 (dk_at dksX3_rest_0 7 rfl rfl)
theorem dX3_rest_9 : decode cX3_rest 9 = .ok (.ireturn, 1) := dk_172 (dk_at dksX3_rest_0 9 rfl rfl)
theorem dX3_rest_10 : decode cX3_rest 10 = .ok (.aload_n 0, 1) := dk_42 (dk_at dksX3_rest_0 10 rfl rfl)
theorem dX3_rest_11 : decode cX3_rest 11 = .ok (.getfield 63, 3) := dk_180 0 63 (dk_at dksX3_rest_0 11 rfl rfl)
theorem dX3_rest_14 : decode cX3_rest 14 = .ok (.iload_n 1, 1) := dk_27 (dk_at dksX3_rest_0 14 rfl rfl)
theorem dX3_rest_15 : decode cX3_rest 15 = .ok (.iaload, 1) := dk_46 (dk_at dksX3_rest_0 15 rfl rfl)
theorem dX3_rest_16 : decode cX3_rest 16 = .ok (.ifCond .ne 6, 3) := dk_154 0 6 (dk_at dksX3_rest_0 16 rfl rfl)
theorem dX3_rest_19 : decode cX3_rest 19 = .ok (.ldc 195, 2) := dk_18 195 (dk_at dksX3_rest_0 19 rfl rfl)
theorem dX3_rest_21 : decode cX3_rest 21 = .ok (.ireturn, 1) := dk_172 (dk_at dksX3_rest_0 21 rfl rfl)
theorem dX3_rest_22 : decode cX3_rest 22 = .ok (.aload_n 0, 1) := dk_42 (dk_at dksX3_rest_0 22 rfl rfl)
theorem dX3_rest_23 : decode cX3_rest 23 = .ok (.getfield 63, 3) := dk_180 0 63 (dk_at dksX3_rest_1 0 rfl rfl)
theorem dX3_rest_26 : decode cX3_rest 26 = .ok (.iload_n 1, 1) := dk_27 (dk_at dksX3_rest_1 3 rfl rfl)
theorem dX3_rest_27 : decode cX3_rest 27 = .ok (.iaload, 1) := dk_46 (dk_at dksX3_rest_1 4 rfl rfl)
theorem dX3_rest_28 : decode cX3_rest 28 = .ok (.iconst 3, 1) := dk_6 (dk_at dksX3_rest_1 5 rfl rfl)
theorem dX3_rest_29 : decode cX3_rest 29 = .ok (.if_icmp .eq 6, 3) := dk_159 0 6 (dk_at dksX3_rest_1 6 rfl rfl)
theorem dX3_rest_32 : decode cX3_rest 32 = .ok (.ldc 132, 2) := dk_18 132 (dk_at dksX3_rest_1 9 rfl rfl)
theorem dX3_rest_34 : decode cX3_rest 34 = .ok (.ireturn, 1) := dk_172 (dk_at dksX3_rest_1 11 rfl rfl)
theorem dX3_rest_35 : decode cX3_rest 35 = .ok (.iload_n 2, 1) := dk_28 (dk_at dksX3_rest_1 12 rfl rfl)
theorem dX3_rest_36 : decode cX3_rest 36 = .ok (.ifCond .ne 9, 3) := dk_154 0 9 (dk_at dksX3_rest_1 13 rfl rfl)
theorem dX3_rest_39 : decode cX3_rest 39 = .ok (.ldc_w 278, 3) := dk_19 1 22 (dk_at dksX3_rest_1 16 rfl rfl)
theorem dX3_rest_42 : decode cX3_rest 42 = .ok (.goto 20, 3) := dk_167 0 20 (dk_at dksX3_rest_1 19 rfl rfl)
theorem dX3_rest_45 : decode cX3_rest 45 = .ok (.iload_n 2, 1) := dk_28 (dk_at dksX3_rest_1 22 rfl rfl)
theorem dX3_rest_46 : decode cX3_rest 46 = .ok (.iconst (-1), 1) := dk_2 (dk_at dksX3_rest_1 23 rfl rfl)
theorem dX3_rest_47 : decode cX3_rest 47 = .ok (.if_icmp .ne 7, 3) := dk_160 0 7 (dk_at dksX3_rest_2 0 rfl rfl)
theorem dX3_rest_50 : decode cX3_rest 50 = .ok (.iconst 0, 1) := dk_3 (dk_at dksX3_rest_2 3 rfl rfl)
theorem dX3_rest_51 : decode cX3_rest 51 = .ok (.goto 11, 3) := dk_167 0 11 (dk_at dksX3_rest_2 4 rfl rfl)
theorem dX3_rest_54 : decode cX3_rest 54 = .ok (.aload_n 0, 1) := dk_42 (dk_at dksX3_rest_2 7 rfl rfl)
theorem dX3_rest_55 : decode cX3_rest 55 = .ok (.getfield 66, 3) := dk_180 0 66 (dk_at dksX3_rest_2 8 rfl rfl)
theorem dX3_rest_58 : decode cX3_rest 58 = .ok (.iload_n 1, 1) := dk_27 (dk_at dksX3_rest_2 11 rfl rfl)
theorem dX3_rest_59 : decode cX3_rest 59 = .ok (.iaload, 1) := dk_46 (dk_at dksX3_rest_2 12 rfl rfl)
theorem dX3_rest_60 : decode cX3_rest 60 = .ok (.iload_n 2, 1) := dk_28 (dk_at dksX3_rest_2 13 rfl rfl)
theorem dX3_rest_61 : decode cX3_rest 61 = .ok (.irem, 1) := dk_112 (dk_at dksX3_rest_2 14 rfl rfl)
theorem dX3_rest_62 : decode cX3_rest 62 = .ok (.ireturn, 1) := dk_172 (dk_at dksX3_rest_2 15 rfl rfl)
abbrev cX3_tell : ByteArray := prog_22_method_89_code
def yX3_tell : MethodName := ⟨RX3, "tell", "(I)I"⟩
def dkwX3_tell_1 : List UInt8 := [180, 1, 23, 4, 96, 181, 1, 23, 42, 180, 1, 23, 172]
abbrev dktX3_tell_1 : List UInt8 := dkwX3_tell_1 ++ []
def dkwX3_tell_0 : List UInt8 := [42, 180, 1, 23, 16, 60, 160, 0, 6, 18, 87, 172, 42, 180, 0, 78, 42, 180, 1, 23, 27, 79, 42, 89]
abbrev dktX3_tell_0 : List UInt8 := dkwX3_tell_0 ++ dktX3_tell_1
theorem dksX3_tell_0 : cX3_tell.data.toList.drop 0 = dktX3_tell_0 := by decide +kernel
theorem dksX3_tell_1 : cX3_tell.data.toList.drop 24 = dktX3_tell_1 := dk_seg dksX3_tell_0 24 rfl rfl
theorem dX3_tell_0 : decode cX3_tell 0 = .ok (.aload_n 0, 1) := dk_42 (dk_at dksX3_tell_0 0 rfl rfl)
theorem dX3_tell_1 : decode cX3_tell 1 = .ok (.getfield 279, 3) := dk_180 1 23 (dk_at dksX3_tell_0 1 rfl rfl)
theorem dX3_tell_4 : decode cX3_tell 4 = .ok (.bipush 60, 2) := dk_16 60 (dk_at dksX3_tell_0 4 rfl rfl)
theorem dX3_tell_6 : decode cX3_tell 6 = .ok (.if_icmp .ne 6, 3) := dk_160 0 6 (dk_at dksX3_tell_0 6 rfl rfl)
theorem dX3_tell_9 : decode cX3_tell 9 = .ok (.ldc 87, 2) := dk_18 87 (dk_at dksX3_tell_0 9 rfl rfl)
theorem dX3_tell_11 : decode cX3_tell 11 = .ok (.ireturn, 1) := dk_172 (dk_at dksX3_tell_0 11 rfl rfl)
theorem dX3_tell_12 : decode cX3_tell 12 = .ok (.aload_n 0, 1) := dk_42 (dk_at dksX3_tell_0 12 rfl rfl)
theorem dX3_tell_13 : decode cX3_tell 13 = .ok (.getfield 78, 3) := dk_180 0 78 (dk_at dksX3_tell_0 13 rfl rfl)
theorem dX3_tell_16 : decode cX3_tell 16 = .ok (.aload_n 0, 1) := dk_42 (dk_at dksX3_tell_0 16 rfl rfl)
theorem dX3_tell_17 : decode cX3_tell 17 = .ok (.getfield 279, 3) := dk_180 1 23 (dk_at dksX3_tell_0 17 rfl rfl)
theorem dX3_tell_20 : decode cX3_tell 20 = .ok (.iload_n 1, 1) := dk_27 (dk_at dksX3_tell_0 20 rfl rfl)
theorem dX3_tell_21 : decode cX3_tell 21 = .ok (.iastore, 1) := dk_79 (dk_at dksX3_tell_0 21 rfl rfl)
theorem dX3_tell_22 : decode cX3_tell 22 = .ok (.aload_n 0, 1) := dk_42 (dk_at dksX3_tell_0 22 rfl rfl)
theorem dX3_tell_23 : decode cX3_tell 23 = .ok (.dup, 1) := dk_89 (dk_at dksX3_tell_0 23 rfl rfl)
theorem dX3_tell_24 : decode cX3_tell 24 = .ok (.getfield 279, 3) := dk_180 1 23 (dk_at dksX3_tell_1 0 rfl rfl)
theorem dX3_tell_27 : decode cX3_tell 27 = .ok (.iconst 1, 1) := dk_4 (dk_at dksX3_tell_1 3 rfl rfl)
theorem dX3_tell_28 : decode cX3_tell 28 = .ok (.iadd, 1) := dk_96 (dk_at dksX3_tell_1 4 rfl rfl)
theorem dX3_tell_29 : decode cX3_tell 29 = .ok (.putfield 279, 3) := dk_181 1 23 (dk_at dksX3_tell_1 5 rfl rfl)
theorem dX3_tell_32 : decode cX3_tell 32 = .ok (.aload_n 0, 1) := dk_42 (dk_at dksX3_tell_1 8 rfl rfl)
theorem dX3_tell_33 : decode cX3_tell 33 = .ok (.getfield 279, 3) := dk_180 1 23 (dk_at dksX3_tell_1 9 rfl rfl)
theorem dX3_tell_36 : decode cX3_tell 36 = .ok (.ireturn, 1) := dk_172 (dk_at dksX3_tell_1 12 rfl rfl)
abbrev cX3_check : ByteArray := prog_22_method_90_code
def yX3_check : MethodName := ⟨RX3, "check", "(I)I"⟩
def dkwX3_check_9 : List UInt8 := [21, 4, 96, 172]
abbrev dktX3_check_9 : List UInt8 := dkwX3_check_9 ++ []
def dkwX3_check_8 : List UInt8 := [180, 0, 9, 184, 1, 30, 21, 4, 28, 160, 0, 13, 21, 4, 29, 160, 0, 7, 3, 167, 0, 7, 4]
abbrev dktX3_check_8 : List UInt8 := dkwX3_check_8 ++ dktX3_check_9
def dkwX3_check_7 : List UInt8 := [160, 0, 7, 4, 167, 0, 4, 3, 96, 54, 4, 132, 5, 1, 167, 255, 159, 42, 180, 0, 16, 42]
abbrev dktX3_check_7 : List UInt8 := dkwX3_check_7 ++ dktX3_check_8
def dkwX3_check_6 : List UInt8 := [160, 0, 29, 21, 4, 28, 162, 0, 23, 42, 180, 0, 78, 21, 4, 46, 42, 180, 0, 9, 8, 46]
abbrev dktX3_check_6 : List UInt8 := dkwX3_check_6 ++ dktX3_check_7
def dkwX3_check_5 : List UInt8 := [182, 0, 174, 160, 0, 7, 4, 167, 0, 4, 3, 96, 54, 4, 21, 4, 21, 4, 5, 21, 5, 104, 4, 96]
abbrev dktX3_check_5 : List UInt8 := dkwX3_check_5 ++ dktX3_check_6
def dkwX3_check_4 : List UInt8 := [104, 160, 0, 86, 42, 182, 0, 168, 21, 4, 21, 4, 28, 162, 0, 21, 42, 180, 0, 78, 21, 4, 46, 42]
abbrev dktX3_check_4 : List UInt8 := dkwX3_check_4 ++ dktX3_check_5
def dkwX3_check_3 : List UInt8 := [184, 0, 103, 104, 62, 3, 54, 4, 3, 54, 5, 5, 21, 5, 104, 29, 162, 0, 95, 21, 4, 5, 21, 5]
abbrev dktX3_check_3 : List UInt8 := dkwX3_check_3 ++ dktX3_check_4
def dkwX3_check_2 : List UInt8 := [180, 0, 13, 42, 180, 0, 9, 184, 1, 30, 5, 17, 39, 15, 42, 180, 0, 9, 6, 46, 100, 3, 27]
abbrev dktX3_check_2 : List UInt8 := dkwX3_check_2 ++ dktX3_check_3
def dkwX3_check_1 : List UInt8 := [180, 1, 26, 154, 0, 7, 19, 1, 22, 172, 42, 180, 0, 9, 42, 180, 0, 16, 184, 1, 30, 42]
abbrev dktX3_check_1 : List UInt8 := dkwX3_check_1 ++ dktX3_check_2
def dkwX3_check_0 : List UInt8 := [42, 180, 1, 23, 61, 42, 3, 181, 1, 23, 27, 4, 16, 30, 184, 0, 82, 154, 0, 6, 18, 86, 172, 42]
abbrev dktX3_check_0 : List UInt8 := dkwX3_check_0 ++ dktX3_check_1
theorem dksX3_check_0 : cX3_check.data.toList.drop 0 = dktX3_check_0 := by decide +kernel
theorem dksX3_check_1 : cX3_check.data.toList.drop 24 = dktX3_check_1 := dk_seg dksX3_check_0 24 rfl rfl
theorem dksX3_check_2 : cX3_check.data.toList.drop 46 = dktX3_check_2 := dk_seg dksX3_check_1 22 rfl rfl
theorem dksX3_check_3 : cX3_check.data.toList.drop 69 = dktX3_check_3 := dk_seg dksX3_check_2 23 rfl rfl
theorem dksX3_check_4 : cX3_check.data.toList.drop 93 = dktX3_check_4 := dk_seg dksX3_check_3 24 rfl rfl
theorem dksX3_check_5 : cX3_check.data.toList.drop 117 = dktX3_check_5 := dk_seg dksX3_check_4 24 rfl rfl
theorem dksX3_check_6 : cX3_check.data.toList.drop 141 = dktX3_check_6 := dk_seg dksX3_check_5 24 rfl rfl
theorem dksX3_check_7 : cX3_check.data.toList.drop 163 = dktX3_check_7 := dk_seg dksX3_check_6 22 rfl rfl
theorem dksX3_check_8 : cX3_check.data.toList.drop 185 = dktX3_check_8 := dk_seg dksX3_check_7 22 rfl rfl
theorem dksX3_check_9 : cX3_check.data.toList.drop 208 = dktX3_check_9 := dk_seg dksX3_check_8 23 rfl rfl
theorem dX3_check_0 : decode cX3_check 0 = .ok (.aload_n 0, 1) := dk_42 (dk_at dksX3_check_0 0 rfl rfl)
theorem dX3_check_1 : decode cX3_check 1 = .ok (.getfield 279, 3) := dk_180 1 23 (dk_at dksX3_check_0 1 rfl rfl)
theorem dX3_check_4 : decode cX3_check 4 = .ok (.istore_n 2, 1) := dk_61 (dk_at dksX3_check_0 4 rfl rfl)
theorem dX3_check_5 : decode cX3_check 5 = .ok (.aload_n 0, 1) := dk_42 (dk_at dksX3_check_0 5 rfl rfl)
theorem dX3_check_6 : decode cX3_check 6 = .ok (.iconst 0, 1) := dk_3 (dk_at dksX3_check_0 6 rfl rfl)
theorem dX3_check_7 : decode cX3_check 7 = .ok (.putfield 279, 3) := dk_181 1 23 (dk_at dksX3_check_0 7 rfl rfl)
theorem dX3_check_10 : decode cX3_check 10 = .ok (.iload_n 1, 1) := dk_27 (dk_at dksX3_check_0 10 rfl rfl)
theorem dX3_check_11 : decode cX3_check 11 = .ok (.iconst 1, 1) := dk_4 (dk_at dksX3_check_0 11 rfl rfl)
theorem dX3_check_12 : decode cX3_check 12 = .ok (.bipush 30, 2) := dk_16 30 (dk_at dksX3_check_0 12 rfl rfl)
theorem dX3_check_14 : decode cX3_check 14 = .ok (.invokestatic 82, 3) := dk_184 0 82 (dk_at dksX3_check_0 14 rfl rfl)
theorem dX3_check_17 : decode cX3_check 17 = .ok (.ifCond .ne 6, 3) := dk_154 0 6 (dk_at dksX3_check_0 17 rfl rfl)
theorem dX3_check_20 : decode cX3_check 20 = .ok (.ldc 86, 2) := dk_18 86 (dk_at dksX3_check_0 20 rfl rfl)
theorem dX3_check_22 : decode cX3_check 22 = .ok (.ireturn, 1) := dk_172 (dk_at dksX3_check_0 22 rfl rfl)
theorem dX3_check_23 : decode cX3_check 23 = .ok (.aload_n 0, 1) := dk_42 (dk_at dksX3_check_0 23 rfl rfl)
theorem dX3_check_24 : decode cX3_check 24 = .ok (.getfield 282, 3) := dk_180 1 26 (dk_at dksX3_check_1 0 rfl rfl)
theorem dX3_check_27 : decode cX3_check 27 = .ok (.ifCond .ne 7, 3) := dk_154 0 7 (dk_at dksX3_check_1 3 rfl rfl)
theorem dX3_check_30 : decode cX3_check 30 = .ok (.ldc_w 278, 3) := dk_19 1 22 (dk_at dksX3_check_1 6 rfl rfl)
theorem dX3_check_33 : decode cX3_check 33 = .ok (.ireturn, 1) := dk_172 (dk_at dksX3_check_1 9 rfl rfl)
theorem dX3_check_34 : decode cX3_check 34 = .ok (.aload_n 0, 1) := dk_42 (dk_at dksX3_check_1 10 rfl rfl)
theorem dX3_check_35 : decode cX3_check 35 = .ok (.getfield 9, 3) := dk_180 0 9 (dk_at dksX3_check_1 11 rfl rfl)
theorem dX3_check_38 : decode cX3_check 38 = .ok (.aload_n 0, 1) := dk_42 (dk_at dksX3_check_1 14 rfl rfl)
theorem dX3_check_39 : decode cX3_check 39 = .ok (.getfield 16, 3) := dk_180 0 16 (dk_at dksX3_check_1 15 rfl rfl)
theorem dX3_check_42 : decode cX3_check 42 = .ok (.invokestatic 286, 3) := dk_184 1 30 (dk_at dksX3_check_1 18 rfl rfl)
theorem dX3_check_45 : decode cX3_check 45 = .ok (.aload_n 0, 1) := dk_42 (dk_at dksX3_check_1 21 rfl rfl)
theorem dX3_check_46 : decode cX3_check 46 = .ok (.getfield 13, 3) := dk_180 0 13 (dk_at dksX3_check_2 0 rfl rfl)
theorem dX3_check_49 : decode cX3_check 49 = .ok (.aload_n 0, 1) := dk_42 (dk_at dksX3_check_2 3 rfl rfl)
theorem dX3_check_50 : decode cX3_check 50 = .ok (.getfield 9, 3) := dk_180 0 9 (dk_at dksX3_check_2 4 rfl rfl)
theorem dX3_check_53 : decode cX3_check 53 = .ok (.invokestatic 286, 3) := dk_184 1 30 (dk_at dksX3_check_2 7 rfl rfl)
theorem dX3_check_56 : decode cX3_check 56 = .ok (.iconst 2, 1) := dk_5 (dk_at dksX3_check_2 10 rfl rfl)
theorem dX3_check_57 : decode cX3_check 57 = .ok (.sipush 9999, 3) := dk_17 39 15 (dk_at dksX3_check_2 11 rfl rfl)
theorem dX3_check_60 : decode cX3_check 60 = .ok (.aload_n 0, 1) := dk_42 (dk_at dksX3_check_2 14 rfl rfl)
theorem dX3_check_61 : decode cX3_check 61 = .ok (.getfield 9, 3) := dk_180 0 9 (dk_at dksX3_check_2 15 rfl rfl)
theorem dX3_check_64 : decode cX3_check 64 = .ok (.iconst 3, 1) := dk_6 (dk_at dksX3_check_2 18 rfl rfl)
theorem dX3_check_65 : decode cX3_check 65 = .ok (.iaload, 1) := dk_46 (dk_at dksX3_check_2 19 rfl rfl)
theorem dX3_check_66 : decode cX3_check 66 = .ok (.isub, 1) := dk_100 (dk_at dksX3_check_2 20 rfl rfl)
theorem dX3_check_67 : decode cX3_check 67 = .ok (.iconst 0, 1) := dk_3 (dk_at dksX3_check_2 21 rfl rfl)
theorem dX3_check_68 : decode cX3_check 68 = .ok (.iload_n 1, 1) := dk_27 (dk_at dksX3_check_2 22 rfl rfl)
theorem dX3_check_69 : decode cX3_check 69 = .ok (.invokestatic 103, 3) := dk_184 0 103 (dk_at dksX3_check_3 0 rfl rfl)
theorem dX3_check_72 : decode cX3_check 72 = .ok (.imul, 1) := dk_104 (dk_at dksX3_check_3 3 rfl rfl)
theorem dX3_check_73 : decode cX3_check 73 = .ok (.istore_n 3, 1) := dk_62 (dk_at dksX3_check_3 4 rfl rfl)
theorem dX3_check_74 : decode cX3_check 74 = .ok (.iconst 0, 1) := dk_3 (dk_at dksX3_check_3 5 rfl rfl)
theorem dX3_check_75 : decode cX3_check 75 = .ok (.istore 4, 2) := dk_54 4 (dk_at dksX3_check_3 6 rfl rfl)
theorem dX3_check_77 : decode cX3_check 77 = .ok (.iconst 0, 1) := dk_3 (dk_at dksX3_check_3 8 rfl rfl)
theorem dX3_check_78 : decode cX3_check 78 = .ok (.istore 5, 2) := dk_54 5 (dk_at dksX3_check_3 9 rfl rfl)
theorem dX3_check_80 : decode cX3_check 80 = .ok (.iconst 2, 1) := dk_5 (dk_at dksX3_check_3 11 rfl rfl)
theorem dX3_check_81 : decode cX3_check 81 = .ok (.iload 5, 2) := dk_21 5 (dk_at dksX3_check_3 12 rfl rfl)
theorem dX3_check_83 : decode cX3_check 83 = .ok (.imul, 1) := dk_104 (dk_at dksX3_check_3 14 rfl rfl)
theorem dX3_check_84 : decode cX3_check 84 = .ok (.iload_n 3, 1) := dk_29 (dk_at dksX3_check_3 15 rfl rfl)
theorem dX3_check_85 : decode cX3_check 85 = .ok (.if_icmp .ge 95, 3) := dk_162 0 95 (dk_at dksX3_check_3 16 rfl rfl)
theorem dX3_check_88 : decode cX3_check 88 = .ok (.iload 4, 2) := dk_21 4 (dk_at dksX3_check_3 19 rfl rfl)
theorem dX3_check_90 : decode cX3_check 90 = .ok (.iconst 2, 1) := dk_5 (dk_at dksX3_check_3 21 rfl rfl)
theorem dX3_check_91 : decode cX3_check 91 = .ok (.iload 5, 2) := dk_21 5 (dk_at dksX3_check_3 22 rfl rfl)
theorem dX3_check_93 : decode cX3_check 93 = .ok (.imul, 1) := dk_104 (dk_at dksX3_check_4 0 rfl rfl)
theorem dX3_check_94 : decode cX3_check 94 = .ok (.if_icmp .ne 86, 3) := dk_160 0 86 (dk_at dksX3_check_4 1 rfl rfl)
theorem dX3_check_97 : decode cX3_check 97 = .ok (.aload_n 0, 1) := dk_42 (dk_at dksX3_check_4 4 rfl rfl)
theorem dX3_check_98 : decode cX3_check 98 = .ok (.invokevirtual 168, 3) := dk_182 0 168 (dk_at dksX3_check_4 5 rfl rfl)
theorem dX3_check_101 : decode cX3_check 101 = .ok (.iload 4, 2) := dk_21 4 (dk_at dksX3_check_4 8 rfl rfl)
theorem dX3_check_103 : decode cX3_check 103 = .ok (.iload 4, 2) := dk_21 4 (dk_at dksX3_check_4 10 rfl rfl)
theorem dX3_check_105 : decode cX3_check 105 = .ok (.iload_n 2, 1) := dk_28 (dk_at dksX3_check_4 12 rfl rfl)
theorem dX3_check_106 : decode cX3_check 106 = .ok (.if_icmp .ge 21, 3) := dk_162 0 21 (dk_at dksX3_check_4 13 rfl rfl)
theorem dX3_check_109 : decode cX3_check 109 = .ok (.aload_n 0, 1) := dk_42 (dk_at dksX3_check_4 16 rfl rfl)
theorem dX3_check_110 : decode cX3_check 110 = .ok (.getfield 78, 3) := dk_180 0 78 (dk_at dksX3_check_4 17 rfl rfl)
theorem dX3_check_113 : decode cX3_check 113 = .ok (.iload 4, 2) := dk_21 4 (dk_at dksX3_check_4 20 rfl rfl)
theorem dX3_check_115 : decode cX3_check 115 = .ok (.iaload, 1) := dk_46 (dk_at dksX3_check_4 22 rfl rfl)
theorem dX3_check_116 : decode cX3_check 116 = .ok (.aload_n 0, 1) := dk_42 (dk_at dksX3_check_4 23 rfl rfl)
theorem dX3_check_117 : decode cX3_check 117 = .ok (.invokevirtual 174, 3) := dk_182 0 174 (dk_at dksX3_check_5 0 rfl rfl)
theorem dX3_check_120 : decode cX3_check 120 = .ok (.if_icmp .ne 7, 3) := dk_160 0 7 (dk_at dksX3_check_5 3 rfl rfl)
theorem dX3_check_123 : decode cX3_check 123 = .ok (.iconst 1, 1) := dk_4 (dk_at dksX3_check_5 6 rfl rfl)
theorem dX3_check_124 : decode cX3_check 124 = .ok (.goto 4, 3) := dk_167 0 4 (dk_at dksX3_check_5 7 rfl rfl)
theorem dX3_check_127 : decode cX3_check 127 = .ok (.iconst 0, 1) := dk_3 (dk_at dksX3_check_5 10 rfl rfl)
theorem dX3_check_128 : decode cX3_check 128 = .ok (.iadd, 1) := dk_96 (dk_at dksX3_check_5 11 rfl rfl)
theorem dX3_check_129 : decode cX3_check 129 = .ok (.istore 4, 2) := dk_54 4 (dk_at dksX3_check_5 12 rfl rfl)
theorem dX3_check_131 : decode cX3_check 131 = .ok (.iload 4, 2) := dk_21 4 (dk_at dksX3_check_5 14 rfl rfl)
theorem dX3_check_133 : decode cX3_check 133 = .ok (.iload 4, 2) := dk_21 4 (dk_at dksX3_check_5 16 rfl rfl)
theorem dX3_check_135 : decode cX3_check 135 = .ok (.iconst 2, 1) := dk_5 (dk_at dksX3_check_5 18 rfl rfl)
theorem dX3_check_136 : decode cX3_check 136 = .ok (.iload 5, 2) := dk_21 5 (dk_at dksX3_check_5 19 rfl rfl)
theorem dX3_check_138 : decode cX3_check 138 = .ok (.imul, 1) := dk_104 (dk_at dksX3_check_5 21 rfl rfl)
theorem dX3_check_139 : decode cX3_check 139 = .ok (.iconst 1, 1) := dk_4 (dk_at dksX3_check_5 22 rfl rfl)
theorem dX3_check_140 : decode cX3_check 140 = .ok (.iadd, 1) := dk_96 (dk_at dksX3_check_5 23 rfl rfl)
theorem dX3_check_141 : decode cX3_check 141 = .ok (.if_icmp .ne 29, 3) := dk_160 0 29 (dk_at dksX3_check_6 0 rfl rfl)
theorem dX3_check_144 : decode cX3_check 144 = .ok (.iload 4, 2) := dk_21 4 (dk_at dksX3_check_6 3 rfl rfl)
theorem dX3_check_146 : decode cX3_check 146 = .ok (.iload_n 2, 1) := dk_28 (dk_at dksX3_check_6 5 rfl rfl)
theorem dX3_check_147 : decode cX3_check 147 = .ok (.if_icmp .ge 23, 3) := dk_162 0 23 (dk_at dksX3_check_6 6 rfl rfl)
theorem dX3_check_150 : decode cX3_check 150 = .ok (.aload_n 0, 1) := dk_42 (dk_at dksX3_check_6 9 rfl rfl)
theorem dX3_check_151 : decode cX3_check 151 = .ok (.getfield 78, 3) := dk_180 0 78 (dk_at dksX3_check_6 10 rfl rfl)
theorem dX3_check_154 : decode cX3_check 154 = .ok (.iload 4, 2) := dk_21 4 (dk_at dksX3_check_6 13 rfl rfl)
theorem dX3_check_156 : decode cX3_check 156 = .ok (.iaload, 1) := dk_46 (dk_at dksX3_check_6 15 rfl rfl)
theorem dX3_check_157 : decode cX3_check 157 = .ok (.aload_n 0, 1) := dk_42 (dk_at dksX3_check_6 16 rfl rfl)
theorem dX3_check_158 : decode cX3_check 158 = .ok (.getfield 9, 3) := dk_180 0 9 (dk_at dksX3_check_6 17 rfl rfl)
theorem dX3_check_161 : decode cX3_check 161 = .ok (.iconst 5, 1) := dk_8 (dk_at dksX3_check_6 20 rfl rfl)
theorem dX3_check_162 : decode cX3_check 162 = .ok (.iaload, 1) := dk_46 (dk_at dksX3_check_6 21 rfl rfl)
theorem dX3_check_163 : decode cX3_check 163 = .ok (.if_icmp .ne 7, 3) := dk_160 0 7 (dk_at dksX3_check_7 0 rfl rfl)
theorem dX3_check_166 : decode cX3_check 166 = .ok (.iconst 1, 1) := dk_4 (dk_at dksX3_check_7 3 rfl rfl)
theorem dX3_check_167 : decode cX3_check 167 = .ok (.goto 4, 3) := dk_167 0 4 (dk_at dksX3_check_7 4 rfl rfl)
theorem dX3_check_170 : decode cX3_check 170 = .ok (.iconst 0, 1) := dk_3 (dk_at dksX3_check_7 7 rfl rfl)
theorem dX3_check_171 : decode cX3_check 171 = .ok (.iadd, 1) := dk_96 (dk_at dksX3_check_7 8 rfl rfl)
theorem dX3_check_172 : decode cX3_check 172 = .ok (.istore 4, 2) := dk_54 4 (dk_at dksX3_check_7 9 rfl rfl)
theorem dX3_check_174 : decode cX3_check 174 = .ok (.iinc 5 1, 3) := dk_132 5 1 (dk_at dksX3_check_7 11 rfl rfl)
theorem dX3_check_177 : decode cX3_check 177 = .ok (.goto (-97), 3) := dk_167 255 159 (dk_at dksX3_check_7 14 rfl rfl)
theorem dX3_check_180 : decode cX3_check 180 = .ok (.aload_n 0, 1) := dk_42 (dk_at dksX3_check_7 17 rfl rfl)
theorem dX3_check_181 : decode cX3_check 181 = .ok (.getfield 16, 3) := dk_180 0 16 (dk_at dksX3_check_7 18 rfl rfl)
theorem dX3_check_184 : decode cX3_check 184 = .ok (.aload_n 0, 1) := dk_42 (dk_at dksX3_check_7 21 rfl rfl)
theorem dX3_check_185 : decode cX3_check 185 = .ok (.getfield 9, 3) := dk_180 0 9 (dk_at dksX3_check_8 0 rfl rfl)
theorem dX3_check_188 : decode cX3_check 188 = .ok (.invokestatic 286, 3) := dk_184 1 30 (dk_at dksX3_check_8 3 rfl rfl)
theorem dX3_check_191 : decode cX3_check 191 = .ok (.iload 4, 2) := dk_21 4 (dk_at dksX3_check_8 6 rfl rfl)
theorem dX3_check_193 : decode cX3_check 193 = .ok (.iload_n 2, 1) := dk_28 (dk_at dksX3_check_8 8 rfl rfl)
theorem dX3_check_194 : decode cX3_check 194 = .ok (.if_icmp .ne 13, 3) := dk_160 0 13 (dk_at dksX3_check_8 9 rfl rfl)
theorem dX3_check_197 : decode cX3_check 197 = .ok (.iload 4, 2) := dk_21 4 (dk_at dksX3_check_8 12 rfl rfl)
theorem dX3_check_199 : decode cX3_check 199 = .ok (.iload_n 3, 1) := dk_29 (dk_at dksX3_check_8 14 rfl rfl)
theorem dX3_check_200 : decode cX3_check 200 = .ok (.if_icmp .ne 7, 3) := dk_160 0 7 (dk_at dksX3_check_8 15 rfl rfl)
theorem dX3_check_203 : decode cX3_check 203 = .ok (.iconst 0, 1) := dk_3 (dk_at dksX3_check_8 18 rfl rfl)
theorem dX3_check_204 : decode cX3_check 204 = .ok (.goto 7, 3) := dk_167 0 7 (dk_at dksX3_check_8 19 rfl rfl)
theorem dX3_check_207 : decode cX3_check 207 = .ok (.iconst 1, 1) := dk_4 (dk_at dksX3_check_8 22 rfl rfl)
theorem dX3_check_208 : decode cX3_check 208 = .ok (.iload 4, 2) := dk_21 4 (dk_at dksX3_check_9 0 rfl rfl)
theorem dX3_check_210 : decode cX3_check 210 = .ok (.iadd, 1) := dk_96 (dk_at dksX3_check_9 2 rfl rfl)
theorem dX3_check_211 : decode cX3_check 211 = .ok (.ireturn, 1) := dk_172 (dk_at dksX3_check_9 3 rfl rfl)
abbrev cX3_copyAll : ByteArray := prog_22_method_4_code
def yX3_copyAll : MethodName := ⟨RX3, "copyAll", "([I[I)V"⟩
def dkwX3_copyAll_0 : List UInt8 := [3, 61, 28, 17, 5, 199, 162, 0, 15, 43, 28, 42, 28, 46, 79, 132, 2, 1, 167, 255, 240, 177]
abbrev dktX3_copyAll_0 : List UInt8 := dkwX3_copyAll_0 ++ []
theorem dksX3_copyAll_0 : cX3_copyAll.data.toList.drop 0 = dktX3_copyAll_0 := by decide +kernel
theorem dX3_copyAll_0 : decode cX3_copyAll 0 = .ok (.iconst 0, 1) := dk_3 (dk_at dksX3_copyAll_0 0 rfl rfl)
theorem dX3_copyAll_1 : decode cX3_copyAll 1 = .ok (.istore_n 2, 1) := dk_61 (dk_at dksX3_copyAll_0 1 rfl rfl)
theorem dX3_copyAll_2 : decode cX3_copyAll 2 = .ok (.iload_n 2, 1) := dk_28 (dk_at dksX3_copyAll_0 2 rfl rfl)
theorem dX3_copyAll_3 : decode cX3_copyAll 3 = .ok (.sipush 1479, 3) := dk_17 5 199 (dk_at dksX3_copyAll_0 3 rfl rfl)
theorem dX3_copyAll_6 : decode cX3_copyAll 6 = .ok (.if_icmp .ge 15, 3) := dk_162 0 15 (dk_at dksX3_copyAll_0 6 rfl rfl)
theorem dX3_copyAll_9 : decode cX3_copyAll 9 = .ok (.aload_n 1, 1) := dk_43 (dk_at dksX3_copyAll_0 9 rfl rfl)
theorem dX3_copyAll_10 : decode cX3_copyAll 10 = .ok (.iload_n 2, 1) := dk_28 (dk_at dksX3_copyAll_0 10 rfl rfl)
theorem dX3_copyAll_11 : decode cX3_copyAll 11 = .ok (.aload_n 0, 1) := dk_42 (dk_at dksX3_copyAll_0 11 rfl rfl)
theorem dX3_copyAll_12 : decode cX3_copyAll 12 = .ok (.iload_n 2, 1) := dk_28 (dk_at dksX3_copyAll_0 12 rfl rfl)
theorem dX3_copyAll_13 : decode cX3_copyAll 13 = .ok (.iaload, 1) := dk_46 (dk_at dksX3_copyAll_0 13 rfl rfl)
theorem dX3_copyAll_14 : decode cX3_copyAll 14 = .ok (.iastore, 1) := dk_79 (dk_at dksX3_copyAll_0 14 rfl rfl)
theorem dX3_copyAll_15 : decode cX3_copyAll 15 = .ok (.iinc 2 1, 3) := dk_132 2 1 (dk_at dksX3_copyAll_0 15 rfl rfl)
theorem dX3_copyAll_18 : decode cX3_copyAll 18 = .ok (.goto (-16), 3) := dk_167 255 240 (dk_at dksX3_copyAll_0 18 rfl rfl)
theorem dX3_copyAll_21 : decode cX3_copyAll 21 = .ok (.return_, 1) := dk_177 (dk_at dksX3_copyAll_0 21 rfl rfl)
abbrev cX3_keep : ByteArray := prog_22_method_91_code
def yX3_keep : MethodName := ⟨RX3, "keep", "()I"⟩
def dkwX3_keep_0 : List UInt8 := [42, 180, 0, 9, 42, 180, 0, 13, 184, 1, 30, 42, 4, 181, 1, 26, 42, 180, 0, 9, 4, 46, 172]
abbrev dktX3_keep_0 : List UInt8 := dkwX3_keep_0 ++ []
theorem dksX3_keep_0 : cX3_keep.data.toList.drop 0 = dktX3_keep_0 := by decide +kernel
theorem dX3_keep_0 : decode cX3_keep 0 = .ok (.aload_n 0, 1) := dk_42 (dk_at dksX3_keep_0 0 rfl rfl)
theorem dX3_keep_1 : decode cX3_keep 1 = .ok (.getfield 9, 3) := dk_180 0 9 (dk_at dksX3_keep_0 1 rfl rfl)
theorem dX3_keep_4 : decode cX3_keep 4 = .ok (.aload_n 0, 1) := dk_42 (dk_at dksX3_keep_0 4 rfl rfl)
theorem dX3_keep_5 : decode cX3_keep 5 = .ok (.getfield 13, 3) := dk_180 0 13 (dk_at dksX3_keep_0 5 rfl rfl)
theorem dX3_keep_8 : decode cX3_keep 8 = .ok (.invokestatic 286, 3) := dk_184 1 30 (dk_at dksX3_keep_0 8 rfl rfl)
theorem dX3_keep_11 : decode cX3_keep 11 = .ok (.aload_n 0, 1) := dk_42 (dk_at dksX3_keep_0 11 rfl rfl)
theorem dX3_keep_12 : decode cX3_keep 12 = .ok (.iconst 1, 1) := dk_4 (dk_at dksX3_keep_0 12 rfl rfl)
theorem dX3_keep_13 : decode cX3_keep 13 = .ok (.putfield 282, 3) := dk_181 1 26 (dk_at dksX3_keep_0 13 rfl rfl)
theorem dX3_keep_16 : decode cX3_keep 16 = .ok (.aload_n 0, 1) := dk_42 (dk_at dksX3_keep_0 16 rfl rfl)
theorem dX3_keep_17 : decode cX3_keep 17 = .ok (.getfield 9, 3) := dk_180 0 9 (dk_at dksX3_keep_0 17 rfl rfl)
theorem dX3_keep_20 : decode cX3_keep 20 = .ok (.iconst 1, 1) := dk_4 (dk_at dksX3_keep_0 20 rfl rfl)
theorem dX3_keep_21 : decode cX3_keep 21 = .ok (.iaload, 1) := dk_46 (dk_at dksX3_keep_0 21 rfl rfl)
theorem dX3_keep_22 : decode cX3_keep 22 = .ok (.ireturn, 1) := dk_172 (dk_at dksX3_keep_0 22 rfl rfl)
abbrev cX3_back : ByteArray := prog_22_method_92_code
def yX3_back : MethodName := ⟨RX3, "back", "()I"⟩
def dkwX3_back_1 : List UInt8 := [180, 0, 9, 4, 46, 172]
abbrev dktX3_back_1 : List UInt8 := dkwX3_back_1 ++ []
def dkwX3_back_0 : List UInt8 := [42, 180, 1, 26, 154, 0, 7, 19, 1, 22, 172, 42, 180, 0, 13, 42, 180, 0, 9, 184, 1, 30, 42]
abbrev dktX3_back_0 : List UInt8 := dkwX3_back_0 ++ dktX3_back_1
theorem dksX3_back_0 : cX3_back.data.toList.drop 0 = dktX3_back_0 := by decide +kernel
theorem dksX3_back_1 : cX3_back.data.toList.drop 23 = dktX3_back_1 := dk_seg dksX3_back_0 23 rfl rfl
theorem dX3_back_0 : decode cX3_back 0 = .ok (.aload_n 0, 1) := dk_42 (dk_at dksX3_back_0 0 rfl rfl)
theorem dX3_back_1 : decode cX3_back 1 = .ok (.getfield 282, 3) := dk_180 1 26 (dk_at dksX3_back_0 1 rfl rfl)
theorem dX3_back_4 : decode cX3_back 4 = .ok (.ifCond .ne 7, 3) := dk_154 0 7 (dk_at dksX3_back_0 4 rfl rfl)
theorem dX3_back_7 : decode cX3_back 7 = .ok (.ldc_w 278, 3) := dk_19 1 22 (dk_at dksX3_back_0 7 rfl rfl)
theorem dX3_back_10 : decode cX3_back 10 = .ok (.ireturn, 1) := dk_172 (dk_at dksX3_back_0 10 rfl rfl)
theorem dX3_back_11 : decode cX3_back 11 = .ok (.aload_n 0, 1) := dk_42 (dk_at dksX3_back_0 11 rfl rfl)
theorem dX3_back_12 : decode cX3_back 12 = .ok (.getfield 13, 3) := dk_180 0 13 (dk_at dksX3_back_0 12 rfl rfl)
theorem dX3_back_15 : decode cX3_back 15 = .ok (.aload_n 0, 1) := dk_42 (dk_at dksX3_back_0 15 rfl rfl)
theorem dX3_back_16 : decode cX3_back 16 = .ok (.getfield 9, 3) := dk_180 0 9 (dk_at dksX3_back_0 16 rfl rfl)
theorem dX3_back_19 : decode cX3_back 19 = .ok (.invokestatic 286, 3) := dk_184 1 30 (dk_at dksX3_back_0 19 rfl rfl)
theorem dX3_back_22 : decode cX3_back 22 = .ok (.aload_n 0, 1) := dk_42 (dk_at dksX3_back_0 22 rfl rfl)
theorem dX3_back_23 : decode cX3_back 23 = .ok (.getfield 9, 3) := dk_180 0 9 (dk_at dksX3_back_1 0 rfl rfl)
theorem dX3_back_26 : decode cX3_back 26 = .ok (.iconst 1, 1) := dk_4 (dk_at dksX3_back_1 3 rfl rfl)
theorem dX3_back_27 : decode cX3_back 27 = .ok (.iaload, 1) := dk_46 (dk_at dksX3_back_1 4 rfl rfl)
theorem dX3_back_28 : decode cX3_back 28 = .ok (.ireturn, 1) := dk_172 (dk_at dksX3_back_1 5 rfl rfl)
abbrev cX3_count : ByteArray := prog_22_method_94_code
def yX3_count : MethodName := ⟨RX3, "count", "(I)I"⟩
def dkwX3_count_4 : List UInt8 := [42, 180, 0, 203, 172, 42, 180, 0, 9, 3, 46, 172, 18, 86, 172]
abbrev dktX3_count_4 : List UInt8 := dkwX3_count_4 ++ []
def dkwX3_count_3 : List UInt8 := [180, 0, 9, 7, 46, 172, 42, 182, 1, 34, 172, 42, 180, 0, 9, 16, 6, 46, 172, 42, 180, 1, 23, 172]
abbrev dktX3_count_3 : List UInt8 := dkwX3_count_3 ++ dktX3_count_4
def dkwX3_count_2 : List UInt8 := [42, 180, 0, 9, 4, 46, 172, 42, 180, 0, 9, 5, 46, 172, 42, 180, 0, 9, 6, 46, 172, 42]
abbrev dktX3_count_2 : List UInt8 := dkwX3_count_2 ++ dktX3_count_3
def dkwX3_count_1 : List UInt8 := [170, 0, 0, 0, 0, 0, 109, 0, 0, 0, 0, 0, 0, 0, 8, 0, 0, 0, 51, 0, 0, 0, 58, 0, 0, 0, 65, 0, 0, 0, 72, 0, 0, 0, 79, 0, 0, 0, 84, 0, 0, 0, 92, 0, 0, 0, 97, 0, 0, 0, 102]
abbrev dktX3_count_1 : List UInt8 := dkwX3_count_1 ++ dktX3_count_2
def dkwX3_count_0 : List UInt8 := [27]
abbrev dktX3_count_0 : List UInt8 := dkwX3_count_0 ++ dktX3_count_1
theorem dksX3_count_0 : cX3_count.data.toList.drop 0 = dktX3_count_0 := by decide +kernel
theorem dksX3_count_1 : cX3_count.data.toList.drop 1 = dktX3_count_1 := dk_seg dksX3_count_0 1 rfl rfl
theorem dksX3_count_2 : cX3_count.data.toList.drop 52 = dktX3_count_2 := dk_seg dksX3_count_1 51 rfl rfl
theorem dksX3_count_3 : cX3_count.data.toList.drop 74 = dktX3_count_3 := dk_seg dksX3_count_2 22 rfl rfl
theorem dksX3_count_4 : cX3_count.data.toList.drop 98 = dktX3_count_4 := dk_seg dksX3_count_3 24 rfl rfl
theorem dX3_count_0 : decode cX3_count 0 = .ok (.iload_n 1, 1) := dk_27 (dk_at dksX3_count_0 0 rfl rfl)
theorem dX3_count_1 : decode cX3_count 1 = .ok (.tableswitch 109 0 8 #[51, 58, 65, 72, 79, 84, 92, 97, 102], 51) := by decide +kernel
theorem dX3_count_52 : decode cX3_count 52 = .ok (.aload_n 0, 1) := dk_42 (dk_at dksX3_count_2 0 rfl rfl)
theorem dX3_count_53 : decode cX3_count 53 = .ok (.getfield 9, 3) := dk_180 0 9 (dk_at dksX3_count_2 1 rfl rfl)
theorem dX3_count_56 : decode cX3_count 56 = .ok (.iconst 1, 1) := dk_4 (dk_at dksX3_count_2 4 rfl rfl)
theorem dX3_count_57 : decode cX3_count 57 = .ok (.iaload, 1) := dk_46 (dk_at dksX3_count_2 5 rfl rfl)
theorem dX3_count_58 : decode cX3_count 58 = .ok (.ireturn, 1) := dk_172 (dk_at dksX3_count_2 6 rfl rfl)
theorem dX3_count_59 : decode cX3_count 59 = .ok (.aload_n 0, 1) := dk_42 (dk_at dksX3_count_2 7 rfl rfl)
theorem dX3_count_60 : decode cX3_count 60 = .ok (.getfield 9, 3) := dk_180 0 9 (dk_at dksX3_count_2 8 rfl rfl)
theorem dX3_count_63 : decode cX3_count 63 = .ok (.iconst 2, 1) := dk_5 (dk_at dksX3_count_2 11 rfl rfl)
theorem dX3_count_64 : decode cX3_count 64 = .ok (.iaload, 1) := dk_46 (dk_at dksX3_count_2 12 rfl rfl)
theorem dX3_count_65 : decode cX3_count 65 = .ok (.ireturn, 1) := dk_172 (dk_at dksX3_count_2 13 rfl rfl)
theorem dX3_count_66 : decode cX3_count 66 = .ok (.aload_n 0, 1) := dk_42 (dk_at dksX3_count_2 14 rfl rfl)
theorem dX3_count_67 : decode cX3_count 67 = .ok (.getfield 9, 3) := dk_180 0 9 (dk_at dksX3_count_2 15 rfl rfl)
theorem dX3_count_70 : decode cX3_count 70 = .ok (.iconst 3, 1) := dk_6 (dk_at dksX3_count_2 18 rfl rfl)
theorem dX3_count_71 : decode cX3_count 71 = .ok (.iaload, 1) := dk_46 (dk_at dksX3_count_2 19 rfl rfl)
theorem dX3_count_72 : decode cX3_count 72 = .ok (.ireturn, 1) := dk_172 (dk_at dksX3_count_2 20 rfl rfl)
theorem dX3_count_73 : decode cX3_count 73 = .ok (.aload_n 0, 1) := dk_42 (dk_at dksX3_count_2 21 rfl rfl)
theorem dX3_count_74 : decode cX3_count 74 = .ok (.getfield 9, 3) := dk_180 0 9 (dk_at dksX3_count_3 0 rfl rfl)
theorem dX3_count_77 : decode cX3_count 77 = .ok (.iconst 4, 1) := dk_7 (dk_at dksX3_count_3 3 rfl rfl)
theorem dX3_count_78 : decode cX3_count 78 = .ok (.iaload, 1) := dk_46 (dk_at dksX3_count_3 4 rfl rfl)
theorem dX3_count_79 : decode cX3_count 79 = .ok (.ireturn, 1) := dk_172 (dk_at dksX3_count_3 5 rfl rfl)
theorem dX3_count_80 : decode cX3_count 80 = .ok (.aload_n 0, 1) := dk_42 (dk_at dksX3_count_3 6 rfl rfl)
theorem dX3_count_81 : decode cX3_count 81 = .ok (.invokevirtual 290, 3) := dk_182 1 34 (dk_at dksX3_count_3 7 rfl rfl)
theorem dX3_count_84 : decode cX3_count 84 = .ok (.ireturn, 1) := dk_172 (dk_at dksX3_count_3 10 rfl rfl)
theorem dX3_count_85 : decode cX3_count 85 = .ok (.aload_n 0, 1) := dk_42 (dk_at dksX3_count_3 11 rfl rfl)
theorem dX3_count_86 : decode cX3_count 86 = .ok (.getfield 9, 3) := dk_180 0 9 (dk_at dksX3_count_3 12 rfl rfl)
theorem dX3_count_89 : decode cX3_count 89 = .ok (.bipush 6, 2) := dk_16 6 (dk_at dksX3_count_3 15 rfl rfl)
theorem dX3_count_91 : decode cX3_count 91 = .ok (.iaload, 1) := dk_46 (dk_at dksX3_count_3 17 rfl rfl)
theorem dX3_count_92 : decode cX3_count 92 = .ok (.ireturn, 1) := dk_172 (dk_at dksX3_count_3 18 rfl rfl)
theorem dX3_count_93 : decode cX3_count 93 = .ok (.aload_n 0, 1) := dk_42 (dk_at dksX3_count_3 19 rfl rfl)
theorem dX3_count_94 : decode cX3_count 94 = .ok (.getfield 279, 3) := dk_180 1 23 (dk_at dksX3_count_3 20 rfl rfl)
theorem dX3_count_97 : decode cX3_count 97 = .ok (.ireturn, 1) := dk_172 (dk_at dksX3_count_3 23 rfl rfl)
theorem dX3_count_98 : decode cX3_count 98 = .ok (.aload_n 0, 1) := dk_42 (dk_at dksX3_count_4 0 rfl rfl)
theorem dX3_count_99 : decode cX3_count 99 = .ok (.getfield 203, 3) := dk_180 0 203 (dk_at dksX3_count_4 1 rfl rfl)
theorem dX3_count_102 : decode cX3_count 102 = .ok (.ireturn, 1) := dk_172 (dk_at dksX3_count_4 4 rfl rfl)
theorem dX3_count_103 : decode cX3_count 103 = .ok (.aload_n 0, 1) := dk_42 (dk_at dksX3_count_4 5 rfl rfl)
theorem dX3_count_104 : decode cX3_count 104 = .ok (.getfield 9, 3) := dk_180 0 9 (dk_at dksX3_count_4 6 rfl rfl)
theorem dX3_count_107 : decode cX3_count 107 = .ok (.iconst 0, 1) := dk_3 (dk_at dksX3_count_4 9 rfl rfl)
theorem dX3_count_108 : decode cX3_count 108 = .ok (.iaload, 1) := dk_46 (dk_at dksX3_count_4 10 rfl rfl)
theorem dX3_count_109 : decode cX3_count 109 = .ok (.ireturn, 1) := dk_172 (dk_at dksX3_count_4 11 rfl rfl)
theorem dX3_count_110 : decode cX3_count 110 = .ok (.ldc 86, 2) := dk_18 86 (dk_at dksX3_count_4 12 rfl rfl)
theorem dX3_count_112 : decode cX3_count 112 = .ok (.ireturn, 1) := dk_172 (dk_at dksX3_count_4 14 rfl rfl)
abbrev cX3_corked : ByteArray := prog_22_method_93_code
def yX3_corked : MethodName := ⟨RX3, "corked", "()I"⟩
def dkwX3_corked_1 : List UInt8 := [132, 2, 1, 167, 255, 234, 27, 172]
abbrev dktX3_corked_1 : List UInt8 := dkwX3_corked_1 ++ []
def dkwX3_corked_0 : List UInt8 := [3, 60, 3, 61, 28, 42, 180, 0, 9, 5, 46, 162, 0, 18, 27, 42, 28, 6, 182, 0, 140, 96, 60]
abbrev dktX3_corked_0 : List UInt8 := dkwX3_corked_0 ++ dktX3_corked_1
theorem dksX3_corked_0 : cX3_corked.data.toList.drop 0 = dktX3_corked_0 := by decide +kernel
theorem dksX3_corked_1 : cX3_corked.data.toList.drop 23 = dktX3_corked_1 := dk_seg dksX3_corked_0 23 rfl rfl
theorem dX3_corked_0 : decode cX3_corked 0 = .ok (.iconst 0, 1) := dk_3 (dk_at dksX3_corked_0 0 rfl rfl)
theorem dX3_corked_1 : decode cX3_corked 1 = .ok (.istore_n 1, 1) := dk_60 (dk_at dksX3_corked_0 1 rfl rfl)
theorem dX3_corked_2 : decode cX3_corked 2 = .ok (.iconst 0, 1) := dk_3 (dk_at dksX3_corked_0 2 rfl rfl)
theorem dX3_corked_3 : decode cX3_corked 3 = .ok (.istore_n 2, 1) := dk_61 (dk_at dksX3_corked_0 3 rfl rfl)
theorem dX3_corked_4 : decode cX3_corked 4 = .ok (.iload_n 2, 1) := dk_28 (dk_at dksX3_corked_0 4 rfl rfl)
theorem dX3_corked_5 : decode cX3_corked 5 = .ok (.aload_n 0, 1) := dk_42 (dk_at dksX3_corked_0 5 rfl rfl)
theorem dX3_corked_6 : decode cX3_corked 6 = .ok (.getfield 9, 3) := dk_180 0 9 (dk_at dksX3_corked_0 6 rfl rfl)
theorem dX3_corked_9 : decode cX3_corked 9 = .ok (.iconst 2, 1) := dk_5 (dk_at dksX3_corked_0 9 rfl rfl)
theorem dX3_corked_10 : decode cX3_corked 10 = .ok (.iaload, 1) := dk_46 (dk_at dksX3_corked_0 10 rfl rfl)
theorem dX3_corked_11 : decode cX3_corked 11 = .ok (.if_icmp .ge 18, 3) := dk_162 0 18 (dk_at dksX3_corked_0 11 rfl rfl)
theorem dX3_corked_14 : decode cX3_corked 14 = .ok (.iload_n 1, 1) := dk_27 (dk_at dksX3_corked_0 14 rfl rfl)
theorem dX3_corked_15 : decode cX3_corked 15 = .ok (.aload_n 0, 1) := dk_42 (dk_at dksX3_corked_0 15 rfl rfl)
theorem dX3_corked_16 : decode cX3_corked 16 = .ok (.iload_n 2, 1) := dk_28 (dk_at dksX3_corked_0 16 rfl rfl)
theorem dX3_corked_17 : decode cX3_corked 17 = .ok (.iconst 3, 1) := dk_6 (dk_at dksX3_corked_0 17 rfl rfl)
theorem dX3_corked_18 : decode cX3_corked 18 = .ok (.invokevirtual 140, 3) := dk_182 0 140 (dk_at dksX3_corked_0 18 rfl rfl)
theorem dX3_corked_21 : decode cX3_corked 21 = .ok (.iadd, 1) := dk_96 (dk_at dksX3_corked_0 21 rfl rfl)
theorem dX3_corked_22 : decode cX3_corked 22 = .ok (.istore_n 1, 1) := dk_60 (dk_at dksX3_corked_0 22 rfl rfl)
theorem dX3_corked_23 : decode cX3_corked 23 = .ok (.iinc 2 1, 3) := dk_132 2 1 (dk_at dksX3_corked_1 0 rfl rfl)
theorem dX3_corked_26 : decode cX3_corked 26 = .ok (.goto (-22), 3) := dk_167 255 234 (dk_at dksX3_corked_1 3 rfl rfl)
theorem dX3_corked_29 : decode cX3_corked 29 = .ok (.iload_n 1, 1) := dk_27 (dk_at dksX3_corked_1 6 rfl rfl)
theorem dX3_corked_30 : decode cX3_corked 30 = .ok (.ireturn, 1) := dk_172 (dk_at dksX3_corked_1 7 rfl rfl)
theorem q75 : (Jvm.Cond.initialized "LevelCellarsModel") ∈ lw_all := lw_g (lw_at lw_m1 4 rfl) rfl
theorem q1377 : (Jvm.Cond.instantiable "LevelCellarsModel" (35 : Nat)) ∈ lw_all := lw_g (lw_at lw_m6 106 rfl) rfl
theorem q1379 : (Jvm.Cond.instanceMethod ({ cls := "LevelCellarsModel", name := "<init>", desc := "()V" } : Jvm.MethodName)) ∈ lw_all := lw_g (lw_at lw_m6 108 rfl) rfl
theorem q1380 : (Jvm.Cond.code ({ cls := "LevelCellarsModel", name := "<init>", desc := "()V" } : Jvm.MethodName) prog_22_method_1_code (1 : Nat) (Option.none : Option Jvm.ClassFile.FieldType)) ∈ lw_all := lw_g (lw_at lw_m6 109 rfl) rfl
theorem q1381 : (Jvm.Cond.methodLink "LevelCellarsModel" (1 : Nat) ({ cls := "java/lang/Object", name := "<init>", desc := "()V" } : Jvm.MethodName)) ∈ lw_all := lw_g (lw_at lw_m6 110 rfl) rfl
theorem q1382 : (Jvm.Cond.fieldLink "LevelCellarsModel" (9 : Nat) "LevelCellarsModel" "now" "[I") ∈ lw_all := lw_g (lw_at lw_m6 111 rfl) rfl
theorem q1383 : (Jvm.Cond.fieldLink "LevelCellarsModel" (13 : Nat) "LevelCellarsModel" "image" "[I") ∈ lw_all := lw_g (lw_at lw_m6 112 rfl) rfl
theorem q1384 : (Jvm.Cond.fieldLink "LevelCellarsModel" (16 : Nat) "LevelCellarsModel" "aside" "[I") ∈ lw_all := lw_g (lw_at lw_m6 113 rfl) rfl
theorem q1385 : (Jvm.Cond.fieldLink "LevelCellarsModel" (282 : Nat) "LevelCellarsModel" "hasImage" "Z") ∈ lw_all := lw_g (lw_at lw_m6 114 rfl) rfl
theorem q1386 : (Jvm.Cond.fieldLink "LevelCellarsModel" (19 : Nat) "LevelCellarsModel" "goes" "[I") ∈ lw_all := lw_g (lw_at lw_m6 115 rfl) rfl
theorem q1387 : (Jvm.Cond.fieldLink "LevelCellarsModel" (22 : Nat) "LevelCellarsModel" "before" "[I") ∈ lw_all := lw_g (lw_at lw_m6 116 rfl) rfl
theorem q1388 : (Jvm.Cond.fieldLink "LevelCellarsModel" (25 : Nat) "LevelCellarsModel" "fullWas" "[I") ∈ lw_all := lw_g (lw_at lw_m6 117 rfl) rfl
theorem q1389 : (Jvm.Cond.fieldLink "LevelCellarsModel" (28 : Nat) "LevelCellarsModel" "tape" "[I") ∈ lw_all := lw_g (lw_at lw_m6 118 rfl) rfl
theorem q1390 : (Jvm.Cond.fieldLink "LevelCellarsModel" (203 : Nat) "LevelCellarsModel" "taped" "I") ∈ lw_all := lw_g (lw_at lw_m6 119 rfl) rfl
theorem q1391 : (Jvm.Cond.fieldLink "LevelCellarsModel" (207 : Nat) "LevelCellarsModel" "next" "I") ∈ lw_all := lw_g (lw_at lw_m6 120 rfl) rfl
theorem q1392 : (Jvm.Cond.fieldLink "LevelCellarsModel" (210 : Nat) "LevelCellarsModel" "from" "I") ∈ lw_all := lw_g (lw_at lw_m6 121 rfl) rfl
theorem q1393 : (Jvm.Cond.fieldLink "LevelCellarsModel" (216 : Nat) "LevelCellarsModel" "token" "I") ∈ lw_all := lw_g (lw_at lw_m6 122 rfl) rfl
theorem q1394 : (Jvm.Cond.fieldLink "LevelCellarsModel" (222 : Nat) "LevelCellarsModel" "value" "I") ∈ lw_all := lw_g (lw_at lw_m6 123 rfl) rfl
theorem q1395 : (Jvm.Cond.fieldLink "LevelCellarsModel" (213 : Nat) "LevelCellarsModel" "ended" "I") ∈ lw_all := lw_g (lw_at lw_m6 124 rfl) rfl
theorem q1396 : (Jvm.Cond.fieldLink "LevelCellarsModel" (228 : Nat) "LevelCellarsModel" "key" "I") ∈ lw_all := lw_g (lw_at lw_m6 125 rfl) rfl
theorem q1397 : (Jvm.Cond.fieldLink "LevelCellarsModel" (31 : Nat) "LevelCellarsModel" "keys" "[C") ∈ lw_all := lw_g (lw_at lw_m6 126 rfl) rfl
theorem q1398 : (Jvm.Cond.fieldLink "LevelCellarsModel" (35 : Nat) "LevelCellarsModel" "keyAt" "[I") ∈ lw_all := lw_g (lw_at lw_m6 127 rfl) rfl
theorem q1399 : (Jvm.Cond.fieldLink "LevelCellarsModel" (38 : Nat) "LevelCellarsModel" "code" "[I") ∈ lw_all := lw_g (lw_at lw_m6 128 rfl) rfl
theorem q1400 : (Jvm.Cond.fieldLink "LevelCellarsModel" (240 : Nat) "LevelCellarsModel" "codes" "I") ∈ lw_all := lw_g (lw_at lw_m6 129 rfl) rfl
theorem q1401 : (Jvm.Cond.fieldLink "LevelCellarsModel" (246 : Nat) "LevelCellarsModel" "atoms" "I") ∈ lw_all := lw_g (lw_at lw_m6 130 rfl) rfl
theorem q1402 : (Jvm.Cond.fieldLink "LevelCellarsModel" (41 : Nat) "LevelCellarsModel" "waits" "[I") ∈ lw_all := lw_g (lw_at lw_m6 131 rfl) rfl
theorem q1403 : (Jvm.Cond.fieldLink "LevelCellarsModel" (234 : Nat) "LevelCellarsModel" "held" "I") ∈ lw_all := lw_g (lw_at lw_m6 132 rfl) rfl
theorem q1404 : (Jvm.Cond.fieldLink "LevelCellarsModel" (44 : Nat) "LevelCellarsModel" "tested" "[Z") ∈ lw_all := lw_g (lw_at lw_m6 133 rfl) rfl
theorem q1405 : (Jvm.Cond.fieldLink "LevelCellarsModel" (48 : Nat) "LevelCellarsModel" "stack" "[I") ∈ lw_all := lw_g (lw_at lw_m6 134 rfl) rfl
theorem q1406 : (Jvm.Cond.fieldLink "LevelCellarsModel" (51 : Nat) "LevelCellarsModel" "facts" "[I") ∈ lw_all := lw_g (lw_at lw_m6 135 rfl) rfl
theorem q1407 : (Jvm.Cond.fieldLink "LevelCellarsModel" (54 : Nat) "LevelCellarsModel" "sorts" "[I") ∈ lw_all := lw_g (lw_at lw_m6 136 rfl) rfl
theorem q1408 : (Jvm.Cond.fieldLink "LevelCellarsModel" (57 : Nat) "LevelCellarsModel" "sizes" "[I") ∈ lw_all := lw_g (lw_at lw_m6 137 rfl) rfl
theorem q1409 : (Jvm.Cond.fieldLink "LevelCellarsModel" (60 : Nat) "LevelCellarsModel" "cells" "[I") ∈ lw_all := lw_g (lw_at lw_m6 138 rfl) rfl
theorem q1410 : (Jvm.Cond.fieldLink "LevelCellarsModel" (63 : Nat) "LevelCellarsModel" "holds" "[I") ∈ lw_all := lw_g (lw_at lw_m6 139 rfl) rfl
theorem q1411 : (Jvm.Cond.fieldLink "LevelCellarsModel" (66 : Nat) "LevelCellarsModel" "holdsA" "[I") ∈ lw_all := lw_g (lw_at lw_m6 140 rfl) rfl
theorem q1412 : (Jvm.Cond.fieldLink "LevelCellarsModel" (69 : Nat) "LevelCellarsModel" "holdsB" "[I") ∈ lw_all := lw_g (lw_at lw_m6 141 rfl) rfl
theorem q1413 : (Jvm.Cond.fieldLink "LevelCellarsModel" (72 : Nat) "LevelCellarsModel" "heldCells" "[I") ∈ lw_all := lw_g (lw_at lw_m6 142 rfl) rfl
theorem q1414 : (Jvm.Cond.fieldLink "LevelCellarsModel" (75 : Nat) "LevelCellarsModel" "moved" "[I") ∈ lw_all := lw_g (lw_at lw_m6 143 rfl) rfl
theorem q1415 : (Jvm.Cond.fieldLink "LevelCellarsModel" (78 : Nat) "LevelCellarsModel" "tells" "[I") ∈ lw_all := lw_g (lw_at lw_m6 144 rfl) rfl
theorem q1416 : (Jvm.Cond.fieldLink "LevelCellarsModel" (279 : Nat) "LevelCellarsModel" "waiting" "I") ∈ lw_all := lw_g (lw_at lw_m6 145 rfl) rfl
theorem q1417 : (Jvm.Cond.laysFinal "LevelCellarsModel" "LevelCellarsModel" "now" "[I") ∈ lw_all := lw_g (lw_at lw_m6 146 rfl) rfl
theorem q1418 : (Jvm.Cond.soleField "LevelCellarsModel" "now") ∈ lw_all := lw_g (lw_at lw_m6 147 rfl) rfl
theorem q1419 : (Jvm.Cond.laysFinal "LevelCellarsModel" "LevelCellarsModel" "image" "[I") ∈ lw_all := lw_g (lw_at lw_m6 148 rfl) rfl
theorem q1420 : (Jvm.Cond.soleField "LevelCellarsModel" "image") ∈ lw_all := lw_g (lw_at lw_m6 149 rfl) rfl
theorem q1421 : (Jvm.Cond.laysFinal "LevelCellarsModel" "LevelCellarsModel" "aside" "[I") ∈ lw_all := lw_g (lw_at lw_m6 150 rfl) rfl
theorem q1422 : (Jvm.Cond.soleField "LevelCellarsModel" "aside") ∈ lw_all := lw_g (lw_at lw_m6 151 rfl) rfl
theorem q1423 : (Jvm.Cond.lays "LevelCellarsModel" "LevelCellarsModel" "hasImage" "Z") ∈ lw_all := lw_g (lw_at lw_m6 152 rfl) rfl
theorem q1424 : (Jvm.Cond.soleField "LevelCellarsModel" "hasImage") ∈ lw_all := lw_g (lw_at lw_m6 153 rfl) rfl
theorem q1425 : (Jvm.Cond.laysFinal "LevelCellarsModel" "LevelCellarsModel" "goes" "[I") ∈ lw_all := lw_g (lw_at lw_m6 154 rfl) rfl
theorem q1426 : (Jvm.Cond.soleField "LevelCellarsModel" "goes") ∈ lw_all := lw_g (lw_at lw_m6 155 rfl) rfl
theorem q1427 : (Jvm.Cond.laysFinal "LevelCellarsModel" "LevelCellarsModel" "before" "[I") ∈ lw_all := lw_g (lw_at lw_m6 156 rfl) rfl
theorem q1428 : (Jvm.Cond.soleField "LevelCellarsModel" "before") ∈ lw_all := lw_g (lw_at lw_m6 157 rfl) rfl
theorem q1429 : (Jvm.Cond.laysFinal "LevelCellarsModel" "LevelCellarsModel" "fullWas" "[I") ∈ lw_all := lw_g (lw_at lw_m6 158 rfl) rfl
theorem q1430 : (Jvm.Cond.soleField "LevelCellarsModel" "fullWas") ∈ lw_all := lw_g (lw_at lw_m6 159 rfl) rfl
theorem q1431 : (Jvm.Cond.laysFinal "LevelCellarsModel" "LevelCellarsModel" "tape" "[I") ∈ lw_all := lw_g (lw_at lw_m6 160 rfl) rfl
theorem q1432 : (Jvm.Cond.soleField "LevelCellarsModel" "tape") ∈ lw_all := lw_g (lw_at lw_m6 161 rfl) rfl
theorem q1433 : (Jvm.Cond.lays "LevelCellarsModel" "LevelCellarsModel" "taped" "I") ∈ lw_all := lw_g (lw_at lw_m6 162 rfl) rfl
theorem q1434 : (Jvm.Cond.soleField "LevelCellarsModel" "taped") ∈ lw_all := lw_g (lw_at lw_m6 163 rfl) rfl
theorem q1435 : (Jvm.Cond.lays "LevelCellarsModel" "LevelCellarsModel" "next" "I") ∈ lw_all := lw_g (lw_at lw_m6 164 rfl) rfl
theorem q1436 : (Jvm.Cond.soleField "LevelCellarsModel" "next") ∈ lw_all := lw_g (lw_at lw_m6 165 rfl) rfl
theorem q1437 : (Jvm.Cond.lays "LevelCellarsModel" "LevelCellarsModel" "from" "I") ∈ lw_all := lw_g (lw_at lw_m6 166 rfl) rfl
theorem q1438 : (Jvm.Cond.soleField "LevelCellarsModel" "from") ∈ lw_all := lw_g (lw_at lw_m6 167 rfl) rfl
theorem q1439 : (Jvm.Cond.lays "LevelCellarsModel" "LevelCellarsModel" "token" "I") ∈ lw_all := lw_g (lw_at lw_m6 168 rfl) rfl
theorem q1440 : (Jvm.Cond.soleField "LevelCellarsModel" "token") ∈ lw_all := lw_g (lw_at lw_m6 169 rfl) rfl
theorem q1441 : (Jvm.Cond.lays "LevelCellarsModel" "LevelCellarsModel" "value" "I") ∈ lw_all := lw_g (lw_at lw_m6 170 rfl) rfl
theorem q1442 : (Jvm.Cond.soleField "LevelCellarsModel" "value") ∈ lw_all := lw_g (lw_at lw_m6 171 rfl) rfl
theorem q1443 : (Jvm.Cond.lays "LevelCellarsModel" "LevelCellarsModel" "ended" "I") ∈ lw_all := lw_g (lw_at lw_m6 172 rfl) rfl
theorem q1444 : (Jvm.Cond.soleField "LevelCellarsModel" "ended") ∈ lw_all := lw_g (lw_at lw_m6 173 rfl) rfl
theorem q1445 : (Jvm.Cond.lays "LevelCellarsModel" "LevelCellarsModel" "key" "I") ∈ lw_all := lw_g (lw_at lw_m6 174 rfl) rfl
theorem q1446 : (Jvm.Cond.soleField "LevelCellarsModel" "key") ∈ lw_all := lw_g (lw_at lw_m6 175 rfl) rfl
theorem q1447 : (Jvm.Cond.laysFinal "LevelCellarsModel" "LevelCellarsModel" "keys" "[C") ∈ lw_all := lw_g (lw_at lw_m6 176 rfl) rfl
theorem q1448 : (Jvm.Cond.soleField "LevelCellarsModel" "keys") ∈ lw_all := lw_g (lw_at lw_m6 177 rfl) rfl
theorem q1449 : (Jvm.Cond.laysFinal "LevelCellarsModel" "LevelCellarsModel" "keyAt" "[I") ∈ lw_all := lw_g (lw_at lw_m6 178 rfl) rfl
theorem q1450 : (Jvm.Cond.soleField "LevelCellarsModel" "keyAt") ∈ lw_all := lw_g (lw_at lw_m6 179 rfl) rfl
theorem q1451 : (Jvm.Cond.laysFinal "LevelCellarsModel" "LevelCellarsModel" "code" "[I") ∈ lw_all := lw_g (lw_at lw_m6 180 rfl) rfl
theorem q1452 : (Jvm.Cond.soleField "LevelCellarsModel" "code") ∈ lw_all := lw_g (lw_at lw_m6 181 rfl) rfl
theorem q1453 : (Jvm.Cond.lays "LevelCellarsModel" "LevelCellarsModel" "codes" "I") ∈ lw_all := lw_g (lw_at lw_m6 182 rfl) rfl
theorem q1454 : (Jvm.Cond.soleField "LevelCellarsModel" "codes") ∈ lw_all := lw_g (lw_at lw_m6 183 rfl) rfl
theorem q1455 : (Jvm.Cond.lays "LevelCellarsModel" "LevelCellarsModel" "atoms" "I") ∈ lw_all := lw_g (lw_at lw_m6 184 rfl) rfl
theorem q1456 : (Jvm.Cond.soleField "LevelCellarsModel" "atoms") ∈ lw_all := lw_g (lw_at lw_m6 185 rfl) rfl
theorem q1457 : (Jvm.Cond.laysFinal "LevelCellarsModel" "LevelCellarsModel" "waits" "[I") ∈ lw_all := lw_g (lw_at lw_m6 186 rfl) rfl
theorem q1458 : (Jvm.Cond.soleField "LevelCellarsModel" "waits") ∈ lw_all := lw_g (lw_at lw_m6 187 rfl) rfl
theorem q1459 : (Jvm.Cond.lays "LevelCellarsModel" "LevelCellarsModel" "held" "I") ∈ lw_all := lw_g (lw_at lw_m6 188 rfl) rfl
theorem q1460 : (Jvm.Cond.soleField "LevelCellarsModel" "held") ∈ lw_all := lw_g (lw_at lw_m6 189 rfl) rfl
theorem q1461 : (Jvm.Cond.laysFinal "LevelCellarsModel" "LevelCellarsModel" "tested" "[Z") ∈ lw_all := lw_g (lw_at lw_m6 190 rfl) rfl
theorem q1462 : (Jvm.Cond.soleField "LevelCellarsModel" "tested") ∈ lw_all := lw_g (lw_at lw_m6 191 rfl) rfl
theorem q1463 : (Jvm.Cond.laysFinal "LevelCellarsModel" "LevelCellarsModel" "stack" "[I") ∈ lw_all := lw_g (lw_at lw_m6 192 rfl) rfl
theorem q1464 : (Jvm.Cond.soleField "LevelCellarsModel" "stack") ∈ lw_all := lw_g (lw_at lw_m6 193 rfl) rfl
theorem q1465 : (Jvm.Cond.laysFinal "LevelCellarsModel" "LevelCellarsModel" "facts" "[I") ∈ lw_all := lw_g (lw_at lw_m6 194 rfl) rfl
theorem q1466 : (Jvm.Cond.soleField "LevelCellarsModel" "facts") ∈ lw_all := lw_g (lw_at lw_m6 195 rfl) rfl
theorem q1467 : (Jvm.Cond.laysFinal "LevelCellarsModel" "LevelCellarsModel" "sorts" "[I") ∈ lw_all := lw_g (lw_at lw_m6 196 rfl) rfl
theorem q1468 : (Jvm.Cond.soleField "LevelCellarsModel" "sorts") ∈ lw_all := lw_g (lw_at lw_m6 197 rfl) rfl
theorem q1469 : (Jvm.Cond.laysFinal "LevelCellarsModel" "LevelCellarsModel" "sizes" "[I") ∈ lw_all := lw_g (lw_at lw_m6 198 rfl) rfl
theorem q1470 : (Jvm.Cond.soleField "LevelCellarsModel" "sizes") ∈ lw_all := lw_g (lw_at lw_m6 199 rfl) rfl
theorem q1471 : (Jvm.Cond.laysFinal "LevelCellarsModel" "LevelCellarsModel" "cells" "[I") ∈ lw_all := lw_g (lw_at lw_m6 200 rfl) rfl
theorem q1472 : (Jvm.Cond.soleField "LevelCellarsModel" "cells") ∈ lw_all := lw_g (lw_at lw_m6 201 rfl) rfl
theorem q1473 : (Jvm.Cond.laysFinal "LevelCellarsModel" "LevelCellarsModel" "holds" "[I") ∈ lw_all := lw_g (lw_at lw_m6 202 rfl) rfl
theorem q1474 : (Jvm.Cond.soleField "LevelCellarsModel" "holds") ∈ lw_all := lw_g (lw_at lw_m6 203 rfl) rfl
theorem q1475 : (Jvm.Cond.laysFinal "LevelCellarsModel" "LevelCellarsModel" "holdsA" "[I") ∈ lw_all := lw_g (lw_at lw_m6 204 rfl) rfl
theorem q1476 : (Jvm.Cond.soleField "LevelCellarsModel" "holdsA") ∈ lw_all := lw_g (lw_at lw_m6 205 rfl) rfl
theorem q1477 : (Jvm.Cond.laysFinal "LevelCellarsModel" "LevelCellarsModel" "holdsB" "[I") ∈ lw_all := lw_g (lw_at lw_m6 206 rfl) rfl
theorem q1478 : (Jvm.Cond.soleField "LevelCellarsModel" "holdsB") ∈ lw_all := lw_g (lw_at lw_m6 207 rfl) rfl
theorem q1479 : (Jvm.Cond.laysFinal "LevelCellarsModel" "LevelCellarsModel" "heldCells" "[I") ∈ lw_all := lw_g (lw_at lw_m6 208 rfl) rfl
theorem q1480 : (Jvm.Cond.soleField "LevelCellarsModel" "heldCells") ∈ lw_all := lw_g (lw_at lw_m6 209 rfl) rfl
theorem q1481 : (Jvm.Cond.laysFinal "LevelCellarsModel" "LevelCellarsModel" "moved" "[I") ∈ lw_all := lw_g (lw_at lw_m6 210 rfl) rfl
theorem q1482 : (Jvm.Cond.soleField "LevelCellarsModel" "moved") ∈ lw_all := lw_g (lw_at lw_m6 211 rfl) rfl
theorem q1483 : (Jvm.Cond.laysFinal "LevelCellarsModel" "LevelCellarsModel" "tells" "[I") ∈ lw_all := lw_g (lw_at lw_m6 212 rfl) rfl
theorem q1484 : (Jvm.Cond.soleField "LevelCellarsModel" "tells") ∈ lw_all := lw_g (lw_at lw_m6 213 rfl) rfl
theorem q1485 : (Jvm.Cond.lays "LevelCellarsModel" "LevelCellarsModel" "waiting" "I") ∈ lw_all := lw_g (lw_at lw_m6 214 rfl) rfl
theorem q1486 : (Jvm.Cond.soleField "LevelCellarsModel" "waiting") ∈ lw_all := lw_g (lw_at lw_m6 215 rfl) rfl
theorem q1487 : (Jvm.Cond.superclass "LevelCellarsModel" "java/lang/Object") ∈ lw_all := lw_g (lw_at lw_m6 216 rfl) rfl
theorem q1490 : (Jvm.Cond.instanceMethod ({ cls := "LevelCellarsModel", name := "cellar", desc := "(III)I" } : Jvm.MethodName)) ∈ lw_all := lw_g (lw_at lw_m6 219 rfl) rfl
theorem q1491 : (Jvm.Cond.selects "LevelCellarsModel" ({ cls := "LevelCellarsModel", name := "cellar", desc := "(III)I" } : Jvm.MethodName) ({ cls := "LevelCellarsModel", name := "cellar", desc := "(III)I" } : Jvm.MethodName)) ∈ lw_all := lw_g (lw_at lw_m6 220 rfl) rfl
theorem q1492 : (Jvm.Cond.code ({ cls := "LevelCellarsModel", name := "cellar", desc := "(III)I" } : Jvm.MethodName) prog_22_method_12_code (4 : Nat) (Option.some Jvm.ClassFile.FieldType.int)) ∈ lw_all := lw_g (lw_at lw_m6 221 rfl) rfl
theorem q1493 : (Jvm.Cond.methodLink "LevelCellarsModel" (82 : Nat) ({ cls := "LevelCellarsModel", name := "in", desc := "(III)Z" } : Jvm.MethodName)) ∈ lw_all := lw_g (lw_at lw_m6 222 rfl) rfl
theorem q1494 : (Jvm.Cond.static ({ cls := "LevelCellarsModel", name := "in", desc := "(III)Z" } : Jvm.MethodName)) ∈ lw_all := lw_g (lw_at lw_m6 223 rfl) rfl
theorem q1495 : (Jvm.Cond.code ({ cls := "LevelCellarsModel", name := "in", desc := "(III)Z" } : Jvm.MethodName) prog_22_method_2_code (3 : Nat) (Option.some Jvm.ClassFile.FieldType.boolean)) ∈ lw_all := lw_g (lw_at lw_m6 224 rfl) rfl
theorem q1496 : (Jvm.Cond.constant "LevelCellarsModel" (86 : Nat) (-1000000001 : Int32)) ∈ lw_all := lw_g (lw_at lw_m6 225 rfl) rfl
theorem q1497 : (Jvm.Cond.constant "LevelCellarsModel" (87 : Nat) (-1000000003 : Int32)) ∈ lw_all := lw_g (lw_at lw_m6 226 rfl) rfl
theorem q1498 : (Jvm.Cond.methodLink "LevelCellarsModel" (88 : Nat) ({ cls := "LevelCellarsModel", name := "comes", desc := "(III)I" } : Jvm.MethodName)) ∈ lw_all := lw_g (lw_at lw_m6 227 rfl) rfl
theorem q1499 : (Jvm.Cond.privateMethod ({ cls := "LevelCellarsModel", name := "comes", desc := "(III)I" } : Jvm.MethodName)) ∈ lw_tbl := lw_at lw_m6 228 rfl
theorem q1500 : (Jvm.Cond.instanceMethod ({ cls := "LevelCellarsModel", name := "comes", desc := "(III)I" } : Jvm.MethodName)) ∈ lw_all := lw_g (lw_at lw_m6 229 rfl) rfl
theorem q1501 : (Jvm.Cond.code ({ cls := "LevelCellarsModel", name := "comes", desc := "(III)I" } : Jvm.MethodName) prog_22_method_11_code (7 : Nat) (Option.some Jvm.ClassFile.FieldType.int)) ∈ lw_all := lw_g (lw_at lw_m6 230 rfl) rfl
theorem q1503 : (Jvm.Cond.instanceMethod ({ cls := "LevelCellarsModel", name := "told", desc := "(II)I" } : Jvm.MethodName)) ∈ lw_all := lw_g (lw_at lw_m6 232 rfl) rfl
theorem q1504 : (Jvm.Cond.selects "LevelCellarsModel" ({ cls := "LevelCellarsModel", name := "told", desc := "(II)I" } : Jvm.MethodName) ({ cls := "LevelCellarsModel", name := "told", desc := "(II)I" } : Jvm.MethodName)) ∈ lw_all := lw_g (lw_at lw_m6 233 rfl) rfl
theorem q1505 : (Jvm.Cond.code ({ cls := "LevelCellarsModel", name := "told", desc := "(II)I" } : Jvm.MethodName) prog_22_method_19_code (3 : Nat) (Option.some Jvm.ClassFile.FieldType.int)) ∈ lw_all := lw_g (lw_at lw_m6 234 rfl) rfl
theorem q1506 : (Jvm.Cond.methodLink "LevelCellarsModel" (112 : Nat) ({ cls := "LevelCellarsModel", name := "isCellar", desc := "(I)Z" } : Jvm.MethodName)) ∈ lw_all := lw_g (lw_at lw_m6 235 rfl) rfl
theorem q1507 : (Jvm.Cond.privateMethod ({ cls := "LevelCellarsModel", name := "isCellar", desc := "(I)Z" } : Jvm.MethodName)) ∈ lw_tbl := lw_at lw_m6 236 rfl
theorem q1508 : (Jvm.Cond.instanceMethod ({ cls := "LevelCellarsModel", name := "isCellar", desc := "(I)Z" } : Jvm.MethodName)) ∈ lw_all := lw_g (lw_at lw_m6 237 rfl) rfl
theorem q1509 : (Jvm.Cond.code ({ cls := "LevelCellarsModel", name := "isCellar", desc := "(I)Z" } : Jvm.MethodName) prog_22_method_6_code (2 : Nat) (Option.some Jvm.ClassFile.FieldType.boolean)) ∈ lw_all := lw_g (lw_at lw_m6 238 rfl) rfl
theorem q1510 : (Jvm.Cond.methodLink "LevelCellarsModel" (92 : Nat) ({ cls := "LevelCellarsModel", name := "of", desc := "(II)I" } : Jvm.MethodName)) ∈ lw_all := lw_g (lw_at lw_m6 239 rfl) rfl
theorem q1511 : (Jvm.Cond.privateMethod ({ cls := "LevelCellarsModel", name := "of", desc := "(II)I" } : Jvm.MethodName)) ∈ lw_tbl := lw_at lw_m7 0 rfl
theorem q1512 : (Jvm.Cond.instanceMethod ({ cls := "LevelCellarsModel", name := "of", desc := "(II)I" } : Jvm.MethodName)) ∈ lw_all := lw_g (lw_at lw_m7 1 rfl) rfl
theorem q1513 : (Jvm.Cond.code ({ cls := "LevelCellarsModel", name := "of", desc := "(II)I" } : Jvm.MethodName) prog_22_method_8_code (3 : Nat) (Option.some Jvm.ClassFile.FieldType.int)) ∈ lw_all := lw_g (lw_at lw_m7 2 rfl) rfl
theorem q1514 : (Jvm.Cond.methodLink "LevelCellarsModel" (96 : Nat) ({ cls := "LevelCellarsModel", name := "fullOf", desc := "(I)I" } : Jvm.MethodName)) ∈ lw_all := lw_g (lw_at lw_m7 3 rfl) rfl
theorem q1515 : (Jvm.Cond.privateMethod ({ cls := "LevelCellarsModel", name := "fullOf", desc := "(I)I" } : Jvm.MethodName)) ∈ lw_tbl := lw_at lw_m7 4 rfl
theorem q1516 : (Jvm.Cond.instanceMethod ({ cls := "LevelCellarsModel", name := "fullOf", desc := "(I)I" } : Jvm.MethodName)) ∈ lw_all := lw_g (lw_at lw_m7 5 rfl) rfl
theorem q1517 : (Jvm.Cond.code ({ cls := "LevelCellarsModel", name := "fullOf", desc := "(I)I" } : Jvm.MethodName) prog_22_method_13_code (2 : Nat) (Option.some Jvm.ClassFile.FieldType.int)) ∈ lw_all := lw_g (lw_at lw_m7 6 rfl) rfl
theorem q1518 : (Jvm.Cond.methodLink "LevelCellarsModel" (109 : Nat) ({ cls := "LevelCellarsModel", name := "highOf", desc := "(I)I" } : Jvm.MethodName)) ∈ lw_all := lw_g (lw_at lw_m7 7 rfl) rfl
theorem q1519 : (Jvm.Cond.privateMethod ({ cls := "LevelCellarsModel", name := "highOf", desc := "(I)I" } : Jvm.MethodName)) ∈ lw_tbl := lw_at lw_m7 8 rfl
theorem q1520 : (Jvm.Cond.instanceMethod ({ cls := "LevelCellarsModel", name := "highOf", desc := "(I)I" } : Jvm.MethodName)) ∈ lw_all := lw_g (lw_at lw_m7 9 rfl) rfl
theorem q1521 : (Jvm.Cond.code ({ cls := "LevelCellarsModel", name := "highOf", desc := "(I)I" } : Jvm.MethodName) prog_22_method_14_code (5 : Nat) (Option.some Jvm.ClassFile.FieldType.int)) ∈ lw_all := lw_g (lw_at lw_m7 10 rfl) rfl
theorem q1522 : (Jvm.Cond.methodLink "LevelCellarsModel" (100 : Nat) ({ cls := "LevelCellarsModel", name := "counts", desc := "(I)I" } : Jvm.MethodName)) ∈ lw_all := lw_g (lw_at lw_m7 11 rfl) rfl
theorem q1523 : (Jvm.Cond.privateMethod ({ cls := "LevelCellarsModel", name := "counts", desc := "(I)I" } : Jvm.MethodName)) ∈ lw_tbl := lw_at lw_m7 12 rfl
theorem q1524 : (Jvm.Cond.instanceMethod ({ cls := "LevelCellarsModel", name := "counts", desc := "(I)I" } : Jvm.MethodName)) ∈ lw_all := lw_g (lw_at lw_m7 13 rfl) rfl
theorem q1525 : (Jvm.Cond.code ({ cls := "LevelCellarsModel", name := "counts", desc := "(I)I" } : Jvm.MethodName) prog_22_method_74_code (3 : Nat) (Option.some Jvm.ClassFile.FieldType.int)) ∈ lw_all := lw_g (lw_at lw_m7 14 rfl) rfl
theorem q1526 : (Jvm.Cond.methodLink "LevelCellarsModel" (103 : Nat) ({ cls := "LevelCellarsModel", name := "within", desc := "(III)I" } : Jvm.MethodName)) ∈ lw_all := lw_g (lw_at lw_m7 15 rfl) rfl
theorem q1527 : (Jvm.Cond.static ({ cls := "LevelCellarsModel", name := "within", desc := "(III)I" } : Jvm.MethodName)) ∈ lw_all := lw_g (lw_at lw_m7 16 rfl) rfl
theorem q1528 : (Jvm.Cond.code ({ cls := "LevelCellarsModel", name := "within", desc := "(III)I" } : Jvm.MethodName) prog_22_method_3_code (3 : Nat) (Option.some Jvm.ClassFile.FieldType.int)) ∈ lw_all := lw_g (lw_at lw_m7 17 rfl) rfl
theorem q1529 : (Jvm.Cond.methodLink "LevelCellarsModel" (106 : Nat) ({ cls := "LevelCellarsModel", name := "worksOut", desc := "(I)I" } : Jvm.MethodName)) ∈ lw_all := lw_g (lw_at lw_m7 18 rfl) rfl
theorem q1530 : (Jvm.Cond.privateMethod ({ cls := "LevelCellarsModel", name := "worksOut", desc := "(I)I" } : Jvm.MethodName)) ∈ lw_tbl := lw_at lw_m7 19 rfl
theorem q1531 : (Jvm.Cond.instanceMethod ({ cls := "LevelCellarsModel", name := "worksOut", desc := "(I)I" } : Jvm.MethodName)) ∈ lw_all := lw_g (lw_at lw_m7 20 rfl) rfl
theorem q1532 : (Jvm.Cond.code ({ cls := "LevelCellarsModel", name := "worksOut", desc := "(I)I" } : Jvm.MethodName) prog_22_method_77_code (6 : Nat) (Option.some Jvm.ClassFile.FieldType.int)) ∈ lw_all := lw_g (lw_at lw_m7 21 rfl) rfl
theorem q1533 : (Jvm.Cond.methodLink "LevelCellarsModel" (268 : Nat) ({ cls := "LevelCellarsModel", name := "two", desc := "(III)I" } : Jvm.MethodName)) ∈ lw_all := lw_g (lw_at lw_m7 22 rfl) rfl
theorem q1534 : (Jvm.Cond.static ({ cls := "LevelCellarsModel", name := "two", desc := "(III)I" } : Jvm.MethodName)) ∈ lw_all := lw_g (lw_at lw_m7 23 rfl) rfl
theorem q1535 : (Jvm.Cond.code ({ cls := "LevelCellarsModel", name := "two", desc := "(III)I" } : Jvm.MethodName) prog_22_method_76_code (3 : Nat) (Option.some Jvm.ClassFile.FieldType.int)) ∈ lw_all := lw_g (lw_at lw_m7 24 rfl) rfl
theorem q1536 : (Jvm.Cond.methodLink "LevelCellarsModel" (116 : Nat) ({ cls := "LevelCellarsModel", name := "levelOf", desc := "(I)I" } : Jvm.MethodName)) ∈ lw_all := lw_g (lw_at lw_m7 25 rfl) rfl
theorem q1537 : (Jvm.Cond.privateMethod ({ cls := "LevelCellarsModel", name := "levelOf", desc := "(I)I" } : Jvm.MethodName)) ∈ lw_tbl := lw_at lw_m7 26 rfl
theorem q1538 : (Jvm.Cond.instanceMethod ({ cls := "LevelCellarsModel", name := "levelOf", desc := "(I)I" } : Jvm.MethodName)) ∈ lw_all := lw_g (lw_at lw_m7 27 rfl) rfl
theorem q1539 : (Jvm.Cond.code ({ cls := "LevelCellarsModel", name := "levelOf", desc := "(I)I" } : Jvm.MethodName) prog_22_method_15_code (2 : Nat) (Option.some Jvm.ClassFile.FieldType.int)) ∈ lw_all := lw_g (lw_at lw_m7 28 rfl) rfl
theorem q1540 : (Jvm.Cond.methodLink "LevelCellarsModel" (119 : Nat) ({ cls := "LevelCellarsModel", name := "losesOf", desc := "(I)I" } : Jvm.MethodName)) ∈ lw_all := lw_g (lw_at lw_m7 29 rfl) rfl
theorem q1541 : (Jvm.Cond.privateMethod ({ cls := "LevelCellarsModel", name := "losesOf", desc := "(I)I" } : Jvm.MethodName)) ∈ lw_tbl := lw_at lw_m7 30 rfl
theorem q1542 : (Jvm.Cond.instanceMethod ({ cls := "LevelCellarsModel", name := "losesOf", desc := "(I)I" } : Jvm.MethodName)) ∈ lw_all := lw_g (lw_at lw_m7 31 rfl) rfl
theorem q1543 : (Jvm.Cond.code ({ cls := "LevelCellarsModel", name := "losesOf", desc := "(I)I" } : Jvm.MethodName) prog_22_method_16_code (3 : Nat) (Option.some Jvm.ClassFile.FieldType.int)) ∈ lw_all := lw_g (lw_at lw_m7 32 rfl) rfl
theorem q1544 : (Jvm.Cond.methodLink "LevelCellarsModel" (122 : Nat) ({ cls := "LevelCellarsModel", name := "worthOf", desc := "(I)I" } : Jvm.MethodName)) ∈ lw_all := lw_g (lw_at lw_m7 33 rfl) rfl
theorem q1545 : (Jvm.Cond.privateMethod ({ cls := "LevelCellarsModel", name := "worthOf", desc := "(I)I" } : Jvm.MethodName)) ∈ lw_tbl := lw_at lw_m7 34 rfl
theorem q1546 : (Jvm.Cond.instanceMethod ({ cls := "LevelCellarsModel", name := "worthOf", desc := "(I)I" } : Jvm.MethodName)) ∈ lw_all := lw_g (lw_at lw_m7 35 rfl) rfl
theorem q1547 : (Jvm.Cond.code ({ cls := "LevelCellarsModel", name := "worthOf", desc := "(I)I" } : Jvm.MethodName) prog_22_method_18_code (3 : Nat) (Option.some Jvm.ClassFile.FieldType.int)) ∈ lw_all := lw_g (lw_at lw_m7 36 rfl) rfl
theorem q1549 : (Jvm.Cond.instanceMethod ({ cls := "LevelCellarsModel", name := "takes", desc := "(II)I" } : Jvm.MethodName)) ∈ lw_all := lw_g (lw_at lw_m7 38 rfl) rfl
theorem q1550 : (Jvm.Cond.selects "LevelCellarsModel" ({ cls := "LevelCellarsModel", name := "takes", desc := "(II)I" } : Jvm.MethodName) ({ cls := "LevelCellarsModel", name := "takes", desc := "(II)I" } : Jvm.MethodName)) ∈ lw_all := lw_g (lw_at lw_m7 39 rfl) rfl
theorem q1551 : (Jvm.Cond.code ({ cls := "LevelCellarsModel", name := "takes", desc := "(II)I" } : Jvm.MethodName) prog_22_method_20_code (3 : Nat) (Option.some Jvm.ClassFile.FieldType.int)) ∈ lw_all := lw_g (lw_at lw_m7 40 rfl) rfl
theorem q1552 : (Jvm.Cond.methodLink "LevelCellarsModel" (125 : Nat) ({ cls := "LevelCellarsModel", name := "takesIn", desc := "(II)I" } : Jvm.MethodName)) ∈ lw_all := lw_g (lw_at lw_m7 41 rfl) rfl
theorem q1553 : (Jvm.Cond.privateMethod ({ cls := "LevelCellarsModel", name := "takesIn", desc := "(II)I" } : Jvm.MethodName)) ∈ lw_tbl := lw_at lw_m7 42 rfl
theorem q1554 : (Jvm.Cond.instanceMethod ({ cls := "LevelCellarsModel", name := "takesIn", desc := "(II)I" } : Jvm.MethodName)) ∈ lw_all := lw_g (lw_at lw_m7 43 rfl) rfl
theorem q1555 : (Jvm.Cond.code ({ cls := "LevelCellarsModel", name := "takesIn", desc := "(II)I" } : Jvm.MethodName) prog_22_method_17_code (3 : Nat) (Option.some Jvm.ClassFile.FieldType.int)) ∈ lw_all := lw_g (lw_at lw_m7 44 rfl) rfl
theorem q1557 : (Jvm.Cond.instanceMethod ({ cls := "LevelCellarsModel", name := "as", desc := "(II)I" } : Jvm.MethodName)) ∈ lw_all := lw_g (lw_at lw_m7 46 rfl) rfl
theorem q1558 : (Jvm.Cond.selects "LevelCellarsModel" ({ cls := "LevelCellarsModel", name := "as", desc := "(II)I" } : Jvm.MethodName) ({ cls := "LevelCellarsModel", name := "as", desc := "(II)I" } : Jvm.MethodName)) ∈ lw_all := lw_g (lw_at lw_m7 47 rfl) rfl
theorem q1559 : (Jvm.Cond.code ({ cls := "LevelCellarsModel", name := "as", desc := "(II)I" } : Jvm.MethodName) prog_22_method_22_code (3 : Nat) (Option.some Jvm.ClassFile.FieldType.int)) ∈ lw_all := lw_g (lw_at lw_m7 48 rfl) rfl
theorem q1560 : (Jvm.Cond.methodLink "LevelCellarsModel" (128 : Nat) ({ cls := "LevelCellarsModel", name := "isUnder", desc := "(II)Z" } : Jvm.MethodName)) ∈ lw_all := lw_g (lw_at lw_m7 49 rfl) rfl
theorem q1561 : (Jvm.Cond.static ({ cls := "LevelCellarsModel", name := "isUnder", desc := "(II)Z" } : Jvm.MethodName)) ∈ lw_all := lw_g (lw_at lw_m7 50 rfl) rfl
theorem q1562 : (Jvm.Cond.code ({ cls := "LevelCellarsModel", name := "isUnder", desc := "(II)Z" } : Jvm.MethodName) prog_22_method_21_code (2 : Nat) (Option.some Jvm.ClassFile.FieldType.boolean)) ∈ lw_all := lw_g (lw_at lw_m7 51 rfl) rfl
theorem q1563 : (Jvm.Cond.constant "LevelCellarsModel" (132 : Nat) (-1000000012 : Int32)) ∈ lw_all := lw_g (lw_at lw_m7 52 rfl) rfl
theorem q1565 : (Jvm.Cond.instanceMethod ({ cls := "LevelCellarsModel", name := "turns", desc := "(II)I" } : Jvm.MethodName)) ∈ lw_all := lw_g (lw_at lw_m7 54 rfl) rfl
theorem q1566 : (Jvm.Cond.selects "LevelCellarsModel" ({ cls := "LevelCellarsModel", name := "turns", desc := "(II)I" } : Jvm.MethodName) ({ cls := "LevelCellarsModel", name := "turns", desc := "(II)I" } : Jvm.MethodName)) ∈ lw_all := lw_g (lw_at lw_m7 55 rfl) rfl
theorem q1567 : (Jvm.Cond.code ({ cls := "LevelCellarsModel", name := "turns", desc := "(II)I" } : Jvm.MethodName) prog_22_method_23_code (3 : Nat) (Option.some Jvm.ClassFile.FieldType.int)) ∈ lw_all := lw_g (lw_at lw_m7 56 rfl) rfl
theorem q1568 : (Jvm.Cond.methodLink "LevelCellarsModel" (133 : Nat) ({ cls := "LevelCellarsModel", name := "becomes", desc := "(II)I" } : Jvm.MethodName)) ∈ lw_all := lw_g (lw_at lw_m7 57 rfl) rfl
theorem q1569 : (Jvm.Cond.privateMethod ({ cls := "LevelCellarsModel", name := "becomes", desc := "(II)I" } : Jvm.MethodName)) ∈ lw_tbl := lw_at lw_m7 58 rfl
theorem q1570 : (Jvm.Cond.instanceMethod ({ cls := "LevelCellarsModel", name := "becomes", desc := "(II)I" } : Jvm.MethodName)) ∈ lw_all := lw_g (lw_at lw_m7 59 rfl) rfl
theorem q1571 : (Jvm.Cond.code ({ cls := "LevelCellarsModel", name := "becomes", desc := "(II)I" } : Jvm.MethodName) prog_22_method_10_code (4 : Nat) (Option.some Jvm.ClassFile.FieldType.int)) ∈ lw_all := lw_g (lw_at lw_m7 60 rfl) rfl
theorem q1573 : (Jvm.Cond.instanceMethod ({ cls := "LevelCellarsModel", name := "set", desc := "(III)I" } : Jvm.MethodName)) ∈ lw_all := lw_g (lw_at lw_m7 62 rfl) rfl
theorem q1574 : (Jvm.Cond.selects "LevelCellarsModel" ({ cls := "LevelCellarsModel", name := "set", desc := "(III)I" } : Jvm.MethodName) ({ cls := "LevelCellarsModel", name := "set", desc := "(III)I" } : Jvm.MethodName)) ∈ lw_all := lw_g (lw_at lw_m7 63 rfl) rfl
theorem q1575 : (Jvm.Cond.code ({ cls := "LevelCellarsModel", name := "set", desc := "(III)I" } : Jvm.MethodName) prog_22_method_24_code (4 : Nat) (Option.some Jvm.ClassFile.FieldType.int)) ∈ lw_all := lw_g (lw_at lw_m7 64 rfl) rfl
theorem q1577 : (Jvm.Cond.instanceMethod ({ cls := "LevelCellarsModel", name := "pipe", desc := "(III)I" } : Jvm.MethodName)) ∈ lw_all := lw_g (lw_at lw_m7 66 rfl) rfl
theorem q1578 : (Jvm.Cond.selects "LevelCellarsModel" ({ cls := "LevelCellarsModel", name := "pipe", desc := "(III)I" } : Jvm.MethodName) ({ cls := "LevelCellarsModel", name := "pipe", desc := "(III)I" } : Jvm.MethodName)) ∈ lw_all := lw_g (lw_at lw_m7 67 rfl) rfl
theorem q1579 : (Jvm.Cond.code ({ cls := "LevelCellarsModel", name := "pipe", desc := "(III)I" } : Jvm.MethodName) prog_22_method_26_code (4 : Nat) (Option.some Jvm.ClassFile.FieldType.int)) ∈ lw_all := lw_g (lw_at lw_m7 68 rfl) rfl
theorem q1580 : (Jvm.Cond.methodLink "LevelCellarsModel" (136 : Nat) ({ cls := "LevelCellarsModel", name := "lays", desc := "(IIII)V" } : Jvm.MethodName)) ∈ lw_all := lw_g (lw_at lw_m7 69 rfl) rfl
theorem q1581 : (Jvm.Cond.privateMethod ({ cls := "LevelCellarsModel", name := "lays", desc := "(IIII)V" } : Jvm.MethodName)) ∈ lw_tbl := lw_at lw_m7 70 rfl
theorem q1582 : (Jvm.Cond.instanceMethod ({ cls := "LevelCellarsModel", name := "lays", desc := "(IIII)V" } : Jvm.MethodName)) ∈ lw_all := lw_g (lw_at lw_m7 71 rfl) rfl
theorem q1583 : (Jvm.Cond.code ({ cls := "LevelCellarsModel", name := "lays", desc := "(IIII)V" } : Jvm.MethodName) prog_22_method_25_code (6 : Nat) (Option.none : Option Jvm.ClassFile.FieldType)) ∈ lw_all := lw_g (lw_at lw_m7 72 rfl) rfl
theorem q1585 : (Jvm.Cond.instanceMethod ({ cls := "LevelCellarsModel", name := "pipeOf", desc := "(II)I" } : Jvm.MethodName)) ∈ lw_all := lw_g (lw_at lw_m7 74 rfl) rfl
theorem q1586 : (Jvm.Cond.selects "LevelCellarsModel" ({ cls := "LevelCellarsModel", name := "pipeOf", desc := "(II)I" } : Jvm.MethodName) ({ cls := "LevelCellarsModel", name := "pipeOf", desc := "(II)I" } : Jvm.MethodName)) ∈ lw_all := lw_g (lw_at lw_m7 75 rfl) rfl
theorem q1587 : (Jvm.Cond.code ({ cls := "LevelCellarsModel", name := "pipeOf", desc := "(II)I" } : Jvm.MethodName) prog_22_method_29_code (3 : Nat) (Option.some Jvm.ClassFile.FieldType.int)) ∈ lw_all := lw_g (lw_at lw_m7 76 rfl) rfl
theorem q1588 : (Jvm.Cond.methodLink "LevelCellarsModel" (146 : Nat) ({ cls := "LevelCellarsModel", name := "isPipe", desc := "(I)Z" } : Jvm.MethodName)) ∈ lw_all := lw_g (lw_at lw_m7 77 rfl) rfl
theorem q1589 : (Jvm.Cond.privateMethod ({ cls := "LevelCellarsModel", name := "isPipe", desc := "(I)Z" } : Jvm.MethodName)) ∈ lw_tbl := lw_at lw_m7 78 rfl
theorem q1590 : (Jvm.Cond.instanceMethod ({ cls := "LevelCellarsModel", name := "isPipe", desc := "(I)Z" } : Jvm.MethodName)) ∈ lw_all := lw_g (lw_at lw_m7 79 rfl) rfl
theorem q1591 : (Jvm.Cond.code ({ cls := "LevelCellarsModel", name := "isPipe", desc := "(I)Z" } : Jvm.MethodName) prog_22_method_7_code (2 : Nat) (Option.some Jvm.ClassFile.FieldType.boolean)) ∈ lw_all := lw_g (lw_at lw_m7 80 rfl) rfl
theorem q1592 : (Jvm.Cond.methodLink "LevelCellarsModel" (149 : Nat) ({ cls := "LevelCellarsModel", name := "runsIn", desc := "(I)I" } : Jvm.MethodName)) ∈ lw_all := lw_g (lw_at lw_m7 81 rfl) rfl
theorem q1593 : (Jvm.Cond.privateMethod ({ cls := "LevelCellarsModel", name := "runsIn", desc := "(I)I" } : Jvm.MethodName)) ∈ lw_tbl := lw_at lw_m7 82 rfl
theorem q1594 : (Jvm.Cond.instanceMethod ({ cls := "LevelCellarsModel", name := "runsIn", desc := "(I)I" } : Jvm.MethodName)) ∈ lw_all := lw_g (lw_at lw_m7 83 rfl) rfl
theorem q1595 : (Jvm.Cond.code ({ cls := "LevelCellarsModel", name := "runsIn", desc := "(I)I" } : Jvm.MethodName) prog_22_method_28_code (5 : Nat) (Option.some Jvm.ClassFile.FieldType.int)) ∈ lw_all := lw_g (lw_at lw_m7 84 rfl) rfl
theorem q1596 : (Jvm.Cond.methodLink "LevelCellarsModel" (140 : Nat) ({ cls := "LevelCellarsModel", name := "at", desc := "(II)I" } : Jvm.MethodName)) ∈ lw_all := lw_g (lw_at lw_m7 85 rfl) rfl
theorem q1597 : (Jvm.Cond.privateMethod ({ cls := "LevelCellarsModel", name := "at", desc := "(II)I" } : Jvm.MethodName)) ∈ lw_tbl := lw_at lw_m7 86 rfl
theorem q1598 : (Jvm.Cond.instanceMethod ({ cls := "LevelCellarsModel", name := "at", desc := "(II)I" } : Jvm.MethodName)) ∈ lw_all := lw_g (lw_at lw_m7 87 rfl) rfl
theorem q1599 : (Jvm.Cond.code ({ cls := "LevelCellarsModel", name := "at", desc := "(II)I" } : Jvm.MethodName) prog_22_method_9_code (3 : Nat) (Option.some Jvm.ClassFile.FieldType.int)) ∈ lw_all := lw_g (lw_at lw_m7 88 rfl) rfl
theorem q1600 : (Jvm.Cond.methodLink "LevelCellarsModel" (143 : Nat) ({ cls := "LevelCellarsModel", name := "higher", desc := "(I)I" } : Jvm.MethodName)) ∈ lw_all := lw_g (lw_at lw_m7 89 rfl) rfl
theorem q1601 : (Jvm.Cond.privateMethod ({ cls := "LevelCellarsModel", name := "higher", desc := "(I)I" } : Jvm.MethodName)) ∈ lw_tbl := lw_at lw_m7 90 rfl
theorem q1602 : (Jvm.Cond.instanceMethod ({ cls := "LevelCellarsModel", name := "higher", desc := "(I)I" } : Jvm.MethodName)) ∈ lw_all := lw_g (lw_at lw_m7 91 rfl) rfl
theorem q1603 : (Jvm.Cond.code ({ cls := "LevelCellarsModel", name := "higher", desc := "(I)I" } : Jvm.MethodName) prog_22_method_27_code (2 : Nat) (Option.some Jvm.ClassFile.FieldType.int)) ∈ lw_all := lw_g (lw_at lw_m7 92 rfl) rfl
theorem q1605 : (Jvm.Cond.instanceMethod ({ cls := "LevelCellarsModel", name := "cork", desc := "(II)I" } : Jvm.MethodName)) ∈ lw_all := lw_g (lw_at lw_m7 94 rfl) rfl
theorem q1606 : (Jvm.Cond.selects "LevelCellarsModel" ({ cls := "LevelCellarsModel", name := "cork", desc := "(II)I" } : Jvm.MethodName) ({ cls := "LevelCellarsModel", name := "cork", desc := "(II)I" } : Jvm.MethodName)) ∈ lw_all := lw_g (lw_at lw_m7 95 rfl) rfl
theorem q1607 : (Jvm.Cond.code ({ cls := "LevelCellarsModel", name := "cork", desc := "(II)I" } : Jvm.MethodName) prog_22_method_30_code (3 : Nat) (Option.some Jvm.ClassFile.FieldType.int)) ∈ lw_all := lw_g (lw_at lw_m7 96 rfl) rfl
theorem q1609 : (Jvm.Cond.instanceMethod ({ cls := "LevelCellarsModel", name := "thirst", desc := "(I)I" } : Jvm.MethodName)) ∈ lw_all := lw_g (lw_at lw_m7 98 rfl) rfl
theorem q1610 : (Jvm.Cond.selects "LevelCellarsModel" ({ cls := "LevelCellarsModel", name := "thirst", desc := "(I)I" } : Jvm.MethodName) ({ cls := "LevelCellarsModel", name := "thirst", desc := "(I)I" } : Jvm.MethodName)) ∈ lw_all := lw_g (lw_at lw_m7 99 rfl) rfl
theorem q1611 : (Jvm.Cond.code ({ cls := "LevelCellarsModel", name := "thirst", desc := "(I)I" } : Jvm.MethodName) prog_22_method_31_code (2 : Nat) (Option.some Jvm.ClassFile.FieldType.int)) ∈ lw_all := lw_g (lw_at lw_m7 100 rfl) rfl
theorem q1613 : (Jvm.Cond.instanceMethod ({ cls := "LevelCellarsModel", name := "deal", desc := "(I)I" } : Jvm.MethodName)) ∈ lw_all := lw_g (lw_at lw_m7 102 rfl) rfl
theorem q1614 : (Jvm.Cond.selects "LevelCellarsModel" ({ cls := "LevelCellarsModel", name := "deal", desc := "(I)I" } : Jvm.MethodName) ({ cls := "LevelCellarsModel", name := "deal", desc := "(I)I" } : Jvm.MethodName)) ∈ lw_all := lw_g (lw_at lw_m7 103 rfl) rfl
theorem q1615 : (Jvm.Cond.code ({ cls := "LevelCellarsModel", name := "deal", desc := "(I)I" } : Jvm.MethodName) prog_22_method_33_code (6 : Nat) (Option.some Jvm.ClassFile.FieldType.int)) ∈ lw_all := lw_g (lw_at lw_m7 104 rfl) rfl
theorem q1616 : (Jvm.Cond.methodLink "LevelCellarsModel" (153 : Nat) ({ cls := "LevelCellarsModel", name := "draw", desc := "()I" } : Jvm.MethodName)) ∈ lw_all := lw_g (lw_at lw_m7 105 rfl) rfl
theorem q1617 : (Jvm.Cond.privateMethod ({ cls := "LevelCellarsModel", name := "draw", desc := "()I" } : Jvm.MethodName)) ∈ lw_tbl := lw_at lw_m7 106 rfl
theorem q1618 : (Jvm.Cond.instanceMethod ({ cls := "LevelCellarsModel", name := "draw", desc := "()I" } : Jvm.MethodName)) ∈ lw_all := lw_g (lw_at lw_m7 107 rfl) rfl
theorem q1619 : (Jvm.Cond.code ({ cls := "LevelCellarsModel", name := "draw", desc := "()I" } : Jvm.MethodName) prog_22_method_32_code (1 : Nat) (Option.some Jvm.ClassFile.FieldType.int)) ∈ lw_all := lw_g (lw_at lw_m7 108 rfl) rfl
theorem q1620 : (Jvm.Cond.constant "LevelCellarsModel" (152 : Nat) (1103515245 : Int32)) ∈ lw_all := lw_g (lw_at lw_m7 109 rfl) rfl
theorem q1622 : (Jvm.Cond.instanceMethod ({ cls := "LevelCellarsModel", name := "seed", desc := "(I)I" } : Jvm.MethodName)) ∈ lw_all := lw_g (lw_at lw_m7 111 rfl) rfl
theorem q1623 : (Jvm.Cond.selects "LevelCellarsModel" ({ cls := "LevelCellarsModel", name := "seed", desc := "(I)I" } : Jvm.MethodName) ({ cls := "LevelCellarsModel", name := "seed", desc := "(I)I" } : Jvm.MethodName)) ∈ lw_all := lw_g (lw_at lw_m7 112 rfl) rfl
theorem q1624 : (Jvm.Cond.code ({ cls := "LevelCellarsModel", name := "seed", desc := "(I)I" } : Jvm.MethodName) prog_22_method_34_code (2 : Nat) (Option.some Jvm.ClassFile.FieldType.int)) ∈ lw_all := lw_g (lw_at lw_m7 113 rfl) rfl
theorem q1626 : (Jvm.Cond.instanceMethod ({ cls := "LevelCellarsModel", name := "hours", desc := "(I)I" } : Jvm.MethodName)) ∈ lw_all := lw_g (lw_at lw_m7 115 rfl) rfl
theorem q1627 : (Jvm.Cond.selects "LevelCellarsModel" ({ cls := "LevelCellarsModel", name := "hours", desc := "(I)I" } : Jvm.MethodName) ({ cls := "LevelCellarsModel", name := "hours", desc := "(I)I" } : Jvm.MethodName)) ∈ lw_all := lw_g (lw_at lw_m7 116 rfl) rfl
theorem q1628 : (Jvm.Cond.code ({ cls := "LevelCellarsModel", name := "hours", desc := "(I)I" } : Jvm.MethodName) prog_22_method_40_code (3 : Nat) (Option.some Jvm.ClassFile.FieldType.int)) ∈ lw_all := lw_g (lw_at lw_m7 117 rfl) rfl
theorem q1629 : (Jvm.Cond.methodLink "LevelCellarsModel" (171 : Nat) ({ cls := "LevelCellarsModel", name := "goesOn", desc := "(I)V" } : Jvm.MethodName)) ∈ lw_all := lw_g (lw_at lw_m7 118 rfl) rfl
theorem q1630 : (Jvm.Cond.privateMethod ({ cls := "LevelCellarsModel", name := "goesOn", desc := "(I)V" } : Jvm.MethodName)) ∈ lw_tbl := lw_at lw_m7 119 rfl
theorem q1631 : (Jvm.Cond.instanceMethod ({ cls := "LevelCellarsModel", name := "goesOn", desc := "(I)V" } : Jvm.MethodName)) ∈ lw_all := lw_g (lw_at lw_m7 120 rfl) rfl
theorem q1632 : (Jvm.Cond.code ({ cls := "LevelCellarsModel", name := "goesOn", desc := "(I)V" } : Jvm.MethodName) prog_22_method_39_code (3 : Nat) (Option.none : Option Jvm.ClassFile.FieldType)) ∈ lw_all := lw_g (lw_at lw_m7 121 rfl) rfl
theorem q1633 : (Jvm.Cond.methodLink "LevelCellarsModel" (168 : Nat) ({ cls := "LevelCellarsModel", name := "hour", desc := "()V" } : Jvm.MethodName)) ∈ lw_all := lw_g (lw_at lw_m7 122 rfl) rfl
theorem q1634 : (Jvm.Cond.privateMethod ({ cls := "LevelCellarsModel", name := "hour", desc := "()V" } : Jvm.MethodName)) ∈ lw_tbl := lw_at lw_m7 123 rfl
theorem q1635 : (Jvm.Cond.instanceMethod ({ cls := "LevelCellarsModel", name := "hour", desc := "()V" } : Jvm.MethodName)) ∈ lw_all := lw_g (lw_at lw_m7 124 rfl) rfl
theorem q1636 : (Jvm.Cond.code ({ cls := "LevelCellarsModel", name := "hour", desc := "()V" } : Jvm.MethodName) prog_22_method_38_code (3 : Nat) (Option.none : Option Jvm.ClassFile.FieldType)) ∈ lw_all := lw_g (lw_at lw_m7 125 rfl) rfl
theorem q1637 : (Jvm.Cond.methodLink "LevelCellarsModel" (161 : Nat) ({ cls := "LevelCellarsModel", name := "flows", desc := "(I)V" } : Jvm.MethodName)) ∈ lw_all := lw_g (lw_at lw_m7 126 rfl) rfl
theorem q1638 : (Jvm.Cond.privateMethod ({ cls := "LevelCellarsModel", name := "flows", desc := "(I)V" } : Jvm.MethodName)) ∈ lw_tbl := lw_at lw_m7 127 rfl
theorem q1639 : (Jvm.Cond.instanceMethod ({ cls := "LevelCellarsModel", name := "flows", desc := "(I)V" } : Jvm.MethodName)) ∈ lw_all := lw_g (lw_at lw_m7 128 rfl) rfl
theorem q1640 : (Jvm.Cond.code ({ cls := "LevelCellarsModel", name := "flows", desc := "(I)V" } : Jvm.MethodName) prog_22_method_36_code (6 : Nat) (Option.none : Option Jvm.ClassFile.FieldType)) ∈ lw_all := lw_g (lw_at lw_m7 129 rfl) rfl
theorem q1641 : (Jvm.Cond.methodLink "LevelCellarsModel" (157 : Nat) ({ cls := "LevelCellarsModel", name := "drains", desc := "(II)V" } : Jvm.MethodName)) ∈ lw_all := lw_g (lw_at lw_m7 130 rfl) rfl
theorem q1642 : (Jvm.Cond.privateMethod ({ cls := "LevelCellarsModel", name := "drains", desc := "(II)V" } : Jvm.MethodName)) ∈ lw_tbl := lw_at lw_m7 131 rfl
theorem q1643 : (Jvm.Cond.instanceMethod ({ cls := "LevelCellarsModel", name := "drains", desc := "(II)V" } : Jvm.MethodName)) ∈ lw_all := lw_g (lw_at lw_m7 132 rfl) rfl
theorem q1644 : (Jvm.Cond.code ({ cls := "LevelCellarsModel", name := "drains", desc := "(II)V" } : Jvm.MethodName) prog_22_method_35_code (8 : Nat) (Option.none : Option Jvm.ClassFile.FieldType)) ∈ lw_all := lw_g (lw_at lw_m7 133 rfl) rfl
theorem q1645 : (Jvm.Cond.methodLink "LevelCellarsModel" (165 : Nat) ({ cls := "LevelCellarsModel", name := "spills", desc := "(II)V" } : Jvm.MethodName)) ∈ lw_all := lw_g (lw_at lw_m7 134 rfl) rfl
theorem q1646 : (Jvm.Cond.privateMethod ({ cls := "LevelCellarsModel", name := "spills", desc := "(II)V" } : Jvm.MethodName)) ∈ lw_tbl := lw_at lw_m7 135 rfl
theorem q1647 : (Jvm.Cond.instanceMethod ({ cls := "LevelCellarsModel", name := "spills", desc := "(II)V" } : Jvm.MethodName)) ∈ lw_all := lw_g (lw_at lw_m7 136 rfl) rfl
theorem q1648 : (Jvm.Cond.code ({ cls := "LevelCellarsModel", name := "spills", desc := "(II)V" } : Jvm.MethodName) prog_22_method_37_code (3 : Nat) (Option.none : Option Jvm.ClassFile.FieldType)) ∈ lw_all := lw_g (lw_at lw_m7 137 rfl) rfl
theorem q1650 : (Jvm.Cond.instanceMethod ({ cls := "LevelCellarsModel", name := "town", desc := "(I)I" } : Jvm.MethodName)) ∈ lw_all := lw_g (lw_at lw_m7 139 rfl) rfl
theorem q1651 : (Jvm.Cond.selects "LevelCellarsModel" ({ cls := "LevelCellarsModel", name := "town", desc := "(I)I" } : Jvm.MethodName) ({ cls := "LevelCellarsModel", name := "town", desc := "(I)I" } : Jvm.MethodName)) ∈ lw_all := lw_g (lw_at lw_m7 140 rfl) rfl
theorem q1652 : (Jvm.Cond.code ({ cls := "LevelCellarsModel", name := "town", desc := "(I)I" } : Jvm.MethodName) prog_22_method_43_code (4 : Nat) (Option.some Jvm.ClassFile.FieldType.int)) ∈ lw_all := lw_g (lw_at lw_m7 141 rfl) rfl
theorem q1653 : (Jvm.Cond.methodLink "LevelCellarsModel" (174 : Nat) ({ cls := "LevelCellarsModel", name := "fullOfAll", desc := "()I" } : Jvm.MethodName)) ∈ lw_all := lw_g (lw_at lw_m7 142 rfl) rfl
theorem q1654 : (Jvm.Cond.privateMethod ({ cls := "LevelCellarsModel", name := "fullOfAll", desc := "()I" } : Jvm.MethodName)) ∈ lw_tbl := lw_at lw_m7 143 rfl
theorem q1655 : (Jvm.Cond.instanceMethod ({ cls := "LevelCellarsModel", name := "fullOfAll", desc := "()I" } : Jvm.MethodName)) ∈ lw_all := lw_g (lw_at lw_m7 144 rfl) rfl
theorem q1656 : (Jvm.Cond.code ({ cls := "LevelCellarsModel", name := "fullOfAll", desc := "()I" } : Jvm.MethodName) prog_22_method_41_code (3 : Nat) (Option.some Jvm.ClassFile.FieldType.int)) ∈ lw_all := lw_g (lw_at lw_m7 145 rfl) rfl
theorem q1657 : (Jvm.Cond.methodLink "LevelCellarsModel" (177 : Nat) ({ cls := "LevelCellarsModel", name := "running", desc := "()I" } : Jvm.MethodName)) ∈ lw_all := lw_g (lw_at lw_m7 146 rfl) rfl
theorem q1658 : (Jvm.Cond.privateMethod ({ cls := "LevelCellarsModel", name := "running", desc := "()I" } : Jvm.MethodName)) ∈ lw_tbl := lw_at lw_m7 147 rfl
theorem q1659 : (Jvm.Cond.instanceMethod ({ cls := "LevelCellarsModel", name := "running", desc := "()I" } : Jvm.MethodName)) ∈ lw_all := lw_g (lw_at lw_m7 148 rfl) rfl
theorem q1660 : (Jvm.Cond.code ({ cls := "LevelCellarsModel", name := "running", desc := "()I" } : Jvm.MethodName) prog_22_method_42_code (3 : Nat) (Option.some Jvm.ClassFile.FieldType.int)) ∈ lw_all := lw_g (lw_at lw_m7 149 rfl) rfl
theorem q1662 : (Jvm.Cond.instanceMethod ({ cls := "LevelCellarsModel", name := "behind", desc := "(II)I" } : Jvm.MethodName)) ∈ lw_all := lw_g (lw_at lw_m7 151 rfl) rfl
theorem q1663 : (Jvm.Cond.selects "LevelCellarsModel" ({ cls := "LevelCellarsModel", name := "behind", desc := "(II)I" } : Jvm.MethodName) ({ cls := "LevelCellarsModel", name := "behind", desc := "(II)I" } : Jvm.MethodName)) ∈ lw_all := lw_g (lw_at lw_m7 152 rfl) rfl
theorem q1664 : (Jvm.Cond.code ({ cls := "LevelCellarsModel", name := "behind", desc := "(II)I" } : Jvm.MethodName) prog_22_method_46_code (4 : Nat) (Option.some Jvm.ClassFile.FieldType.int)) ∈ lw_all := lw_g (lw_at lw_m7 153 rfl) rfl
theorem q1665 : (Jvm.Cond.methodLink "LevelCellarsModel" (180 : Nat) ({ cls := "LevelCellarsModel", name := "thinks", desc := "()V" } : Jvm.MethodName)) ∈ lw_all := lw_g (lw_at lw_m7 154 rfl) rfl
theorem q1666 : (Jvm.Cond.privateMethod ({ cls := "LevelCellarsModel", name := "thinks", desc := "()V" } : Jvm.MethodName)) ∈ lw_tbl := lw_at lw_m7 155 rfl
theorem q1667 : (Jvm.Cond.instanceMethod ({ cls := "LevelCellarsModel", name := "thinks", desc := "()V" } : Jvm.MethodName)) ∈ lw_all := lw_g (lw_at lw_m7 156 rfl) rfl
theorem q1668 : (Jvm.Cond.code ({ cls := "LevelCellarsModel", name := "thinks", desc := "()V" } : Jvm.MethodName) prog_22_method_44_code (2 : Nat) (Option.none : Option Jvm.ClassFile.FieldType)) ∈ lw_all := lw_g (lw_at lw_m7 157 rfl) rfl
theorem q1669 : (Jvm.Cond.methodLink "LevelCellarsModel" (183 : Nat) ({ cls := "LevelCellarsModel", name := "putsBack", desc := "()V" } : Jvm.MethodName)) ∈ lw_all := lw_g (lw_at lw_m7 158 rfl) rfl
theorem q1670 : (Jvm.Cond.privateMethod ({ cls := "LevelCellarsModel", name := "putsBack", desc := "()V" } : Jvm.MethodName)) ∈ lw_tbl := lw_at lw_m7 159 rfl
theorem q1671 : (Jvm.Cond.instanceMethod ({ cls := "LevelCellarsModel", name := "putsBack", desc := "()V" } : Jvm.MethodName)) ∈ lw_all := lw_g (lw_at lw_m7 160 rfl) rfl
theorem q1672 : (Jvm.Cond.code ({ cls := "LevelCellarsModel", name := "putsBack", desc := "()V" } : Jvm.MethodName) prog_22_method_45_code (2 : Nat) (Option.none : Option Jvm.ClassFile.FieldType)) ∈ lw_all := lw_g (lw_at lw_m7 161 rfl) rfl
theorem q1674 : (Jvm.Cond.instanceMethod ({ cls := "LevelCellarsModel", name := "taste", desc := "(III)I" } : Jvm.MethodName)) ∈ lw_all := lw_g (lw_at lw_m7 163 rfl) rfl
theorem q1675 : (Jvm.Cond.selects "LevelCellarsModel" ({ cls := "LevelCellarsModel", name := "taste", desc := "(III)I" } : Jvm.MethodName) ({ cls := "LevelCellarsModel", name := "taste", desc := "(III)I" } : Jvm.MethodName)) ∈ lw_all := lw_g (lw_at lw_m7 164 rfl) rfl
theorem q1676 : (Jvm.Cond.code ({ cls := "LevelCellarsModel", name := "taste", desc := "(III)I" } : Jvm.MethodName) prog_22_method_47_code (5 : Nat) (Option.some Jvm.ClassFile.FieldType.int)) ∈ lw_all := lw_g (lw_at lw_m7 165 rfl) rfl
theorem q1678 : (Jvm.Cond.instanceMethod ({ cls := "LevelCellarsModel", name := "rests", desc := "()I" } : Jvm.MethodName)) ∈ lw_all := lw_g (lw_at lw_m7 167 rfl) rfl
theorem q1679 : (Jvm.Cond.selects "LevelCellarsModel" ({ cls := "LevelCellarsModel", name := "rests", desc := "()I" } : Jvm.MethodName) ({ cls := "LevelCellarsModel", name := "rests", desc := "()I" } : Jvm.MethodName)) ∈ lw_all := lw_g (lw_at lw_m7 168 rfl) rfl
theorem q1680 : (Jvm.Cond.code ({ cls := "LevelCellarsModel", name := "rests", desc := "()I" } : Jvm.MethodName) prog_22_method_48_code (2 : Nat) (Option.some Jvm.ClassFile.FieldType.int)) ∈ lw_all := lw_g (lw_at lw_m7 169 rfl) rfl
theorem q1681 : (Jvm.Cond.constant "LevelCellarsModel" (81 : Nat) (-1000000005 : Int32)) ∈ lw_all := lw_g (lw_at lw_m7 170 rfl) rfl
theorem q1683 : (Jvm.Cond.instanceMethod ({ cls := "LevelCellarsModel", name := "corks", desc := "(III)I" } : Jvm.MethodName)) ∈ lw_all := lw_g (lw_at lw_m7 172 rfl) rfl
theorem q1684 : (Jvm.Cond.selects "LevelCellarsModel" ({ cls := "LevelCellarsModel", name := "corks", desc := "(III)I" } : Jvm.MethodName) ({ cls := "LevelCellarsModel", name := "corks", desc := "(III)I" } : Jvm.MethodName)) ∈ lw_all := lw_g (lw_at lw_m7 173 rfl) rfl
theorem q1685 : (Jvm.Cond.code ({ cls := "LevelCellarsModel", name := "corks", desc := "(III)I" } : Jvm.MethodName) prog_22_method_49_code (8 : Nat) (Option.some Jvm.ClassFile.FieldType.int)) ∈ lw_all := lw_g (lw_at lw_m7 174 rfl) rfl
theorem q1687 : (Jvm.Cond.instanceMethod ({ cls := "LevelCellarsModel", name := "dig", desc := "(II)I" } : Jvm.MethodName)) ∈ lw_all := lw_g (lw_at lw_m7 176 rfl) rfl
theorem q1688 : (Jvm.Cond.selects "LevelCellarsModel" ({ cls := "LevelCellarsModel", name := "dig", desc := "(II)I" } : Jvm.MethodName) ({ cls := "LevelCellarsModel", name := "dig", desc := "(II)I" } : Jvm.MethodName)) ∈ lw_all := lw_g (lw_at lw_m7 177 rfl) rfl
theorem q1689 : (Jvm.Cond.code ({ cls := "LevelCellarsModel", name := "dig", desc := "(II)I" } : Jvm.MethodName) prog_22_method_51_code (8 : Nat) (Option.some Jvm.ClassFile.FieldType.int)) ∈ lw_all := lw_g (lw_at lw_m7 178 rfl) rfl
theorem q1690 : (Jvm.Cond.methodLink "LevelCellarsModel" (186 : Nat) ({ cls := "LevelCellarsModel", name := "areJoined", desc := "(II)Z" } : Jvm.MethodName)) ∈ lw_all := lw_g (lw_at lw_m7 179 rfl) rfl
theorem q1691 : (Jvm.Cond.privateMethod ({ cls := "LevelCellarsModel", name := "areJoined", desc := "(II)Z" } : Jvm.MethodName)) ∈ lw_tbl := lw_at lw_m7 180 rfl
theorem q1692 : (Jvm.Cond.instanceMethod ({ cls := "LevelCellarsModel", name := "areJoined", desc := "(II)Z" } : Jvm.MethodName)) ∈ lw_all := lw_g (lw_at lw_m7 181 rfl) rfl
theorem q1693 : (Jvm.Cond.code ({ cls := "LevelCellarsModel", name := "areJoined", desc := "(II)Z" } : Jvm.MethodName) prog_22_method_50_code (5 : Nat) (Option.some Jvm.ClassFile.FieldType.boolean)) ∈ lw_all := lw_g (lw_at lw_m7 182 rfl) rfl
theorem q1695 : (Jvm.Cond.instanceMethod ({ cls := "LevelCellarsModel", name := "loser", desc := "(II)I" } : Jvm.MethodName)) ∈ lw_all := lw_g (lw_at lw_m7 184 rfl) rfl
theorem q1696 : (Jvm.Cond.selects "LevelCellarsModel" ({ cls := "LevelCellarsModel", name := "loser", desc := "(II)I" } : Jvm.MethodName) ({ cls := "LevelCellarsModel", name := "loser", desc := "(II)I" } : Jvm.MethodName)) ∈ lw_all := lw_g (lw_at lw_m7 185 rfl) rfl
theorem q1697 : (Jvm.Cond.code ({ cls := "LevelCellarsModel", name := "loser", desc := "(II)I" } : Jvm.MethodName) prog_22_method_52_code (7 : Nat) (Option.some Jvm.ClassFile.FieldType.int)) ∈ lw_all := lw_g (lw_at lw_m7 186 rfl) rfl
theorem q1699 : (Jvm.Cond.instanceMethod ({ cls := "LevelCellarsModel", name := "tap", desc := "(II)I" } : Jvm.MethodName)) ∈ lw_all := lw_g (lw_at lw_m7 188 rfl) rfl
theorem q1700 : (Jvm.Cond.selects "LevelCellarsModel" ({ cls := "LevelCellarsModel", name := "tap", desc := "(II)I" } : Jvm.MethodName) ({ cls := "LevelCellarsModel", name := "tap", desc := "(II)I" } : Jvm.MethodName)) ∈ lw_all := lw_g (lw_at lw_m7 189 rfl) rfl
theorem q1701 : (Jvm.Cond.code ({ cls := "LevelCellarsModel", name := "tap", desc := "(II)I" } : Jvm.MethodName) prog_22_method_54_code (5 : Nat) (Option.some Jvm.ClassFile.FieldType.int)) ∈ lw_all := lw_g (lw_at lw_m7 190 rfl) rfl
theorem q1702 : (Jvm.Cond.methodLink "LevelCellarsModel" (189 : Nat) ({ cls := "LevelCellarsModel", name := "othersBehind", desc := "(II)I" } : Jvm.MethodName)) ∈ lw_all := lw_g (lw_at lw_m7 191 rfl) rfl
theorem q1703 : (Jvm.Cond.privateMethod ({ cls := "LevelCellarsModel", name := "othersBehind", desc := "(II)I" } : Jvm.MethodName)) ∈ lw_tbl := lw_at lw_m7 192 rfl
theorem q1704 : (Jvm.Cond.instanceMethod ({ cls := "LevelCellarsModel", name := "othersBehind", desc := "(II)I" } : Jvm.MethodName)) ∈ lw_all := lw_g (lw_at lw_m7 193 rfl) rfl
theorem q1705 : (Jvm.Cond.code ({ cls := "LevelCellarsModel", name := "othersBehind", desc := "(II)I" } : Jvm.MethodName) prog_22_method_53_code (4 : Nat) (Option.some Jvm.ClassFile.FieldType.int)) ∈ lw_all := lw_g (lw_at lw_m7 194 rfl) rfl
theorem q1707 : (Jvm.Cond.instanceMethod ({ cls := "LevelCellarsModel", name := "dug", desc := "(III)I" } : Jvm.MethodName)) ∈ lw_all := lw_g (lw_at lw_m7 196 rfl) rfl
theorem q1708 : (Jvm.Cond.selects "LevelCellarsModel" ({ cls := "LevelCellarsModel", name := "dug", desc := "(III)I" } : Jvm.MethodName) ({ cls := "LevelCellarsModel", name := "dug", desc := "(III)I" } : Jvm.MethodName)) ∈ lw_all := lw_g (lw_at lw_m7 197 rfl) rfl
theorem q1709 : (Jvm.Cond.code ({ cls := "LevelCellarsModel", name := "dug", desc := "(III)I" } : Jvm.MethodName) prog_22_method_56_code (10 : Nat) (Option.some Jvm.ClassFile.FieldType.int)) ∈ lw_all := lw_g (lw_at lw_m7 198 rfl) rfl
theorem q1710 : (Jvm.Cond.methodLink "LevelCellarsModel" (192 : Nat) ({ cls := "LevelCellarsModel", name := "isSheet", desc := "(I)Z" } : Jvm.MethodName)) ∈ lw_all := lw_g (lw_at lw_m7 199 rfl) rfl
theorem q1711 : (Jvm.Cond.static ({ cls := "LevelCellarsModel", name := "isSheet", desc := "(I)Z" } : Jvm.MethodName)) ∈ lw_all := lw_g (lw_at lw_m7 200 rfl) rfl
theorem q1712 : (Jvm.Cond.code ({ cls := "LevelCellarsModel", name := "isSheet", desc := "(I)Z" } : Jvm.MethodName) prog_22_method_78_code (1 : Nat) (Option.some Jvm.ClassFile.FieldType.boolean)) ∈ lw_all := lw_g (lw_at lw_m7 201 rfl) rfl
theorem q1713 : (Jvm.Cond.constant "LevelCellarsModel" (195 : Nat) (-1000000011 : Int32)) ∈ lw_all := lw_g (lw_at lw_m7 202 rfl) rfl
theorem q1714 : (Jvm.Cond.methodLink "LevelCellarsModel" (196 : Nat) ({ cls := "LevelCellarsModel", name := "offBy", desc := "(II)J" } : Jvm.MethodName)) ∈ lw_all := lw_g (lw_at lw_m7 203 rfl) rfl
theorem q1715 : (Jvm.Cond.privateMethod ({ cls := "LevelCellarsModel", name := "offBy", desc := "(II)J" } : Jvm.MethodName)) ∈ lw_tbl := lw_at lw_m7 204 rfl
theorem q1716 : (Jvm.Cond.instanceMethod ({ cls := "LevelCellarsModel", name := "offBy", desc := "(II)J" } : Jvm.MethodName)) ∈ lw_all := lw_g (lw_at lw_m7 205 rfl) rfl
theorem q1717 : (Jvm.Cond.code ({ cls := "LevelCellarsModel", name := "offBy", desc := "(II)J" } : Jvm.MethodName) prog_22_method_55_code (9 : Nat) (Option.some Jvm.ClassFile.FieldType.long)) ∈ lw_all := lw_g (lw_at lw_m7 206 rfl) rfl
theorem q1718 : (Jvm.Cond.methodLink "LevelCellarsModel" (200 : Nat) ({ cls := "LevelCellarsModel", name := "told0", desc := "(I)I" } : Jvm.MethodName)) ∈ lw_all := lw_g (lw_at lw_m7 207 rfl) rfl
theorem q1719 : (Jvm.Cond.static ({ cls := "LevelCellarsModel", name := "told0", desc := "(I)I" } : Jvm.MethodName)) ∈ lw_all := lw_g (lw_at lw_m7 208 rfl) rfl
theorem q1720 : (Jvm.Cond.code ({ cls := "LevelCellarsModel", name := "told0", desc := "(I)I" } : Jvm.MethodName) prog_22_method_5_code (1 : Nat) (Option.some Jvm.ClassFile.FieldType.int)) ∈ lw_all := lw_g (lw_at lw_m7 209 rfl) rfl
theorem q1722 : (Jvm.Cond.instanceMethod ({ cls := "LevelCellarsModel", name := "fee", desc := "()I" } : Jvm.MethodName)) ∈ lw_all := lw_g (lw_at lw_m7 211 rfl) rfl
theorem q1723 : (Jvm.Cond.selects "LevelCellarsModel" ({ cls := "LevelCellarsModel", name := "fee", desc := "()I" } : Jvm.MethodName) ({ cls := "LevelCellarsModel", name := "fee", desc := "()I" } : Jvm.MethodName)) ∈ lw_all := lw_g (lw_at lw_m7 212 rfl) rfl
theorem q1724 : (Jvm.Cond.code ({ cls := "LevelCellarsModel", name := "fee", desc := "()I" } : Jvm.MethodName) prog_22_method_57_code (2 : Nat) (Option.some Jvm.ClassFile.FieldType.int)) ∈ lw_all := lw_g (lw_at lw_m7 213 rfl) rfl
theorem q1726 : (Jvm.Cond.instanceMethod ({ cls := "LevelCellarsModel", name := "fine", desc := "(I)I" } : Jvm.MethodName)) ∈ lw_all := lw_g (lw_at lw_m7 215 rfl) rfl
theorem q1727 : (Jvm.Cond.selects "LevelCellarsModel" ({ cls := "LevelCellarsModel", name := "fine", desc := "(I)I" } : Jvm.MethodName) ({ cls := "LevelCellarsModel", name := "fine", desc := "(I)I" } : Jvm.MethodName)) ∈ lw_all := lw_g (lw_at lw_m7 216 rfl) rfl
theorem q1728 : (Jvm.Cond.code ({ cls := "LevelCellarsModel", name := "fine", desc := "(I)I" } : Jvm.MethodName) prog_22_method_58_code (4 : Nat) (Option.some Jvm.ClassFile.FieldType.int)) ∈ lw_all := lw_g (lw_at lw_m7 217 rfl) rfl
theorem q1730 : (Jvm.Cond.instanceMethod ({ cls := "LevelCellarsModel", name := "feed", desc := "(III)I" } : Jvm.MethodName)) ∈ lw_all := lw_g (lw_at lw_m7 219 rfl) rfl
theorem q1731 : (Jvm.Cond.selects "LevelCellarsModel" ({ cls := "LevelCellarsModel", name := "feed", desc := "(III)I" } : Jvm.MethodName) ({ cls := "LevelCellarsModel", name := "feed", desc := "(III)I" } : Jvm.MethodName)) ∈ lw_all := lw_g (lw_at lw_m7 220 rfl) rfl
theorem q1732 : (Jvm.Cond.code ({ cls := "LevelCellarsModel", name := "feed", desc := "(III)I" } : Jvm.MethodName) prog_22_method_59_code (6 : Nat) (Option.some Jvm.ClassFile.FieldType.int)) ∈ lw_all := lw_g (lw_at lw_m7 221 rfl) rfl
theorem q1734 : (Jvm.Cond.instanceMethod ({ cls := "LevelCellarsModel", name := "trim", desc := "(I)I" } : Jvm.MethodName)) ∈ lw_all := lw_g (lw_at lw_m7 223 rfl) rfl
theorem q1735 : (Jvm.Cond.selects "LevelCellarsModel" ({ cls := "LevelCellarsModel", name := "trim", desc := "(I)I" } : Jvm.MethodName) ({ cls := "LevelCellarsModel", name := "trim", desc := "(I)I" } : Jvm.MethodName)) ∈ lw_all := lw_g (lw_at lw_m7 224 rfl) rfl
theorem q1736 : (Jvm.Cond.code ({ cls := "LevelCellarsModel", name := "trim", desc := "(I)I" } : Jvm.MethodName) prog_22_method_60_code (2 : Nat) (Option.some Jvm.ClassFile.FieldType.int)) ∈ lw_all := lw_g (lw_at lw_m7 225 rfl) rfl
theorem q1738 : (Jvm.Cond.instanceMethod ({ cls := "LevelCellarsModel", name := "text", desc := "()I" } : Jvm.MethodName)) ∈ lw_all := lw_g (lw_at lw_m7 227 rfl) rfl
theorem q1739 : (Jvm.Cond.selects "LevelCellarsModel" ({ cls := "LevelCellarsModel", name := "text", desc := "()I" } : Jvm.MethodName) ({ cls := "LevelCellarsModel", name := "text", desc := "()I" } : Jvm.MethodName)) ∈ lw_all := lw_g (lw_at lw_m7 228 rfl) rfl
theorem q1740 : (Jvm.Cond.code ({ cls := "LevelCellarsModel", name := "text", desc := "()I" } : Jvm.MethodName) prog_22_method_72_code (4 : Nat) (Option.some Jvm.ClassFile.FieldType.int)) ∈ lw_all := lw_g (lw_at lw_m7 229 rfl) rfl
theorem q1741 : (Jvm.Cond.methodLink "LevelCellarsModel" (231 : Nat) ({ cls := "LevelCellarsModel", name := "go", desc := "()V" } : Jvm.MethodName)) ∈ lw_all := lw_g (lw_at lw_m7 230 rfl) rfl
theorem q1742 : (Jvm.Cond.privateMethod ({ cls := "LevelCellarsModel", name := "go", desc := "()V" } : Jvm.MethodName)) ∈ lw_tbl := lw_at lw_m7 231 rfl
theorem q1743 : (Jvm.Cond.instanceMethod ({ cls := "LevelCellarsModel", name := "go", desc := "()V" } : Jvm.MethodName)) ∈ lw_all := lw_g (lw_at lw_m7 232 rfl) rfl
theorem q1744 : (Jvm.Cond.code ({ cls := "LevelCellarsModel", name := "go", desc := "()V" } : Jvm.MethodName) prog_22_method_63_code (2 : Nat) (Option.none : Option Jvm.ClassFile.FieldType)) ∈ lw_all := lw_g (lw_at lw_m7 233 rfl) rfl
theorem q1745 : (Jvm.Cond.methodLink "LevelCellarsModel" (219 : Nat) ({ cls := "LevelCellarsModel", name := "isLetter", desc := "(I)Z" } : Jvm.MethodName)) ∈ lw_all := lw_g (lw_at lw_m7 234 rfl) rfl
theorem q1746 : (Jvm.Cond.privateMethod ({ cls := "LevelCellarsModel", name := "isLetter", desc := "(I)Z" } : Jvm.MethodName)) ∈ lw_tbl := lw_at lw_m7 235 rfl
theorem q1747 : (Jvm.Cond.instanceMethod ({ cls := "LevelCellarsModel", name := "isLetter", desc := "(I)Z" } : Jvm.MethodName)) ∈ lw_all := lw_g (lw_at lw_m7 236 rfl) rfl
theorem q1748 : (Jvm.Cond.code ({ cls := "LevelCellarsModel", name := "isLetter", desc := "(I)Z" } : Jvm.MethodName) prog_22_method_61_code (2 : Nat) (Option.some Jvm.ClassFile.FieldType.boolean)) ∈ lw_all := lw_g (lw_at lw_m7 237 rfl) rfl
theorem q1749 : (Jvm.Cond.methodLink "LevelCellarsModel" (225 : Nat) ({ cls := "LevelCellarsModel", name := "isFigure", desc := "(I)Z" } : Jvm.MethodName)) ∈ lw_all := lw_g (lw_at lw_m7 238 rfl) rfl
theorem q1750 : (Jvm.Cond.privateMethod ({ cls := "LevelCellarsModel", name := "isFigure", desc := "(I)Z" } : Jvm.MethodName)) ∈ lw_tbl := lw_at lw_m7 239 rfl
theorem q1751 : (Jvm.Cond.instanceMethod ({ cls := "LevelCellarsModel", name := "isFigure", desc := "(I)Z" } : Jvm.MethodName)) ∈ lw_all := lw_g (lw_at lw_m8 0 rfl) rfl
theorem q1752 : (Jvm.Cond.code ({ cls := "LevelCellarsModel", name := "isFigure", desc := "(I)Z" } : Jvm.MethodName) prog_22_method_62_code (2 : Nat) (Option.some Jvm.ClassFile.FieldType.boolean)) ∈ lw_all := lw_g (lw_at lw_m8 1 rfl) rfl
theorem q1753 : (Jvm.Cond.methodLink "LevelCellarsModel" (262 : Nat) ({ cls := "LevelCellarsModel", name := "takesKey", desc := "()Z" } : Jvm.MethodName)) ∈ lw_all := lw_g (lw_at lw_m8 2 rfl) rfl
theorem q1754 : (Jvm.Cond.privateMethod ({ cls := "LevelCellarsModel", name := "takesKey", desc := "()Z" } : Jvm.MethodName)) ∈ lw_tbl := lw_at lw_m8 3 rfl
theorem q1755 : (Jvm.Cond.instanceMethod ({ cls := "LevelCellarsModel", name := "takesKey", desc := "()Z" } : Jvm.MethodName)) ∈ lw_all := lw_g (lw_at lw_m8 4 rfl) rfl
theorem q1756 : (Jvm.Cond.code ({ cls := "LevelCellarsModel", name := "takesKey", desc := "()Z" } : Jvm.MethodName) prog_22_method_64_code (5 : Nat) (Option.some Jvm.ClassFile.FieldType.boolean)) ∈ lw_all := lw_g (lw_at lw_m8 5 rfl) rfl
theorem q1757 : (Jvm.Cond.methodLink "LevelCellarsModel" (265 : Nat) ({ cls := "LevelCellarsModel", name := "takesE", desc := "()Z" } : Jvm.MethodName)) ∈ lw_all := lw_g (lw_at lw_m8 6 rfl) rfl
theorem q1758 : (Jvm.Cond.privateMethod ({ cls := "LevelCellarsModel", name := "takesE", desc := "()Z" } : Jvm.MethodName)) ∈ lw_tbl := lw_at lw_m8 7 rfl
theorem q1759 : (Jvm.Cond.instanceMethod ({ cls := "LevelCellarsModel", name := "takesE", desc := "()Z" } : Jvm.MethodName)) ∈ lw_all := lw_g (lw_at lw_m8 8 rfl) rfl
theorem q1760 : (Jvm.Cond.code ({ cls := "LevelCellarsModel", name := "takesE", desc := "()Z" } : Jvm.MethodName) prog_22_method_70_code (5 : Nat) (Option.some Jvm.ClassFile.FieldType.boolean)) ∈ lw_all := lw_g (lw_at lw_m8 9 rfl) rfl
theorem q1761 : (Jvm.Cond.methodLink "LevelCellarsModel" (252 : Nat) ({ cls := "LevelCellarsModel", name := "takesPart", desc := "()Z" } : Jvm.MethodName)) ∈ lw_all := lw_g (lw_at lw_m8 10 rfl) rfl
theorem q1762 : (Jvm.Cond.privateMethod ({ cls := "LevelCellarsModel", name := "takesPart", desc := "()Z" } : Jvm.MethodName)) ∈ lw_tbl := lw_at lw_m8 11 rfl
theorem q1763 : (Jvm.Cond.instanceMethod ({ cls := "LevelCellarsModel", name := "takesPart", desc := "()Z" } : Jvm.MethodName)) ∈ lw_all := lw_g (lw_at lw_m8 12 rfl) rfl
theorem q1764 : (Jvm.Cond.code ({ cls := "LevelCellarsModel", name := "takesPart", desc := "()Z" } : Jvm.MethodName) prog_22_method_69_code (2 : Nat) (Option.some Jvm.ClassFile.FieldType.boolean)) ∈ lw_all := lw_g (lw_at lw_m8 13 rfl) rfl
theorem q1765 : (Jvm.Cond.methodLink "LevelCellarsModel" (243 : Nat) ({ cls := "LevelCellarsModel", name := "nameOf", desc := "(I)I" } : Jvm.MethodName)) ∈ lw_all := lw_g (lw_at lw_m8 14 rfl) rfl
theorem q1766 : (Jvm.Cond.privateMethod ({ cls := "LevelCellarsModel", name := "nameOf", desc := "(I)I" } : Jvm.MethodName)) ∈ lw_tbl := lw_at lw_m8 15 rfl
theorem q1767 : (Jvm.Cond.instanceMethod ({ cls := "LevelCellarsModel", name := "nameOf", desc := "(I)I" } : Jvm.MethodName)) ∈ lw_all := lw_g (lw_at lw_m8 16 rfl) rfl
theorem q1768 : (Jvm.Cond.code ({ cls := "LevelCellarsModel", name := "nameOf", desc := "(I)I" } : Jvm.MethodName) prog_22_method_65_code (2 : Nat) (Option.some Jvm.ClassFile.FieldType.int)) ∈ lw_all := lw_g (lw_at lw_m8 17 rfl) rfl
theorem q1769 : (Jvm.Cond.methodLink "LevelCellarsModel" (249 : Nat) ({ cls := "LevelCellarsModel", name := "settle", desc := "(I)V" } : Jvm.MethodName)) ∈ lw_all := lw_g (lw_at lw_m8 18 rfl) rfl
theorem q1770 : (Jvm.Cond.privateMethod ({ cls := "LevelCellarsModel", name := "settle", desc := "(I)V" } : Jvm.MethodName)) ∈ lw_tbl := lw_at lw_m8 19 rfl
theorem q1771 : (Jvm.Cond.instanceMethod ({ cls := "LevelCellarsModel", name := "settle", desc := "(I)V" } : Jvm.MethodName)) ∈ lw_all := lw_g (lw_at lw_m8 20 rfl) rfl
theorem q1772 : (Jvm.Cond.code ({ cls := "LevelCellarsModel", name := "settle", desc := "(I)V" } : Jvm.MethodName) prog_22_method_67_code (2 : Nat) (Option.none : Option Jvm.ClassFile.FieldType)) ∈ lw_all := lw_g (lw_at lw_m8 21 rfl) rfl
theorem q1773 : (Jvm.Cond.methodLink "LevelCellarsModel" (237 : Nat) ({ cls := "LevelCellarsModel", name := "rank", desc := "(I)I" } : Jvm.MethodName)) ∈ lw_all := lw_g (lw_at lw_m8 22 rfl) rfl
theorem q1774 : (Jvm.Cond.static ({ cls := "LevelCellarsModel", name := "rank", desc := "(I)I" } : Jvm.MethodName)) ∈ lw_all := lw_g (lw_at lw_m8 23 rfl) rfl
theorem q1775 : (Jvm.Cond.code ({ cls := "LevelCellarsModel", name := "rank", desc := "(I)I" } : Jvm.MethodName) prog_22_method_66_code (1 : Nat) (Option.some Jvm.ClassFile.FieldType.int)) ∈ lw_all := lw_g (lw_at lw_m8 24 rfl) rfl
theorem q1776 : (Jvm.Cond.methodLink "LevelCellarsModel" (256 : Nat) ({ cls := "LevelCellarsModel", name := "notsOpen", desc := "()I" } : Jvm.MethodName)) ∈ lw_all := lw_g (lw_at lw_m8 25 rfl) rfl
theorem q1777 : (Jvm.Cond.privateMethod ({ cls := "LevelCellarsModel", name := "notsOpen", desc := "()I" } : Jvm.MethodName)) ∈ lw_tbl := lw_at lw_m8 26 rfl
theorem q1778 : (Jvm.Cond.instanceMethod ({ cls := "LevelCellarsModel", name := "notsOpen", desc := "()I" } : Jvm.MethodName)) ∈ lw_all := lw_g (lw_at lw_m8 27 rfl) rfl
theorem q1779 : (Jvm.Cond.code ({ cls := "LevelCellarsModel", name := "notsOpen", desc := "()I" } : Jvm.MethodName) prog_22_method_71_code (3 : Nat) (Option.some Jvm.ClassFile.FieldType.int)) ∈ lw_all := lw_g (lw_at lw_m8 28 rfl) rfl
theorem q1780 : (Jvm.Cond.methodLink "LevelCellarsModel" (259 : Nat) ({ cls := "LevelCellarsModel", name := "signHere", desc := "()I" } : Jvm.MethodName)) ∈ lw_all := lw_g (lw_at lw_m8 29 rfl) rfl
theorem q1781 : (Jvm.Cond.privateMethod ({ cls := "LevelCellarsModel", name := "signHere", desc := "()I" } : Jvm.MethodName)) ∈ lw_tbl := lw_at lw_m8 30 rfl
theorem q1782 : (Jvm.Cond.instanceMethod ({ cls := "LevelCellarsModel", name := "signHere", desc := "()I" } : Jvm.MethodName)) ∈ lw_all := lw_g (lw_at lw_m8 31 rfl) rfl
theorem q1783 : (Jvm.Cond.code ({ cls := "LevelCellarsModel", name := "signHere", desc := "()I" } : Jvm.MethodName) prog_22_method_68_code (1 : Nat) (Option.some Jvm.ClassFile.FieldType.int)) ∈ lw_all := lw_g (lw_at lw_m8 32 rfl) rfl
theorem q1785 : (Jvm.Cond.instanceMethod ({ cls := "LevelCellarsModel", name := "textTold", desc := "(II)I" } : Jvm.MethodName)) ∈ lw_all := lw_g (lw_at lw_m8 34 rfl) rfl
theorem q1786 : (Jvm.Cond.selects "LevelCellarsModel" ({ cls := "LevelCellarsModel", name := "textTold", desc := "(II)I" } : Jvm.MethodName) ({ cls := "LevelCellarsModel", name := "textTold", desc := "(II)I" } : Jvm.MethodName)) ∈ lw_all := lw_g (lw_at lw_m8 35 rfl) rfl
theorem q1787 : (Jvm.Cond.code ({ cls := "LevelCellarsModel", name := "textTold", desc := "(II)I" } : Jvm.MethodName) prog_22_method_73_code (3 : Nat) (Option.some Jvm.ClassFile.FieldType.int)) ∈ lw_all := lw_g (lw_at lw_m8 36 rfl) rfl
theorem q1789 : (Jvm.Cond.instanceMethod ({ cls := "LevelCellarsModel", name := "why", desc := "(I)I" } : Jvm.MethodName)) ∈ lw_all := lw_g (lw_at lw_m8 38 rfl) rfl
theorem q1790 : (Jvm.Cond.selects "LevelCellarsModel" ({ cls := "LevelCellarsModel", name := "why", desc := "(I)I" } : Jvm.MethodName) ({ cls := "LevelCellarsModel", name := "why", desc := "(I)I" } : Jvm.MethodName)) ∈ lw_all := lw_g (lw_at lw_m8 39 rfl) rfl
theorem q1791 : (Jvm.Cond.code ({ cls := "LevelCellarsModel", name := "why", desc := "(I)I" } : Jvm.MethodName) prog_22_method_75_code (3 : Nat) (Option.some Jvm.ClassFile.FieldType.int)) ∈ lw_all := lw_g (lw_at lw_m8 40 rfl) rfl
theorem q1793 : (Jvm.Cond.instanceMethod ({ cls := "LevelCellarsModel", name := "sheet", desc := "(III)I" } : Jvm.MethodName)) ∈ lw_all := lw_g (lw_at lw_m8 42 rfl) rfl
theorem q1794 : (Jvm.Cond.selects "LevelCellarsModel" ({ cls := "LevelCellarsModel", name := "sheet", desc := "(III)I" } : Jvm.MethodName) ({ cls := "LevelCellarsModel", name := "sheet", desc := "(III)I" } : Jvm.MethodName)) ∈ lw_all := lw_g (lw_at lw_m8 43 rfl) rfl
theorem q1795 : (Jvm.Cond.code ({ cls := "LevelCellarsModel", name := "sheet", desc := "(III)I" } : Jvm.MethodName) prog_22_method_80_code (5 : Nat) (Option.some Jvm.ClassFile.FieldType.int)) ∈ lw_all := lw_g (lw_at lw_m8 44 rfl) rfl
theorem q1796 : (Jvm.Cond.constant "LevelCellarsModel" (271 : Nat) (-1000000014 : Int32)) ∈ lw_all := lw_g (lw_at lw_m8 45 rfl) rfl
theorem q1798 : (Jvm.Cond.instanceMethod ({ cls := "LevelCellarsModel", name := "mark", desc := "(III)I" } : Jvm.MethodName)) ∈ lw_all := lw_g (lw_at lw_m8 47 rfl) rfl
theorem q1799 : (Jvm.Cond.selects "LevelCellarsModel" ({ cls := "LevelCellarsModel", name := "mark", desc := "(III)I" } : Jvm.MethodName) ({ cls := "LevelCellarsModel", name := "mark", desc := "(III)I" } : Jvm.MethodName)) ∈ lw_all := lw_g (lw_at lw_m8 48 rfl) rfl
theorem q1800 : (Jvm.Cond.code ({ cls := "LevelCellarsModel", name := "mark", desc := "(III)I" } : Jvm.MethodName) prog_22_method_81_code (4 : Nat) (Option.some Jvm.ClassFile.FieldType.int)) ∈ lw_all := lw_g (lw_at lw_m8 49 rfl) rfl
theorem q1801 : (Jvm.Cond.constant "LevelCellarsModel" (272 : Nat) (-1000000013 : Int32)) ∈ lw_all := lw_g (lw_at lw_m8 50 rfl) rfl
theorem q1802 : (Jvm.Cond.constant "LevelCellarsModel" (273 : Nat) (-99999 : Int32)) ∈ lw_all := lw_g (lw_at lw_m8 51 rfl) rfl
theorem q1803 : (Jvm.Cond.constant "LevelCellarsModel" (274 : Nat) (99999 : Int32)) ∈ lw_all := lw_g (lw_at lw_m8 52 rfl) rfl
theorem q1805 : (Jvm.Cond.instanceMethod ({ cls := "LevelCellarsModel", name := "pour", desc := "(I)I" } : Jvm.MethodName)) ∈ lw_all := lw_g (lw_at lw_m8 54 rfl) rfl
theorem q1806 : (Jvm.Cond.selects "LevelCellarsModel" ({ cls := "LevelCellarsModel", name := "pour", desc := "(I)I" } : Jvm.MethodName) ({ cls := "LevelCellarsModel", name := "pour", desc := "(I)I" } : Jvm.MethodName)) ∈ lw_all := lw_g (lw_at lw_m8 55 rfl) rfl
theorem q1807 : (Jvm.Cond.code ({ cls := "LevelCellarsModel", name := "pour", desc := "(I)I" } : Jvm.MethodName) prog_22_method_82_code (6 : Nat) (Option.some Jvm.ClassFile.FieldType.int)) ∈ lw_all := lw_g (lw_at lw_m8 56 rfl) rfl
theorem q1809 : (Jvm.Cond.instanceMethod ({ cls := "LevelCellarsModel", name := "reads", desc := "(I)I" } : Jvm.MethodName)) ∈ lw_all := lw_g (lw_at lw_m8 58 rfl) rfl
theorem q1810 : (Jvm.Cond.selects "LevelCellarsModel" ({ cls := "LevelCellarsModel", name := "reads", desc := "(I)I" } : Jvm.MethodName) ({ cls := "LevelCellarsModel", name := "reads", desc := "(I)I" } : Jvm.MethodName)) ∈ lw_all := lw_g (lw_at lw_m8 59 rfl) rfl
theorem q1811 : (Jvm.Cond.code ({ cls := "LevelCellarsModel", name := "reads", desc := "(I)I" } : Jvm.MethodName) prog_22_method_83_code (4 : Nat) (Option.some Jvm.ClassFile.FieldType.int)) ∈ lw_all := lw_g (lw_at lw_m8 60 rfl) rfl
theorem q1813 : (Jvm.Cond.instanceMethod ({ cls := "LevelCellarsModel", name := "copy", desc := "(IIIII)I" } : Jvm.MethodName)) ∈ lw_all := lw_g (lw_at lw_m8 62 rfl) rfl
theorem q1814 : (Jvm.Cond.selects "LevelCellarsModel" ({ cls := "LevelCellarsModel", name := "copy", desc := "(IIIII)I" } : Jvm.MethodName) ({ cls := "LevelCellarsModel", name := "copy", desc := "(IIIII)I" } : Jvm.MethodName)) ∈ lw_all := lw_g (lw_at lw_m8 63 rfl) rfl
theorem q1815 : (Jvm.Cond.code ({ cls := "LevelCellarsModel", name := "copy", desc := "(IIIII)I" } : Jvm.MethodName) prog_22_method_84_code (7 : Nat) (Option.some Jvm.ClassFile.FieldType.int)) ∈ lw_all := lw_g (lw_at lw_m8 64 rfl) rfl
theorem q1817 : (Jvm.Cond.instanceMethod ({ cls := "LevelCellarsModel", name := "lay", desc := "(III)I" } : Jvm.MethodName)) ∈ lw_all := lw_g (lw_at lw_m8 66 rfl) rfl
theorem q1818 : (Jvm.Cond.selects "LevelCellarsModel" ({ cls := "LevelCellarsModel", name := "lay", desc := "(III)I" } : Jvm.MethodName) ({ cls := "LevelCellarsModel", name := "lay", desc := "(III)I" } : Jvm.MethodName)) ∈ lw_all := lw_g (lw_at lw_m8 67 rfl) rfl
theorem q1819 : (Jvm.Cond.code ({ cls := "LevelCellarsModel", name := "lay", desc := "(III)I" } : Jvm.MethodName) prog_22_method_85_code (6 : Nat) (Option.some Jvm.ClassFile.FieldType.int)) ∈ lw_all := lw_g (lw_at lw_m8 68 rfl) rfl
theorem q1820 : (Jvm.Cond.methodLink "LevelCellarsModel" (275 : Nat) ({ cls := "LevelCellarsModel", name := "isSlot", desc := "(I)Z" } : Jvm.MethodName)) ∈ lw_all := lw_g (lw_at lw_m8 69 rfl) rfl
theorem q1821 : (Jvm.Cond.static ({ cls := "LevelCellarsModel", name := "isSlot", desc := "(I)Z" } : Jvm.MethodName)) ∈ lw_all := lw_g (lw_at lw_m8 70 rfl) rfl
theorem q1822 : (Jvm.Cond.code ({ cls := "LevelCellarsModel", name := "isSlot", desc := "(I)Z" } : Jvm.MethodName) prog_22_method_79_code (1 : Nat) (Option.some Jvm.ClassFile.FieldType.boolean)) ∈ lw_all := lw_g (lw_at lw_m8 71 rfl) rfl
theorem q1824 : (Jvm.Cond.instanceMethod ({ cls := "LevelCellarsModel", name := "ask", desc := "(II)I" } : Jvm.MethodName)) ∈ lw_all := lw_g (lw_at lw_m8 73 rfl) rfl
theorem q1825 : (Jvm.Cond.selects "LevelCellarsModel" ({ cls := "LevelCellarsModel", name := "ask", desc := "(II)I" } : Jvm.MethodName) ({ cls := "LevelCellarsModel", name := "ask", desc := "(II)I" } : Jvm.MethodName)) ∈ lw_all := lw_g (lw_at lw_m8 74 rfl) rfl
theorem q1826 : (Jvm.Cond.code ({ cls := "LevelCellarsModel", name := "ask", desc := "(II)I" } : Jvm.MethodName) prog_22_method_86_code (3 : Nat) (Option.some Jvm.ClassFile.FieldType.int)) ∈ lw_all := lw_g (lw_at lw_m8 75 rfl) rfl
theorem q1828 : (Jvm.Cond.instanceMethod ({ cls := "LevelCellarsModel", name := "item", desc := "(II)I" } : Jvm.MethodName)) ∈ lw_all := lw_g (lw_at lw_m8 77 rfl) rfl
theorem q1829 : (Jvm.Cond.selects "LevelCellarsModel" ({ cls := "LevelCellarsModel", name := "item", desc := "(II)I" } : Jvm.MethodName) ({ cls := "LevelCellarsModel", name := "item", desc := "(II)I" } : Jvm.MethodName)) ∈ lw_all := lw_g (lw_at lw_m8 78 rfl) rfl
theorem q1830 : (Jvm.Cond.code ({ cls := "LevelCellarsModel", name := "item", desc := "(II)I" } : Jvm.MethodName) prog_22_method_87_code (4 : Nat) (Option.some Jvm.ClassFile.FieldType.int)) ∈ lw_all := lw_g (lw_at lw_m8 79 rfl) rfl
theorem q1832 : (Jvm.Cond.instanceMethod ({ cls := "LevelCellarsModel", name := "rest", desc := "(II)I" } : Jvm.MethodName)) ∈ lw_all := lw_g (lw_at lw_m8 81 rfl) rfl
theorem q1833 : (Jvm.Cond.selects "LevelCellarsModel" ({ cls := "LevelCellarsModel", name := "rest", desc := "(II)I" } : Jvm.MethodName) ({ cls := "LevelCellarsModel", name := "rest", desc := "(II)I" } : Jvm.MethodName)) ∈ lw_all := lw_g (lw_at lw_m8 82 rfl) rfl
theorem q1834 : (Jvm.Cond.code ({ cls := "LevelCellarsModel", name := "rest", desc := "(II)I" } : Jvm.MethodName) prog_22_method_88_code (3 : Nat) (Option.some Jvm.ClassFile.FieldType.int)) ∈ lw_all := lw_g (lw_at lw_m8 83 rfl) rfl
theorem q1835 : (Jvm.Cond.constant "LevelCellarsModel" (278 : Nat) (-1000000002 : Int32)) ∈ lw_all := lw_g (lw_at lw_m8 84 rfl) rfl
theorem q1837 : (Jvm.Cond.instanceMethod ({ cls := "LevelCellarsModel", name := "tell", desc := "(I)I" } : Jvm.MethodName)) ∈ lw_all := lw_g (lw_at lw_m8 86 rfl) rfl
theorem q1838 : (Jvm.Cond.selects "LevelCellarsModel" ({ cls := "LevelCellarsModel", name := "tell", desc := "(I)I" } : Jvm.MethodName) ({ cls := "LevelCellarsModel", name := "tell", desc := "(I)I" } : Jvm.MethodName)) ∈ lw_all := lw_g (lw_at lw_m8 87 rfl) rfl
theorem q1839 : (Jvm.Cond.code ({ cls := "LevelCellarsModel", name := "tell", desc := "(I)I" } : Jvm.MethodName) prog_22_method_89_code (2 : Nat) (Option.some Jvm.ClassFile.FieldType.int)) ∈ lw_all := lw_g (lw_at lw_m8 88 rfl) rfl
theorem q1841 : (Jvm.Cond.instanceMethod ({ cls := "LevelCellarsModel", name := "check", desc := "(I)I" } : Jvm.MethodName)) ∈ lw_all := lw_g (lw_at lw_m8 90 rfl) rfl
theorem q1842 : (Jvm.Cond.selects "LevelCellarsModel" ({ cls := "LevelCellarsModel", name := "check", desc := "(I)I" } : Jvm.MethodName) ({ cls := "LevelCellarsModel", name := "check", desc := "(I)I" } : Jvm.MethodName)) ∈ lw_all := lw_g (lw_at lw_m8 91 rfl) rfl
theorem q1843 : (Jvm.Cond.code ({ cls := "LevelCellarsModel", name := "check", desc := "(I)I" } : Jvm.MethodName) prog_22_method_90_code (6 : Nat) (Option.some Jvm.ClassFile.FieldType.int)) ∈ lw_all := lw_g (lw_at lw_m8 92 rfl) rfl
theorem q1844 : (Jvm.Cond.methodLink "LevelCellarsModel" (286 : Nat) ({ cls := "LevelCellarsModel", name := "copyAll", desc := "([I[I)V" } : Jvm.MethodName)) ∈ lw_all := lw_g (lw_at lw_m8 93 rfl) rfl
theorem q1845 : (Jvm.Cond.static ({ cls := "LevelCellarsModel", name := "copyAll", desc := "([I[I)V" } : Jvm.MethodName)) ∈ lw_all := lw_g (lw_at lw_m8 94 rfl) rfl
theorem q1846 : (Jvm.Cond.code ({ cls := "LevelCellarsModel", name := "copyAll", desc := "([I[I)V" } : Jvm.MethodName) prog_22_method_4_code (3 : Nat) (Option.none : Option Jvm.ClassFile.FieldType)) ∈ lw_all := lw_g (lw_at lw_m8 95 rfl) rfl
theorem q1848 : (Jvm.Cond.instanceMethod ({ cls := "LevelCellarsModel", name := "keep", desc := "()I" } : Jvm.MethodName)) ∈ lw_all := lw_g (lw_at lw_m8 97 rfl) rfl
theorem q1849 : (Jvm.Cond.selects "LevelCellarsModel" ({ cls := "LevelCellarsModel", name := "keep", desc := "()I" } : Jvm.MethodName) ({ cls := "LevelCellarsModel", name := "keep", desc := "()I" } : Jvm.MethodName)) ∈ lw_all := lw_g (lw_at lw_m8 98 rfl) rfl
theorem q1850 : (Jvm.Cond.code ({ cls := "LevelCellarsModel", name := "keep", desc := "()I" } : Jvm.MethodName) prog_22_method_91_code (1 : Nat) (Option.some Jvm.ClassFile.FieldType.int)) ∈ lw_all := lw_g (lw_at lw_m8 99 rfl) rfl
theorem q1852 : (Jvm.Cond.instanceMethod ({ cls := "LevelCellarsModel", name := "back", desc := "()I" } : Jvm.MethodName)) ∈ lw_all := lw_g (lw_at lw_m8 101 rfl) rfl
theorem q1853 : (Jvm.Cond.selects "LevelCellarsModel" ({ cls := "LevelCellarsModel", name := "back", desc := "()I" } : Jvm.MethodName) ({ cls := "LevelCellarsModel", name := "back", desc := "()I" } : Jvm.MethodName)) ∈ lw_all := lw_g (lw_at lw_m8 102 rfl) rfl
theorem q1854 : (Jvm.Cond.code ({ cls := "LevelCellarsModel", name := "back", desc := "()I" } : Jvm.MethodName) prog_22_method_92_code (1 : Nat) (Option.some Jvm.ClassFile.FieldType.int)) ∈ lw_all := lw_g (lw_at lw_m8 103 rfl) rfl
theorem q1856 : (Jvm.Cond.instanceMethod ({ cls := "LevelCellarsModel", name := "count", desc := "(I)I" } : Jvm.MethodName)) ∈ lw_all := lw_g (lw_at lw_m8 105 rfl) rfl
theorem q1857 : (Jvm.Cond.selects "LevelCellarsModel" ({ cls := "LevelCellarsModel", name := "count", desc := "(I)I" } : Jvm.MethodName) ({ cls := "LevelCellarsModel", name := "count", desc := "(I)I" } : Jvm.MethodName)) ∈ lw_all := lw_g (lw_at lw_m8 106 rfl) rfl
theorem q1858 : (Jvm.Cond.code ({ cls := "LevelCellarsModel", name := "count", desc := "(I)I" } : Jvm.MethodName) prog_22_method_94_code (2 : Nat) (Option.some Jvm.ClassFile.FieldType.int)) ∈ lw_all := lw_g (lw_at lw_m8 107 rfl) rfl
theorem q1859 : (Jvm.Cond.methodLink "LevelCellarsModel" (290 : Nat) ({ cls := "LevelCellarsModel", name := "corked", desc := "()I" } : Jvm.MethodName)) ∈ lw_all := lw_g (lw_at lw_m8 108 rfl) rfl
theorem q1860 : (Jvm.Cond.privateMethod ({ cls := "LevelCellarsModel", name := "corked", desc := "()I" } : Jvm.MethodName)) ∈ lw_tbl := lw_at lw_m8 109 rfl
theorem q1861 : (Jvm.Cond.instanceMethod ({ cls := "LevelCellarsModel", name := "corked", desc := "()I" } : Jvm.MethodName)) ∈ lw_all := lw_g (lw_at lw_m8 110 rfl) rfl
theorem q1862 : (Jvm.Cond.code ({ cls := "LevelCellarsModel", name := "corked", desc := "()I" } : Jvm.MethodName) prog_22_method_93_code (3 : Nat) (Option.some Jvm.ClassFile.FieldType.int)) ∈ lw_all := lw_g (lw_at lw_m8 111 rfl) rfl
theorem in_X3 : ∀ w ∈ wsX30, w ∈ lw_all := lw_in wsX30 [1417, 1419, 1421, 1423, 1425, 1427, 1429, 1431, 1433, 1435, 1437, 1439, 1441, 1443, 1445, 1447, 1449, 1451, 1453, 1455, 1457, 1459, 1461, 1463, 1465, 1467, 1469, 1471, 1473, 1475, 1477, 1479, 1481, 1483, 1485] (by decide +kernel) (by decide +kernel)
