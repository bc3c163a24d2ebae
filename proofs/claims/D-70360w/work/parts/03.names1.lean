/-! TowerTellModel -/
set_option maxRecDepth 100000
def RX1 : String := "TowerTellModel"
def TX1 : u_T := fun k => match k with
  | 0 => ("TowerTellModel", "fault", "I", false)
  | 1 => ("TowerTellModel", "trace", "I", false)
  | 2 => ("TowerTellModel", "sorts", "[I", true)
  | 3 => ("TowerTellModel", "sheetLong", "[I", true)
  | 4 => ("TowerTellModel", "cells", "[I", true)
  | 5 => ("TowerTellModel", "deeds", "I", false)
  | 6 => ("TowerTellModel", "people", "I", false)
  | 7 => ("TowerTellModel", "weightOf", "[I", true)
  | 8 => ("TowerTellModel", "kind", "[I", true)
  | 9 => ("TowerTellModel", "done", "[I", true)
  | 10 => ("TowerTellModel", "knows", "[I", true)
  | 11 => ("TowerTellModel", "told", "[I", true)
  | 12 => ("TowerTellModel", "at", "I", false)
  | 13 => ("TowerTellModel", "readDeeds", "I", false)
  | 14 => ("TowerTellModel", "readMany", "I", false)
  | 15 => ("TowerTellModel", "readWeight", "[I", true)
  | 16 => ("TowerTellModel", "read", "[I", true)
  | 17 => ("TowerTellModel", "then", "[I", true)
  | 18 => ("TowerTellModel", "pairs", "I", false)
  | 19 => ("TowerTellModel", "who", "[I", true)
  | 20 => ("TowerTellModel", "what", "[I", true)
  | 21 => ("TowerTellModel", "caught", "I", false)
  | 22 => ("TowerTellModel", "readings", "I", false)
  | 23 => ("TowerTellModel", "readWho", "[I", true)
  | _ => ("TowerTellModel", "readFloor", "[I", true)
def tyX1 : Nat → FieldType := fun k => match k with
  | 0 => .int
  | 1 => .int
  | 2 => .array .int
  | 3 => .array .int
  | 4 => .array .int
  | 5 => .int
  | 6 => .int
  | 7 => .array .int
  | 8 => .array .int
  | 9 => .array .int
  | 10 => .array .int
  | 11 => .array .int
  | 12 => .int
  | 13 => .int
  | 14 => .int
  | 15 => .array .int
  | 16 => .array .int
  | 17 => .array .int
  | 18 => .int
  | 19 => .array .int
  | 20 => .array .int
  | 21 => .int
  | 22 => .int
  | 23 => .array .int
  | _ => .array .int
abbrev wsX10 : List Cond := u_ws RX1 TX1 25
set_option maxRecDepth 100000 in
theorem nmX1 : ∀ a, a < 25 → ∀ b, b < 25 → a ≠ b → (TX1 a).2.1 ≠ (TX1 b).2.1 := by decide +kernel
set_option maxRecDepth 100000 in
theorem tyX1_ok : ∀ k, k < 25 → parseFieldDescriptor (TX1 k).2.2.1 = some (tyX1 k) := by decide +kernel
abbrev cX1_init : ByteArray := prog_15_method_1_code
def yX1_init : MethodName := ⟨RX1, "<init>", "()V"⟩
def dkwX1_init_5 : List UInt8 := [188, 10, 181, 0, 46, 42, 16, 8, 188, 10, 181, 0, 49, 42, 16, 8, 188, 10, 181, 0, 52, 177]
abbrev dktX1_init_5 : List UInt8 := dkwX1_init_5 ++ []
def dkwX1_init_4 : List UInt8 := [188, 10, 181, 0, 37, 42, 7, 188, 10, 181, 0, 40, 42, 16, 20, 188, 10, 181, 0, 43, 42, 16, 20]
abbrev dktX1_init_4 : List UInt8 := dkwX1_init_4 ++ dktX1_init_5
def dkwX1_init_3 : List UInt8 := [188, 10, 181, 0, 28, 42, 7, 188, 10, 181, 0, 31, 42, 16, 6, 188, 10, 181, 0, 34, 42, 16, 12]
abbrev dktX1_init_3 : List UInt8 := dkwX1_init_3 ++ dktX1_init_4
def dkwX1_init_2 : List UInt8 := [16, 6, 188, 10, 181, 0, 19, 42, 7, 188, 10, 181, 0, 22, 42, 7, 188, 10, 181, 0, 25, 42, 7]
abbrev dktX1_init_2 : List UInt8 := dkwX1_init_2 ++ dktX1_init_3
def dkwX1_init_1 : List UInt8 := [6, 16, 247, 79, 181, 0, 9, 42, 7, 188, 10, 181, 0, 13, 42, 17, 0, 240, 188, 10, 181, 0, 16, 42]
abbrev dktX1_init_1 : List UInt8 := dkwX1_init_1 ++ dktX1_init_2
def dkwX1_init_0 : List UInt8 := [42, 183, 0, 1, 42, 7, 188, 10, 89, 3, 16, 247, 79, 89, 4, 16, 247, 79, 89, 5, 16, 247, 79, 89]
abbrev dktX1_init_0 : List UInt8 := dkwX1_init_0 ++ dktX1_init_1
theorem dksX1_init_0 : cX1_init.data.toList.drop 0 = dktX1_init_0 := by decide +kernel
theorem dksX1_init_1 : cX1_init.data.toList.drop 24 = dktX1_init_1 := dk_seg dksX1_init_0 24 rfl rfl
theorem dksX1_init_2 : cX1_init.data.toList.drop 48 = dktX1_init_2 := dk_seg dksX1_init_1 24 rfl rfl
theorem dksX1_init_3 : cX1_init.data.toList.drop 71 = dktX1_init_3 := dk_seg dksX1_init_2 23 rfl rfl
theorem dksX1_init_4 : cX1_init.data.toList.drop 94 = dktX1_init_4 := dk_seg dksX1_init_3 23 rfl rfl
theorem dksX1_init_5 : cX1_init.data.toList.drop 117 = dktX1_init_5 := dk_seg dksX1_init_4 23 rfl rfl
theorem dX1_init_0 : decode cX1_init 0 = .ok (.aload_n 0, 1) := dk_42 (dk_at dksX1_init_0 0 rfl rfl)
theorem dX1_init_1 : decode cX1_init 1 = .ok (.invokespecial 1, 3) := dk_183 0 1 (dk_at dksX1_init_0 1 rfl rfl)
theorem dX1_init_4 : decode cX1_init 4 = .ok (.aload_n 0, 1) := dk_42 (dk_at dksX1_init_0 4 rfl rfl)
theorem dX1_init_5 : decode cX1_init 5 = .ok (.iconst 4, 1) := dk_7 (dk_at dksX1_init_0 5 rfl rfl)
theorem dX1_init_6 : decode cX1_init 6 = .ok (.newarray .int, 2) := dk_188_10 (dk_at dksX1_init_0 6 rfl rfl)
theorem dX1_init_8 : decode cX1_init 8 = .ok (.dup, 1) := dk_89 (dk_at dksX1_init_0 8 rfl rfl)
theorem dX1_init_9 : decode cX1_init 9 = .ok (.iconst 0, 1) := dk_3 (dk_at dksX1_init_0 9 rfl rfl)
theorem dX1_init_10 : decode cX1_init 10 = .ok (.bipush (-9), 2) := dk_16 247 (dk_at dksX1_init_0 10 rfl rfl)
theorem dX1_init_12 : decode cX1_init 12 = .ok (.iastore, 1) := dk_79 (dk_at dksX1_init_0 12 rfl rfl)
theorem dX1_init_13 : decode cX1_init 13 = .ok (.dup, 1) := dk_89 (dk_at dksX1_init_0 13 rfl rfl)
theorem dX1_init_14 : decode cX1_init 14 = .ok (.iconst 1, 1) := dk_4 (dk_at dksX1_init_0 14 rfl rfl)
theorem dX1_init_15 : decode cX1_init 15 = .ok (.bipush (-9), 2) := dk_16 247 (dk_at dksX1_init_0 15 rfl rfl)
theorem dX1_init_17 : decode cX1_init 17 = .ok (.iastore, 1) := dk_79 (dk_at dksX1_init_0 17 rfl rfl)
theorem dX1_init_18 : decode cX1_init 18 = .ok (.dup, 1) := dk_89 (dk_at dksX1_init_0 18 rfl rfl)
theorem dX1_init_19 : decode cX1_init 19 = .ok (.iconst 2, 1) := dk_5 (dk_at dksX1_init_0 19 rfl rfl)
theorem dX1_init_20 : decode cX1_init 20 = .ok (.bipush (-9), 2) := dk_16 247 (dk_at dksX1_init_0 20 rfl rfl)
theorem dX1_init_22 : decode cX1_init 22 = .ok (.iastore, 1) := dk_79 (dk_at dksX1_init_0 22 rfl rfl)
theorem dX1_init_23 : decode cX1_init 23 = .ok (.dup, 1) := dk_89 (dk_at dksX1_init_0 23 rfl rfl)
theorem dX1_init_24 : decode cX1_init 24 = .ok (.iconst 3, 1) := dk_6 (dk_at dksX1_init_1 0 rfl rfl)
theorem dX1_init_25 : decode cX1_init 25 = .ok (.bipush (-9), 2) := dk_16 247 (dk_at dksX1_init_1 1 rfl rfl)
theorem dX1_init_27 : decode cX1_init 27 = .ok (.iastore, 1) := dk_79 (dk_at dksX1_init_1 3 rfl rfl)
theorem dX1_init_28 : decode cX1_init 28 = .ok (.putfield 9, 3) := dk_181 0 9 (dk_at dksX1_init_1 4 rfl rfl)
theorem dX1_init_31 : decode cX1_init 31 = .ok (.aload_n 0, 1) := dk_42 (dk_at dksX1_init_1 7 rfl rfl)
theorem dX1_init_32 : decode cX1_init 32 = .ok (.iconst 4, 1) := dk_7 (dk_at dksX1_init_1 8 rfl rfl)
theorem dX1_init_33 : decode cX1_init 33 = .ok (.newarray .int, 2) := dk_188_10 (dk_at dksX1_init_1 9 rfl rfl)
theorem dX1_init_35 : decode cX1_init 35 = .ok (.putfield 13, 3) := dk_181 0 13 (dk_at dksX1_init_1 11 rfl rfl)
theorem dX1_init_38 : decode cX1_init 38 = .ok (.aload_n 0, 1) := dk_42 (dk_at dksX1_init_1 14 rfl rfl)
theorem dX1_init_39 : decode cX1_init 39 = .ok (.sipush 240, 3) := dk_17 0 240 (dk_at dksX1_init_1 15 rfl rfl)
theorem dX1_init_42 : decode cX1_init 42 = .ok (.newarray .int, 2) := dk_188_10 (dk_at dksX1_init_1 18 rfl rfl)
theorem dX1_init_44 : decode cX1_init 44 = .ok (.putfield 16, 3) := dk_181 0 16 (dk_at dksX1_init_1 20 rfl rfl)
theorem dX1_init_47 : decode cX1_init 47 = .ok (.aload_n 0, 1) := dk_42 (dk_at dksX1_init_1 23 rfl rfl)
theorem dX1_init_48 : decode cX1_init 48 = .ok (.bipush 6, 2) := dk_16 6 (dk_at dksX1_init_2 0 rfl rfl)
theorem dX1_init_50 : decode cX1_init 50 = .ok (.newarray .int, 2) := dk_188_10 (dk_at dksX1_init_2 2 rfl rfl)
theorem dX1_init_52 : decode cX1_init 52 = .ok (.putfield 19, 3) := dk_181 0 19 (dk_at dksX1_init_2 4 rfl rfl)
theorem dX1_init_55 : decode cX1_init 55 = .ok (.aload_n 0, 1) := dk_42 (dk_at dksX1_init_2 7 rfl rfl)
theorem dX1_init_56 : decode cX1_init 56 = .ok (.iconst 4, 1) := dk_7 (dk_at dksX1_init_2 8 rfl rfl)
theorem dX1_init_57 : decode cX1_init 57 = .ok (.newarray .int, 2) := dk_188_10 (dk_at dksX1_init_2 9 rfl rfl)
theorem dX1_init_59 : decode cX1_init 59 = .ok (.putfield 22, 3) := dk_181 0 22 (dk_at dksX1_init_2 11 rfl rfl)
theorem dX1_init_62 : decode cX1_init 62 = .ok (.aload_n 0, 1) := dk_42 (dk_at dksX1_init_2 14 rfl rfl)
theorem dX1_init_63 : decode cX1_init 63 = .ok (.iconst 4, 1) := dk_7 (dk_at dksX1_init_2 15 rfl rfl)
theorem dX1_init_64 : decode cX1_init 64 = .ok (.newarray .int, 2) := dk_188_10 (dk_at dksX1_init_2 16 rfl rfl)
theorem dX1_init_66 : decode cX1_init 66 = .ok (.putfield 25, 3) := dk_181 0 25 (dk_at dksX1_init_2 18 rfl rfl)
theorem dX1_init_69 : decode cX1_init 69 = .ok (.aload_n 0, 1) := dk_42 (dk_at dksX1_init_2 21 rfl rfl)
theorem dX1_init_70 : decode cX1_init 70 = .ok (.iconst 4, 1) := dk_7 (dk_at dksX1_init_2 22 rfl rfl)
theorem dX1_init_71 : decode cX1_init 71 = .ok (.newarray .int, 2) := dk_188_10 (dk_at dksX1_init_3 0 rfl rfl)
theorem dX1_init_73 : decode cX1_init 73 = .ok (.putfield 28, 3) := dk_181 0 28 (dk_at dksX1_init_3 2 rfl rfl)
theorem dX1_init_76 : decode cX1_init 76 = .ok (.aload_n 0, 1) := dk_42 (dk_at dksX1_init_3 5 rfl rfl)
theorem dX1_init_77 : decode cX1_init 77 = .ok (.iconst 4, 1) := dk_7 (dk_at dksX1_init_3 6 rfl rfl)
theorem dX1_init_78 : decode cX1_init 78 = .ok (.newarray .int, 2) := dk_188_10 (dk_at dksX1_init_3 7 rfl rfl)
theorem dX1_init_80 : decode cX1_init 80 = .ok (.putfield 31, 3) := dk_181 0 31 (dk_at dksX1_init_3 9 rfl rfl)
theorem dX1_init_83 : decode cX1_init 83 = .ok (.aload_n 0, 1) := dk_42 (dk_at dksX1_init_3 12 rfl rfl)
theorem dX1_init_84 : decode cX1_init 84 = .ok (.bipush 6, 2) := dk_16 6 (dk_at dksX1_init_3 13 rfl rfl)
theorem dX1_init_86 : decode cX1_init 86 = .ok (.newarray .int, 2) := dk_188_10 (dk_at dksX1_init_3 15 rfl rfl)
theorem dX1_init_88 : decode cX1_init 88 = .ok (.putfield 34, 3) := dk_181 0 34 (dk_at dksX1_init_3 17 rfl rfl)
theorem dX1_init_91 : decode cX1_init 91 = .ok (.aload_n 0, 1) := dk_42 (dk_at dksX1_init_3 20 rfl rfl)
theorem dX1_init_92 : decode cX1_init 92 = .ok (.bipush 12, 2) := dk_16 12 (dk_at dksX1_init_3 21 rfl rfl)
theorem dX1_init_94 : decode cX1_init 94 = .ok (.newarray .int, 2) := dk_188_10 (dk_at dksX1_init_4 0 rfl rfl)
theorem dX1_init_96 : decode cX1_init 96 = .ok (.putfield 37, 3) := dk_181 0 37 (dk_at dksX1_init_4 2 rfl rfl)
theorem dX1_init_99 : decode cX1_init 99 = .ok (.aload_n 0, 1) := dk_42 (dk_at dksX1_init_4 5 rfl rfl)
theorem dX1_init_100 : decode cX1_init 100 = .ok (.iconst 4, 1) := dk_7 (dk_at dksX1_init_4 6 rfl rfl)
theorem dX1_init_101 : decode cX1_init 101 = .ok (.newarray .int, 2) := dk_188_10 (dk_at dksX1_init_4 7 rfl rfl)
theorem dX1_init_103 : decode cX1_init 103 = .ok (.putfield 40, 3) := dk_181 0 40 (dk_at dksX1_init_4 9 rfl rfl)
theorem dX1_init_106 : decode cX1_init 106 = .ok (.aload_n 0, 1) := dk_42 (dk_at dksX1_init_4 12 rfl rfl)
theorem dX1_init_107 : decode cX1_init 107 = .ok (.bipush 20, 2) := dk_16 20 (dk_at dksX1_init_4 13 rfl rfl)
theorem dX1_init_109 : decode cX1_init 109 = .ok (.newarray .int, 2) := dk_188_10 (dk_at dksX1_init_4 15 rfl rfl)
theorem dX1_init_111 : decode cX1_init 111 = .ok (.putfield 43, 3) := dk_181 0 43 (dk_at dksX1_init_4 17 rfl rfl)
theorem dX1_init_114 : decode cX1_init 114 = .ok (.aload_n 0, 1) := dk_42 (dk_at dksX1_init_4 20 rfl rfl)
theorem dX1_init_115 : decode cX1_init 115 = .ok (.bipush 20, 2) := dk_16 20 (dk_at dksX1_init_4 21 rfl rfl)
theorem dX1_init_117 : decode cX1_init 117 = .ok (.newarray .int, 2) := dk_188_10 (dk_at dksX1_init_5 0 rfl rfl)
theorem dX1_init_119 : decode cX1_init 119 = .ok (.putfield 46, 3) := dk_181 0 46 (dk_at dksX1_init_5 2 rfl rfl)
theorem dX1_init_122 : decode cX1_init 122 = .ok (.aload_n 0, 1) := dk_42 (dk_at dksX1_init_5 5 rfl rfl)
theorem dX1_init_123 : decode cX1_init 123 = .ok (.bipush 8, 2) := dk_16 8 (dk_at dksX1_init_5 6 rfl rfl)
theorem dX1_init_125 : decode cX1_init 125 = .ok (.newarray .int, 2) := dk_188_10 (dk_at dksX1_init_5 8 rfl rfl)
theorem dX1_init_127 : decode cX1_init 127 = .ok (.putfield 49, 3) := dk_181 0 49 (dk_at dksX1_init_5 10 rfl rfl)
theorem dX1_init_130 : decode cX1_init 130 = .ok (.aload_n 0, 1) := dk_42 (dk_at dksX1_init_5 13 rfl rfl)
theorem dX1_init_131 : decode cX1_init 131 = .ok (.bipush 8, 2) := dk_16 8 (dk_at dksX1_init_5 14 rfl rfl)
theorem dX1_init_133 : decode cX1_init 133 = .ok (.newarray .int, 2) := dk_188_10 (dk_at dksX1_init_5 16 rfl rfl)
theorem dX1_init_135 : decode cX1_init 135 = .ok (.putfield 52, 3) := dk_181 0 52 (dk_at dksX1_init_5 18 rfl rfl)
theorem dX1_init_138 : decode cX1_init 138 = .ok (.return_, 1) := dk_177 (dk_at dksX1_init_5 21 rfl rfl)
abbrev cX1_tower : ByteArray := prog_15_method_13_code
def yX1_tower : MethodName := ⟨RX1, "tower", "(IIII)I"⟩
def dkwX1_tower_3 : List UInt8 := [154, 0, 14, 16, 156, 42, 180, 0, 71, 21, 6, 100, 100, 172, 42, 182, 0, 92, 42, 180, 0, 68, 172]
abbrev dktX1_tower_3 : List UInt8 := dkwX1_tower_3 ++ []
def dkwX1_tower_2 : List UInt8 := [16, 60, 27, 104, 29, 96, 54, 6, 42, 21, 6, 181, 0, 71, 42, 21, 6, 21, 4, 96, 182, 0, 89]
abbrev dktX1_tower_2 : List UInt8 := dkwX1_tower_2 ++ dktX1_tower_3
def dkwX1_tower_1 : List UInt8 := [42, 27, 28, 29, 21, 4, 182, 0, 81, 54, 5, 21, 5, 153, 0, 10, 42, 21, 5, 182, 0, 85, 172]
abbrev dktX1_tower_1 : List UInt8 := dkwX1_tower_1 ++ dktX1_tower_2
def dkwX1_tower_0 : List UInt8 := [42, 3, 181, 0, 55, 27, 184, 0, 74, 154, 0, 5, 2, 172, 28, 184, 0, 78, 154, 0, 6, 16, 254, 172]
abbrev dktX1_tower_0 : List UInt8 := dkwX1_tower_0 ++ dktX1_tower_1
theorem dksX1_tower_0 : cX1_tower.data.toList.drop 0 = dktX1_tower_0 := by decide +kernel
theorem dksX1_tower_1 : cX1_tower.data.toList.drop 24 = dktX1_tower_1 := dk_seg dksX1_tower_0 24 rfl rfl
theorem dksX1_tower_2 : cX1_tower.data.toList.drop 47 = dktX1_tower_2 := dk_seg dksX1_tower_1 23 rfl rfl
theorem dksX1_tower_3 : cX1_tower.data.toList.drop 70 = dktX1_tower_3 := dk_seg dksX1_tower_2 23 rfl rfl
theorem dX1_tower_0 : decode cX1_tower 0 = .ok (.aload_n 0, 1) := dk_42 (dk_at dksX1_tower_0 0 rfl rfl)
theorem dX1_tower_1 : decode cX1_tower 1 = .ok (.iconst 0, 1) := dk_3 (dk_at dksX1_tower_0 1 rfl rfl)
theorem dX1_tower_2 : decode cX1_tower 2 = .ok (.putfield 55, 3) := dk_181 0 55 (dk_at dksX1_tower_0 2 rfl rfl)
theorem dX1_tower_5 : decode cX1_tower 5 = .ok (.iload_n 1, 1) := dk_27 (dk_at dksX1_tower_0 5 rfl rfl)
theorem dX1_tower_6 : decode cX1_tower 6 = .ok (.invokestatic 74, 3) := dk_184 0 74 (dk_at dksX1_tower_0 6 rfl rfl)
theorem dX1_tower_9 : decode cX1_tower 9 = .ok (.ifCond .ne 5, 3) := dk_154 0 5 (dk_at dksX1_tower_0 9 rfl rfl)
theorem dX1_tower_12 : decode cX1_tower 12 = .ok (.iconst (-1), 1) := dk_2 (dk_at dksX1_tower_0 12 rfl rfl)
theorem dX1_tower_13 : decode cX1_tower 13 = .ok (.ireturn, 1) := dk_172 (dk_at dksX1_tower_0 13 rfl rfl)
theorem dX1_tower_14 : decode cX1_tower 14 = .ok (.iload_n 2, 1) := dk_28 (dk_at dksX1_tower_0 14 rfl rfl)
theorem dX1_tower_15 : decode cX1_tower 15 = .ok (.invokestatic 78, 3) := dk_184 0 78 (dk_at dksX1_tower_0 15 rfl rfl)
theorem dX1_tower_18 : decode cX1_tower 18 = .ok (.ifCond .ne 6, 3) := dk_154 0 6 (dk_at dksX1_tower_0 18 rfl rfl)
theorem dX1_tower_21 : decode cX1_tower 21 = .ok (.bipush (-2), 2) := dk_16 254 (dk_at dksX1_tower_0 21 rfl rfl)
theorem dX1_tower_23 : decode cX1_tower 23 = .ok (.ireturn, 1) := dk_172 (dk_at dksX1_tower_0 23 rfl rfl)
theorem dX1_tower_24 : decode cX1_tower 24 = .ok (.aload_n 0, 1) := dk_42 (dk_at dksX1_tower_1 0 rfl rfl)
theorem dX1_tower_25 : decode cX1_tower 25 = .ok (.iload_n 1, 1) := dk_27 (dk_at dksX1_tower_1 1 rfl rfl)
theorem dX1_tower_26 : decode cX1_tower 26 = .ok (.iload_n 2, 1) := dk_28 (dk_at dksX1_tower_1 2 rfl rfl)
theorem dX1_tower_27 : decode cX1_tower 27 = .ok (.iload_n 3, 1) := dk_29 (dk_at dksX1_tower_1 3 rfl rfl)
theorem dX1_tower_28 : decode cX1_tower 28 = .ok (.iload 4, 2) := dk_21 4 (dk_at dksX1_tower_1 4 rfl rfl)
theorem dX1_tower_30 : decode cX1_tower 30 = .ok (.invokevirtual 81, 3) := dk_182 0 81 (dk_at dksX1_tower_1 6 rfl rfl)
theorem dX1_tower_33 : decode cX1_tower 33 = .ok (.istore 5, 2) := dk_54 5 (dk_at dksX1_tower_1 9 rfl rfl)
theorem dX1_tower_35 : decode cX1_tower 35 = .ok (.iload 5, 2) := dk_21 5 (dk_at dksX1_tower_1 11 rfl rfl)
theorem dX1_tower_37 : decode cX1_tower 37 = .ok (.ifCond .eq 10, 3) := dk_153 0 10 (dk_at dksX1_tower_1 13 rfl rfl)
theorem dX1_tower_40 : decode cX1_tower 40 = .ok (.aload_n 0, 1) := dk_42 (dk_at dksX1_tower_1 16 rfl rfl)
theorem dX1_tower_41 : decode cX1_tower 41 = .ok (.iload 5, 2) := dk_21 5 (dk_at dksX1_tower_1 17 rfl rfl)
theorem dX1_tower_43 : decode cX1_tower 43 = .ok (.invokevirtual 85, 3) := dk_182 0 85 (dk_at dksX1_tower_1 19 rfl rfl)
theorem dX1_tower_46 : decode cX1_tower 46 = .ok (.ireturn, 1) := dk_172 (dk_at dksX1_tower_1 22 rfl rfl)
theorem dX1_tower_47 : decode cX1_tower 47 = .ok (.bipush 60, 2) := dk_16 60 (dk_at dksX1_tower_2 0 rfl rfl)
theorem dX1_tower_49 : decode cX1_tower 49 = .ok (.iload_n 1, 1) := dk_27 (dk_at dksX1_tower_2 2 rfl rfl)
theorem dX1_tower_50 : decode cX1_tower 50 = .ok (.imul, 1) := dk_104 (dk_at dksX1_tower_2 3 rfl rfl)
theorem dX1_tower_51 : decode cX1_tower 51 = .ok (.iload_n 3, 1) := dk_29 (dk_at dksX1_tower_2 4 rfl rfl)
theorem dX1_tower_52 : decode cX1_tower 52 = .ok (.iadd, 1) := dk_96 (dk_at dksX1_tower_2 5 rfl rfl)
theorem dX1_tower_53 : decode cX1_tower 53 = .ok (.istore 6, 2) := dk_54 6 (dk_at dksX1_tower_2 6 rfl rfl)
theorem dX1_tower_55 : decode cX1_tower 55 = .ok (.aload_n 0, 1) := dk_42 (dk_at dksX1_tower_2 8 rfl rfl)
theorem dX1_tower_56 : decode cX1_tower 56 = .ok (.iload 6, 2) := dk_21 6 (dk_at dksX1_tower_2 9 rfl rfl)
theorem dX1_tower_58 : decode cX1_tower 58 = .ok (.putfield 71, 3) := dk_181 0 71 (dk_at dksX1_tower_2 11 rfl rfl)
theorem dX1_tower_61 : decode cX1_tower 61 = .ok (.aload_n 0, 1) := dk_42 (dk_at dksX1_tower_2 14 rfl rfl)
theorem dX1_tower_62 : decode cX1_tower 62 = .ok (.iload 6, 2) := dk_21 6 (dk_at dksX1_tower_2 15 rfl rfl)
theorem dX1_tower_64 : decode cX1_tower 64 = .ok (.iload 4, 2) := dk_21 4 (dk_at dksX1_tower_2 17 rfl rfl)
theorem dX1_tower_66 : decode cX1_tower 66 = .ok (.iadd, 1) := dk_96 (dk_at dksX1_tower_2 19 rfl rfl)
theorem dX1_tower_67 : decode cX1_tower 67 = .ok (.invokevirtual 89, 3) := dk_182 0 89 (dk_at dksX1_tower_2 20 rfl rfl)
theorem dX1_tower_70 : decode cX1_tower 70 = .ok (.ifCond .ne 14, 3) := dk_154 0 14 (dk_at dksX1_tower_3 0 rfl rfl)
theorem dX1_tower_73 : decode cX1_tower 73 = .ok (.bipush (-100), 2) := dk_16 156 (dk_at dksX1_tower_3 3 rfl rfl)
theorem dX1_tower_75 : decode cX1_tower 75 = .ok (.aload_n 0, 1) := dk_42 (dk_at dksX1_tower_3 5 rfl rfl)
theorem dX1_tower_76 : decode cX1_tower 76 = .ok (.getfield 71, 3) := dk_180 0 71 (dk_at dksX1_tower_3 6 rfl rfl)
theorem dX1_tower_79 : decode cX1_tower 79 = .ok (.iload 6, 2) := dk_21 6 (dk_at dksX1_tower_3 9 rfl rfl)
theorem dX1_tower_81 : decode cX1_tower 81 = .ok (.isub, 1) := dk_100 (dk_at dksX1_tower_3 11 rfl rfl)
theorem dX1_tower_82 : decode cX1_tower 82 = .ok (.isub, 1) := dk_100 (dk_at dksX1_tower_3 12 rfl rfl)
theorem dX1_tower_83 : decode cX1_tower 83 = .ok (.ireturn, 1) := dk_172 (dk_at dksX1_tower_3 13 rfl rfl)
theorem dX1_tower_84 : decode cX1_tower 84 = .ok (.aload_n 0, 1) := dk_42 (dk_at dksX1_tower_3 14 rfl rfl)
theorem dX1_tower_85 : decode cX1_tower 85 = .ok (.invokevirtual 92, 3) := dk_182 0 92 (dk_at dksX1_tower_3 15 rfl rfl)
theorem dX1_tower_88 : decode cX1_tower 88 = .ok (.aload_n 0, 1) := dk_42 (dk_at dksX1_tower_3 18 rfl rfl)
theorem dX1_tower_89 : decode cX1_tower 89 = .ok (.getfield 68, 3) := dk_180 0 68 (dk_at dksX1_tower_3 19 rfl rfl)
theorem dX1_tower_92 : decode cX1_tower 92 = .ok (.ireturn, 1) := dk_172 (dk_at dksX1_tower_3 22 rfl rfl)
abbrev cX1_isSheet : ByteArray := prog_15_method_6_code
def yX1_isSheet : MethodName := ⟨RX1, "isSheet", "(I)Z"⟩
def dkwX1_isSheet_0 : List UInt8 := [26, 3, 6, 184, 0, 61, 172]
abbrev dktX1_isSheet_0 : List UInt8 := dkwX1_isSheet_0 ++ []
theorem dksX1_isSheet_0 : cX1_isSheet.data.toList.drop 0 = dktX1_isSheet_0 := by decide +kernel
theorem dX1_isSheet_0 : decode cX1_isSheet 0 = .ok (.iload_n 0, 1) := dk_26 (dk_at dksX1_isSheet_0 0 rfl rfl)
theorem dX1_isSheet_1 : decode cX1_isSheet 1 = .ok (.iconst 0, 1) := dk_3 (dk_at dksX1_isSheet_0 1 rfl rfl)
theorem dX1_isSheet_2 : decode cX1_isSheet 2 = .ok (.iconst 3, 1) := dk_6 (dk_at dksX1_isSheet_0 2 rfl rfl)
theorem dX1_isSheet_3 : decode cX1_isSheet 3 = .ok (.invokestatic 61, 3) := dk_184 0 61 (dk_at dksX1_isSheet_0 3 rfl rfl)
theorem dX1_isSheet_6 : decode cX1_isSheet 6 = .ok (.ireturn, 1) := dk_172 (dk_at dksX1_isSheet_0 6 rfl rfl)
abbrev cX1_within : ByteArray := prog_15_method_5_code
def yX1_within : MethodName := ⟨RX1, "within", "(III)Z"⟩
def dkwX1_within_0 : List UInt8 := [26, 27, 161, 0, 12, 26, 28, 163, 0, 7, 4, 167, 0, 4, 3, 172]
abbrev dktX1_within_0 : List UInt8 := dkwX1_within_0 ++ []
theorem dksX1_within_0 : cX1_within.data.toList.drop 0 = dktX1_within_0 := by decide +kernel
theorem dX1_within_0 : decode cX1_within 0 = .ok (.iload_n 0, 1) := dk_26 (dk_at dksX1_within_0 0 rfl rfl)
theorem dX1_within_1 : decode cX1_within 1 = .ok (.iload_n 1, 1) := dk_27 (dk_at dksX1_within_0 1 rfl rfl)
theorem dX1_within_2 : decode cX1_within 2 = .ok (.if_icmp .lt 12, 3) := dk_161 0 12 (dk_at dksX1_within_0 2 rfl rfl)
theorem dX1_within_5 : decode cX1_within 5 = .ok (.iload_n 0, 1) := dk_26 (dk_at dksX1_within_0 5 rfl rfl)
theorem dX1_within_6 : decode cX1_within 6 = .ok (.iload_n 2, 1) := dk_28 (dk_at dksX1_within_0 6 rfl rfl)
theorem dX1_within_7 : decode cX1_within 7 = .ok (.if_icmp .gt 7, 3) := dk_163 0 7 (dk_at dksX1_within_0 7 rfl rfl)
theorem dX1_within_10 : decode cX1_within 10 = .ok (.iconst 1, 1) := dk_4 (dk_at dksX1_within_0 10 rfl rfl)
theorem dX1_within_11 : decode cX1_within 11 = .ok (.goto 4, 3) := dk_167 0 4 (dk_at dksX1_within_0 11 rfl rfl)
theorem dX1_within_14 : decode cX1_within 14 = .ok (.iconst 0, 1) := dk_3 (dk_at dksX1_within_0 14 rfl rfl)
theorem dX1_within_15 : decode cX1_within 15 = .ok (.ireturn, 1) := dk_172 (dk_at dksX1_within_0 15 rfl rfl)
abbrev cX1_isSort : ByteArray := prog_15_method_7_code
def yX1_isSort : MethodName := ⟨RX1, "isSort", "(I)Z"⟩
def dkwX1_isSort_0 : List UInt8 := [26, 3, 5, 184, 0, 61, 172]
abbrev dktX1_isSort_0 : List UInt8 := dkwX1_isSort_0 ++ []
theorem dksX1_isSort_0 : cX1_isSort.data.toList.drop 0 = dktX1_isSort_0 := by decide +kernel
theorem dX1_isSort_0 : decode cX1_isSort 0 = .ok (.iload_n 0, 1) := dk_26 (dk_at dksX1_isSort_0 0 rfl rfl)
theorem dX1_isSort_1 : decode cX1_isSort 1 = .ok (.iconst 0, 1) := dk_3 (dk_at dksX1_isSort_0 1 rfl rfl)
theorem dX1_isSort_2 : decode cX1_isSort 2 = .ok (.iconst 2, 1) := dk_5 (dk_at dksX1_isSort_0 2 rfl rfl)
theorem dX1_isSort_3 : decode cX1_isSort 3 = .ok (.invokestatic 61, 3) := dk_184 0 61 (dk_at dksX1_isSort_0 3 rfl rfl)
theorem dX1_isSort_6 : decode cX1_isSort 6 = .ok (.ireturn, 1) := dk_172 (dk_at dksX1_isSort_0 6 rfl rfl)
abbrev cX1_against : ByteArray := prog_15_method_8_code
def yX1_against : MethodName := ⟨RX1, "against", "(IIII)I"⟩
def dkwX1_against_3 : List UInt8 := [167, 0, 4, 3, 172]
abbrev dktX1_against_3 : List UInt8 := dkwX1_against_3 ++ []
def dkwX1_against_2 : List UInt8 := [42, 180, 0, 13, 27, 46, 163, 0, 16, 21, 4, 42, 180, 0, 13, 27, 46, 29, 100, 164, 0, 7, 6]
abbrev dktX1_against_2 : List UInt8 := dkwX1_against_2 ++ dktX1_against_3
def dkwX1_against_1 : List UInt8 := [180, 0, 9, 27, 46, 16, 247, 160, 0, 5, 4, 172, 21, 4, 156, 0, 5, 7, 172, 29, 155, 0, 26, 29]
abbrev dktX1_against_1 : List UInt8 := dkwX1_against_1 ++ dktX1_against_2
def dkwX1_against_0 : List UInt8 := [42, 180, 0, 9, 27, 46, 16, 247, 159, 0, 15, 42, 180, 0, 9, 27, 46, 28, 159, 0, 5, 5, 172, 42]
abbrev dktX1_against_0 : List UInt8 := dkwX1_against_0 ++ dktX1_against_1
theorem dksX1_against_0 : cX1_against.data.toList.drop 0 = dktX1_against_0 := by decide +kernel
theorem dksX1_against_1 : cX1_against.data.toList.drop 24 = dktX1_against_1 := dk_seg dksX1_against_0 24 rfl rfl
theorem dksX1_against_2 : cX1_against.data.toList.drop 48 = dktX1_against_2 := dk_seg dksX1_against_1 24 rfl rfl
theorem dksX1_against_3 : cX1_against.data.toList.drop 71 = dktX1_against_3 := dk_seg dksX1_against_2 23 rfl rfl
theorem dX1_against_0 : decode cX1_against 0 = .ok (.aload_n 0, 1) := dk_42 (dk_at dksX1_against_0 0 rfl rfl)
theorem dX1_against_1 : decode cX1_against 1 = .ok (.getfield 9, 3) := dk_180 0 9 (dk_at dksX1_against_0 1 rfl rfl)
theorem dX1_against_4 : decode cX1_against 4 = .ok (.iload_n 1, 1) := dk_27 (dk_at dksX1_against_0 4 rfl rfl)
theorem dX1_against_5 : decode cX1_against 5 = .ok (.iaload, 1) := dk_46 (dk_at dksX1_against_0 5 rfl rfl)
theorem dX1_against_6 : decode cX1_against 6 = .ok (.bipush (-9), 2) := dk_16 247 (dk_at dksX1_against_0 6 rfl rfl)
theorem dX1_against_8 : decode cX1_against 8 = .ok (.if_icmp .eq 15, 3) := dk_159 0 15 (dk_at dksX1_against_0 8 rfl rfl)
theorem dX1_against_11 : decode cX1_against 11 = .ok (.aload_n 0, 1) := dk_42 (dk_at dksX1_against_0 11 rfl rfl)
theorem dX1_against_12 : decode cX1_against 12 = .ok (.getfield 9, 3) := dk_180 0 9 (dk_at dksX1_against_0 12 rfl rfl)
theorem dX1_against_15 : decode cX1_against 15 = .ok (.iload_n 1, 1) := dk_27 (dk_at dksX1_against_0 15 rfl rfl)
theorem dX1_against_16 : decode cX1_against 16 = .ok (.iaload, 1) := dk_46 (dk_at dksX1_against_0 16 rfl rfl)
theorem dX1_against_17 : decode cX1_against 17 = .ok (.iload_n 2, 1) := dk_28 (dk_at dksX1_against_0 17 rfl rfl)
theorem dX1_against_18 : decode cX1_against 18 = .ok (.if_icmp .eq 5, 3) := dk_159 0 5 (dk_at dksX1_against_0 18 rfl rfl)
theorem dX1_against_21 : decode cX1_against 21 = .ok (.iconst 2, 1) := dk_5 (dk_at dksX1_against_0 21 rfl rfl)
theorem dX1_against_22 : decode cX1_against 22 = .ok (.ireturn, 1) := dk_172 (dk_at dksX1_against_0 22 rfl rfl)
theorem dX1_against_23 : decode cX1_against 23 = .ok (.aload_n 0, 1) := dk_42 (dk_at dksX1_against_0 23 rfl rfl)
theorem dX1_against_24 : decode cX1_against 24 = .ok (.getfield 9, 3) := dk_180 0 9 (dk_at dksX1_against_1 0 rfl rfl)
theorem dX1_against_27 : decode cX1_against 27 = .ok (.iload_n 1, 1) := dk_27 (dk_at dksX1_against_1 3 rfl rfl)
theorem dX1_against_28 : decode cX1_against 28 = .ok (.iaload, 1) := dk_46 (dk_at dksX1_against_1 4 rfl rfl)
theorem dX1_against_29 : decode cX1_against 29 = .ok (.bipush (-9), 2) := dk_16 247 (dk_at dksX1_against_1 5 rfl rfl)
theorem dX1_against_31 : decode cX1_against 31 = .ok (.if_icmp .ne 5, 3) := dk_160 0 5 (dk_at dksX1_against_1 7 rfl rfl)
theorem dX1_against_34 : decode cX1_against 34 = .ok (.iconst 1, 1) := dk_4 (dk_at dksX1_against_1 10 rfl rfl)
theorem dX1_against_35 : decode cX1_against 35 = .ok (.ireturn, 1) := dk_172 (dk_at dksX1_against_1 11 rfl rfl)
theorem dX1_against_36 : decode cX1_against 36 = .ok (.iload 4, 2) := dk_21 4 (dk_at dksX1_against_1 12 rfl rfl)
theorem dX1_against_38 : decode cX1_against 38 = .ok (.ifCond .ge 5, 3) := dk_156 0 5 (dk_at dksX1_against_1 14 rfl rfl)
theorem dX1_against_41 : decode cX1_against 41 = .ok (.iconst 4, 1) := dk_7 (dk_at dksX1_against_1 17 rfl rfl)
theorem dX1_against_42 : decode cX1_against 42 = .ok (.ireturn, 1) := dk_172 (dk_at dksX1_against_1 18 rfl rfl)
theorem dX1_against_43 : decode cX1_against 43 = .ok (.iload_n 3, 1) := dk_29 (dk_at dksX1_against_1 19 rfl rfl)
theorem dX1_against_44 : decode cX1_against 44 = .ok (.ifCond .lt 26, 3) := dk_155 0 26 (dk_at dksX1_against_1 20 rfl rfl)
theorem dX1_against_47 : decode cX1_against 47 = .ok (.iload_n 3, 1) := dk_29 (dk_at dksX1_against_1 23 rfl rfl)
theorem dX1_against_48 : decode cX1_against 48 = .ok (.aload_n 0, 1) := dk_42 (dk_at dksX1_against_2 0 rfl rfl)
theorem dX1_against_49 : decode cX1_against 49 = .ok (.getfield 13, 3) := dk_180 0 13 (dk_at dksX1_against_2 1 rfl rfl)
theorem dX1_against_52 : decode cX1_against 52 = .ok (.iload_n 1, 1) := dk_27 (dk_at dksX1_against_2 4 rfl rfl)
theorem dX1_against_53 : decode cX1_against 53 = .ok (.iaload, 1) := dk_46 (dk_at dksX1_against_2 5 rfl rfl)
theorem dX1_against_54 : decode cX1_against 54 = .ok (.if_icmp .gt 16, 3) := dk_163 0 16 (dk_at dksX1_against_2 6 rfl rfl)
theorem dX1_against_57 : decode cX1_against 57 = .ok (.iload 4, 2) := dk_21 4 (dk_at dksX1_against_2 9 rfl rfl)
theorem dX1_against_59 : decode cX1_against 59 = .ok (.aload_n 0, 1) := dk_42 (dk_at dksX1_against_2 11 rfl rfl)
theorem dX1_against_60 : decode cX1_against 60 = .ok (.getfield 13, 3) := dk_180 0 13 (dk_at dksX1_against_2 12 rfl rfl)
theorem dX1_against_63 : decode cX1_against 63 = .ok (.iload_n 1, 1) := dk_27 (dk_at dksX1_against_2 15 rfl rfl)
theorem dX1_against_64 : decode cX1_against 64 = .ok (.iaload, 1) := dk_46 (dk_at dksX1_against_2 16 rfl rfl)
theorem dX1_against_65 : decode cX1_against 65 = .ok (.iload_n 3, 1) := dk_29 (dk_at dksX1_against_2 17 rfl rfl)
theorem dX1_against_66 : decode cX1_against 66 = .ok (.isub, 1) := dk_100 (dk_at dksX1_against_2 18 rfl rfl)
theorem dX1_against_67 : decode cX1_against 67 = .ok (.if_icmp .le 7, 3) := dk_164 0 7 (dk_at dksX1_against_2 19 rfl rfl)
theorem dX1_against_70 : decode cX1_against 70 = .ok (.iconst 3, 1) := dk_6 (dk_at dksX1_against_2 22 rfl rfl)
theorem dX1_against_71 : decode cX1_against 71 = .ok (.goto 4, 3) := dk_167 0 4 (dk_at dksX1_against_3 0 rfl rfl)
theorem dX1_against_74 : decode cX1_against 74 = .ok (.iconst 0, 1) := dk_3 (dk_at dksX1_against_3 3 rfl rfl)
theorem dX1_against_75 : decode cX1_against 75 = .ok (.ireturn, 1) := dk_172 (dk_at dksX1_against_3 4 rfl rfl)
abbrev cX1_fails : ByteArray := prog_15_method_3_code
def yX1_fails : MethodName := ⟨RX1, "fails", "(I)I"⟩
def dkwX1_fails_0 : List UInt8 := [42, 27, 181, 0, 55, 16, 246, 27, 100, 172]
abbrev dktX1_fails_0 : List UInt8 := dkwX1_fails_0 ++ []
theorem dksX1_fails_0 : cX1_fails.data.toList.drop 0 = dktX1_fails_0 := by decide +kernel
theorem dX1_fails_0 : decode cX1_fails 0 = .ok (.aload_n 0, 1) := dk_42 (dk_at dksX1_fails_0 0 rfl rfl)
theorem dX1_fails_1 : decode cX1_fails 1 = .ok (.iload_n 1, 1) := dk_27 (dk_at dksX1_fails_0 1 rfl rfl)
theorem dX1_fails_2 : decode cX1_fails 2 = .ok (.putfield 55, 3) := dk_181 0 55 (dk_at dksX1_fails_0 2 rfl rfl)
theorem dX1_fails_5 : decode cX1_fails 5 = .ok (.bipush (-10), 2) := dk_16 246 (dk_at dksX1_fails_0 5 rfl rfl)
theorem dX1_fails_7 : decode cX1_fails 7 = .ok (.iload_n 1, 1) := dk_27 (dk_at dksX1_fails_0 7 rfl rfl)
theorem dX1_fails_8 : decode cX1_fails 8 = .ok (.isub, 1) := dk_100 (dk_at dksX1_fails_0 8 rfl rfl)
theorem dX1_fails_9 : decode cX1_fails 9 = .ok (.ireturn, 1) := dk_172 (dk_at dksX1_fails_0 9 rfl rfl)
abbrev cX1_readTower : ByteArray := prog_15_method_15_code
def yX1_readTower : MethodName := ⟨RX1, "readTower", "(I)Z"⟩
def dkwX1_readTower_5 : List UInt8 := [160, 0, 7, 4, 167, 0, 4, 3, 172]
abbrev dktX1_readTower_5 : List UInt8 := dkwX1_readTower_5 ++ []
def dkwX1_readTower_4 : List UInt8 := [16, 44, 182, 0, 104, 153, 0, 11, 42, 27, 182, 0, 111, 154, 255, 218, 3, 172, 42, 180, 0, 71, 27]
abbrev dktX1_readTower_4 : List UInt8 := dkwX1_readTower_4 ++ dktX1_readTower_5
def dkwX1_readTower_3 : List UInt8 := [180, 0, 98, 153, 0, 19, 42, 180, 0, 98, 7, 162, 0, 31, 42, 180, 0, 71, 27, 162, 0, 23, 42, 27]
abbrev dktX1_readTower_3 : List UInt8 := dkwX1_readTower_3 ++ dktX1_readTower_4
def dkwX1_readTower_2 : List UInt8 := [162, 0, 23, 42, 27, 16, 45, 182, 0, 104, 153, 0, 13, 42, 27, 182, 0, 108, 154, 255, 232, 3, 172, 42]
abbrev dktX1_readTower_2 : List UInt8 := dkwX1_readTower_2 ++ dktX1_readTower_3
def dkwX1_readTower_1 : List UInt8 := [16, 45, 182, 0, 104, 153, 0, 11, 42, 27, 182, 0, 108, 154, 0, 5, 3, 172, 42, 180, 0, 95, 16, 6]
abbrev dktX1_readTower_1 : List UInt8 := dkwX1_readTower_1 ++ dktX1_readTower_2
def dkwX1_readTower_0 : List UInt8 := [42, 3, 181, 0, 95, 42, 3, 181, 0, 98, 42, 27, 16, 117, 182, 0, 104, 154, 0, 5, 3, 172, 42, 27]
abbrev dktX1_readTower_0 : List UInt8 := dkwX1_readTower_0 ++ dktX1_readTower_1
theorem dksX1_readTower_0 : cX1_readTower.data.toList.drop 0 = dktX1_readTower_0 := by decide +kernel
theorem dksX1_readTower_1 : cX1_readTower.data.toList.drop 24 = dktX1_readTower_1 := dk_seg dksX1_readTower_0 24 rfl rfl
theorem dksX1_readTower_2 : cX1_readTower.data.toList.drop 48 = dktX1_readTower_2 := dk_seg dksX1_readTower_1 24 rfl rfl
theorem dksX1_readTower_3 : cX1_readTower.data.toList.drop 72 = dktX1_readTower_3 := dk_seg dksX1_readTower_2 24 rfl rfl
theorem dksX1_readTower_4 : cX1_readTower.data.toList.drop 96 = dktX1_readTower_4 := dk_seg dksX1_readTower_3 24 rfl rfl
theorem dksX1_readTower_5 : cX1_readTower.data.toList.drop 119 = dktX1_readTower_5 := dk_seg dksX1_readTower_4 23 rfl rfl
theorem dX1_readTower_0 : decode cX1_readTower 0 = .ok (.aload_n 0, 1) := dk_42 (dk_at dksX1_readTower_0 0 rfl rfl)
theorem dX1_readTower_1 : decode cX1_readTower 1 = .ok (.iconst 0, 1) := dk_3 (dk_at dksX1_readTower_0 1 rfl rfl)
theorem dX1_readTower_2 : decode cX1_readTower 2 = .ok (.putfield 95, 3) := dk_181 0 95 (dk_at dksX1_readTower_0 2 rfl rfl)
theorem dX1_readTower_5 : decode cX1_readTower 5 = .ok (.aload_n 0, 1) := dk_42 (dk_at dksX1_readTower_0 5 rfl rfl)
theorem dX1_readTower_6 : decode cX1_readTower 6 = .ok (.iconst 0, 1) := dk_3 (dk_at dksX1_readTower_0 6 rfl rfl)
theorem dX1_readTower_7 : decode cX1_readTower 7 = .ok (.putfield 98, 3) := dk_181 0 98 (dk_at dksX1_readTower_0 7 rfl rfl)
theorem dX1_readTower_10 : decode cX1_readTower 10 = .ok (.aload_n 0, 1) := dk_42 (dk_at dksX1_readTower_0 10 rfl rfl)
theorem dX1_readTower_11 : decode cX1_readTower 11 = .ok (.iload_n 1, 1) := dk_27 (dk_at dksX1_readTower_0 11 rfl rfl)
theorem dX1_readTower_12 : decode cX1_readTower 12 = .ok (.bipush 117, 2) := dk_16 117 (dk_at dksX1_readTower_0 12 rfl rfl)
theorem dX1_readTower_14 : decode cX1_readTower 14 = .ok (.invokevirtual 104, 3) := dk_182 0 104 (dk_at dksX1_readTower_0 14 rfl rfl)
theorem dX1_readTower_17 : decode cX1_readTower 17 = .ok (.ifCond .ne 5, 3) := dk_154 0 5 (dk_at dksX1_readTower_0 17 rfl rfl)
theorem dX1_readTower_20 : decode cX1_readTower 20 = .ok (.iconst 0, 1) := dk_3 (dk_at dksX1_readTower_0 20 rfl rfl)
theorem dX1_readTower_21 : decode cX1_readTower 21 = .ok (.ireturn, 1) := dk_172 (dk_at dksX1_readTower_0 21 rfl rfl)
theorem dX1_readTower_22 : decode cX1_readTower 22 = .ok (.aload_n 0, 1) := dk_42 (dk_at dksX1_readTower_0 22 rfl rfl)
theorem dX1_readTower_23 : decode cX1_readTower 23 = .ok (.iload_n 1, 1) := dk_27 (dk_at dksX1_readTower_0 23 rfl rfl)
theorem dX1_readTower_24 : decode cX1_readTower 24 = .ok (.bipush 45, 2) := dk_16 45 (dk_at dksX1_readTower_1 0 rfl rfl)
theorem dX1_readTower_26 : decode cX1_readTower 26 = .ok (.invokevirtual 104, 3) := dk_182 0 104 (dk_at dksX1_readTower_1 2 rfl rfl)
theorem dX1_readTower_29 : decode cX1_readTower 29 = .ok (.ifCond .eq 11, 3) := dk_153 0 11 (dk_at dksX1_readTower_1 5 rfl rfl)
theorem dX1_readTower_32 : decode cX1_readTower 32 = .ok (.aload_n 0, 1) := dk_42 (dk_at dksX1_readTower_1 8 rfl rfl)
theorem dX1_readTower_33 : decode cX1_readTower 33 = .ok (.iload_n 1, 1) := dk_27 (dk_at dksX1_readTower_1 9 rfl rfl)
theorem dX1_readTower_34 : decode cX1_readTower 34 = .ok (.invokevirtual 108, 3) := dk_182 0 108 (dk_at dksX1_readTower_1 10 rfl rfl)
theorem dX1_readTower_37 : decode cX1_readTower 37 = .ok (.ifCond .ne 5, 3) := dk_154 0 5 (dk_at dksX1_readTower_1 13 rfl rfl)
theorem dX1_readTower_40 : decode cX1_readTower 40 = .ok (.iconst 0, 1) := dk_3 (dk_at dksX1_readTower_1 16 rfl rfl)
theorem dX1_readTower_41 : decode cX1_readTower 41 = .ok (.ireturn, 1) := dk_172 (dk_at dksX1_readTower_1 17 rfl rfl)
theorem dX1_readTower_42 : decode cX1_readTower 42 = .ok (.aload_n 0, 1) := dk_42 (dk_at dksX1_readTower_1 18 rfl rfl)
theorem dX1_readTower_43 : decode cX1_readTower 43 = .ok (.getfield 95, 3) := dk_180 0 95 (dk_at dksX1_readTower_1 19 rfl rfl)
theorem dX1_readTower_46 : decode cX1_readTower 46 = .ok (.bipush 6, 2) := dk_16 6 (dk_at dksX1_readTower_1 22 rfl rfl)
theorem dX1_readTower_48 : decode cX1_readTower 48 = .ok (.if_icmp .ge 23, 3) := dk_162 0 23 (dk_at dksX1_readTower_2 0 rfl rfl)
theorem dX1_readTower_51 : decode cX1_readTower 51 = .ok (.aload_n 0, 1) := dk_42 (dk_at dksX1_readTower_2 3 rfl rfl)
theorem dX1_readTower_52 : decode cX1_readTower 52 = .ok (.iload_n 1, 1) := dk_27 (dk_at dksX1_readTower_2 4 rfl rfl)
theorem dX1_readTower_53 : decode cX1_readTower 53 = .ok (.bipush 45, 2) := dk_16 45 (dk_at dksX1_readTower_2 5 rfl rfl)
theorem dX1_readTower_55 : decode cX1_readTower 55 = .ok (.invokevirtual 104, 3) := dk_182 0 104 (dk_at dksX1_readTower_2 7 rfl rfl)
theorem dX1_readTower_58 : decode cX1_readTower 58 = .ok (.ifCond .eq 13, 3) := dk_153 0 13 (dk_at dksX1_readTower_2 10 rfl rfl)
theorem dX1_readTower_61 : decode cX1_readTower 61 = .ok (.aload_n 0, 1) := dk_42 (dk_at dksX1_readTower_2 13 rfl rfl)
theorem dX1_readTower_62 : decode cX1_readTower 62 = .ok (.iload_n 1, 1) := dk_27 (dk_at dksX1_readTower_2 14 rfl rfl)
theorem dX1_readTower_63 : decode cX1_readTower 63 = .ok (.invokevirtual 108, 3) := dk_182 0 108 (dk_at dksX1_readTower_2 15 rfl rfl)
theorem dX1_readTower_66 : decode cX1_readTower 66 = .ok (.ifCond .ne (-24), 3) := dk_154 255 232 (dk_at dksX1_readTower_2 18 rfl rfl)
theorem dX1_readTower_69 : decode cX1_readTower 69 = .ok (.iconst 0, 1) := dk_3 (dk_at dksX1_readTower_2 21 rfl rfl)
theorem dX1_readTower_70 : decode cX1_readTower 70 = .ok (.ireturn, 1) := dk_172 (dk_at dksX1_readTower_2 22 rfl rfl)
theorem dX1_readTower_71 : decode cX1_readTower 71 = .ok (.aload_n 0, 1) := dk_42 (dk_at dksX1_readTower_2 23 rfl rfl)
theorem dX1_readTower_72 : decode cX1_readTower 72 = .ok (.getfield 98, 3) := dk_180 0 98 (dk_at dksX1_readTower_3 0 rfl rfl)
theorem dX1_readTower_75 : decode cX1_readTower 75 = .ok (.ifCond .eq 19, 3) := dk_153 0 19 (dk_at dksX1_readTower_3 3 rfl rfl)
theorem dX1_readTower_78 : decode cX1_readTower 78 = .ok (.aload_n 0, 1) := dk_42 (dk_at dksX1_readTower_3 6 rfl rfl)
theorem dX1_readTower_79 : decode cX1_readTower 79 = .ok (.getfield 98, 3) := dk_180 0 98 (dk_at dksX1_readTower_3 7 rfl rfl)
theorem dX1_readTower_82 : decode cX1_readTower 82 = .ok (.iconst 4, 1) := dk_7 (dk_at dksX1_readTower_3 10 rfl rfl)
theorem dX1_readTower_83 : decode cX1_readTower 83 = .ok (.if_icmp .ge 31, 3) := dk_162 0 31 (dk_at dksX1_readTower_3 11 rfl rfl)
theorem dX1_readTower_86 : decode cX1_readTower 86 = .ok (.aload_n 0, 1) := dk_42 (dk_at dksX1_readTower_3 14 rfl rfl)
theorem dX1_readTower_87 : decode cX1_readTower 87 = .ok (.getfield 71, 3) := dk_180 0 71 (dk_at dksX1_readTower_3 15 rfl rfl)
theorem dX1_readTower_90 : decode cX1_readTower 90 = .ok (.iload_n 1, 1) := dk_27 (dk_at dksX1_readTower_3 18 rfl rfl)
theorem dX1_readTower_91 : decode cX1_readTower 91 = .ok (.if_icmp .ge 23, 3) := dk_162 0 23 (dk_at dksX1_readTower_3 19 rfl rfl)
theorem dX1_readTower_94 : decode cX1_readTower 94 = .ok (.aload_n 0, 1) := dk_42 (dk_at dksX1_readTower_3 22 rfl rfl)
theorem dX1_readTower_95 : decode cX1_readTower 95 = .ok (.iload_n 1, 1) := dk_27 (dk_at dksX1_readTower_3 23 rfl rfl)
theorem dX1_readTower_96 : decode cX1_readTower 96 = .ok (.bipush 44, 2) := dk_16 44 (dk_at dksX1_readTower_4 0 rfl rfl)
theorem dX1_readTower_98 : decode cX1_readTower 98 = .ok (.invokevirtual 104, 3) := dk_182 0 104 (dk_at dksX1_readTower_4 2 rfl rfl)
theorem dX1_readTower_101 : decode cX1_readTower 101 = .ok (.ifCond .eq 11, 3) := dk_153 0 11 (dk_at dksX1_readTower_4 5 rfl rfl)
theorem dX1_readTower_104 : decode cX1_readTower 104 = .ok (.aload_n 0, 1) := dk_42 (dk_at dksX1_readTower_4 8 rfl rfl)
theorem dX1_readTower_105 : decode cX1_readTower 105 = .ok (.iload_n 1, 1) := dk_27 (dk_at dksX1_readTower_4 9 rfl rfl)
theorem dX1_readTower_106 : decode cX1_readTower 106 = .ok (.invokevirtual 111, 3) := dk_182 0 111 (dk_at dksX1_readTower_4 10 rfl rfl)
theorem dX1_readTower_109 : decode cX1_readTower 109 = .ok (.ifCond .ne (-38), 3) := dk_154 255 218 (dk_at dksX1_readTower_4 13 rfl rfl)
theorem dX1_readTower_112 : decode cX1_readTower 112 = .ok (.iconst 0, 1) := dk_3 (dk_at dksX1_readTower_4 16 rfl rfl)
theorem dX1_readTower_113 : decode cX1_readTower 113 = .ok (.ireturn, 1) := dk_172 (dk_at dksX1_readTower_4 17 rfl rfl)
theorem dX1_readTower_114 : decode cX1_readTower 114 = .ok (.aload_n 0, 1) := dk_42 (dk_at dksX1_readTower_4 18 rfl rfl)
theorem dX1_readTower_115 : decode cX1_readTower 115 = .ok (.getfield 71, 3) := dk_180 0 71 (dk_at dksX1_readTower_4 19 rfl rfl)
theorem dX1_readTower_118 : decode cX1_readTower 118 = .ok (.iload_n 1, 1) := dk_27 (dk_at dksX1_readTower_4 22 rfl rfl)
theorem dX1_readTower_119 : decode cX1_readTower 119 = .ok (.if_icmp .ne 7, 3) := dk_160 0 7 (dk_at dksX1_readTower_5 0 rfl rfl)
theorem dX1_readTower_122 : decode cX1_readTower 122 = .ok (.iconst 1, 1) := dk_4 (dk_at dksX1_readTower_5 3 rfl rfl)
theorem dX1_readTower_123 : decode cX1_readTower 123 = .ok (.goto 4, 3) := dk_167 0 4 (dk_at dksX1_readTower_5 4 rfl rfl)
theorem dX1_readTower_126 : decode cX1_readTower 126 = .ok (.iconst 0, 1) := dk_3 (dk_at dksX1_readTower_5 7 rfl rfl)
theorem dX1_readTower_127 : decode cX1_readTower 127 = .ok (.ireturn, 1) := dk_172 (dk_at dksX1_readTower_5 8 rfl rfl)
abbrev cX1_isSign : ByteArray := prog_15_method_12_code
def yX1_isSign : MethodName := ⟨RX1, "isSign", "(II)Z"⟩
def dkwX1_isSign_1 : List UInt8 := [89, 180, 0, 71, 4, 96, 181, 0, 71, 4, 172]
abbrev dktX1_isSign_1 : List UInt8 := dkwX1_isSign_1 ++ []
def dkwX1_isSign_0 : List UInt8 := [42, 180, 0, 71, 27, 162, 0, 16, 42, 180, 0, 16, 42, 180, 0, 71, 46, 28, 159, 0, 5, 3, 172, 42]
abbrev dktX1_isSign_0 : List UInt8 := dkwX1_isSign_0 ++ dktX1_isSign_1
theorem dksX1_isSign_0 : cX1_isSign.data.toList.drop 0 = dktX1_isSign_0 := by decide +kernel
theorem dksX1_isSign_1 : cX1_isSign.data.toList.drop 24 = dktX1_isSign_1 := dk_seg dksX1_isSign_0 24 rfl rfl
theorem dX1_isSign_0 : decode cX1_isSign 0 = .ok (.aload_n 0, 1) := dk_42 (dk_at dksX1_isSign_0 0 rfl rfl)
theorem dX1_isSign_1 : decode cX1_isSign 1 = .ok (.getfield 71, 3) := dk_180 0 71 (dk_at dksX1_isSign_0 1 rfl rfl)
theorem dX1_isSign_4 : decode cX1_isSign 4 = .ok (.iload_n 1, 1) := dk_27 (dk_at dksX1_isSign_0 4 rfl rfl)
theorem dX1_isSign_5 : decode cX1_isSign 5 = .ok (.if_icmp .ge 16, 3) := dk_162 0 16 (dk_at dksX1_isSign_0 5 rfl rfl)
theorem dX1_isSign_8 : decode cX1_isSign 8 = .ok (.aload_n 0, 1) := dk_42 (dk_at dksX1_isSign_0 8 rfl rfl)
theorem dX1_isSign_9 : decode cX1_isSign 9 = .ok (.getfield 16, 3) := dk_180 0 16 (dk_at dksX1_isSign_0 9 rfl rfl)
theorem dX1_isSign_12 : decode cX1_isSign 12 = .ok (.aload_n 0, 1) := dk_42 (dk_at dksX1_isSign_0 12 rfl rfl)
theorem dX1_isSign_13 : decode cX1_isSign 13 = .ok (.getfield 71, 3) := dk_180 0 71 (dk_at dksX1_isSign_0 13 rfl rfl)
theorem dX1_isSign_16 : decode cX1_isSign 16 = .ok (.iaload, 1) := dk_46 (dk_at dksX1_isSign_0 16 rfl rfl)
theorem dX1_isSign_17 : decode cX1_isSign 17 = .ok (.iload_n 2, 1) := dk_28 (dk_at dksX1_isSign_0 17 rfl rfl)
theorem dX1_isSign_18 : decode cX1_isSign 18 = .ok (.if_icmp .eq 5, 3) := dk_159 0 5 (dk_at dksX1_isSign_0 18 rfl rfl)
theorem dX1_isSign_21 : decode cX1_isSign 21 = .ok (.iconst 0, 1) := dk_3 (dk_at dksX1_isSign_0 21 rfl rfl)
theorem dX1_isSign_22 : decode cX1_isSign 22 = .ok (.ireturn, 1) := dk_172 (dk_at dksX1_isSign_0 22 rfl rfl)
theorem dX1_isSign_23 : decode cX1_isSign 23 = .ok (.aload_n 0, 1) := dk_42 (dk_at dksX1_isSign_0 23 rfl rfl)
theorem dX1_isSign_24 : decode cX1_isSign 24 = .ok (.dup, 1) := dk_89 (dk_at dksX1_isSign_1 0 rfl rfl)
theorem dX1_isSign_25 : decode cX1_isSign 25 = .ok (.getfield 71, 3) := dk_180 0 71 (dk_at dksX1_isSign_1 1 rfl rfl)
theorem dX1_isSign_28 : decode cX1_isSign 28 = .ok (.iconst 1, 1) := dk_4 (dk_at dksX1_isSign_1 4 rfl rfl)
theorem dX1_isSign_29 : decode cX1_isSign 29 = .ok (.iadd, 1) := dk_96 (dk_at dksX1_isSign_1 5 rfl rfl)
theorem dX1_isSign_30 : decode cX1_isSign 30 = .ok (.putfield 71, 3) := dk_181 0 71 (dk_at dksX1_isSign_1 6 rfl rfl)
theorem dX1_isSign_33 : decode cX1_isSign 33 = .ok (.iconst 1, 1) := dk_4 (dk_at dksX1_isSign_1 9 rfl rfl)
theorem dX1_isSign_34 : decode cX1_isSign 34 = .ok (.ireturn, 1) := dk_172 (dk_at dksX1_isSign_1 10 rfl rfl)
abbrev cX1_readDeed : ByteArray := prog_15_method_16_code
def yX1_readDeed : MethodName := ⟨RX1, "readDeed", "(I)Z"⟩
def dkwX1_readDeed_2 : List UInt8 := [172]
abbrev dktX1_readDeed_2 : List UInt8 := dkwX1_readDeed_2 ++ []
def dkwX1_readDeed_1 : List UInt8 := [181, 0, 95, 42, 180, 0, 34, 42, 180, 0, 95, 4, 100, 46, 16, 247, 159, 0, 7, 4, 167, 0, 4, 3]
abbrev dktX1_readDeed_1 : List UInt8 := dkwX1_readDeed_1 ++ dktX1_readDeed_2
def dkwX1_readDeed_0 : List UInt8 := [42, 180, 0, 34, 42, 180, 0, 95, 42, 27, 4, 16, 9, 182, 0, 114, 79, 42, 89, 180, 0, 95, 4, 96]
abbrev dktX1_readDeed_0 : List UInt8 := dkwX1_readDeed_0 ++ dktX1_readDeed_1
theorem dksX1_readDeed_0 : cX1_readDeed.data.toList.drop 0 = dktX1_readDeed_0 := by decide +kernel
theorem dksX1_readDeed_1 : cX1_readDeed.data.toList.drop 24 = dktX1_readDeed_1 := dk_seg dksX1_readDeed_0 24 rfl rfl
theorem dksX1_readDeed_2 : cX1_readDeed.data.toList.drop 48 = dktX1_readDeed_2 := dk_seg dksX1_readDeed_1 24 rfl rfl
theorem dX1_readDeed_0 : decode cX1_readDeed 0 = .ok (.aload_n 0, 1) := dk_42 (dk_at dksX1_readDeed_0 0 rfl rfl)
theorem dX1_readDeed_1 : decode cX1_readDeed 1 = .ok (.getfield 34, 3) := dk_180 0 34 (dk_at dksX1_readDeed_0 1 rfl rfl)
theorem dX1_readDeed_4 : decode cX1_readDeed 4 = .ok (.aload_n 0, 1) := dk_42 (dk_at dksX1_readDeed_0 4 rfl rfl)
theorem dX1_readDeed_5 : decode cX1_readDeed 5 = .ok (.getfield 95, 3) := dk_180 0 95 (dk_at dksX1_readDeed_0 5 rfl rfl)
theorem dX1_readDeed_8 : decode cX1_readDeed 8 = .ok (.aload_n 0, 1) := dk_42 (dk_at dksX1_readDeed_0 8 rfl rfl)
theorem dX1_readDeed_9 : decode cX1_readDeed 9 = .ok (.iload_n 1, 1) := dk_27 (dk_at dksX1_readDeed_0 9 rfl rfl)
theorem dX1_readDeed_10 : decode cX1_readDeed 10 = .ok (.iconst 1, 1) := dk_4 (dk_at dksX1_readDeed_0 10 rfl rfl)
theorem dX1_readDeed_11 : decode cX1_readDeed 11 = .ok (.bipush 9, 2) := dk_16 9 (dk_at dksX1_readDeed_0 11 rfl rfl)
theorem dX1_readDeed_13 : decode cX1_readDeed 13 = .ok (.invokevirtual 114, 3) := dk_182 0 114 (dk_at dksX1_readDeed_0 13 rfl rfl)
theorem dX1_readDeed_16 : decode cX1_readDeed 16 = .ok (.iastore, 1) := dk_79 (dk_at dksX1_readDeed_0 16 rfl rfl)
theorem dX1_readDeed_17 : decode cX1_readDeed 17 = .ok (.aload_n 0, 1) := dk_42 (dk_at dksX1_readDeed_0 17 rfl rfl)
theorem dX1_readDeed_18 : decode cX1_readDeed 18 = .ok (.dup, 1) := dk_89 (dk_at dksX1_readDeed_0 18 rfl rfl)
theorem dX1_readDeed_19 : decode cX1_readDeed 19 = .ok (.getfield 95, 3) := dk_180 0 95 (dk_at dksX1_readDeed_0 19 rfl rfl)
theorem dX1_readDeed_22 : decode cX1_readDeed 22 = .ok (.iconst 1, 1) := dk_4 (dk_at dksX1_readDeed_0 22 rfl rfl)
theorem dX1_readDeed_23 : decode cX1_readDeed 23 = .ok (.iadd, 1) := dk_96 (dk_at dksX1_readDeed_0 23 rfl rfl)
theorem dX1_readDeed_24 : decode cX1_readDeed 24 = .ok (.putfield 95, 3) := dk_181 0 95 (dk_at dksX1_readDeed_1 0 rfl rfl)
theorem dX1_readDeed_27 : decode cX1_readDeed 27 = .ok (.aload_n 0, 1) := dk_42 (dk_at dksX1_readDeed_1 3 rfl rfl)
theorem dX1_readDeed_28 : decode cX1_readDeed 28 = .ok (.getfield 34, 3) := dk_180 0 34 (dk_at dksX1_readDeed_1 4 rfl rfl)
theorem dX1_readDeed_31 : decode cX1_readDeed 31 = .ok (.aload_n 0, 1) := dk_42 (dk_at dksX1_readDeed_1 7 rfl rfl)
theorem dX1_readDeed_32 : decode cX1_readDeed 32 = .ok (.getfield 95, 3) := dk_180 0 95 (dk_at dksX1_readDeed_1 8 rfl rfl)
theorem dX1_readDeed_35 : decode cX1_readDeed 35 = .ok (.iconst 1, 1) := dk_4 (dk_at dksX1_readDeed_1 11 rfl rfl)
theorem dX1_readDeed_36 : decode cX1_readDeed 36 = .ok (.isub, 1) := dk_100 (dk_at dksX1_readDeed_1 12 rfl rfl)
theorem dX1_readDeed_37 : decode cX1_readDeed 37 = .ok (.iaload, 1) := dk_46 (dk_at dksX1_readDeed_1 13 rfl rfl)
theorem dX1_readDeed_38 : decode cX1_readDeed 38 = .ok (.bipush (-9), 2) := dk_16 247 (dk_at dksX1_readDeed_1 14 rfl rfl)
theorem dX1_readDeed_40 : decode cX1_readDeed 40 = .ok (.if_icmp .eq 7, 3) := dk_159 0 7 (dk_at dksX1_readDeed_1 16 rfl rfl)
theorem dX1_readDeed_43 : decode cX1_readDeed 43 = .ok (.iconst 1, 1) := dk_4 (dk_at dksX1_readDeed_1 19 rfl rfl)
theorem dX1_readDeed_44 : decode cX1_readDeed 44 = .ok (.goto 4, 3) := dk_167 0 4 (dk_at dksX1_readDeed_1 20 rfl rfl)
theorem dX1_readDeed_47 : decode cX1_readDeed 47 = .ok (.iconst 0, 1) := dk_3 (dk_at dksX1_readDeed_1 23 rfl rfl)
theorem dX1_readDeed_48 : decode cX1_readDeed 48 = .ok (.ireturn, 1) := dk_172 (dk_at dksX1_readDeed_2 0 rfl rfl)
abbrev cX1_digit : ByteArray := prog_15_method_11_code
def yX1_digit : MethodName := ⟨RX1, "digit", "(III)I"⟩
def dkwX1_digit_2 : List UInt8 := [42, 180, 0, 71, 4, 100, 46, 16, 48, 100, 172]
abbrev dktX1_digit_2 : List UInt8 := dkwX1_digit_2 ++ []
def dkwX1_digit_1 : List UInt8 := [96, 184, 0, 61, 154, 0, 6, 16, 247, 172, 42, 89, 180, 0, 71, 4, 96, 181, 0, 71, 42, 180, 0, 16]
abbrev dktX1_digit_1 : List UInt8 := dkwX1_digit_1 ++ dktX1_digit_2
def dkwX1_digit_0 : List UInt8 := [42, 180, 0, 71, 27, 162, 0, 26, 42, 180, 0, 16, 42, 180, 0, 71, 46, 16, 48, 28, 96, 16, 48, 29]
abbrev dktX1_digit_0 : List UInt8 := dkwX1_digit_0 ++ dktX1_digit_1
theorem dksX1_digit_0 : cX1_digit.data.toList.drop 0 = dktX1_digit_0 := by decide +kernel
theorem dksX1_digit_1 : cX1_digit.data.toList.drop 24 = dktX1_digit_1 := dk_seg dksX1_digit_0 24 rfl rfl
theorem dksX1_digit_2 : cX1_digit.data.toList.drop 48 = dktX1_digit_2 := dk_seg dksX1_digit_1 24 rfl rfl
theorem dX1_digit_0 : decode cX1_digit 0 = .ok (.aload_n 0, 1) := dk_42 (dk_at dksX1_digit_0 0 rfl rfl)
theorem dX1_digit_1 : decode cX1_digit 1 = .ok (.getfield 71, 3) := dk_180 0 71 (dk_at dksX1_digit_0 1 rfl rfl)
theorem dX1_digit_4 : decode cX1_digit 4 = .ok (.iload_n 1, 1) := dk_27 (dk_at dksX1_digit_0 4 rfl rfl)
theorem dX1_digit_5 : decode cX1_digit 5 = .ok (.if_icmp .ge 26, 3) := dk_162 0 26 (dk_at dksX1_digit_0 5 rfl rfl)
theorem dX1_digit_8 : decode cX1_digit 8 = .ok (.aload_n 0, 1) := dk_42 (dk_at dksX1_digit_0 8 rfl rfl)
theorem dX1_digit_9 : decode cX1_digit 9 = .ok (.getfield 16, 3) := dk_180 0 16 (dk_at dksX1_digit_0 9 rfl rfl)
theorem dX1_digit_12 : decode cX1_digit 12 = .ok (.aload_n 0, 1) := dk_42 (dk_at dksX1_digit_0 12 rfl rfl)
theorem dX1_digit_13 : decode cX1_digit 13 = .ok (.getfield 71, 3) := dk_180 0 71 (dk_at dksX1_digit_0 13 rfl rfl)
theorem dX1_digit_16 : decode cX1_digit 16 = .ok (.iaload, 1) := dk_46 (dk_at dksX1_digit_0 16 rfl rfl)
theorem dX1_digit_17 : decode cX1_digit 17 = .ok (.bipush 48, 2) := dk_16 48 (dk_at dksX1_digit_0 17 rfl rfl)
theorem dX1_digit_19 : decode cX1_digit 19 = .ok (.iload_n 2, 1) := dk_28 (dk_at dksX1_digit_0 19 rfl rfl)
theorem dX1_digit_20 : decode cX1_digit 20 = .ok (.iadd, 1) := dk_96 (dk_at dksX1_digit_0 20 rfl rfl)
theorem dX1_digit_21 : decode cX1_digit 21 = .ok (.bipush 48, 2) := dk_16 48 (dk_at dksX1_digit_0 21 rfl rfl)
theorem dX1_digit_23 : decode cX1_digit 23 = .ok (.iload_n 3, 1) := dk_29 (dk_at dksX1_digit_0 23 rfl rfl)
theorem dX1_digit_24 : decode cX1_digit 24 = .ok (.iadd, 1) := dk_96 (dk_at dksX1_digit_1 0 rfl rfl)
theorem dX1_digit_25 : decode cX1_digit 25 = .ok (.invokestatic 61, 3) := dk_184 0 61 (dk_at dksX1_digit_1 1 rfl rfl)
theorem dX1_digit_28 : decode cX1_digit 28 = .ok (.ifCond .ne 6, 3) := dk_154 0 6 (dk_at dksX1_digit_1 4 rfl rfl)
theorem dX1_digit_31 : decode cX1_digit 31 = .ok (.bipush (-9), 2) := dk_16 247 (dk_at dksX1_digit_1 7 rfl rfl)
theorem dX1_digit_33 : decode cX1_digit 33 = .ok (.ireturn, 1) := dk_172 (dk_at dksX1_digit_1 9 rfl rfl)
theorem dX1_digit_34 : decode cX1_digit 34 = .ok (.aload_n 0, 1) := dk_42 (dk_at dksX1_digit_1 10 rfl rfl)
theorem dX1_digit_35 : decode cX1_digit 35 = .ok (.dup, 1) := dk_89 (dk_at dksX1_digit_1 11 rfl rfl)
theorem dX1_digit_36 : decode cX1_digit 36 = .ok (.getfield 71, 3) := dk_180 0 71 (dk_at dksX1_digit_1 12 rfl rfl)
theorem dX1_digit_39 : decode cX1_digit 39 = .ok (.iconst 1, 1) := dk_4 (dk_at dksX1_digit_1 15 rfl rfl)
theorem dX1_digit_40 : decode cX1_digit 40 = .ok (.iadd, 1) := dk_96 (dk_at dksX1_digit_1 16 rfl rfl)
theorem dX1_digit_41 : decode cX1_digit 41 = .ok (.putfield 71, 3) := dk_181 0 71 (dk_at dksX1_digit_1 17 rfl rfl)
theorem dX1_digit_44 : decode cX1_digit 44 = .ok (.aload_n 0, 1) := dk_42 (dk_at dksX1_digit_1 20 rfl rfl)
theorem dX1_digit_45 : decode cX1_digit 45 = .ok (.getfield 16, 3) := dk_180 0 16 (dk_at dksX1_digit_1 21 rfl rfl)
theorem dX1_digit_48 : decode cX1_digit 48 = .ok (.aload_n 0, 1) := dk_42 (dk_at dksX1_digit_2 0 rfl rfl)
theorem dX1_digit_49 : decode cX1_digit 49 = .ok (.getfield 71, 3) := dk_180 0 71 (dk_at dksX1_digit_2 1 rfl rfl)
theorem dX1_digit_52 : decode cX1_digit 52 = .ok (.iconst 1, 1) := dk_4 (dk_at dksX1_digit_2 4 rfl rfl)
theorem dX1_digit_53 : decode cX1_digit 53 = .ok (.isub, 1) := dk_100 (dk_at dksX1_digit_2 5 rfl rfl)
theorem dX1_digit_54 : decode cX1_digit 54 = .ok (.iaload, 1) := dk_46 (dk_at dksX1_digit_2 6 rfl rfl)
theorem dX1_digit_55 : decode cX1_digit 55 = .ok (.bipush 48, 2) := dk_16 48 (dk_at dksX1_digit_2 7 rfl rfl)
theorem dX1_digit_57 : decode cX1_digit 57 = .ok (.isub, 1) := dk_100 (dk_at dksX1_digit_2 9 rfl rfl)
theorem dX1_digit_58 : decode cX1_digit 58 = .ok (.ireturn, 1) := dk_172 (dk_at dksX1_digit_2 10 rfl rfl)
abbrev cX1_readPerson : ByteArray := prog_15_method_17_code
def yX1_readPerson : MethodName := ⟨RX1, "readPerson", "(I)Z"⟩
def dkwX1_readPerson_8 : List UInt8 := [159, 0, 7, 4, 167, 0, 4, 3, 172]
abbrev dktX1_readPerson_8 : List UInt8 := dkwX1_readPerson_8 ++ []
def dkwX1_readPerson_7 : List UInt8 := [182, 0, 114, 79, 42, 89, 180, 0, 98, 4, 96, 181, 0, 98, 42, 180, 0, 37, 28, 5, 96, 46, 16, 247]
abbrev dktX1_readPerson_7 : List UInt8 := dkwX1_readPerson_7 ++ dktX1_readPerson_8
def dkwX1_readPerson_6 : List UInt8 := [28, 4, 96, 16, 10, 21, 4, 104, 21, 5, 96, 79, 42, 180, 0, 37, 28, 5, 96, 42, 27, 3, 7]
abbrev dktX1_readPerson_6 : List UInt8 := dkwX1_readPerson_6 ++ dktX1_readPerson_7
def dkwX1_readPerson_5 : List UInt8 := [6, 167, 0, 5, 16, 9, 182, 0, 114, 54, 5, 21, 5, 16, 247, 160, 0, 5, 3, 172, 42, 180, 0, 37]
abbrev dktX1_readPerson_5 : List UInt8 := dkwX1_readPerson_5 ++ dktX1_readPerson_6
def dkwX1_readPerson_4 : List UInt8 := [182, 0, 114, 54, 4, 21, 4, 16, 247, 160, 0, 5, 3, 172, 42, 27, 3, 21, 4, 16, 6, 160, 0, 7]
abbrev dktX1_readPerson_4 : List UInt8 := dkwX1_readPerson_4 ++ dktX1_readPerson_5
def dkwX1_readPerson_3 : List UInt8 := [28, 46, 16, 247, 160, 0, 5, 3, 172, 42, 89, 180, 0, 71, 4, 96, 181, 0, 71, 42, 27, 3, 16, 6]
abbrev dktX1_readPerson_3 : List UInt8 := dkwX1_readPerson_3 ++ dktX1_readPerson_4
def dkwX1_readPerson_2 : List UInt8 := [160, 0, 7, 4, 167, 0, 15, 29, 16, 97, 160, 0, 7, 5, 167, 0, 5, 16, 247, 79, 42, 180, 0, 37]
abbrev dktX1_readPerson_2 : List UInt8 := dkwX1_readPerson_2 ++ dktX1_readPerson_3
def dkwX1_readPerson_1 : List UInt8 := [167, 0, 4, 3, 62, 42, 180, 0, 37, 28, 29, 16, 112, 160, 0, 7, 3, 167, 0, 25, 29, 16, 114]
abbrev dktX1_readPerson_1 : List UInt8 := dkwX1_readPerson_1 ++ dktX1_readPerson_2
def dkwX1_readPerson_0 : List UInt8 := [6, 42, 180, 0, 98, 104, 61, 42, 180, 0, 71, 27, 162, 0, 15, 42, 180, 0, 16, 42, 180, 0, 71, 46]
abbrev dktX1_readPerson_0 : List UInt8 := dkwX1_readPerson_0 ++ dktX1_readPerson_1
theorem dksX1_readPerson_0 : cX1_readPerson.data.toList.drop 0 = dktX1_readPerson_0 := by decide +kernel
theorem dksX1_readPerson_1 : cX1_readPerson.data.toList.drop 24 = dktX1_readPerson_1 := dk_seg dksX1_readPerson_0 24 rfl rfl
theorem dksX1_readPerson_2 : cX1_readPerson.data.toList.drop 47 = dktX1_readPerson_2 := dk_seg dksX1_readPerson_1 23 rfl rfl
theorem dksX1_readPerson_3 : cX1_readPerson.data.toList.drop 71 = dktX1_readPerson_3 := dk_seg dksX1_readPerson_2 24 rfl rfl
theorem dksX1_readPerson_4 : cX1_readPerson.data.toList.drop 95 = dktX1_readPerson_4 := dk_seg dksX1_readPerson_3 24 rfl rfl
theorem dksX1_readPerson_5 : cX1_readPerson.data.toList.drop 119 = dktX1_readPerson_5 := dk_seg dksX1_readPerson_4 24 rfl rfl
theorem dksX1_readPerson_6 : cX1_readPerson.data.toList.drop 143 = dktX1_readPerson_6 := dk_seg dksX1_readPerson_5 24 rfl rfl
theorem dksX1_readPerson_7 : cX1_readPerson.data.toList.drop 166 = dktX1_readPerson_7 := dk_seg dksX1_readPerson_6 23 rfl rfl
theorem dksX1_readPerson_8 : cX1_readPerson.data.toList.drop 190 = dktX1_readPerson_8 := dk_seg dksX1_readPerson_7 24 rfl rfl
theorem dX1_readPerson_0 : decode cX1_readPerson 0 = .ok (.iconst 3, 1) := dk_6 (dk_at dksX1_readPerson_0 0 rfl rfl)
theorem dX1_readPerson_1 : decode cX1_readPerson 1 = .ok (.aload_n 0, 1) := dk_42 (dk_at dksX1_readPerson_0 1 rfl rfl)
theorem dX1_readPerson_2 : decode cX1_readPerson 2 = .ok (.getfield 98, 3) := dk_180 0 98 (dk_at dksX1_readPerson_0 2 rfl rfl)
theorem dX1_readPerson_5 : decode cX1_readPerson 5 = .ok (.imul, 1) := dk_104 (dk_at dksX1_readPerson_0 5 rfl rfl)
theorem dX1_readPerson_6 : decode cX1_readPerson 6 = .ok (.istore_n 2, 1) := dk_61 (dk_at dksX1_readPerson_0 6 rfl rfl)
theorem dX1_readPerson_7 : decode cX1_readPerson 7 = .ok (.aload_n 0, 1) := dk_42 (dk_at dksX1_readPerson_0 7 rfl rfl)
theorem dX1_readPerson_8 : decode cX1_readPerson 8 = .ok (.getfield 71, 3) := dk_180 0 71 (dk_at dksX1_readPerson_0 8 rfl rfl)
theorem dX1_readPerson_11 : decode cX1_readPerson 11 = .ok (.iload_n 1, 1) := dk_27 (dk_at dksX1_readPerson_0 11 rfl rfl)
theorem dX1_readPerson_12 : decode cX1_readPerson 12 = .ok (.if_icmp .ge 15, 3) := dk_162 0 15 (dk_at dksX1_readPerson_0 12 rfl rfl)
theorem dX1_readPerson_15 : decode cX1_readPerson 15 = .ok (.aload_n 0, 1) := dk_42 (dk_at dksX1_readPerson_0 15 rfl rfl)
theorem dX1_readPerson_16 : decode cX1_readPerson 16 = .ok (.getfield 16, 3) := dk_180 0 16 (dk_at dksX1_readPerson_0 16 rfl rfl)
theorem dX1_readPerson_19 : decode cX1_readPerson 19 = .ok (.aload_n 0, 1) := dk_42 (dk_at dksX1_readPerson_0 19 rfl rfl)
theorem dX1_readPerson_20 : decode cX1_readPerson 20 = .ok (.getfield 71, 3) := dk_180 0 71 (dk_at dksX1_readPerson_0 20 rfl rfl)
theorem dX1_readPerson_23 : decode cX1_readPerson 23 = .ok (.iaload, 1) := dk_46 (dk_at dksX1_readPerson_0 23 rfl rfl)
theorem dX1_readPerson_24 : decode cX1_readPerson 24 = .ok (.goto 4, 3) := dk_167 0 4 (dk_at dksX1_readPerson_1 0 rfl rfl)
theorem dX1_readPerson_27 : decode cX1_readPerson 27 = .ok (.iconst 0, 1) := dk_3 (dk_at dksX1_readPerson_1 3 rfl rfl)
theorem dX1_readPerson_28 : decode cX1_readPerson 28 = .ok (.istore_n 3, 1) := dk_62 (dk_at dksX1_readPerson_1 4 rfl rfl)
theorem dX1_readPerson_29 : decode cX1_readPerson 29 = .ok (.aload_n 0, 1) := dk_42 (dk_at dksX1_readPerson_1 5 rfl rfl)
theorem dX1_readPerson_30 : decode cX1_readPerson 30 = .ok (.getfield 37, 3) := dk_180 0 37 (dk_at dksX1_readPerson_1 6 rfl rfl)
theorem dX1_readPerson_33 : decode cX1_readPerson 33 = .ok (.iload_n 2, 1) := dk_28 (dk_at dksX1_readPerson_1 9 rfl rfl)
theorem dX1_readPerson_34 : decode cX1_readPerson 34 = .ok (.iload_n 3, 1) := dk_29 (dk_at dksX1_readPerson_1 10 rfl rfl)
theorem dX1_readPerson_35 : decode cX1_readPerson 35 = .ok (.bipush 112, 2) := dk_16 112 (dk_at dksX1_readPerson_1 11 rfl rfl)
theorem dX1_readPerson_37 : decode cX1_readPerson 37 = .ok (.if_icmp .ne 7, 3) := dk_160 0 7 (dk_at dksX1_readPerson_1 13 rfl rfl)
theorem dX1_readPerson_40 : decode cX1_readPerson 40 = .ok (.iconst 0, 1) := dk_3 (dk_at dksX1_readPerson_1 16 rfl rfl)
theorem dX1_readPerson_41 : decode cX1_readPerson 41 = .ok (.goto 25, 3) := dk_167 0 25 (dk_at dksX1_readPerson_1 17 rfl rfl)
theorem dX1_readPerson_44 : decode cX1_readPerson 44 = .ok (.iload_n 3, 1) := dk_29 (dk_at dksX1_readPerson_1 20 rfl rfl)
theorem dX1_readPerson_45 : decode cX1_readPerson 45 = .ok (.bipush 114, 2) := dk_16 114 (dk_at dksX1_readPerson_1 21 rfl rfl)
theorem dX1_readPerson_47 : decode cX1_readPerson 47 = .ok (.if_icmp .ne 7, 3) := dk_160 0 7 (dk_at dksX1_readPerson_2 0 rfl rfl)
theorem dX1_readPerson_50 : decode cX1_readPerson 50 = .ok (.iconst 1, 1) := dk_4 (dk_at dksX1_readPerson_2 3 rfl rfl)
theorem dX1_readPerson_51 : decode cX1_readPerson 51 = .ok (.goto 15, 3) := dk_167 0 15 (dk_at dksX1_readPerson_2 4 rfl rfl)
theorem dX1_readPerson_54 : decode cX1_readPerson 54 = .ok (.iload_n 3, 1) := dk_29 (dk_at dksX1_readPerson_2 7 rfl rfl)
theorem dX1_readPerson_55 : decode cX1_readPerson 55 = .ok (.bipush 97, 2) := dk_16 97 (dk_at dksX1_readPerson_2 8 rfl rfl)
theorem dX1_readPerson_57 : decode cX1_readPerson 57 = .ok (.if_icmp .ne 7, 3) := dk_160 0 7 (dk_at dksX1_readPerson_2 10 rfl rfl)
theorem dX1_readPerson_60 : decode cX1_readPerson 60 = .ok (.iconst 2, 1) := dk_5 (dk_at dksX1_readPerson_2 13 rfl rfl)
theorem dX1_readPerson_61 : decode cX1_readPerson 61 = .ok (.goto 5, 3) := dk_167 0 5 (dk_at dksX1_readPerson_2 14 rfl rfl)
theorem dX1_readPerson_64 : decode cX1_readPerson 64 = .ok (.bipush (-9), 2) := dk_16 247 (dk_at dksX1_readPerson_2 17 rfl rfl)
theorem dX1_readPerson_66 : decode cX1_readPerson 66 = .ok (.iastore, 1) := dk_79 (dk_at dksX1_readPerson_2 19 rfl rfl)
theorem dX1_readPerson_67 : decode cX1_readPerson 67 = .ok (.aload_n 0, 1) := dk_42 (dk_at dksX1_readPerson_2 20 rfl rfl)
theorem dX1_readPerson_68 : decode cX1_readPerson 68 = .ok (.getfield 37, 3) := dk_180 0 37 (dk_at dksX1_readPerson_2 21 rfl rfl)
theorem dX1_readPerson_71 : decode cX1_readPerson 71 = .ok (.iload_n 2, 1) := dk_28 (dk_at dksX1_readPerson_3 0 rfl rfl)
theorem dX1_readPerson_72 : decode cX1_readPerson 72 = .ok (.iaload, 1) := dk_46 (dk_at dksX1_readPerson_3 1 rfl rfl)
theorem dX1_readPerson_73 : decode cX1_readPerson 73 = .ok (.bipush (-9), 2) := dk_16 247 (dk_at dksX1_readPerson_3 2 rfl rfl)
theorem dX1_readPerson_75 : decode cX1_readPerson 75 = .ok (.if_icmp .ne 5, 3) := dk_160 0 5 (dk_at dksX1_readPerson_3 4 rfl rfl)
theorem dX1_readPerson_78 : decode cX1_readPerson 78 = .ok (.iconst 0, 1) := dk_3 (dk_at dksX1_readPerson_3 7 rfl rfl)
theorem dX1_readPerson_79 : decode cX1_readPerson 79 = .ok (.ireturn, 1) := dk_172 (dk_at dksX1_readPerson_3 8 rfl rfl)
theorem dX1_readPerson_80 : decode cX1_readPerson 80 = .ok (.aload_n 0, 1) := dk_42 (dk_at dksX1_readPerson_3 9 rfl rfl)
theorem dX1_readPerson_81 : decode cX1_readPerson 81 = .ok (.dup, 1) := dk_89 (dk_at dksX1_readPerson_3 10 rfl rfl)
theorem dX1_readPerson_82 : decode cX1_readPerson 82 = .ok (.getfield 71, 3) := dk_180 0 71 (dk_at dksX1_readPerson_3 11 rfl rfl)
theorem dX1_readPerson_85 : decode cX1_readPerson 85 = .ok (.iconst 1, 1) := dk_4 (dk_at dksX1_readPerson_3 14 rfl rfl)
theorem dX1_readPerson_86 : decode cX1_readPerson 86 = .ok (.iadd, 1) := dk_96 (dk_at dksX1_readPerson_3 15 rfl rfl)
theorem dX1_readPerson_87 : decode cX1_readPerson 87 = .ok (.putfield 71, 3) := dk_181 0 71 (dk_at dksX1_readPerson_3 16 rfl rfl)
theorem dX1_readPerson_90 : decode cX1_readPerson 90 = .ok (.aload_n 0, 1) := dk_42 (dk_at dksX1_readPerson_3 19 rfl rfl)
theorem dX1_readPerson_91 : decode cX1_readPerson 91 = .ok (.iload_n 1, 1) := dk_27 (dk_at dksX1_readPerson_3 20 rfl rfl)
theorem dX1_readPerson_92 : decode cX1_readPerson 92 = .ok (.iconst 0, 1) := dk_3 (dk_at dksX1_readPerson_3 21 rfl rfl)
theorem dX1_readPerson_93 : decode cX1_readPerson 93 = .ok (.bipush 6, 2) := dk_16 6 (dk_at dksX1_readPerson_3 22 rfl rfl)
theorem dX1_readPerson_95 : decode cX1_readPerson 95 = .ok (.invokevirtual 114, 3) := dk_182 0 114 (dk_at dksX1_readPerson_4 0 rfl rfl)
theorem dX1_readPerson_98 : decode cX1_readPerson 98 = .ok (.istore 4, 2) := dk_54 4 (dk_at dksX1_readPerson_4 3 rfl rfl)
theorem dX1_readPerson_100 : decode cX1_readPerson 100 = .ok (.iload 4, 2) := dk_21 4 (dk_at dksX1_readPerson_4 5 rfl rfl)
theorem dX1_readPerson_102 : decode cX1_readPerson 102 = .ok (.bipush (-9), 2) := dk_16 247 (dk_at dksX1_readPerson_4 7 rfl rfl)
theorem dX1_readPerson_104 : decode cX1_readPerson 104 = .ok (.if_icmp .ne 5, 3) := dk_160 0 5 (dk_at dksX1_readPerson_4 9 rfl rfl)
theorem dX1_readPerson_107 : decode cX1_readPerson 107 = .ok (.iconst 0, 1) := dk_3 (dk_at dksX1_readPerson_4 12 rfl rfl)
theorem dX1_readPerson_108 : decode cX1_readPerson 108 = .ok (.ireturn, 1) := dk_172 (dk_at dksX1_readPerson_4 13 rfl rfl)
theorem dX1_readPerson_109 : decode cX1_readPerson 109 = .ok (.aload_n 0, 1) := dk_42 (dk_at dksX1_readPerson_4 14 rfl rfl)
theorem dX1_readPerson_110 : decode cX1_readPerson 110 = .ok (.iload_n 1, 1) := dk_27 (dk_at dksX1_readPerson_4 15 rfl rfl)
theorem dX1_readPerson_111 : decode cX1_readPerson 111 = .ok (.iconst 0, 1) := dk_3 (dk_at dksX1_readPerson_4 16 rfl rfl)
theorem dX1_readPerson_112 : decode cX1_readPerson 112 = .ok (.iload 4, 2) := dk_21 4 (dk_at dksX1_readPerson_4 17 rfl rfl)
theorem dX1_readPerson_114 : decode cX1_readPerson 114 = .ok (.bipush 6, 2) := dk_16 6 (dk_at dksX1_readPerson_4 19 rfl rfl)
theorem dX1_readPerson_116 : decode cX1_readPerson 116 = .ok (.if_icmp .ne 7, 3) := dk_160 0 7 (dk_at dksX1_readPerson_4 21 rfl rfl)
theorem dX1_readPerson_119 : decode cX1_readPerson 119 = .ok (.iconst 3, 1) := dk_6 (dk_at dksX1_readPerson_5 0 rfl rfl)
theorem dX1_readPerson_120 : decode cX1_readPerson 120 = .ok (.goto 5, 3) := dk_167 0 5 (dk_at dksX1_readPerson_5 1 rfl rfl)
theorem dX1_readPerson_123 : decode cX1_readPerson 123 = .ok (.bipush 9, 2) := dk_16 9 (dk_at dksX1_readPerson_5 4 rfl rfl)
theorem dX1_readPerson_125 : decode cX1_readPerson 125 = .ok (.invokevirtual 114, 3) := dk_182 0 114 (dk_at dksX1_readPerson_5 6 rfl rfl)
theorem dX1_readPerson_128 : decode cX1_readPerson 128 = .ok (.istore 5, 2) := dk_54 5 (dk_at dksX1_readPerson_5 9 rfl rfl)
theorem dX1_readPerson_130 : decode cX1_readPerson 130 = .ok (.iload 5, 2) := dk_21 5 (dk_at dksX1_readPerson_5 11 rfl rfl)
theorem dX1_readPerson_132 : decode cX1_readPerson 132 = .ok (.bipush (-9), 2) := dk_16 247 (dk_at dksX1_readPerson_5 13 rfl rfl)
theorem dX1_readPerson_134 : decode cX1_readPerson 134 = .ok (.if_icmp .ne 5, 3) := dk_160 0 5 (dk_at dksX1_readPerson_5 15 rfl rfl)
theorem dX1_readPerson_137 : decode cX1_readPerson 137 = .ok (.iconst 0, 1) := dk_3 (dk_at dksX1_readPerson_5 18 rfl rfl)
theorem dX1_readPerson_138 : decode cX1_readPerson 138 = .ok (.ireturn, 1) := dk_172 (dk_at dksX1_readPerson_5 19 rfl rfl)
theorem dX1_readPerson_139 : decode cX1_readPerson 139 = .ok (.aload_n 0, 1) := dk_42 (dk_at dksX1_readPerson_5 20 rfl rfl)
theorem dX1_readPerson_140 : decode cX1_readPerson 140 = .ok (.getfield 37, 3) := dk_180 0 37 (dk_at dksX1_readPerson_5 21 rfl rfl)
theorem dX1_readPerson_143 : decode cX1_readPerson 143 = .ok (.iload_n 2, 1) := dk_28 (dk_at dksX1_readPerson_6 0 rfl rfl)
theorem dX1_readPerson_144 : decode cX1_readPerson 144 = .ok (.iconst 1, 1) := dk_4 (dk_at dksX1_readPerson_6 1 rfl rfl)
theorem dX1_readPerson_145 : decode cX1_readPerson 145 = .ok (.iadd, 1) := dk_96 (dk_at dksX1_readPerson_6 2 rfl rfl)
theorem dX1_readPerson_146 : decode cX1_readPerson 146 = .ok (.bipush 10, 2) := dk_16 10 (dk_at dksX1_readPerson_6 3 rfl rfl)
theorem dX1_readPerson_148 : decode cX1_readPerson 148 = .ok (.iload 4, 2) := dk_21 4 (dk_at dksX1_readPerson_6 5 rfl rfl)
theorem dX1_readPerson_150 : decode cX1_readPerson 150 = .ok (.imul, 1) := dk_104 (dk_at dksX1_readPerson_6 7 rfl rfl)
theorem dX1_readPerson_151 : decode cX1_readPerson 151 = .ok (.iload 5, 2) := dk_21 5 (dk_at dksX1_readPerson_6 8 rfl rfl)
theorem dX1_readPerson_153 : decode cX1_readPerson 153 = .ok (.iadd, 1) := dk_96 (dk_at dksX1_readPerson_6 10 rfl rfl)
theorem dX1_readPerson_154 : decode cX1_readPerson 154 = .ok (.iastore, 1) := dk_79 (dk_at dksX1_readPerson_6 11 rfl rfl)
theorem dX1_readPerson_155 : decode cX1_readPerson 155 = .ok (.aload_n 0, 1) := dk_42 (dk_at dksX1_readPerson_6 12 rfl rfl)
theorem dX1_readPerson_156 : decode cX1_readPerson 156 = .ok (.getfield 37, 3) := dk_180 0 37 (dk_at dksX1_readPerson_6 13 rfl rfl)
theorem dX1_readPerson_159 : decode cX1_readPerson 159 = .ok (.iload_n 2, 1) := dk_28 (dk_at dksX1_readPerson_6 16 rfl rfl)
theorem dX1_readPerson_160 : decode cX1_readPerson 160 = .ok (.iconst 2, 1) := dk_5 (dk_at dksX1_readPerson_6 17 rfl rfl)
theorem dX1_readPerson_161 : decode cX1_readPerson 161 = .ok (.iadd, 1) := dk_96 (dk_at dksX1_readPerson_6 18 rfl rfl)
theorem dX1_readPerson_162 : decode cX1_readPerson 162 = .ok (.aload_n 0, 1) := dk_42 (dk_at dksX1_readPerson_6 19 rfl rfl)
theorem dX1_readPerson_163 : decode cX1_readPerson 163 = .ok (.iload_n 1, 1) := dk_27 (dk_at dksX1_readPerson_6 20 rfl rfl)
theorem dX1_readPerson_164 : decode cX1_readPerson 164 = .ok (.iconst 0, 1) := dk_3 (dk_at dksX1_readPerson_6 21 rfl rfl)
theorem dX1_readPerson_165 : decode cX1_readPerson 165 = .ok (.iconst 4, 1) := dk_7 (dk_at dksX1_readPerson_6 22 rfl rfl)
theorem dX1_readPerson_166 : decode cX1_readPerson 166 = .ok (.invokevirtual 114, 3) := dk_182 0 114 (dk_at dksX1_readPerson_7 0 rfl rfl)
theorem dX1_readPerson_169 : decode cX1_readPerson 169 = .ok (.iastore, 1) := dk_79 (dk_at dksX1_readPerson_7 3 rfl rfl)
theorem dX1_readPerson_170 : decode cX1_readPerson 170 = .ok (.aload_n 0, 1) := dk_42 (dk_at dksX1_readPerson_7 4 rfl rfl)
theorem dX1_readPerson_171 : decode cX1_readPerson 171 = .ok (.dup, 1) := dk_89 (dk_at dksX1_readPerson_7 5 rfl rfl)
theorem dX1_readPerson_172 : decode cX1_readPerson 172 = .ok (.getfield 98, 3) := dk_180 0 98 (dk_at dksX1_readPerson_7 6 rfl rfl)
theorem dX1_readPerson_175 : decode cX1_readPerson 175 = .ok (.iconst 1, 1) := dk_4 (dk_at dksX1_readPerson_7 9 rfl rfl)
theorem dX1_readPerson_176 : decode cX1_readPerson 176 = .ok (.iadd, 1) := dk_96 (dk_at dksX1_readPerson_7 10 rfl rfl)
theorem dX1_readPerson_177 : decode cX1_readPerson 177 = .ok (.putfield 98, 3) := dk_181 0 98 (dk_at dksX1_readPerson_7 11 rfl rfl)
theorem dX1_readPerson_180 : decode cX1_readPerson 180 = .ok (.aload_n 0, 1) := dk_42 (dk_at dksX1_readPerson_7 14 rfl rfl)
theorem dX1_readPerson_181 : decode cX1_readPerson 181 = .ok (.getfield 37, 3) := dk_180 0 37 (dk_at dksX1_readPerson_7 15 rfl rfl)
theorem dX1_readPerson_184 : decode cX1_readPerson 184 = .ok (.iload_n 2, 1) := dk_28 (dk_at dksX1_readPerson_7 18 rfl rfl)
theorem dX1_readPerson_185 : decode cX1_readPerson 185 = .ok (.iconst 2, 1) := dk_5 (dk_at dksX1_readPerson_7 19 rfl rfl)
theorem dX1_readPerson_186 : decode cX1_readPerson 186 = .ok (.iadd, 1) := dk_96 (dk_at dksX1_readPerson_7 20 rfl rfl)
theorem dX1_readPerson_187 : decode cX1_readPerson 187 = .ok (.iaload, 1) := dk_46 (dk_at dksX1_readPerson_7 21 rfl rfl)
theorem dX1_readPerson_188 : decode cX1_readPerson 188 = .ok (.bipush (-9), 2) := dk_16 247 (dk_at dksX1_readPerson_7 22 rfl rfl)
theorem dX1_readPerson_190 : decode cX1_readPerson 190 = .ok (.if_icmp .eq 7, 3) := dk_159 0 7 (dk_at dksX1_readPerson_8 0 rfl rfl)
theorem dX1_readPerson_193 : decode cX1_readPerson 193 = .ok (.iconst 1, 1) := dk_4 (dk_at dksX1_readPerson_8 3 rfl rfl)
theorem dX1_readPerson_194 : decode cX1_readPerson 194 = .ok (.goto 4, 3) := dk_167 0 4 (dk_at dksX1_readPerson_8 4 rfl rfl)
theorem dX1_readPerson_197 : decode cX1_readPerson 197 = .ok (.iconst 0, 1) := dk_3 (dk_at dksX1_readPerson_8 7 rfl rfl)
theorem dX1_readPerson_198 : decode cX1_readPerson 198 = .ok (.ireturn, 1) := dk_172 (dk_at dksX1_readPerson_8 8 rfl rfl)
abbrev cX1_takeTower : ByteArray := prog_15_method_14_code
def yX1_takeTower : MethodName := ⟨RX1, "takeTower", "()V"⟩
def dkwX1_takeTower_5 : List UInt8 := [132, 1, 1, 167, 255, 183, 42, 3, 181, 0, 101, 177]
abbrev dktX1_takeTower_5 : List UInt8 := dkwX1_takeTower_5 ++ []
def dkwX1_takeTower_4 : List UInt8 := [180, 0, 28, 27, 42, 180, 0, 37, 6, 27, 104, 5, 96, 46, 79, 42, 180, 0, 31, 27, 3, 79]
abbrev dktX1_takeTower_4 : List UInt8 := dkwX1_takeTower_4 ++ dktX1_takeTower_5
def dkwX1_takeTower_3 : List UInt8 := [27, 42, 180, 0, 37, 6, 27, 104, 4, 96, 46, 4, 42, 180, 0, 65, 120, 4, 100, 126, 79, 42]
abbrev dktX1_takeTower_3 : List UInt8 := dkwX1_takeTower_3 ++ dktX1_takeTower_4
def dkwX1_takeTower_2 : List UInt8 := [180, 0, 68, 162, 0, 71, 42, 180, 0, 22, 27, 42, 180, 0, 37, 6, 27, 104, 46, 79, 42, 180, 0, 25]
abbrev dktX1_takeTower_2 : List UInt8 := dkwX1_takeTower_2 ++ dktX1_takeTower_3
def dkwX1_takeTower_1 : List UInt8 := [180, 0, 34, 27, 46, 79, 132, 1, 1, 167, 255, 233, 42, 42, 180, 0, 98, 181, 0, 68, 3, 60, 27, 42]
abbrev dktX1_takeTower_1 : List UInt8 := dkwX1_takeTower_1 ++ dktX1_takeTower_2
def dkwX1_takeTower_0 : List UInt8 := [42, 42, 180, 0, 95, 181, 0, 65, 3, 60, 27, 42, 180, 0, 65, 162, 0, 21, 42, 180, 0, 19, 27, 42]
abbrev dktX1_takeTower_0 : List UInt8 := dkwX1_takeTower_0 ++ dktX1_takeTower_1
theorem dksX1_takeTower_0 : cX1_takeTower.data.toList.drop 0 = dktX1_takeTower_0 := by decide +kernel
theorem dksX1_takeTower_1 : cX1_takeTower.data.toList.drop 24 = dktX1_takeTower_1 := dk_seg dksX1_takeTower_0 24 rfl rfl
theorem dksX1_takeTower_2 : cX1_takeTower.data.toList.drop 48 = dktX1_takeTower_2 := dk_seg dksX1_takeTower_1 24 rfl rfl
theorem dksX1_takeTower_3 : cX1_takeTower.data.toList.drop 72 = dktX1_takeTower_3 := dk_seg dksX1_takeTower_2 24 rfl rfl
theorem dksX1_takeTower_4 : cX1_takeTower.data.toList.drop 94 = dktX1_takeTower_4 := dk_seg dksX1_takeTower_3 22 rfl rfl
theorem dksX1_takeTower_5 : cX1_takeTower.data.toList.drop 116 = dktX1_takeTower_5 := dk_seg dksX1_takeTower_4 22 rfl rfl
theorem dX1_takeTower_0 : decode cX1_takeTower 0 = .ok (.aload_n 0, 1) := dk_42 (dk_at dksX1_takeTower_0 0 rfl rfl)
theorem dX1_takeTower_1 : decode cX1_takeTower 1 = .ok (.aload_n 0, 1) := dk_42 (dk_at dksX1_takeTower_0 1 rfl rfl)
theorem dX1_takeTower_2 : decode cX1_takeTower 2 = .ok (.getfield 95, 3) := dk_180 0 95 (dk_at dksX1_takeTower_0 2 rfl rfl)
theorem dX1_takeTower_5 : decode cX1_takeTower 5 = .ok (.putfield 65, 3) := dk_181 0 65 (dk_at dksX1_takeTower_0 5 rfl rfl)
theorem dX1_takeTower_8 : decode cX1_takeTower 8 = .ok (.iconst 0, 1) := dk_3 (dk_at dksX1_takeTower_0 8 rfl rfl)
theorem dX1_takeTower_9 : decode cX1_takeTower 9 = .ok (.istore_n 1, 1) := dk_60 (dk_at dksX1_takeTower_0 9 rfl rfl)
theorem dX1_takeTower_10 : decode cX1_takeTower 10 = .ok (.iload_n 1, 1) := dk_27 (dk_at dksX1_takeTower_0 10 rfl rfl)
theorem dX1_takeTower_11 : decode cX1_takeTower 11 = .ok (.aload_n 0, 1) := dk_42 (dk_at dksX1_takeTower_0 11 rfl rfl)
theorem dX1_takeTower_12 : decode cX1_takeTower 12 = .ok (.getfield 65, 3) := dk_180 0 65 (dk_at dksX1_takeTower_0 12 rfl rfl)
theorem dX1_takeTower_15 : decode cX1_takeTower 15 = .ok (.if_icmp .ge 21, 3) := dk_162 0 21 (dk_at dksX1_takeTower_0 15 rfl rfl)
theorem dX1_takeTower_18 : decode cX1_takeTower 18 = .ok (.aload_n 0, 1) := dk_42 (dk_at dksX1_takeTower_0 18 rfl rfl)
theorem dX1_takeTower_19 : decode cX1_takeTower 19 = .ok (.getfield 19, 3) := dk_180 0 19 (dk_at dksX1_takeTower_0 19 rfl rfl)
theorem dX1_takeTower_22 : decode cX1_takeTower 22 = .ok (.iload_n 1, 1) := dk_27 (dk_at dksX1_takeTower_0 22 rfl rfl)
theorem dX1_takeTower_23 : decode cX1_takeTower 23 = .ok (.aload_n 0, 1) := dk_42 (dk_at dksX1_takeTower_0 23 rfl rfl)
theorem dX1_takeTower_24 : decode cX1_takeTower 24 = .ok (.getfield 34, 3) := dk_180 0 34 (dk_at dksX1_takeTower_1 0 rfl rfl)
theorem dX1_takeTower_27 : decode cX1_takeTower 27 = .ok (.iload_n 1, 1) := dk_27 (dk_at dksX1_takeTower_1 3 rfl rfl)
theorem dX1_takeTower_28 : decode cX1_takeTower 28 = .ok (.iaload, 1) := dk_46 (dk_at dksX1_takeTower_1 4 rfl rfl)
theorem dX1_takeTower_29 : decode cX1_takeTower 29 = .ok (.iastore, 1) := dk_79 (dk_at dksX1_takeTower_1 5 rfl rfl)
theorem dX1_takeTower_30 : decode cX1_takeTower 30 = .ok (.iinc 1 1, 3) := dk_132 1 1 (dk_at dksX1_takeTower_1 6 rfl rfl)
theorem dX1_takeTower_33 : decode cX1_takeTower 33 = .ok (.goto (-23), 3) := dk_167 255 233 (dk_at dksX1_takeTower_1 9 rfl rfl)
theorem dX1_takeTower_36 : decode cX1_takeTower 36 = .ok (.aload_n 0, 1) := dk_42 (dk_at dksX1_takeTower_1 12 rfl rfl)
theorem dX1_takeTower_37 : decode cX1_takeTower 37 = .ok (.aload_n 0, 1) := dk_42 (dk_at dksX1_takeTower_1 13 rfl rfl)
theorem dX1_takeTower_38 : decode cX1_takeTower 38 = .ok (.getfield 98, 3) := dk_180 0 98 (dk_at dksX1_takeTower_1 14 rfl rfl)
theorem dX1_takeTower_41 : decode cX1_takeTower 41 = .ok (.putfield 68, 3) := dk_181 0 68 (dk_at dksX1_takeTower_1 17 rfl rfl)
theorem dX1_takeTower_44 : decode cX1_takeTower 44 = .ok (.iconst 0, 1) := dk_3 (dk_at dksX1_takeTower_1 20 rfl rfl)
theorem dX1_takeTower_45 : decode cX1_takeTower 45 = .ok (.istore_n 1, 1) := dk_60 (dk_at dksX1_takeTower_1 21 rfl rfl)
theorem dX1_takeTower_46 : decode cX1_takeTower 46 = .ok (.iload_n 1, 1) := dk_27 (dk_at dksX1_takeTower_1 22 rfl rfl)
theorem dX1_takeTower_47 : decode cX1_takeTower 47 = .ok (.aload_n 0, 1) := dk_42 (dk_at dksX1_takeTower_1 23 rfl rfl)
theorem dX1_takeTower_48 : decode cX1_takeTower 48 = .ok (.getfield 68, 3) := dk_180 0 68 (dk_at dksX1_takeTower_2 0 rfl rfl)
theorem dX1_takeTower_51 : decode cX1_takeTower 51 = .ok (.if_icmp .ge 71, 3) := dk_162 0 71 (dk_at dksX1_takeTower_2 3 rfl rfl)
theorem dX1_takeTower_54 : decode cX1_takeTower 54 = .ok (.aload_n 0, 1) := dk_42 (dk_at dksX1_takeTower_2 6 rfl rfl)
theorem dX1_takeTower_55 : decode cX1_takeTower 55 = .ok (.getfield 22, 3) := dk_180 0 22 (dk_at dksX1_takeTower_2 7 rfl rfl)
theorem dX1_takeTower_58 : decode cX1_takeTower 58 = .ok (.iload_n 1, 1) := dk_27 (dk_at dksX1_takeTower_2 10 rfl rfl)
theorem dX1_takeTower_59 : decode cX1_takeTower 59 = .ok (.aload_n 0, 1) := dk_42 (dk_at dksX1_takeTower_2 11 rfl rfl)
theorem dX1_takeTower_60 : decode cX1_takeTower 60 = .ok (.getfield 37, 3) := dk_180 0 37 (dk_at dksX1_takeTower_2 12 rfl rfl)
theorem dX1_takeTower_63 : decode cX1_takeTower 63 = .ok (.iconst 3, 1) := dk_6 (dk_at dksX1_takeTower_2 15 rfl rfl)
theorem dX1_takeTower_64 : decode cX1_takeTower 64 = .ok (.iload_n 1, 1) := dk_27 (dk_at dksX1_takeTower_2 16 rfl rfl)
theorem dX1_takeTower_65 : decode cX1_takeTower 65 = .ok (.imul, 1) := dk_104 (dk_at dksX1_takeTower_2 17 rfl rfl)
theorem dX1_takeTower_66 : decode cX1_takeTower 66 = .ok (.iaload, 1) := dk_46 (dk_at dksX1_takeTower_2 18 rfl rfl)
theorem dX1_takeTower_67 : decode cX1_takeTower 67 = .ok (.iastore, 1) := dk_79 (dk_at dksX1_takeTower_2 19 rfl rfl)
theorem dX1_takeTower_68 : decode cX1_takeTower 68 = .ok (.aload_n 0, 1) := dk_42 (dk_at dksX1_takeTower_2 20 rfl rfl)
theorem dX1_takeTower_69 : decode cX1_takeTower 69 = .ok (.getfield 25, 3) := dk_180 0 25 (dk_at dksX1_takeTower_2 21 rfl rfl)
theorem dX1_takeTower_72 : decode cX1_takeTower 72 = .ok (.iload_n 1, 1) := dk_27 (dk_at dksX1_takeTower_3 0 rfl rfl)
theorem dX1_takeTower_73 : decode cX1_takeTower 73 = .ok (.aload_n 0, 1) := dk_42 (dk_at dksX1_takeTower_3 1 rfl rfl)
theorem dX1_takeTower_74 : decode cX1_takeTower 74 = .ok (.getfield 37, 3) := dk_180 0 37 (dk_at dksX1_takeTower_3 2 rfl rfl)
theorem dX1_takeTower_77 : decode cX1_takeTower 77 = .ok (.iconst 3, 1) := dk_6 (dk_at dksX1_takeTower_3 5 rfl rfl)
theorem dX1_takeTower_78 : decode cX1_takeTower 78 = .ok (.iload_n 1, 1) := dk_27 (dk_at dksX1_takeTower_3 6 rfl rfl)
theorem dX1_takeTower_79 : decode cX1_takeTower 79 = .ok (.imul, 1) := dk_104 (dk_at dksX1_takeTower_3 7 rfl rfl)
theorem dX1_takeTower_80 : decode cX1_takeTower 80 = .ok (.iconst 1, 1) := dk_4 (dk_at dksX1_takeTower_3 8 rfl rfl)
theorem dX1_takeTower_81 : decode cX1_takeTower 81 = .ok (.iadd, 1) := dk_96 (dk_at dksX1_takeTower_3 9 rfl rfl)
theorem dX1_takeTower_82 : decode cX1_takeTower 82 = .ok (.iaload, 1) := dk_46 (dk_at dksX1_takeTower_3 10 rfl rfl)
theorem dX1_takeTower_83 : decode cX1_takeTower 83 = .ok (.iconst 1, 1) := dk_4 (dk_at dksX1_takeTower_3 11 rfl rfl)
theorem dX1_takeTower_84 : decode cX1_takeTower 84 = .ok (.aload_n 0, 1) := dk_42 (dk_at dksX1_takeTower_3 12 rfl rfl)
theorem dX1_takeTower_85 : decode cX1_takeTower 85 = .ok (.getfield 65, 3) := dk_180 0 65 (dk_at dksX1_takeTower_3 13 rfl rfl)
theorem dX1_takeTower_88 : decode cX1_takeTower 88 = .ok (.ishl, 1) := dk_120 (dk_at dksX1_takeTower_3 16 rfl rfl)
theorem dX1_takeTower_89 : decode cX1_takeTower 89 = .ok (.iconst 1, 1) := dk_4 (dk_at dksX1_takeTower_3 17 rfl rfl)
theorem dX1_takeTower_90 : decode cX1_takeTower 90 = .ok (.isub, 1) := dk_100 (dk_at dksX1_takeTower_3 18 rfl rfl)
theorem dX1_takeTower_91 : decode cX1_takeTower 91 = .ok (.iand, 1) := dk_126 (dk_at dksX1_takeTower_3 19 rfl rfl)
theorem dX1_takeTower_92 : decode cX1_takeTower 92 = .ok (.iastore, 1) := dk_79 (dk_at dksX1_takeTower_3 20 rfl rfl)
theorem dX1_takeTower_93 : decode cX1_takeTower 93 = .ok (.aload_n 0, 1) := dk_42 (dk_at dksX1_takeTower_3 21 rfl rfl)
theorem dX1_takeTower_94 : decode cX1_takeTower 94 = .ok (.getfield 28, 3) := dk_180 0 28 (dk_at dksX1_takeTower_4 0 rfl rfl)
theorem dX1_takeTower_97 : decode cX1_takeTower 97 = .ok (.iload_n 1, 1) := dk_27 (dk_at dksX1_takeTower_4 3 rfl rfl)
theorem dX1_takeTower_98 : decode cX1_takeTower 98 = .ok (.aload_n 0, 1) := dk_42 (dk_at dksX1_takeTower_4 4 rfl rfl)
theorem dX1_takeTower_99 : decode cX1_takeTower 99 = .ok (.getfield 37, 3) := dk_180 0 37 (dk_at dksX1_takeTower_4 5 rfl rfl)
theorem dX1_takeTower_102 : decode cX1_takeTower 102 = .ok (.iconst 3, 1) := dk_6 (dk_at dksX1_takeTower_4 8 rfl rfl)
theorem dX1_takeTower_103 : decode cX1_takeTower 103 = .ok (.iload_n 1, 1) := dk_27 (dk_at dksX1_takeTower_4 9 rfl rfl)
theorem dX1_takeTower_104 : decode cX1_takeTower 104 = .ok (.imul, 1) := dk_104 (dk_at dksX1_takeTower_4 10 rfl rfl)
theorem dX1_takeTower_105 : decode cX1_takeTower 105 = .ok (.iconst 2, 1) := dk_5 (dk_at dksX1_takeTower_4 11 rfl rfl)
theorem dX1_takeTower_106 : decode cX1_takeTower 106 = .ok (.iadd, 1) := dk_96 (dk_at dksX1_takeTower_4 12 rfl rfl)
theorem dX1_takeTower_107 : decode cX1_takeTower 107 = .ok (.iaload, 1) := dk_46 (dk_at dksX1_takeTower_4 13 rfl rfl)
theorem dX1_takeTower_108 : decode cX1_takeTower 108 = .ok (.iastore, 1) := dk_79 (dk_at dksX1_takeTower_4 14 rfl rfl)
theorem dX1_takeTower_109 : decode cX1_takeTower 109 = .ok (.aload_n 0, 1) := dk_42 (dk_at dksX1_takeTower_4 15 rfl rfl)
theorem dX1_takeTower_110 : decode cX1_takeTower 110 = .ok (.getfield 31, 3) := dk_180 0 31 (dk_at dksX1_takeTower_4 16 rfl rfl)
theorem dX1_takeTower_113 : decode cX1_takeTower 113 = .ok (.iload_n 1, 1) := dk_27 (dk_at dksX1_takeTower_4 19 rfl rfl)
theorem dX1_takeTower_114 : decode cX1_takeTower 114 = .ok (.iconst 0, 1) := dk_3 (dk_at dksX1_takeTower_4 20 rfl rfl)
theorem dX1_takeTower_115 : decode cX1_takeTower 115 = .ok (.iastore, 1) := dk_79 (dk_at dksX1_takeTower_4 21 rfl rfl)
theorem dX1_takeTower_116 : decode cX1_takeTower 116 = .ok (.iinc 1 1, 3) := dk_132 1 1 (dk_at dksX1_takeTower_5 0 rfl rfl)
theorem dX1_takeTower_119 : decode cX1_takeTower 119 = .ok (.goto (-73), 3) := dk_167 255 183 (dk_at dksX1_takeTower_5 3 rfl rfl)
theorem dX1_takeTower_122 : decode cX1_takeTower 122 = .ok (.aload_n 0, 1) := dk_42 (dk_at dksX1_takeTower_5 6 rfl rfl)
theorem dX1_takeTower_123 : decode cX1_takeTower 123 = .ok (.iconst 0, 1) := dk_3 (dk_at dksX1_takeTower_5 7 rfl rfl)
theorem dX1_takeTower_124 : decode cX1_takeTower 124 = .ok (.putfield 101, 3) := dk_181 0 101 (dk_at dksX1_takeTower_5 8 rfl rfl)
theorem dX1_takeTower_127 : decode cX1_takeTower 127 = .ok (.return_, 1) := dk_177 (dk_at dksX1_takeTower_5 11 rfl rfl)
abbrev cX1_ofPerson : ByteArray := prog_15_method_20_code
def yX1_ofPerson : MethodName := ⟨RX1, "ofPerson", "(II)I"⟩
def dkwX1_ofPerson_3 : List UInt8 := [180, 0, 31, 27, 46, 172, 42, 27, 42, 180, 0, 31, 27, 46, 182, 0, 125, 172, 16, 254, 172]
abbrev dktX1_ofPerson_3 : List UInt8 := dkwX1_ofPerson_3 ++ []
def dkwX1_ofPerson_2 : List UInt8 := [42, 180, 0, 22, 27, 46, 172, 42, 180, 0, 25, 27, 46, 172, 42, 180, 0, 28, 27, 46, 172, 42]
abbrev dktX1_ofPerson_2 : List UInt8 := dkwX1_ofPerson_2 ++ dktX1_ofPerson_3
def dkwX1_ofPerson_1 : List UInt8 := [170, 0, 0, 0, 73, 0, 0, 0, 0, 0, 0, 0, 4, 0, 0, 0, 33, 0, 0, 0, 40, 0, 0, 0, 47, 0, 0, 0, 54, 0, 0, 0, 61]
abbrev dktX1_ofPerson_1 : List UInt8 := dkwX1_ofPerson_1 ++ dktX1_ofPerson_2
def dkwX1_ofPerson_0 : List UInt8 := [42, 27, 182, 0, 122, 154, 0, 5, 2, 172, 28]
abbrev dktX1_ofPerson_0 : List UInt8 := dkwX1_ofPerson_0 ++ dktX1_ofPerson_1
theorem dksX1_ofPerson_0 : cX1_ofPerson.data.toList.drop 0 = dktX1_ofPerson_0 := by decide +kernel
theorem dksX1_ofPerson_1 : cX1_ofPerson.data.toList.drop 11 = dktX1_ofPerson_1 := dk_seg dksX1_ofPerson_0 11 rfl rfl
theorem dksX1_ofPerson_2 : cX1_ofPerson.data.toList.drop 44 = dktX1_ofPerson_2 := dk_seg dksX1_ofPerson_1 33 rfl rfl
theorem dksX1_ofPerson_3 : cX1_ofPerson.data.toList.drop 66 = dktX1_ofPerson_3 := dk_seg dksX1_ofPerson_2 22 rfl rfl
theorem dX1_ofPerson_0 : decode cX1_ofPerson 0 = .ok (.aload_n 0, 1) := dk_42 (dk_at dksX1_ofPerson_0 0 rfl rfl)
theorem dX1_ofPerson_1 : decode cX1_ofPerson 1 = .ok (.iload_n 1, 1) := dk_27 (dk_at dksX1_ofPerson_0 1 rfl rfl)
theorem dX1_ofPerson_2 : decode cX1_ofPerson 2 = .ok (.invokevirtual 122, 3) := dk_182 0 122 (dk_at dksX1_ofPerson_0 2 rfl rfl)
theorem dX1_ofPerson_5 : decode cX1_ofPerson 5 = .ok (.ifCond .ne 5, 3) := dk_154 0 5 (dk_at dksX1_ofPerson_0 5 rfl rfl)
theorem dX1_ofPerson_8 : decode cX1_ofPerson 8 = .ok (.iconst (-1), 1) := dk_2 (dk_at dksX1_ofPerson_0 8 rfl rfl)
theorem dX1_ofPerson_9 : decode cX1_ofPerson 9 = .ok (.ireturn, 1) := dk_172 (dk_at dksX1_ofPerson_0 9 rfl rfl)
theorem dX1_ofPerson_10 : decode cX1_ofPerson 10 = .ok (.iload_n 2, 1) := dk_28 (dk_at dksX1_ofPerson_0 10 rfl rfl)
theorem dX1_ofPerson_11 : decode cX1_ofPerson 11 = .ok (.tableswitch 73 0 4 #[33, 40, 47, 54, 61], 33) := by decide +kernel
theorem dX1_ofPerson_44 : decode cX1_ofPerson 44 = .ok (.aload_n 0, 1) := dk_42 (dk_at dksX1_ofPerson_2 0 rfl rfl)
theorem dX1_ofPerson_45 : decode cX1_ofPerson 45 = .ok (.getfield 22, 3) := dk_180 0 22 (dk_at dksX1_ofPerson_2 1 rfl rfl)
theorem dX1_ofPerson_48 : decode cX1_ofPerson 48 = .ok (.iload_n 1, 1) := dk_27 (dk_at dksX1_ofPerson_2 4 rfl rfl)
theorem dX1_ofPerson_49 : decode cX1_ofPerson 49 = .ok (.iaload, 1) := dk_46 (dk_at dksX1_ofPerson_2 5 rfl rfl)
theorem dX1_ofPerson_50 : decode cX1_ofPerson 50 = .ok (.ireturn, 1) := dk_172 (dk_at dksX1_ofPerson_2 6 rfl rfl)
theorem dX1_ofPerson_51 : decode cX1_ofPerson 51 = .ok (.aload_n 0, 1) := dk_42 (dk_at dksX1_ofPerson_2 7 rfl rfl)
theorem dX1_ofPerson_52 : decode cX1_ofPerson 52 = .ok (.getfield 25, 3) := dk_180 0 25 (dk_at dksX1_ofPerson_2 8 rfl rfl)
theorem dX1_ofPerson_55 : decode cX1_ofPerson 55 = .ok (.iload_n 1, 1) := dk_27 (dk_at dksX1_ofPerson_2 11 rfl rfl)
theorem dX1_ofPerson_56 : decode cX1_ofPerson 56 = .ok (.iaload, 1) := dk_46 (dk_at dksX1_ofPerson_2 12 rfl rfl)
theorem dX1_ofPerson_57 : decode cX1_ofPerson 57 = .ok (.ireturn, 1) := dk_172 (dk_at dksX1_ofPerson_2 13 rfl rfl)
theorem dX1_ofPerson_58 : decode cX1_ofPerson 58 = .ok (.aload_n 0, 1) := dk_42 (dk_at dksX1_ofPerson_2 14 rfl rfl)
theorem dX1_ofPerson_59 : decode cX1_ofPerson 59 = .ok (.getfield 28, 3) := dk_180 0 28 (dk_at dksX1_ofPerson_2 15 rfl rfl)
theorem dX1_ofPerson_62 : decode cX1_ofPerson 62 = .ok (.iload_n 1, 1) := dk_27 (dk_at dksX1_ofPerson_2 18 rfl rfl)
theorem dX1_ofPerson_63 : decode cX1_ofPerson 63 = .ok (.iaload, 1) := dk_46 (dk_at dksX1_ofPerson_2 19 rfl rfl)
theorem dX1_ofPerson_64 : decode cX1_ofPerson 64 = .ok (.ireturn, 1) := dk_172 (dk_at dksX1_ofPerson_2 20 rfl rfl)
theorem dX1_ofPerson_65 : decode cX1_ofPerson 65 = .ok (.aload_n 0, 1) := dk_42 (dk_at dksX1_ofPerson_2 21 rfl rfl)
theorem dX1_ofPerson_66 : decode cX1_ofPerson 66 = .ok (.getfield 31, 3) := dk_180 0 31 (dk_at dksX1_ofPerson_3 0 rfl rfl)
theorem dX1_ofPerson_69 : decode cX1_ofPerson 69 = .ok (.iload_n 1, 1) := dk_27 (dk_at dksX1_ofPerson_3 3 rfl rfl)
theorem dX1_ofPerson_70 : decode cX1_ofPerson 70 = .ok (.iaload, 1) := dk_46 (dk_at dksX1_ofPerson_3 4 rfl rfl)
theorem dX1_ofPerson_71 : decode cX1_ofPerson 71 = .ok (.ireturn, 1) := dk_172 (dk_at dksX1_ofPerson_3 5 rfl rfl)
theorem dX1_ofPerson_72 : decode cX1_ofPerson 72 = .ok (.aload_n 0, 1) := dk_42 (dk_at dksX1_ofPerson_3 6 rfl rfl)
theorem dX1_ofPerson_73 : decode cX1_ofPerson 73 = .ok (.iload_n 1, 1) := dk_27 (dk_at dksX1_ofPerson_3 7 rfl rfl)
theorem dX1_ofPerson_74 : decode cX1_ofPerson 74 = .ok (.aload_n 0, 1) := dk_42 (dk_at dksX1_ofPerson_3 8 rfl rfl)
theorem dX1_ofPerson_75 : decode cX1_ofPerson 75 = .ok (.getfield 31, 3) := dk_180 0 31 (dk_at dksX1_ofPerson_3 9 rfl rfl)
theorem dX1_ofPerson_78 : decode cX1_ofPerson 78 = .ok (.iload_n 1, 1) := dk_27 (dk_at dksX1_ofPerson_3 12 rfl rfl)
theorem dX1_ofPerson_79 : decode cX1_ofPerson 79 = .ok (.iaload, 1) := dk_46 (dk_at dksX1_ofPerson_3 13 rfl rfl)
theorem dX1_ofPerson_80 : decode cX1_ofPerson 80 = .ok (.invokevirtual 125, 3) := dk_182 0 125 (dk_at dksX1_ofPerson_3 14 rfl rfl)
theorem dX1_ofPerson_83 : decode cX1_ofPerson 83 = .ok (.ireturn, 1) := dk_172 (dk_at dksX1_ofPerson_3 17 rfl rfl)
theorem dX1_ofPerson_84 : decode cX1_ofPerson 84 = .ok (.bipush (-2), 2) := dk_16 254 (dk_at dksX1_ofPerson_3 18 rfl rfl)
theorem dX1_ofPerson_86 : decode cX1_ofPerson 86 = .ok (.ireturn, 1) := dk_172 (dk_at dksX1_ofPerson_3 20 rfl rfl)
abbrev cX1_isPerson : ByteArray := prog_15_method_10_code
def yX1_isPerson : MethodName := ⟨RX1, "isPerson", "(I)Z"⟩
def dkwX1_isPerson_0 : List UInt8 := [27, 155, 0, 15, 27, 42, 180, 0, 68, 162, 0, 7, 4, 167, 0, 4, 3, 172]
abbrev dktX1_isPerson_0 : List UInt8 := dkwX1_isPerson_0 ++ []
theorem dksX1_isPerson_0 : cX1_isPerson.data.toList.drop 0 = dktX1_isPerson_0 := by decide +kernel
theorem dX1_isPerson_0 : decode cX1_isPerson 0 = .ok (.iload_n 1, 1) := dk_27 (dk_at dksX1_isPerson_0 0 rfl rfl)
theorem dX1_isPerson_1 : decode cX1_isPerson 1 = .ok (.ifCond .lt 15, 3) := dk_155 0 15 (dk_at dksX1_isPerson_0 1 rfl rfl)
theorem dX1_isPerson_4 : decode cX1_isPerson 4 = .ok (.iload_n 1, 1) := dk_27 (dk_at dksX1_isPerson_0 4 rfl rfl)
theorem dX1_isPerson_5 : decode cX1_isPerson 5 = .ok (.aload_n 0, 1) := dk_42 (dk_at dksX1_isPerson_0 5 rfl rfl)
theorem dX1_isPerson_6 : decode cX1_isPerson 6 = .ok (.getfield 68, 3) := dk_180 0 68 (dk_at dksX1_isPerson_0 6 rfl rfl)
theorem dX1_isPerson_9 : decode cX1_isPerson 9 = .ok (.if_icmp .ge 7, 3) := dk_162 0 7 (dk_at dksX1_isPerson_0 9 rfl rfl)
theorem dX1_isPerson_12 : decode cX1_isPerson 12 = .ok (.iconst 1, 1) := dk_4 (dk_at dksX1_isPerson_0 12 rfl rfl)
theorem dX1_isPerson_13 : decode cX1_isPerson 13 = .ok (.goto 4, 3) := dk_167 0 4 (dk_at dksX1_isPerson_0 13 rfl rfl)
theorem dX1_isPerson_16 : decode cX1_isPerson 16 = .ok (.iconst 0, 1) := dk_3 (dk_at dksX1_isPerson_0 16 rfl rfl)
theorem dX1_isPerson_17 : decode cX1_isPerson 17 = .ok (.ireturn, 1) := dk_172 (dk_at dksX1_isPerson_0 17 rfl rfl)
abbrev cX1_floorBy : ByteArray := prog_15_method_19_code
def yX1_floorBy : MethodName := ⟨RX1, "floorBy", "(II)I"⟩
def dkwX1_floorBy_1 : List UInt8 := [160, 0, 13, 42, 27, 21, 4, 182, 0, 118, 167, 0, 4, 3, 96, 62, 132, 4, 1, 167, 255, 220, 29, 172]
abbrev dktX1_floorBy_1 : List UInt8 := dkwX1_floorBy_1 ++ []
def dkwX1_floorBy_0 : List UInt8 := [3, 62, 3, 54, 4, 21, 4, 42, 180, 0, 65, 162, 0, 33, 29, 28, 21, 4, 122, 4, 126, 4]
abbrev dktX1_floorBy_0 : List UInt8 := dkwX1_floorBy_0 ++ dktX1_floorBy_1
theorem dksX1_floorBy_0 : cX1_floorBy.data.toList.drop 0 = dktX1_floorBy_0 := by decide +kernel
theorem dksX1_floorBy_1 : cX1_floorBy.data.toList.drop 22 = dktX1_floorBy_1 := dk_seg dksX1_floorBy_0 22 rfl rfl
theorem dX1_floorBy_0 : decode cX1_floorBy 0 = .ok (.iconst 0, 1) := dk_3 (dk_at dksX1_floorBy_0 0 rfl rfl)
theorem dX1_floorBy_1 : decode cX1_floorBy 1 = .ok (.istore_n 3, 1) := dk_62 (dk_at dksX1_floorBy_0 1 rfl rfl)
theorem dX1_floorBy_2 : decode cX1_floorBy 2 = .ok (.iconst 0, 1) := dk_3 (dk_at dksX1_floorBy_0 2 rfl rfl)
theorem dX1_floorBy_3 : decode cX1_floorBy 3 = .ok (.istore 4, 2) := dk_54 4 (dk_at dksX1_floorBy_0 3 rfl rfl)
theorem dX1_floorBy_5 : decode cX1_floorBy 5 = .ok (.iload 4, 2) := dk_21 4 (dk_at dksX1_floorBy_0 5 rfl rfl)
theorem dX1_floorBy_7 : decode cX1_floorBy 7 = .ok (.aload_n 0, 1) := dk_42 (dk_at dksX1_floorBy_0 7 rfl rfl)
theorem dX1_floorBy_8 : decode cX1_floorBy 8 = .ok (.getfield 65, 3) := dk_180 0 65 (dk_at dksX1_floorBy_0 8 rfl rfl)
theorem dX1_floorBy_11 : decode cX1_floorBy 11 = .ok (.if_icmp .ge 33, 3) := dk_162 0 33 (dk_at dksX1_floorBy_0 11 rfl rfl)
theorem dX1_floorBy_14 : decode cX1_floorBy 14 = .ok (.iload_n 3, 1) := dk_29 (dk_at dksX1_floorBy_0 14 rfl rfl)
theorem dX1_floorBy_15 : decode cX1_floorBy 15 = .ok (.iload_n 2, 1) := dk_28 (dk_at dksX1_floorBy_0 15 rfl rfl)
theorem dX1_floorBy_16 : decode cX1_floorBy 16 = .ok (.iload 4, 2) := dk_21 4 (dk_at dksX1_floorBy_0 16 rfl rfl)
theorem dX1_floorBy_18 : decode cX1_floorBy 18 = .ok (.ishr, 1) := dk_122 (dk_at dksX1_floorBy_0 18 rfl rfl)
theorem dX1_floorBy_19 : decode cX1_floorBy 19 = .ok (.iconst 1, 1) := dk_4 (dk_at dksX1_floorBy_0 19 rfl rfl)
theorem dX1_floorBy_20 : decode cX1_floorBy 20 = .ok (.iand, 1) := dk_126 (dk_at dksX1_floorBy_0 20 rfl rfl)
theorem dX1_floorBy_21 : decode cX1_floorBy 21 = .ok (.iconst 1, 1) := dk_4 (dk_at dksX1_floorBy_0 21 rfl rfl)
theorem dX1_floorBy_22 : decode cX1_floorBy 22 = .ok (.if_icmp .ne 13, 3) := dk_160 0 13 (dk_at dksX1_floorBy_1 0 rfl rfl)
theorem dX1_floorBy_25 : decode cX1_floorBy 25 = .ok (.aload_n 0, 1) := dk_42 (dk_at dksX1_floorBy_1 3 rfl rfl)
theorem dX1_floorBy_26 : decode cX1_floorBy 26 = .ok (.iload_n 1, 1) := dk_27 (dk_at dksX1_floorBy_1 4 rfl rfl)
theorem dX1_floorBy_27 : decode cX1_floorBy 27 = .ok (.iload 4, 2) := dk_21 4 (dk_at dksX1_floorBy_1 5 rfl rfl)
theorem dX1_floorBy_29 : decode cX1_floorBy 29 = .ok (.invokevirtual 118, 3) := dk_182 0 118 (dk_at dksX1_floorBy_1 7 rfl rfl)
theorem dX1_floorBy_32 : decode cX1_floorBy 32 = .ok (.goto 4, 3) := dk_167 0 4 (dk_at dksX1_floorBy_1 10 rfl rfl)
theorem dX1_floorBy_35 : decode cX1_floorBy 35 = .ok (.iconst 0, 1) := dk_3 (dk_at dksX1_floorBy_1 13 rfl rfl)
theorem dX1_floorBy_36 : decode cX1_floorBy 36 = .ok (.iadd, 1) := dk_96 (dk_at dksX1_floorBy_1 14 rfl rfl)
theorem dX1_floorBy_37 : decode cX1_floorBy 37 = .ok (.istore_n 3, 1) := dk_62 (dk_at dksX1_floorBy_1 15 rfl rfl)
theorem dX1_floorBy_38 : decode cX1_floorBy 38 = .ok (.iinc 4 1, 3) := dk_132 4 1 (dk_at dksX1_floorBy_1 16 rfl rfl)
theorem dX1_floorBy_41 : decode cX1_floorBy 41 = .ok (.goto (-36), 3) := dk_167 255 220 (dk_at dksX1_floorBy_1 19 rfl rfl)
theorem dX1_floorBy_44 : decode cX1_floorBy 44 = .ok (.iload_n 3, 1) := dk_29 (dk_at dksX1_floorBy_1 22 rfl rfl)
theorem dX1_floorBy_45 : decode cX1_floorBy 45 = .ok (.ireturn, 1) := dk_172 (dk_at dksX1_floorBy_1 23 rfl rfl)
abbrev cX1_storeysOf : ByteArray := prog_15_method_18_code
def yX1_storeysOf : MethodName := ⟨RX1, "storeysOf", "(II)I"⟩
def dkwX1_storeysOf_1 : List UInt8 := [4, 160, 0, 14, 42, 180, 0, 19, 28, 46, 4, 100, 167, 0, 11, 5, 42, 180, 0, 19, 28, 46, 104, 172]
abbrev dktX1_storeysOf_1 : List UInt8 := dkwX1_storeysOf_1 ++ []
def dkwX1_storeysOf_0 : List UInt8 := [42, 180, 0, 22, 27, 46, 154, 0, 12, 42, 180, 0, 19, 28, 46, 167, 0, 32, 42, 180, 0, 22, 27, 46]
abbrev dktX1_storeysOf_0 : List UInt8 := dkwX1_storeysOf_0 ++ dktX1_storeysOf_1
theorem dksX1_storeysOf_0 : cX1_storeysOf.data.toList.drop 0 = dktX1_storeysOf_0 := by decide +kernel
theorem dksX1_storeysOf_1 : cX1_storeysOf.data.toList.drop 24 = dktX1_storeysOf_1 := dk_seg dksX1_storeysOf_0 24 rfl rfl
theorem dX1_storeysOf_0 : decode cX1_storeysOf 0 = .ok (.aload_n 0, 1) := dk_42 (dk_at dksX1_storeysOf_0 0 rfl rfl)
theorem dX1_storeysOf_1 : decode cX1_storeysOf 1 = .ok (.getfield 22, 3) := dk_180 0 22 (dk_at dksX1_storeysOf_0 1 rfl rfl)
theorem dX1_storeysOf_4 : decode cX1_storeysOf 4 = .ok (.iload_n 1, 1) := dk_27 (dk_at dksX1_storeysOf_0 4 rfl rfl)
theorem dX1_storeysOf_5 : decode cX1_storeysOf 5 = .ok (.iaload, 1) := dk_46 (dk_at dksX1_storeysOf_0 5 rfl rfl)
theorem dX1_storeysOf_6 : decode cX1_storeysOf 6 = .ok (.ifCond .ne 12, 3) := dk_154 0 12 (dk_at dksX1_storeysOf_0 6 rfl rfl)
theorem dX1_storeysOf_9 : decode cX1_storeysOf 9 = .ok (.aload_n 0, 1) := dk_42 (dk_at dksX1_storeysOf_0 9 rfl rfl)
theorem dX1_storeysOf_10 : decode cX1_storeysOf 10 = .ok (.getfield 19, 3) := dk_180 0 19 (dk_at dksX1_storeysOf_0 10 rfl rfl)
theorem dX1_storeysOf_13 : decode cX1_storeysOf 13 = .ok (.iload_n 2, 1) := dk_28 (dk_at dksX1_storeysOf_0 13 rfl rfl)
theorem dX1_storeysOf_14 : decode cX1_storeysOf 14 = .ok (.iaload, 1) := dk_46 (dk_at dksX1_storeysOf_0 14 rfl rfl)
theorem dX1_storeysOf_15 : decode cX1_storeysOf 15 = .ok (.goto 32, 3) := dk_167 0 32 (dk_at dksX1_storeysOf_0 15 rfl rfl)
theorem dX1_storeysOf_18 : decode cX1_storeysOf 18 = .ok (.aload_n 0, 1) := dk_42 (dk_at dksX1_storeysOf_0 18 rfl rfl)
theorem dX1_storeysOf_19 : decode cX1_storeysOf 19 = .ok (.getfield 22, 3) := dk_180 0 22 (dk_at dksX1_storeysOf_0 19 rfl rfl)
theorem dX1_storeysOf_22 : decode cX1_storeysOf 22 = .ok (.iload_n 1, 1) := dk_27 (dk_at dksX1_storeysOf_0 22 rfl rfl)
theorem dX1_storeysOf_23 : decode cX1_storeysOf 23 = .ok (.iaload, 1) := dk_46 (dk_at dksX1_storeysOf_0 23 rfl rfl)
theorem dX1_storeysOf_24 : decode cX1_storeysOf 24 = .ok (.iconst 1, 1) := dk_4 (dk_at dksX1_storeysOf_1 0 rfl rfl)
theorem dX1_storeysOf_25 : decode cX1_storeysOf 25 = .ok (.if_icmp .ne 14, 3) := dk_160 0 14 (dk_at dksX1_storeysOf_1 1 rfl rfl)
theorem dX1_storeysOf_28 : decode cX1_storeysOf 28 = .ok (.aload_n 0, 1) := dk_42 (dk_at dksX1_storeysOf_1 4 rfl rfl)
theorem dX1_storeysOf_29 : decode cX1_storeysOf 29 = .ok (.getfield 19, 3) := dk_180 0 19 (dk_at dksX1_storeysOf_1 5 rfl rfl)
theorem dX1_storeysOf_32 : decode cX1_storeysOf 32 = .ok (.iload_n 2, 1) := dk_28 (dk_at dksX1_storeysOf_1 8 rfl rfl)
theorem dX1_storeysOf_33 : decode cX1_storeysOf 33 = .ok (.iaload, 1) := dk_46 (dk_at dksX1_storeysOf_1 9 rfl rfl)
theorem dX1_storeysOf_34 : decode cX1_storeysOf 34 = .ok (.iconst 1, 1) := dk_4 (dk_at dksX1_storeysOf_1 10 rfl rfl)
theorem dX1_storeysOf_35 : decode cX1_storeysOf 35 = .ok (.isub, 1) := dk_100 (dk_at dksX1_storeysOf_1 11 rfl rfl)
theorem dX1_storeysOf_36 : decode cX1_storeysOf 36 = .ok (.goto 11, 3) := dk_167 0 11 (dk_at dksX1_storeysOf_1 12 rfl rfl)
theorem dX1_storeysOf_39 : decode cX1_storeysOf 39 = .ok (.iconst 2, 1) := dk_5 (dk_at dksX1_storeysOf_1 15 rfl rfl)
theorem dX1_storeysOf_40 : decode cX1_storeysOf 40 = .ok (.aload_n 0, 1) := dk_42 (dk_at dksX1_storeysOf_1 16 rfl rfl)
theorem dX1_storeysOf_41 : decode cX1_storeysOf 41 = .ok (.getfield 19, 3) := dk_180 0 19 (dk_at dksX1_storeysOf_1 17 rfl rfl)
theorem dX1_storeysOf_44 : decode cX1_storeysOf 44 = .ok (.iload_n 2, 1) := dk_28 (dk_at dksX1_storeysOf_1 20 rfl rfl)
theorem dX1_storeysOf_45 : decode cX1_storeysOf 45 = .ok (.iaload, 1) := dk_46 (dk_at dksX1_storeysOf_1 21 rfl rfl)
theorem dX1_storeysOf_46 : decode cX1_storeysOf 46 = .ok (.imul, 1) := dk_104 (dk_at dksX1_storeysOf_1 22 rfl rfl)
theorem dX1_storeysOf_47 : decode cX1_storeysOf 47 = .ok (.ireturn, 1) := dk_172 (dk_at dksX1_storeysOf_1 23 rfl rfl)
abbrev cX1_weight : ByteArray := prog_15_method_21_code
def yX1_weight : MethodName := ⟨RX1, "weight", "(I)I"⟩
def dkwX1_weight_0 : List UInt8 := [42, 27, 182, 0, 128, 153, 0, 12, 42, 180, 0, 19, 27, 46, 167, 0, 4, 2, 172]
abbrev dktX1_weight_0 : List UInt8 := dkwX1_weight_0 ++ []
theorem dksX1_weight_0 : cX1_weight.data.toList.drop 0 = dktX1_weight_0 := by decide +kernel
theorem dX1_weight_0 : decode cX1_weight 0 = .ok (.aload_n 0, 1) := dk_42 (dk_at dksX1_weight_0 0 rfl rfl)
theorem dX1_weight_1 : decode cX1_weight 1 = .ok (.iload_n 1, 1) := dk_27 (dk_at dksX1_weight_0 1 rfl rfl)
theorem dX1_weight_2 : decode cX1_weight 2 = .ok (.invokevirtual 128, 3) := dk_182 0 128 (dk_at dksX1_weight_0 2 rfl rfl)
theorem dX1_weight_5 : decode cX1_weight 5 = .ok (.ifCond .eq 12, 3) := dk_153 0 12 (dk_at dksX1_weight_0 5 rfl rfl)
theorem dX1_weight_8 : decode cX1_weight 8 = .ok (.aload_n 0, 1) := dk_42 (dk_at dksX1_weight_0 8 rfl rfl)
theorem dX1_weight_9 : decode cX1_weight 9 = .ok (.getfield 19, 3) := dk_180 0 19 (dk_at dksX1_weight_0 9 rfl rfl)
theorem dX1_weight_12 : decode cX1_weight 12 = .ok (.iload_n 1, 1) := dk_27 (dk_at dksX1_weight_0 12 rfl rfl)
theorem dX1_weight_13 : decode cX1_weight 13 = .ok (.iaload, 1) := dk_46 (dk_at dksX1_weight_0 13 rfl rfl)
theorem dX1_weight_14 : decode cX1_weight 14 = .ok (.goto 4, 3) := dk_167 0 4 (dk_at dksX1_weight_0 14 rfl rfl)
theorem dX1_weight_17 : decode cX1_weight 17 = .ok (.iconst (-1), 1) := dk_2 (dk_at dksX1_weight_0 17 rfl rfl)
theorem dX1_weight_18 : decode cX1_weight 18 = .ok (.ireturn, 1) := dk_172 (dk_at dksX1_weight_0 18 rfl rfl)
abbrev cX1_isDeed : ByteArray := prog_15_method_9_code
def yX1_isDeed : MethodName := ⟨RX1, "isDeed", "(I)Z"⟩
def dkwX1_isDeed_0 : List UInt8 := [27, 155, 0, 15, 27, 42, 180, 0, 65, 162, 0, 7, 4, 167, 0, 4, 3, 172]
abbrev dktX1_isDeed_0 : List UInt8 := dkwX1_isDeed_0 ++ []
theorem dksX1_isDeed_0 : cX1_isDeed.data.toList.drop 0 = dktX1_isDeed_0 := by decide +kernel
theorem dX1_isDeed_0 : decode cX1_isDeed 0 = .ok (.iload_n 1, 1) := dk_27 (dk_at dksX1_isDeed_0 0 rfl rfl)
theorem dX1_isDeed_1 : decode cX1_isDeed 1 = .ok (.ifCond .lt 15, 3) := dk_155 0 15 (dk_at dksX1_isDeed_0 1 rfl rfl)
theorem dX1_isDeed_4 : decode cX1_isDeed 4 = .ok (.iload_n 1, 1) := dk_27 (dk_at dksX1_isDeed_0 4 rfl rfl)
theorem dX1_isDeed_5 : decode cX1_isDeed 5 = .ok (.aload_n 0, 1) := dk_42 (dk_at dksX1_isDeed_0 5 rfl rfl)
theorem dX1_isDeed_6 : decode cX1_isDeed 6 = .ok (.getfield 65, 3) := dk_180 0 65 (dk_at dksX1_isDeed_0 6 rfl rfl)
theorem dX1_isDeed_9 : decode cX1_isDeed 9 = .ok (.if_icmp .ge 7, 3) := dk_162 0 7 (dk_at dksX1_isDeed_0 9 rfl rfl)
theorem dX1_isDeed_12 : decode cX1_isDeed 12 = .ok (.iconst 1, 1) := dk_4 (dk_at dksX1_isDeed_0 12 rfl rfl)
theorem dX1_isDeed_13 : decode cX1_isDeed 13 = .ok (.goto 4, 3) := dk_167 0 4 (dk_at dksX1_isDeed_0 13 rfl rfl)
theorem dX1_isDeed_16 : decode cX1_isDeed 16 = .ok (.iconst 0, 1) := dk_3 (dk_at dksX1_isDeed_0 16 rfl rfl)
theorem dX1_isDeed_17 : decode cX1_isDeed 17 = .ok (.ireturn, 1) := dk_172 (dk_at dksX1_isDeed_0 17 rfl rfl)
abbrev cX1_weigh : ByteArray := prog_15_method_22_code
def yX1_weigh : MethodName := ⟨RX1, "weigh", "(II)I"⟩
def dkwX1_weigh_1 : List UInt8 := [180, 0, 19, 27, 46, 62, 42, 180, 0, 19, 27, 28, 79, 29, 172]
abbrev dktX1_weigh_1 : List UInt8 := dkwX1_weigh_1 ++ []
def dkwX1_weigh_0 : List UInt8 := [42, 27, 182, 0, 128, 154, 0, 5, 2, 172, 28, 4, 16, 9, 184, 0, 61, 154, 0, 6, 16, 254, 172, 42]
abbrev dktX1_weigh_0 : List UInt8 := dkwX1_weigh_0 ++ dktX1_weigh_1
theorem dksX1_weigh_0 : cX1_weigh.data.toList.drop 0 = dktX1_weigh_0 := by decide +kernel
theorem dksX1_weigh_1 : cX1_weigh.data.toList.drop 24 = dktX1_weigh_1 := dk_seg dksX1_weigh_0 24 rfl rfl
theorem dX1_weigh_0 : decode cX1_weigh 0 = .ok (.aload_n 0, 1) := dk_42 (dk_at dksX1_weigh_0 0 rfl rfl)
theorem dX1_weigh_1 : decode cX1_weigh 1 = .ok (.iload_n 1, 1) := dk_27 (dk_at dksX1_weigh_0 1 rfl rfl)
theorem dX1_weigh_2 : decode cX1_weigh 2 = .ok (.invokevirtual 128, 3) := dk_182 0 128 (dk_at dksX1_weigh_0 2 rfl rfl)
theorem dX1_weigh_5 : decode cX1_weigh 5 = .ok (.ifCond .ne 5, 3) := dk_154 0 5 (dk_at dksX1_weigh_0 5 rfl rfl)
theorem dX1_weigh_8 : decode cX1_weigh 8 = .ok (.iconst (-1), 1) := dk_2 (dk_at dksX1_weigh_0 8 rfl rfl)
theorem dX1_weigh_9 : decode cX1_weigh 9 = .ok (.ireturn, 1) := dk_172 (dk_at dksX1_weigh_0 9 rfl rfl)
theorem dX1_weigh_10 : decode cX1_weigh 10 = .ok (.iload_n 2, 1) := dk_28 (dk_at dksX1_weigh_0 10 rfl rfl)
theorem dX1_weigh_11 : decode cX1_weigh 11 = .ok (.iconst 1, 1) := dk_4 (dk_at dksX1_weigh_0 11 rfl rfl)
theorem dX1_weigh_12 : decode cX1_weigh 12 = .ok (.bipush 9, 2) := dk_16 9 (dk_at dksX1_weigh_0 12 rfl rfl)
theorem dX1_weigh_14 : decode cX1_weigh 14 = .ok (.invokestatic 61, 3) := dk_184 0 61 (dk_at dksX1_weigh_0 14 rfl rfl)
theorem dX1_weigh_17 : decode cX1_weigh 17 = .ok (.ifCond .ne 6, 3) := dk_154 0 6 (dk_at dksX1_weigh_0 17 rfl rfl)
theorem dX1_weigh_20 : decode cX1_weigh 20 = .ok (.bipush (-2), 2) := dk_16 254 (dk_at dksX1_weigh_0 20 rfl rfl)
theorem dX1_weigh_22 : decode cX1_weigh 22 = .ok (.ireturn, 1) := dk_172 (dk_at dksX1_weigh_0 22 rfl rfl)
theorem dX1_weigh_23 : decode cX1_weigh 23 = .ok (.aload_n 0, 1) := dk_42 (dk_at dksX1_weigh_0 23 rfl rfl)
theorem dX1_weigh_24 : decode cX1_weigh 24 = .ok (.getfield 19, 3) := dk_180 0 19 (dk_at dksX1_weigh_1 0 rfl rfl)
theorem dX1_weigh_27 : decode cX1_weigh 27 = .ok (.iload_n 1, 1) := dk_27 (dk_at dksX1_weigh_1 3 rfl rfl)
theorem dX1_weigh_28 : decode cX1_weigh 28 = .ok (.iaload, 1) := dk_46 (dk_at dksX1_weigh_1 4 rfl rfl)
theorem dX1_weigh_29 : decode cX1_weigh 29 = .ok (.istore_n 3, 1) := dk_62 (dk_at dksX1_weigh_1 5 rfl rfl)
theorem dX1_weigh_30 : decode cX1_weigh 30 = .ok (.aload_n 0, 1) := dk_42 (dk_at dksX1_weigh_1 6 rfl rfl)
theorem dX1_weigh_31 : decode cX1_weigh 31 = .ok (.getfield 19, 3) := dk_180 0 19 (dk_at dksX1_weigh_1 7 rfl rfl)
theorem dX1_weigh_34 : decode cX1_weigh 34 = .ok (.iload_n 1, 1) := dk_27 (dk_at dksX1_weigh_1 10 rfl rfl)
theorem dX1_weigh_35 : decode cX1_weigh 35 = .ok (.iload_n 2, 1) := dk_28 (dk_at dksX1_weigh_1 11 rfl rfl)
theorem dX1_weigh_36 : decode cX1_weigh 36 = .ok (.iastore, 1) := dk_79 (dk_at dksX1_weigh_1 12 rfl rfl)
theorem dX1_weigh_37 : decode cX1_weigh 37 = .ok (.iload_n 3, 1) := dk_29 (dk_at dksX1_weigh_1 13 rfl rfl)
theorem dX1_weigh_38 : decode cX1_weigh 38 = .ok (.ireturn, 1) := dk_172 (dk_at dksX1_weigh_1 14 rfl rfl)
abbrev cX1_storeys : ByteArray := prog_15_method_23_code
def yX1_storeys : MethodName := ⟨RX1, "storeys", "(II)I"⟩
def dkwX1_storeys_1 : List UInt8 := [167, 0, 4, 2, 172]
abbrev dktX1_storeys_1 : List UInt8 := dkwX1_storeys_1 ++ []
def dkwX1_storeys_0 : List UInt8 := [42, 27, 182, 0, 122, 153, 0, 20, 42, 28, 182, 0, 128, 153, 0, 12, 42, 27, 28, 182, 0, 118]
abbrev dktX1_storeys_0 : List UInt8 := dkwX1_storeys_0 ++ dktX1_storeys_1
theorem dksX1_storeys_0 : cX1_storeys.data.toList.drop 0 = dktX1_storeys_0 := by decide +kernel
theorem dksX1_storeys_1 : cX1_storeys.data.toList.drop 22 = dktX1_storeys_1 := dk_seg dksX1_storeys_0 22 rfl rfl
theorem dX1_storeys_0 : decode cX1_storeys 0 = .ok (.aload_n 0, 1) := dk_42 (dk_at dksX1_storeys_0 0 rfl rfl)
theorem dX1_storeys_1 : decode cX1_storeys 1 = .ok (.iload_n 1, 1) := dk_27 (dk_at dksX1_storeys_0 1 rfl rfl)
theorem dX1_storeys_2 : decode cX1_storeys 2 = .ok (.invokevirtual 122, 3) := dk_182 0 122 (dk_at dksX1_storeys_0 2 rfl rfl)
theorem dX1_storeys_5 : decode cX1_storeys 5 = .ok (.ifCond .eq 20, 3) := dk_153 0 20 (dk_at dksX1_storeys_0 5 rfl rfl)
theorem dX1_storeys_8 : decode cX1_storeys 8 = .ok (.aload_n 0, 1) := dk_42 (dk_at dksX1_storeys_0 8 rfl rfl)
theorem dX1_storeys_9 : decode cX1_storeys 9 = .ok (.iload_n 2, 1) := dk_28 (dk_at dksX1_storeys_0 9 rfl rfl)
theorem dX1_storeys_10 : decode cX1_storeys 10 = .ok (.invokevirtual 128, 3) := dk_182 0 128 (dk_at dksX1_storeys_0 10 rfl rfl)
theorem dX1_storeys_13 : decode cX1_storeys 13 = .ok (.ifCond .eq 12, 3) := dk_153 0 12 (dk_at dksX1_storeys_0 13 rfl rfl)
theorem dX1_storeys_16 : decode cX1_storeys 16 = .ok (.aload_n 0, 1) := dk_42 (dk_at dksX1_storeys_0 16 rfl rfl)
theorem dX1_storeys_17 : decode cX1_storeys 17 = .ok (.iload_n 1, 1) := dk_27 (dk_at dksX1_storeys_0 17 rfl rfl)
theorem dX1_storeys_18 : decode cX1_storeys 18 = .ok (.iload_n 2, 1) := dk_28 (dk_at dksX1_storeys_0 18 rfl rfl)
theorem dX1_storeys_19 : decode cX1_storeys 19 = .ok (.invokevirtual 118, 3) := dk_182 0 118 (dk_at dksX1_storeys_0 19 rfl rfl)
theorem dX1_storeys_22 : decode cX1_storeys 22 = .ok (.goto 4, 3) := dk_167 0 4 (dk_at dksX1_storeys_1 0 rfl rfl)
theorem dX1_storeys_25 : decode cX1_storeys 25 = .ok (.iconst (-1), 1) := dk_2 (dk_at dksX1_storeys_1 3 rfl rfl)
theorem dX1_storeys_26 : decode cX1_storeys 26 = .ok (.ireturn, 1) := dk_172 (dk_at dksX1_storeys_1 4 rfl rfl)
abbrev cX1_say : ByteArray := prog_15_method_27_code
def yX1_say : MethodName := ⟨RX1, "say", "(II)I"⟩
def dkwX1_say_2 : List UInt8 := [180, 0, 31, 27, 42, 180, 0, 40, 27, 46, 79, 42, 27, 42, 180, 0, 31, 27, 46, 182, 0, 125, 172]
abbrev dktX1_say_2 : List UInt8 := dkwX1_say_2 ++ []
def dkwX1_say_1 : List UInt8 := [28, 122, 4, 126, 4, 160, 0, 6, 16, 253, 172, 42, 182, 0, 134, 42, 27, 28, 182, 0, 137, 87, 42]
abbrev dktX1_say_1 : List UInt8 := dkwX1_say_1 ++ dktX1_say_2
def dkwX1_say_0 : List UInt8 := [42, 27, 182, 0, 122, 153, 0, 11, 42, 28, 182, 0, 128, 154, 0, 5, 2, 172, 42, 180, 0, 31, 27, 46]
abbrev dktX1_say_0 : List UInt8 := dkwX1_say_0 ++ dktX1_say_1
theorem dksX1_say_0 : cX1_say.data.toList.drop 0 = dktX1_say_0 := by decide +kernel
theorem dksX1_say_1 : cX1_say.data.toList.drop 24 = dktX1_say_1 := dk_seg dksX1_say_0 24 rfl rfl
theorem dksX1_say_2 : cX1_say.data.toList.drop 47 = dktX1_say_2 := dk_seg dksX1_say_1 23 rfl rfl
theorem dX1_say_0 : decode cX1_say 0 = .ok (.aload_n 0, 1) := dk_42 (dk_at dksX1_say_0 0 rfl rfl)
theorem dX1_say_1 : decode cX1_say 1 = .ok (.iload_n 1, 1) := dk_27 (dk_at dksX1_say_0 1 rfl rfl)
theorem dX1_say_2 : decode cX1_say 2 = .ok (.invokevirtual 122, 3) := dk_182 0 122 (dk_at dksX1_say_0 2 rfl rfl)
theorem dX1_say_5 : decode cX1_say 5 = .ok (.ifCond .eq 11, 3) := dk_153 0 11 (dk_at dksX1_say_0 5 rfl rfl)
theorem dX1_say_8 : decode cX1_say 8 = .ok (.aload_n 0, 1) := dk_42 (dk_at dksX1_say_0 8 rfl rfl)
theorem dX1_say_9 : decode cX1_say 9 = .ok (.iload_n 2, 1) := dk_28 (dk_at dksX1_say_0 9 rfl rfl)
theorem dX1_say_10 : decode cX1_say 10 = .ok (.invokevirtual 128, 3) := dk_182 0 128 (dk_at dksX1_say_0 10 rfl rfl)
theorem dX1_say_13 : decode cX1_say 13 = .ok (.ifCond .ne 5, 3) := dk_154 0 5 (dk_at dksX1_say_0 13 rfl rfl)
theorem dX1_say_16 : decode cX1_say 16 = .ok (.iconst (-1), 1) := dk_2 (dk_at dksX1_say_0 16 rfl rfl)
theorem dX1_say_17 : decode cX1_say 17 = .ok (.ireturn, 1) := dk_172 (dk_at dksX1_say_0 17 rfl rfl)
theorem dX1_say_18 : decode cX1_say 18 = .ok (.aload_n 0, 1) := dk_42 (dk_at dksX1_say_0 18 rfl rfl)
theorem dX1_say_19 : decode cX1_say 19 = .ok (.getfield 31, 3) := dk_180 0 31 (dk_at dksX1_say_0 19 rfl rfl)
theorem dX1_say_22 : decode cX1_say 22 = .ok (.iload_n 1, 1) := dk_27 (dk_at dksX1_say_0 22 rfl rfl)
theorem dX1_say_23 : decode cX1_say 23 = .ok (.iaload, 1) := dk_46 (dk_at dksX1_say_0 23 rfl rfl)
theorem dX1_say_24 : decode cX1_say 24 = .ok (.iload_n 2, 1) := dk_28 (dk_at dksX1_say_1 0 rfl rfl)
theorem dX1_say_25 : decode cX1_say 25 = .ok (.ishr, 1) := dk_122 (dk_at dksX1_say_1 1 rfl rfl)
theorem dX1_say_26 : decode cX1_say 26 = .ok (.iconst 1, 1) := dk_4 (dk_at dksX1_say_1 2 rfl rfl)
theorem dX1_say_27 : decode cX1_say 27 = .ok (.iand, 1) := dk_126 (dk_at dksX1_say_1 3 rfl rfl)
theorem dX1_say_28 : decode cX1_say 28 = .ok (.iconst 1, 1) := dk_4 (dk_at dksX1_say_1 4 rfl rfl)
theorem dX1_say_29 : decode cX1_say 29 = .ok (.if_icmp .ne 6, 3) := dk_160 0 6 (dk_at dksX1_say_1 5 rfl rfl)
theorem dX1_say_32 : decode cX1_say 32 = .ok (.bipush (-3), 2) := dk_16 253 (dk_at dksX1_say_1 8 rfl rfl)
theorem dX1_say_34 : decode cX1_say 34 = .ok (.ireturn, 1) := dk_172 (dk_at dksX1_say_1 10 rfl rfl)
theorem dX1_say_35 : decode cX1_say 35 = .ok (.aload_n 0, 1) := dk_42 (dk_at dksX1_say_1 11 rfl rfl)
theorem dX1_say_36 : decode cX1_say 36 = .ok (.invokevirtual 134, 3) := dk_182 0 134 (dk_at dksX1_say_1 12 rfl rfl)
theorem dX1_say_39 : decode cX1_say 39 = .ok (.aload_n 0, 1) := dk_42 (dk_at dksX1_say_1 15 rfl rfl)
theorem dX1_say_40 : decode cX1_say 40 = .ok (.iload_n 1, 1) := dk_27 (dk_at dksX1_say_1 16 rfl rfl)
theorem dX1_say_41 : decode cX1_say 41 = .ok (.iload_n 2, 1) := dk_28 (dk_at dksX1_say_1 17 rfl rfl)
theorem dX1_say_42 : decode cX1_say 42 = .ok (.invokevirtual 137, 3) := dk_182 0 137 (dk_at dksX1_say_1 18 rfl rfl)
theorem dX1_say_45 : decode cX1_say 45 = .ok (.pop, 1) := dk_87 (dk_at dksX1_say_1 21 rfl rfl)
theorem dX1_say_46 : decode cX1_say 46 = .ok (.aload_n 0, 1) := dk_42 (dk_at dksX1_say_1 22 rfl rfl)
theorem dX1_say_47 : decode cX1_say 47 = .ok (.getfield 31, 3) := dk_180 0 31 (dk_at dksX1_say_2 0 rfl rfl)
theorem dX1_say_50 : decode cX1_say 50 = .ok (.iload_n 1, 1) := dk_27 (dk_at dksX1_say_2 3 rfl rfl)
theorem dX1_say_51 : decode cX1_say 51 = .ok (.aload_n 0, 1) := dk_42 (dk_at dksX1_say_2 4 rfl rfl)
theorem dX1_say_52 : decode cX1_say 52 = .ok (.getfield 40, 3) := dk_180 0 40 (dk_at dksX1_say_2 5 rfl rfl)
theorem dX1_say_55 : decode cX1_say 55 = .ok (.iload_n 1, 1) := dk_27 (dk_at dksX1_say_2 8 rfl rfl)
theorem dX1_say_56 : decode cX1_say 56 = .ok (.iaload, 1) := dk_46 (dk_at dksX1_say_2 9 rfl rfl)
theorem dX1_say_57 : decode cX1_say 57 = .ok (.iastore, 1) := dk_79 (dk_at dksX1_say_2 10 rfl rfl)
theorem dX1_say_58 : decode cX1_say 58 = .ok (.aload_n 0, 1) := dk_42 (dk_at dksX1_say_2 11 rfl rfl)
theorem dX1_say_59 : decode cX1_say 59 = .ok (.iload_n 1, 1) := dk_27 (dk_at dksX1_say_2 12 rfl rfl)
theorem dX1_say_60 : decode cX1_say 60 = .ok (.aload_n 0, 1) := dk_42 (dk_at dksX1_say_2 13 rfl rfl)
theorem dX1_say_61 : decode cX1_say 61 = .ok (.getfield 31, 3) := dk_180 0 31 (dk_at dksX1_say_2 14 rfl rfl)
theorem dX1_say_64 : decode cX1_say 64 = .ok (.iload_n 1, 1) := dk_27 (dk_at dksX1_say_2 17 rfl rfl)
theorem dX1_say_65 : decode cX1_say 65 = .ok (.iaload, 1) := dk_46 (dk_at dksX1_say_2 18 rfl rfl)
theorem dX1_say_66 : decode cX1_say 66 = .ok (.invokevirtual 125, 3) := dk_182 0 125 (dk_at dksX1_say_2 19 rfl rfl)
theorem dX1_say_69 : decode cX1_say 69 = .ok (.ireturn, 1) := dk_172 (dk_at dksX1_say_2 22 rfl rfl)
abbrev cX1_asNow : ByteArray := prog_15_method_24_code
def yX1_asNow : MethodName := ⟨RX1, "asNow", "()V"⟩
def dkwX1_asNow_1 : List UInt8 := [132, 1, 1, 167, 255, 233, 177]
abbrev dktX1_asNow_1 : List UInt8 := dkwX1_asNow_1 ++ []
def dkwX1_asNow_0 : List UInt8 := [3, 60, 27, 42, 180, 0, 68, 162, 0, 21, 42, 180, 0, 40, 27, 42, 180, 0, 31, 27, 46, 79]
abbrev dktX1_asNow_0 : List UInt8 := dkwX1_asNow_0 ++ dktX1_asNow_1
theorem dksX1_asNow_0 : cX1_asNow.data.toList.drop 0 = dktX1_asNow_0 := by decide +kernel
theorem dksX1_asNow_1 : cX1_asNow.data.toList.drop 22 = dktX1_asNow_1 := dk_seg dksX1_asNow_0 22 rfl rfl
theorem dX1_asNow_0 : decode cX1_asNow 0 = .ok (.iconst 0, 1) := dk_3 (dk_at dksX1_asNow_0 0 rfl rfl)
theorem dX1_asNow_1 : decode cX1_asNow 1 = .ok (.istore_n 1, 1) := dk_60 (dk_at dksX1_asNow_0 1 rfl rfl)
theorem dX1_asNow_2 : decode cX1_asNow 2 = .ok (.iload_n 1, 1) := dk_27 (dk_at dksX1_asNow_0 2 rfl rfl)
theorem dX1_asNow_3 : decode cX1_asNow 3 = .ok (.aload_n 0, 1) := dk_42 (dk_at dksX1_asNow_0 3 rfl rfl)
theorem dX1_asNow_4 : decode cX1_asNow 4 = .ok (.getfield 68, 3) := dk_180 0 68 (dk_at dksX1_asNow_0 4 rfl rfl)
theorem dX1_asNow_7 : decode cX1_asNow 7 = .ok (.if_icmp .ge 21, 3) := dk_162 0 21 (dk_at dksX1_asNow_0 7 rfl rfl)
theorem dX1_asNow_10 : decode cX1_asNow 10 = .ok (.aload_n 0, 1) := dk_42 (dk_at dksX1_asNow_0 10 rfl rfl)
theorem dX1_asNow_11 : decode cX1_asNow 11 = .ok (.getfield 40, 3) := dk_180 0 40 (dk_at dksX1_asNow_0 11 rfl rfl)
theorem dX1_asNow_14 : decode cX1_asNow 14 = .ok (.iload_n 1, 1) := dk_27 (dk_at dksX1_asNow_0 14 rfl rfl)
theorem dX1_asNow_15 : decode cX1_asNow 15 = .ok (.aload_n 0, 1) := dk_42 (dk_at dksX1_asNow_0 15 rfl rfl)
theorem dX1_asNow_16 : decode cX1_asNow 16 = .ok (.getfield 31, 3) := dk_180 0 31 (dk_at dksX1_asNow_0 16 rfl rfl)
theorem dX1_asNow_19 : decode cX1_asNow 19 = .ok (.iload_n 1, 1) := dk_27 (dk_at dksX1_asNow_0 19 rfl rfl)
theorem dX1_asNow_20 : decode cX1_asNow 20 = .ok (.iaload, 1) := dk_46 (dk_at dksX1_asNow_0 20 rfl rfl)
theorem dX1_asNow_21 : decode cX1_asNow 21 = .ok (.iastore, 1) := dk_79 (dk_at dksX1_asNow_0 21 rfl rfl)
theorem dX1_asNow_22 : decode cX1_asNow 22 = .ok (.iinc 1 1, 3) := dk_132 1 1 (dk_at dksX1_asNow_1 0 rfl rfl)
theorem dX1_asNow_25 : decode cX1_asNow 25 = .ok (.goto (-23), 3) := dk_167 255 233 (dk_at dksX1_asNow_1 3 rfl rfl)
theorem dX1_asNow_28 : decode cX1_asNow 28 = .ok (.return_, 1) := dk_177 (dk_at dksX1_asNow_1 6 rfl rfl)
abbrev cX1_tells : ByteArray := prog_15_method_26_code
def yX1_tells : MethodName := ⟨RX1, "tells", "(II)Z"⟩
def dkwX1_tells_1 : List UInt8 := [180, 0, 40, 27, 3, 79, 4, 172, 42, 180, 0, 40, 27, 92, 46, 4, 28, 120, 128, 79, 3, 172]
abbrev dktX1_tells_1 : List UInt8 := dkwX1_tells_1 ++ []
def dkwX1_tells_0 : List UInt8 := [42, 180, 0, 25, 27, 46, 28, 122, 4, 126, 154, 0, 20, 42, 27, 182, 0, 131, 153, 0, 12, 42]
abbrev dktX1_tells_0 : List UInt8 := dkwX1_tells_0 ++ dktX1_tells_1
theorem dksX1_tells_0 : cX1_tells.data.toList.drop 0 = dktX1_tells_0 := by decide +kernel
theorem dksX1_tells_1 : cX1_tells.data.toList.drop 22 = dktX1_tells_1 := dk_seg dksX1_tells_0 22 rfl rfl
theorem dX1_tells_0 : decode cX1_tells 0 = .ok (.aload_n 0, 1) := dk_42 (dk_at dksX1_tells_0 0 rfl rfl)
theorem dX1_tells_1 : decode cX1_tells 1 = .ok (.getfield 25, 3) := dk_180 0 25 (dk_at dksX1_tells_0 1 rfl rfl)
theorem dX1_tells_4 : decode cX1_tells 4 = .ok (.iload_n 1, 1) := dk_27 (dk_at dksX1_tells_0 4 rfl rfl)
theorem dX1_tells_5 : decode cX1_tells 5 = .ok (.iaload, 1) := dk_46 (dk_at dksX1_tells_0 5 rfl rfl)
theorem dX1_tells_6 : decode cX1_tells 6 = .ok (.iload_n 2, 1) := dk_28 (dk_at dksX1_tells_0 6 rfl rfl)
theorem dX1_tells_7 : decode cX1_tells 7 = .ok (.ishr, 1) := dk_122 (dk_at dksX1_tells_0 7 rfl rfl)
theorem dX1_tells_8 : decode cX1_tells 8 = .ok (.iconst 1, 1) := dk_4 (dk_at dksX1_tells_0 8 rfl rfl)
theorem dX1_tells_9 : decode cX1_tells 9 = .ok (.iand, 1) := dk_126 (dk_at dksX1_tells_0 9 rfl rfl)
theorem dX1_tells_10 : decode cX1_tells 10 = .ok (.ifCond .ne 20, 3) := dk_154 0 20 (dk_at dksX1_tells_0 10 rfl rfl)
theorem dX1_tells_13 : decode cX1_tells 13 = .ok (.aload_n 0, 1) := dk_42 (dk_at dksX1_tells_0 13 rfl rfl)
theorem dX1_tells_14 : decode cX1_tells 14 = .ok (.iload_n 1, 1) := dk_27 (dk_at dksX1_tells_0 14 rfl rfl)
theorem dX1_tells_15 : decode cX1_tells 15 = .ok (.invokevirtual 131, 3) := dk_182 0 131 (dk_at dksX1_tells_0 15 rfl rfl)
theorem dX1_tells_18 : decode cX1_tells 18 = .ok (.ifCond .eq 12, 3) := dk_153 0 12 (dk_at dksX1_tells_0 18 rfl rfl)
theorem dX1_tells_21 : decode cX1_tells 21 = .ok (.aload_n 0, 1) := dk_42 (dk_at dksX1_tells_0 21 rfl rfl)
theorem dX1_tells_22 : decode cX1_tells 22 = .ok (.getfield 40, 3) := dk_180 0 40 (dk_at dksX1_tells_1 0 rfl rfl)
theorem dX1_tells_25 : decode cX1_tells 25 = .ok (.iload_n 1, 1) := dk_27 (dk_at dksX1_tells_1 3 rfl rfl)
theorem dX1_tells_26 : decode cX1_tells 26 = .ok (.iconst 0, 1) := dk_3 (dk_at dksX1_tells_1 4 rfl rfl)
theorem dX1_tells_27 : decode cX1_tells 27 = .ok (.iastore, 1) := dk_79 (dk_at dksX1_tells_1 5 rfl rfl)
theorem dX1_tells_28 : decode cX1_tells 28 = .ok (.iconst 1, 1) := dk_4 (dk_at dksX1_tells_1 6 rfl rfl)
theorem dX1_tells_29 : decode cX1_tells 29 = .ok (.ireturn, 1) := dk_172 (dk_at dksX1_tells_1 7 rfl rfl)
theorem dX1_tells_30 : decode cX1_tells 30 = .ok (.aload_n 0, 1) := dk_42 (dk_at dksX1_tells_1 8 rfl rfl)
theorem dX1_tells_31 : decode cX1_tells 31 = .ok (.getfield 40, 3) := dk_180 0 40 (dk_at dksX1_tells_1 9 rfl rfl)
theorem dX1_tells_34 : decode cX1_tells 34 = .ok (.iload_n 1, 1) := dk_27 (dk_at dksX1_tells_1 12 rfl rfl)
theorem dX1_tells_35 : decode cX1_tells 35 = .ok (.dup2, 1) := dk_92 (dk_at dksX1_tells_1 13 rfl rfl)
theorem dX1_tells_36 : decode cX1_tells 36 = .ok (.iaload, 1) := dk_46 (dk_at dksX1_tells_1 14 rfl rfl)
theorem dX1_tells_37 : decode cX1_tells 37 = .ok (.iconst 1, 1) := dk_4 (dk_at dksX1_tells_1 15 rfl rfl)
theorem dX1_tells_38 : decode cX1_tells 38 = .ok (.iload_n 2, 1) := dk_28 (dk_at dksX1_tells_1 16 rfl rfl)
theorem dX1_tells_39 : decode cX1_tells 39 = .ok (.ishl, 1) := dk_120 (dk_at dksX1_tells_1 17 rfl rfl)
theorem dX1_tells_40 : decode cX1_tells 40 = .ok (.ior, 1) := dk_128 (dk_at dksX1_tells_1 18 rfl rfl)
theorem dX1_tells_41 : decode cX1_tells 41 = .ok (.iastore, 1) := dk_79 (dk_at dksX1_tells_1 19 rfl rfl)
theorem dX1_tells_42 : decode cX1_tells 42 = .ok (.iconst 0, 1) := dk_3 (dk_at dksX1_tells_1 20 rfl rfl)
theorem dX1_tells_43 : decode cX1_tells 43 = .ok (.ireturn, 1) := dk_172 (dk_at dksX1_tells_1 21 rfl rfl)
abbrev cX1_isKnown : ByteArray := prog_15_method_25_code
def yX1_isKnown : MethodName := ⟨RX1, "isKnown", "(I)Z"⟩
def dkwX1_isKnown_2 : List UInt8 := [28, 160, 0, 5, 4, 172, 132, 3, 1, 167, 255, 213, 3, 172]
abbrev dktX1_isKnown_2 : List UInt8 := dkwX1_isKnown_2 ++ []
def dkwX1_isKnown_1 : List UInt8 := [159, 0, 30, 42, 180, 0, 28, 29, 46, 27, 160, 0, 20, 42, 29, 42, 180, 0, 40, 29, 46, 182, 0, 125]
abbrev dktX1_isKnown_1 : List UInt8 := dkwX1_isKnown_1 ++ dktX1_isKnown_2
def dkwX1_isKnown_0 : List UInt8 := [42, 27, 42, 180, 0, 40, 27, 46, 182, 0, 125, 61, 3, 62, 29, 42, 180, 0, 68, 162, 0, 41, 29, 27]
abbrev dktX1_isKnown_0 : List UInt8 := dkwX1_isKnown_0 ++ dktX1_isKnown_1
theorem dksX1_isKnown_0 : cX1_isKnown.data.toList.drop 0 = dktX1_isKnown_0 := by decide +kernel
theorem dksX1_isKnown_1 : cX1_isKnown.data.toList.drop 24 = dktX1_isKnown_1 := dk_seg dksX1_isKnown_0 24 rfl rfl
theorem dksX1_isKnown_2 : cX1_isKnown.data.toList.drop 48 = dktX1_isKnown_2 := dk_seg dksX1_isKnown_1 24 rfl rfl
theorem dX1_isKnown_0 : decode cX1_isKnown 0 = .ok (.aload_n 0, 1) := dk_42 (dk_at dksX1_isKnown_0 0 rfl rfl)
theorem dX1_isKnown_1 : decode cX1_isKnown 1 = .ok (.iload_n 1, 1) := dk_27 (dk_at dksX1_isKnown_0 1 rfl rfl)
theorem dX1_isKnown_2 : decode cX1_isKnown 2 = .ok (.aload_n 0, 1) := dk_42 (dk_at dksX1_isKnown_0 2 rfl rfl)
theorem dX1_isKnown_3 : decode cX1_isKnown 3 = .ok (.getfield 40, 3) := dk_180 0 40 (dk_at dksX1_isKnown_0 3 rfl rfl)
theorem dX1_isKnown_6 : decode cX1_isKnown 6 = .ok (.iload_n 1, 1) := dk_27 (dk_at dksX1_isKnown_0 6 rfl rfl)
theorem dX1_isKnown_7 : decode cX1_isKnown 7 = .ok (.iaload, 1) := dk_46 (dk_at dksX1_isKnown_0 7 rfl rfl)
theorem dX1_isKnown_8 : decode cX1_isKnown 8 = .ok (.invokevirtual 125, 3) := dk_182 0 125 (dk_at dksX1_isKnown_0 8 rfl rfl)
theorem dX1_isKnown_11 : decode cX1_isKnown 11 = .ok (.istore_n 2, 1) := dk_61 (dk_at dksX1_isKnown_0 11 rfl rfl)
theorem dX1_isKnown_12 : decode cX1_isKnown 12 = .ok (.iconst 0, 1) := dk_3 (dk_at dksX1_isKnown_0 12 rfl rfl)
theorem dX1_isKnown_13 : decode cX1_isKnown 13 = .ok (.istore_n 3, 1) := dk_62 (dk_at dksX1_isKnown_0 13 rfl rfl)
theorem dX1_isKnown_14 : decode cX1_isKnown 14 = .ok (.iload_n 3, 1) := dk_29 (dk_at dksX1_isKnown_0 14 rfl rfl)
theorem dX1_isKnown_15 : decode cX1_isKnown 15 = .ok (.aload_n 0, 1) := dk_42 (dk_at dksX1_isKnown_0 15 rfl rfl)
theorem dX1_isKnown_16 : decode cX1_isKnown 16 = .ok (.getfield 68, 3) := dk_180 0 68 (dk_at dksX1_isKnown_0 16 rfl rfl)
theorem dX1_isKnown_19 : decode cX1_isKnown 19 = .ok (.if_icmp .ge 41, 3) := dk_162 0 41 (dk_at dksX1_isKnown_0 19 rfl rfl)
theorem dX1_isKnown_22 : decode cX1_isKnown 22 = .ok (.iload_n 3, 1) := dk_29 (dk_at dksX1_isKnown_0 22 rfl rfl)
theorem dX1_isKnown_23 : decode cX1_isKnown 23 = .ok (.iload_n 1, 1) := dk_27 (dk_at dksX1_isKnown_0 23 rfl rfl)
theorem dX1_isKnown_24 : decode cX1_isKnown 24 = .ok (.if_icmp .eq 30, 3) := dk_159 0 30 (dk_at dksX1_isKnown_1 0 rfl rfl)
theorem dX1_isKnown_27 : decode cX1_isKnown 27 = .ok (.aload_n 0, 1) := dk_42 (dk_at dksX1_isKnown_1 3 rfl rfl)
theorem dX1_isKnown_28 : decode cX1_isKnown 28 = .ok (.getfield 28, 3) := dk_180 0 28 (dk_at dksX1_isKnown_1 4 rfl rfl)
theorem dX1_isKnown_31 : decode cX1_isKnown 31 = .ok (.iload_n 3, 1) := dk_29 (dk_at dksX1_isKnown_1 7 rfl rfl)
theorem dX1_isKnown_32 : decode cX1_isKnown 32 = .ok (.iaload, 1) := dk_46 (dk_at dksX1_isKnown_1 8 rfl rfl)
theorem dX1_isKnown_33 : decode cX1_isKnown 33 = .ok (.iload_n 1, 1) := dk_27 (dk_at dksX1_isKnown_1 9 rfl rfl)
theorem dX1_isKnown_34 : decode cX1_isKnown 34 = .ok (.if_icmp .ne 20, 3) := dk_160 0 20 (dk_at dksX1_isKnown_1 10 rfl rfl)
theorem dX1_isKnown_37 : decode cX1_isKnown 37 = .ok (.aload_n 0, 1) := dk_42 (dk_at dksX1_isKnown_1 13 rfl rfl)
theorem dX1_isKnown_38 : decode cX1_isKnown 38 = .ok (.iload_n 3, 1) := dk_29 (dk_at dksX1_isKnown_1 14 rfl rfl)
theorem dX1_isKnown_39 : decode cX1_isKnown 39 = .ok (.aload_n 0, 1) := dk_42 (dk_at dksX1_isKnown_1 15 rfl rfl)
theorem dX1_isKnown_40 : decode cX1_isKnown 40 = .ok (.getfield 40, 3) := dk_180 0 40 (dk_at dksX1_isKnown_1 16 rfl rfl)
theorem dX1_isKnown_43 : decode cX1_isKnown 43 = .ok (.iload_n 3, 1) := dk_29 (dk_at dksX1_isKnown_1 19 rfl rfl)
theorem dX1_isKnown_44 : decode cX1_isKnown 44 = .ok (.iaload, 1) := dk_46 (dk_at dksX1_isKnown_1 20 rfl rfl)
theorem dX1_isKnown_45 : decode cX1_isKnown 45 = .ok (.invokevirtual 125, 3) := dk_182 0 125 (dk_at dksX1_isKnown_1 21 rfl rfl)
theorem dX1_isKnown_48 : decode cX1_isKnown 48 = .ok (.iload_n 2, 1) := dk_28 (dk_at dksX1_isKnown_2 0 rfl rfl)
theorem dX1_isKnown_49 : decode cX1_isKnown 49 = .ok (.if_icmp .ne 5, 3) := dk_160 0 5 (dk_at dksX1_isKnown_2 1 rfl rfl)
theorem dX1_isKnown_52 : decode cX1_isKnown 52 = .ok (.iconst 1, 1) := dk_4 (dk_at dksX1_isKnown_2 4 rfl rfl)
theorem dX1_isKnown_53 : decode cX1_isKnown 53 = .ok (.ireturn, 1) := dk_172 (dk_at dksX1_isKnown_2 5 rfl rfl)
theorem dX1_isKnown_54 : decode cX1_isKnown 54 = .ok (.iinc 3 1, 3) := dk_132 3 1 (dk_at dksX1_isKnown_2 6 rfl rfl)
theorem dX1_isKnown_57 : decode cX1_isKnown 57 = .ok (.goto (-43), 3) := dk_167 255 213 (dk_at dksX1_isKnown_2 9 rfl rfl)
theorem dX1_isKnown_60 : decode cX1_isKnown 60 = .ok (.iconst 0, 1) := dk_3 (dk_at dksX1_isKnown_2 12 rfl rfl)
theorem dX1_isKnown_61 : decode cX1_isKnown 61 = .ok (.ireturn, 1) := dk_172 (dk_at dksX1_isKnown_2 13 rfl rfl)
abbrev cX1_hush : ByteArray := prog_15_method_28_code
def yX1_hush : MethodName := ⟨RX1, "hush", "(I)I"⟩
def dkwX1_hush_1 : List UInt8 := [180, 0, 31, 27, 3, 79, 28, 172]
abbrev dktX1_hush_1 : List UInt8 := dkwX1_hush_1 ++ []
def dkwX1_hush_0 : List UInt8 := [42, 27, 182, 0, 122, 154, 0, 5, 2, 172, 42, 27, 42, 180, 0, 31, 27, 46, 182, 0, 125, 61, 42]
abbrev dktX1_hush_0 : List UInt8 := dkwX1_hush_0 ++ dktX1_hush_1
theorem dksX1_hush_0 : cX1_hush.data.toList.drop 0 = dktX1_hush_0 := by decide +kernel
theorem dksX1_hush_1 : cX1_hush.data.toList.drop 23 = dktX1_hush_1 := dk_seg dksX1_hush_0 23 rfl rfl
theorem dX1_hush_0 : decode cX1_hush 0 = .ok (.aload_n 0, 1) := dk_42 (dk_at dksX1_hush_0 0 rfl rfl)
theorem dX1_hush_1 : decode cX1_hush 1 = .ok (.iload_n 1, 1) := dk_27 (dk_at dksX1_hush_0 1 rfl rfl)
theorem dX1_hush_2 : decode cX1_hush 2 = .ok (.invokevirtual 122, 3) := dk_182 0 122 (dk_at dksX1_hush_0 2 rfl rfl)
theorem dX1_hush_5 : decode cX1_hush 5 = .ok (.ifCond .ne 5, 3) := dk_154 0 5 (dk_at dksX1_hush_0 5 rfl rfl)
theorem dX1_hush_8 : decode cX1_hush 8 = .ok (.iconst (-1), 1) := dk_2 (dk_at dksX1_hush_0 8 rfl rfl)
theorem dX1_hush_9 : decode cX1_hush 9 = .ok (.ireturn, 1) := dk_172 (dk_at dksX1_hush_0 9 rfl rfl)
theorem dX1_hush_10 : decode cX1_hush 10 = .ok (.aload_n 0, 1) := dk_42 (dk_at dksX1_hush_0 10 rfl rfl)
theorem dX1_hush_11 : decode cX1_hush 11 = .ok (.iload_n 1, 1) := dk_27 (dk_at dksX1_hush_0 11 rfl rfl)
theorem dX1_hush_12 : decode cX1_hush 12 = .ok (.aload_n 0, 1) := dk_42 (dk_at dksX1_hush_0 12 rfl rfl)
theorem dX1_hush_13 : decode cX1_hush 13 = .ok (.getfield 31, 3) := dk_180 0 31 (dk_at dksX1_hush_0 13 rfl rfl)
theorem dX1_hush_16 : decode cX1_hush 16 = .ok (.iload_n 1, 1) := dk_27 (dk_at dksX1_hush_0 16 rfl rfl)
theorem dX1_hush_17 : decode cX1_hush 17 = .ok (.iaload, 1) := dk_46 (dk_at dksX1_hush_0 17 rfl rfl)
theorem dX1_hush_18 : decode cX1_hush 18 = .ok (.invokevirtual 125, 3) := dk_182 0 125 (dk_at dksX1_hush_0 18 rfl rfl)
theorem dX1_hush_21 : decode cX1_hush 21 = .ok (.istore_n 2, 1) := dk_61 (dk_at dksX1_hush_0 21 rfl rfl)
theorem dX1_hush_22 : decode cX1_hush 22 = .ok (.aload_n 0, 1) := dk_42 (dk_at dksX1_hush_0 22 rfl rfl)
theorem dX1_hush_23 : decode cX1_hush 23 = .ok (.getfield 31, 3) := dk_180 0 31 (dk_at dksX1_hush_1 0 rfl rfl)
theorem dX1_hush_26 : decode cX1_hush 26 = .ok (.iload_n 1, 1) := dk_27 (dk_at dksX1_hush_1 3 rfl rfl)
theorem dX1_hush_27 : decode cX1_hush 27 = .ok (.iconst 0, 1) := dk_3 (dk_at dksX1_hush_1 4 rfl rfl)
theorem dX1_hush_28 : decode cX1_hush 28 = .ok (.iastore, 1) := dk_79 (dk_at dksX1_hush_1 5 rfl rfl)
theorem dX1_hush_29 : decode cX1_hush 29 = .ok (.iload_n 2, 1) := dk_28 (dk_at dksX1_hush_1 6 rfl rfl)
theorem dX1_hush_30 : decode cX1_hush 30 = .ok (.ireturn, 1) := dk_172 (dk_at dksX1_hush_1 7 rfl rfl)
abbrev cX1_landing : ByteArray := prog_15_method_29_code
def yX1_landing : MethodName := ⟨RX1, "landing", "(I)I"⟩
def dkwX1_landing_2 : List UInt8 := [120, 167, 0, 4, 3, 128, 61, 132, 3, 1, 167, 255, 220, 28, 172]
abbrev dktX1_landing_2 : List UInt8 := dkwX1_landing_2 ++ []
def dkwX1_landing_1 : List UInt8 := [180, 0, 68, 162, 0, 34, 28, 42, 29, 42, 180, 0, 31, 29, 46, 182, 0, 125, 27, 160, 0, 9, 4, 29]
abbrev dktX1_landing_1 : List UInt8 := dkwX1_landing_1 ++ dktX1_landing_2
def dkwX1_landing_0 : List UInt8 := [42, 180, 0, 68, 154, 0, 6, 16, 253, 172, 27, 156, 0, 6, 16, 254, 172, 3, 61, 3, 62, 29, 42]
abbrev dktX1_landing_0 : List UInt8 := dkwX1_landing_0 ++ dktX1_landing_1
theorem dksX1_landing_0 : cX1_landing.data.toList.drop 0 = dktX1_landing_0 := by decide +kernel
theorem dksX1_landing_1 : cX1_landing.data.toList.drop 23 = dktX1_landing_1 := dk_seg dksX1_landing_0 23 rfl rfl
theorem dksX1_landing_2 : cX1_landing.data.toList.drop 47 = dktX1_landing_2 := dk_seg dksX1_landing_1 24 rfl rfl
theorem dX1_landing_0 : decode cX1_landing 0 = .ok (.aload_n 0, 1) := dk_42 (dk_at dksX1_landing_0 0 rfl rfl)
theorem dX1_landing_1 : decode cX1_landing 1 = .ok (.getfield 68, 3) := dk_180 0 68 (dk_at dksX1_landing_0 1 rfl rfl)
theorem dX1_landing_4 : decode cX1_landing 4 = .ok (.ifCond .ne 6, 3) := dk_154 0 6 (dk_at dksX1_landing_0 4 rfl rfl)
theorem dX1_landing_7 : decode cX1_landing 7 = .ok (.bipush (-3), 2) := dk_16 253 (dk_at dksX1_landing_0 7 rfl rfl)
theorem dX1_landing_9 : decode cX1_landing 9 = .ok (.ireturn, 1) := dk_172 (dk_at dksX1_landing_0 9 rfl rfl)
theorem dX1_landing_10 : decode cX1_landing 10 = .ok (.iload_n 1, 1) := dk_27 (dk_at dksX1_landing_0 10 rfl rfl)
theorem dX1_landing_11 : decode cX1_landing 11 = .ok (.ifCond .ge 6, 3) := dk_156 0 6 (dk_at dksX1_landing_0 11 rfl rfl)
theorem dX1_landing_14 : decode cX1_landing 14 = .ok (.bipush (-2), 2) := dk_16 254 (dk_at dksX1_landing_0 14 rfl rfl)
theorem dX1_landing_16 : decode cX1_landing 16 = .ok (.ireturn, 1) := dk_172 (dk_at dksX1_landing_0 16 rfl rfl)
theorem dX1_landing_17 : decode cX1_landing 17 = .ok (.iconst 0, 1) := dk_3 (dk_at dksX1_landing_0 17 rfl rfl)
theorem dX1_landing_18 : decode cX1_landing 18 = .ok (.istore_n 2, 1) := dk_61 (dk_at dksX1_landing_0 18 rfl rfl)
theorem dX1_landing_19 : decode cX1_landing 19 = .ok (.iconst 0, 1) := dk_3 (dk_at dksX1_landing_0 19 rfl rfl)
theorem dX1_landing_20 : decode cX1_landing 20 = .ok (.istore_n 3, 1) := dk_62 (dk_at dksX1_landing_0 20 rfl rfl)
theorem dX1_landing_21 : decode cX1_landing 21 = .ok (.iload_n 3, 1) := dk_29 (dk_at dksX1_landing_0 21 rfl rfl)
theorem dX1_landing_22 : decode cX1_landing 22 = .ok (.aload_n 0, 1) := dk_42 (dk_at dksX1_landing_0 22 rfl rfl)
theorem dX1_landing_23 : decode cX1_landing 23 = .ok (.getfield 68, 3) := dk_180 0 68 (dk_at dksX1_landing_1 0 rfl rfl)
theorem dX1_landing_26 : decode cX1_landing 26 = .ok (.if_icmp .ge 34, 3) := dk_162 0 34 (dk_at dksX1_landing_1 3 rfl rfl)
theorem dX1_landing_29 : decode cX1_landing 29 = .ok (.iload_n 2, 1) := dk_28 (dk_at dksX1_landing_1 6 rfl rfl)
theorem dX1_landing_30 : decode cX1_landing 30 = .ok (.aload_n 0, 1) := dk_42 (dk_at dksX1_landing_1 7 rfl rfl)
theorem dX1_landing_31 : decode cX1_landing 31 = .ok (.iload_n 3, 1) := dk_29 (dk_at dksX1_landing_1 8 rfl rfl)
theorem dX1_landing_32 : decode cX1_landing 32 = .ok (.aload_n 0, 1) := dk_42 (dk_at dksX1_landing_1 9 rfl rfl)
theorem dX1_landing_33 : decode cX1_landing 33 = .ok (.getfield 31, 3) := dk_180 0 31 (dk_at dksX1_landing_1 10 rfl rfl)
theorem dX1_landing_36 : decode cX1_landing 36 = .ok (.iload_n 3, 1) := dk_29 (dk_at dksX1_landing_1 13 rfl rfl)
theorem dX1_landing_37 : decode cX1_landing 37 = .ok (.iaload, 1) := dk_46 (dk_at dksX1_landing_1 14 rfl rfl)
theorem dX1_landing_38 : decode cX1_landing 38 = .ok (.invokevirtual 125, 3) := dk_182 0 125 (dk_at dksX1_landing_1 15 rfl rfl)
theorem dX1_landing_41 : decode cX1_landing 41 = .ok (.iload_n 1, 1) := dk_27 (dk_at dksX1_landing_1 18 rfl rfl)
theorem dX1_landing_42 : decode cX1_landing 42 = .ok (.if_icmp .ne 9, 3) := dk_160 0 9 (dk_at dksX1_landing_1 19 rfl rfl)
theorem dX1_landing_45 : decode cX1_landing 45 = .ok (.iconst 1, 1) := dk_4 (dk_at dksX1_landing_1 22 rfl rfl)
theorem dX1_landing_46 : decode cX1_landing 46 = .ok (.iload_n 3, 1) := dk_29 (dk_at dksX1_landing_1 23 rfl rfl)
theorem dX1_landing_47 : decode cX1_landing 47 = .ok (.ishl, 1) := dk_120 (dk_at dksX1_landing_2 0 rfl rfl)
theorem dX1_landing_48 : decode cX1_landing 48 = .ok (.goto 4, 3) := dk_167 0 4 (dk_at dksX1_landing_2 1 rfl rfl)
theorem dX1_landing_51 : decode cX1_landing 51 = .ok (.iconst 0, 1) := dk_3 (dk_at dksX1_landing_2 4 rfl rfl)
theorem dX1_landing_52 : decode cX1_landing 52 = .ok (.ior, 1) := dk_128 (dk_at dksX1_landing_2 5 rfl rfl)
theorem dX1_landing_53 : decode cX1_landing 53 = .ok (.istore_n 2, 1) := dk_61 (dk_at dksX1_landing_2 6 rfl rfl)
theorem dX1_landing_54 : decode cX1_landing 54 = .ok (.iinc 3 1, 3) := dk_132 3 1 (dk_at dksX1_landing_2 7 rfl rfl)
theorem dX1_landing_57 : decode cX1_landing 57 = .ok (.goto (-36), 3) := dk_167 255 220 (dk_at dksX1_landing_2 10 rfl rfl)
theorem dX1_landing_60 : decode cX1_landing 60 = .ok (.iload_n 2, 1) := dk_28 (dk_at dksX1_landing_2 13 rfl rfl)
theorem dX1_landing_61 : decode cX1_landing 61 = .ok (.ireturn, 1) := dk_172 (dk_at dksX1_landing_2 14 rfl rfl)
abbrev cX1_days : ByteArray := prog_15_method_33_code
def yX1_days : MethodName := ⟨RX1, "days", "(IIIII)I"⟩
def dkwX1_days_4 : List UInt8 := [21, 7, 16, 247, 160, 0, 12, 42, 21, 5, 182, 0, 156, 167, 0, 8, 16, 156, 21, 7, 100, 172]
abbrev dktX1_days_4 : List UInt8 := dkwX1_days_4 ++ []
def dkwX1_days_3 : List UInt8 := [21, 6, 153, 0, 6, 21, 6, 172, 42, 182, 0, 152, 54, 7, 21, 5, 4, 160, 0, 6, 21, 7, 172]
abbrev dktX1_days_3 : List UInt8 := dkwX1_days_3 ++ dktX1_days_4
def dkwX1_days_2 : List UInt8 := [16, 20, 16, 23, 184, 0, 61, 154, 0, 6, 16, 254, 172, 42, 27, 28, 29, 21, 4, 182, 0, 149, 54, 6]
abbrev dktX1_days_2 : List UInt8 := dkwX1_days_2 ++ dktX1_days_3
def dkwX1_days_1 : List UInt8 := [21, 5, 3, 5, 184, 0, 61, 154, 0, 30, 21, 5, 16, 10, 16, 13, 184, 0, 61, 154, 0, 18, 21, 5]
abbrev dktX1_days_1 : List UInt8 := dkwX1_days_1 ++ dktX1_days_2
def dkwX1_days_0 : List UInt8 := [42, 3, 181, 0, 55, 27, 184, 0, 74, 154, 0, 5, 2, 172, 28, 21, 4, 184, 0, 146, 153, 0, 37]
abbrev dktX1_days_0 : List UInt8 := dkwX1_days_0 ++ dktX1_days_1
theorem dksX1_days_0 : cX1_days.data.toList.drop 0 = dktX1_days_0 := by decide +kernel
theorem dksX1_days_1 : cX1_days.data.toList.drop 23 = dktX1_days_1 := dk_seg dksX1_days_0 23 rfl rfl
theorem dksX1_days_2 : cX1_days.data.toList.drop 47 = dktX1_days_2 := dk_seg dksX1_days_1 24 rfl rfl
theorem dksX1_days_3 : cX1_days.data.toList.drop 71 = dktX1_days_3 := dk_seg dksX1_days_2 24 rfl rfl
theorem dksX1_days_4 : cX1_days.data.toList.drop 94 = dktX1_days_4 := dk_seg dksX1_days_3 23 rfl rfl
theorem dX1_days_0 : decode cX1_days 0 = .ok (.aload_n 0, 1) := dk_42 (dk_at dksX1_days_0 0 rfl rfl)
theorem dX1_days_1 : decode cX1_days 1 = .ok (.iconst 0, 1) := dk_3 (dk_at dksX1_days_0 1 rfl rfl)
theorem dX1_days_2 : decode cX1_days 2 = .ok (.putfield 55, 3) := dk_181 0 55 (dk_at dksX1_days_0 2 rfl rfl)
theorem dX1_days_5 : decode cX1_days 5 = .ok (.iload_n 1, 1) := dk_27 (dk_at dksX1_days_0 5 rfl rfl)
theorem dX1_days_6 : decode cX1_days 6 = .ok (.invokestatic 74, 3) := dk_184 0 74 (dk_at dksX1_days_0 6 rfl rfl)
theorem dX1_days_9 : decode cX1_days 9 = .ok (.ifCond .ne 5, 3) := dk_154 0 5 (dk_at dksX1_days_0 9 rfl rfl)
theorem dX1_days_12 : decode cX1_days 12 = .ok (.iconst (-1), 1) := dk_2 (dk_at dksX1_days_0 12 rfl rfl)
theorem dX1_days_13 : decode cX1_days 13 = .ok (.ireturn, 1) := dk_172 (dk_at dksX1_days_0 13 rfl rfl)
theorem dX1_days_14 : decode cX1_days 14 = .ok (.iload_n 2, 1) := dk_28 (dk_at dksX1_days_0 14 rfl rfl)
theorem dX1_days_15 : decode cX1_days 15 = .ok (.iload 4, 2) := dk_21 4 (dk_at dksX1_days_0 15 rfl rfl)
theorem dX1_days_17 : decode cX1_days 17 = .ok (.invokestatic 146, 3) := dk_184 0 146 (dk_at dksX1_days_0 17 rfl rfl)
theorem dX1_days_20 : decode cX1_days 20 = .ok (.ifCond .eq 37, 3) := dk_153 0 37 (dk_at dksX1_days_0 20 rfl rfl)
theorem dX1_days_23 : decode cX1_days 23 = .ok (.iload 5, 2) := dk_21 5 (dk_at dksX1_days_1 0 rfl rfl)
theorem dX1_days_25 : decode cX1_days 25 = .ok (.iconst 0, 1) := dk_3 (dk_at dksX1_days_1 2 rfl rfl)
theorem dX1_days_26 : decode cX1_days 26 = .ok (.iconst 2, 1) := dk_5 (dk_at dksX1_days_1 3 rfl rfl)
theorem dX1_days_27 : decode cX1_days 27 = .ok (.invokestatic 61, 3) := dk_184 0 61 (dk_at dksX1_days_1 4 rfl rfl)
theorem dX1_days_30 : decode cX1_days 30 = .ok (.ifCond .ne 30, 3) := dk_154 0 30 (dk_at dksX1_days_1 7 rfl rfl)
theorem dX1_days_33 : decode cX1_days 33 = .ok (.iload 5, 2) := dk_21 5 (dk_at dksX1_days_1 10 rfl rfl)
theorem dX1_days_35 : decode cX1_days 35 = .ok (.bipush 10, 2) := dk_16 10 (dk_at dksX1_days_1 12 rfl rfl)
theorem dX1_days_37 : decode cX1_days 37 = .ok (.bipush 13, 2) := dk_16 13 (dk_at dksX1_days_1 14 rfl rfl)
theorem dX1_days_39 : decode cX1_days 39 = .ok (.invokestatic 61, 3) := dk_184 0 61 (dk_at dksX1_days_1 16 rfl rfl)
theorem dX1_days_42 : decode cX1_days 42 = .ok (.ifCond .ne 18, 3) := dk_154 0 18 (dk_at dksX1_days_1 19 rfl rfl)
theorem dX1_days_45 : decode cX1_days 45 = .ok (.iload 5, 2) := dk_21 5 (dk_at dksX1_days_1 22 rfl rfl)
theorem dX1_days_47 : decode cX1_days 47 = .ok (.bipush 20, 2) := dk_16 20 (dk_at dksX1_days_2 0 rfl rfl)
theorem dX1_days_49 : decode cX1_days 49 = .ok (.bipush 23, 2) := dk_16 23 (dk_at dksX1_days_2 2 rfl rfl)
theorem dX1_days_51 : decode cX1_days 51 = .ok (.invokestatic 61, 3) := dk_184 0 61 (dk_at dksX1_days_2 4 rfl rfl)
theorem dX1_days_54 : decode cX1_days 54 = .ok (.ifCond .ne 6, 3) := dk_154 0 6 (dk_at dksX1_days_2 7 rfl rfl)
theorem dX1_days_57 : decode cX1_days 57 = .ok (.bipush (-2), 2) := dk_16 254 (dk_at dksX1_days_2 10 rfl rfl)
theorem dX1_days_59 : decode cX1_days 59 = .ok (.ireturn, 1) := dk_172 (dk_at dksX1_days_2 12 rfl rfl)
theorem dX1_days_60 : decode cX1_days 60 = .ok (.aload_n 0, 1) := dk_42 (dk_at dksX1_days_2 13 rfl rfl)
theorem dX1_days_61 : decode cX1_days 61 = .ok (.iload_n 1, 1) := dk_27 (dk_at dksX1_days_2 14 rfl rfl)
theorem dX1_days_62 : decode cX1_days 62 = .ok (.iload_n 2, 1) := dk_28 (dk_at dksX1_days_2 15 rfl rfl)
theorem dX1_days_63 : decode cX1_days 63 = .ok (.iload_n 3, 1) := dk_29 (dk_at dksX1_days_2 16 rfl rfl)
theorem dX1_days_64 : decode cX1_days 64 = .ok (.iload 4, 2) := dk_21 4 (dk_at dksX1_days_2 17 rfl rfl)
theorem dX1_days_66 : decode cX1_days 66 = .ok (.invokevirtual 149, 3) := dk_182 0 149 (dk_at dksX1_days_2 19 rfl rfl)
theorem dX1_days_69 : decode cX1_days 69 = .ok (.istore 6, 2) := dk_54 6 (dk_at dksX1_days_2 22 rfl rfl)
theorem dX1_days_71 : decode cX1_days 71 = .ok (.iload 6, 2) := dk_21 6 (dk_at dksX1_days_3 0 rfl rfl)
theorem dX1_days_73 : decode cX1_days 73 = .ok (.ifCond .eq 6, 3) := dk_153 0 6 (dk_at dksX1_days_3 2 rfl rfl)
theorem dX1_days_76 : decode cX1_days 76 = .ok (.iload 6, 2) := dk_21 6 (dk_at dksX1_days_3 5 rfl rfl)
theorem dX1_days_78 : decode cX1_days 78 = .ok (.ireturn, 1) := dk_172 (dk_at dksX1_days_3 7 rfl rfl)
theorem dX1_days_79 : decode cX1_days 79 = .ok (.aload_n 0, 1) := dk_42 (dk_at dksX1_days_3 8 rfl rfl)
theorem dX1_days_80 : decode cX1_days 80 = .ok (.invokevirtual 152, 3) := dk_182 0 152 (dk_at dksX1_days_3 9 rfl rfl)
theorem dX1_days_83 : decode cX1_days 83 = .ok (.istore 7, 2) := dk_54 7 (dk_at dksX1_days_3 12 rfl rfl)
theorem dX1_days_85 : decode cX1_days 85 = .ok (.iload 5, 2) := dk_21 5 (dk_at dksX1_days_3 14 rfl rfl)
theorem dX1_days_87 : decode cX1_days 87 = .ok (.iconst 1, 1) := dk_4 (dk_at dksX1_days_3 16 rfl rfl)
theorem dX1_days_88 : decode cX1_days 88 = .ok (.if_icmp .ne 6, 3) := dk_160 0 6 (dk_at dksX1_days_3 17 rfl rfl)
theorem dX1_days_91 : decode cX1_days 91 = .ok (.iload 7, 2) := dk_21 7 (dk_at dksX1_days_3 20 rfl rfl)
theorem dX1_days_93 : decode cX1_days 93 = .ok (.ireturn, 1) := dk_172 (dk_at dksX1_days_3 22 rfl rfl)
theorem dX1_days_94 : decode cX1_days 94 = .ok (.iload 7, 2) := dk_21 7 (dk_at dksX1_days_4 0 rfl rfl)
theorem dX1_days_96 : decode cX1_days 96 = .ok (.bipush (-9), 2) := dk_16 247 (dk_at dksX1_days_4 2 rfl rfl)
theorem dX1_days_98 : decode cX1_days 98 = .ok (.if_icmp .ne 12, 3) := dk_160 0 12 (dk_at dksX1_days_4 4 rfl rfl)
theorem dX1_days_101 : decode cX1_days 101 = .ok (.aload_n 0, 1) := dk_42 (dk_at dksX1_days_4 7 rfl rfl)
theorem dX1_days_102 : decode cX1_days 102 = .ok (.iload 5, 2) := dk_21 5 (dk_at dksX1_days_4 8 rfl rfl)
theorem dX1_days_104 : decode cX1_days 104 = .ok (.invokevirtual 156, 3) := dk_182 0 156 (dk_at dksX1_days_4 10 rfl rfl)
theorem dX1_days_107 : decode cX1_days 107 = .ok (.goto 8, 3) := dk_167 0 8 (dk_at dksX1_days_4 13 rfl rfl)
theorem dX1_days_110 : decode cX1_days 110 = .ok (.bipush (-100), 2) := dk_16 156 (dk_at dksX1_days_4 16 rfl rfl)
theorem dX1_days_112 : decode cX1_days 112 = .ok (.iload 7, 2) := dk_21 7 (dk_at dksX1_days_4 18 rfl rfl)
theorem dX1_days_114 : decode cX1_days 114 = .ok (.isub, 1) := dk_100 (dk_at dksX1_days_4 20 rfl rfl)
theorem dX1_days_115 : decode cX1_days 115 = .ok (.ireturn, 1) := dk_172 (dk_at dksX1_days_4 21 rfl rfl)
abbrev cX1_isRow : ByteArray := prog_15_method_30_code
def yX1_isRow : MethodName := ⟨RX1, "isRow", "(II)Z"⟩
def dkwX1_isRow_0 : List UInt8 := [26, 184, 0, 78, 153, 0, 17, 27, 3, 16, 20, 184, 0, 61, 153, 0, 7, 4, 167, 0, 4, 3, 172]
abbrev dktX1_isRow_0 : List UInt8 := dkwX1_isRow_0 ++ []
theorem dksX1_isRow_0 : cX1_isRow.data.toList.drop 0 = dktX1_isRow_0 := by decide +kernel
theorem dX1_isRow_0 : decode cX1_isRow 0 = .ok (.iload_n 0, 1) := dk_26 (dk_at dksX1_isRow_0 0 rfl rfl)
theorem dX1_isRow_1 : decode cX1_isRow 1 = .ok (.invokestatic 78, 3) := dk_184 0 78 (dk_at dksX1_isRow_0 1 rfl rfl)
theorem dX1_isRow_4 : decode cX1_isRow 4 = .ok (.ifCond .eq 17, 3) := dk_153 0 17 (dk_at dksX1_isRow_0 4 rfl rfl)
theorem dX1_isRow_7 : decode cX1_isRow 7 = .ok (.iload_n 1, 1) := dk_27 (dk_at dksX1_isRow_0 7 rfl rfl)
theorem dX1_isRow_8 : decode cX1_isRow 8 = .ok (.iconst 0, 1) := dk_3 (dk_at dksX1_isRow_0 8 rfl rfl)
theorem dX1_isRow_9 : decode cX1_isRow 9 = .ok (.bipush 20, 2) := dk_16 20 (dk_at dksX1_isRow_0 9 rfl rfl)
theorem dX1_isRow_11 : decode cX1_isRow 11 = .ok (.invokestatic 61, 3) := dk_184 0 61 (dk_at dksX1_isRow_0 11 rfl rfl)
theorem dX1_isRow_14 : decode cX1_isRow 14 = .ok (.ifCond .eq 7, 3) := dk_153 0 7 (dk_at dksX1_isRow_0 14 rfl rfl)
theorem dX1_isRow_17 : decode cX1_isRow 17 = .ok (.iconst 1, 1) := dk_4 (dk_at dksX1_isRow_0 17 rfl rfl)
theorem dX1_isRow_18 : decode cX1_isRow 18 = .ok (.goto 4, 3) := dk_167 0 4 (dk_at dksX1_isRow_0 18 rfl rfl)
theorem dX1_isRow_21 : decode cX1_isRow 21 = .ok (.iconst 0, 1) := dk_3 (dk_at dksX1_isRow_0 21 rfl rfl)
theorem dX1_isRow_22 : decode cX1_isRow 22 = .ok (.ireturn, 1) := dk_172 (dk_at dksX1_isRow_0 22 rfl rfl)
abbrev cX1_layDays : ByteArray := prog_15_method_31_code
def yX1_layDays : MethodName := ⟨RX1, "layDays", "(IIII)I"⟩
def dkwX1_layDays_5 : List UInt8 := [182, 0, 128, 154, 0, 5, 2, 172, 132, 6, 1, 167, 255, 168, 42, 21, 4, 181, 0, 140, 3, 172]
abbrev dktX1_layDays_5 : List UInt8 := dkwX1_layDays_5 ++ []
def dkwX1_layDays_4 : List UInt8 := [42, 42, 180, 0, 43, 21, 6, 46, 182, 0, 122, 153, 0, 17, 42, 42, 180, 0, 46, 21, 6, 46]
abbrev dktX1_layDays_4 : List UInt8 := dkwX1_layDays_4 ++ dktX1_layDays_5
def dkwX1_layDays_3 : List UInt8 := [180, 0, 46, 21, 6, 42, 180, 0, 16, 16, 60, 27, 104, 29, 96, 5, 21, 6, 104, 96, 4, 96, 46, 79]
abbrev dktX1_layDays_3 : List UInt8 := dkwX1_layDays_3 ++ dktX1_layDays_4
def dkwX1_layDays_2 : List UInt8 := [180, 0, 43, 21, 6, 42, 180, 0, 16, 16, 60, 27, 104, 29, 96, 5, 21, 6, 104, 96, 46, 79, 42]
abbrev dktX1_layDays_2 : List UInt8 := dkwX1_layDays_2 ++ dktX1_layDays_3
def dkwX1_layDays_1 : List UInt8 := [172, 42, 180, 0, 68, 154, 0, 6, 16, 253, 172, 3, 54, 6, 21, 6, 21, 4, 162, 0, 87, 42]
abbrev dktX1_layDays_1 : List UInt8 := dkwX1_layDays_1 ++ dktX1_layDays_2
def dkwX1_layDays_0 : List UInt8 := [42, 27, 28, 29, 5, 21, 4, 104, 182, 0, 81, 54, 5, 21, 5, 153, 0, 10, 42, 21, 5, 182, 0, 85]
abbrev dktX1_layDays_0 : List UInt8 := dkwX1_layDays_0 ++ dktX1_layDays_1
theorem dksX1_layDays_0 : cX1_layDays.data.toList.drop 0 = dktX1_layDays_0 := by decide +kernel
theorem dksX1_layDays_1 : cX1_layDays.data.toList.drop 24 = dktX1_layDays_1 := dk_seg dksX1_layDays_0 24 rfl rfl
theorem dksX1_layDays_2 : cX1_layDays.data.toList.drop 46 = dktX1_layDays_2 := dk_seg dksX1_layDays_1 22 rfl rfl
theorem dksX1_layDays_3 : cX1_layDays.data.toList.drop 69 = dktX1_layDays_3 := dk_seg dksX1_layDays_2 23 rfl rfl
theorem dksX1_layDays_4 : cX1_layDays.data.toList.drop 93 = dktX1_layDays_4 := dk_seg dksX1_layDays_3 24 rfl rfl
theorem dksX1_layDays_5 : cX1_layDays.data.toList.drop 115 = dktX1_layDays_5 := dk_seg dksX1_layDays_4 22 rfl rfl
theorem dX1_layDays_0 : decode cX1_layDays 0 = .ok (.aload_n 0, 1) := dk_42 (dk_at dksX1_layDays_0 0 rfl rfl)
theorem dX1_layDays_1 : decode cX1_layDays 1 = .ok (.iload_n 1, 1) := dk_27 (dk_at dksX1_layDays_0 1 rfl rfl)
theorem dX1_layDays_2 : decode cX1_layDays 2 = .ok (.iload_n 2, 1) := dk_28 (dk_at dksX1_layDays_0 2 rfl rfl)
theorem dX1_layDays_3 : decode cX1_layDays 3 = .ok (.iload_n 3, 1) := dk_29 (dk_at dksX1_layDays_0 3 rfl rfl)
theorem dX1_layDays_4 : decode cX1_layDays 4 = .ok (.iconst 2, 1) := dk_5 (dk_at dksX1_layDays_0 4 rfl rfl)
theorem dX1_layDays_5 : decode cX1_layDays 5 = .ok (.iload 4, 2) := dk_21 4 (dk_at dksX1_layDays_0 5 rfl rfl)
theorem dX1_layDays_7 : decode cX1_layDays 7 = .ok (.imul, 1) := dk_104 (dk_at dksX1_layDays_0 7 rfl rfl)
theorem dX1_layDays_8 : decode cX1_layDays 8 = .ok (.invokevirtual 81, 3) := dk_182 0 81 (dk_at dksX1_layDays_0 8 rfl rfl)
theorem dX1_layDays_11 : decode cX1_layDays 11 = .ok (.istore 5, 2) := dk_54 5 (dk_at dksX1_layDays_0 11 rfl rfl)
theorem dX1_layDays_13 : decode cX1_layDays 13 = .ok (.iload 5, 2) := dk_21 5 (dk_at dksX1_layDays_0 13 rfl rfl)
theorem dX1_layDays_15 : decode cX1_layDays 15 = .ok (.ifCond .eq 10, 3) := dk_153 0 10 (dk_at dksX1_layDays_0 15 rfl rfl)
theorem dX1_layDays_18 : decode cX1_layDays 18 = .ok (.aload_n 0, 1) := dk_42 (dk_at dksX1_layDays_0 18 rfl rfl)
theorem dX1_layDays_19 : decode cX1_layDays 19 = .ok (.iload 5, 2) := dk_21 5 (dk_at dksX1_layDays_0 19 rfl rfl)
theorem dX1_layDays_21 : decode cX1_layDays 21 = .ok (.invokevirtual 85, 3) := dk_182 0 85 (dk_at dksX1_layDays_0 21 rfl rfl)
theorem dX1_layDays_24 : decode cX1_layDays 24 = .ok (.ireturn, 1) := dk_172 (dk_at dksX1_layDays_1 0 rfl rfl)
theorem dX1_layDays_25 : decode cX1_layDays 25 = .ok (.aload_n 0, 1) := dk_42 (dk_at dksX1_layDays_1 1 rfl rfl)
theorem dX1_layDays_26 : decode cX1_layDays 26 = .ok (.getfield 68, 3) := dk_180 0 68 (dk_at dksX1_layDays_1 2 rfl rfl)
theorem dX1_layDays_29 : decode cX1_layDays 29 = .ok (.ifCond .ne 6, 3) := dk_154 0 6 (dk_at dksX1_layDays_1 5 rfl rfl)
theorem dX1_layDays_32 : decode cX1_layDays 32 = .ok (.bipush (-3), 2) := dk_16 253 (dk_at dksX1_layDays_1 8 rfl rfl)
theorem dX1_layDays_34 : decode cX1_layDays 34 = .ok (.ireturn, 1) := dk_172 (dk_at dksX1_layDays_1 10 rfl rfl)
theorem dX1_layDays_35 : decode cX1_layDays 35 = .ok (.iconst 0, 1) := dk_3 (dk_at dksX1_layDays_1 11 rfl rfl)
theorem dX1_layDays_36 : decode cX1_layDays 36 = .ok (.istore 6, 2) := dk_54 6 (dk_at dksX1_layDays_1 12 rfl rfl)
theorem dX1_layDays_38 : decode cX1_layDays 38 = .ok (.iload 6, 2) := dk_21 6 (dk_at dksX1_layDays_1 14 rfl rfl)
theorem dX1_layDays_40 : decode cX1_layDays 40 = .ok (.iload 4, 2) := dk_21 4 (dk_at dksX1_layDays_1 16 rfl rfl)
theorem dX1_layDays_42 : decode cX1_layDays 42 = .ok (.if_icmp .ge 87, 3) := dk_162 0 87 (dk_at dksX1_layDays_1 18 rfl rfl)
theorem dX1_layDays_45 : decode cX1_layDays 45 = .ok (.aload_n 0, 1) := dk_42 (dk_at dksX1_layDays_1 21 rfl rfl)
theorem dX1_layDays_46 : decode cX1_layDays 46 = .ok (.getfield 43, 3) := dk_180 0 43 (dk_at dksX1_layDays_2 0 rfl rfl)
theorem dX1_layDays_49 : decode cX1_layDays 49 = .ok (.iload 6, 2) := dk_21 6 (dk_at dksX1_layDays_2 3 rfl rfl)
theorem dX1_layDays_51 : decode cX1_layDays 51 = .ok (.aload_n 0, 1) := dk_42 (dk_at dksX1_layDays_2 5 rfl rfl)
theorem dX1_layDays_52 : decode cX1_layDays 52 = .ok (.getfield 16, 3) := dk_180 0 16 (dk_at dksX1_layDays_2 6 rfl rfl)
theorem dX1_layDays_55 : decode cX1_layDays 55 = .ok (.bipush 60, 2) := dk_16 60 (dk_at dksX1_layDays_2 9 rfl rfl)
theorem dX1_layDays_57 : decode cX1_layDays 57 = .ok (.iload_n 1, 1) := dk_27 (dk_at dksX1_layDays_2 11 rfl rfl)
theorem dX1_layDays_58 : decode cX1_layDays 58 = .ok (.imul, 1) := dk_104 (dk_at dksX1_layDays_2 12 rfl rfl)
theorem dX1_layDays_59 : decode cX1_layDays 59 = .ok (.iload_n 3, 1) := dk_29 (dk_at dksX1_layDays_2 13 rfl rfl)
theorem dX1_layDays_60 : decode cX1_layDays 60 = .ok (.iadd, 1) := dk_96 (dk_at dksX1_layDays_2 14 rfl rfl)
theorem dX1_layDays_61 : decode cX1_layDays 61 = .ok (.iconst 2, 1) := dk_5 (dk_at dksX1_layDays_2 15 rfl rfl)
theorem dX1_layDays_62 : decode cX1_layDays 62 = .ok (.iload 6, 2) := dk_21 6 (dk_at dksX1_layDays_2 16 rfl rfl)
theorem dX1_layDays_64 : decode cX1_layDays 64 = .ok (.imul, 1) := dk_104 (dk_at dksX1_layDays_2 18 rfl rfl)
theorem dX1_layDays_65 : decode cX1_layDays 65 = .ok (.iadd, 1) := dk_96 (dk_at dksX1_layDays_2 19 rfl rfl)
theorem dX1_layDays_66 : decode cX1_layDays 66 = .ok (.iaload, 1) := dk_46 (dk_at dksX1_layDays_2 20 rfl rfl)
theorem dX1_layDays_67 : decode cX1_layDays 67 = .ok (.iastore, 1) := dk_79 (dk_at dksX1_layDays_2 21 rfl rfl)
theorem dX1_layDays_68 : decode cX1_layDays 68 = .ok (.aload_n 0, 1) := dk_42 (dk_at dksX1_layDays_2 22 rfl rfl)
theorem dX1_layDays_69 : decode cX1_layDays 69 = .ok (.getfield 46, 3) := dk_180 0 46 (dk_at dksX1_layDays_3 0 rfl rfl)
theorem dX1_layDays_72 : decode cX1_layDays 72 = .ok (.iload 6, 2) := dk_21 6 (dk_at dksX1_layDays_3 3 rfl rfl)
theorem dX1_layDays_74 : decode cX1_layDays 74 = .ok (.aload_n 0, 1) := dk_42 (dk_at dksX1_layDays_3 5 rfl rfl)
theorem dX1_layDays_75 : decode cX1_layDays 75 = .ok (.getfield 16, 3) := dk_180 0 16 (dk_at dksX1_layDays_3 6 rfl rfl)
theorem dX1_layDays_78 : decode cX1_layDays 78 = .ok (.bipush 60, 2) := dk_16 60 (dk_at dksX1_layDays_3 9 rfl rfl)
theorem dX1_layDays_80 : decode cX1_layDays 80 = .ok (.iload_n 1, 1) := dk_27 (dk_at dksX1_layDays_3 11 rfl rfl)
theorem dX1_layDays_81 : decode cX1_layDays 81 = .ok (.imul, 1) := dk_104 (dk_at dksX1_layDays_3 12 rfl rfl)
theorem dX1_layDays_82 : decode cX1_layDays 82 = .ok (.iload_n 3, 1) := dk_29 (dk_at dksX1_layDays_3 13 rfl rfl)
theorem dX1_layDays_83 : decode cX1_layDays 83 = .ok (.iadd, 1) := dk_96 (dk_at dksX1_layDays_3 14 rfl rfl)
theorem dX1_layDays_84 : decode cX1_layDays 84 = .ok (.iconst 2, 1) := dk_5 (dk_at dksX1_layDays_3 15 rfl rfl)
theorem dX1_layDays_85 : decode cX1_layDays 85 = .ok (.iload 6, 2) := dk_21 6 (dk_at dksX1_layDays_3 16 rfl rfl)
theorem dX1_layDays_87 : decode cX1_layDays 87 = .ok (.imul, 1) := dk_104 (dk_at dksX1_layDays_3 18 rfl rfl)
theorem dX1_layDays_88 : decode cX1_layDays 88 = .ok (.iadd, 1) := dk_96 (dk_at dksX1_layDays_3 19 rfl rfl)
theorem dX1_layDays_89 : decode cX1_layDays 89 = .ok (.iconst 1, 1) := dk_4 (dk_at dksX1_layDays_3 20 rfl rfl)
theorem dX1_layDays_90 : decode cX1_layDays 90 = .ok (.iadd, 1) := dk_96 (dk_at dksX1_layDays_3 21 rfl rfl)
theorem dX1_layDays_91 : decode cX1_layDays 91 = .ok (.iaload, 1) := dk_46 (dk_at dksX1_layDays_3 22 rfl rfl)
theorem dX1_layDays_92 : decode cX1_layDays 92 = .ok (.iastore, 1) := dk_79 (dk_at dksX1_layDays_3 23 rfl rfl)
theorem dX1_layDays_93 : decode cX1_layDays 93 = .ok (.aload_n 0, 1) := dk_42 (dk_at dksX1_layDays_4 0 rfl rfl)
theorem dX1_layDays_94 : decode cX1_layDays 94 = .ok (.aload_n 0, 1) := dk_42 (dk_at dksX1_layDays_4 1 rfl rfl)
theorem dX1_layDays_95 : decode cX1_layDays 95 = .ok (.getfield 43, 3) := dk_180 0 43 (dk_at dksX1_layDays_4 2 rfl rfl)
theorem dX1_layDays_98 : decode cX1_layDays 98 = .ok (.iload 6, 2) := dk_21 6 (dk_at dksX1_layDays_4 5 rfl rfl)
theorem dX1_layDays_100 : decode cX1_layDays 100 = .ok (.iaload, 1) := dk_46 (dk_at dksX1_layDays_4 7 rfl rfl)
theorem dX1_layDays_101 : decode cX1_layDays 101 = .ok (.invokevirtual 122, 3) := dk_182 0 122 (dk_at dksX1_layDays_4 8 rfl rfl)
theorem dX1_layDays_104 : decode cX1_layDays 104 = .ok (.ifCond .eq 17, 3) := dk_153 0 17 (dk_at dksX1_layDays_4 11 rfl rfl)
theorem dX1_layDays_107 : decode cX1_layDays 107 = .ok (.aload_n 0, 1) := dk_42 (dk_at dksX1_layDays_4 14 rfl rfl)
theorem dX1_layDays_108 : decode cX1_layDays 108 = .ok (.aload_n 0, 1) := dk_42 (dk_at dksX1_layDays_4 15 rfl rfl)
theorem dX1_layDays_109 : decode cX1_layDays 109 = .ok (.getfield 46, 3) := dk_180 0 46 (dk_at dksX1_layDays_4 16 rfl rfl)
theorem dX1_layDays_112 : decode cX1_layDays 112 = .ok (.iload 6, 2) := dk_21 6 (dk_at dksX1_layDays_4 19 rfl rfl)
theorem dX1_layDays_114 : decode cX1_layDays 114 = .ok (.iaload, 1) := dk_46 (dk_at dksX1_layDays_4 21 rfl rfl)
theorem dX1_layDays_115 : decode cX1_layDays 115 = .ok (.invokevirtual 128, 3) := dk_182 0 128 (dk_at dksX1_layDays_5 0 rfl rfl)
theorem dX1_layDays_118 : decode cX1_layDays 118 = .ok (.ifCond .ne 5, 3) := dk_154 0 5 (dk_at dksX1_layDays_5 3 rfl rfl)
theorem dX1_layDays_121 : decode cX1_layDays 121 = .ok (.iconst (-1), 1) := dk_2 (dk_at dksX1_layDays_5 6 rfl rfl)
theorem dX1_layDays_122 : decode cX1_layDays 122 = .ok (.ireturn, 1) := dk_172 (dk_at dksX1_layDays_5 7 rfl rfl)
theorem dX1_layDays_123 : decode cX1_layDays 123 = .ok (.iinc 6 1, 3) := dk_132 6 1 (dk_at dksX1_layDays_5 8 rfl rfl)
theorem dX1_layDays_126 : decode cX1_layDays 126 = .ok (.goto (-88), 3) := dk_167 255 168 (dk_at dksX1_layDays_5 11 rfl rfl)
theorem dX1_layDays_129 : decode cX1_layDays 129 = .ok (.aload_n 0, 1) := dk_42 (dk_at dksX1_layDays_5 14 rfl rfl)
theorem dX1_layDays_130 : decode cX1_layDays 130 = .ok (.iload 4, 2) := dk_21 4 (dk_at dksX1_layDays_5 15 rfl rfl)
theorem dX1_layDays_132 : decode cX1_layDays 132 = .ok (.putfield 140, 3) := dk_181 0 140 (dk_at dksX1_layDays_5 17 rfl rfl)
theorem dX1_layDays_135 : decode cX1_layDays 135 = .ok (.iconst 0, 1) := dk_3 (dk_at dksX1_layDays_5 20 rfl rfl)
theorem dX1_layDays_136 : decode cX1_layDays 136 = .ok (.ireturn, 1) := dk_172 (dk_at dksX1_layDays_5 21 rfl rfl)
abbrev cX1_goDays : ByteArray := prog_15_method_32_code
def yX1_goDays : MethodName := ⟨RX1, "goDays", "()I"⟩
def dkwX1_goDays_3 : List UInt8 := [167, 0, 4, 3, 96, 181, 0, 143, 132, 1, 1, 167, 255, 186, 16, 247, 172]
abbrev dktX1_goDays_3 : List UInt8 := dkwX1_goDays_3 ++ []
def dkwX1_goDays_2 : List UInt8 := [180, 0, 143, 42, 42, 180, 0, 43, 27, 46, 42, 180, 0, 46, 27, 46, 182, 0, 137, 153, 0, 7, 4]
abbrev dktX1_goDays_2 : List UInt8 := dkwX1_goDays_2 ++ dktX1_goDays_3
def dkwX1_goDays_1 : List UInt8 := [180, 0, 43, 27, 46, 46, 42, 180, 0, 46, 27, 46, 122, 4, 126, 4, 160, 0, 5, 27, 172, 42, 89]
abbrev dktX1_goDays_1 : List UInt8 := dkwX1_goDays_1 ++ dktX1_goDays_2
def dkwX1_goDays_0 : List UInt8 := [42, 182, 0, 134, 42, 3, 181, 0, 143, 3, 60, 27, 42, 180, 0, 140, 162, 0, 68, 42, 180, 0, 40, 42]
abbrev dktX1_goDays_0 : List UInt8 := dkwX1_goDays_0 ++ dktX1_goDays_1
theorem dksX1_goDays_0 : cX1_goDays.data.toList.drop 0 = dktX1_goDays_0 := by decide +kernel
theorem dksX1_goDays_1 : cX1_goDays.data.toList.drop 24 = dktX1_goDays_1 := dk_seg dksX1_goDays_0 24 rfl rfl
theorem dksX1_goDays_2 : cX1_goDays.data.toList.drop 47 = dktX1_goDays_2 := dk_seg dksX1_goDays_1 23 rfl rfl
theorem dksX1_goDays_3 : cX1_goDays.data.toList.drop 70 = dktX1_goDays_3 := dk_seg dksX1_goDays_2 23 rfl rfl
theorem dX1_goDays_0 : decode cX1_goDays 0 = .ok (.aload_n 0, 1) := dk_42 (dk_at dksX1_goDays_0 0 rfl rfl)
theorem dX1_goDays_1 : decode cX1_goDays 1 = .ok (.invokevirtual 134, 3) := dk_182 0 134 (dk_at dksX1_goDays_0 1 rfl rfl)
theorem dX1_goDays_4 : decode cX1_goDays 4 = .ok (.aload_n 0, 1) := dk_42 (dk_at dksX1_goDays_0 4 rfl rfl)
theorem dX1_goDays_5 : decode cX1_goDays 5 = .ok (.iconst 0, 1) := dk_3 (dk_at dksX1_goDays_0 5 rfl rfl)
theorem dX1_goDays_6 : decode cX1_goDays 6 = .ok (.putfield 143, 3) := dk_181 0 143 (dk_at dksX1_goDays_0 6 rfl rfl)
theorem dX1_goDays_9 : decode cX1_goDays 9 = .ok (.iconst 0, 1) := dk_3 (dk_at dksX1_goDays_0 9 rfl rfl)
theorem dX1_goDays_10 : decode cX1_goDays 10 = .ok (.istore_n 1, 1) := dk_60 (dk_at dksX1_goDays_0 10 rfl rfl)
theorem dX1_goDays_11 : decode cX1_goDays 11 = .ok (.iload_n 1, 1) := dk_27 (dk_at dksX1_goDays_0 11 rfl rfl)
theorem dX1_goDays_12 : decode cX1_goDays 12 = .ok (.aload_n 0, 1) := dk_42 (dk_at dksX1_goDays_0 12 rfl rfl)
theorem dX1_goDays_13 : decode cX1_goDays 13 = .ok (.getfield 140, 3) := dk_180 0 140 (dk_at dksX1_goDays_0 13 rfl rfl)
theorem dX1_goDays_16 : decode cX1_goDays 16 = .ok (.if_icmp .ge 68, 3) := dk_162 0 68 (dk_at dksX1_goDays_0 16 rfl rfl)
theorem dX1_goDays_19 : decode cX1_goDays 19 = .ok (.aload_n 0, 1) := dk_42 (dk_at dksX1_goDays_0 19 rfl rfl)
theorem dX1_goDays_20 : decode cX1_goDays 20 = .ok (.getfield 40, 3) := dk_180 0 40 (dk_at dksX1_goDays_0 20 rfl rfl)
theorem dX1_goDays_23 : decode cX1_goDays 23 = .ok (.aload_n 0, 1) := dk_42 (dk_at dksX1_goDays_0 23 rfl rfl)
theorem dX1_goDays_24 : decode cX1_goDays 24 = .ok (.getfield 43, 3) := dk_180 0 43 (dk_at dksX1_goDays_1 0 rfl rfl)
theorem dX1_goDays_27 : decode cX1_goDays 27 = .ok (.iload_n 1, 1) := dk_27 (dk_at dksX1_goDays_1 3 rfl rfl)
theorem dX1_goDays_28 : decode cX1_goDays 28 = .ok (.iaload, 1) := dk_46 (dk_at dksX1_goDays_1 4 rfl rfl)
theorem dX1_goDays_29 : decode cX1_goDays 29 = .ok (.iaload, 1) := dk_46 (dk_at dksX1_goDays_1 5 rfl rfl)
theorem dX1_goDays_30 : decode cX1_goDays 30 = .ok (.aload_n 0, 1) := dk_42 (dk_at dksX1_goDays_1 6 rfl rfl)
theorem dX1_goDays_31 : decode cX1_goDays 31 = .ok (.getfield 46, 3) := dk_180 0 46 (dk_at dksX1_goDays_1 7 rfl rfl)
theorem dX1_goDays_34 : decode cX1_goDays 34 = .ok (.iload_n 1, 1) := dk_27 (dk_at dksX1_goDays_1 10 rfl rfl)
theorem dX1_goDays_35 : decode cX1_goDays 35 = .ok (.iaload, 1) := dk_46 (dk_at dksX1_goDays_1 11 rfl rfl)
theorem dX1_goDays_36 : decode cX1_goDays 36 = .ok (.ishr, 1) := dk_122 (dk_at dksX1_goDays_1 12 rfl rfl)
theorem dX1_goDays_37 : decode cX1_goDays 37 = .ok (.iconst 1, 1) := dk_4 (dk_at dksX1_goDays_1 13 rfl rfl)
theorem dX1_goDays_38 : decode cX1_goDays 38 = .ok (.iand, 1) := dk_126 (dk_at dksX1_goDays_1 14 rfl rfl)
theorem dX1_goDays_39 : decode cX1_goDays 39 = .ok (.iconst 1, 1) := dk_4 (dk_at dksX1_goDays_1 15 rfl rfl)
theorem dX1_goDays_40 : decode cX1_goDays 40 = .ok (.if_icmp .ne 5, 3) := dk_160 0 5 (dk_at dksX1_goDays_1 16 rfl rfl)
theorem dX1_goDays_43 : decode cX1_goDays 43 = .ok (.iload_n 1, 1) := dk_27 (dk_at dksX1_goDays_1 19 rfl rfl)
theorem dX1_goDays_44 : decode cX1_goDays 44 = .ok (.ireturn, 1) := dk_172 (dk_at dksX1_goDays_1 20 rfl rfl)
theorem dX1_goDays_45 : decode cX1_goDays 45 = .ok (.aload_n 0, 1) := dk_42 (dk_at dksX1_goDays_1 21 rfl rfl)
theorem dX1_goDays_46 : decode cX1_goDays 46 = .ok (.dup, 1) := dk_89 (dk_at dksX1_goDays_1 22 rfl rfl)
theorem dX1_goDays_47 : decode cX1_goDays 47 = .ok (.getfield 143, 3) := dk_180 0 143 (dk_at dksX1_goDays_2 0 rfl rfl)
theorem dX1_goDays_50 : decode cX1_goDays 50 = .ok (.aload_n 0, 1) := dk_42 (dk_at dksX1_goDays_2 3 rfl rfl)
theorem dX1_goDays_51 : decode cX1_goDays 51 = .ok (.aload_n 0, 1) := dk_42 (dk_at dksX1_goDays_2 4 rfl rfl)
theorem dX1_goDays_52 : decode cX1_goDays 52 = .ok (.getfield 43, 3) := dk_180 0 43 (dk_at dksX1_goDays_2 5 rfl rfl)
theorem dX1_goDays_55 : decode cX1_goDays 55 = .ok (.iload_n 1, 1) := dk_27 (dk_at dksX1_goDays_2 8 rfl rfl)
theorem dX1_goDays_56 : decode cX1_goDays 56 = .ok (.iaload, 1) := dk_46 (dk_at dksX1_goDays_2 9 rfl rfl)
theorem dX1_goDays_57 : decode cX1_goDays 57 = .ok (.aload_n 0, 1) := dk_42 (dk_at dksX1_goDays_2 10 rfl rfl)
theorem dX1_goDays_58 : decode cX1_goDays 58 = .ok (.getfield 46, 3) := dk_180 0 46 (dk_at dksX1_goDays_2 11 rfl rfl)
theorem dX1_goDays_61 : decode cX1_goDays 61 = .ok (.iload_n 1, 1) := dk_27 (dk_at dksX1_goDays_2 14 rfl rfl)
theorem dX1_goDays_62 : decode cX1_goDays 62 = .ok (.iaload, 1) := dk_46 (dk_at dksX1_goDays_2 15 rfl rfl)
theorem dX1_goDays_63 : decode cX1_goDays 63 = .ok (.invokevirtual 137, 3) := dk_182 0 137 (dk_at dksX1_goDays_2 16 rfl rfl)
theorem dX1_goDays_66 : decode cX1_goDays 66 = .ok (.ifCond .eq 7, 3) := dk_153 0 7 (dk_at dksX1_goDays_2 19 rfl rfl)
theorem dX1_goDays_69 : decode cX1_goDays 69 = .ok (.iconst 1, 1) := dk_4 (dk_at dksX1_goDays_2 22 rfl rfl)
theorem dX1_goDays_70 : decode cX1_goDays 70 = .ok (.goto 4, 3) := dk_167 0 4 (dk_at dksX1_goDays_3 0 rfl rfl)
theorem dX1_goDays_73 : decode cX1_goDays 73 = .ok (.iconst 0, 1) := dk_3 (dk_at dksX1_goDays_3 3 rfl rfl)
theorem dX1_goDays_74 : decode cX1_goDays 74 = .ok (.iadd, 1) := dk_96 (dk_at dksX1_goDays_3 4 rfl rfl)
theorem dX1_goDays_75 : decode cX1_goDays 75 = .ok (.putfield 143, 3) := dk_181 0 143 (dk_at dksX1_goDays_3 5 rfl rfl)
theorem dX1_goDays_78 : decode cX1_goDays 78 = .ok (.iinc 1 1, 3) := dk_132 1 1 (dk_at dksX1_goDays_3 8 rfl rfl)
theorem dX1_goDays_81 : decode cX1_goDays 81 = .ok (.goto (-70), 3) := dk_167 255 186 (dk_at dksX1_goDays_3 11 rfl rfl)
theorem dX1_goDays_84 : decode cX1_goDays 84 = .ok (.bipush (-9), 2) := dk_16 247 (dk_at dksX1_goDays_3 14 rfl rfl)
theorem dX1_goDays_86 : decode cX1_goDays 86 = .ok (.ireturn, 1) := dk_172 (dk_at dksX1_goDays_3 16 rfl rfl)
abbrev cX1_tellDays : ByteArray := prog_15_method_34_code
def yX1_tellDays : MethodName := ⟨RX1, "tellDays", "(I)I"⟩
def dkwX1_tellDays_4 : List UInt8 := [167, 0, 9, 42, 180, 0, 40, 28, 46, 172]
abbrev dktX1_tellDays_4 : List UInt8 := dkwX1_tellDays_4 ++ []
def dkwX1_tellDays_3 : List UInt8 := [154, 0, 6, 16, 247, 172, 27, 16, 20, 162, 0, 17, 42, 28, 42, 180, 0, 40, 28, 46, 182, 0, 125]
abbrev dktX1_tellDays_3 : List UInt8 := dkwX1_tellDays_3 ++ dktX1_tellDays_4
def dkwX1_tellDays_2 : List UInt8 := [167, 0, 4, 28, 61, 132, 3, 1, 167, 255, 219, 28, 172, 27, 16, 10, 112, 61, 42, 28, 182, 0, 122]
abbrev dktX1_tellDays_2 : List UInt8 := dkwX1_tellDays_2 ++ dktX1_tellDays_3
def dkwX1_tellDays_1 : List UInt8 := [162, 0, 35, 42, 29, 42, 180, 0, 40, 29, 46, 182, 0, 125, 54, 4, 21, 4, 28, 164, 0, 8, 21, 4]
abbrev dktX1_tellDays_1 : List UInt8 := dkwX1_tellDays_1 ++ dktX1_tellDays_2
def dkwX1_tellDays_0 : List UInt8 := [27, 154, 0, 8, 42, 180, 0, 143, 172, 27, 5, 160, 0, 49, 3, 61, 3, 62, 29, 42, 180, 0, 68]
abbrev dktX1_tellDays_0 : List UInt8 := dkwX1_tellDays_0 ++ dktX1_tellDays_1
theorem dksX1_tellDays_0 : cX1_tellDays.data.toList.drop 0 = dktX1_tellDays_0 := by decide +kernel
theorem dksX1_tellDays_1 : cX1_tellDays.data.toList.drop 23 = dktX1_tellDays_1 := dk_seg dksX1_tellDays_0 23 rfl rfl
theorem dksX1_tellDays_2 : cX1_tellDays.data.toList.drop 47 = dktX1_tellDays_2 := dk_seg dksX1_tellDays_1 24 rfl rfl
theorem dksX1_tellDays_3 : cX1_tellDays.data.toList.drop 70 = dktX1_tellDays_3 := dk_seg dksX1_tellDays_2 23 rfl rfl
theorem dksX1_tellDays_4 : cX1_tellDays.data.toList.drop 93 = dktX1_tellDays_4 := dk_seg dksX1_tellDays_3 23 rfl rfl
theorem dX1_tellDays_0 : decode cX1_tellDays 0 = .ok (.iload_n 1, 1) := dk_27 (dk_at dksX1_tellDays_0 0 rfl rfl)
theorem dX1_tellDays_1 : decode cX1_tellDays 1 = .ok (.ifCond .ne 8, 3) := dk_154 0 8 (dk_at dksX1_tellDays_0 1 rfl rfl)
theorem dX1_tellDays_4 : decode cX1_tellDays 4 = .ok (.aload_n 0, 1) := dk_42 (dk_at dksX1_tellDays_0 4 rfl rfl)
theorem dX1_tellDays_5 : decode cX1_tellDays 5 = .ok (.getfield 143, 3) := dk_180 0 143 (dk_at dksX1_tellDays_0 5 rfl rfl)
theorem dX1_tellDays_8 : decode cX1_tellDays 8 = .ok (.ireturn, 1) := dk_172 (dk_at dksX1_tellDays_0 8 rfl rfl)
theorem dX1_tellDays_9 : decode cX1_tellDays 9 = .ok (.iload_n 1, 1) := dk_27 (dk_at dksX1_tellDays_0 9 rfl rfl)
theorem dX1_tellDays_10 : decode cX1_tellDays 10 = .ok (.iconst 2, 1) := dk_5 (dk_at dksX1_tellDays_0 10 rfl rfl)
theorem dX1_tellDays_11 : decode cX1_tellDays 11 = .ok (.if_icmp .ne 49, 3) := dk_160 0 49 (dk_at dksX1_tellDays_0 11 rfl rfl)
theorem dX1_tellDays_14 : decode cX1_tellDays 14 = .ok (.iconst 0, 1) := dk_3 (dk_at dksX1_tellDays_0 14 rfl rfl)
theorem dX1_tellDays_15 : decode cX1_tellDays 15 = .ok (.istore_n 2, 1) := dk_61 (dk_at dksX1_tellDays_0 15 rfl rfl)
theorem dX1_tellDays_16 : decode cX1_tellDays 16 = .ok (.iconst 0, 1) := dk_3 (dk_at dksX1_tellDays_0 16 rfl rfl)
theorem dX1_tellDays_17 : decode cX1_tellDays 17 = .ok (.istore_n 3, 1) := dk_62 (dk_at dksX1_tellDays_0 17 rfl rfl)
theorem dX1_tellDays_18 : decode cX1_tellDays 18 = .ok (.iload_n 3, 1) := dk_29 (dk_at dksX1_tellDays_0 18 rfl rfl)
theorem dX1_tellDays_19 : decode cX1_tellDays 19 = .ok (.aload_n 0, 1) := dk_42 (dk_at dksX1_tellDays_0 19 rfl rfl)
theorem dX1_tellDays_20 : decode cX1_tellDays 20 = .ok (.getfield 68, 3) := dk_180 0 68 (dk_at dksX1_tellDays_0 20 rfl rfl)
theorem dX1_tellDays_23 : decode cX1_tellDays 23 = .ok (.if_icmp .ge 35, 3) := dk_162 0 35 (dk_at dksX1_tellDays_1 0 rfl rfl)
theorem dX1_tellDays_26 : decode cX1_tellDays 26 = .ok (.aload_n 0, 1) := dk_42 (dk_at dksX1_tellDays_1 3 rfl rfl)
theorem dX1_tellDays_27 : decode cX1_tellDays 27 = .ok (.iload_n 3, 1) := dk_29 (dk_at dksX1_tellDays_1 4 rfl rfl)
theorem dX1_tellDays_28 : decode cX1_tellDays 28 = .ok (.aload_n 0, 1) := dk_42 (dk_at dksX1_tellDays_1 5 rfl rfl)
theorem dX1_tellDays_29 : decode cX1_tellDays 29 = .ok (.getfield 40, 3) := dk_180 0 40 (dk_at dksX1_tellDays_1 6 rfl rfl)
theorem dX1_tellDays_32 : decode cX1_tellDays 32 = .ok (.iload_n 3, 1) := dk_29 (dk_at dksX1_tellDays_1 9 rfl rfl)
theorem dX1_tellDays_33 : decode cX1_tellDays 33 = .ok (.iaload, 1) := dk_46 (dk_at dksX1_tellDays_1 10 rfl rfl)
theorem dX1_tellDays_34 : decode cX1_tellDays 34 = .ok (.invokevirtual 125, 3) := dk_182 0 125 (dk_at dksX1_tellDays_1 11 rfl rfl)
theorem dX1_tellDays_37 : decode cX1_tellDays 37 = .ok (.istore 4, 2) := dk_54 4 (dk_at dksX1_tellDays_1 14 rfl rfl)
theorem dX1_tellDays_39 : decode cX1_tellDays 39 = .ok (.iload 4, 2) := dk_21 4 (dk_at dksX1_tellDays_1 16 rfl rfl)
theorem dX1_tellDays_41 : decode cX1_tellDays 41 = .ok (.iload_n 2, 1) := dk_28 (dk_at dksX1_tellDays_1 18 rfl rfl)
theorem dX1_tellDays_42 : decode cX1_tellDays 42 = .ok (.if_icmp .le 8, 3) := dk_164 0 8 (dk_at dksX1_tellDays_1 19 rfl rfl)
theorem dX1_tellDays_45 : decode cX1_tellDays 45 = .ok (.iload 4, 2) := dk_21 4 (dk_at dksX1_tellDays_1 22 rfl rfl)
theorem dX1_tellDays_47 : decode cX1_tellDays 47 = .ok (.goto 4, 3) := dk_167 0 4 (dk_at dksX1_tellDays_2 0 rfl rfl)
theorem dX1_tellDays_50 : decode cX1_tellDays 50 = .ok (.iload_n 2, 1) := dk_28 (dk_at dksX1_tellDays_2 3 rfl rfl)
theorem dX1_tellDays_51 : decode cX1_tellDays 51 = .ok (.istore_n 2, 1) := dk_61 (dk_at dksX1_tellDays_2 4 rfl rfl)
theorem dX1_tellDays_52 : decode cX1_tellDays 52 = .ok (.iinc 3 1, 3) := dk_132 3 1 (dk_at dksX1_tellDays_2 5 rfl rfl)
theorem dX1_tellDays_55 : decode cX1_tellDays 55 = .ok (.goto (-37), 3) := dk_167 255 219 (dk_at dksX1_tellDays_2 8 rfl rfl)
theorem dX1_tellDays_58 : decode cX1_tellDays 58 = .ok (.iload_n 2, 1) := dk_28 (dk_at dksX1_tellDays_2 11 rfl rfl)
theorem dX1_tellDays_59 : decode cX1_tellDays 59 = .ok (.ireturn, 1) := dk_172 (dk_at dksX1_tellDays_2 12 rfl rfl)
theorem dX1_tellDays_60 : decode cX1_tellDays 60 = .ok (.iload_n 1, 1) := dk_27 (dk_at dksX1_tellDays_2 13 rfl rfl)
theorem dX1_tellDays_61 : decode cX1_tellDays 61 = .ok (.bipush 10, 2) := dk_16 10 (dk_at dksX1_tellDays_2 14 rfl rfl)
theorem dX1_tellDays_63 : decode cX1_tellDays 63 = .ok (.irem, 1) := dk_112 (dk_at dksX1_tellDays_2 16 rfl rfl)
theorem dX1_tellDays_64 : decode cX1_tellDays 64 = .ok (.istore_n 2, 1) := dk_61 (dk_at dksX1_tellDays_2 17 rfl rfl)
theorem dX1_tellDays_65 : decode cX1_tellDays 65 = .ok (.aload_n 0, 1) := dk_42 (dk_at dksX1_tellDays_2 18 rfl rfl)
theorem dX1_tellDays_66 : decode cX1_tellDays 66 = .ok (.iload_n 2, 1) := dk_28 (dk_at dksX1_tellDays_2 19 rfl rfl)
theorem dX1_tellDays_67 : decode cX1_tellDays 67 = .ok (.invokevirtual 122, 3) := dk_182 0 122 (dk_at dksX1_tellDays_2 20 rfl rfl)
theorem dX1_tellDays_70 : decode cX1_tellDays 70 = .ok (.ifCond .ne 6, 3) := dk_154 0 6 (dk_at dksX1_tellDays_3 0 rfl rfl)
theorem dX1_tellDays_73 : decode cX1_tellDays 73 = .ok (.bipush (-9), 2) := dk_16 247 (dk_at dksX1_tellDays_3 3 rfl rfl)
theorem dX1_tellDays_75 : decode cX1_tellDays 75 = .ok (.ireturn, 1) := dk_172 (dk_at dksX1_tellDays_3 5 rfl rfl)
theorem dX1_tellDays_76 : decode cX1_tellDays 76 = .ok (.iload_n 1, 1) := dk_27 (dk_at dksX1_tellDays_3 6 rfl rfl)
theorem dX1_tellDays_77 : decode cX1_tellDays 77 = .ok (.bipush 20, 2) := dk_16 20 (dk_at dksX1_tellDays_3 7 rfl rfl)
theorem dX1_tellDays_79 : decode cX1_tellDays 79 = .ok (.if_icmp .ge 17, 3) := dk_162 0 17 (dk_at dksX1_tellDays_3 9 rfl rfl)
theorem dX1_tellDays_82 : decode cX1_tellDays 82 = .ok (.aload_n 0, 1) := dk_42 (dk_at dksX1_tellDays_3 12 rfl rfl)
theorem dX1_tellDays_83 : decode cX1_tellDays 83 = .ok (.iload_n 2, 1) := dk_28 (dk_at dksX1_tellDays_3 13 rfl rfl)
theorem dX1_tellDays_84 : decode cX1_tellDays 84 = .ok (.aload_n 0, 1) := dk_42 (dk_at dksX1_tellDays_3 14 rfl rfl)
theorem dX1_tellDays_85 : decode cX1_tellDays 85 = .ok (.getfield 40, 3) := dk_180 0 40 (dk_at dksX1_tellDays_3 15 rfl rfl)
theorem dX1_tellDays_88 : decode cX1_tellDays 88 = .ok (.iload_n 2, 1) := dk_28 (dk_at dksX1_tellDays_3 18 rfl rfl)
theorem dX1_tellDays_89 : decode cX1_tellDays 89 = .ok (.iaload, 1) := dk_46 (dk_at dksX1_tellDays_3 19 rfl rfl)
theorem dX1_tellDays_90 : decode cX1_tellDays 90 = .ok (.invokevirtual 125, 3) := dk_182 0 125 (dk_at dksX1_tellDays_3 20 rfl rfl)
theorem dX1_tellDays_93 : decode cX1_tellDays 93 = .ok (.goto 9, 3) := dk_167 0 9 (dk_at dksX1_tellDays_4 0 rfl rfl)
theorem dX1_tellDays_96 : decode cX1_tellDays 96 = .ok (.aload_n 0, 1) := dk_42 (dk_at dksX1_tellDays_4 3 rfl rfl)
theorem dX1_tellDays_97 : decode cX1_tellDays 97 = .ok (.getfield 40, 3) := dk_180 0 40 (dk_at dksX1_tellDays_4 4 rfl rfl)
theorem dX1_tellDays_100 : decode cX1_tellDays 100 = .ok (.iload_n 2, 1) := dk_28 (dk_at dksX1_tellDays_4 7 rfl rfl)
theorem dX1_tellDays_101 : decode cX1_tellDays 101 = .ok (.iaload, 1) := dk_46 (dk_at dksX1_tellDays_4 8 rfl rfl)
theorem dX1_tellDays_102 : decode cX1_tellDays 102 = .ok (.ireturn, 1) := dk_172 (dk_at dksX1_tellDays_4 9 rfl rfl)
abbrev cX1_way : ByteArray := prog_15_method_37_code
def yX1_way : MethodName := ⟨RX1, "way", "(II)I"⟩
def dkwX1_way_3 : List UInt8 := [162, 0, 6, 21, 4, 62, 132, 4, 1, 167, 255, 200, 29, 172]
abbrev dktX1_way_3 : List UInt8 := dkwX1_way_3 ++ []
def dkwX1_way_2 : List UInt8 := [21, 4, 182, 0, 125, 28, 160, 0, 24, 29, 16, 247, 159, 0, 15, 21, 4, 184, 0, 162, 29, 184, 0, 162]
abbrev dktX1_way_2 : List UInt8 := dkwX1_way_2 ++ dktX1_way_3
def dkwX1_way_1 : List UInt8 := [21, 4, 4, 42, 180, 0, 65, 120, 162, 0, 51, 42, 27, 21, 4, 182, 0, 159, 153, 0, 35, 42, 27]
abbrev dktX1_way_1 : List UInt8 := dkwX1_way_1 ++ dktX1_way_2
def dkwX1_way_0 : List UInt8 := [42, 27, 182, 0, 122, 154, 0, 5, 2, 172, 28, 156, 0, 6, 16, 254, 172, 16, 247, 62, 3, 54, 4]
abbrev dktX1_way_0 : List UInt8 := dkwX1_way_0 ++ dktX1_way_1
theorem dksX1_way_0 : cX1_way.data.toList.drop 0 = dktX1_way_0 := by decide +kernel
theorem dksX1_way_1 : cX1_way.data.toList.drop 23 = dktX1_way_1 := dk_seg dksX1_way_0 23 rfl rfl
theorem dksX1_way_2 : cX1_way.data.toList.drop 46 = dktX1_way_2 := dk_seg dksX1_way_1 23 rfl rfl
theorem dksX1_way_3 : cX1_way.data.toList.drop 70 = dktX1_way_3 := dk_seg dksX1_way_2 24 rfl rfl
theorem dX1_way_0 : decode cX1_way 0 = .ok (.aload_n 0, 1) := dk_42 (dk_at dksX1_way_0 0 rfl rfl)
theorem dX1_way_1 : decode cX1_way 1 = .ok (.iload_n 1, 1) := dk_27 (dk_at dksX1_way_0 1 rfl rfl)
theorem dX1_way_2 : decode cX1_way 2 = .ok (.invokevirtual 122, 3) := dk_182 0 122 (dk_at dksX1_way_0 2 rfl rfl)
theorem dX1_way_5 : decode cX1_way 5 = .ok (.ifCond .ne 5, 3) := dk_154 0 5 (dk_at dksX1_way_0 5 rfl rfl)
theorem dX1_way_8 : decode cX1_way 8 = .ok (.iconst (-1), 1) := dk_2 (dk_at dksX1_way_0 8 rfl rfl)
theorem dX1_way_9 : decode cX1_way 9 = .ok (.ireturn, 1) := dk_172 (dk_at dksX1_way_0 9 rfl rfl)
theorem dX1_way_10 : decode cX1_way 10 = .ok (.iload_n 2, 1) := dk_28 (dk_at dksX1_way_0 10 rfl rfl)
theorem dX1_way_11 : decode cX1_way 11 = .ok (.ifCond .ge 6, 3) := dk_156 0 6 (dk_at dksX1_way_0 11 rfl rfl)
theorem dX1_way_14 : decode cX1_way 14 = .ok (.bipush (-2), 2) := dk_16 254 (dk_at dksX1_way_0 14 rfl rfl)
theorem dX1_way_16 : decode cX1_way 16 = .ok (.ireturn, 1) := dk_172 (dk_at dksX1_way_0 16 rfl rfl)
theorem dX1_way_17 : decode cX1_way 17 = .ok (.bipush (-9), 2) := dk_16 247 (dk_at dksX1_way_0 17 rfl rfl)
theorem dX1_way_19 : decode cX1_way 19 = .ok (.istore_n 3, 1) := dk_62 (dk_at dksX1_way_0 19 rfl rfl)
theorem dX1_way_20 : decode cX1_way 20 = .ok (.iconst 0, 1) := dk_3 (dk_at dksX1_way_0 20 rfl rfl)
theorem dX1_way_21 : decode cX1_way 21 = .ok (.istore 4, 2) := dk_54 4 (dk_at dksX1_way_0 21 rfl rfl)
theorem dX1_way_23 : decode cX1_way 23 = .ok (.iload 4, 2) := dk_21 4 (dk_at dksX1_way_1 0 rfl rfl)
theorem dX1_way_25 : decode cX1_way 25 = .ok (.iconst 1, 1) := dk_4 (dk_at dksX1_way_1 2 rfl rfl)
theorem dX1_way_26 : decode cX1_way 26 = .ok (.aload_n 0, 1) := dk_42 (dk_at dksX1_way_1 3 rfl rfl)
theorem dX1_way_27 : decode cX1_way 27 = .ok (.getfield 65, 3) := dk_180 0 65 (dk_at dksX1_way_1 4 rfl rfl)
theorem dX1_way_30 : decode cX1_way 30 = .ok (.ishl, 1) := dk_120 (dk_at dksX1_way_1 7 rfl rfl)
theorem dX1_way_31 : decode cX1_way 31 = .ok (.if_icmp .ge 51, 3) := dk_162 0 51 (dk_at dksX1_way_1 8 rfl rfl)
theorem dX1_way_34 : decode cX1_way 34 = .ok (.aload_n 0, 1) := dk_42 (dk_at dksX1_way_1 11 rfl rfl)
theorem dX1_way_35 : decode cX1_way 35 = .ok (.iload_n 1, 1) := dk_27 (dk_at dksX1_way_1 12 rfl rfl)
theorem dX1_way_36 : decode cX1_way 36 = .ok (.iload 4, 2) := dk_21 4 (dk_at dksX1_way_1 13 rfl rfl)
theorem dX1_way_38 : decode cX1_way 38 = .ok (.invokevirtual 159, 3) := dk_182 0 159 (dk_at dksX1_way_1 15 rfl rfl)
theorem dX1_way_41 : decode cX1_way 41 = .ok (.ifCond .eq 35, 3) := dk_153 0 35 (dk_at dksX1_way_1 18 rfl rfl)
theorem dX1_way_44 : decode cX1_way 44 = .ok (.aload_n 0, 1) := dk_42 (dk_at dksX1_way_1 21 rfl rfl)
theorem dX1_way_45 : decode cX1_way 45 = .ok (.iload_n 1, 1) := dk_27 (dk_at dksX1_way_1 22 rfl rfl)
theorem dX1_way_46 : decode cX1_way 46 = .ok (.iload 4, 2) := dk_21 4 (dk_at dksX1_way_2 0 rfl rfl)
theorem dX1_way_48 : decode cX1_way 48 = .ok (.invokevirtual 125, 3) := dk_182 0 125 (dk_at dksX1_way_2 2 rfl rfl)
theorem dX1_way_51 : decode cX1_way 51 = .ok (.iload_n 2, 1) := dk_28 (dk_at dksX1_way_2 5 rfl rfl)
theorem dX1_way_52 : decode cX1_way 52 = .ok (.if_icmp .ne 24, 3) := dk_160 0 24 (dk_at dksX1_way_2 6 rfl rfl)
theorem dX1_way_55 : decode cX1_way 55 = .ok (.iload_n 3, 1) := dk_29 (dk_at dksX1_way_2 9 rfl rfl)
theorem dX1_way_56 : decode cX1_way 56 = .ok (.bipush (-9), 2) := dk_16 247 (dk_at dksX1_way_2 10 rfl rfl)
theorem dX1_way_58 : decode cX1_way 58 = .ok (.if_icmp .eq 15, 3) := dk_159 0 15 (dk_at dksX1_way_2 12 rfl rfl)
theorem dX1_way_61 : decode cX1_way 61 = .ok (.iload 4, 2) := dk_21 4 (dk_at dksX1_way_2 15 rfl rfl)
theorem dX1_way_63 : decode cX1_way 63 = .ok (.invokestatic 162, 3) := dk_184 0 162 (dk_at dksX1_way_2 17 rfl rfl)
theorem dX1_way_66 : decode cX1_way 66 = .ok (.iload_n 3, 1) := dk_29 (dk_at dksX1_way_2 20 rfl rfl)
theorem dX1_way_67 : decode cX1_way 67 = .ok (.invokestatic 162, 3) := dk_184 0 162 (dk_at dksX1_way_2 21 rfl rfl)
theorem dX1_way_70 : decode cX1_way 70 = .ok (.if_icmp .ge 6, 3) := dk_162 0 6 (dk_at dksX1_way_3 0 rfl rfl)
theorem dX1_way_73 : decode cX1_way 73 = .ok (.iload 4, 2) := dk_21 4 (dk_at dksX1_way_3 3 rfl rfl)
theorem dX1_way_75 : decode cX1_way 75 = .ok (.istore_n 3, 1) := dk_62 (dk_at dksX1_way_3 5 rfl rfl)
theorem dX1_way_76 : decode cX1_way 76 = .ok (.iinc 4 1, 3) := dk_132 4 1 (dk_at dksX1_way_3 6 rfl rfl)
theorem dX1_way_79 : decode cX1_way 79 = .ok (.goto (-56), 3) := dk_167 255 200 (dk_at dksX1_way_3 9 rfl rfl)
theorem dX1_way_82 : decode cX1_way 82 = .ok (.iload_n 3, 1) := dk_29 (dk_at dksX1_way_3 12 rfl rfl)
theorem dX1_way_83 : decode cX1_way 83 = .ok (.ireturn, 1) := dk_172 (dk_at dksX1_way_3 13 rfl rfl)
abbrev cX1_isTruths : ByteArray := prog_15_method_36_code
def yX1_isTruths : MethodName := ⟨RX1, "isTruths", "(II)Z"⟩
def dkwX1_isTruths_0 : List UInt8 := [28, 42, 180, 0, 25, 27, 46, 2, 130, 126, 154, 0, 7, 4, 167, 0, 4, 3, 172]
abbrev dktX1_isTruths_0 : List UInt8 := dkwX1_isTruths_0 ++ []
theorem dksX1_isTruths_0 : cX1_isTruths.data.toList.drop 0 = dktX1_isTruths_0 := by decide +kernel
theorem dX1_isTruths_0 : decode cX1_isTruths 0 = .ok (.iload_n 2, 1) := dk_28 (dk_at dksX1_isTruths_0 0 rfl rfl)
theorem dX1_isTruths_1 : decode cX1_isTruths 1 = .ok (.aload_n 0, 1) := dk_42 (dk_at dksX1_isTruths_0 1 rfl rfl)
theorem dX1_isTruths_2 : decode cX1_isTruths 2 = .ok (.getfield 25, 3) := dk_180 0 25 (dk_at dksX1_isTruths_0 2 rfl rfl)
theorem dX1_isTruths_5 : decode cX1_isTruths 5 = .ok (.iload_n 1, 1) := dk_27 (dk_at dksX1_isTruths_0 5 rfl rfl)
theorem dX1_isTruths_6 : decode cX1_isTruths 6 = .ok (.iaload, 1) := dk_46 (dk_at dksX1_isTruths_0 6 rfl rfl)
theorem dX1_isTruths_7 : decode cX1_isTruths 7 = .ok (.iconst (-1), 1) := dk_2 (dk_at dksX1_isTruths_0 7 rfl rfl)
theorem dX1_isTruths_8 : decode cX1_isTruths 8 = .ok (.ixor, 1) := dk_130 (dk_at dksX1_isTruths_0 8 rfl rfl)
theorem dX1_isTruths_9 : decode cX1_isTruths 9 = .ok (.iand, 1) := dk_126 (dk_at dksX1_isTruths_0 9 rfl rfl)
theorem dX1_isTruths_10 : decode cX1_isTruths 10 = .ok (.ifCond .ne 7, 3) := dk_154 0 7 (dk_at dksX1_isTruths_0 10 rfl rfl)
theorem dX1_isTruths_13 : decode cX1_isTruths 13 = .ok (.iconst 1, 1) := dk_4 (dk_at dksX1_isTruths_0 13 rfl rfl)
theorem dX1_isTruths_14 : decode cX1_isTruths 14 = .ok (.goto 4, 3) := dk_167 0 4 (dk_at dksX1_isTruths_0 14 rfl rfl)
theorem dX1_isTruths_17 : decode cX1_isTruths 17 = .ok (.iconst 0, 1) := dk_3 (dk_at dksX1_isTruths_0 17 rfl rfl)
theorem dX1_isTruths_18 : decode cX1_isTruths 18 = .ok (.ireturn, 1) := dk_172 (dk_at dksX1_isTruths_0 18 rfl rfl)
abbrev cX1_size : ByteArray := prog_15_method_35_code
def yX1_size : MethodName := ⟨RX1, "size", "(I)I"⟩
def dkwX1_size_0 : List UInt8 := [3, 60, 26, 61, 28, 158, 0, 16, 27, 28, 4, 126, 96, 60, 28, 4, 122, 61, 167, 255, 242, 27, 172]
abbrev dktX1_size_0 : List UInt8 := dkwX1_size_0 ++ []
theorem dksX1_size_0 : cX1_size.data.toList.drop 0 = dktX1_size_0 := by decide +kernel
theorem dX1_size_0 : decode cX1_size 0 = .ok (.iconst 0, 1) := dk_3 (dk_at dksX1_size_0 0 rfl rfl)
theorem dX1_size_1 : decode cX1_size 1 = .ok (.istore_n 1, 1) := dk_60 (dk_at dksX1_size_0 1 rfl rfl)
theorem dX1_size_2 : decode cX1_size 2 = .ok (.iload_n 0, 1) := dk_26 (dk_at dksX1_size_0 2 rfl rfl)
theorem dX1_size_3 : decode cX1_size 3 = .ok (.istore_n 2, 1) := dk_61 (dk_at dksX1_size_0 3 rfl rfl)
theorem dX1_size_4 : decode cX1_size 4 = .ok (.iload_n 2, 1) := dk_28 (dk_at dksX1_size_0 4 rfl rfl)
theorem dX1_size_5 : decode cX1_size 5 = .ok (.ifCond .le 16, 3) := dk_158 0 16 (dk_at dksX1_size_0 5 rfl rfl)
theorem dX1_size_8 : decode cX1_size 8 = .ok (.iload_n 1, 1) := dk_27 (dk_at dksX1_size_0 8 rfl rfl)
theorem dX1_size_9 : decode cX1_size 9 = .ok (.iload_n 2, 1) := dk_28 (dk_at dksX1_size_0 9 rfl rfl)
theorem dX1_size_10 : decode cX1_size 10 = .ok (.iconst 1, 1) := dk_4 (dk_at dksX1_size_0 10 rfl rfl)
theorem dX1_size_11 : decode cX1_size 11 = .ok (.iand, 1) := dk_126 (dk_at dksX1_size_0 11 rfl rfl)
theorem dX1_size_12 : decode cX1_size 12 = .ok (.iadd, 1) := dk_96 (dk_at dksX1_size_0 12 rfl rfl)
theorem dX1_size_13 : decode cX1_size 13 = .ok (.istore_n 1, 1) := dk_60 (dk_at dksX1_size_0 13 rfl rfl)
theorem dX1_size_14 : decode cX1_size 14 = .ok (.iload_n 2, 1) := dk_28 (dk_at dksX1_size_0 14 rfl rfl)
theorem dX1_size_15 : decode cX1_size 15 = .ok (.iconst 1, 1) := dk_4 (dk_at dksX1_size_0 15 rfl rfl)
theorem dX1_size_16 : decode cX1_size 16 = .ok (.ishr, 1) := dk_122 (dk_at dksX1_size_0 16 rfl rfl)
theorem dX1_size_17 : decode cX1_size 17 = .ok (.istore_n 2, 1) := dk_61 (dk_at dksX1_size_0 17 rfl rfl)
theorem dX1_size_18 : decode cX1_size 18 = .ok (.goto (-14), 3) := dk_167 255 242 (dk_at dksX1_size_0 18 rfl rfl)
theorem dX1_size_21 : decode cX1_size 21 = .ok (.iload_n 1, 1) := dk_27 (dk_at dksX1_size_0 21 rfl rfl)
theorem dX1_size_22 : decode cX1_size 22 = .ok (.ireturn, 1) := dk_172 (dk_at dksX1_size_0 22 rfl rfl)
abbrev cX1_kept : ByteArray := prog_15_method_38_code
def yX1_kept : MethodName := ⟨RX1, "kept", "(II)I"⟩
def dkwX1_kept_3 : List UInt8 := [62, 132, 4, 1, 167, 255, 205, 29, 172]
abbrev dktX1_kept_3 : List UInt8 := dkwX1_kept_3 ++ []
def dkwX1_kept_2 : List UInt8 := [21, 4, 182, 0, 125, 28, 160, 0, 19, 29, 16, 247, 160, 0, 8, 21, 4, 167, 0, 7, 29, 21, 4, 126]
abbrev dktX1_kept_2 : List UInt8 := dkwX1_kept_2 ++ dktX1_kept_3
def dkwX1_kept_1 : List UInt8 := [21, 4, 4, 42, 180, 0, 65, 120, 162, 0, 46, 42, 27, 21, 4, 182, 0, 159, 153, 0, 30, 42, 27]
abbrev dktX1_kept_1 : List UInt8 := dkwX1_kept_1 ++ dktX1_kept_2
def dkwX1_kept_0 : List UInt8 := [42, 27, 182, 0, 122, 154, 0, 5, 2, 172, 28, 156, 0, 6, 16, 254, 172, 16, 247, 62, 3, 54, 4]
abbrev dktX1_kept_0 : List UInt8 := dkwX1_kept_0 ++ dktX1_kept_1
theorem dksX1_kept_0 : cX1_kept.data.toList.drop 0 = dktX1_kept_0 := by decide +kernel
theorem dksX1_kept_1 : cX1_kept.data.toList.drop 23 = dktX1_kept_1 := dk_seg dksX1_kept_0 23 rfl rfl
theorem dksX1_kept_2 : cX1_kept.data.toList.drop 46 = dktX1_kept_2 := dk_seg dksX1_kept_1 23 rfl rfl
theorem dksX1_kept_3 : cX1_kept.data.toList.drop 70 = dktX1_kept_3 := dk_seg dksX1_kept_2 24 rfl rfl
theorem dX1_kept_0 : decode cX1_kept 0 = .ok (.aload_n 0, 1) := dk_42 (dk_at dksX1_kept_0 0 rfl rfl)
theorem dX1_kept_1 : decode cX1_kept 1 = .ok (.iload_n 1, 1) := dk_27 (dk_at dksX1_kept_0 1 rfl rfl)
theorem dX1_kept_2 : decode cX1_kept 2 = .ok (.invokevirtual 122, 3) := dk_182 0 122 (dk_at dksX1_kept_0 2 rfl rfl)
theorem dX1_kept_5 : decode cX1_kept 5 = .ok (.ifCond .ne 5, 3) := dk_154 0 5 (dk_at dksX1_kept_0 5 rfl rfl)
theorem dX1_kept_8 : decode cX1_kept 8 = .ok (.iconst (-1), 1) := dk_2 (dk_at dksX1_kept_0 8 rfl rfl)
theorem dX1_kept_9 : decode cX1_kept 9 = .ok (.ireturn, 1) := dk_172 (dk_at dksX1_kept_0 9 rfl rfl)
theorem dX1_kept_10 : decode cX1_kept 10 = .ok (.iload_n 2, 1) := dk_28 (dk_at dksX1_kept_0 10 rfl rfl)
theorem dX1_kept_11 : decode cX1_kept 11 = .ok (.ifCond .ge 6, 3) := dk_156 0 6 (dk_at dksX1_kept_0 11 rfl rfl)
theorem dX1_kept_14 : decode cX1_kept 14 = .ok (.bipush (-2), 2) := dk_16 254 (dk_at dksX1_kept_0 14 rfl rfl)
theorem dX1_kept_16 : decode cX1_kept 16 = .ok (.ireturn, 1) := dk_172 (dk_at dksX1_kept_0 16 rfl rfl)
theorem dX1_kept_17 : decode cX1_kept 17 = .ok (.bipush (-9), 2) := dk_16 247 (dk_at dksX1_kept_0 17 rfl rfl)
theorem dX1_kept_19 : decode cX1_kept 19 = .ok (.istore_n 3, 1) := dk_62 (dk_at dksX1_kept_0 19 rfl rfl)
theorem dX1_kept_20 : decode cX1_kept 20 = .ok (.iconst 0, 1) := dk_3 (dk_at dksX1_kept_0 20 rfl rfl)
theorem dX1_kept_21 : decode cX1_kept 21 = .ok (.istore 4, 2) := dk_54 4 (dk_at dksX1_kept_0 21 rfl rfl)
theorem dX1_kept_23 : decode cX1_kept 23 = .ok (.iload 4, 2) := dk_21 4 (dk_at dksX1_kept_1 0 rfl rfl)
theorem dX1_kept_25 : decode cX1_kept 25 = .ok (.iconst 1, 1) := dk_4 (dk_at dksX1_kept_1 2 rfl rfl)
theorem dX1_kept_26 : decode cX1_kept 26 = .ok (.aload_n 0, 1) := dk_42 (dk_at dksX1_kept_1 3 rfl rfl)
theorem dX1_kept_27 : decode cX1_kept 27 = .ok (.getfield 65, 3) := dk_180 0 65 (dk_at dksX1_kept_1 4 rfl rfl)
theorem dX1_kept_30 : decode cX1_kept 30 = .ok (.ishl, 1) := dk_120 (dk_at dksX1_kept_1 7 rfl rfl)
theorem dX1_kept_31 : decode cX1_kept 31 = .ok (.if_icmp .ge 46, 3) := dk_162 0 46 (dk_at dksX1_kept_1 8 rfl rfl)
theorem dX1_kept_34 : decode cX1_kept 34 = .ok (.aload_n 0, 1) := dk_42 (dk_at dksX1_kept_1 11 rfl rfl)
theorem dX1_kept_35 : decode cX1_kept 35 = .ok (.iload_n 1, 1) := dk_27 (dk_at dksX1_kept_1 12 rfl rfl)
theorem dX1_kept_36 : decode cX1_kept 36 = .ok (.iload 4, 2) := dk_21 4 (dk_at dksX1_kept_1 13 rfl rfl)
theorem dX1_kept_38 : decode cX1_kept 38 = .ok (.invokevirtual 159, 3) := dk_182 0 159 (dk_at dksX1_kept_1 15 rfl rfl)
theorem dX1_kept_41 : decode cX1_kept 41 = .ok (.ifCond .eq 30, 3) := dk_153 0 30 (dk_at dksX1_kept_1 18 rfl rfl)
theorem dX1_kept_44 : decode cX1_kept 44 = .ok (.aload_n 0, 1) := dk_42 (dk_at dksX1_kept_1 21 rfl rfl)
theorem dX1_kept_45 : decode cX1_kept 45 = .ok (.iload_n 1, 1) := dk_27 (dk_at dksX1_kept_1 22 rfl rfl)
theorem dX1_kept_46 : decode cX1_kept 46 = .ok (.iload 4, 2) := dk_21 4 (dk_at dksX1_kept_2 0 rfl rfl)
theorem dX1_kept_48 : decode cX1_kept 48 = .ok (.invokevirtual 125, 3) := dk_182 0 125 (dk_at dksX1_kept_2 2 rfl rfl)
theorem dX1_kept_51 : decode cX1_kept 51 = .ok (.iload_n 2, 1) := dk_28 (dk_at dksX1_kept_2 5 rfl rfl)
theorem dX1_kept_52 : decode cX1_kept 52 = .ok (.if_icmp .ne 19, 3) := dk_160 0 19 (dk_at dksX1_kept_2 6 rfl rfl)
theorem dX1_kept_55 : decode cX1_kept 55 = .ok (.iload_n 3, 1) := dk_29 (dk_at dksX1_kept_2 9 rfl rfl)
theorem dX1_kept_56 : decode cX1_kept 56 = .ok (.bipush (-9), 2) := dk_16 247 (dk_at dksX1_kept_2 10 rfl rfl)
theorem dX1_kept_58 : decode cX1_kept 58 = .ok (.if_icmp .ne 8, 3) := dk_160 0 8 (dk_at dksX1_kept_2 12 rfl rfl)
theorem dX1_kept_61 : decode cX1_kept 61 = .ok (.iload 4, 2) := dk_21 4 (dk_at dksX1_kept_2 15 rfl rfl)
theorem dX1_kept_63 : decode cX1_kept 63 = .ok (.goto 7, 3) := dk_167 0 7 (dk_at dksX1_kept_2 17 rfl rfl)
theorem dX1_kept_66 : decode cX1_kept 66 = .ok (.iload_n 3, 1) := dk_29 (dk_at dksX1_kept_2 20 rfl rfl)
theorem dX1_kept_67 : decode cX1_kept 67 = .ok (.iload 4, 2) := dk_21 4 (dk_at dksX1_kept_2 21 rfl rfl)
theorem dX1_kept_69 : decode cX1_kept 69 = .ok (.iand, 1) := dk_126 (dk_at dksX1_kept_2 23 rfl rfl)
theorem dX1_kept_70 : decode cX1_kept 70 = .ok (.istore_n 3, 1) := dk_62 (dk_at dksX1_kept_3 0 rfl rfl)
theorem dX1_kept_71 : decode cX1_kept 71 = .ok (.iinc 4 1, 3) := dk_132 4 1 (dk_at dksX1_kept_3 1 rfl rfl)
theorem dX1_kept_74 : decode cX1_kept 74 = .ok (.goto (-51), 3) := dk_167 255 205 (dk_at dksX1_kept_3 4 rfl rfl)
theorem dX1_kept_77 : decode cX1_kept 77 = .ok (.iload_n 3, 1) := dk_29 (dk_at dksX1_kept_3 7 rfl rfl)
theorem dX1_kept_78 : decode cX1_kept 78 = .ok (.ireturn, 1) := dk_172 (dk_at dksX1_kept_3 8 rfl rfl)
abbrev cX1_roof : ByteArray := prog_15_method_39_code
def yX1_roof : MethodName := ⟨RX1, "roof", "(I)I"⟩
def dkwX1_roof_0 : List UInt8 := [42, 27, 182, 0, 122, 153, 0, 17, 42, 27, 42, 180, 0, 25, 27, 46, 182, 0, 125, 167, 0, 4, 2, 172]
abbrev dktX1_roof_0 : List UInt8 := dkwX1_roof_0 ++ []
theorem dksX1_roof_0 : cX1_roof.data.toList.drop 0 = dktX1_roof_0 := by decide +kernel
theorem dX1_roof_0 : decode cX1_roof 0 = .ok (.aload_n 0, 1) := dk_42 (dk_at dksX1_roof_0 0 rfl rfl)
theorem dX1_roof_1 : decode cX1_roof 1 = .ok (.iload_n 1, 1) := dk_27 (dk_at dksX1_roof_0 1 rfl rfl)
theorem dX1_roof_2 : decode cX1_roof 2 = .ok (.invokevirtual 122, 3) := dk_182 0 122 (dk_at dksX1_roof_0 2 rfl rfl)
theorem dX1_roof_5 : decode cX1_roof 5 = .ok (.ifCond .eq 17, 3) := dk_153 0 17 (dk_at dksX1_roof_0 5 rfl rfl)
theorem dX1_roof_8 : decode cX1_roof 8 = .ok (.aload_n 0, 1) := dk_42 (dk_at dksX1_roof_0 8 rfl rfl)
theorem dX1_roof_9 : decode cX1_roof 9 = .ok (.iload_n 1, 1) := dk_27 (dk_at dksX1_roof_0 9 rfl rfl)
theorem dX1_roof_10 : decode cX1_roof 10 = .ok (.aload_n 0, 1) := dk_42 (dk_at dksX1_roof_0 10 rfl rfl)
theorem dX1_roof_11 : decode cX1_roof 11 = .ok (.getfield 25, 3) := dk_180 0 25 (dk_at dksX1_roof_0 11 rfl rfl)
theorem dX1_roof_14 : decode cX1_roof 14 = .ok (.iload_n 1, 1) := dk_27 (dk_at dksX1_roof_0 14 rfl rfl)
theorem dX1_roof_15 : decode cX1_roof 15 = .ok (.iaload, 1) := dk_46 (dk_at dksX1_roof_0 15 rfl rfl)
theorem dX1_roof_16 : decode cX1_roof 16 = .ok (.invokevirtual 125, 3) := dk_182 0 125 (dk_at dksX1_roof_0 16 rfl rfl)
theorem dX1_roof_19 : decode cX1_roof 19 = .ok (.goto 4, 3) := dk_167 0 4 (dk_at dksX1_roof_0 19 rfl rfl)
theorem dX1_roof_22 : decode cX1_roof 22 = .ok (.iconst (-1), 1) := dk_2 (dk_at dksX1_roof_0 22 rfl rfl)
theorem dX1_roof_23 : decode cX1_roof 23 = .ok (.ireturn, 1) := dk_172 (dk_at dksX1_roof_0 23 rfl rfl)
abbrev cX1_safe : ByteArray := prog_15_method_40_code
def yX1_safe : MethodName := ⟨RX1, "safe", "(I)I"⟩
def dkwX1_safe_2 : List UInt8 := [126, 167, 0, 4, 28, 172]
abbrev dktX1_safe_2 : List UInt8 := dkwX1_safe_2 ++ []
def dkwX1_safe_1 : List UInt8 := [180, 0, 31, 27, 46, 2, 130, 126, 61, 42, 27, 182, 0, 131, 153, 0, 14, 28, 42, 180, 0, 25, 27, 46]
abbrev dktX1_safe_1 : List UInt8 := dkwX1_safe_1 ++ dktX1_safe_2
def dkwX1_safe_0 : List UInt8 := [42, 27, 182, 0, 122, 154, 0, 5, 2, 172, 42, 182, 0, 134, 4, 42, 180, 0, 65, 120, 4, 100, 42]
abbrev dktX1_safe_0 : List UInt8 := dkwX1_safe_0 ++ dktX1_safe_1
theorem dksX1_safe_0 : cX1_safe.data.toList.drop 0 = dktX1_safe_0 := by decide +kernel
theorem dksX1_safe_1 : cX1_safe.data.toList.drop 23 = dktX1_safe_1 := dk_seg dksX1_safe_0 23 rfl rfl
theorem dksX1_safe_2 : cX1_safe.data.toList.drop 47 = dktX1_safe_2 := dk_seg dksX1_safe_1 24 rfl rfl
theorem dX1_safe_0 : decode cX1_safe 0 = .ok (.aload_n 0, 1) := dk_42 (dk_at dksX1_safe_0 0 rfl rfl)
theorem dX1_safe_1 : decode cX1_safe 1 = .ok (.iload_n 1, 1) := dk_27 (dk_at dksX1_safe_0 1 rfl rfl)
theorem dX1_safe_2 : decode cX1_safe 2 = .ok (.invokevirtual 122, 3) := dk_182 0 122 (dk_at dksX1_safe_0 2 rfl rfl)
theorem dX1_safe_5 : decode cX1_safe 5 = .ok (.ifCond .ne 5, 3) := dk_154 0 5 (dk_at dksX1_safe_0 5 rfl rfl)
theorem dX1_safe_8 : decode cX1_safe 8 = .ok (.iconst (-1), 1) := dk_2 (dk_at dksX1_safe_0 8 rfl rfl)
theorem dX1_safe_9 : decode cX1_safe 9 = .ok (.ireturn, 1) := dk_172 (dk_at dksX1_safe_0 9 rfl rfl)
theorem dX1_safe_10 : decode cX1_safe 10 = .ok (.aload_n 0, 1) := dk_42 (dk_at dksX1_safe_0 10 rfl rfl)
theorem dX1_safe_11 : decode cX1_safe 11 = .ok (.invokevirtual 134, 3) := dk_182 0 134 (dk_at dksX1_safe_0 11 rfl rfl)
theorem dX1_safe_14 : decode cX1_safe 14 = .ok (.iconst 1, 1) := dk_4 (dk_at dksX1_safe_0 14 rfl rfl)
theorem dX1_safe_15 : decode cX1_safe 15 = .ok (.aload_n 0, 1) := dk_42 (dk_at dksX1_safe_0 15 rfl rfl)
theorem dX1_safe_16 : decode cX1_safe 16 = .ok (.getfield 65, 3) := dk_180 0 65 (dk_at dksX1_safe_0 16 rfl rfl)
theorem dX1_safe_19 : decode cX1_safe 19 = .ok (.ishl, 1) := dk_120 (dk_at dksX1_safe_0 19 rfl rfl)
theorem dX1_safe_20 : decode cX1_safe 20 = .ok (.iconst 1, 1) := dk_4 (dk_at dksX1_safe_0 20 rfl rfl)
theorem dX1_safe_21 : decode cX1_safe 21 = .ok (.isub, 1) := dk_100 (dk_at dksX1_safe_0 21 rfl rfl)
theorem dX1_safe_22 : decode cX1_safe 22 = .ok (.aload_n 0, 1) := dk_42 (dk_at dksX1_safe_0 22 rfl rfl)
theorem dX1_safe_23 : decode cX1_safe 23 = .ok (.getfield 31, 3) := dk_180 0 31 (dk_at dksX1_safe_1 0 rfl rfl)
theorem dX1_safe_26 : decode cX1_safe 26 = .ok (.iload_n 1, 1) := dk_27 (dk_at dksX1_safe_1 3 rfl rfl)
theorem dX1_safe_27 : decode cX1_safe 27 = .ok (.iaload, 1) := dk_46 (dk_at dksX1_safe_1 4 rfl rfl)
theorem dX1_safe_28 : decode cX1_safe 28 = .ok (.iconst (-1), 1) := dk_2 (dk_at dksX1_safe_1 5 rfl rfl)
theorem dX1_safe_29 : decode cX1_safe 29 = .ok (.ixor, 1) := dk_130 (dk_at dksX1_safe_1 6 rfl rfl)
theorem dX1_safe_30 : decode cX1_safe 30 = .ok (.iand, 1) := dk_126 (dk_at dksX1_safe_1 7 rfl rfl)
theorem dX1_safe_31 : decode cX1_safe 31 = .ok (.istore_n 2, 1) := dk_61 (dk_at dksX1_safe_1 8 rfl rfl)
theorem dX1_safe_32 : decode cX1_safe 32 = .ok (.aload_n 0, 1) := dk_42 (dk_at dksX1_safe_1 9 rfl rfl)
theorem dX1_safe_33 : decode cX1_safe 33 = .ok (.iload_n 1, 1) := dk_27 (dk_at dksX1_safe_1 10 rfl rfl)
theorem dX1_safe_34 : decode cX1_safe 34 = .ok (.invokevirtual 131, 3) := dk_182 0 131 (dk_at dksX1_safe_1 11 rfl rfl)
theorem dX1_safe_37 : decode cX1_safe 37 = .ok (.ifCond .eq 14, 3) := dk_153 0 14 (dk_at dksX1_safe_1 14 rfl rfl)
theorem dX1_safe_40 : decode cX1_safe 40 = .ok (.iload_n 2, 1) := dk_28 (dk_at dksX1_safe_1 17 rfl rfl)
theorem dX1_safe_41 : decode cX1_safe 41 = .ok (.aload_n 0, 1) := dk_42 (dk_at dksX1_safe_1 18 rfl rfl)
theorem dX1_safe_42 : decode cX1_safe 42 = .ok (.getfield 25, 3) := dk_180 0 25 (dk_at dksX1_safe_1 19 rfl rfl)
theorem dX1_safe_45 : decode cX1_safe 45 = .ok (.iload_n 1, 1) := dk_27 (dk_at dksX1_safe_1 22 rfl rfl)
theorem dX1_safe_46 : decode cX1_safe 46 = .ok (.iaload, 1) := dk_46 (dk_at dksX1_safe_1 23 rfl rfl)
theorem dX1_safe_47 : decode cX1_safe 47 = .ok (.iand, 1) := dk_126 (dk_at dksX1_safe_2 0 rfl rfl)
theorem dX1_safe_48 : decode cX1_safe 48 = .ok (.goto 4, 3) := dk_167 0 4 (dk_at dksX1_safe_2 1 rfl rfl)
theorem dX1_safe_51 : decode cX1_safe 51 = .ok (.iload_n 2, 1) := dk_28 (dk_at dksX1_safe_2 4 rfl rfl)
theorem dX1_safe_52 : decode cX1_safe 52 = .ok (.ireturn, 1) := dk_172 (dk_at dksX1_safe_2 5 rfl rfl)
abbrev cX1_reading : ByteArray := prog_15_method_41_code
def yX1_reading : MethodName := ⟨RX1, "reading", "(II)I"⟩
def dkwX1_reading_3 : List UInt8 := [100, 172]
abbrev dktX1_reading_3 : List UInt8 := dkwX1_reading_3 ++ []
def dkwX1_reading_2 : List UInt8 := [180, 0, 52, 42, 180, 0, 101, 28, 79, 42, 89, 180, 0, 101, 4, 96, 181, 0, 101, 42, 180, 0, 101, 4]
abbrev dktX1_reading_2 : List UInt8 := dkwX1_reading_2 ++ dktX1_reading_3
def dkwX1_reading_1 : List UInt8 := [180, 0, 101, 16, 8, 160, 0, 6, 16, 252, 172, 42, 180, 0, 49, 42, 180, 0, 101, 27, 79, 42]
abbrev dktX1_reading_1 : List UInt8 := dkwX1_reading_1 ++ dktX1_reading_2
def dkwX1_reading_0 : List UInt8 := [42, 27, 182, 0, 122, 154, 0, 5, 2, 172, 28, 3, 16, 99, 184, 0, 61, 154, 0, 6, 16, 254, 172, 42]
abbrev dktX1_reading_0 : List UInt8 := dkwX1_reading_0 ++ dktX1_reading_1
theorem dksX1_reading_0 : cX1_reading.data.toList.drop 0 = dktX1_reading_0 := by decide +kernel
theorem dksX1_reading_1 : cX1_reading.data.toList.drop 24 = dktX1_reading_1 := dk_seg dksX1_reading_0 24 rfl rfl
theorem dksX1_reading_2 : cX1_reading.data.toList.drop 46 = dktX1_reading_2 := dk_seg dksX1_reading_1 22 rfl rfl
theorem dksX1_reading_3 : cX1_reading.data.toList.drop 70 = dktX1_reading_3 := dk_seg dksX1_reading_2 24 rfl rfl
theorem dX1_reading_0 : decode cX1_reading 0 = .ok (.aload_n 0, 1) := dk_42 (dk_at dksX1_reading_0 0 rfl rfl)
theorem dX1_reading_1 : decode cX1_reading 1 = .ok (.iload_n 1, 1) := dk_27 (dk_at dksX1_reading_0 1 rfl rfl)
theorem dX1_reading_2 : decode cX1_reading 2 = .ok (.invokevirtual 122, 3) := dk_182 0 122 (dk_at dksX1_reading_0 2 rfl rfl)
theorem dX1_reading_5 : decode cX1_reading 5 = .ok (.ifCond .ne 5, 3) := dk_154 0 5 (dk_at dksX1_reading_0 5 rfl rfl)
theorem dX1_reading_8 : decode cX1_reading 8 = .ok (.iconst (-1), 1) := dk_2 (dk_at dksX1_reading_0 8 rfl rfl)
theorem dX1_reading_9 : decode cX1_reading 9 = .ok (.ireturn, 1) := dk_172 (dk_at dksX1_reading_0 9 rfl rfl)
theorem dX1_reading_10 : decode cX1_reading 10 = .ok (.iload_n 2, 1) := dk_28 (dk_at dksX1_reading_0 10 rfl rfl)
theorem dX1_reading_11 : decode cX1_reading 11 = .ok (.iconst 0, 1) := dk_3 (dk_at dksX1_reading_0 11 rfl rfl)
theorem dX1_reading_12 : decode cX1_reading 12 = .ok (.bipush 99, 2) := dk_16 99 (dk_at dksX1_reading_0 12 rfl rfl)
theorem dX1_reading_14 : decode cX1_reading 14 = .ok (.invokestatic 61, 3) := dk_184 0 61 (dk_at dksX1_reading_0 14 rfl rfl)
theorem dX1_reading_17 : decode cX1_reading 17 = .ok (.ifCond .ne 6, 3) := dk_154 0 6 (dk_at dksX1_reading_0 17 rfl rfl)
theorem dX1_reading_20 : decode cX1_reading 20 = .ok (.bipush (-2), 2) := dk_16 254 (dk_at dksX1_reading_0 20 rfl rfl)
theorem dX1_reading_22 : decode cX1_reading 22 = .ok (.ireturn, 1) := dk_172 (dk_at dksX1_reading_0 22 rfl rfl)
theorem dX1_reading_23 : decode cX1_reading 23 = .ok (.aload_n 0, 1) := dk_42 (dk_at dksX1_reading_0 23 rfl rfl)
theorem dX1_reading_24 : decode cX1_reading 24 = .ok (.getfield 101, 3) := dk_180 0 101 (dk_at dksX1_reading_1 0 rfl rfl)
theorem dX1_reading_27 : decode cX1_reading 27 = .ok (.bipush 8, 2) := dk_16 8 (dk_at dksX1_reading_1 3 rfl rfl)
theorem dX1_reading_29 : decode cX1_reading 29 = .ok (.if_icmp .ne 6, 3) := dk_160 0 6 (dk_at dksX1_reading_1 5 rfl rfl)
theorem dX1_reading_32 : decode cX1_reading 32 = .ok (.bipush (-4), 2) := dk_16 252 (dk_at dksX1_reading_1 8 rfl rfl)
theorem dX1_reading_34 : decode cX1_reading 34 = .ok (.ireturn, 1) := dk_172 (dk_at dksX1_reading_1 10 rfl rfl)
theorem dX1_reading_35 : decode cX1_reading 35 = .ok (.aload_n 0, 1) := dk_42 (dk_at dksX1_reading_1 11 rfl rfl)
theorem dX1_reading_36 : decode cX1_reading 36 = .ok (.getfield 49, 3) := dk_180 0 49 (dk_at dksX1_reading_1 12 rfl rfl)
theorem dX1_reading_39 : decode cX1_reading 39 = .ok (.aload_n 0, 1) := dk_42 (dk_at dksX1_reading_1 15 rfl rfl)
theorem dX1_reading_40 : decode cX1_reading 40 = .ok (.getfield 101, 3) := dk_180 0 101 (dk_at dksX1_reading_1 16 rfl rfl)
theorem dX1_reading_43 : decode cX1_reading 43 = .ok (.iload_n 1, 1) := dk_27 (dk_at dksX1_reading_1 19 rfl rfl)
theorem dX1_reading_44 : decode cX1_reading 44 = .ok (.iastore, 1) := dk_79 (dk_at dksX1_reading_1 20 rfl rfl)
theorem dX1_reading_45 : decode cX1_reading 45 = .ok (.aload_n 0, 1) := dk_42 (dk_at dksX1_reading_1 21 rfl rfl)
theorem dX1_reading_46 : decode cX1_reading 46 = .ok (.getfield 52, 3) := dk_180 0 52 (dk_at dksX1_reading_2 0 rfl rfl)
theorem dX1_reading_49 : decode cX1_reading 49 = .ok (.aload_n 0, 1) := dk_42 (dk_at dksX1_reading_2 3 rfl rfl)
theorem dX1_reading_50 : decode cX1_reading 50 = .ok (.getfield 101, 3) := dk_180 0 101 (dk_at dksX1_reading_2 4 rfl rfl)
theorem dX1_reading_53 : decode cX1_reading 53 = .ok (.iload_n 2, 1) := dk_28 (dk_at dksX1_reading_2 7 rfl rfl)
theorem dX1_reading_54 : decode cX1_reading 54 = .ok (.iastore, 1) := dk_79 (dk_at dksX1_reading_2 8 rfl rfl)
theorem dX1_reading_55 : decode cX1_reading 55 = .ok (.aload_n 0, 1) := dk_42 (dk_at dksX1_reading_2 9 rfl rfl)
theorem dX1_reading_56 : decode cX1_reading 56 = .ok (.dup, 1) := dk_89 (dk_at dksX1_reading_2 10 rfl rfl)
theorem dX1_reading_57 : decode cX1_reading 57 = .ok (.getfield 101, 3) := dk_180 0 101 (dk_at dksX1_reading_2 11 rfl rfl)
theorem dX1_reading_60 : decode cX1_reading 60 = .ok (.iconst 1, 1) := dk_4 (dk_at dksX1_reading_2 14 rfl rfl)
theorem dX1_reading_61 : decode cX1_reading 61 = .ok (.iadd, 1) := dk_96 (dk_at dksX1_reading_2 15 rfl rfl)
theorem dX1_reading_62 : decode cX1_reading 62 = .ok (.putfield 101, 3) := dk_181 0 101 (dk_at dksX1_reading_2 16 rfl rfl)
theorem dX1_reading_65 : decode cX1_reading 65 = .ok (.aload_n 0, 1) := dk_42 (dk_at dksX1_reading_2 19 rfl rfl)
theorem dX1_reading_66 : decode cX1_reading 66 = .ok (.getfield 101, 3) := dk_180 0 101 (dk_at dksX1_reading_2 20 rfl rfl)
theorem dX1_reading_69 : decode cX1_reading 69 = .ok (.iconst 1, 1) := dk_4 (dk_at dksX1_reading_2 23 rfl rfl)
theorem dX1_reading_70 : decode cX1_reading 70 = .ok (.isub, 1) := dk_100 (dk_at dksX1_reading_3 0 rfl rfl)
theorem dX1_reading_71 : decode cX1_reading 71 = .ok (.ireturn, 1) := dk_172 (dk_at dksX1_reading_3 1 rfl rfl)
abbrev cX1_back : ByteArray := prog_15_method_42_code
def yX1_back : MethodName := ⟨RX1, "back", "(I)I"⟩
def dkwX1_back_1 : List UInt8 := [181, 0, 101, 42, 180, 0, 101, 172]
abbrev dktX1_back_1 : List UInt8 := dkwX1_back_1 ++ []
def dkwX1_back_0 : List UInt8 := [27, 3, 42, 180, 0, 101, 184, 0, 61, 154, 0, 6, 16, 254, 172, 42, 89, 180, 0, 101, 27, 100]
abbrev dktX1_back_0 : List UInt8 := dkwX1_back_0 ++ dktX1_back_1
theorem dksX1_back_0 : cX1_back.data.toList.drop 0 = dktX1_back_0 := by decide +kernel
theorem dksX1_back_1 : cX1_back.data.toList.drop 22 = dktX1_back_1 := dk_seg dksX1_back_0 22 rfl rfl
theorem dX1_back_0 : decode cX1_back 0 = .ok (.iload_n 1, 1) := dk_27 (dk_at dksX1_back_0 0 rfl rfl)
theorem dX1_back_1 : decode cX1_back 1 = .ok (.iconst 0, 1) := dk_3 (dk_at dksX1_back_0 1 rfl rfl)
theorem dX1_back_2 : decode cX1_back 2 = .ok (.aload_n 0, 1) := dk_42 (dk_at dksX1_back_0 2 rfl rfl)
theorem dX1_back_3 : decode cX1_back 3 = .ok (.getfield 101, 3) := dk_180 0 101 (dk_at dksX1_back_0 3 rfl rfl)
theorem dX1_back_6 : decode cX1_back 6 = .ok (.invokestatic 61, 3) := dk_184 0 61 (dk_at dksX1_back_0 6 rfl rfl)
theorem dX1_back_9 : decode cX1_back 9 = .ok (.ifCond .ne 6, 3) := dk_154 0 6 (dk_at dksX1_back_0 9 rfl rfl)
theorem dX1_back_12 : decode cX1_back 12 = .ok (.bipush (-2), 2) := dk_16 254 (dk_at dksX1_back_0 12 rfl rfl)
theorem dX1_back_14 : decode cX1_back 14 = .ok (.ireturn, 1) := dk_172 (dk_at dksX1_back_0 14 rfl rfl)
theorem dX1_back_15 : decode cX1_back 15 = .ok (.aload_n 0, 1) := dk_42 (dk_at dksX1_back_0 15 rfl rfl)
theorem dX1_back_16 : decode cX1_back 16 = .ok (.dup, 1) := dk_89 (dk_at dksX1_back_0 16 rfl rfl)
theorem dX1_back_17 : decode cX1_back 17 = .ok (.getfield 101, 3) := dk_180 0 101 (dk_at dksX1_back_0 17 rfl rfl)
theorem dX1_back_20 : decode cX1_back 20 = .ok (.iload_n 1, 1) := dk_27 (dk_at dksX1_back_0 20 rfl rfl)
theorem dX1_back_21 : decode cX1_back 21 = .ok (.isub, 1) := dk_100 (dk_at dksX1_back_0 21 rfl rfl)
theorem dX1_back_22 : decode cX1_back 22 = .ok (.putfield 101, 3) := dk_181 0 101 (dk_at dksX1_back_1 0 rfl rfl)
theorem dX1_back_25 : decode cX1_back 25 = .ok (.aload_n 0, 1) := dk_42 (dk_at dksX1_back_1 3 rfl rfl)
theorem dX1_back_26 : decode cX1_back 26 = .ok (.getfield 101, 3) := dk_180 0 101 (dk_at dksX1_back_1 4 rfl rfl)
theorem dX1_back_29 : decode cX1_back 29 = .ok (.ireturn, 1) := dk_172 (dk_at dksX1_back_1 7 rfl rfl)
abbrev cX1_weights : ByteArray := prog_15_method_45_code
def yX1_weights : MethodName := ⟨RX1, "weights", "(IIIII)I"⟩
def dkwX1_weights_3 : List UInt8 := [128, 54, 8, 132, 9, 1, 167, 255, 218, 42, 180, 0, 19, 27, 21, 7, 79, 21, 8, 172]
abbrev dktX1_weights_3 : List UInt8 := dkwX1_weights_3 ++ []
def dkwX1_weights_2 : List UInt8 := [180, 0, 19, 27, 21, 9, 79, 21, 8, 42, 182, 0, 169, 153, 0, 10, 4, 21, 9, 120, 167, 0, 4, 3]
abbrev dktX1_weights_2 : List UInt8 := dkwX1_weights_2 ++ dktX1_weights_3
def dkwX1_weights_1 : List UInt8 := [172, 42, 180, 0, 19, 27, 46, 54, 7, 3, 54, 8, 4, 54, 9, 21, 9, 16, 9, 163, 0, 37, 42]
abbrev dktX1_weights_1 : List UInt8 := dkwX1_weights_1 ++ dktX1_weights_2
def dkwX1_weights_0 : List UInt8 := [42, 42, 27, 182, 0, 128, 28, 29, 21, 4, 21, 5, 182, 0, 165, 54, 6, 21, 6, 153, 0, 6, 21, 6]
abbrev dktX1_weights_0 : List UInt8 := dkwX1_weights_0 ++ dktX1_weights_1
theorem dksX1_weights_0 : cX1_weights.data.toList.drop 0 = dktX1_weights_0 := by decide +kernel
theorem dksX1_weights_1 : cX1_weights.data.toList.drop 24 = dktX1_weights_1 := dk_seg dksX1_weights_0 24 rfl rfl
theorem dksX1_weights_2 : cX1_weights.data.toList.drop 47 = dktX1_weights_2 := dk_seg dksX1_weights_1 23 rfl rfl
theorem dksX1_weights_3 : cX1_weights.data.toList.drop 71 = dktX1_weights_3 := dk_seg dksX1_weights_2 24 rfl rfl
theorem dX1_weights_0 : decode cX1_weights 0 = .ok (.aload_n 0, 1) := dk_42 (dk_at dksX1_weights_0 0 rfl rfl)
theorem dX1_weights_1 : decode cX1_weights 1 = .ok (.aload_n 0, 1) := dk_42 (dk_at dksX1_weights_0 1 rfl rfl)
theorem dX1_weights_2 : decode cX1_weights 2 = .ok (.iload_n 1, 1) := dk_27 (dk_at dksX1_weights_0 2 rfl rfl)
theorem dX1_weights_3 : decode cX1_weights 3 = .ok (.invokevirtual 128, 3) := dk_182 0 128 (dk_at dksX1_weights_0 3 rfl rfl)
theorem dX1_weights_6 : decode cX1_weights 6 = .ok (.iload_n 2, 1) := dk_28 (dk_at dksX1_weights_0 6 rfl rfl)
theorem dX1_weights_7 : decode cX1_weights 7 = .ok (.iload_n 3, 1) := dk_29 (dk_at dksX1_weights_0 7 rfl rfl)
theorem dX1_weights_8 : decode cX1_weights 8 = .ok (.iload 4, 2) := dk_21 4 (dk_at dksX1_weights_0 8 rfl rfl)
theorem dX1_weights_10 : decode cX1_weights 10 = .ok (.iload 5, 2) := dk_21 5 (dk_at dksX1_weights_0 10 rfl rfl)
theorem dX1_weights_12 : decode cX1_weights 12 = .ok (.invokevirtual 165, 3) := dk_182 0 165 (dk_at dksX1_weights_0 12 rfl rfl)
theorem dX1_weights_15 : decode cX1_weights 15 = .ok (.istore 6, 2) := dk_54 6 (dk_at dksX1_weights_0 15 rfl rfl)
theorem dX1_weights_17 : decode cX1_weights 17 = .ok (.iload 6, 2) := dk_21 6 (dk_at dksX1_weights_0 17 rfl rfl)
theorem dX1_weights_19 : decode cX1_weights 19 = .ok (.ifCond .eq 6, 3) := dk_153 0 6 (dk_at dksX1_weights_0 19 rfl rfl)
theorem dX1_weights_22 : decode cX1_weights 22 = .ok (.iload 6, 2) := dk_21 6 (dk_at dksX1_weights_0 22 rfl rfl)
theorem dX1_weights_24 : decode cX1_weights 24 = .ok (.ireturn, 1) := dk_172 (dk_at dksX1_weights_1 0 rfl rfl)
theorem dX1_weights_25 : decode cX1_weights 25 = .ok (.aload_n 0, 1) := dk_42 (dk_at dksX1_weights_1 1 rfl rfl)
theorem dX1_weights_26 : decode cX1_weights 26 = .ok (.getfield 19, 3) := dk_180 0 19 (dk_at dksX1_weights_1 2 rfl rfl)
theorem dX1_weights_29 : decode cX1_weights 29 = .ok (.iload_n 1, 1) := dk_27 (dk_at dksX1_weights_1 5 rfl rfl)
theorem dX1_weights_30 : decode cX1_weights 30 = .ok (.iaload, 1) := dk_46 (dk_at dksX1_weights_1 6 rfl rfl)
theorem dX1_weights_31 : decode cX1_weights 31 = .ok (.istore 7, 2) := dk_54 7 (dk_at dksX1_weights_1 7 rfl rfl)
theorem dX1_weights_33 : decode cX1_weights 33 = .ok (.iconst 0, 1) := dk_3 (dk_at dksX1_weights_1 9 rfl rfl)
theorem dX1_weights_34 : decode cX1_weights 34 = .ok (.istore 8, 2) := dk_54 8 (dk_at dksX1_weights_1 10 rfl rfl)
theorem dX1_weights_36 : decode cX1_weights 36 = .ok (.iconst 1, 1) := dk_4 (dk_at dksX1_weights_1 12 rfl rfl)
theorem dX1_weights_37 : decode cX1_weights 37 = .ok (.istore 9, 2) := dk_54 9 (dk_at dksX1_weights_1 13 rfl rfl)
theorem dX1_weights_39 : decode cX1_weights 39 = .ok (.iload 9, 2) := dk_21 9 (dk_at dksX1_weights_1 15 rfl rfl)
theorem dX1_weights_41 : decode cX1_weights 41 = .ok (.bipush 9, 2) := dk_16 9 (dk_at dksX1_weights_1 17 rfl rfl)
theorem dX1_weights_43 : decode cX1_weights 43 = .ok (.if_icmp .gt 37, 3) := dk_163 0 37 (dk_at dksX1_weights_1 19 rfl rfl)
theorem dX1_weights_46 : decode cX1_weights 46 = .ok (.aload_n 0, 1) := dk_42 (dk_at dksX1_weights_1 22 rfl rfl)
theorem dX1_weights_47 : decode cX1_weights 47 = .ok (.getfield 19, 3) := dk_180 0 19 (dk_at dksX1_weights_2 0 rfl rfl)
theorem dX1_weights_50 : decode cX1_weights 50 = .ok (.iload_n 1, 1) := dk_27 (dk_at dksX1_weights_2 3 rfl rfl)
theorem dX1_weights_51 : decode cX1_weights 51 = .ok (.iload 9, 2) := dk_21 9 (dk_at dksX1_weights_2 4 rfl rfl)
theorem dX1_weights_53 : decode cX1_weights 53 = .ok (.iastore, 1) := dk_79 (dk_at dksX1_weights_2 6 rfl rfl)
theorem dX1_weights_54 : decode cX1_weights 54 = .ok (.iload 8, 2) := dk_21 8 (dk_at dksX1_weights_2 7 rfl rfl)
theorem dX1_weights_56 : decode cX1_weights 56 = .ok (.aload_n 0, 1) := dk_42 (dk_at dksX1_weights_2 9 rfl rfl)
theorem dX1_weights_57 : decode cX1_weights 57 = .ok (.invokevirtual 169, 3) := dk_182 0 169 (dk_at dksX1_weights_2 10 rfl rfl)
theorem dX1_weights_60 : decode cX1_weights 60 = .ok (.ifCond .eq 10, 3) := dk_153 0 10 (dk_at dksX1_weights_2 13 rfl rfl)
theorem dX1_weights_63 : decode cX1_weights 63 = .ok (.iconst 1, 1) := dk_4 (dk_at dksX1_weights_2 16 rfl rfl)
theorem dX1_weights_64 : decode cX1_weights 64 = .ok (.iload 9, 2) := dk_21 9 (dk_at dksX1_weights_2 17 rfl rfl)
theorem dX1_weights_66 : decode cX1_weights 66 = .ok (.ishl, 1) := dk_120 (dk_at dksX1_weights_2 19 rfl rfl)
theorem dX1_weights_67 : decode cX1_weights 67 = .ok (.goto 4, 3) := dk_167 0 4 (dk_at dksX1_weights_2 20 rfl rfl)
theorem dX1_weights_70 : decode cX1_weights 70 = .ok (.iconst 0, 1) := dk_3 (dk_at dksX1_weights_2 23 rfl rfl)
theorem dX1_weights_71 : decode cX1_weights 71 = .ok (.ior, 1) := dk_128 (dk_at dksX1_weights_3 0 rfl rfl)
theorem dX1_weights_72 : decode cX1_weights 72 = .ok (.istore 8, 2) := dk_54 8 (dk_at dksX1_weights_3 1 rfl rfl)
theorem dX1_weights_74 : decode cX1_weights 74 = .ok (.iinc 9 1, 3) := dk_132 9 1 (dk_at dksX1_weights_3 3 rfl rfl)
theorem dX1_weights_77 : decode cX1_weights 77 = .ok (.goto (-38), 3) := dk_167 255 218 (dk_at dksX1_weights_3 6 rfl rfl)
theorem dX1_weights_80 : decode cX1_weights 80 = .ok (.aload_n 0, 1) := dk_42 (dk_at dksX1_weights_3 9 rfl rfl)
theorem dX1_weights_81 : decode cX1_weights 81 = .ok (.getfield 19, 3) := dk_180 0 19 (dk_at dksX1_weights_3 10 rfl rfl)
theorem dX1_weights_84 : decode cX1_weights 84 = .ok (.iload_n 1, 1) := dk_27 (dk_at dksX1_weights_3 13 rfl rfl)
theorem dX1_weights_85 : decode cX1_weights 85 = .ok (.iload 7, 2) := dk_21 7 (dk_at dksX1_weights_3 14 rfl rfl)
theorem dX1_weights_87 : decode cX1_weights 87 = .ok (.iastore, 1) := dk_79 (dk_at dksX1_weights_3 16 rfl rfl)
theorem dX1_weights_88 : decode cX1_weights 88 = .ok (.iload 8, 2) := dk_21 8 (dk_at dksX1_weights_3 17 rfl rfl)
theorem dX1_weights_90 : decode cX1_weights 90 = .ok (.ireturn, 1) := dk_172 (dk_at dksX1_weights_3 19 rfl rfl)
abbrev cX1_lay : ByteArray := prog_15_method_44_code
def yX1_lay : MethodName := ⟨RX1, "lay", "(ZIIII)I"⟩
def dkwX1_lay_1 : List UInt8 := [153, 0, 16, 42, 28, 29, 21, 4, 21, 5, 182, 0, 149, 167, 0, 5, 16, 254, 172]
abbrev dktX1_lay_1 : List UInt8 := dkwX1_lay_1 ++ []
def dkwX1_lay_0 : List UInt8 := [42, 3, 181, 0, 55, 27, 153, 0, 10, 28, 184, 0, 74, 154, 0, 5, 2, 172, 29, 21, 5, 184, 0, 146]
abbrev dktX1_lay_0 : List UInt8 := dkwX1_lay_0 ++ dktX1_lay_1
theorem dksX1_lay_0 : cX1_lay.data.toList.drop 0 = dktX1_lay_0 := by decide +kernel
theorem dksX1_lay_1 : cX1_lay.data.toList.drop 24 = dktX1_lay_1 := dk_seg dksX1_lay_0 24 rfl rfl
theorem dX1_lay_0 : decode cX1_lay 0 = .ok (.aload_n 0, 1) := dk_42 (dk_at dksX1_lay_0 0 rfl rfl)
theorem dX1_lay_1 : decode cX1_lay 1 = .ok (.iconst 0, 1) := dk_3 (dk_at dksX1_lay_0 1 rfl rfl)
theorem dX1_lay_2 : decode cX1_lay 2 = .ok (.putfield 55, 3) := dk_181 0 55 (dk_at dksX1_lay_0 2 rfl rfl)
theorem dX1_lay_5 : decode cX1_lay 5 = .ok (.iload_n 1, 1) := dk_27 (dk_at dksX1_lay_0 5 rfl rfl)
theorem dX1_lay_6 : decode cX1_lay 6 = .ok (.ifCond .eq 10, 3) := dk_153 0 10 (dk_at dksX1_lay_0 6 rfl rfl)
theorem dX1_lay_9 : decode cX1_lay 9 = .ok (.iload_n 2, 1) := dk_28 (dk_at dksX1_lay_0 9 rfl rfl)
theorem dX1_lay_10 : decode cX1_lay 10 = .ok (.invokestatic 74, 3) := dk_184 0 74 (dk_at dksX1_lay_0 10 rfl rfl)
theorem dX1_lay_13 : decode cX1_lay 13 = .ok (.ifCond .ne 5, 3) := dk_154 0 5 (dk_at dksX1_lay_0 13 rfl rfl)
theorem dX1_lay_16 : decode cX1_lay 16 = .ok (.iconst (-1), 1) := dk_2 (dk_at dksX1_lay_0 16 rfl rfl)
theorem dX1_lay_17 : decode cX1_lay 17 = .ok (.ireturn, 1) := dk_172 (dk_at dksX1_lay_0 17 rfl rfl)
theorem dX1_lay_18 : decode cX1_lay 18 = .ok (.iload_n 3, 1) := dk_29 (dk_at dksX1_lay_0 18 rfl rfl)
theorem dX1_lay_19 : decode cX1_lay 19 = .ok (.iload 5, 2) := dk_21 5 (dk_at dksX1_lay_0 19 rfl rfl)
theorem dX1_lay_21 : decode cX1_lay 21 = .ok (.invokestatic 146, 3) := dk_184 0 146 (dk_at dksX1_lay_0 21 rfl rfl)
theorem dX1_lay_24 : decode cX1_lay 24 = .ok (.ifCond .eq 16, 3) := dk_153 0 16 (dk_at dksX1_lay_1 0 rfl rfl)
theorem dX1_lay_27 : decode cX1_lay 27 = .ok (.aload_n 0, 1) := dk_42 (dk_at dksX1_lay_1 3 rfl rfl)
theorem dX1_lay_28 : decode cX1_lay 28 = .ok (.iload_n 2, 1) := dk_28 (dk_at dksX1_lay_1 4 rfl rfl)
theorem dX1_lay_29 : decode cX1_lay 29 = .ok (.iload_n 3, 1) := dk_29 (dk_at dksX1_lay_1 5 rfl rfl)
theorem dX1_lay_30 : decode cX1_lay 30 = .ok (.iload 4, 2) := dk_21 4 (dk_at dksX1_lay_1 6 rfl rfl)
theorem dX1_lay_32 : decode cX1_lay 32 = .ok (.iload 5, 2) := dk_21 5 (dk_at dksX1_lay_1 8 rfl rfl)
theorem dX1_lay_34 : decode cX1_lay 34 = .ok (.invokevirtual 149, 3) := dk_182 0 149 (dk_at dksX1_lay_1 10 rfl rfl)
theorem dX1_lay_37 : decode cX1_lay 37 = .ok (.goto 5, 3) := dk_167 0 5 (dk_at dksX1_lay_1 13 rfl rfl)
theorem dX1_lay_40 : decode cX1_lay 40 = .ok (.bipush (-2), 2) := dk_16 254 (dk_at dksX1_lay_1 16 rfl rfl)
theorem dX1_lay_42 : decode cX1_lay 42 = .ok (.ireturn, 1) := dk_172 (dk_at dksX1_lay_1 18 rfl rfl)
abbrev cX1_areSo : ByteArray := prog_15_method_43_code
def yX1_areSo : MethodName := ⟨RX1, "areSo", "()Z"⟩
def dkwX1_areSo_2 : List UInt8 := [46, 159, 0, 5, 3, 172, 132, 1, 1, 167, 255, 213, 4, 172]
abbrev dktX1_areSo_2 : List UInt8 := dkwX1_areSo_2 ++ []
def dkwX1_areSo_1 : List UInt8 := [180, 0, 49, 27, 46, 42, 180, 0, 40, 42, 180, 0, 49, 27, 46, 46, 182, 0, 125, 42, 180, 0, 52, 27]
abbrev dktX1_areSo_1 : List UInt8 := dkwX1_areSo_1 ++ dktX1_areSo_2
def dkwX1_areSo_0 : List UInt8 := [42, 182, 0, 152, 16, 247, 159, 0, 5, 3, 172, 3, 60, 27, 42, 180, 0, 101, 162, 0, 41, 42, 42]
abbrev dktX1_areSo_0 : List UInt8 := dkwX1_areSo_0 ++ dktX1_areSo_1
theorem dksX1_areSo_0 : cX1_areSo.data.toList.drop 0 = dktX1_areSo_0 := by decide +kernel
theorem dksX1_areSo_1 : cX1_areSo.data.toList.drop 23 = dktX1_areSo_1 := dk_seg dksX1_areSo_0 23 rfl rfl
theorem dksX1_areSo_2 : cX1_areSo.data.toList.drop 47 = dktX1_areSo_2 := dk_seg dksX1_areSo_1 24 rfl rfl
theorem dX1_areSo_0 : decode cX1_areSo 0 = .ok (.aload_n 0, 1) := dk_42 (dk_at dksX1_areSo_0 0 rfl rfl)
theorem dX1_areSo_1 : decode cX1_areSo 1 = .ok (.invokevirtual 152, 3) := dk_182 0 152 (dk_at dksX1_areSo_0 1 rfl rfl)
theorem dX1_areSo_4 : decode cX1_areSo 4 = .ok (.bipush (-9), 2) := dk_16 247 (dk_at dksX1_areSo_0 4 rfl rfl)
theorem dX1_areSo_6 : decode cX1_areSo 6 = .ok (.if_icmp .eq 5, 3) := dk_159 0 5 (dk_at dksX1_areSo_0 6 rfl rfl)
theorem dX1_areSo_9 : decode cX1_areSo 9 = .ok (.iconst 0, 1) := dk_3 (dk_at dksX1_areSo_0 9 rfl rfl)
theorem dX1_areSo_10 : decode cX1_areSo 10 = .ok (.ireturn, 1) := dk_172 (dk_at dksX1_areSo_0 10 rfl rfl)
theorem dX1_areSo_11 : decode cX1_areSo 11 = .ok (.iconst 0, 1) := dk_3 (dk_at dksX1_areSo_0 11 rfl rfl)
theorem dX1_areSo_12 : decode cX1_areSo 12 = .ok (.istore_n 1, 1) := dk_60 (dk_at dksX1_areSo_0 12 rfl rfl)
theorem dX1_areSo_13 : decode cX1_areSo 13 = .ok (.iload_n 1, 1) := dk_27 (dk_at dksX1_areSo_0 13 rfl rfl)
theorem dX1_areSo_14 : decode cX1_areSo 14 = .ok (.aload_n 0, 1) := dk_42 (dk_at dksX1_areSo_0 14 rfl rfl)
theorem dX1_areSo_15 : decode cX1_areSo 15 = .ok (.getfield 101, 3) := dk_180 0 101 (dk_at dksX1_areSo_0 15 rfl rfl)
theorem dX1_areSo_18 : decode cX1_areSo 18 = .ok (.if_icmp .ge 41, 3) := dk_162 0 41 (dk_at dksX1_areSo_0 18 rfl rfl)
theorem dX1_areSo_21 : decode cX1_areSo 21 = .ok (.aload_n 0, 1) := dk_42 (dk_at dksX1_areSo_0 21 rfl rfl)
theorem dX1_areSo_22 : decode cX1_areSo 22 = .ok (.aload_n 0, 1) := dk_42 (dk_at dksX1_areSo_0 22 rfl rfl)
theorem dX1_areSo_23 : decode cX1_areSo 23 = .ok (.getfield 49, 3) := dk_180 0 49 (dk_at dksX1_areSo_1 0 rfl rfl)
theorem dX1_areSo_26 : decode cX1_areSo 26 = .ok (.iload_n 1, 1) := dk_27 (dk_at dksX1_areSo_1 3 rfl rfl)
theorem dX1_areSo_27 : decode cX1_areSo 27 = .ok (.iaload, 1) := dk_46 (dk_at dksX1_areSo_1 4 rfl rfl)
theorem dX1_areSo_28 : decode cX1_areSo 28 = .ok (.aload_n 0, 1) := dk_42 (dk_at dksX1_areSo_1 5 rfl rfl)
theorem dX1_areSo_29 : decode cX1_areSo 29 = .ok (.getfield 40, 3) := dk_180 0 40 (dk_at dksX1_areSo_1 6 rfl rfl)
theorem dX1_areSo_32 : decode cX1_areSo 32 = .ok (.aload_n 0, 1) := dk_42 (dk_at dksX1_areSo_1 9 rfl rfl)
theorem dX1_areSo_33 : decode cX1_areSo 33 = .ok (.getfield 49, 3) := dk_180 0 49 (dk_at dksX1_areSo_1 10 rfl rfl)
theorem dX1_areSo_36 : decode cX1_areSo 36 = .ok (.iload_n 1, 1) := dk_27 (dk_at dksX1_areSo_1 13 rfl rfl)
theorem dX1_areSo_37 : decode cX1_areSo 37 = .ok (.iaload, 1) := dk_46 (dk_at dksX1_areSo_1 14 rfl rfl)
theorem dX1_areSo_38 : decode cX1_areSo 38 = .ok (.iaload, 1) := dk_46 (dk_at dksX1_areSo_1 15 rfl rfl)
theorem dX1_areSo_39 : decode cX1_areSo 39 = .ok (.invokevirtual 125, 3) := dk_182 0 125 (dk_at dksX1_areSo_1 16 rfl rfl)
theorem dX1_areSo_42 : decode cX1_areSo 42 = .ok (.aload_n 0, 1) := dk_42 (dk_at dksX1_areSo_1 19 rfl rfl)
theorem dX1_areSo_43 : decode cX1_areSo 43 = .ok (.getfield 52, 3) := dk_180 0 52 (dk_at dksX1_areSo_1 20 rfl rfl)
theorem dX1_areSo_46 : decode cX1_areSo 46 = .ok (.iload_n 1, 1) := dk_27 (dk_at dksX1_areSo_1 23 rfl rfl)
theorem dX1_areSo_47 : decode cX1_areSo 47 = .ok (.iaload, 1) := dk_46 (dk_at dksX1_areSo_2 0 rfl rfl)
theorem dX1_areSo_48 : decode cX1_areSo 48 = .ok (.if_icmp .eq 5, 3) := dk_159 0 5 (dk_at dksX1_areSo_2 1 rfl rfl)
theorem dX1_areSo_51 : decode cX1_areSo 51 = .ok (.iconst 0, 1) := dk_3 (dk_at dksX1_areSo_2 4 rfl rfl)
theorem dX1_areSo_52 : decode cX1_areSo 52 = .ok (.ireturn, 1) := dk_172 (dk_at dksX1_areSo_2 5 rfl rfl)
theorem dX1_areSo_53 : decode cX1_areSo 53 = .ok (.iinc 1 1, 3) := dk_132 1 1 (dk_at dksX1_areSo_2 6 rfl rfl)
theorem dX1_areSo_56 : decode cX1_areSo 56 = .ok (.goto (-43), 3) := dk_167 255 213 (dk_at dksX1_areSo_2 9 rfl rfl)
theorem dX1_areSo_59 : decode cX1_areSo 59 = .ok (.iconst 1, 1) := dk_4 (dk_at dksX1_areSo_2 12 rfl rfl)
theorem dX1_areSo_60 : decode cX1_areSo 60 = .ok (.ireturn, 1) := dk_172 (dk_at dksX1_areSo_2 13 rfl rfl)
abbrev cX1_kinds : ByteArray := prog_15_method_46_code
def yX1_kinds : MethodName := ⟨RX1, "kinds", "(IIIII)I"⟩
def dkwX1_kinds_3 : List UInt8 := [128, 54, 8, 132, 9, 1, 167, 255, 219, 42, 180, 0, 22, 27, 21, 7, 79, 21, 8, 172]
abbrev dktX1_kinds_3 : List UInt8 := dkwX1_kinds_3 ++ []
def dkwX1_kinds_2 : List UInt8 := [180, 0, 22, 27, 21, 9, 79, 21, 8, 42, 182, 0, 169, 153, 0, 10, 4, 21, 9, 120, 167, 0, 4, 3]
abbrev dktX1_kinds_2 : List UInt8 := dkwX1_kinds_2 ++ dktX1_kinds_3
def dkwX1_kinds_1 : List UInt8 := [172, 42, 180, 0, 22, 27, 46, 54, 7, 3, 54, 8, 3, 54, 9, 21, 9, 6, 162, 0, 37, 42]
abbrev dktX1_kinds_1 : List UInt8 := dkwX1_kinds_1 ++ dktX1_kinds_2
def dkwX1_kinds_0 : List UInt8 := [42, 42, 27, 182, 0, 122, 28, 29, 21, 4, 21, 5, 182, 0, 165, 54, 6, 21, 6, 153, 0, 6, 21, 6]
abbrev dktX1_kinds_0 : List UInt8 := dkwX1_kinds_0 ++ dktX1_kinds_1
theorem dksX1_kinds_0 : cX1_kinds.data.toList.drop 0 = dktX1_kinds_0 := by decide +kernel
theorem dksX1_kinds_1 : cX1_kinds.data.toList.drop 24 = dktX1_kinds_1 := dk_seg dksX1_kinds_0 24 rfl rfl
theorem dksX1_kinds_2 : cX1_kinds.data.toList.drop 46 = dktX1_kinds_2 := dk_seg dksX1_kinds_1 22 rfl rfl
theorem dksX1_kinds_3 : cX1_kinds.data.toList.drop 70 = dktX1_kinds_3 := dk_seg dksX1_kinds_2 24 rfl rfl
theorem dX1_kinds_0 : decode cX1_kinds 0 = .ok (.aload_n 0, 1) := dk_42 (dk_at dksX1_kinds_0 0 rfl rfl)
theorem dX1_kinds_1 : decode cX1_kinds 1 = .ok (.aload_n 0, 1) := dk_42 (dk_at dksX1_kinds_0 1 rfl rfl)
theorem dX1_kinds_2 : decode cX1_kinds 2 = .ok (.iload_n 1, 1) := dk_27 (dk_at dksX1_kinds_0 2 rfl rfl)
theorem dX1_kinds_3 : decode cX1_kinds 3 = .ok (.invokevirtual 122, 3) := dk_182 0 122 (dk_at dksX1_kinds_0 3 rfl rfl)
theorem dX1_kinds_6 : decode cX1_kinds 6 = .ok (.iload_n 2, 1) := dk_28 (dk_at dksX1_kinds_0 6 rfl rfl)
theorem dX1_kinds_7 : decode cX1_kinds 7 = .ok (.iload_n 3, 1) := dk_29 (dk_at dksX1_kinds_0 7 rfl rfl)
theorem dX1_kinds_8 : decode cX1_kinds 8 = .ok (.iload 4, 2) := dk_21 4 (dk_at dksX1_kinds_0 8 rfl rfl)
theorem dX1_kinds_10 : decode cX1_kinds 10 = .ok (.iload 5, 2) := dk_21 5 (dk_at dksX1_kinds_0 10 rfl rfl)
theorem dX1_kinds_12 : decode cX1_kinds 12 = .ok (.invokevirtual 165, 3) := dk_182 0 165 (dk_at dksX1_kinds_0 12 rfl rfl)
theorem dX1_kinds_15 : decode cX1_kinds 15 = .ok (.istore 6, 2) := dk_54 6 (dk_at dksX1_kinds_0 15 rfl rfl)
theorem dX1_kinds_17 : decode cX1_kinds 17 = .ok (.iload 6, 2) := dk_21 6 (dk_at dksX1_kinds_0 17 rfl rfl)
theorem dX1_kinds_19 : decode cX1_kinds 19 = .ok (.ifCond .eq 6, 3) := dk_153 0 6 (dk_at dksX1_kinds_0 19 rfl rfl)
theorem dX1_kinds_22 : decode cX1_kinds 22 = .ok (.iload 6, 2) := dk_21 6 (dk_at dksX1_kinds_0 22 rfl rfl)
theorem dX1_kinds_24 : decode cX1_kinds 24 = .ok (.ireturn, 1) := dk_172 (dk_at dksX1_kinds_1 0 rfl rfl)
theorem dX1_kinds_25 : decode cX1_kinds 25 = .ok (.aload_n 0, 1) := dk_42 (dk_at dksX1_kinds_1 1 rfl rfl)
theorem dX1_kinds_26 : decode cX1_kinds 26 = .ok (.getfield 22, 3) := dk_180 0 22 (dk_at dksX1_kinds_1 2 rfl rfl)
theorem dX1_kinds_29 : decode cX1_kinds 29 = .ok (.iload_n 1, 1) := dk_27 (dk_at dksX1_kinds_1 5 rfl rfl)
theorem dX1_kinds_30 : decode cX1_kinds 30 = .ok (.iaload, 1) := dk_46 (dk_at dksX1_kinds_1 6 rfl rfl)
theorem dX1_kinds_31 : decode cX1_kinds 31 = .ok (.istore 7, 2) := dk_54 7 (dk_at dksX1_kinds_1 7 rfl rfl)
theorem dX1_kinds_33 : decode cX1_kinds 33 = .ok (.iconst 0, 1) := dk_3 (dk_at dksX1_kinds_1 9 rfl rfl)
theorem dX1_kinds_34 : decode cX1_kinds 34 = .ok (.istore 8, 2) := dk_54 8 (dk_at dksX1_kinds_1 10 rfl rfl)
theorem dX1_kinds_36 : decode cX1_kinds 36 = .ok (.iconst 0, 1) := dk_3 (dk_at dksX1_kinds_1 12 rfl rfl)
theorem dX1_kinds_37 : decode cX1_kinds 37 = .ok (.istore 9, 2) := dk_54 9 (dk_at dksX1_kinds_1 13 rfl rfl)
theorem dX1_kinds_39 : decode cX1_kinds 39 = .ok (.iload 9, 2) := dk_21 9 (dk_at dksX1_kinds_1 15 rfl rfl)
theorem dX1_kinds_41 : decode cX1_kinds 41 = .ok (.iconst 3, 1) := dk_6 (dk_at dksX1_kinds_1 17 rfl rfl)
theorem dX1_kinds_42 : decode cX1_kinds 42 = .ok (.if_icmp .ge 37, 3) := dk_162 0 37 (dk_at dksX1_kinds_1 18 rfl rfl)
theorem dX1_kinds_45 : decode cX1_kinds 45 = .ok (.aload_n 0, 1) := dk_42 (dk_at dksX1_kinds_1 21 rfl rfl)
theorem dX1_kinds_46 : decode cX1_kinds 46 = .ok (.getfield 22, 3) := dk_180 0 22 (dk_at dksX1_kinds_2 0 rfl rfl)
theorem dX1_kinds_49 : decode cX1_kinds 49 = .ok (.iload_n 1, 1) := dk_27 (dk_at dksX1_kinds_2 3 rfl rfl)
theorem dX1_kinds_50 : decode cX1_kinds 50 = .ok (.iload 9, 2) := dk_21 9 (dk_at dksX1_kinds_2 4 rfl rfl)
theorem dX1_kinds_52 : decode cX1_kinds 52 = .ok (.iastore, 1) := dk_79 (dk_at dksX1_kinds_2 6 rfl rfl)
theorem dX1_kinds_53 : decode cX1_kinds 53 = .ok (.iload 8, 2) := dk_21 8 (dk_at dksX1_kinds_2 7 rfl rfl)
theorem dX1_kinds_55 : decode cX1_kinds 55 = .ok (.aload_n 0, 1) := dk_42 (dk_at dksX1_kinds_2 9 rfl rfl)
theorem dX1_kinds_56 : decode cX1_kinds 56 = .ok (.invokevirtual 169, 3) := dk_182 0 169 (dk_at dksX1_kinds_2 10 rfl rfl)
theorem dX1_kinds_59 : decode cX1_kinds 59 = .ok (.ifCond .eq 10, 3) := dk_153 0 10 (dk_at dksX1_kinds_2 13 rfl rfl)
theorem dX1_kinds_62 : decode cX1_kinds 62 = .ok (.iconst 1, 1) := dk_4 (dk_at dksX1_kinds_2 16 rfl rfl)
theorem dX1_kinds_63 : decode cX1_kinds 63 = .ok (.iload 9, 2) := dk_21 9 (dk_at dksX1_kinds_2 17 rfl rfl)
theorem dX1_kinds_65 : decode cX1_kinds 65 = .ok (.ishl, 1) := dk_120 (dk_at dksX1_kinds_2 19 rfl rfl)
theorem dX1_kinds_66 : decode cX1_kinds 66 = .ok (.goto 4, 3) := dk_167 0 4 (dk_at dksX1_kinds_2 20 rfl rfl)
theorem dX1_kinds_69 : decode cX1_kinds 69 = .ok (.iconst 0, 1) := dk_3 (dk_at dksX1_kinds_2 23 rfl rfl)
theorem dX1_kinds_70 : decode cX1_kinds 70 = .ok (.ior, 1) := dk_128 (dk_at dksX1_kinds_3 0 rfl rfl)
theorem dX1_kinds_71 : decode cX1_kinds 71 = .ok (.istore 8, 2) := dk_54 8 (dk_at dksX1_kinds_3 1 rfl rfl)
theorem dX1_kinds_73 : decode cX1_kinds 73 = .ok (.iinc 9 1, 3) := dk_132 9 1 (dk_at dksX1_kinds_3 3 rfl rfl)
theorem dX1_kinds_76 : decode cX1_kinds 76 = .ok (.goto (-37), 3) := dk_167 255 219 (dk_at dksX1_kinds_3 6 rfl rfl)
theorem dX1_kinds_79 : decode cX1_kinds 79 = .ok (.aload_n 0, 1) := dk_42 (dk_at dksX1_kinds_3 9 rfl rfl)
theorem dX1_kinds_80 : decode cX1_kinds 80 = .ok (.getfield 22, 3) := dk_180 0 22 (dk_at dksX1_kinds_3 10 rfl rfl)
theorem dX1_kinds_83 : decode cX1_kinds 83 = .ok (.iload_n 1, 1) := dk_27 (dk_at dksX1_kinds_3 13 rfl rfl)
theorem dX1_kinds_84 : decode cX1_kinds 84 = .ok (.iload 7, 2) := dk_21 7 (dk_at dksX1_kinds_3 14 rfl rfl)
theorem dX1_kinds_86 : decode cX1_kinds 86 = .ok (.iastore, 1) := dk_79 (dk_at dksX1_kinds_3 16 rfl rfl)
theorem dX1_kinds_87 : decode cX1_kinds 87 = .ok (.iload 8, 2) := dk_21 8 (dk_at dksX1_kinds_3 17 rfl rfl)
theorem dX1_kinds_89 : decode cX1_kinds 89 = .ok (.ireturn, 1) := dk_172 (dk_at dksX1_kinds_3 19 rfl rfl)
abbrev cX1_knew : ByteArray := prog_15_method_47_code
def yX1_knew : MethodName := ⟨RX1, "knew", "(IIIII)I"⟩
def dkwX1_knew_3 : List UInt8 := [128, 54, 8, 132, 9, 1, 167, 255, 219, 42, 180, 0, 28, 27, 21, 7, 79, 21, 8, 172]
abbrev dktX1_knew_3 : List UInt8 := dkwX1_knew_3 ++ []
def dkwX1_knew_2 : List UInt8 := [180, 0, 28, 27, 21, 9, 79, 21, 8, 42, 182, 0, 169, 153, 0, 10, 4, 21, 9, 120, 167, 0, 4, 3]
abbrev dktX1_knew_2 : List UInt8 := dkwX1_knew_2 ++ dktX1_knew_3
def dkwX1_knew_1 : List UInt8 := [172, 42, 180, 0, 28, 27, 46, 54, 7, 3, 54, 8, 3, 54, 9, 21, 9, 7, 163, 0, 37, 42]
abbrev dktX1_knew_1 : List UInt8 := dkwX1_knew_1 ++ dktX1_knew_2
def dkwX1_knew_0 : List UInt8 := [42, 42, 27, 182, 0, 122, 28, 29, 21, 4, 21, 5, 182, 0, 165, 54, 6, 21, 6, 153, 0, 6, 21, 6]
abbrev dktX1_knew_0 : List UInt8 := dkwX1_knew_0 ++ dktX1_knew_1
theorem dksX1_knew_0 : cX1_knew.data.toList.drop 0 = dktX1_knew_0 := by decide +kernel
theorem dksX1_knew_1 : cX1_knew.data.toList.drop 24 = dktX1_knew_1 := dk_seg dksX1_knew_0 24 rfl rfl
theorem dksX1_knew_2 : cX1_knew.data.toList.drop 46 = dktX1_knew_2 := dk_seg dksX1_knew_1 22 rfl rfl
theorem dksX1_knew_3 : cX1_knew.data.toList.drop 70 = dktX1_knew_3 := dk_seg dksX1_knew_2 24 rfl rfl
theorem dX1_knew_0 : decode cX1_knew 0 = .ok (.aload_n 0, 1) := dk_42 (dk_at dksX1_knew_0 0 rfl rfl)
theorem dX1_knew_1 : decode cX1_knew 1 = .ok (.aload_n 0, 1) := dk_42 (dk_at dksX1_knew_0 1 rfl rfl)
theorem dX1_knew_2 : decode cX1_knew 2 = .ok (.iload_n 1, 1) := dk_27 (dk_at dksX1_knew_0 2 rfl rfl)
theorem dX1_knew_3 : decode cX1_knew 3 = .ok (.invokevirtual 122, 3) := dk_182 0 122 (dk_at dksX1_knew_0 3 rfl rfl)
theorem dX1_knew_6 : decode cX1_knew 6 = .ok (.iload_n 2, 1) := dk_28 (dk_at dksX1_knew_0 6 rfl rfl)
theorem dX1_knew_7 : decode cX1_knew 7 = .ok (.iload_n 3, 1) := dk_29 (dk_at dksX1_knew_0 7 rfl rfl)
theorem dX1_knew_8 : decode cX1_knew 8 = .ok (.iload 4, 2) := dk_21 4 (dk_at dksX1_knew_0 8 rfl rfl)
theorem dX1_knew_10 : decode cX1_knew 10 = .ok (.iload 5, 2) := dk_21 5 (dk_at dksX1_knew_0 10 rfl rfl)
theorem dX1_knew_12 : decode cX1_knew 12 = .ok (.invokevirtual 165, 3) := dk_182 0 165 (dk_at dksX1_knew_0 12 rfl rfl)
theorem dX1_knew_15 : decode cX1_knew 15 = .ok (.istore 6, 2) := dk_54 6 (dk_at dksX1_knew_0 15 rfl rfl)
theorem dX1_knew_17 : decode cX1_knew 17 = .ok (.iload 6, 2) := dk_21 6 (dk_at dksX1_knew_0 17 rfl rfl)
theorem dX1_knew_19 : decode cX1_knew 19 = .ok (.ifCond .eq 6, 3) := dk_153 0 6 (dk_at dksX1_knew_0 19 rfl rfl)
theorem dX1_knew_22 : decode cX1_knew 22 = .ok (.iload 6, 2) := dk_21 6 (dk_at dksX1_knew_0 22 rfl rfl)
theorem dX1_knew_24 : decode cX1_knew 24 = .ok (.ireturn, 1) := dk_172 (dk_at dksX1_knew_1 0 rfl rfl)
theorem dX1_knew_25 : decode cX1_knew 25 = .ok (.aload_n 0, 1) := dk_42 (dk_at dksX1_knew_1 1 rfl rfl)
theorem dX1_knew_26 : decode cX1_knew 26 = .ok (.getfield 28, 3) := dk_180 0 28 (dk_at dksX1_knew_1 2 rfl rfl)
theorem dX1_knew_29 : decode cX1_knew 29 = .ok (.iload_n 1, 1) := dk_27 (dk_at dksX1_knew_1 5 rfl rfl)
theorem dX1_knew_30 : decode cX1_knew 30 = .ok (.iaload, 1) := dk_46 (dk_at dksX1_knew_1 6 rfl rfl)
theorem dX1_knew_31 : decode cX1_knew 31 = .ok (.istore 7, 2) := dk_54 7 (dk_at dksX1_knew_1 7 rfl rfl)
theorem dX1_knew_33 : decode cX1_knew 33 = .ok (.iconst 0, 1) := dk_3 (dk_at dksX1_knew_1 9 rfl rfl)
theorem dX1_knew_34 : decode cX1_knew 34 = .ok (.istore 8, 2) := dk_54 8 (dk_at dksX1_knew_1 10 rfl rfl)
theorem dX1_knew_36 : decode cX1_knew 36 = .ok (.iconst 0, 1) := dk_3 (dk_at dksX1_knew_1 12 rfl rfl)
theorem dX1_knew_37 : decode cX1_knew 37 = .ok (.istore 9, 2) := dk_54 9 (dk_at dksX1_knew_1 13 rfl rfl)
theorem dX1_knew_39 : decode cX1_knew 39 = .ok (.iload 9, 2) := dk_21 9 (dk_at dksX1_knew_1 15 rfl rfl)
theorem dX1_knew_41 : decode cX1_knew 41 = .ok (.iconst 4, 1) := dk_7 (dk_at dksX1_knew_1 17 rfl rfl)
theorem dX1_knew_42 : decode cX1_knew 42 = .ok (.if_icmp .gt 37, 3) := dk_163 0 37 (dk_at dksX1_knew_1 18 rfl rfl)
theorem dX1_knew_45 : decode cX1_knew 45 = .ok (.aload_n 0, 1) := dk_42 (dk_at dksX1_knew_1 21 rfl rfl)
theorem dX1_knew_46 : decode cX1_knew 46 = .ok (.getfield 28, 3) := dk_180 0 28 (dk_at dksX1_knew_2 0 rfl rfl)
theorem dX1_knew_49 : decode cX1_knew 49 = .ok (.iload_n 1, 1) := dk_27 (dk_at dksX1_knew_2 3 rfl rfl)
theorem dX1_knew_50 : decode cX1_knew 50 = .ok (.iload 9, 2) := dk_21 9 (dk_at dksX1_knew_2 4 rfl rfl)
theorem dX1_knew_52 : decode cX1_knew 52 = .ok (.iastore, 1) := dk_79 (dk_at dksX1_knew_2 6 rfl rfl)
theorem dX1_knew_53 : decode cX1_knew 53 = .ok (.iload 8, 2) := dk_21 8 (dk_at dksX1_knew_2 7 rfl rfl)
theorem dX1_knew_55 : decode cX1_knew 55 = .ok (.aload_n 0, 1) := dk_42 (dk_at dksX1_knew_2 9 rfl rfl)
theorem dX1_knew_56 : decode cX1_knew 56 = .ok (.invokevirtual 169, 3) := dk_182 0 169 (dk_at dksX1_knew_2 10 rfl rfl)
theorem dX1_knew_59 : decode cX1_knew 59 = .ok (.ifCond .eq 10, 3) := dk_153 0 10 (dk_at dksX1_knew_2 13 rfl rfl)
theorem dX1_knew_62 : decode cX1_knew 62 = .ok (.iconst 1, 1) := dk_4 (dk_at dksX1_knew_2 16 rfl rfl)
theorem dX1_knew_63 : decode cX1_knew 63 = .ok (.iload 9, 2) := dk_21 9 (dk_at dksX1_knew_2 17 rfl rfl)
theorem dX1_knew_65 : decode cX1_knew 65 = .ok (.ishl, 1) := dk_120 (dk_at dksX1_knew_2 19 rfl rfl)
theorem dX1_knew_66 : decode cX1_knew 66 = .ok (.goto 4, 3) := dk_167 0 4 (dk_at dksX1_knew_2 20 rfl rfl)
theorem dX1_knew_69 : decode cX1_knew 69 = .ok (.iconst 0, 1) := dk_3 (dk_at dksX1_knew_2 23 rfl rfl)
theorem dX1_knew_70 : decode cX1_knew 70 = .ok (.ior, 1) := dk_128 (dk_at dksX1_knew_3 0 rfl rfl)
theorem dX1_knew_71 : decode cX1_knew 71 = .ok (.istore 8, 2) := dk_54 8 (dk_at dksX1_knew_3 1 rfl rfl)
theorem dX1_knew_73 : decode cX1_knew 73 = .ok (.iinc 9 1, 3) := dk_132 9 1 (dk_at dksX1_knew_3 3 rfl rfl)
theorem dX1_knew_76 : decode cX1_knew 76 = .ok (.goto (-37), 3) := dk_167 255 219 (dk_at dksX1_knew_3 6 rfl rfl)
theorem dX1_knew_79 : decode cX1_knew 79 = .ok (.aload_n 0, 1) := dk_42 (dk_at dksX1_knew_3 9 rfl rfl)
theorem dX1_knew_80 : decode cX1_knew 80 = .ok (.getfield 28, 3) := dk_180 0 28 (dk_at dksX1_knew_3 10 rfl rfl)
theorem dX1_knew_83 : decode cX1_knew 83 = .ok (.iload_n 1, 1) := dk_27 (dk_at dksX1_knew_3 13 rfl rfl)
theorem dX1_knew_84 : decode cX1_knew 84 = .ok (.iload 7, 2) := dk_21 7 (dk_at dksX1_knew_3 14 rfl rfl)
theorem dX1_knew_86 : decode cX1_knew 86 = .ok (.iastore, 1) := dk_79 (dk_at dksX1_knew_3 16 rfl rfl)
theorem dX1_knew_87 : decode cX1_knew 87 = .ok (.iload 8, 2) := dk_21 8 (dk_at dksX1_knew_3 17 rfl rfl)
theorem dX1_knew_89 : decode cX1_knew 89 = .ok (.ireturn, 1) := dk_172 (dk_at dksX1_knew_3 19 rfl rfl)
abbrev cX1_odds : ByteArray := prog_15_method_49_code
def yX1_odds : MethodName := ⟨RX1, "odds", "(III)J"⟩
def dkwX1_odds_4 : List UInt8 := [184, 0, 173, 173]
abbrev dktX1_odds_4 : List UInt8 := dkwX1_odds_4 ++ []
def dkwX1_odds_3 : List UInt8 := [54, 4, 132, 5, 1, 167, 255, 211, 21, 4, 133, 10, 42, 180, 0, 25, 27, 46, 184, 0, 162, 121, 29]
abbrev dktX1_odds_3 : List UInt8 := dkwX1_odds_3 ++ dktX1_odds_4
def dkwX1_odds_2 : List UInt8 := [182, 0, 159, 153, 0, 18, 42, 27, 21, 5, 182, 0, 125, 28, 161, 0, 7, 4, 167, 0, 4, 3, 96]
abbrev dktX1_odds_2 : List UInt8 := dkwX1_odds_2 ++ dktX1_odds_3
def dkwX1_odds_1 : List UInt8 := [173, 3, 54, 4, 3, 54, 5, 21, 5, 4, 42, 180, 0, 65, 120, 162, 0, 40, 21, 4, 42, 27, 21, 5]
abbrev dktX1_odds_1 : List UInt8 := dkwX1_odds_1 ++ dktX1_odds_2
def dkwX1_odds_0 : List UInt8 := [42, 27, 182, 0, 122, 153, 0, 16, 28, 155, 0, 12, 29, 3, 4, 184, 0, 61, 154, 0, 7, 20, 0, 59]
abbrev dktX1_odds_0 : List UInt8 := dkwX1_odds_0 ++ dktX1_odds_1
theorem dksX1_odds_0 : cX1_odds.data.toList.drop 0 = dktX1_odds_0 := by decide +kernel
theorem dksX1_odds_1 : cX1_odds.data.toList.drop 24 = dktX1_odds_1 := dk_seg dksX1_odds_0 24 rfl rfl
theorem dksX1_odds_2 : cX1_odds.data.toList.drop 48 = dktX1_odds_2 := dk_seg dksX1_odds_1 24 rfl rfl
theorem dksX1_odds_3 : cX1_odds.data.toList.drop 71 = dktX1_odds_3 := dk_seg dksX1_odds_2 23 rfl rfl
theorem dksX1_odds_4 : cX1_odds.data.toList.drop 94 = dktX1_odds_4 := dk_seg dksX1_odds_3 23 rfl rfl
theorem dX1_odds_0 : decode cX1_odds 0 = .ok (.aload_n 0, 1) := dk_42 (dk_at dksX1_odds_0 0 rfl rfl)
theorem dX1_odds_1 : decode cX1_odds 1 = .ok (.iload_n 1, 1) := dk_27 (dk_at dksX1_odds_0 1 rfl rfl)
theorem dX1_odds_2 : decode cX1_odds 2 = .ok (.invokevirtual 122, 3) := dk_182 0 122 (dk_at dksX1_odds_0 2 rfl rfl)
theorem dX1_odds_5 : decode cX1_odds 5 = .ok (.ifCond .eq 16, 3) := dk_153 0 16 (dk_at dksX1_odds_0 5 rfl rfl)
theorem dX1_odds_8 : decode cX1_odds 8 = .ok (.iload_n 2, 1) := dk_28 (dk_at dksX1_odds_0 8 rfl rfl)
theorem dX1_odds_9 : decode cX1_odds 9 = .ok (.ifCond .lt 12, 3) := dk_155 0 12 (dk_at dksX1_odds_0 9 rfl rfl)
theorem dX1_odds_12 : decode cX1_odds 12 = .ok (.iload_n 3, 1) := dk_29 (dk_at dksX1_odds_0 12 rfl rfl)
theorem dX1_odds_13 : decode cX1_odds 13 = .ok (.iconst 0, 1) := dk_3 (dk_at dksX1_odds_0 13 rfl rfl)
theorem dX1_odds_14 : decode cX1_odds 14 = .ok (.iconst 1, 1) := dk_4 (dk_at dksX1_odds_0 14 rfl rfl)
theorem dX1_odds_15 : decode cX1_odds 15 = .ok (.invokestatic 61, 3) := dk_184 0 61 (dk_at dksX1_odds_0 15 rfl rfl)
theorem dX1_odds_18 : decode cX1_odds 18 = .ok (.ifCond .ne 7, 3) := dk_154 0 7 (dk_at dksX1_odds_0 18 rfl rfl)
theorem dX1_odds_21 : decode cX1_odds 21 = .ok (.ldc2_w 59, 3) := dk_20 0 59 (dk_at dksX1_odds_0 21 rfl rfl)
theorem dX1_odds_24 : decode cX1_odds 24 = .ok (.lreturn, 1) := dk_173 (dk_at dksX1_odds_1 0 rfl rfl)
theorem dX1_odds_25 : decode cX1_odds 25 = .ok (.iconst 0, 1) := dk_3 (dk_at dksX1_odds_1 1 rfl rfl)
theorem dX1_odds_26 : decode cX1_odds 26 = .ok (.istore 4, 2) := dk_54 4 (dk_at dksX1_odds_1 2 rfl rfl)
theorem dX1_odds_28 : decode cX1_odds 28 = .ok (.iconst 0, 1) := dk_3 (dk_at dksX1_odds_1 4 rfl rfl)
theorem dX1_odds_29 : decode cX1_odds 29 = .ok (.istore 5, 2) := dk_54 5 (dk_at dksX1_odds_1 5 rfl rfl)
theorem dX1_odds_31 : decode cX1_odds 31 = .ok (.iload 5, 2) := dk_21 5 (dk_at dksX1_odds_1 7 rfl rfl)
theorem dX1_odds_33 : decode cX1_odds 33 = .ok (.iconst 1, 1) := dk_4 (dk_at dksX1_odds_1 9 rfl rfl)
theorem dX1_odds_34 : decode cX1_odds 34 = .ok (.aload_n 0, 1) := dk_42 (dk_at dksX1_odds_1 10 rfl rfl)
theorem dX1_odds_35 : decode cX1_odds 35 = .ok (.getfield 65, 3) := dk_180 0 65 (dk_at dksX1_odds_1 11 rfl rfl)
theorem dX1_odds_38 : decode cX1_odds 38 = .ok (.ishl, 1) := dk_120 (dk_at dksX1_odds_1 14 rfl rfl)
theorem dX1_odds_39 : decode cX1_odds 39 = .ok (.if_icmp .ge 40, 3) := dk_162 0 40 (dk_at dksX1_odds_1 15 rfl rfl)
theorem dX1_odds_42 : decode cX1_odds 42 = .ok (.iload 4, 2) := dk_21 4 (dk_at dksX1_odds_1 18 rfl rfl)
theorem dX1_odds_44 : decode cX1_odds 44 = .ok (.aload_n 0, 1) := dk_42 (dk_at dksX1_odds_1 20 rfl rfl)
theorem dX1_odds_45 : decode cX1_odds 45 = .ok (.iload_n 1, 1) := dk_27 (dk_at dksX1_odds_1 21 rfl rfl)
theorem dX1_odds_46 : decode cX1_odds 46 = .ok (.iload 5, 2) := dk_21 5 (dk_at dksX1_odds_1 22 rfl rfl)
theorem dX1_odds_48 : decode cX1_odds 48 = .ok (.invokevirtual 159, 3) := dk_182 0 159 (dk_at dksX1_odds_2 0 rfl rfl)
theorem dX1_odds_51 : decode cX1_odds 51 = .ok (.ifCond .eq 18, 3) := dk_153 0 18 (dk_at dksX1_odds_2 3 rfl rfl)
theorem dX1_odds_54 : decode cX1_odds 54 = .ok (.aload_n 0, 1) := dk_42 (dk_at dksX1_odds_2 6 rfl rfl)
theorem dX1_odds_55 : decode cX1_odds 55 = .ok (.iload_n 1, 1) := dk_27 (dk_at dksX1_odds_2 7 rfl rfl)
theorem dX1_odds_56 : decode cX1_odds 56 = .ok (.iload 5, 2) := dk_21 5 (dk_at dksX1_odds_2 8 rfl rfl)
theorem dX1_odds_58 : decode cX1_odds 58 = .ok (.invokevirtual 125, 3) := dk_182 0 125 (dk_at dksX1_odds_2 10 rfl rfl)
theorem dX1_odds_61 : decode cX1_odds 61 = .ok (.iload_n 2, 1) := dk_28 (dk_at dksX1_odds_2 13 rfl rfl)
theorem dX1_odds_62 : decode cX1_odds 62 = .ok (.if_icmp .lt 7, 3) := dk_161 0 7 (dk_at dksX1_odds_2 14 rfl rfl)
theorem dX1_odds_65 : decode cX1_odds 65 = .ok (.iconst 1, 1) := dk_4 (dk_at dksX1_odds_2 17 rfl rfl)
theorem dX1_odds_66 : decode cX1_odds 66 = .ok (.goto 4, 3) := dk_167 0 4 (dk_at dksX1_odds_2 18 rfl rfl)
theorem dX1_odds_69 : decode cX1_odds 69 = .ok (.iconst 0, 1) := dk_3 (dk_at dksX1_odds_2 21 rfl rfl)
theorem dX1_odds_70 : decode cX1_odds 70 = .ok (.iadd, 1) := dk_96 (dk_at dksX1_odds_2 22 rfl rfl)
theorem dX1_odds_71 : decode cX1_odds 71 = .ok (.istore 4, 2) := dk_54 4 (dk_at dksX1_odds_3 0 rfl rfl)
theorem dX1_odds_73 : decode cX1_odds 73 = .ok (.iinc 5 1, 3) := dk_132 5 1 (dk_at dksX1_odds_3 2 rfl rfl)
theorem dX1_odds_76 : decode cX1_odds 76 = .ok (.goto (-45), 3) := dk_167 255 211 (dk_at dksX1_odds_3 5 rfl rfl)
theorem dX1_odds_79 : decode cX1_odds 79 = .ok (.iload 4, 2) := dk_21 4 (dk_at dksX1_odds_3 8 rfl rfl)
theorem dX1_odds_81 : decode cX1_odds 81 = .ok (.i2l, 1) := dk_133 (dk_at dksX1_odds_3 10 rfl rfl)
theorem dX1_odds_82 : decode cX1_odds 82 = .ok (.lconst 1, 1) := dk_10 (dk_at dksX1_odds_3 11 rfl rfl)
theorem dX1_odds_83 : decode cX1_odds 83 = .ok (.aload_n 0, 1) := dk_42 (dk_at dksX1_odds_3 12 rfl rfl)
theorem dX1_odds_84 : decode cX1_odds 84 = .ok (.getfield 25, 3) := dk_180 0 25 (dk_at dksX1_odds_3 13 rfl rfl)
theorem dX1_odds_87 : decode cX1_odds 87 = .ok (.iload_n 1, 1) := dk_27 (dk_at dksX1_odds_3 16 rfl rfl)
theorem dX1_odds_88 : decode cX1_odds 88 = .ok (.iaload, 1) := dk_46 (dk_at dksX1_odds_3 17 rfl rfl)
theorem dX1_odds_89 : decode cX1_odds 89 = .ok (.invokestatic 162, 3) := dk_184 0 162 (dk_at dksX1_odds_3 18 rfl rfl)
theorem dX1_odds_92 : decode cX1_odds 92 = .ok (.lshl, 1) := dk_121 (dk_at dksX1_odds_3 21 rfl rfl)
theorem dX1_odds_93 : decode cX1_odds 93 = .ok (.iload_n 3, 1) := dk_29 (dk_at dksX1_odds_3 22 rfl rfl)
theorem dX1_odds_94 : decode cX1_odds 94 = .ok (.invokestatic 173, 3) := dk_184 0 173 (dk_at dksX1_odds_4 0 rfl rfl)
theorem dX1_odds_97 : decode cX1_odds 97 = .ok (.lreturn, 1) := dk_173 (dk_at dksX1_odds_4 3 rfl rfl)
abbrev cX1_inLeastTerms : ByteArray := prog_15_method_48_code
def yX1_inLeastTerms : MethodName := ⟨RX1, "inLeastTerms", "(JJI)J"⟩
def dkwX1_inLeastTerms_1 : List UInt8 := [22, 9, 55, 7, 167, 255, 234, 21, 4, 154, 0, 10, 30, 22, 5, 109, 167, 0, 7, 32, 22, 5, 109, 173]
abbrev dktX1_inLeastTerms_1 : List UInt8 := dkwX1_inLeastTerms_1 ++ []
def dkwX1_inLeastTerms_0 : List UInt8 := [30, 55, 5, 32, 55, 7, 22, 7, 9, 148, 153, 0, 21, 22, 5, 22, 7, 113, 55, 9, 22, 7, 55, 5]
abbrev dktX1_inLeastTerms_0 : List UInt8 := dkwX1_inLeastTerms_0 ++ dktX1_inLeastTerms_1
theorem dksX1_inLeastTerms_0 : cX1_inLeastTerms.data.toList.drop 0 = dktX1_inLeastTerms_0 := by decide +kernel
theorem dksX1_inLeastTerms_1 : cX1_inLeastTerms.data.toList.drop 24 = dktX1_inLeastTerms_1 := dk_seg dksX1_inLeastTerms_0 24 rfl rfl
theorem dX1_inLeastTerms_0 : decode cX1_inLeastTerms 0 = .ok (.lload_n 0, 1) := dk_30 (dk_at dksX1_inLeastTerms_0 0 rfl rfl)
theorem dX1_inLeastTerms_1 : decode cX1_inLeastTerms 1 = .ok (.lstore 5, 2) := dk_55 5 (dk_at dksX1_inLeastTerms_0 1 rfl rfl)
theorem dX1_inLeastTerms_3 : decode cX1_inLeastTerms 3 = .ok (.lload_n 2, 1) := dk_32 (dk_at dksX1_inLeastTerms_0 3 rfl rfl)
theorem dX1_inLeastTerms_4 : decode cX1_inLeastTerms 4 = .ok (.lstore 7, 2) := dk_55 7 (dk_at dksX1_inLeastTerms_0 4 rfl rfl)
theorem dX1_inLeastTerms_6 : decode cX1_inLeastTerms 6 = .ok (.lload 7, 2) := dk_22 7 (dk_at dksX1_inLeastTerms_0 6 rfl rfl)
theorem dX1_inLeastTerms_8 : decode cX1_inLeastTerms 8 = .ok (.lconst 0, 1) := dk_9 (dk_at dksX1_inLeastTerms_0 8 rfl rfl)
theorem dX1_inLeastTerms_9 : decode cX1_inLeastTerms 9 = .ok (.lcmp, 1) := dk_148 (dk_at dksX1_inLeastTerms_0 9 rfl rfl)
theorem dX1_inLeastTerms_10 : decode cX1_inLeastTerms 10 = .ok (.ifCond .eq 21, 3) := dk_153 0 21 (dk_at dksX1_inLeastTerms_0 10 rfl rfl)
theorem dX1_inLeastTerms_13 : decode cX1_inLeastTerms 13 = .ok (.lload 5, 2) := dk_22 5 (dk_at dksX1_inLeastTerms_0 13 rfl rfl)
theorem dX1_inLeastTerms_15 : decode cX1_inLeastTerms 15 = .ok (.lload 7, 2) := dk_22 7 (dk_at dksX1_inLeastTerms_0 15 rfl rfl)
theorem dX1_inLeastTerms_17 : decode cX1_inLeastTerms 17 = .ok (.lrem, 1) := dk_113 (dk_at dksX1_inLeastTerms_0 17 rfl rfl)
theorem dX1_inLeastTerms_18 : decode cX1_inLeastTerms 18 = .ok (.lstore 9, 2) := dk_55 9 (dk_at dksX1_inLeastTerms_0 18 rfl rfl)
theorem dX1_inLeastTerms_20 : decode cX1_inLeastTerms 20 = .ok (.lload 7, 2) := dk_22 7 (dk_at dksX1_inLeastTerms_0 20 rfl rfl)
theorem dX1_inLeastTerms_22 : decode cX1_inLeastTerms 22 = .ok (.lstore 5, 2) := dk_55 5 (dk_at dksX1_inLeastTerms_0 22 rfl rfl)
theorem dX1_inLeastTerms_24 : decode cX1_inLeastTerms 24 = .ok (.lload 9, 2) := dk_22 9 (dk_at dksX1_inLeastTerms_1 0 rfl rfl)
theorem dX1_inLeastTerms_26 : decode cX1_inLeastTerms 26 = .ok (.lstore 7, 2) := dk_55 7 (dk_at dksX1_inLeastTerms_1 2 rfl rfl)
theorem dX1_inLeastTerms_28 : decode cX1_inLeastTerms 28 = .ok (.goto (-22), 3) := dk_167 255 234 (dk_at dksX1_inLeastTerms_1 4 rfl rfl)
theorem dX1_inLeastTerms_31 : decode cX1_inLeastTerms 31 = .ok (.iload 4, 2) := dk_21 4 (dk_at dksX1_inLeastTerms_1 7 rfl rfl)
theorem dX1_inLeastTerms_33 : decode cX1_inLeastTerms 33 = .ok (.ifCond .ne 10, 3) := dk_154 0 10 (dk_at dksX1_inLeastTerms_1 9 rfl rfl)
theorem dX1_inLeastTerms_36 : decode cX1_inLeastTerms 36 = .ok (.lload_n 0, 1) := dk_30 (dk_at dksX1_inLeastTerms_1 12 rfl rfl)
theorem dX1_inLeastTerms_37 : decode cX1_inLeastTerms 37 = .ok (.lload 5, 2) := dk_22 5 (dk_at dksX1_inLeastTerms_1 13 rfl rfl)
theorem dX1_inLeastTerms_39 : decode cX1_inLeastTerms 39 = .ok (.ldiv, 1) := dk_109 (dk_at dksX1_inLeastTerms_1 15 rfl rfl)
theorem dX1_inLeastTerms_40 : decode cX1_inLeastTerms 40 = .ok (.goto 7, 3) := dk_167 0 7 (dk_at dksX1_inLeastTerms_1 16 rfl rfl)
theorem dX1_inLeastTerms_43 : decode cX1_inLeastTerms 43 = .ok (.lload_n 2, 1) := dk_32 (dk_at dksX1_inLeastTerms_1 19 rfl rfl)
theorem dX1_inLeastTerms_44 : decode cX1_inLeastTerms 44 = .ok (.lload 5, 2) := dk_22 5 (dk_at dksX1_inLeastTerms_1 20 rfl rfl)
theorem dX1_inLeastTerms_46 : decode cX1_inLeastTerms 46 = .ok (.ldiv, 1) := dk_109 (dk_at dksX1_inLeastTerms_1 22 rfl rfl)
theorem dX1_inLeastTerms_47 : decode cX1_inLeastTerms 47 = .ok (.lreturn, 1) := dk_173 (dk_at dksX1_inLeastTerms_1 23 rfl rfl)
abbrev cX1_sheet : ByteArray := prog_15_method_50_code
def yX1_sheet : MethodName := ⟨RX1, "sheet", "(III)I"⟩
def dkwX1_sheet_3 : List UInt8 := [21, 4, 96, 3, 79, 132, 4, 1, 167, 255, 233, 4, 172]
abbrev dktX1_sheet_3 : List UInt8 := dkwX1_sheet_3 ++ []
def dkwX1_sheet_2 : List UInt8 := [180, 0, 13, 27, 29, 79, 3, 54, 4, 21, 4, 16, 60, 162, 0, 22, 42, 180, 0, 16, 16, 60, 27, 104]
abbrev dktX1_sheet_2 : List UInt8 := dkwX1_sheet_2 ++ dktX1_sheet_3
def dkwX1_sheet_1 : List UInt8 := [164, 0, 6, 16, 254, 172, 29, 156, 0, 9, 42, 7, 182, 0, 85, 172, 42, 180, 0, 9, 27, 28, 79, 42]
abbrev dktX1_sheet_1 : List UInt8 := dkwX1_sheet_1 ++ dktX1_sheet_2
def dkwX1_sheet_0 : List UInt8 := [42, 3, 181, 0, 55, 27, 184, 0, 74, 154, 0, 5, 2, 172, 28, 184, 0, 78, 153, 0, 9, 29, 16, 60]
abbrev dktX1_sheet_0 : List UInt8 := dkwX1_sheet_0 ++ dktX1_sheet_1
theorem dksX1_sheet_0 : cX1_sheet.data.toList.drop 0 = dktX1_sheet_0 := by decide +kernel
theorem dksX1_sheet_1 : cX1_sheet.data.toList.drop 24 = dktX1_sheet_1 := dk_seg dksX1_sheet_0 24 rfl rfl
theorem dksX1_sheet_2 : cX1_sheet.data.toList.drop 48 = dktX1_sheet_2 := dk_seg dksX1_sheet_1 24 rfl rfl
theorem dksX1_sheet_3 : cX1_sheet.data.toList.drop 72 = dktX1_sheet_3 := dk_seg dksX1_sheet_2 24 rfl rfl
theorem dX1_sheet_0 : decode cX1_sheet 0 = .ok (.aload_n 0, 1) := dk_42 (dk_at dksX1_sheet_0 0 rfl rfl)
theorem dX1_sheet_1 : decode cX1_sheet 1 = .ok (.iconst 0, 1) := dk_3 (dk_at dksX1_sheet_0 1 rfl rfl)
theorem dX1_sheet_2 : decode cX1_sheet 2 = .ok (.putfield 55, 3) := dk_181 0 55 (dk_at dksX1_sheet_0 2 rfl rfl)
theorem dX1_sheet_5 : decode cX1_sheet 5 = .ok (.iload_n 1, 1) := dk_27 (dk_at dksX1_sheet_0 5 rfl rfl)
theorem dX1_sheet_6 : decode cX1_sheet 6 = .ok (.invokestatic 74, 3) := dk_184 0 74 (dk_at dksX1_sheet_0 6 rfl rfl)
theorem dX1_sheet_9 : decode cX1_sheet 9 = .ok (.ifCond .ne 5, 3) := dk_154 0 5 (dk_at dksX1_sheet_0 9 rfl rfl)
theorem dX1_sheet_12 : decode cX1_sheet 12 = .ok (.iconst (-1), 1) := dk_2 (dk_at dksX1_sheet_0 12 rfl rfl)
theorem dX1_sheet_13 : decode cX1_sheet 13 = .ok (.ireturn, 1) := dk_172 (dk_at dksX1_sheet_0 13 rfl rfl)
theorem dX1_sheet_14 : decode cX1_sheet 14 = .ok (.iload_n 2, 1) := dk_28 (dk_at dksX1_sheet_0 14 rfl rfl)
theorem dX1_sheet_15 : decode cX1_sheet 15 = .ok (.invokestatic 78, 3) := dk_184 0 78 (dk_at dksX1_sheet_0 15 rfl rfl)
theorem dX1_sheet_18 : decode cX1_sheet 18 = .ok (.ifCond .eq 9, 3) := dk_153 0 9 (dk_at dksX1_sheet_0 18 rfl rfl)
theorem dX1_sheet_21 : decode cX1_sheet 21 = .ok (.iload_n 3, 1) := dk_29 (dk_at dksX1_sheet_0 21 rfl rfl)
theorem dX1_sheet_22 : decode cX1_sheet 22 = .ok (.bipush 60, 2) := dk_16 60 (dk_at dksX1_sheet_0 22 rfl rfl)
theorem dX1_sheet_24 : decode cX1_sheet 24 = .ok (.if_icmp .le 6, 3) := dk_164 0 6 (dk_at dksX1_sheet_1 0 rfl rfl)
theorem dX1_sheet_27 : decode cX1_sheet 27 = .ok (.bipush (-2), 2) := dk_16 254 (dk_at dksX1_sheet_1 3 rfl rfl)
theorem dX1_sheet_29 : decode cX1_sheet 29 = .ok (.ireturn, 1) := dk_172 (dk_at dksX1_sheet_1 5 rfl rfl)
theorem dX1_sheet_30 : decode cX1_sheet 30 = .ok (.iload_n 3, 1) := dk_29 (dk_at dksX1_sheet_1 6 rfl rfl)
theorem dX1_sheet_31 : decode cX1_sheet 31 = .ok (.ifCond .ge 9, 3) := dk_156 0 9 (dk_at dksX1_sheet_1 7 rfl rfl)
theorem dX1_sheet_34 : decode cX1_sheet 34 = .ok (.aload_n 0, 1) := dk_42 (dk_at dksX1_sheet_1 10 rfl rfl)
theorem dX1_sheet_35 : decode cX1_sheet 35 = .ok (.iconst 4, 1) := dk_7 (dk_at dksX1_sheet_1 11 rfl rfl)
theorem dX1_sheet_36 : decode cX1_sheet 36 = .ok (.invokevirtual 85, 3) := dk_182 0 85 (dk_at dksX1_sheet_1 12 rfl rfl)
theorem dX1_sheet_39 : decode cX1_sheet 39 = .ok (.ireturn, 1) := dk_172 (dk_at dksX1_sheet_1 15 rfl rfl)
theorem dX1_sheet_40 : decode cX1_sheet 40 = .ok (.aload_n 0, 1) := dk_42 (dk_at dksX1_sheet_1 16 rfl rfl)
theorem dX1_sheet_41 : decode cX1_sheet 41 = .ok (.getfield 9, 3) := dk_180 0 9 (dk_at dksX1_sheet_1 17 rfl rfl)
theorem dX1_sheet_44 : decode cX1_sheet 44 = .ok (.iload_n 1, 1) := dk_27 (dk_at dksX1_sheet_1 20 rfl rfl)
theorem dX1_sheet_45 : decode cX1_sheet 45 = .ok (.iload_n 2, 1) := dk_28 (dk_at dksX1_sheet_1 21 rfl rfl)
theorem dX1_sheet_46 : decode cX1_sheet 46 = .ok (.iastore, 1) := dk_79 (dk_at dksX1_sheet_1 22 rfl rfl)
theorem dX1_sheet_47 : decode cX1_sheet 47 = .ok (.aload_n 0, 1) := dk_42 (dk_at dksX1_sheet_1 23 rfl rfl)
theorem dX1_sheet_48 : decode cX1_sheet 48 = .ok (.getfield 13, 3) := dk_180 0 13 (dk_at dksX1_sheet_2 0 rfl rfl)
theorem dX1_sheet_51 : decode cX1_sheet 51 = .ok (.iload_n 1, 1) := dk_27 (dk_at dksX1_sheet_2 3 rfl rfl)
theorem dX1_sheet_52 : decode cX1_sheet 52 = .ok (.iload_n 3, 1) := dk_29 (dk_at dksX1_sheet_2 4 rfl rfl)
theorem dX1_sheet_53 : decode cX1_sheet 53 = .ok (.iastore, 1) := dk_79 (dk_at dksX1_sheet_2 5 rfl rfl)
theorem dX1_sheet_54 : decode cX1_sheet 54 = .ok (.iconst 0, 1) := dk_3 (dk_at dksX1_sheet_2 6 rfl rfl)
theorem dX1_sheet_55 : decode cX1_sheet 55 = .ok (.istore 4, 2) := dk_54 4 (dk_at dksX1_sheet_2 7 rfl rfl)
theorem dX1_sheet_57 : decode cX1_sheet 57 = .ok (.iload 4, 2) := dk_21 4 (dk_at dksX1_sheet_2 9 rfl rfl)
theorem dX1_sheet_59 : decode cX1_sheet 59 = .ok (.bipush 60, 2) := dk_16 60 (dk_at dksX1_sheet_2 11 rfl rfl)
theorem dX1_sheet_61 : decode cX1_sheet 61 = .ok (.if_icmp .ge 22, 3) := dk_162 0 22 (dk_at dksX1_sheet_2 13 rfl rfl)
theorem dX1_sheet_64 : decode cX1_sheet 64 = .ok (.aload_n 0, 1) := dk_42 (dk_at dksX1_sheet_2 16 rfl rfl)
theorem dX1_sheet_65 : decode cX1_sheet 65 = .ok (.getfield 16, 3) := dk_180 0 16 (dk_at dksX1_sheet_2 17 rfl rfl)
theorem dX1_sheet_68 : decode cX1_sheet 68 = .ok (.bipush 60, 2) := dk_16 60 (dk_at dksX1_sheet_2 20 rfl rfl)
theorem dX1_sheet_70 : decode cX1_sheet 70 = .ok (.iload_n 1, 1) := dk_27 (dk_at dksX1_sheet_2 22 rfl rfl)
theorem dX1_sheet_71 : decode cX1_sheet 71 = .ok (.imul, 1) := dk_104 (dk_at dksX1_sheet_2 23 rfl rfl)
theorem dX1_sheet_72 : decode cX1_sheet 72 = .ok (.iload 4, 2) := dk_21 4 (dk_at dksX1_sheet_3 0 rfl rfl)
theorem dX1_sheet_74 : decode cX1_sheet 74 = .ok (.iadd, 1) := dk_96 (dk_at dksX1_sheet_3 2 rfl rfl)
theorem dX1_sheet_75 : decode cX1_sheet 75 = .ok (.iconst 0, 1) := dk_3 (dk_at dksX1_sheet_3 3 rfl rfl)
theorem dX1_sheet_76 : decode cX1_sheet 76 = .ok (.iastore, 1) := dk_79 (dk_at dksX1_sheet_3 4 rfl rfl)
theorem dX1_sheet_77 : decode cX1_sheet 77 = .ok (.iinc 4 1, 3) := dk_132 4 1 (dk_at dksX1_sheet_3 5 rfl rfl)
theorem dX1_sheet_80 : decode cX1_sheet 80 = .ok (.goto (-23), 3) := dk_167 255 233 (dk_at dksX1_sheet_3 8 rfl rfl)
theorem dX1_sheet_83 : decode cX1_sheet 83 = .ok (.iconst 1, 1) := dk_4 (dk_at dksX1_sheet_3 11 rfl rfl)
theorem dX1_sheet_84 : decode cX1_sheet 84 = .ok (.ireturn, 1) := dk_172 (dk_at dksX1_sheet_3 12 rfl rfl)
abbrev cX1_lose : ByteArray := prog_15_method_51_code
def yX1_lose : MethodName := ⟨RX1, "lose", "(I)I"⟩
def dkwX1_lose_1 : List UInt8 := [4, 61, 42, 180, 0, 9, 27, 16, 247, 79, 28, 172]
abbrev dktX1_lose_1 : List UInt8 := dkwX1_lose_1 ++ []
def dkwX1_lose_0 : List UInt8 := [27, 184, 0, 74, 154, 0, 5, 2, 172, 42, 180, 0, 9, 27, 46, 16, 247, 160, 0, 7, 3, 167, 0, 4]
abbrev dktX1_lose_0 : List UInt8 := dkwX1_lose_0 ++ dktX1_lose_1
theorem dksX1_lose_0 : cX1_lose.data.toList.drop 0 = dktX1_lose_0 := by decide +kernel
theorem dksX1_lose_1 : cX1_lose.data.toList.drop 24 = dktX1_lose_1 := dk_seg dksX1_lose_0 24 rfl rfl
theorem dX1_lose_0 : decode cX1_lose 0 = .ok (.iload_n 1, 1) := dk_27 (dk_at dksX1_lose_0 0 rfl rfl)
theorem dX1_lose_1 : decode cX1_lose 1 = .ok (.invokestatic 74, 3) := dk_184 0 74 (dk_at dksX1_lose_0 1 rfl rfl)
theorem dX1_lose_4 : decode cX1_lose 4 = .ok (.ifCond .ne 5, 3) := dk_154 0 5 (dk_at dksX1_lose_0 4 rfl rfl)
theorem dX1_lose_7 : decode cX1_lose 7 = .ok (.iconst (-1), 1) := dk_2 (dk_at dksX1_lose_0 7 rfl rfl)
theorem dX1_lose_8 : decode cX1_lose 8 = .ok (.ireturn, 1) := dk_172 (dk_at dksX1_lose_0 8 rfl rfl)
theorem dX1_lose_9 : decode cX1_lose 9 = .ok (.aload_n 0, 1) := dk_42 (dk_at dksX1_lose_0 9 rfl rfl)
theorem dX1_lose_10 : decode cX1_lose 10 = .ok (.getfield 9, 3) := dk_180 0 9 (dk_at dksX1_lose_0 10 rfl rfl)
theorem dX1_lose_13 : decode cX1_lose 13 = .ok (.iload_n 1, 1) := dk_27 (dk_at dksX1_lose_0 13 rfl rfl)
theorem dX1_lose_14 : decode cX1_lose 14 = .ok (.iaload, 1) := dk_46 (dk_at dksX1_lose_0 14 rfl rfl)
theorem dX1_lose_15 : decode cX1_lose 15 = .ok (.bipush (-9), 2) := dk_16 247 (dk_at dksX1_lose_0 15 rfl rfl)
theorem dX1_lose_17 : decode cX1_lose 17 = .ok (.if_icmp .ne 7, 3) := dk_160 0 7 (dk_at dksX1_lose_0 17 rfl rfl)
theorem dX1_lose_20 : decode cX1_lose 20 = .ok (.iconst 0, 1) := dk_3 (dk_at dksX1_lose_0 20 rfl rfl)
theorem dX1_lose_21 : decode cX1_lose 21 = .ok (.goto 4, 3) := dk_167 0 4 (dk_at dksX1_lose_0 21 rfl rfl)
theorem dX1_lose_24 : decode cX1_lose 24 = .ok (.iconst 1, 1) := dk_4 (dk_at dksX1_lose_1 0 rfl rfl)
theorem dX1_lose_25 : decode cX1_lose 25 = .ok (.istore_n 2, 1) := dk_61 (dk_at dksX1_lose_1 1 rfl rfl)
theorem dX1_lose_26 : decode cX1_lose 26 = .ok (.aload_n 0, 1) := dk_42 (dk_at dksX1_lose_1 2 rfl rfl)
theorem dX1_lose_27 : decode cX1_lose 27 = .ok (.getfield 9, 3) := dk_180 0 9 (dk_at dksX1_lose_1 3 rfl rfl)
theorem dX1_lose_30 : decode cX1_lose 30 = .ok (.iload_n 1, 1) := dk_27 (dk_at dksX1_lose_1 6 rfl rfl)
theorem dX1_lose_31 : decode cX1_lose 31 = .ok (.bipush (-9), 2) := dk_16 247 (dk_at dksX1_lose_1 7 rfl rfl)
theorem dX1_lose_33 : decode cX1_lose 33 = .ok (.iastore, 1) := dk_79 (dk_at dksX1_lose_1 9 rfl rfl)
theorem dX1_lose_34 : decode cX1_lose 34 = .ok (.iload_n 2, 1) := dk_28 (dk_at dksX1_lose_1 10 rfl rfl)
theorem dX1_lose_35 : decode cX1_lose 35 = .ok (.ireturn, 1) := dk_172 (dk_at dksX1_lose_1 11 rfl rfl)
abbrev cX1_put : ByteArray := prog_15_method_52_code
def yX1_put : MethodName := ⟨RX1, "put", "(III)I"⟩
def dkwX1_put_4 : List UInt8 := [29, 79, 4, 172]
abbrev dktX1_put_4 : List UInt8 := dkwX1_put_4 ++ []
def dkwX1_put_3 : List UInt8 := [46, 154, 0, 8, 29, 145, 167, 0, 19, 42, 180, 0, 9, 27, 46, 4, 160, 0, 8, 29, 147, 167, 0, 4]
abbrev dktX1_put_3 : List UInt8 := dkwX1_put_3 ++ dktX1_put_4
def dkwX1_put_2 : List UInt8 := [154, 0, 9, 42, 6, 182, 0, 85, 172, 42, 180, 0, 16, 16, 60, 27, 104, 28, 96, 42, 180, 0, 9, 27]
abbrev dktX1_put_2 : List UInt8 := dkwX1_put_2 ++ dktX1_put_3
def dkwX1_put_1 : List UInt8 := [160, 0, 9, 42, 4, 182, 0, 85, 172, 28, 3, 42, 180, 0, 13, 27, 46, 4, 100, 184, 0, 61]
abbrev dktX1_put_1 : List UInt8 := dkwX1_put_1 ++ dktX1_put_2
def dkwX1_put_0 : List UInt8 := [42, 3, 181, 0, 55, 27, 184, 0, 74, 154, 0, 5, 2, 172, 42, 180, 0, 9, 27, 46, 16, 247]
abbrev dktX1_put_0 : List UInt8 := dkwX1_put_0 ++ dktX1_put_1
theorem dksX1_put_0 : cX1_put.data.toList.drop 0 = dktX1_put_0 := by decide +kernel
theorem dksX1_put_1 : cX1_put.data.toList.drop 22 = dktX1_put_1 := dk_seg dksX1_put_0 22 rfl rfl
theorem dksX1_put_2 : cX1_put.data.toList.drop 44 = dktX1_put_2 := dk_seg dksX1_put_1 22 rfl rfl
theorem dksX1_put_3 : cX1_put.data.toList.drop 68 = dktX1_put_3 := dk_seg dksX1_put_2 24 rfl rfl
theorem dksX1_put_4 : cX1_put.data.toList.drop 92 = dktX1_put_4 := dk_seg dksX1_put_3 24 rfl rfl
theorem dX1_put_0 : decode cX1_put 0 = .ok (.aload_n 0, 1) := dk_42 (dk_at dksX1_put_0 0 rfl rfl)
theorem dX1_put_1 : decode cX1_put 1 = .ok (.iconst 0, 1) := dk_3 (dk_at dksX1_put_0 1 rfl rfl)
theorem dX1_put_2 : decode cX1_put 2 = .ok (.putfield 55, 3) := dk_181 0 55 (dk_at dksX1_put_0 2 rfl rfl)
theorem dX1_put_5 : decode cX1_put 5 = .ok (.iload_n 1, 1) := dk_27 (dk_at dksX1_put_0 5 rfl rfl)
theorem dX1_put_6 : decode cX1_put 6 = .ok (.invokestatic 74, 3) := dk_184 0 74 (dk_at dksX1_put_0 6 rfl rfl)
theorem dX1_put_9 : decode cX1_put 9 = .ok (.ifCond .ne 5, 3) := dk_154 0 5 (dk_at dksX1_put_0 9 rfl rfl)
theorem dX1_put_12 : decode cX1_put 12 = .ok (.iconst (-1), 1) := dk_2 (dk_at dksX1_put_0 12 rfl rfl)
theorem dX1_put_13 : decode cX1_put 13 = .ok (.ireturn, 1) := dk_172 (dk_at dksX1_put_0 13 rfl rfl)
theorem dX1_put_14 : decode cX1_put 14 = .ok (.aload_n 0, 1) := dk_42 (dk_at dksX1_put_0 14 rfl rfl)
theorem dX1_put_15 : decode cX1_put 15 = .ok (.getfield 9, 3) := dk_180 0 9 (dk_at dksX1_put_0 15 rfl rfl)
theorem dX1_put_18 : decode cX1_put 18 = .ok (.iload_n 1, 1) := dk_27 (dk_at dksX1_put_0 18 rfl rfl)
theorem dX1_put_19 : decode cX1_put 19 = .ok (.iaload, 1) := dk_46 (dk_at dksX1_put_0 19 rfl rfl)
theorem dX1_put_20 : decode cX1_put 20 = .ok (.bipush (-9), 2) := dk_16 247 (dk_at dksX1_put_0 20 rfl rfl)
theorem dX1_put_22 : decode cX1_put 22 = .ok (.if_icmp .ne 9, 3) := dk_160 0 9 (dk_at dksX1_put_1 0 rfl rfl)
theorem dX1_put_25 : decode cX1_put 25 = .ok (.aload_n 0, 1) := dk_42 (dk_at dksX1_put_1 3 rfl rfl)
theorem dX1_put_26 : decode cX1_put 26 = .ok (.iconst 1, 1) := dk_4 (dk_at dksX1_put_1 4 rfl rfl)
theorem dX1_put_27 : decode cX1_put 27 = .ok (.invokevirtual 85, 3) := dk_182 0 85 (dk_at dksX1_put_1 5 rfl rfl)
theorem dX1_put_30 : decode cX1_put 30 = .ok (.ireturn, 1) := dk_172 (dk_at dksX1_put_1 8 rfl rfl)
theorem dX1_put_31 : decode cX1_put 31 = .ok (.iload_n 2, 1) := dk_28 (dk_at dksX1_put_1 9 rfl rfl)
theorem dX1_put_32 : decode cX1_put 32 = .ok (.iconst 0, 1) := dk_3 (dk_at dksX1_put_1 10 rfl rfl)
theorem dX1_put_33 : decode cX1_put 33 = .ok (.aload_n 0, 1) := dk_42 (dk_at dksX1_put_1 11 rfl rfl)
theorem dX1_put_34 : decode cX1_put 34 = .ok (.getfield 13, 3) := dk_180 0 13 (dk_at dksX1_put_1 12 rfl rfl)
theorem dX1_put_37 : decode cX1_put 37 = .ok (.iload_n 1, 1) := dk_27 (dk_at dksX1_put_1 15 rfl rfl)
theorem dX1_put_38 : decode cX1_put 38 = .ok (.iaload, 1) := dk_46 (dk_at dksX1_put_1 16 rfl rfl)
theorem dX1_put_39 : decode cX1_put 39 = .ok (.iconst 1, 1) := dk_4 (dk_at dksX1_put_1 17 rfl rfl)
theorem dX1_put_40 : decode cX1_put 40 = .ok (.isub, 1) := dk_100 (dk_at dksX1_put_1 18 rfl rfl)
theorem dX1_put_41 : decode cX1_put 41 = .ok (.invokestatic 61, 3) := dk_184 0 61 (dk_at dksX1_put_1 19 rfl rfl)
theorem dX1_put_44 : decode cX1_put 44 = .ok (.ifCond .ne 9, 3) := dk_154 0 9 (dk_at dksX1_put_2 0 rfl rfl)
theorem dX1_put_47 : decode cX1_put 47 = .ok (.aload_n 0, 1) := dk_42 (dk_at dksX1_put_2 3 rfl rfl)
theorem dX1_put_48 : decode cX1_put 48 = .ok (.iconst 3, 1) := dk_6 (dk_at dksX1_put_2 4 rfl rfl)
theorem dX1_put_49 : decode cX1_put 49 = .ok (.invokevirtual 85, 3) := dk_182 0 85 (dk_at dksX1_put_2 5 rfl rfl)
theorem dX1_put_52 : decode cX1_put 52 = .ok (.ireturn, 1) := dk_172 (dk_at dksX1_put_2 8 rfl rfl)
theorem dX1_put_53 : decode cX1_put 53 = .ok (.aload_n 0, 1) := dk_42 (dk_at dksX1_put_2 9 rfl rfl)
theorem dX1_put_54 : decode cX1_put 54 = .ok (.getfield 16, 3) := dk_180 0 16 (dk_at dksX1_put_2 10 rfl rfl)
theorem dX1_put_57 : decode cX1_put 57 = .ok (.bipush 60, 2) := dk_16 60 (dk_at dksX1_put_2 13 rfl rfl)
theorem dX1_put_59 : decode cX1_put 59 = .ok (.iload_n 1, 1) := dk_27 (dk_at dksX1_put_2 15 rfl rfl)
theorem dX1_put_60 : decode cX1_put 60 = .ok (.imul, 1) := dk_104 (dk_at dksX1_put_2 16 rfl rfl)
theorem dX1_put_61 : decode cX1_put 61 = .ok (.iload_n 2, 1) := dk_28 (dk_at dksX1_put_2 17 rfl rfl)
theorem dX1_put_62 : decode cX1_put 62 = .ok (.iadd, 1) := dk_96 (dk_at dksX1_put_2 18 rfl rfl)
theorem dX1_put_63 : decode cX1_put 63 = .ok (.aload_n 0, 1) := dk_42 (dk_at dksX1_put_2 19 rfl rfl)
theorem dX1_put_64 : decode cX1_put 64 = .ok (.getfield 9, 3) := dk_180 0 9 (dk_at dksX1_put_2 20 rfl rfl)
theorem dX1_put_67 : decode cX1_put 67 = .ok (.iload_n 1, 1) := dk_27 (dk_at dksX1_put_2 23 rfl rfl)
theorem dX1_put_68 : decode cX1_put 68 = .ok (.iaload, 1) := dk_46 (dk_at dksX1_put_3 0 rfl rfl)
theorem dX1_put_69 : decode cX1_put 69 = .ok (.ifCond .ne 8, 3) := dk_154 0 8 (dk_at dksX1_put_3 1 rfl rfl)
theorem dX1_put_72 : decode cX1_put 72 = .ok (.iload_n 3, 1) := dk_29 (dk_at dksX1_put_3 4 rfl rfl)
theorem dX1_put_73 : decode cX1_put 73 = .ok (.i2b, 1) := dk_145 (dk_at dksX1_put_3 5 rfl rfl)
theorem dX1_put_74 : decode cX1_put 74 = .ok (.goto 19, 3) := dk_167 0 19 (dk_at dksX1_put_3 6 rfl rfl)
theorem dX1_put_77 : decode cX1_put 77 = .ok (.aload_n 0, 1) := dk_42 (dk_at dksX1_put_3 9 rfl rfl)
theorem dX1_put_78 : decode cX1_put 78 = .ok (.getfield 9, 3) := dk_180 0 9 (dk_at dksX1_put_3 10 rfl rfl)
theorem dX1_put_81 : decode cX1_put 81 = .ok (.iload_n 1, 1) := dk_27 (dk_at dksX1_put_3 13 rfl rfl)
theorem dX1_put_82 : decode cX1_put 82 = .ok (.iaload, 1) := dk_46 (dk_at dksX1_put_3 14 rfl rfl)
theorem dX1_put_83 : decode cX1_put 83 = .ok (.iconst 1, 1) := dk_4 (dk_at dksX1_put_3 15 rfl rfl)
theorem dX1_put_84 : decode cX1_put 84 = .ok (.if_icmp .ne 8, 3) := dk_160 0 8 (dk_at dksX1_put_3 16 rfl rfl)
theorem dX1_put_87 : decode cX1_put 87 = .ok (.iload_n 3, 1) := dk_29 (dk_at dksX1_put_3 19 rfl rfl)
theorem dX1_put_88 : decode cX1_put 88 = .ok (.i2s, 1) := dk_147 (dk_at dksX1_put_3 20 rfl rfl)
theorem dX1_put_89 : decode cX1_put 89 = .ok (.goto 4, 3) := dk_167 0 4 (dk_at dksX1_put_3 21 rfl rfl)
theorem dX1_put_92 : decode cX1_put 92 = .ok (.iload_n 3, 1) := dk_29 (dk_at dksX1_put_4 0 rfl rfl)
theorem dX1_put_93 : decode cX1_put 93 = .ok (.iastore, 1) := dk_79 (dk_at dksX1_put_4 1 rfl rfl)
theorem dX1_put_94 : decode cX1_put 94 = .ok (.iconst 1, 1) := dk_4 (dk_at dksX1_put_4 2 rfl rfl)
theorem dX1_put_95 : decode cX1_put 95 = .ok (.ireturn, 1) := dk_172 (dk_at dksX1_put_4 3 rfl rfl)
abbrev cX1_cell : ByteArray := prog_15_method_53_code
def yX1_cell : MethodName := ⟨RX1, "cell", "(III)J"⟩
def dkwX1_cell_4 : List UInt8 := [16, 60, 27, 104, 28, 96, 46, 133, 173]
abbrev dktX1_cell_4 : List UInt8 := dkwX1_cell_4 ++ []
def dkwX1_cell_3 : List UInt8 := [180, 0, 13, 27, 46, 4, 100, 184, 0, 61, 154, 0, 9, 42, 6, 182, 0, 177, 173, 42, 180, 0, 16]
abbrev dktX1_cell_3 : List UInt8 := dkwX1_cell_3 ++ dktX1_cell_4
def dkwX1_cell_2 : List UInt8 := [182, 0, 177, 173, 42, 180, 0, 9, 27, 46, 16, 247, 160, 0, 9, 42, 4, 182, 0, 177, 173, 28, 3, 42]
abbrev dktX1_cell_2 : List UInt8 := dkwX1_cell_2 ++ dktX1_cell_3
def dkwX1_cell_1 : List UInt8 := [180, 0, 9, 27, 46, 16, 247, 159, 0, 19, 42, 180, 0, 9, 27, 46, 29, 159, 0, 9, 42, 5]
abbrev dktX1_cell_1 : List UInt8 := dkwX1_cell_1 ++ dktX1_cell_2
def dkwX1_cell_0 : List UInt8 := [42, 3, 181, 0, 55, 27, 184, 0, 74, 153, 0, 10, 29, 184, 0, 78, 154, 0, 7, 20, 0, 59, 173, 42]
abbrev dktX1_cell_0 : List UInt8 := dkwX1_cell_0 ++ dktX1_cell_1
theorem dksX1_cell_0 : cX1_cell.data.toList.drop 0 = dktX1_cell_0 := by decide +kernel
theorem dksX1_cell_1 : cX1_cell.data.toList.drop 24 = dktX1_cell_1 := dk_seg dksX1_cell_0 24 rfl rfl
theorem dksX1_cell_2 : cX1_cell.data.toList.drop 46 = dktX1_cell_2 := dk_seg dksX1_cell_1 22 rfl rfl
theorem dksX1_cell_3 : cX1_cell.data.toList.drop 70 = dktX1_cell_3 := dk_seg dksX1_cell_2 24 rfl rfl
theorem dksX1_cell_4 : cX1_cell.data.toList.drop 93 = dktX1_cell_4 := dk_seg dksX1_cell_3 23 rfl rfl
theorem dX1_cell_0 : decode cX1_cell 0 = .ok (.aload_n 0, 1) := dk_42 (dk_at dksX1_cell_0 0 rfl rfl)
theorem dX1_cell_1 : decode cX1_cell 1 = .ok (.iconst 0, 1) := dk_3 (dk_at dksX1_cell_0 1 rfl rfl)
theorem dX1_cell_2 : decode cX1_cell 2 = .ok (.putfield 55, 3) := dk_181 0 55 (dk_at dksX1_cell_0 2 rfl rfl)
theorem dX1_cell_5 : decode cX1_cell 5 = .ok (.iload_n 1, 1) := dk_27 (dk_at dksX1_cell_0 5 rfl rfl)
theorem dX1_cell_6 : decode cX1_cell 6 = .ok (.invokestatic 74, 3) := dk_184 0 74 (dk_at dksX1_cell_0 6 rfl rfl)
theorem dX1_cell_9 : decode cX1_cell 9 = .ok (.ifCond .eq 10, 3) := dk_153 0 10 (dk_at dksX1_cell_0 9 rfl rfl)
theorem dX1_cell_12 : decode cX1_cell 12 = .ok (.iload_n 3, 1) := dk_29 (dk_at dksX1_cell_0 12 rfl rfl)
theorem dX1_cell_13 : decode cX1_cell 13 = .ok (.invokestatic 78, 3) := dk_184 0 78 (dk_at dksX1_cell_0 13 rfl rfl)
theorem dX1_cell_16 : decode cX1_cell 16 = .ok (.ifCond .ne 7, 3) := dk_154 0 7 (dk_at dksX1_cell_0 16 rfl rfl)
theorem dX1_cell_19 : decode cX1_cell 19 = .ok (.ldc2_w 59, 3) := dk_20 0 59 (dk_at dksX1_cell_0 19 rfl rfl)
theorem dX1_cell_22 : decode cX1_cell 22 = .ok (.lreturn, 1) := dk_173 (dk_at dksX1_cell_0 22 rfl rfl)
theorem dX1_cell_23 : decode cX1_cell 23 = .ok (.aload_n 0, 1) := dk_42 (dk_at dksX1_cell_0 23 rfl rfl)
theorem dX1_cell_24 : decode cX1_cell 24 = .ok (.getfield 9, 3) := dk_180 0 9 (dk_at dksX1_cell_1 0 rfl rfl)
theorem dX1_cell_27 : decode cX1_cell 27 = .ok (.iload_n 1, 1) := dk_27 (dk_at dksX1_cell_1 3 rfl rfl)
theorem dX1_cell_28 : decode cX1_cell 28 = .ok (.iaload, 1) := dk_46 (dk_at dksX1_cell_1 4 rfl rfl)
theorem dX1_cell_29 : decode cX1_cell 29 = .ok (.bipush (-9), 2) := dk_16 247 (dk_at dksX1_cell_1 5 rfl rfl)
theorem dX1_cell_31 : decode cX1_cell 31 = .ok (.if_icmp .eq 19, 3) := dk_159 0 19 (dk_at dksX1_cell_1 7 rfl rfl)
theorem dX1_cell_34 : decode cX1_cell 34 = .ok (.aload_n 0, 1) := dk_42 (dk_at dksX1_cell_1 10 rfl rfl)
theorem dX1_cell_35 : decode cX1_cell 35 = .ok (.getfield 9, 3) := dk_180 0 9 (dk_at dksX1_cell_1 11 rfl rfl)
theorem dX1_cell_38 : decode cX1_cell 38 = .ok (.iload_n 1, 1) := dk_27 (dk_at dksX1_cell_1 14 rfl rfl)
theorem dX1_cell_39 : decode cX1_cell 39 = .ok (.iaload, 1) := dk_46 (dk_at dksX1_cell_1 15 rfl rfl)
theorem dX1_cell_40 : decode cX1_cell 40 = .ok (.iload_n 3, 1) := dk_29 (dk_at dksX1_cell_1 16 rfl rfl)
theorem dX1_cell_41 : decode cX1_cell 41 = .ok (.if_icmp .eq 9, 3) := dk_159 0 9 (dk_at dksX1_cell_1 17 rfl rfl)
theorem dX1_cell_44 : decode cX1_cell 44 = .ok (.aload_n 0, 1) := dk_42 (dk_at dksX1_cell_1 20 rfl rfl)
theorem dX1_cell_45 : decode cX1_cell 45 = .ok (.iconst 2, 1) := dk_5 (dk_at dksX1_cell_1 21 rfl rfl)
theorem dX1_cell_46 : decode cX1_cell 46 = .ok (.invokevirtual 177, 3) := dk_182 0 177 (dk_at dksX1_cell_2 0 rfl rfl)
theorem dX1_cell_49 : decode cX1_cell 49 = .ok (.lreturn, 1) := dk_173 (dk_at dksX1_cell_2 3 rfl rfl)
theorem dX1_cell_50 : decode cX1_cell 50 = .ok (.aload_n 0, 1) := dk_42 (dk_at dksX1_cell_2 4 rfl rfl)
theorem dX1_cell_51 : decode cX1_cell 51 = .ok (.getfield 9, 3) := dk_180 0 9 (dk_at dksX1_cell_2 5 rfl rfl)
theorem dX1_cell_54 : decode cX1_cell 54 = .ok (.iload_n 1, 1) := dk_27 (dk_at dksX1_cell_2 8 rfl rfl)
theorem dX1_cell_55 : decode cX1_cell 55 = .ok (.iaload, 1) := dk_46 (dk_at dksX1_cell_2 9 rfl rfl)
theorem dX1_cell_56 : decode cX1_cell 56 = .ok (.bipush (-9), 2) := dk_16 247 (dk_at dksX1_cell_2 10 rfl rfl)
theorem dX1_cell_58 : decode cX1_cell 58 = .ok (.if_icmp .ne 9, 3) := dk_160 0 9 (dk_at dksX1_cell_2 12 rfl rfl)
theorem dX1_cell_61 : decode cX1_cell 61 = .ok (.aload_n 0, 1) := dk_42 (dk_at dksX1_cell_2 15 rfl rfl)
theorem dX1_cell_62 : decode cX1_cell 62 = .ok (.iconst 1, 1) := dk_4 (dk_at dksX1_cell_2 16 rfl rfl)
theorem dX1_cell_63 : decode cX1_cell 63 = .ok (.invokevirtual 177, 3) := dk_182 0 177 (dk_at dksX1_cell_2 17 rfl rfl)
theorem dX1_cell_66 : decode cX1_cell 66 = .ok (.lreturn, 1) := dk_173 (dk_at dksX1_cell_2 20 rfl rfl)
theorem dX1_cell_67 : decode cX1_cell 67 = .ok (.iload_n 2, 1) := dk_28 (dk_at dksX1_cell_2 21 rfl rfl)
theorem dX1_cell_68 : decode cX1_cell 68 = .ok (.iconst 0, 1) := dk_3 (dk_at dksX1_cell_2 22 rfl rfl)
theorem dX1_cell_69 : decode cX1_cell 69 = .ok (.aload_n 0, 1) := dk_42 (dk_at dksX1_cell_2 23 rfl rfl)
theorem dX1_cell_70 : decode cX1_cell 70 = .ok (.getfield 13, 3) := dk_180 0 13 (dk_at dksX1_cell_3 0 rfl rfl)
theorem dX1_cell_73 : decode cX1_cell 73 = .ok (.iload_n 1, 1) := dk_27 (dk_at dksX1_cell_3 3 rfl rfl)
theorem dX1_cell_74 : decode cX1_cell 74 = .ok (.iaload, 1) := dk_46 (dk_at dksX1_cell_3 4 rfl rfl)
theorem dX1_cell_75 : decode cX1_cell 75 = .ok (.iconst 1, 1) := dk_4 (dk_at dksX1_cell_3 5 rfl rfl)
theorem dX1_cell_76 : decode cX1_cell 76 = .ok (.isub, 1) := dk_100 (dk_at dksX1_cell_3 6 rfl rfl)
theorem dX1_cell_77 : decode cX1_cell 77 = .ok (.invokestatic 61, 3) := dk_184 0 61 (dk_at dksX1_cell_3 7 rfl rfl)
theorem dX1_cell_80 : decode cX1_cell 80 = .ok (.ifCond .ne 9, 3) := dk_154 0 9 (dk_at dksX1_cell_3 10 rfl rfl)
theorem dX1_cell_83 : decode cX1_cell 83 = .ok (.aload_n 0, 1) := dk_42 (dk_at dksX1_cell_3 13 rfl rfl)
theorem dX1_cell_84 : decode cX1_cell 84 = .ok (.iconst 3, 1) := dk_6 (dk_at dksX1_cell_3 14 rfl rfl)
theorem dX1_cell_85 : decode cX1_cell 85 = .ok (.invokevirtual 177, 3) := dk_182 0 177 (dk_at dksX1_cell_3 15 rfl rfl)
theorem dX1_cell_88 : decode cX1_cell 88 = .ok (.lreturn, 1) := dk_173 (dk_at dksX1_cell_3 18 rfl rfl)
theorem dX1_cell_89 : decode cX1_cell 89 = .ok (.aload_n 0, 1) := dk_42 (dk_at dksX1_cell_3 19 rfl rfl)
theorem dX1_cell_90 : decode cX1_cell 90 = .ok (.getfield 16, 3) := dk_180 0 16 (dk_at dksX1_cell_3 20 rfl rfl)
theorem dX1_cell_93 : decode cX1_cell 93 = .ok (.bipush 60, 2) := dk_16 60 (dk_at dksX1_cell_4 0 rfl rfl)
theorem dX1_cell_95 : decode cX1_cell 95 = .ok (.iload_n 1, 1) := dk_27 (dk_at dksX1_cell_4 2 rfl rfl)
theorem dX1_cell_96 : decode cX1_cell 96 = .ok (.imul, 1) := dk_104 (dk_at dksX1_cell_4 3 rfl rfl)
theorem dX1_cell_97 : decode cX1_cell 97 = .ok (.iload_n 2, 1) := dk_28 (dk_at dksX1_cell_4 4 rfl rfl)
theorem dX1_cell_98 : decode cX1_cell 98 = .ok (.iadd, 1) := dk_96 (dk_at dksX1_cell_4 5 rfl rfl)
theorem dX1_cell_99 : decode cX1_cell 99 = .ok (.iaload, 1) := dk_46 (dk_at dksX1_cell_4 6 rfl rfl)
theorem dX1_cell_100 : decode cX1_cell 100 = .ok (.i2l, 1) := dk_133 (dk_at dksX1_cell_4 7 rfl rfl)
theorem dX1_cell_101 : decode cX1_cell 101 = .ok (.lreturn, 1) := dk_173 (dk_at dksX1_cell_4 8 rfl rfl)
abbrev cX1_lost : ByteArray := prog_15_method_4_code
def yX1_lost : MethodName := ⟨RX1, "lost", "(I)J"⟩
def dkwX1_lost_0 : List UInt8 := [42, 27, 181, 0, 55, 20, 0, 59, 173]
abbrev dktX1_lost_0 : List UInt8 := dkwX1_lost_0 ++ []
theorem dksX1_lost_0 : cX1_lost.data.toList.drop 0 = dktX1_lost_0 := by decide +kernel
theorem dX1_lost_0 : decode cX1_lost 0 = .ok (.aload_n 0, 1) := dk_42 (dk_at dksX1_lost_0 0 rfl rfl)
theorem dX1_lost_1 : decode cX1_lost 1 = .ok (.iload_n 1, 1) := dk_27 (dk_at dksX1_lost_0 1 rfl rfl)
theorem dX1_lost_2 : decode cX1_lost 2 = .ok (.putfield 55, 3) := dk_181 0 55 (dk_at dksX1_lost_0 2 rfl rfl)
theorem dX1_lost_5 : decode cX1_lost 5 = .ok (.ldc2_w 59, 3) := dk_20 0 59 (dk_at dksX1_lost_0 5 rfl rfl)
theorem dX1_lost_8 : decode cX1_lost 8 = .ok (.lreturn, 1) := dk_173 (dk_at dksX1_lost_0 8 rfl rfl)
abbrev cX1_copy : ByteArray := prog_15_method_54_code
def yX1_copy : MethodName := ⟨RX1, "copy", "(IIIII)I"⟩
def dkwX1_copy_9 : List UInt8 := [180, 0, 16, 16, 60, 27, 104, 28, 96, 21, 9, 96, 46, 79, 132, 8, 1, 167, 255, 198, 21, 5, 172]
abbrev dktX1_copy_9 : List UInt8 := dkwX1_copy_9 ++ []
def dkwX1_copy_8 : List UInt8 := [167, 0, 5, 21, 8, 54, 9, 42, 180, 0, 16, 16, 60, 29, 104, 21, 4, 96, 21, 9, 96, 42]
abbrev dktX1_copy_8 : List UInt8 := dkwX1_copy_8 ++ dktX1_copy_9
def dkwX1_copy_7 : List UInt8 := [54, 7, 3, 54, 8, 21, 8, 21, 5, 162, 0, 57, 21, 7, 153, 0, 13, 21, 5, 4, 100, 21, 8, 100]
abbrev dktX1_copy_7 : List UInt8 := dkwX1_copy_7 ++ dktX1_copy_8
def dkwX1_copy_6 : List UInt8 := [21, 4, 100, 164, 0, 9, 42, 6, 182, 0, 85, 172, 28, 21, 4, 162, 0, 7, 4, 167, 0, 4, 3]
abbrev dktX1_copy_6 : List UInt8 := dkwX1_copy_6 ++ dktX1_copy_7
def dkwX1_copy_5 : List UInt8 := [153, 0, 30, 21, 5, 42, 180, 0, 13, 27, 46, 28, 100, 163, 0, 17, 21, 5, 42, 180, 0, 13, 29, 46]
abbrev dktX1_copy_5 : List UInt8 := dkwX1_copy_5 ++ dktX1_copy_6
def dkwX1_copy_4 : List UInt8 := [163, 0, 18, 21, 4, 42, 180, 0, 13, 29, 46, 163, 0, 7, 4, 167, 0, 4, 3, 54, 6, 21, 6]
abbrev dktX1_copy_4 : List UInt8 := dkwX1_copy_4 ++ dktX1_copy_5
def dkwX1_copy_3 : List UInt8 := [172, 28, 155, 0, 38, 21, 4, 155, 0, 33, 21, 5, 155, 0, 28, 28, 42, 180, 0, 13, 27, 46]
abbrev dktX1_copy_3 : List UInt8 := dkwX1_copy_3 ++ dktX1_copy_4
def dkwX1_copy_2 : List UInt8 := [182, 0, 85, 172, 42, 180, 0, 9, 27, 46, 42, 180, 0, 9, 29, 46, 159, 0, 9, 42, 5, 182, 0, 85]
abbrev dktX1_copy_2 : List UInt8 := dkwX1_copy_2 ++ dktX1_copy_3
def dkwX1_copy_1 : List UInt8 := [180, 0, 9, 27, 46, 16, 247, 159, 0, 14, 42, 180, 0, 9, 29, 46, 16, 247, 160, 0, 9, 42, 4]
abbrev dktX1_copy_1 : List UInt8 := dkwX1_copy_1 ++ dktX1_copy_2
def dkwX1_copy_0 : List UInt8 := [42, 3, 181, 0, 55, 27, 184, 0, 74, 153, 0, 10, 29, 184, 0, 74, 154, 0, 5, 2, 172, 42]
abbrev dktX1_copy_0 : List UInt8 := dkwX1_copy_0 ++ dktX1_copy_1
theorem dksX1_copy_0 : cX1_copy.data.toList.drop 0 = dktX1_copy_0 := by decide +kernel
theorem dksX1_copy_1 : cX1_copy.data.toList.drop 22 = dktX1_copy_1 := dk_seg dksX1_copy_0 22 rfl rfl
theorem dksX1_copy_2 : cX1_copy.data.toList.drop 45 = dktX1_copy_2 := dk_seg dksX1_copy_1 23 rfl rfl
theorem dksX1_copy_3 : cX1_copy.data.toList.drop 69 = dktX1_copy_3 := dk_seg dksX1_copy_2 24 rfl rfl
theorem dksX1_copy_4 : cX1_copy.data.toList.drop 91 = dktX1_copy_4 := dk_seg dksX1_copy_3 22 rfl rfl
theorem dksX1_copy_5 : cX1_copy.data.toList.drop 114 = dktX1_copy_5 := dk_seg dksX1_copy_4 23 rfl rfl
theorem dksX1_copy_6 : cX1_copy.data.toList.drop 138 = dktX1_copy_6 := dk_seg dksX1_copy_5 24 rfl rfl
theorem dksX1_copy_7 : cX1_copy.data.toList.drop 161 = dktX1_copy_7 := dk_seg dksX1_copy_6 23 rfl rfl
theorem dksX1_copy_8 : cX1_copy.data.toList.drop 185 = dktX1_copy_8 := dk_seg dksX1_copy_7 24 rfl rfl
theorem dksX1_copy_9 : cX1_copy.data.toList.drop 207 = dktX1_copy_9 := dk_seg dksX1_copy_8 22 rfl rfl
theorem dX1_copy_0 : decode cX1_copy 0 = .ok (.aload_n 0, 1) := dk_42 (dk_at dksX1_copy_0 0 rfl rfl)
theorem dX1_copy_1 : decode cX1_copy 1 = .ok (.iconst 0, 1) := dk_3 (dk_at dksX1_copy_0 1 rfl rfl)
theorem dX1_copy_2 : decode cX1_copy 2 = .ok (.putfield 55, 3) := dk_181 0 55 (dk_at dksX1_copy_0 2 rfl rfl)
theorem dX1_copy_5 : decode cX1_copy 5 = .ok (.iload_n 1, 1) := dk_27 (dk_at dksX1_copy_0 5 rfl rfl)
theorem dX1_copy_6 : decode cX1_copy 6 = .ok (.invokestatic 74, 3) := dk_184 0 74 (dk_at dksX1_copy_0 6 rfl rfl)
theorem dX1_copy_9 : decode cX1_copy 9 = .ok (.ifCond .eq 10, 3) := dk_153 0 10 (dk_at dksX1_copy_0 9 rfl rfl)
theorem dX1_copy_12 : decode cX1_copy 12 = .ok (.iload_n 3, 1) := dk_29 (dk_at dksX1_copy_0 12 rfl rfl)
theorem dX1_copy_13 : decode cX1_copy 13 = .ok (.invokestatic 74, 3) := dk_184 0 74 (dk_at dksX1_copy_0 13 rfl rfl)
theorem dX1_copy_16 : decode cX1_copy 16 = .ok (.ifCond .ne 5, 3) := dk_154 0 5 (dk_at dksX1_copy_0 16 rfl rfl)
theorem dX1_copy_19 : decode cX1_copy 19 = .ok (.iconst (-1), 1) := dk_2 (dk_at dksX1_copy_0 19 rfl rfl)
theorem dX1_copy_20 : decode cX1_copy 20 = .ok (.ireturn, 1) := dk_172 (dk_at dksX1_copy_0 20 rfl rfl)
theorem dX1_copy_21 : decode cX1_copy 21 = .ok (.aload_n 0, 1) := dk_42 (dk_at dksX1_copy_0 21 rfl rfl)
theorem dX1_copy_22 : decode cX1_copy 22 = .ok (.getfield 9, 3) := dk_180 0 9 (dk_at dksX1_copy_1 0 rfl rfl)
theorem dX1_copy_25 : decode cX1_copy 25 = .ok (.iload_n 1, 1) := dk_27 (dk_at dksX1_copy_1 3 rfl rfl)
theorem dX1_copy_26 : decode cX1_copy 26 = .ok (.iaload, 1) := dk_46 (dk_at dksX1_copy_1 4 rfl rfl)
theorem dX1_copy_27 : decode cX1_copy 27 = .ok (.bipush (-9), 2) := dk_16 247 (dk_at dksX1_copy_1 5 rfl rfl)
theorem dX1_copy_29 : decode cX1_copy 29 = .ok (.if_icmp .eq 14, 3) := dk_159 0 14 (dk_at dksX1_copy_1 7 rfl rfl)
theorem dX1_copy_32 : decode cX1_copy 32 = .ok (.aload_n 0, 1) := dk_42 (dk_at dksX1_copy_1 10 rfl rfl)
theorem dX1_copy_33 : decode cX1_copy 33 = .ok (.getfield 9, 3) := dk_180 0 9 (dk_at dksX1_copy_1 11 rfl rfl)
theorem dX1_copy_36 : decode cX1_copy 36 = .ok (.iload_n 3, 1) := dk_29 (dk_at dksX1_copy_1 14 rfl rfl)
theorem dX1_copy_37 : decode cX1_copy 37 = .ok (.iaload, 1) := dk_46 (dk_at dksX1_copy_1 15 rfl rfl)
theorem dX1_copy_38 : decode cX1_copy 38 = .ok (.bipush (-9), 2) := dk_16 247 (dk_at dksX1_copy_1 16 rfl rfl)
theorem dX1_copy_40 : decode cX1_copy 40 = .ok (.if_icmp .ne 9, 3) := dk_160 0 9 (dk_at dksX1_copy_1 18 rfl rfl)
theorem dX1_copy_43 : decode cX1_copy 43 = .ok (.aload_n 0, 1) := dk_42 (dk_at dksX1_copy_1 21 rfl rfl)
theorem dX1_copy_44 : decode cX1_copy 44 = .ok (.iconst 1, 1) := dk_4 (dk_at dksX1_copy_1 22 rfl rfl)
theorem dX1_copy_45 : decode cX1_copy 45 = .ok (.invokevirtual 85, 3) := dk_182 0 85 (dk_at dksX1_copy_2 0 rfl rfl)
theorem dX1_copy_48 : decode cX1_copy 48 = .ok (.ireturn, 1) := dk_172 (dk_at dksX1_copy_2 3 rfl rfl)
theorem dX1_copy_49 : decode cX1_copy 49 = .ok (.aload_n 0, 1) := dk_42 (dk_at dksX1_copy_2 4 rfl rfl)
theorem dX1_copy_50 : decode cX1_copy 50 = .ok (.getfield 9, 3) := dk_180 0 9 (dk_at dksX1_copy_2 5 rfl rfl)
theorem dX1_copy_53 : decode cX1_copy 53 = .ok (.iload_n 1, 1) := dk_27 (dk_at dksX1_copy_2 8 rfl rfl)
theorem dX1_copy_54 : decode cX1_copy 54 = .ok (.iaload, 1) := dk_46 (dk_at dksX1_copy_2 9 rfl rfl)
theorem dX1_copy_55 : decode cX1_copy 55 = .ok (.aload_n 0, 1) := dk_42 (dk_at dksX1_copy_2 10 rfl rfl)
theorem dX1_copy_56 : decode cX1_copy 56 = .ok (.getfield 9, 3) := dk_180 0 9 (dk_at dksX1_copy_2 11 rfl rfl)
theorem dX1_copy_59 : decode cX1_copy 59 = .ok (.iload_n 3, 1) := dk_29 (dk_at dksX1_copy_2 14 rfl rfl)
theorem dX1_copy_60 : decode cX1_copy 60 = .ok (.iaload, 1) := dk_46 (dk_at dksX1_copy_2 15 rfl rfl)
theorem dX1_copy_61 : decode cX1_copy 61 = .ok (.if_icmp .eq 9, 3) := dk_159 0 9 (dk_at dksX1_copy_2 16 rfl rfl)
theorem dX1_copy_64 : decode cX1_copy 64 = .ok (.aload_n 0, 1) := dk_42 (dk_at dksX1_copy_2 19 rfl rfl)
theorem dX1_copy_65 : decode cX1_copy 65 = .ok (.iconst 2, 1) := dk_5 (dk_at dksX1_copy_2 20 rfl rfl)
theorem dX1_copy_66 : decode cX1_copy 66 = .ok (.invokevirtual 85, 3) := dk_182 0 85 (dk_at dksX1_copy_2 21 rfl rfl)
theorem dX1_copy_69 : decode cX1_copy 69 = .ok (.ireturn, 1) := dk_172 (dk_at dksX1_copy_3 0 rfl rfl)
theorem dX1_copy_70 : decode cX1_copy 70 = .ok (.iload_n 2, 1) := dk_28 (dk_at dksX1_copy_3 1 rfl rfl)
theorem dX1_copy_71 : decode cX1_copy 71 = .ok (.ifCond .lt 38, 3) := dk_155 0 38 (dk_at dksX1_copy_3 2 rfl rfl)
theorem dX1_copy_74 : decode cX1_copy 74 = .ok (.iload 4, 2) := dk_21 4 (dk_at dksX1_copy_3 5 rfl rfl)
theorem dX1_copy_76 : decode cX1_copy 76 = .ok (.ifCond .lt 33, 3) := dk_155 0 33 (dk_at dksX1_copy_3 7 rfl rfl)
theorem dX1_copy_79 : decode cX1_copy 79 = .ok (.iload 5, 2) := dk_21 5 (dk_at dksX1_copy_3 10 rfl rfl)
theorem dX1_copy_81 : decode cX1_copy 81 = .ok (.ifCond .lt 28, 3) := dk_155 0 28 (dk_at dksX1_copy_3 12 rfl rfl)
theorem dX1_copy_84 : decode cX1_copy 84 = .ok (.iload_n 2, 1) := dk_28 (dk_at dksX1_copy_3 15 rfl rfl)
theorem dX1_copy_85 : decode cX1_copy 85 = .ok (.aload_n 0, 1) := dk_42 (dk_at dksX1_copy_3 16 rfl rfl)
theorem dX1_copy_86 : decode cX1_copy 86 = .ok (.getfield 13, 3) := dk_180 0 13 (dk_at dksX1_copy_3 17 rfl rfl)
theorem dX1_copy_89 : decode cX1_copy 89 = .ok (.iload_n 1, 1) := dk_27 (dk_at dksX1_copy_3 20 rfl rfl)
theorem dX1_copy_90 : decode cX1_copy 90 = .ok (.iaload, 1) := dk_46 (dk_at dksX1_copy_3 21 rfl rfl)
theorem dX1_copy_91 : decode cX1_copy 91 = .ok (.if_icmp .gt 18, 3) := dk_163 0 18 (dk_at dksX1_copy_4 0 rfl rfl)
theorem dX1_copy_94 : decode cX1_copy 94 = .ok (.iload 4, 2) := dk_21 4 (dk_at dksX1_copy_4 3 rfl rfl)
theorem dX1_copy_96 : decode cX1_copy 96 = .ok (.aload_n 0, 1) := dk_42 (dk_at dksX1_copy_4 5 rfl rfl)
theorem dX1_copy_97 : decode cX1_copy 97 = .ok (.getfield 13, 3) := dk_180 0 13 (dk_at dksX1_copy_4 6 rfl rfl)
theorem dX1_copy_100 : decode cX1_copy 100 = .ok (.iload_n 3, 1) := dk_29 (dk_at dksX1_copy_4 9 rfl rfl)
theorem dX1_copy_101 : decode cX1_copy 101 = .ok (.iaload, 1) := dk_46 (dk_at dksX1_copy_4 10 rfl rfl)
theorem dX1_copy_102 : decode cX1_copy 102 = .ok (.if_icmp .gt 7, 3) := dk_163 0 7 (dk_at dksX1_copy_4 11 rfl rfl)
theorem dX1_copy_105 : decode cX1_copy 105 = .ok (.iconst 1, 1) := dk_4 (dk_at dksX1_copy_4 14 rfl rfl)
theorem dX1_copy_106 : decode cX1_copy 106 = .ok (.goto 4, 3) := dk_167 0 4 (dk_at dksX1_copy_4 15 rfl rfl)
theorem dX1_copy_109 : decode cX1_copy 109 = .ok (.iconst 0, 1) := dk_3 (dk_at dksX1_copy_4 18 rfl rfl)
theorem dX1_copy_110 : decode cX1_copy 110 = .ok (.istore 6, 2) := dk_54 6 (dk_at dksX1_copy_4 19 rfl rfl)
theorem dX1_copy_112 : decode cX1_copy 112 = .ok (.iload 6, 2) := dk_21 6 (dk_at dksX1_copy_4 21 rfl rfl)
theorem dX1_copy_114 : decode cX1_copy 114 = .ok (.ifCond .eq 30, 3) := dk_153 0 30 (dk_at dksX1_copy_5 0 rfl rfl)
theorem dX1_copy_117 : decode cX1_copy 117 = .ok (.iload 5, 2) := dk_21 5 (dk_at dksX1_copy_5 3 rfl rfl)
theorem dX1_copy_119 : decode cX1_copy 119 = .ok (.aload_n 0, 1) := dk_42 (dk_at dksX1_copy_5 5 rfl rfl)
theorem dX1_copy_120 : decode cX1_copy 120 = .ok (.getfield 13, 3) := dk_180 0 13 (dk_at dksX1_copy_5 6 rfl rfl)
theorem dX1_copy_123 : decode cX1_copy 123 = .ok (.iload_n 1, 1) := dk_27 (dk_at dksX1_copy_5 9 rfl rfl)
theorem dX1_copy_124 : decode cX1_copy 124 = .ok (.iaload, 1) := dk_46 (dk_at dksX1_copy_5 10 rfl rfl)
theorem dX1_copy_125 : decode cX1_copy 125 = .ok (.iload_n 2, 1) := dk_28 (dk_at dksX1_copy_5 11 rfl rfl)
theorem dX1_copy_126 : decode cX1_copy 126 = .ok (.isub, 1) := dk_100 (dk_at dksX1_copy_5 12 rfl rfl)
theorem dX1_copy_127 : decode cX1_copy 127 = .ok (.if_icmp .gt 17, 3) := dk_163 0 17 (dk_at dksX1_copy_5 13 rfl rfl)
theorem dX1_copy_130 : decode cX1_copy 130 = .ok (.iload 5, 2) := dk_21 5 (dk_at dksX1_copy_5 16 rfl rfl)
theorem dX1_copy_132 : decode cX1_copy 132 = .ok (.aload_n 0, 1) := dk_42 (dk_at dksX1_copy_5 18 rfl rfl)
theorem dX1_copy_133 : decode cX1_copy 133 = .ok (.getfield 13, 3) := dk_180 0 13 (dk_at dksX1_copy_5 19 rfl rfl)
theorem dX1_copy_136 : decode cX1_copy 136 = .ok (.iload_n 3, 1) := dk_29 (dk_at dksX1_copy_5 22 rfl rfl)
theorem dX1_copy_137 : decode cX1_copy 137 = .ok (.iaload, 1) := dk_46 (dk_at dksX1_copy_5 23 rfl rfl)
theorem dX1_copy_138 : decode cX1_copy 138 = .ok (.iload 4, 2) := dk_21 4 (dk_at dksX1_copy_6 0 rfl rfl)
theorem dX1_copy_140 : decode cX1_copy 140 = .ok (.isub, 1) := dk_100 (dk_at dksX1_copy_6 2 rfl rfl)
theorem dX1_copy_141 : decode cX1_copy 141 = .ok (.if_icmp .le 9, 3) := dk_164 0 9 (dk_at dksX1_copy_6 3 rfl rfl)
theorem dX1_copy_144 : decode cX1_copy 144 = .ok (.aload_n 0, 1) := dk_42 (dk_at dksX1_copy_6 6 rfl rfl)
theorem dX1_copy_145 : decode cX1_copy 145 = .ok (.iconst 3, 1) := dk_6 (dk_at dksX1_copy_6 7 rfl rfl)
theorem dX1_copy_146 : decode cX1_copy 146 = .ok (.invokevirtual 85, 3) := dk_182 0 85 (dk_at dksX1_copy_6 8 rfl rfl)
theorem dX1_copy_149 : decode cX1_copy 149 = .ok (.ireturn, 1) := dk_172 (dk_at dksX1_copy_6 11 rfl rfl)
theorem dX1_copy_150 : decode cX1_copy 150 = .ok (.iload_n 2, 1) := dk_28 (dk_at dksX1_copy_6 12 rfl rfl)
theorem dX1_copy_151 : decode cX1_copy 151 = .ok (.iload 4, 2) := dk_21 4 (dk_at dksX1_copy_6 13 rfl rfl)
theorem dX1_copy_153 : decode cX1_copy 153 = .ok (.if_icmp .ge 7, 3) := dk_162 0 7 (dk_at dksX1_copy_6 15 rfl rfl)
theorem dX1_copy_156 : decode cX1_copy 156 = .ok (.iconst 1, 1) := dk_4 (dk_at dksX1_copy_6 18 rfl rfl)
theorem dX1_copy_157 : decode cX1_copy 157 = .ok (.goto 4, 3) := dk_167 0 4 (dk_at dksX1_copy_6 19 rfl rfl)
theorem dX1_copy_160 : decode cX1_copy 160 = .ok (.iconst 0, 1) := dk_3 (dk_at dksX1_copy_6 22 rfl rfl)
theorem dX1_copy_161 : decode cX1_copy 161 = .ok (.istore 7, 2) := dk_54 7 (dk_at dksX1_copy_7 0 rfl rfl)
theorem dX1_copy_163 : decode cX1_copy 163 = .ok (.iconst 0, 1) := dk_3 (dk_at dksX1_copy_7 2 rfl rfl)
theorem dX1_copy_164 : decode cX1_copy 164 = .ok (.istore 8, 2) := dk_54 8 (dk_at dksX1_copy_7 3 rfl rfl)
theorem dX1_copy_166 : decode cX1_copy 166 = .ok (.iload 8, 2) := dk_21 8 (dk_at dksX1_copy_7 5 rfl rfl)
theorem dX1_copy_168 : decode cX1_copy 168 = .ok (.iload 5, 2) := dk_21 5 (dk_at dksX1_copy_7 7 rfl rfl)
theorem dX1_copy_170 : decode cX1_copy 170 = .ok (.if_icmp .ge 57, 3) := dk_162 0 57 (dk_at dksX1_copy_7 9 rfl rfl)
theorem dX1_copy_173 : decode cX1_copy 173 = .ok (.iload 7, 2) := dk_21 7 (dk_at dksX1_copy_7 12 rfl rfl)
theorem dX1_copy_175 : decode cX1_copy 175 = .ok (.ifCond .eq 13, 3) := dk_153 0 13 (dk_at dksX1_copy_7 14 rfl rfl)
theorem dX1_copy_178 : decode cX1_copy 178 = .ok (.iload 5, 2) := dk_21 5 (dk_at dksX1_copy_7 17 rfl rfl)
theorem dX1_copy_180 : decode cX1_copy 180 = .ok (.iconst 1, 1) := dk_4 (dk_at dksX1_copy_7 19 rfl rfl)
theorem dX1_copy_181 : decode cX1_copy 181 = .ok (.isub, 1) := dk_100 (dk_at dksX1_copy_7 20 rfl rfl)
theorem dX1_copy_182 : decode cX1_copy 182 = .ok (.iload 8, 2) := dk_21 8 (dk_at dksX1_copy_7 21 rfl rfl)
theorem dX1_copy_184 : decode cX1_copy 184 = .ok (.isub, 1) := dk_100 (dk_at dksX1_copy_7 23 rfl rfl)
theorem dX1_copy_185 : decode cX1_copy 185 = .ok (.goto 5, 3) := dk_167 0 5 (dk_at dksX1_copy_8 0 rfl rfl)
theorem dX1_copy_188 : decode cX1_copy 188 = .ok (.iload 8, 2) := dk_21 8 (dk_at dksX1_copy_8 3 rfl rfl)
theorem dX1_copy_190 : decode cX1_copy 190 = .ok (.istore 9, 2) := dk_54 9 (dk_at dksX1_copy_8 5 rfl rfl)
theorem dX1_copy_192 : decode cX1_copy 192 = .ok (.aload_n 0, 1) := dk_42 (dk_at dksX1_copy_8 7 rfl rfl)
theorem dX1_copy_193 : decode cX1_copy 193 = .ok (.getfield 16, 3) := dk_180 0 16 (dk_at dksX1_copy_8 8 rfl rfl)
theorem dX1_copy_196 : decode cX1_copy 196 = .ok (.bipush 60, 2) := dk_16 60 (dk_at dksX1_copy_8 11 rfl rfl)
theorem dX1_copy_198 : decode cX1_copy 198 = .ok (.iload_n 3, 1) := dk_29 (dk_at dksX1_copy_8 13 rfl rfl)
theorem dX1_copy_199 : decode cX1_copy 199 = .ok (.imul, 1) := dk_104 (dk_at dksX1_copy_8 14 rfl rfl)
theorem dX1_copy_200 : decode cX1_copy 200 = .ok (.iload 4, 2) := dk_21 4 (dk_at dksX1_copy_8 15 rfl rfl)
theorem dX1_copy_202 : decode cX1_copy 202 = .ok (.iadd, 1) := dk_96 (dk_at dksX1_copy_8 17 rfl rfl)
theorem dX1_copy_203 : decode cX1_copy 203 = .ok (.iload 9, 2) := dk_21 9 (dk_at dksX1_copy_8 18 rfl rfl)
theorem dX1_copy_205 : decode cX1_copy 205 = .ok (.iadd, 1) := dk_96 (dk_at dksX1_copy_8 20 rfl rfl)
theorem dX1_copy_206 : decode cX1_copy 206 = .ok (.aload_n 0, 1) := dk_42 (dk_at dksX1_copy_8 21 rfl rfl)
theorem dX1_copy_207 : decode cX1_copy 207 = .ok (.getfield 16, 3) := dk_180 0 16 (dk_at dksX1_copy_9 0 rfl rfl)
theorem dX1_copy_210 : decode cX1_copy 210 = .ok (.bipush 60, 2) := dk_16 60 (dk_at dksX1_copy_9 3 rfl rfl)
theorem dX1_copy_212 : decode cX1_copy 212 = .ok (.iload_n 1, 1) := dk_27 (dk_at dksX1_copy_9 5 rfl rfl)
theorem dX1_copy_213 : decode cX1_copy 213 = .ok (.imul, 1) := dk_104 (dk_at dksX1_copy_9 6 rfl rfl)
theorem dX1_copy_214 : decode cX1_copy 214 = .ok (.iload_n 2, 1) := dk_28 (dk_at dksX1_copy_9 7 rfl rfl)
theorem dX1_copy_215 : decode cX1_copy 215 = .ok (.iadd, 1) := dk_96 (dk_at dksX1_copy_9 8 rfl rfl)
theorem dX1_copy_216 : decode cX1_copy 216 = .ok (.iload 9, 2) := dk_21 9 (dk_at dksX1_copy_9 9 rfl rfl)
theorem dX1_copy_218 : decode cX1_copy 218 = .ok (.iadd, 1) := dk_96 (dk_at dksX1_copy_9 11 rfl rfl)
theorem dX1_copy_219 : decode cX1_copy 219 = .ok (.iaload, 1) := dk_46 (dk_at dksX1_copy_9 12 rfl rfl)
theorem dX1_copy_220 : decode cX1_copy 220 = .ok (.iastore, 1) := dk_79 (dk_at dksX1_copy_9 13 rfl rfl)
theorem dX1_copy_221 : decode cX1_copy 221 = .ok (.iinc 8 1, 3) := dk_132 8 1 (dk_at dksX1_copy_9 14 rfl rfl)
theorem dX1_copy_224 : decode cX1_copy 224 = .ok (.goto (-58), 3) := dk_167 255 198 (dk_at dksX1_copy_9 17 rfl rfl)
theorem dX1_copy_227 : decode cX1_copy 227 = .ok (.iload 5, 2) := dk_21 5 (dk_at dksX1_copy_9 20 rfl rfl)
theorem dX1_copy_229 : decode cX1_copy 229 = .ok (.ireturn, 1) := dk_172 (dk_at dksX1_copy_9 22 rfl rfl)
abbrev cX1_tell : ByteArray := prog_15_method_56_code
def yX1_tell : MethodName := ⟨RX1, "tell", "(I)I"⟩
def dkwX1_tell_4 : List UInt8 := [182, 0, 184, 28, 172]
abbrev dktX1_tell_4 : List UInt8 := dkwX1_tell_4 ++ []
def dkwX1_tell_3 : List UInt8 := [182, 0, 184, 42, 4, 182, 0, 184, 42, 4, 182, 0, 184, 5, 28, 104, 16, 100, 96, 172, 42, 4]
abbrev dktX1_tell_3 : List UInt8 := dkwX1_tell_3 ++ dktX1_tell_4
def dkwX1_tell_2 : List UInt8 := [42, 5, 182, 0, 184, 42, 4, 182, 0, 184, 28, 16, 100, 96, 172, 42, 6, 182, 0, 184, 42, 5]
abbrev dktX1_tell_2 : List UInt8 := dkwX1_tell_2 ++ dktX1_tell_3
def dkwX1_tell_1 : List UInt8 := [171, 0, 0, 0, 67, 0, 0, 0, 2, 0, 0, 0, 1, 0, 0, 0, 25, 0, 0, 0, 2, 0, 0, 0, 40]
abbrev dktX1_tell_1 : List UInt8 := dkwX1_tell_1 ++ dktX1_tell_2
def dkwX1_tell_0 : List UInt8 := [42, 27, 182, 0, 122, 154, 0, 5, 2, 172, 42, 180, 0, 28, 27, 46, 61, 42, 180, 0, 22, 27, 46]
abbrev dktX1_tell_0 : List UInt8 := dkwX1_tell_0 ++ dktX1_tell_1
theorem dksX1_tell_0 : cX1_tell.data.toList.drop 0 = dktX1_tell_0 := by decide +kernel
theorem dksX1_tell_1 : cX1_tell.data.toList.drop 23 = dktX1_tell_1 := dk_seg dksX1_tell_0 23 rfl rfl
theorem dksX1_tell_2 : cX1_tell.data.toList.drop 48 = dktX1_tell_2 := dk_seg dksX1_tell_1 25 rfl rfl
theorem dksX1_tell_3 : cX1_tell.data.toList.drop 70 = dktX1_tell_3 := dk_seg dksX1_tell_2 22 rfl rfl
theorem dksX1_tell_4 : cX1_tell.data.toList.drop 92 = dktX1_tell_4 := dk_seg dksX1_tell_3 22 rfl rfl
theorem dX1_tell_0 : decode cX1_tell 0 = .ok (.aload_n 0, 1) := dk_42 (dk_at dksX1_tell_0 0 rfl rfl)
theorem dX1_tell_1 : decode cX1_tell 1 = .ok (.iload_n 1, 1) := dk_27 (dk_at dksX1_tell_0 1 rfl rfl)
theorem dX1_tell_2 : decode cX1_tell 2 = .ok (.invokevirtual 122, 3) := dk_182 0 122 (dk_at dksX1_tell_0 2 rfl rfl)
theorem dX1_tell_5 : decode cX1_tell 5 = .ok (.ifCond .ne 5, 3) := dk_154 0 5 (dk_at dksX1_tell_0 5 rfl rfl)
theorem dX1_tell_8 : decode cX1_tell 8 = .ok (.iconst (-1), 1) := dk_2 (dk_at dksX1_tell_0 8 rfl rfl)
theorem dX1_tell_9 : decode cX1_tell 9 = .ok (.ireturn, 1) := dk_172 (dk_at dksX1_tell_0 9 rfl rfl)
theorem dX1_tell_10 : decode cX1_tell 10 = .ok (.aload_n 0, 1) := dk_42 (dk_at dksX1_tell_0 10 rfl rfl)
theorem dX1_tell_11 : decode cX1_tell 11 = .ok (.getfield 28, 3) := dk_180 0 28 (dk_at dksX1_tell_0 11 rfl rfl)
theorem dX1_tell_14 : decode cX1_tell 14 = .ok (.iload_n 1, 1) := dk_27 (dk_at dksX1_tell_0 14 rfl rfl)
theorem dX1_tell_15 : decode cX1_tell 15 = .ok (.iaload, 1) := dk_46 (dk_at dksX1_tell_0 15 rfl rfl)
theorem dX1_tell_16 : decode cX1_tell 16 = .ok (.istore_n 2, 1) := dk_61 (dk_at dksX1_tell_0 16 rfl rfl)
theorem dX1_tell_17 : decode cX1_tell 17 = .ok (.aload_n 0, 1) := dk_42 (dk_at dksX1_tell_0 17 rfl rfl)
theorem dX1_tell_18 : decode cX1_tell 18 = .ok (.getfield 22, 3) := dk_180 0 22 (dk_at dksX1_tell_0 18 rfl rfl)
theorem dX1_tell_21 : decode cX1_tell 21 = .ok (.iload_n 1, 1) := dk_27 (dk_at dksX1_tell_0 21 rfl rfl)
theorem dX1_tell_22 : decode cX1_tell 22 = .ok (.iaload, 1) := dk_46 (dk_at dksX1_tell_0 22 rfl rfl)
theorem dX1_tell_23 : decode cX1_tell 23 = .ok (.lookupswitch 67 #[(1, 25), (2, 40)], 25) := by decide +kernel
theorem dX1_tell_48 : decode cX1_tell 48 = .ok (.aload_n 0, 1) := dk_42 (dk_at dksX1_tell_2 0 rfl rfl)
theorem dX1_tell_49 : decode cX1_tell 49 = .ok (.iconst 2, 1) := dk_5 (dk_at dksX1_tell_2 1 rfl rfl)
theorem dX1_tell_50 : decode cX1_tell 50 = .ok (.invokevirtual 184, 3) := dk_182 0 184 (dk_at dksX1_tell_2 2 rfl rfl)
theorem dX1_tell_53 : decode cX1_tell 53 = .ok (.aload_n 0, 1) := dk_42 (dk_at dksX1_tell_2 5 rfl rfl)
theorem dX1_tell_54 : decode cX1_tell 54 = .ok (.iconst 1, 1) := dk_4 (dk_at dksX1_tell_2 6 rfl rfl)
theorem dX1_tell_55 : decode cX1_tell 55 = .ok (.invokevirtual 184, 3) := dk_182 0 184 (dk_at dksX1_tell_2 7 rfl rfl)
theorem dX1_tell_58 : decode cX1_tell 58 = .ok (.iload_n 2, 1) := dk_28 (dk_at dksX1_tell_2 10 rfl rfl)
theorem dX1_tell_59 : decode cX1_tell 59 = .ok (.bipush 100, 2) := dk_16 100 (dk_at dksX1_tell_2 11 rfl rfl)
theorem dX1_tell_61 : decode cX1_tell 61 = .ok (.iadd, 1) := dk_96 (dk_at dksX1_tell_2 13 rfl rfl)
theorem dX1_tell_62 : decode cX1_tell 62 = .ok (.ireturn, 1) := dk_172 (dk_at dksX1_tell_2 14 rfl rfl)
theorem dX1_tell_63 : decode cX1_tell 63 = .ok (.aload_n 0, 1) := dk_42 (dk_at dksX1_tell_2 15 rfl rfl)
theorem dX1_tell_64 : decode cX1_tell 64 = .ok (.iconst 3, 1) := dk_6 (dk_at dksX1_tell_2 16 rfl rfl)
theorem dX1_tell_65 : decode cX1_tell 65 = .ok (.invokevirtual 184, 3) := dk_182 0 184 (dk_at dksX1_tell_2 17 rfl rfl)
theorem dX1_tell_68 : decode cX1_tell 68 = .ok (.aload_n 0, 1) := dk_42 (dk_at dksX1_tell_2 20 rfl rfl)
theorem dX1_tell_69 : decode cX1_tell 69 = .ok (.iconst 2, 1) := dk_5 (dk_at dksX1_tell_2 21 rfl rfl)
theorem dX1_tell_70 : decode cX1_tell 70 = .ok (.invokevirtual 184, 3) := dk_182 0 184 (dk_at dksX1_tell_3 0 rfl rfl)
theorem dX1_tell_73 : decode cX1_tell 73 = .ok (.aload_n 0, 1) := dk_42 (dk_at dksX1_tell_3 3 rfl rfl)
theorem dX1_tell_74 : decode cX1_tell 74 = .ok (.iconst 1, 1) := dk_4 (dk_at dksX1_tell_3 4 rfl rfl)
theorem dX1_tell_75 : decode cX1_tell 75 = .ok (.invokevirtual 184, 3) := dk_182 0 184 (dk_at dksX1_tell_3 5 rfl rfl)
theorem dX1_tell_78 : decode cX1_tell 78 = .ok (.aload_n 0, 1) := dk_42 (dk_at dksX1_tell_3 8 rfl rfl)
theorem dX1_tell_79 : decode cX1_tell 79 = .ok (.iconst 1, 1) := dk_4 (dk_at dksX1_tell_3 9 rfl rfl)
theorem dX1_tell_80 : decode cX1_tell 80 = .ok (.invokevirtual 184, 3) := dk_182 0 184 (dk_at dksX1_tell_3 10 rfl rfl)
theorem dX1_tell_83 : decode cX1_tell 83 = .ok (.iconst 2, 1) := dk_5 (dk_at dksX1_tell_3 13 rfl rfl)
theorem dX1_tell_84 : decode cX1_tell 84 = .ok (.iload_n 2, 1) := dk_28 (dk_at dksX1_tell_3 14 rfl rfl)
theorem dX1_tell_85 : decode cX1_tell 85 = .ok (.imul, 1) := dk_104 (dk_at dksX1_tell_3 15 rfl rfl)
theorem dX1_tell_86 : decode cX1_tell 86 = .ok (.bipush 100, 2) := dk_16 100 (dk_at dksX1_tell_3 16 rfl rfl)
theorem dX1_tell_88 : decode cX1_tell 88 = .ok (.iadd, 1) := dk_96 (dk_at dksX1_tell_3 18 rfl rfl)
theorem dX1_tell_89 : decode cX1_tell 89 = .ok (.ireturn, 1) := dk_172 (dk_at dksX1_tell_3 19 rfl rfl)
theorem dX1_tell_90 : decode cX1_tell 90 = .ok (.aload_n 0, 1) := dk_42 (dk_at dksX1_tell_3 20 rfl rfl)
theorem dX1_tell_91 : decode cX1_tell 91 = .ok (.iconst 1, 1) := dk_4 (dk_at dksX1_tell_3 21 rfl rfl)
theorem dX1_tell_92 : decode cX1_tell 92 = .ok (.invokevirtual 184, 3) := dk_182 0 184 (dk_at dksX1_tell_4 0 rfl rfl)
theorem dX1_tell_95 : decode cX1_tell 95 = .ok (.iload_n 2, 1) := dk_28 (dk_at dksX1_tell_4 3 rfl rfl)
theorem dX1_tell_96 : decode cX1_tell 96 = .ok (.ireturn, 1) := dk_172 (dk_at dksX1_tell_4 4 rfl rfl)
abbrev cX1_begins : ByteArray := prog_15_method_55_code
def yX1_begins : MethodName := ⟨RX1, "begins", "(I)V"⟩
def dkwX1_begins_0 : List UInt8 := [42, 16, 31, 42, 180, 0, 181, 104, 27, 96, 181, 0, 181, 177]
abbrev dktX1_begins_0 : List UInt8 := dkwX1_begins_0 ++ []
theorem dksX1_begins_0 : cX1_begins.data.toList.drop 0 = dktX1_begins_0 := by decide +kernel
theorem dX1_begins_0 : decode cX1_begins 0 = .ok (.aload_n 0, 1) := dk_42 (dk_at dksX1_begins_0 0 rfl rfl)
theorem dX1_begins_1 : decode cX1_begins 1 = .ok (.bipush 31, 2) := dk_16 31 (dk_at dksX1_begins_0 1 rfl rfl)
theorem dX1_begins_3 : decode cX1_begins 3 = .ok (.aload_n 0, 1) := dk_42 (dk_at dksX1_begins_0 3 rfl rfl)
theorem dX1_begins_4 : decode cX1_begins 4 = .ok (.getfield 181, 3) := dk_180 0 181 (dk_at dksX1_begins_0 4 rfl rfl)
theorem dX1_begins_7 : decode cX1_begins 7 = .ok (.imul, 1) := dk_104 (dk_at dksX1_begins_0 7 rfl rfl)
theorem dX1_begins_8 : decode cX1_begins 8 = .ok (.iload_n 1, 1) := dk_27 (dk_at dksX1_begins_0 8 rfl rfl)
theorem dX1_begins_9 : decode cX1_begins 9 = .ok (.iadd, 1) := dk_96 (dk_at dksX1_begins_0 9 rfl rfl)
theorem dX1_begins_10 : decode cX1_begins 10 = .ok (.putfield 181, 3) := dk_181 0 181 (dk_at dksX1_begins_0 10 rfl rfl)
theorem dX1_begins_13 : decode cX1_begins 13 = .ok (.return_, 1) := dk_177 (dk_at dksX1_begins_0 13 rfl rfl)
abbrev cX1_greet : ByteArray := prog_15_method_57_code
def yX1_greet : MethodName := ⟨RX1, "greet", "(I)I"⟩
def dkwX1_greet_1 : List UInt8 := [167, 0, 4, 7, 182, 0, 184, 42, 180, 0, 22, 27, 46, 5, 160, 0, 8, 16, 80, 167, 0, 4, 27, 172]
abbrev dktX1_greet_1 : List UInt8 := dkwX1_greet_1 ++ []
def dkwX1_greet_0 : List UInt8 := [42, 27, 182, 0, 122, 154, 0, 5, 2, 172, 42, 42, 180, 0, 22, 27, 46, 5, 160, 0, 7, 8]
abbrev dktX1_greet_0 : List UInt8 := dkwX1_greet_0 ++ dktX1_greet_1
theorem dksX1_greet_0 : cX1_greet.data.toList.drop 0 = dktX1_greet_0 := by decide +kernel
theorem dksX1_greet_1 : cX1_greet.data.toList.drop 22 = dktX1_greet_1 := dk_seg dksX1_greet_0 22 rfl rfl
theorem dX1_greet_0 : decode cX1_greet 0 = .ok (.aload_n 0, 1) := dk_42 (dk_at dksX1_greet_0 0 rfl rfl)
theorem dX1_greet_1 : decode cX1_greet 1 = .ok (.iload_n 1, 1) := dk_27 (dk_at dksX1_greet_0 1 rfl rfl)
theorem dX1_greet_2 : decode cX1_greet 2 = .ok (.invokevirtual 122, 3) := dk_182 0 122 (dk_at dksX1_greet_0 2 rfl rfl)
theorem dX1_greet_5 : decode cX1_greet 5 = .ok (.ifCond .ne 5, 3) := dk_154 0 5 (dk_at dksX1_greet_0 5 rfl rfl)
theorem dX1_greet_8 : decode cX1_greet 8 = .ok (.iconst (-1), 1) := dk_2 (dk_at dksX1_greet_0 8 rfl rfl)
theorem dX1_greet_9 : decode cX1_greet 9 = .ok (.ireturn, 1) := dk_172 (dk_at dksX1_greet_0 9 rfl rfl)
theorem dX1_greet_10 : decode cX1_greet 10 = .ok (.aload_n 0, 1) := dk_42 (dk_at dksX1_greet_0 10 rfl rfl)
theorem dX1_greet_11 : decode cX1_greet 11 = .ok (.aload_n 0, 1) := dk_42 (dk_at dksX1_greet_0 11 rfl rfl)
theorem dX1_greet_12 : decode cX1_greet 12 = .ok (.getfield 22, 3) := dk_180 0 22 (dk_at dksX1_greet_0 12 rfl rfl)
theorem dX1_greet_15 : decode cX1_greet 15 = .ok (.iload_n 1, 1) := dk_27 (dk_at dksX1_greet_0 15 rfl rfl)
theorem dX1_greet_16 : decode cX1_greet 16 = .ok (.iaload, 1) := dk_46 (dk_at dksX1_greet_0 16 rfl rfl)
theorem dX1_greet_17 : decode cX1_greet 17 = .ok (.iconst 2, 1) := dk_5 (dk_at dksX1_greet_0 17 rfl rfl)
theorem dX1_greet_18 : decode cX1_greet 18 = .ok (.if_icmp .ne 7, 3) := dk_160 0 7 (dk_at dksX1_greet_0 18 rfl rfl)
theorem dX1_greet_21 : decode cX1_greet 21 = .ok (.iconst 5, 1) := dk_8 (dk_at dksX1_greet_0 21 rfl rfl)
theorem dX1_greet_22 : decode cX1_greet 22 = .ok (.goto 4, 3) := dk_167 0 4 (dk_at dksX1_greet_1 0 rfl rfl)
theorem dX1_greet_25 : decode cX1_greet 25 = .ok (.iconst 4, 1) := dk_7 (dk_at dksX1_greet_1 3 rfl rfl)
theorem dX1_greet_26 : decode cX1_greet 26 = .ok (.invokevirtual 184, 3) := dk_182 0 184 (dk_at dksX1_greet_1 4 rfl rfl)
theorem dX1_greet_29 : decode cX1_greet 29 = .ok (.aload_n 0, 1) := dk_42 (dk_at dksX1_greet_1 7 rfl rfl)
theorem dX1_greet_30 : decode cX1_greet 30 = .ok (.getfield 22, 3) := dk_180 0 22 (dk_at dksX1_greet_1 8 rfl rfl)
theorem dX1_greet_33 : decode cX1_greet 33 = .ok (.iload_n 1, 1) := dk_27 (dk_at dksX1_greet_1 11 rfl rfl)
theorem dX1_greet_34 : decode cX1_greet 34 = .ok (.iaload, 1) := dk_46 (dk_at dksX1_greet_1 12 rfl rfl)
theorem dX1_greet_35 : decode cX1_greet 35 = .ok (.iconst 2, 1) := dk_5 (dk_at dksX1_greet_1 13 rfl rfl)
theorem dX1_greet_36 : decode cX1_greet 36 = .ok (.if_icmp .ne 8, 3) := dk_160 0 8 (dk_at dksX1_greet_1 14 rfl rfl)
theorem dX1_greet_39 : decode cX1_greet 39 = .ok (.bipush 80, 2) := dk_16 80 (dk_at dksX1_greet_1 17 rfl rfl)
theorem dX1_greet_41 : decode cX1_greet 41 = .ok (.goto 4, 3) := dk_167 0 4 (dk_at dksX1_greet_1 19 rfl rfl)
theorem dX1_greet_44 : decode cX1_greet 44 = .ok (.iload_n 1, 1) := dk_27 (dk_at dksX1_greet_1 22 rfl rfl)
theorem dX1_greet_45 : decode cX1_greet 45 = .ok (.ireturn, 1) := dk_172 (dk_at dksX1_greet_1 23 rfl rfl)
abbrev cX1_as : ByteArray := prog_15_method_58_code
def yX1_as : MethodName := ⟨RX1, "as", "(II)I"⟩
def dkwX1_as_1 : List UInt8 := [16, 254, 172, 42, 180, 0, 22, 27, 46, 28, 161, 0, 7, 4, 167, 0, 8, 42, 5, 182, 0, 85, 172]
abbrev dktX1_as_1 : List UInt8 := dkwX1_as_1 ++ []
def dkwX1_as_0 : List UInt8 := [42, 3, 181, 0, 55, 42, 27, 182, 0, 122, 154, 0, 5, 2, 172, 28, 3, 5, 184, 0, 61, 154, 0, 6]
abbrev dktX1_as_0 : List UInt8 := dkwX1_as_0 ++ dktX1_as_1
theorem dksX1_as_0 : cX1_as.data.toList.drop 0 = dktX1_as_0 := by decide +kernel
theorem dksX1_as_1 : cX1_as.data.toList.drop 24 = dktX1_as_1 := dk_seg dksX1_as_0 24 rfl rfl
theorem dX1_as_0 : decode cX1_as 0 = .ok (.aload_n 0, 1) := dk_42 (dk_at dksX1_as_0 0 rfl rfl)
theorem dX1_as_1 : decode cX1_as 1 = .ok (.iconst 0, 1) := dk_3 (dk_at dksX1_as_0 1 rfl rfl)
theorem dX1_as_2 : decode cX1_as 2 = .ok (.putfield 55, 3) := dk_181 0 55 (dk_at dksX1_as_0 2 rfl rfl)
theorem dX1_as_5 : decode cX1_as 5 = .ok (.aload_n 0, 1) := dk_42 (dk_at dksX1_as_0 5 rfl rfl)
theorem dX1_as_6 : decode cX1_as 6 = .ok (.iload_n 1, 1) := dk_27 (dk_at dksX1_as_0 6 rfl rfl)
theorem dX1_as_7 : decode cX1_as 7 = .ok (.invokevirtual 122, 3) := dk_182 0 122 (dk_at dksX1_as_0 7 rfl rfl)
theorem dX1_as_10 : decode cX1_as 10 = .ok (.ifCond .ne 5, 3) := dk_154 0 5 (dk_at dksX1_as_0 10 rfl rfl)
theorem dX1_as_13 : decode cX1_as 13 = .ok (.iconst (-1), 1) := dk_2 (dk_at dksX1_as_0 13 rfl rfl)
theorem dX1_as_14 : decode cX1_as 14 = .ok (.ireturn, 1) := dk_172 (dk_at dksX1_as_0 14 rfl rfl)
theorem dX1_as_15 : decode cX1_as 15 = .ok (.iload_n 2, 1) := dk_28 (dk_at dksX1_as_0 15 rfl rfl)
theorem dX1_as_16 : decode cX1_as 16 = .ok (.iconst 0, 1) := dk_3 (dk_at dksX1_as_0 16 rfl rfl)
theorem dX1_as_17 : decode cX1_as 17 = .ok (.iconst 2, 1) := dk_5 (dk_at dksX1_as_0 17 rfl rfl)
theorem dX1_as_18 : decode cX1_as 18 = .ok (.invokestatic 61, 3) := dk_184 0 61 (dk_at dksX1_as_0 18 rfl rfl)
theorem dX1_as_21 : decode cX1_as 21 = .ok (.ifCond .ne 6, 3) := dk_154 0 6 (dk_at dksX1_as_0 21 rfl rfl)
theorem dX1_as_24 : decode cX1_as 24 = .ok (.bipush (-2), 2) := dk_16 254 (dk_at dksX1_as_1 0 rfl rfl)
theorem dX1_as_26 : decode cX1_as 26 = .ok (.ireturn, 1) := dk_172 (dk_at dksX1_as_1 2 rfl rfl)
theorem dX1_as_27 : decode cX1_as 27 = .ok (.aload_n 0, 1) := dk_42 (dk_at dksX1_as_1 3 rfl rfl)
theorem dX1_as_28 : decode cX1_as 28 = .ok (.getfield 22, 3) := dk_180 0 22 (dk_at dksX1_as_1 4 rfl rfl)
theorem dX1_as_31 : decode cX1_as 31 = .ok (.iload_n 1, 1) := dk_27 (dk_at dksX1_as_1 7 rfl rfl)
theorem dX1_as_32 : decode cX1_as 32 = .ok (.iaload, 1) := dk_46 (dk_at dksX1_as_1 8 rfl rfl)
theorem dX1_as_33 : decode cX1_as 33 = .ok (.iload_n 2, 1) := dk_28 (dk_at dksX1_as_1 9 rfl rfl)
theorem dX1_as_34 : decode cX1_as 34 = .ok (.if_icmp .lt 7, 3) := dk_161 0 7 (dk_at dksX1_as_1 10 rfl rfl)
theorem dX1_as_37 : decode cX1_as 37 = .ok (.iconst 1, 1) := dk_4 (dk_at dksX1_as_1 13 rfl rfl)
theorem dX1_as_38 : decode cX1_as 38 = .ok (.goto 8, 3) := dk_167 0 8 (dk_at dksX1_as_1 14 rfl rfl)
theorem dX1_as_41 : decode cX1_as 41 = .ok (.aload_n 0, 1) := dk_42 (dk_at dksX1_as_1 17 rfl rfl)
theorem dX1_as_42 : decode cX1_as 42 = .ok (.iconst 2, 1) := dk_5 (dk_at dksX1_as_1 18 rfl rfl)
theorem dX1_as_43 : decode cX1_as 43 = .ok (.invokevirtual 85, 3) := dk_182 0 85 (dk_at dksX1_as_1 19 rfl rfl)
theorem dX1_as_46 : decode cX1_as 46 = .ok (.ireturn, 1) := dk_172 (dk_at dksX1_as_1 22 rfl rfl)
abbrev cX1_trace : ByteArray := prog_15_method_59_code
def yX1_trace : MethodName := ⟨RX1, "trace", "()I"⟩
theorem dX1_trace_0 : decode cX1_trace 0 = .ok (.aload_n 0, 1) := by decide +kernel
theorem dX1_trace_1 : decode cX1_trace 1 = .ok (.getfield 181, 3) := by decide +kernel
theorem dX1_trace_4 : decode cX1_trace 4 = .ok (.ireturn, 1) := by decide +kernel
abbrev cX1_fault : ByteArray := prog_15_method_60_code
def yX1_fault : MethodName := ⟨RX1, "fault", "()I"⟩
theorem dX1_fault_0 : decode cX1_fault 0 = .ok (.aload_n 0, 1) := by decide +kernel
theorem dX1_fault_1 : decode cX1_fault 1 = .ok (.getfield 55, 3) := by decide +kernel
theorem dX1_fault_4 : decode cX1_fault 4 = .ok (.ireturn, 1) := by decide +kernel
abbrev cX1_many : ByteArray := prog_15_method_61_code
def yX1_many : MethodName := ⟨RX1, "many", "(I)I"⟩
def dkwX1_many_1 : List UInt8 := [5, 160, 0, 10, 42, 180, 0, 101, 167, 0, 5, 16, 254, 172]
abbrev dktX1_many_1 : List UInt8 := dkwX1_many_1 ++ []
def dkwX1_many_0 : List UInt8 := [27, 154, 0, 10, 42, 180, 0, 68, 167, 0, 29, 27, 4, 160, 0, 10, 42, 180, 0, 65, 167, 0, 17, 27]
abbrev dktX1_many_0 : List UInt8 := dkwX1_many_0 ++ dktX1_many_1
theorem dksX1_many_0 : cX1_many.data.toList.drop 0 = dktX1_many_0 := by decide +kernel
theorem dksX1_many_1 : cX1_many.data.toList.drop 24 = dktX1_many_1 := dk_seg dksX1_many_0 24 rfl rfl
theorem dX1_many_0 : decode cX1_many 0 = .ok (.iload_n 1, 1) := dk_27 (dk_at dksX1_many_0 0 rfl rfl)
theorem dX1_many_1 : decode cX1_many 1 = .ok (.ifCond .ne 10, 3) := dk_154 0 10 (dk_at dksX1_many_0 1 rfl rfl)
theorem dX1_many_4 : decode cX1_many 4 = .ok (.aload_n 0, 1) := dk_42 (dk_at dksX1_many_0 4 rfl rfl)
theorem dX1_many_5 : decode cX1_many 5 = .ok (.getfield 68, 3) := dk_180 0 68 (dk_at dksX1_many_0 5 rfl rfl)
theorem dX1_many_8 : decode cX1_many 8 = .ok (.goto 29, 3) := dk_167 0 29 (dk_at dksX1_many_0 8 rfl rfl)
theorem dX1_many_11 : decode cX1_many 11 = .ok (.iload_n 1, 1) := dk_27 (dk_at dksX1_many_0 11 rfl rfl)
theorem dX1_many_12 : decode cX1_many 12 = .ok (.iconst 1, 1) := dk_4 (dk_at dksX1_many_0 12 rfl rfl)
theorem dX1_many_13 : decode cX1_many 13 = .ok (.if_icmp .ne 10, 3) := dk_160 0 10 (dk_at dksX1_many_0 13 rfl rfl)
theorem dX1_many_16 : decode cX1_many 16 = .ok (.aload_n 0, 1) := dk_42 (dk_at dksX1_many_0 16 rfl rfl)
theorem dX1_many_17 : decode cX1_many 17 = .ok (.getfield 65, 3) := dk_180 0 65 (dk_at dksX1_many_0 17 rfl rfl)
theorem dX1_many_20 : decode cX1_many 20 = .ok (.goto 17, 3) := dk_167 0 17 (dk_at dksX1_many_0 20 rfl rfl)
theorem dX1_many_23 : decode cX1_many 23 = .ok (.iload_n 1, 1) := dk_27 (dk_at dksX1_many_0 23 rfl rfl)
theorem dX1_many_24 : decode cX1_many 24 = .ok (.iconst 2, 1) := dk_5 (dk_at dksX1_many_1 0 rfl rfl)
theorem dX1_many_25 : decode cX1_many 25 = .ok (.if_icmp .ne 10, 3) := dk_160 0 10 (dk_at dksX1_many_1 1 rfl rfl)
theorem dX1_many_28 : decode cX1_many 28 = .ok (.aload_n 0, 1) := dk_42 (dk_at dksX1_many_1 4 rfl rfl)
theorem dX1_many_29 : decode cX1_many 29 = .ok (.getfield 101, 3) := dk_180 0 101 (dk_at dksX1_many_1 5 rfl rfl)
theorem dX1_many_32 : decode cX1_many 32 = .ok (.goto 5, 3) := dk_167 0 5 (dk_at dksX1_many_1 8 rfl rfl)
theorem dX1_many_35 : decode cX1_many 35 = .ok (.bipush (-2), 2) := dk_16 254 (dk_at dksX1_many_1 11 rfl rfl)
theorem dX1_many_37 : decode cX1_many 37 = .ok (.ireturn, 1) := dk_172 (dk_at dksX1_many_1 13 rfl rfl)
theorem q61 : (Jvm.Cond.initialized "TowerTellModel") ∈ lw_all := lw_g (lw_at lw_m1 5 rfl) rfl
theorem q393 : (Jvm.Cond.selects "TowerTellModel" ({ cls := "java/lang/Object", name := "getClass", desc := "()Ljava/lang/Class;" } : Jvm.MethodName) ({ cls := "java/lang/Object", name := "getClass", desc := "()Ljava/lang/Class;" } : Jvm.MethodName)) ∈ lw_all := lw_g (lw_at lw_m2 97 rfl) rfl
theorem q1114 : (Jvm.Cond.instantiable "TowerTellModel" (25 : Nat)) ∈ lw_all := lw_g (lw_at lw_m5 98 rfl) rfl
theorem q1116 : (Jvm.Cond.instanceMethod ({ cls := "TowerTellModel", name := "<init>", desc := "()V" } : Jvm.MethodName)) ∈ lw_all := lw_g (lw_at lw_m5 100 rfl) rfl
theorem q1117 : (Jvm.Cond.code ({ cls := "TowerTellModel", name := "<init>", desc := "()V" } : Jvm.MethodName) prog_15_method_1_code (1 : Nat) (Option.none : Option Jvm.ClassFile.FieldType)) ∈ lw_all := lw_g (lw_at lw_m5 101 rfl) rfl
theorem q1118 : (Jvm.Cond.methodLink "TowerTellModel" (1 : Nat) ({ cls := "java/lang/Object", name := "<init>", desc := "()V" } : Jvm.MethodName)) ∈ lw_all := lw_g (lw_at lw_m5 102 rfl) rfl
theorem q1119 : (Jvm.Cond.fieldLink "TowerTellModel" (55 : Nat) "TowerTellModel" "fault" "I") ∈ lw_all := lw_g (lw_at lw_m5 103 rfl) rfl
theorem q1120 : (Jvm.Cond.fieldLink "TowerTellModel" (181 : Nat) "TowerTellModel" "trace" "I") ∈ lw_all := lw_g (lw_at lw_m5 104 rfl) rfl
theorem q1121 : (Jvm.Cond.fieldLink "TowerTellModel" (9 : Nat) "TowerTellModel" "sorts" "[I") ∈ lw_all := lw_g (lw_at lw_m5 105 rfl) rfl
theorem q1122 : (Jvm.Cond.fieldLink "TowerTellModel" (13 : Nat) "TowerTellModel" "sheetLong" "[I") ∈ lw_all := lw_g (lw_at lw_m5 106 rfl) rfl
theorem q1123 : (Jvm.Cond.fieldLink "TowerTellModel" (16 : Nat) "TowerTellModel" "cells" "[I") ∈ lw_all := lw_g (lw_at lw_m5 107 rfl) rfl
theorem q1124 : (Jvm.Cond.fieldLink "TowerTellModel" (65 : Nat) "TowerTellModel" "deeds" "I") ∈ lw_all := lw_g (lw_at lw_m5 108 rfl) rfl
theorem q1125 : (Jvm.Cond.fieldLink "TowerTellModel" (68 : Nat) "TowerTellModel" "people" "I") ∈ lw_all := lw_g (lw_at lw_m5 109 rfl) rfl
theorem q1126 : (Jvm.Cond.fieldLink "TowerTellModel" (19 : Nat) "TowerTellModel" "weightOf" "[I") ∈ lw_all := lw_g (lw_at lw_m5 110 rfl) rfl
theorem q1127 : (Jvm.Cond.fieldLink "TowerTellModel" (22 : Nat) "TowerTellModel" "kind" "[I") ∈ lw_all := lw_g (lw_at lw_m5 111 rfl) rfl
theorem q1128 : (Jvm.Cond.fieldLink "TowerTellModel" (25 : Nat) "TowerTellModel" "done" "[I") ∈ lw_all := lw_g (lw_at lw_m5 112 rfl) rfl
theorem q1129 : (Jvm.Cond.fieldLink "TowerTellModel" (28 : Nat) "TowerTellModel" "knows" "[I") ∈ lw_all := lw_g (lw_at lw_m5 113 rfl) rfl
theorem q1130 : (Jvm.Cond.fieldLink "TowerTellModel" (31 : Nat) "TowerTellModel" "told" "[I") ∈ lw_all := lw_g (lw_at lw_m5 114 rfl) rfl
theorem q1131 : (Jvm.Cond.fieldLink "TowerTellModel" (71 : Nat) "TowerTellModel" "at" "I") ∈ lw_all := lw_g (lw_at lw_m5 115 rfl) rfl
theorem q1132 : (Jvm.Cond.fieldLink "TowerTellModel" (95 : Nat) "TowerTellModel" "readDeeds" "I") ∈ lw_all := lw_g (lw_at lw_m5 116 rfl) rfl
theorem q1133 : (Jvm.Cond.fieldLink "TowerTellModel" (98 : Nat) "TowerTellModel" "readMany" "I") ∈ lw_all := lw_g (lw_at lw_m5 117 rfl) rfl
theorem q1134 : (Jvm.Cond.fieldLink "TowerTellModel" (34 : Nat) "TowerTellModel" "readWeight" "[I") ∈ lw_all := lw_g (lw_at lw_m5 118 rfl) rfl
theorem q1135 : (Jvm.Cond.fieldLink "TowerTellModel" (37 : Nat) "TowerTellModel" "read" "[I") ∈ lw_all := lw_g (lw_at lw_m5 119 rfl) rfl
theorem q1136 : (Jvm.Cond.fieldLink "TowerTellModel" (40 : Nat) "TowerTellModel" "then" "[I") ∈ lw_all := lw_g (lw_at lw_m5 120 rfl) rfl
theorem q1137 : (Jvm.Cond.fieldLink "TowerTellModel" (140 : Nat) "TowerTellModel" "pairs" "I") ∈ lw_all := lw_g (lw_at lw_m5 121 rfl) rfl
theorem q1138 : (Jvm.Cond.fieldLink "TowerTellModel" (43 : Nat) "TowerTellModel" "who" "[I") ∈ lw_all := lw_g (lw_at lw_m5 122 rfl) rfl
theorem q1139 : (Jvm.Cond.fieldLink "TowerTellModel" (46 : Nat) "TowerTellModel" "what" "[I") ∈ lw_all := lw_g (lw_at lw_m5 123 rfl) rfl
theorem q1140 : (Jvm.Cond.fieldLink "TowerTellModel" (143 : Nat) "TowerTellModel" "caught" "I") ∈ lw_all := lw_g (lw_at lw_m5 124 rfl) rfl
theorem q1141 : (Jvm.Cond.fieldLink "TowerTellModel" (101 : Nat) "TowerTellModel" "readings" "I") ∈ lw_all := lw_g (lw_at lw_m5 125 rfl) rfl
theorem q1142 : (Jvm.Cond.fieldLink "TowerTellModel" (49 : Nat) "TowerTellModel" "readWho" "[I") ∈ lw_all := lw_g (lw_at lw_m5 126 rfl) rfl
theorem q1143 : (Jvm.Cond.fieldLink "TowerTellModel" (52 : Nat) "TowerTellModel" "readFloor" "[I") ∈ lw_all := lw_g (lw_at lw_m5 127 rfl) rfl
theorem q1144 : (Jvm.Cond.lays "TowerTellModel" "TowerTellModel" "fault" "I") ∈ lw_all := lw_g (lw_at lw_m5 128 rfl) rfl
theorem q1145 : (Jvm.Cond.soleField "TowerTellModel" "fault") ∈ lw_all := lw_g (lw_at lw_m5 129 rfl) rfl
theorem q1146 : (Jvm.Cond.lays "TowerTellModel" "TowerTellModel" "trace" "I") ∈ lw_all := lw_g (lw_at lw_m5 130 rfl) rfl
theorem q1147 : (Jvm.Cond.soleField "TowerTellModel" "trace") ∈ lw_all := lw_g (lw_at lw_m5 131 rfl) rfl
theorem q1148 : (Jvm.Cond.laysFinal "TowerTellModel" "TowerTellModel" "sorts" "[I") ∈ lw_all := lw_g (lw_at lw_m5 132 rfl) rfl
theorem q1149 : (Jvm.Cond.soleField "TowerTellModel" "sorts") ∈ lw_all := lw_g (lw_at lw_m5 133 rfl) rfl
theorem q1150 : (Jvm.Cond.laysFinal "TowerTellModel" "TowerTellModel" "sheetLong" "[I") ∈ lw_all := lw_g (lw_at lw_m5 134 rfl) rfl
theorem q1151 : (Jvm.Cond.soleField "TowerTellModel" "sheetLong") ∈ lw_all := lw_g (lw_at lw_m5 135 rfl) rfl
theorem q1152 : (Jvm.Cond.laysFinal "TowerTellModel" "TowerTellModel" "cells" "[I") ∈ lw_all := lw_g (lw_at lw_m5 136 rfl) rfl
theorem q1153 : (Jvm.Cond.soleField "TowerTellModel" "cells") ∈ lw_all := lw_g (lw_at lw_m5 137 rfl) rfl
theorem q1154 : (Jvm.Cond.lays "TowerTellModel" "TowerTellModel" "deeds" "I") ∈ lw_all := lw_g (lw_at lw_m5 138 rfl) rfl
theorem q1155 : (Jvm.Cond.soleField "TowerTellModel" "deeds") ∈ lw_all := lw_g (lw_at lw_m5 139 rfl) rfl
theorem q1156 : (Jvm.Cond.lays "TowerTellModel" "TowerTellModel" "people" "I") ∈ lw_all := lw_g (lw_at lw_m5 140 rfl) rfl
theorem q1157 : (Jvm.Cond.soleField "TowerTellModel" "people") ∈ lw_all := lw_g (lw_at lw_m5 141 rfl) rfl
theorem q1158 : (Jvm.Cond.laysFinal "TowerTellModel" "TowerTellModel" "weightOf" "[I") ∈ lw_all := lw_g (lw_at lw_m5 142 rfl) rfl
theorem q1159 : (Jvm.Cond.soleField "TowerTellModel" "weightOf") ∈ lw_all := lw_g (lw_at lw_m5 143 rfl) rfl
theorem q1160 : (Jvm.Cond.laysFinal "TowerTellModel" "TowerTellModel" "kind" "[I") ∈ lw_all := lw_g (lw_at lw_m5 144 rfl) rfl
theorem q1161 : (Jvm.Cond.soleField "TowerTellModel" "kind") ∈ lw_all := lw_g (lw_at lw_m5 145 rfl) rfl
theorem q1162 : (Jvm.Cond.laysFinal "TowerTellModel" "TowerTellModel" "done" "[I") ∈ lw_all := lw_g (lw_at lw_m5 146 rfl) rfl
theorem q1163 : (Jvm.Cond.soleField "TowerTellModel" "done") ∈ lw_all := lw_g (lw_at lw_m5 147 rfl) rfl
theorem q1164 : (Jvm.Cond.laysFinal "TowerTellModel" "TowerTellModel" "knows" "[I") ∈ lw_all := lw_g (lw_at lw_m5 148 rfl) rfl
theorem q1165 : (Jvm.Cond.soleField "TowerTellModel" "knows") ∈ lw_all := lw_g (lw_at lw_m5 149 rfl) rfl
theorem q1166 : (Jvm.Cond.laysFinal "TowerTellModel" "TowerTellModel" "told" "[I") ∈ lw_all := lw_g (lw_at lw_m5 150 rfl) rfl
theorem q1167 : (Jvm.Cond.soleField "TowerTellModel" "told") ∈ lw_all := lw_g (lw_at lw_m5 151 rfl) rfl
theorem q1168 : (Jvm.Cond.lays "TowerTellModel" "TowerTellModel" "at" "I") ∈ lw_all := lw_g (lw_at lw_m5 152 rfl) rfl
theorem q1169 : (Jvm.Cond.soleField "TowerTellModel" "at") ∈ lw_all := lw_g (lw_at lw_m5 153 rfl) rfl
theorem q1170 : (Jvm.Cond.lays "TowerTellModel" "TowerTellModel" "readDeeds" "I") ∈ lw_all := lw_g (lw_at lw_m5 154 rfl) rfl
theorem q1171 : (Jvm.Cond.soleField "TowerTellModel" "readDeeds") ∈ lw_all := lw_g (lw_at lw_m5 155 rfl) rfl
theorem q1172 : (Jvm.Cond.lays "TowerTellModel" "TowerTellModel" "readMany" "I") ∈ lw_all := lw_g (lw_at lw_m5 156 rfl) rfl
theorem q1173 : (Jvm.Cond.soleField "TowerTellModel" "readMany") ∈ lw_all := lw_g (lw_at lw_m5 157 rfl) rfl
theorem q1174 : (Jvm.Cond.laysFinal "TowerTellModel" "TowerTellModel" "readWeight" "[I") ∈ lw_all := lw_g (lw_at lw_m5 158 rfl) rfl
theorem q1175 : (Jvm.Cond.soleField "TowerTellModel" "readWeight") ∈ lw_all := lw_g (lw_at lw_m5 159 rfl) rfl
theorem q1176 : (Jvm.Cond.laysFinal "TowerTellModel" "TowerTellModel" "read" "[I") ∈ lw_all := lw_g (lw_at lw_m5 160 rfl) rfl
theorem q1177 : (Jvm.Cond.soleField "TowerTellModel" "read") ∈ lw_all := lw_g (lw_at lw_m5 161 rfl) rfl
theorem q1178 : (Jvm.Cond.laysFinal "TowerTellModel" "TowerTellModel" "then" "[I") ∈ lw_all := lw_g (lw_at lw_m5 162 rfl) rfl
theorem q1179 : (Jvm.Cond.soleField "TowerTellModel" "then") ∈ lw_all := lw_g (lw_at lw_m5 163 rfl) rfl
theorem q1180 : (Jvm.Cond.lays "TowerTellModel" "TowerTellModel" "pairs" "I") ∈ lw_all := lw_g (lw_at lw_m5 164 rfl) rfl
theorem q1181 : (Jvm.Cond.soleField "TowerTellModel" "pairs") ∈ lw_all := lw_g (lw_at lw_m5 165 rfl) rfl
theorem q1182 : (Jvm.Cond.laysFinal "TowerTellModel" "TowerTellModel" "who" "[I") ∈ lw_all := lw_g (lw_at lw_m5 166 rfl) rfl
theorem q1183 : (Jvm.Cond.soleField "TowerTellModel" "who") ∈ lw_all := lw_g (lw_at lw_m5 167 rfl) rfl
theorem q1184 : (Jvm.Cond.laysFinal "TowerTellModel" "TowerTellModel" "what" "[I") ∈ lw_all := lw_g (lw_at lw_m5 168 rfl) rfl
theorem q1185 : (Jvm.Cond.soleField "TowerTellModel" "what") ∈ lw_all := lw_g (lw_at lw_m5 169 rfl) rfl
theorem q1186 : (Jvm.Cond.lays "TowerTellModel" "TowerTellModel" "caught" "I") ∈ lw_all := lw_g (lw_at lw_m5 170 rfl) rfl
theorem q1187 : (Jvm.Cond.soleField "TowerTellModel" "caught") ∈ lw_all := lw_g (lw_at lw_m5 171 rfl) rfl
theorem q1188 : (Jvm.Cond.lays "TowerTellModel" "TowerTellModel" "readings" "I") ∈ lw_all := lw_g (lw_at lw_m5 172 rfl) rfl
theorem q1189 : (Jvm.Cond.soleField "TowerTellModel" "readings") ∈ lw_all := lw_g (lw_at lw_m5 173 rfl) rfl
theorem q1190 : (Jvm.Cond.laysFinal "TowerTellModel" "TowerTellModel" "readWho" "[I") ∈ lw_all := lw_g (lw_at lw_m5 174 rfl) rfl
theorem q1191 : (Jvm.Cond.soleField "TowerTellModel" "readWho") ∈ lw_all := lw_g (lw_at lw_m5 175 rfl) rfl
theorem q1192 : (Jvm.Cond.laysFinal "TowerTellModel" "TowerTellModel" "readFloor" "[I") ∈ lw_all := lw_g (lw_at lw_m5 176 rfl) rfl
theorem q1193 : (Jvm.Cond.soleField "TowerTellModel" "readFloor") ∈ lw_all := lw_g (lw_at lw_m5 177 rfl) rfl
theorem q1194 : (Jvm.Cond.superclass "TowerTellModel" "java/lang/Object") ∈ lw_all := lw_g (lw_at lw_m5 178 rfl) rfl
theorem q1196 : (Jvm.Cond.instanceMethod ({ cls := "TowerTellModel", name := "tower", desc := "(IIII)I" } : Jvm.MethodName)) ∈ lw_all := lw_g (lw_at lw_m5 180 rfl) rfl
theorem q1197 : (Jvm.Cond.selects "TowerTellModel" ({ cls := "TowerTellModel", name := "tower", desc := "(IIII)I" } : Jvm.MethodName) ({ cls := "TowerTellModel", name := "tower", desc := "(IIII)I" } : Jvm.MethodName)) ∈ lw_all := lw_g (lw_at lw_m5 181 rfl) rfl
theorem q1198 : (Jvm.Cond.code ({ cls := "TowerTellModel", name := "tower", desc := "(IIII)I" } : Jvm.MethodName) prog_15_method_13_code (7 : Nat) (Option.some Jvm.ClassFile.FieldType.int)) ∈ lw_all := lw_g (lw_at lw_m5 182 rfl) rfl
theorem q1199 : (Jvm.Cond.methodLink "TowerTellModel" (74 : Nat) ({ cls := "TowerTellModel", name := "isSheet", desc := "(I)Z" } : Jvm.MethodName)) ∈ lw_all := lw_g (lw_at lw_m5 183 rfl) rfl
theorem q1200 : (Jvm.Cond.static ({ cls := "TowerTellModel", name := "isSheet", desc := "(I)Z" } : Jvm.MethodName)) ∈ lw_all := lw_g (lw_at lw_m5 184 rfl) rfl
theorem q1201 : (Jvm.Cond.code ({ cls := "TowerTellModel", name := "isSheet", desc := "(I)Z" } : Jvm.MethodName) prog_15_method_6_code (1 : Nat) (Option.some Jvm.ClassFile.FieldType.boolean)) ∈ lw_all := lw_g (lw_at lw_m5 185 rfl) rfl
theorem q1202 : (Jvm.Cond.methodLink "TowerTellModel" (61 : Nat) ({ cls := "TowerTellModel", name := "within", desc := "(III)Z" } : Jvm.MethodName)) ∈ lw_all := lw_g (lw_at lw_m5 186 rfl) rfl
theorem q1203 : (Jvm.Cond.static ({ cls := "TowerTellModel", name := "within", desc := "(III)Z" } : Jvm.MethodName)) ∈ lw_all := lw_g (lw_at lw_m5 187 rfl) rfl
theorem q1204 : (Jvm.Cond.code ({ cls := "TowerTellModel", name := "within", desc := "(III)Z" } : Jvm.MethodName) prog_15_method_5_code (3 : Nat) (Option.some Jvm.ClassFile.FieldType.boolean)) ∈ lw_all := lw_g (lw_at lw_m5 188 rfl) rfl
theorem q1205 : (Jvm.Cond.methodLink "TowerTellModel" (78 : Nat) ({ cls := "TowerTellModel", name := "isSort", desc := "(I)Z" } : Jvm.MethodName)) ∈ lw_all := lw_g (lw_at lw_m5 189 rfl) rfl
theorem q1206 : (Jvm.Cond.static ({ cls := "TowerTellModel", name := "isSort", desc := "(I)Z" } : Jvm.MethodName)) ∈ lw_all := lw_g (lw_at lw_m5 190 rfl) rfl
theorem q1207 : (Jvm.Cond.code ({ cls := "TowerTellModel", name := "isSort", desc := "(I)Z" } : Jvm.MethodName) prog_15_method_7_code (1 : Nat) (Option.some Jvm.ClassFile.FieldType.boolean)) ∈ lw_all := lw_g (lw_at lw_m5 191 rfl) rfl
theorem q1208 : (Jvm.Cond.methodLink "TowerTellModel" (81 : Nat) ({ cls := "TowerTellModel", name := "against", desc := "(IIII)I" } : Jvm.MethodName)) ∈ lw_all := lw_g (lw_at lw_m5 192 rfl) rfl
theorem q1209 : (Jvm.Cond.privateMethod ({ cls := "TowerTellModel", name := "against", desc := "(IIII)I" } : Jvm.MethodName)) ∈ lw_tbl := lw_at lw_m5 193 rfl
theorem q1210 : (Jvm.Cond.instanceMethod ({ cls := "TowerTellModel", name := "against", desc := "(IIII)I" } : Jvm.MethodName)) ∈ lw_all := lw_g (lw_at lw_m5 194 rfl) rfl
theorem q1211 : (Jvm.Cond.code ({ cls := "TowerTellModel", name := "against", desc := "(IIII)I" } : Jvm.MethodName) prog_15_method_8_code (5 : Nat) (Option.some Jvm.ClassFile.FieldType.int)) ∈ lw_all := lw_g (lw_at lw_m5 195 rfl) rfl
theorem q1212 : (Jvm.Cond.methodLink "TowerTellModel" (85 : Nat) ({ cls := "TowerTellModel", name := "fails", desc := "(I)I" } : Jvm.MethodName)) ∈ lw_all := lw_g (lw_at lw_m5 196 rfl) rfl
theorem q1213 : (Jvm.Cond.privateMethod ({ cls := "TowerTellModel", name := "fails", desc := "(I)I" } : Jvm.MethodName)) ∈ lw_tbl := lw_at lw_m5 197 rfl
theorem q1214 : (Jvm.Cond.instanceMethod ({ cls := "TowerTellModel", name := "fails", desc := "(I)I" } : Jvm.MethodName)) ∈ lw_all := lw_g (lw_at lw_m5 198 rfl) rfl
theorem q1215 : (Jvm.Cond.code ({ cls := "TowerTellModel", name := "fails", desc := "(I)I" } : Jvm.MethodName) prog_15_method_3_code (2 : Nat) (Option.some Jvm.ClassFile.FieldType.int)) ∈ lw_all := lw_g (lw_at lw_m5 199 rfl) rfl
theorem q1216 : (Jvm.Cond.methodLink "TowerTellModel" (89 : Nat) ({ cls := "TowerTellModel", name := "readTower", desc := "(I)Z" } : Jvm.MethodName)) ∈ lw_all := lw_g (lw_at lw_m5 200 rfl) rfl
theorem q1217 : (Jvm.Cond.privateMethod ({ cls := "TowerTellModel", name := "readTower", desc := "(I)Z" } : Jvm.MethodName)) ∈ lw_tbl := lw_at lw_m5 201 rfl
theorem q1218 : (Jvm.Cond.instanceMethod ({ cls := "TowerTellModel", name := "readTower", desc := "(I)Z" } : Jvm.MethodName)) ∈ lw_all := lw_g (lw_at lw_m5 202 rfl) rfl
theorem q1219 : (Jvm.Cond.code ({ cls := "TowerTellModel", name := "readTower", desc := "(I)Z" } : Jvm.MethodName) prog_15_method_15_code (2 : Nat) (Option.some Jvm.ClassFile.FieldType.boolean)) ∈ lw_all := lw_g (lw_at lw_m5 203 rfl) rfl
theorem q1220 : (Jvm.Cond.methodLink "TowerTellModel" (104 : Nat) ({ cls := "TowerTellModel", name := "isSign", desc := "(II)Z" } : Jvm.MethodName)) ∈ lw_all := lw_g (lw_at lw_m5 204 rfl) rfl
theorem q1221 : (Jvm.Cond.privateMethod ({ cls := "TowerTellModel", name := "isSign", desc := "(II)Z" } : Jvm.MethodName)) ∈ lw_tbl := lw_at lw_m5 205 rfl
theorem q1222 : (Jvm.Cond.instanceMethod ({ cls := "TowerTellModel", name := "isSign", desc := "(II)Z" } : Jvm.MethodName)) ∈ lw_all := lw_g (lw_at lw_m5 206 rfl) rfl
theorem q1223 : (Jvm.Cond.code ({ cls := "TowerTellModel", name := "isSign", desc := "(II)Z" } : Jvm.MethodName) prog_15_method_12_code (3 : Nat) (Option.some Jvm.ClassFile.FieldType.boolean)) ∈ lw_all := lw_g (lw_at lw_m5 207 rfl) rfl
theorem q1224 : (Jvm.Cond.methodLink "TowerTellModel" (108 : Nat) ({ cls := "TowerTellModel", name := "readDeed", desc := "(I)Z" } : Jvm.MethodName)) ∈ lw_all := lw_g (lw_at lw_m5 208 rfl) rfl
theorem q1225 : (Jvm.Cond.privateMethod ({ cls := "TowerTellModel", name := "readDeed", desc := "(I)Z" } : Jvm.MethodName)) ∈ lw_tbl := lw_at lw_m5 209 rfl
theorem q1226 : (Jvm.Cond.instanceMethod ({ cls := "TowerTellModel", name := "readDeed", desc := "(I)Z" } : Jvm.MethodName)) ∈ lw_all := lw_g (lw_at lw_m5 210 rfl) rfl
theorem q1227 : (Jvm.Cond.code ({ cls := "TowerTellModel", name := "readDeed", desc := "(I)Z" } : Jvm.MethodName) prog_15_method_16_code (2 : Nat) (Option.some Jvm.ClassFile.FieldType.boolean)) ∈ lw_all := lw_g (lw_at lw_m5 211 rfl) rfl
theorem q1228 : (Jvm.Cond.methodLink "TowerTellModel" (114 : Nat) ({ cls := "TowerTellModel", name := "digit", desc := "(III)I" } : Jvm.MethodName)) ∈ lw_all := lw_g (lw_at lw_m5 212 rfl) rfl
theorem q1229 : (Jvm.Cond.privateMethod ({ cls := "TowerTellModel", name := "digit", desc := "(III)I" } : Jvm.MethodName)) ∈ lw_tbl := lw_at lw_m5 213 rfl
theorem q1230 : (Jvm.Cond.instanceMethod ({ cls := "TowerTellModel", name := "digit", desc := "(III)I" } : Jvm.MethodName)) ∈ lw_all := lw_g (lw_at lw_m5 214 rfl) rfl
theorem q1231 : (Jvm.Cond.code ({ cls := "TowerTellModel", name := "digit", desc := "(III)I" } : Jvm.MethodName) prog_15_method_11_code (4 : Nat) (Option.some Jvm.ClassFile.FieldType.int)) ∈ lw_all := lw_g (lw_at lw_m5 215 rfl) rfl
theorem q1232 : (Jvm.Cond.methodLink "TowerTellModel" (111 : Nat) ({ cls := "TowerTellModel", name := "readPerson", desc := "(I)Z" } : Jvm.MethodName)) ∈ lw_all := lw_g (lw_at lw_m5 216 rfl) rfl
theorem q1233 : (Jvm.Cond.privateMethod ({ cls := "TowerTellModel", name := "readPerson", desc := "(I)Z" } : Jvm.MethodName)) ∈ lw_tbl := lw_at lw_m5 217 rfl
theorem q1234 : (Jvm.Cond.instanceMethod ({ cls := "TowerTellModel", name := "readPerson", desc := "(I)Z" } : Jvm.MethodName)) ∈ lw_all := lw_g (lw_at lw_m5 218 rfl) rfl
theorem q1235 : (Jvm.Cond.code ({ cls := "TowerTellModel", name := "readPerson", desc := "(I)Z" } : Jvm.MethodName) prog_15_method_17_code (6 : Nat) (Option.some Jvm.ClassFile.FieldType.boolean)) ∈ lw_all := lw_g (lw_at lw_m5 219 rfl) rfl
theorem q1236 : (Jvm.Cond.methodLink "TowerTellModel" (92 : Nat) ({ cls := "TowerTellModel", name := "takeTower", desc := "()V" } : Jvm.MethodName)) ∈ lw_all := lw_g (lw_at lw_m5 220 rfl) rfl
theorem q1237 : (Jvm.Cond.privateMethod ({ cls := "TowerTellModel", name := "takeTower", desc := "()V" } : Jvm.MethodName)) ∈ lw_tbl := lw_at lw_m5 221 rfl
theorem q1238 : (Jvm.Cond.instanceMethod ({ cls := "TowerTellModel", name := "takeTower", desc := "()V" } : Jvm.MethodName)) ∈ lw_all := lw_g (lw_at lw_m5 222 rfl) rfl
theorem q1239 : (Jvm.Cond.code ({ cls := "TowerTellModel", name := "takeTower", desc := "()V" } : Jvm.MethodName) prog_15_method_14_code (2 : Nat) (Option.none : Option Jvm.ClassFile.FieldType)) ∈ lw_all := lw_g (lw_at lw_m5 223 rfl) rfl
theorem q1241 : (Jvm.Cond.instanceMethod ({ cls := "TowerTellModel", name := "ofPerson", desc := "(II)I" } : Jvm.MethodName)) ∈ lw_all := lw_g (lw_at lw_m5 225 rfl) rfl
theorem q1242 : (Jvm.Cond.selects "TowerTellModel" ({ cls := "TowerTellModel", name := "ofPerson", desc := "(II)I" } : Jvm.MethodName) ({ cls := "TowerTellModel", name := "ofPerson", desc := "(II)I" } : Jvm.MethodName)) ∈ lw_all := lw_g (lw_at lw_m5 226 rfl) rfl
theorem q1243 : (Jvm.Cond.code ({ cls := "TowerTellModel", name := "ofPerson", desc := "(II)I" } : Jvm.MethodName) prog_15_method_20_code (3 : Nat) (Option.some Jvm.ClassFile.FieldType.int)) ∈ lw_all := lw_g (lw_at lw_m5 227 rfl) rfl
theorem q1244 : (Jvm.Cond.methodLink "TowerTellModel" (122 : Nat) ({ cls := "TowerTellModel", name := "isPerson", desc := "(I)Z" } : Jvm.MethodName)) ∈ lw_all := lw_g (lw_at lw_m5 228 rfl) rfl
theorem q1245 : (Jvm.Cond.privateMethod ({ cls := "TowerTellModel", name := "isPerson", desc := "(I)Z" } : Jvm.MethodName)) ∈ lw_tbl := lw_at lw_m5 229 rfl
theorem q1246 : (Jvm.Cond.instanceMethod ({ cls := "TowerTellModel", name := "isPerson", desc := "(I)Z" } : Jvm.MethodName)) ∈ lw_all := lw_g (lw_at lw_m5 230 rfl) rfl
theorem q1247 : (Jvm.Cond.code ({ cls := "TowerTellModel", name := "isPerson", desc := "(I)Z" } : Jvm.MethodName) prog_15_method_10_code (2 : Nat) (Option.some Jvm.ClassFile.FieldType.boolean)) ∈ lw_all := lw_g (lw_at lw_m5 231 rfl) rfl
theorem q1248 : (Jvm.Cond.methodLink "TowerTellModel" (125 : Nat) ({ cls := "TowerTellModel", name := "floorBy", desc := "(II)I" } : Jvm.MethodName)) ∈ lw_all := lw_g (lw_at lw_m5 232 rfl) rfl
theorem q1249 : (Jvm.Cond.privateMethod ({ cls := "TowerTellModel", name := "floorBy", desc := "(II)I" } : Jvm.MethodName)) ∈ lw_tbl := lw_at lw_m5 233 rfl
theorem q1250 : (Jvm.Cond.instanceMethod ({ cls := "TowerTellModel", name := "floorBy", desc := "(II)I" } : Jvm.MethodName)) ∈ lw_all := lw_g (lw_at lw_m5 234 rfl) rfl
theorem q1251 : (Jvm.Cond.code ({ cls := "TowerTellModel", name := "floorBy", desc := "(II)I" } : Jvm.MethodName) prog_15_method_19_code (5 : Nat) (Option.some Jvm.ClassFile.FieldType.int)) ∈ lw_all := lw_g (lw_at lw_m5 235 rfl) rfl
theorem q1252 : (Jvm.Cond.methodLink "TowerTellModel" (118 : Nat) ({ cls := "TowerTellModel", name := "storeysOf", desc := "(II)I" } : Jvm.MethodName)) ∈ lw_all := lw_g (lw_at lw_m5 236 rfl) rfl
theorem q1253 : (Jvm.Cond.privateMethod ({ cls := "TowerTellModel", name := "storeysOf", desc := "(II)I" } : Jvm.MethodName)) ∈ lw_tbl := lw_at lw_m5 237 rfl
theorem q1254 : (Jvm.Cond.instanceMethod ({ cls := "TowerTellModel", name := "storeysOf", desc := "(II)I" } : Jvm.MethodName)) ∈ lw_all := lw_g (lw_at lw_m5 238 rfl) rfl
theorem q1255 : (Jvm.Cond.code ({ cls := "TowerTellModel", name := "storeysOf", desc := "(II)I" } : Jvm.MethodName) prog_15_method_18_code (3 : Nat) (Option.some Jvm.ClassFile.FieldType.int)) ∈ lw_all := lw_g (lw_at lw_m5 239 rfl) rfl
theorem q1257 : (Jvm.Cond.instanceMethod ({ cls := "TowerTellModel", name := "weight", desc := "(I)I" } : Jvm.MethodName)) ∈ lw_all := lw_g (lw_at lw_m6 1 rfl) rfl
theorem q1258 : (Jvm.Cond.selects "TowerTellModel" ({ cls := "TowerTellModel", name := "weight", desc := "(I)I" } : Jvm.MethodName) ({ cls := "TowerTellModel", name := "weight", desc := "(I)I" } : Jvm.MethodName)) ∈ lw_all := lw_g (lw_at lw_m6 2 rfl) rfl
theorem q1259 : (Jvm.Cond.code ({ cls := "TowerTellModel", name := "weight", desc := "(I)I" } : Jvm.MethodName) prog_15_method_21_code (2 : Nat) (Option.some Jvm.ClassFile.FieldType.int)) ∈ lw_all := lw_g (lw_at lw_m6 3 rfl) rfl
theorem q1260 : (Jvm.Cond.methodLink "TowerTellModel" (128 : Nat) ({ cls := "TowerTellModel", name := "isDeed", desc := "(I)Z" } : Jvm.MethodName)) ∈ lw_all := lw_g (lw_at lw_m6 4 rfl) rfl
theorem q1261 : (Jvm.Cond.privateMethod ({ cls := "TowerTellModel", name := "isDeed", desc := "(I)Z" } : Jvm.MethodName)) ∈ lw_tbl := lw_at lw_m6 5 rfl
theorem q1262 : (Jvm.Cond.instanceMethod ({ cls := "TowerTellModel", name := "isDeed", desc := "(I)Z" } : Jvm.MethodName)) ∈ lw_all := lw_g (lw_at lw_m6 6 rfl) rfl
theorem q1263 : (Jvm.Cond.code ({ cls := "TowerTellModel", name := "isDeed", desc := "(I)Z" } : Jvm.MethodName) prog_15_method_9_code (2 : Nat) (Option.some Jvm.ClassFile.FieldType.boolean)) ∈ lw_all := lw_g (lw_at lw_m6 7 rfl) rfl
theorem q1265 : (Jvm.Cond.instanceMethod ({ cls := "TowerTellModel", name := "weigh", desc := "(II)I" } : Jvm.MethodName)) ∈ lw_all := lw_g (lw_at lw_m6 9 rfl) rfl
theorem q1266 : (Jvm.Cond.selects "TowerTellModel" ({ cls := "TowerTellModel", name := "weigh", desc := "(II)I" } : Jvm.MethodName) ({ cls := "TowerTellModel", name := "weigh", desc := "(II)I" } : Jvm.MethodName)) ∈ lw_all := lw_g (lw_at lw_m6 10 rfl) rfl
theorem q1267 : (Jvm.Cond.code ({ cls := "TowerTellModel", name := "weigh", desc := "(II)I" } : Jvm.MethodName) prog_15_method_22_code (4 : Nat) (Option.some Jvm.ClassFile.FieldType.int)) ∈ lw_all := lw_g (lw_at lw_m6 11 rfl) rfl
theorem q1269 : (Jvm.Cond.instanceMethod ({ cls := "TowerTellModel", name := "storeys", desc := "(II)I" } : Jvm.MethodName)) ∈ lw_all := lw_g (lw_at lw_m6 13 rfl) rfl
theorem q1270 : (Jvm.Cond.selects "TowerTellModel" ({ cls := "TowerTellModel", name := "storeys", desc := "(II)I" } : Jvm.MethodName) ({ cls := "TowerTellModel", name := "storeys", desc := "(II)I" } : Jvm.MethodName)) ∈ lw_all := lw_g (lw_at lw_m6 14 rfl) rfl
theorem q1271 : (Jvm.Cond.code ({ cls := "TowerTellModel", name := "storeys", desc := "(II)I" } : Jvm.MethodName) prog_15_method_23_code (3 : Nat) (Option.some Jvm.ClassFile.FieldType.int)) ∈ lw_all := lw_g (lw_at lw_m6 15 rfl) rfl
theorem q1273 : (Jvm.Cond.instanceMethod ({ cls := "TowerTellModel", name := "say", desc := "(II)I" } : Jvm.MethodName)) ∈ lw_all := lw_g (lw_at lw_m6 17 rfl) rfl
theorem q1274 : (Jvm.Cond.selects "TowerTellModel" ({ cls := "TowerTellModel", name := "say", desc := "(II)I" } : Jvm.MethodName) ({ cls := "TowerTellModel", name := "say", desc := "(II)I" } : Jvm.MethodName)) ∈ lw_all := lw_g (lw_at lw_m6 18 rfl) rfl
theorem q1275 : (Jvm.Cond.code ({ cls := "TowerTellModel", name := "say", desc := "(II)I" } : Jvm.MethodName) prog_15_method_27_code (3 : Nat) (Option.some Jvm.ClassFile.FieldType.int)) ∈ lw_all := lw_g (lw_at lw_m6 19 rfl) rfl
theorem q1276 : (Jvm.Cond.methodLink "TowerTellModel" (134 : Nat) ({ cls := "TowerTellModel", name := "asNow", desc := "()V" } : Jvm.MethodName)) ∈ lw_all := lw_g (lw_at lw_m6 20 rfl) rfl
theorem q1277 : (Jvm.Cond.privateMethod ({ cls := "TowerTellModel", name := "asNow", desc := "()V" } : Jvm.MethodName)) ∈ lw_tbl := lw_at lw_m6 21 rfl
theorem q1278 : (Jvm.Cond.instanceMethod ({ cls := "TowerTellModel", name := "asNow", desc := "()V" } : Jvm.MethodName)) ∈ lw_all := lw_g (lw_at lw_m6 22 rfl) rfl
theorem q1279 : (Jvm.Cond.code ({ cls := "TowerTellModel", name := "asNow", desc := "()V" } : Jvm.MethodName) prog_15_method_24_code (2 : Nat) (Option.none : Option Jvm.ClassFile.FieldType)) ∈ lw_all := lw_g (lw_at lw_m6 23 rfl) rfl
theorem q1280 : (Jvm.Cond.methodLink "TowerTellModel" (137 : Nat) ({ cls := "TowerTellModel", name := "tells", desc := "(II)Z" } : Jvm.MethodName)) ∈ lw_all := lw_g (lw_at lw_m6 24 rfl) rfl
theorem q1281 : (Jvm.Cond.privateMethod ({ cls := "TowerTellModel", name := "tells", desc := "(II)Z" } : Jvm.MethodName)) ∈ lw_tbl := lw_at lw_m6 25 rfl
theorem q1282 : (Jvm.Cond.instanceMethod ({ cls := "TowerTellModel", name := "tells", desc := "(II)Z" } : Jvm.MethodName)) ∈ lw_all := lw_g (lw_at lw_m6 26 rfl) rfl
theorem q1283 : (Jvm.Cond.code ({ cls := "TowerTellModel", name := "tells", desc := "(II)Z" } : Jvm.MethodName) prog_15_method_26_code (3 : Nat) (Option.some Jvm.ClassFile.FieldType.boolean)) ∈ lw_all := lw_g (lw_at lw_m6 27 rfl) rfl
theorem q1284 : (Jvm.Cond.methodLink "TowerTellModel" (131 : Nat) ({ cls := "TowerTellModel", name := "isKnown", desc := "(I)Z" } : Jvm.MethodName)) ∈ lw_all := lw_g (lw_at lw_m6 28 rfl) rfl
theorem q1285 : (Jvm.Cond.privateMethod ({ cls := "TowerTellModel", name := "isKnown", desc := "(I)Z" } : Jvm.MethodName)) ∈ lw_tbl := lw_at lw_m6 29 rfl
theorem q1286 : (Jvm.Cond.instanceMethod ({ cls := "TowerTellModel", name := "isKnown", desc := "(I)Z" } : Jvm.MethodName)) ∈ lw_all := lw_g (lw_at lw_m6 30 rfl) rfl
theorem q1287 : (Jvm.Cond.code ({ cls := "TowerTellModel", name := "isKnown", desc := "(I)Z" } : Jvm.MethodName) prog_15_method_25_code (4 : Nat) (Option.some Jvm.ClassFile.FieldType.boolean)) ∈ lw_all := lw_g (lw_at lw_m6 31 rfl) rfl
theorem q1289 : (Jvm.Cond.instanceMethod ({ cls := "TowerTellModel", name := "hush", desc := "(I)I" } : Jvm.MethodName)) ∈ lw_all := lw_g (lw_at lw_m6 33 rfl) rfl
theorem q1290 : (Jvm.Cond.selects "TowerTellModel" ({ cls := "TowerTellModel", name := "hush", desc := "(I)I" } : Jvm.MethodName) ({ cls := "TowerTellModel", name := "hush", desc := "(I)I" } : Jvm.MethodName)) ∈ lw_all := lw_g (lw_at lw_m6 34 rfl) rfl
theorem q1291 : (Jvm.Cond.code ({ cls := "TowerTellModel", name := "hush", desc := "(I)I" } : Jvm.MethodName) prog_15_method_28_code (3 : Nat) (Option.some Jvm.ClassFile.FieldType.int)) ∈ lw_all := lw_g (lw_at lw_m6 35 rfl) rfl
theorem q1293 : (Jvm.Cond.instanceMethod ({ cls := "TowerTellModel", name := "landing", desc := "(I)I" } : Jvm.MethodName)) ∈ lw_all := lw_g (lw_at lw_m6 37 rfl) rfl
theorem q1294 : (Jvm.Cond.selects "TowerTellModel" ({ cls := "TowerTellModel", name := "landing", desc := "(I)I" } : Jvm.MethodName) ({ cls := "TowerTellModel", name := "landing", desc := "(I)I" } : Jvm.MethodName)) ∈ lw_all := lw_g (lw_at lw_m6 38 rfl) rfl
theorem q1295 : (Jvm.Cond.code ({ cls := "TowerTellModel", name := "landing", desc := "(I)I" } : Jvm.MethodName) prog_15_method_29_code (4 : Nat) (Option.some Jvm.ClassFile.FieldType.int)) ∈ lw_all := lw_g (lw_at lw_m6 39 rfl) rfl
theorem q1297 : (Jvm.Cond.instanceMethod ({ cls := "TowerTellModel", name := "days", desc := "(IIIII)I" } : Jvm.MethodName)) ∈ lw_all := lw_g (lw_at lw_m6 41 rfl) rfl
theorem q1298 : (Jvm.Cond.selects "TowerTellModel" ({ cls := "TowerTellModel", name := "days", desc := "(IIIII)I" } : Jvm.MethodName) ({ cls := "TowerTellModel", name := "days", desc := "(IIIII)I" } : Jvm.MethodName)) ∈ lw_all := lw_g (lw_at lw_m6 42 rfl) rfl
theorem q1299 : (Jvm.Cond.code ({ cls := "TowerTellModel", name := "days", desc := "(IIIII)I" } : Jvm.MethodName) prog_15_method_33_code (8 : Nat) (Option.some Jvm.ClassFile.FieldType.int)) ∈ lw_all := lw_g (lw_at lw_m6 43 rfl) rfl
theorem q1300 : (Jvm.Cond.methodLink "TowerTellModel" (146 : Nat) ({ cls := "TowerTellModel", name := "isRow", desc := "(II)Z" } : Jvm.MethodName)) ∈ lw_all := lw_g (lw_at lw_m6 44 rfl) rfl
theorem q1301 : (Jvm.Cond.static ({ cls := "TowerTellModel", name := "isRow", desc := "(II)Z" } : Jvm.MethodName)) ∈ lw_all := lw_g (lw_at lw_m6 45 rfl) rfl
theorem q1302 : (Jvm.Cond.code ({ cls := "TowerTellModel", name := "isRow", desc := "(II)Z" } : Jvm.MethodName) prog_15_method_30_code (2 : Nat) (Option.some Jvm.ClassFile.FieldType.boolean)) ∈ lw_all := lw_g (lw_at lw_m6 46 rfl) rfl
theorem q1303 : (Jvm.Cond.methodLink "TowerTellModel" (149 : Nat) ({ cls := "TowerTellModel", name := "layDays", desc := "(IIII)I" } : Jvm.MethodName)) ∈ lw_all := lw_g (lw_at lw_m6 47 rfl) rfl
theorem q1304 : (Jvm.Cond.privateMethod ({ cls := "TowerTellModel", name := "layDays", desc := "(IIII)I" } : Jvm.MethodName)) ∈ lw_tbl := lw_at lw_m6 48 rfl
theorem q1305 : (Jvm.Cond.instanceMethod ({ cls := "TowerTellModel", name := "layDays", desc := "(IIII)I" } : Jvm.MethodName)) ∈ lw_all := lw_g (lw_at lw_m6 49 rfl) rfl
theorem q1306 : (Jvm.Cond.code ({ cls := "TowerTellModel", name := "layDays", desc := "(IIII)I" } : Jvm.MethodName) prog_15_method_31_code (7 : Nat) (Option.some Jvm.ClassFile.FieldType.int)) ∈ lw_all := lw_g (lw_at lw_m6 50 rfl) rfl
theorem q1307 : (Jvm.Cond.methodLink "TowerTellModel" (152 : Nat) ({ cls := "TowerTellModel", name := "goDays", desc := "()I" } : Jvm.MethodName)) ∈ lw_all := lw_g (lw_at lw_m6 51 rfl) rfl
theorem q1308 : (Jvm.Cond.privateMethod ({ cls := "TowerTellModel", name := "goDays", desc := "()I" } : Jvm.MethodName)) ∈ lw_tbl := lw_at lw_m6 52 rfl
theorem q1309 : (Jvm.Cond.instanceMethod ({ cls := "TowerTellModel", name := "goDays", desc := "()I" } : Jvm.MethodName)) ∈ lw_all := lw_g (lw_at lw_m6 53 rfl) rfl
theorem q1310 : (Jvm.Cond.code ({ cls := "TowerTellModel", name := "goDays", desc := "()I" } : Jvm.MethodName) prog_15_method_32_code (2 : Nat) (Option.some Jvm.ClassFile.FieldType.int)) ∈ lw_all := lw_g (lw_at lw_m6 54 rfl) rfl
theorem q1311 : (Jvm.Cond.methodLink "TowerTellModel" (156 : Nat) ({ cls := "TowerTellModel", name := "tellDays", desc := "(I)I" } : Jvm.MethodName)) ∈ lw_all := lw_g (lw_at lw_m6 55 rfl) rfl
theorem q1312 : (Jvm.Cond.privateMethod ({ cls := "TowerTellModel", name := "tellDays", desc := "(I)I" } : Jvm.MethodName)) ∈ lw_tbl := lw_at lw_m6 56 rfl
theorem q1313 : (Jvm.Cond.instanceMethod ({ cls := "TowerTellModel", name := "tellDays", desc := "(I)I" } : Jvm.MethodName)) ∈ lw_all := lw_g (lw_at lw_m6 57 rfl) rfl
theorem q1314 : (Jvm.Cond.code ({ cls := "TowerTellModel", name := "tellDays", desc := "(I)I" } : Jvm.MethodName) prog_15_method_34_code (5 : Nat) (Option.some Jvm.ClassFile.FieldType.int)) ∈ lw_all := lw_g (lw_at lw_m6 58 rfl) rfl
theorem q1316 : (Jvm.Cond.instanceMethod ({ cls := "TowerTellModel", name := "way", desc := "(II)I" } : Jvm.MethodName)) ∈ lw_all := lw_g (lw_at lw_m6 60 rfl) rfl
theorem q1317 : (Jvm.Cond.selects "TowerTellModel" ({ cls := "TowerTellModel", name := "way", desc := "(II)I" } : Jvm.MethodName) ({ cls := "TowerTellModel", name := "way", desc := "(II)I" } : Jvm.MethodName)) ∈ lw_all := lw_g (lw_at lw_m6 61 rfl) rfl
theorem q1318 : (Jvm.Cond.code ({ cls := "TowerTellModel", name := "way", desc := "(II)I" } : Jvm.MethodName) prog_15_method_37_code (5 : Nat) (Option.some Jvm.ClassFile.FieldType.int)) ∈ lw_all := lw_g (lw_at lw_m6 62 rfl) rfl
theorem q1319 : (Jvm.Cond.methodLink "TowerTellModel" (159 : Nat) ({ cls := "TowerTellModel", name := "isTruths", desc := "(II)Z" } : Jvm.MethodName)) ∈ lw_all := lw_g (lw_at lw_m6 63 rfl) rfl
theorem q1320 : (Jvm.Cond.privateMethod ({ cls := "TowerTellModel", name := "isTruths", desc := "(II)Z" } : Jvm.MethodName)) ∈ lw_tbl := lw_at lw_m6 64 rfl
theorem q1321 : (Jvm.Cond.instanceMethod ({ cls := "TowerTellModel", name := "isTruths", desc := "(II)Z" } : Jvm.MethodName)) ∈ lw_all := lw_g (lw_at lw_m6 65 rfl) rfl
theorem q1322 : (Jvm.Cond.code ({ cls := "TowerTellModel", name := "isTruths", desc := "(II)Z" } : Jvm.MethodName) prog_15_method_36_code (3 : Nat) (Option.some Jvm.ClassFile.FieldType.boolean)) ∈ lw_all := lw_g (lw_at lw_m6 66 rfl) rfl
theorem q1323 : (Jvm.Cond.methodLink "TowerTellModel" (162 : Nat) ({ cls := "TowerTellModel", name := "size", desc := "(I)I" } : Jvm.MethodName)) ∈ lw_all := lw_g (lw_at lw_m6 67 rfl) rfl
theorem q1324 : (Jvm.Cond.static ({ cls := "TowerTellModel", name := "size", desc := "(I)I" } : Jvm.MethodName)) ∈ lw_all := lw_g (lw_at lw_m6 68 rfl) rfl
theorem q1325 : (Jvm.Cond.code ({ cls := "TowerTellModel", name := "size", desc := "(I)I" } : Jvm.MethodName) prog_15_method_35_code (3 : Nat) (Option.some Jvm.ClassFile.FieldType.int)) ∈ lw_all := lw_g (lw_at lw_m6 69 rfl) rfl
theorem q1327 : (Jvm.Cond.instanceMethod ({ cls := "TowerTellModel", name := "kept", desc := "(II)I" } : Jvm.MethodName)) ∈ lw_all := lw_g (lw_at lw_m6 71 rfl) rfl
theorem q1328 : (Jvm.Cond.selects "TowerTellModel" ({ cls := "TowerTellModel", name := "kept", desc := "(II)I" } : Jvm.MethodName) ({ cls := "TowerTellModel", name := "kept", desc := "(II)I" } : Jvm.MethodName)) ∈ lw_all := lw_g (lw_at lw_m6 72 rfl) rfl
theorem q1329 : (Jvm.Cond.code ({ cls := "TowerTellModel", name := "kept", desc := "(II)I" } : Jvm.MethodName) prog_15_method_38_code (5 : Nat) (Option.some Jvm.ClassFile.FieldType.int)) ∈ lw_all := lw_g (lw_at lw_m6 73 rfl) rfl
theorem q1331 : (Jvm.Cond.instanceMethod ({ cls := "TowerTellModel", name := "roof", desc := "(I)I" } : Jvm.MethodName)) ∈ lw_all := lw_g (lw_at lw_m6 75 rfl) rfl
theorem q1332 : (Jvm.Cond.selects "TowerTellModel" ({ cls := "TowerTellModel", name := "roof", desc := "(I)I" } : Jvm.MethodName) ({ cls := "TowerTellModel", name := "roof", desc := "(I)I" } : Jvm.MethodName)) ∈ lw_all := lw_g (lw_at lw_m6 76 rfl) rfl
theorem q1333 : (Jvm.Cond.code ({ cls := "TowerTellModel", name := "roof", desc := "(I)I" } : Jvm.MethodName) prog_15_method_39_code (2 : Nat) (Option.some Jvm.ClassFile.FieldType.int)) ∈ lw_all := lw_g (lw_at lw_m6 77 rfl) rfl
theorem q1335 : (Jvm.Cond.instanceMethod ({ cls := "TowerTellModel", name := "safe", desc := "(I)I" } : Jvm.MethodName)) ∈ lw_all := lw_g (lw_at lw_m6 79 rfl) rfl
theorem q1336 : (Jvm.Cond.selects "TowerTellModel" ({ cls := "TowerTellModel", name := "safe", desc := "(I)I" } : Jvm.MethodName) ({ cls := "TowerTellModel", name := "safe", desc := "(I)I" } : Jvm.MethodName)) ∈ lw_all := lw_g (lw_at lw_m6 80 rfl) rfl
theorem q1337 : (Jvm.Cond.code ({ cls := "TowerTellModel", name := "safe", desc := "(I)I" } : Jvm.MethodName) prog_15_method_40_code (3 : Nat) (Option.some Jvm.ClassFile.FieldType.int)) ∈ lw_all := lw_g (lw_at lw_m6 81 rfl) rfl
theorem q1339 : (Jvm.Cond.instanceMethod ({ cls := "TowerTellModel", name := "reading", desc := "(II)I" } : Jvm.MethodName)) ∈ lw_all := lw_g (lw_at lw_m6 83 rfl) rfl
theorem q1340 : (Jvm.Cond.selects "TowerTellModel" ({ cls := "TowerTellModel", name := "reading", desc := "(II)I" } : Jvm.MethodName) ({ cls := "TowerTellModel", name := "reading", desc := "(II)I" } : Jvm.MethodName)) ∈ lw_all := lw_g (lw_at lw_m6 84 rfl) rfl
theorem q1341 : (Jvm.Cond.code ({ cls := "TowerTellModel", name := "reading", desc := "(II)I" } : Jvm.MethodName) prog_15_method_41_code (3 : Nat) (Option.some Jvm.ClassFile.FieldType.int)) ∈ lw_all := lw_g (lw_at lw_m6 85 rfl) rfl
theorem q1343 : (Jvm.Cond.instanceMethod ({ cls := "TowerTellModel", name := "back", desc := "(I)I" } : Jvm.MethodName)) ∈ lw_all := lw_g (lw_at lw_m6 87 rfl) rfl
theorem q1344 : (Jvm.Cond.selects "TowerTellModel" ({ cls := "TowerTellModel", name := "back", desc := "(I)I" } : Jvm.MethodName) ({ cls := "TowerTellModel", name := "back", desc := "(I)I" } : Jvm.MethodName)) ∈ lw_all := lw_g (lw_at lw_m6 88 rfl) rfl
theorem q1345 : (Jvm.Cond.code ({ cls := "TowerTellModel", name := "back", desc := "(I)I" } : Jvm.MethodName) prog_15_method_42_code (2 : Nat) (Option.some Jvm.ClassFile.FieldType.int)) ∈ lw_all := lw_g (lw_at lw_m6 89 rfl) rfl
theorem q1347 : (Jvm.Cond.instanceMethod ({ cls := "TowerTellModel", name := "weights", desc := "(IIIII)I" } : Jvm.MethodName)) ∈ lw_all := lw_g (lw_at lw_m6 91 rfl) rfl
theorem q1348 : (Jvm.Cond.selects "TowerTellModel" ({ cls := "TowerTellModel", name := "weights", desc := "(IIIII)I" } : Jvm.MethodName) ({ cls := "TowerTellModel", name := "weights", desc := "(IIIII)I" } : Jvm.MethodName)) ∈ lw_all := lw_g (lw_at lw_m6 92 rfl) rfl
theorem q1349 : (Jvm.Cond.code ({ cls := "TowerTellModel", name := "weights", desc := "(IIIII)I" } : Jvm.MethodName) prog_15_method_45_code (10 : Nat) (Option.some Jvm.ClassFile.FieldType.int)) ∈ lw_all := lw_g (lw_at lw_m6 93 rfl) rfl
theorem q1350 : (Jvm.Cond.methodLink "TowerTellModel" (165 : Nat) ({ cls := "TowerTellModel", name := "lay", desc := "(ZIIII)I" } : Jvm.MethodName)) ∈ lw_all := lw_g (lw_at lw_m6 94 rfl) rfl
theorem q1351 : (Jvm.Cond.privateMethod ({ cls := "TowerTellModel", name := "lay", desc := "(ZIIII)I" } : Jvm.MethodName)) ∈ lw_tbl := lw_at lw_m6 95 rfl
theorem q1352 : (Jvm.Cond.instanceMethod ({ cls := "TowerTellModel", name := "lay", desc := "(ZIIII)I" } : Jvm.MethodName)) ∈ lw_all := lw_g (lw_at lw_m6 96 rfl) rfl
theorem q1353 : (Jvm.Cond.code ({ cls := "TowerTellModel", name := "lay", desc := "(ZIIII)I" } : Jvm.MethodName) prog_15_method_44_code (6 : Nat) (Option.some Jvm.ClassFile.FieldType.int)) ∈ lw_all := lw_g (lw_at lw_m6 97 rfl) rfl
theorem q1354 : (Jvm.Cond.methodLink "TowerTellModel" (169 : Nat) ({ cls := "TowerTellModel", name := "areSo", desc := "()Z" } : Jvm.MethodName)) ∈ lw_all := lw_g (lw_at lw_m6 98 rfl) rfl
theorem q1355 : (Jvm.Cond.privateMethod ({ cls := "TowerTellModel", name := "areSo", desc := "()Z" } : Jvm.MethodName)) ∈ lw_tbl := lw_at lw_m6 99 rfl
theorem q1356 : (Jvm.Cond.instanceMethod ({ cls := "TowerTellModel", name := "areSo", desc := "()Z" } : Jvm.MethodName)) ∈ lw_all := lw_g (lw_at lw_m6 100 rfl) rfl
theorem q1357 : (Jvm.Cond.code ({ cls := "TowerTellModel", name := "areSo", desc := "()Z" } : Jvm.MethodName) prog_15_method_43_code (2 : Nat) (Option.some Jvm.ClassFile.FieldType.boolean)) ∈ lw_all := lw_g (lw_at lw_m6 101 rfl) rfl
theorem q1359 : (Jvm.Cond.instanceMethod ({ cls := "TowerTellModel", name := "kinds", desc := "(IIIII)I" } : Jvm.MethodName)) ∈ lw_all := lw_g (lw_at lw_m6 103 rfl) rfl
theorem q1360 : (Jvm.Cond.selects "TowerTellModel" ({ cls := "TowerTellModel", name := "kinds", desc := "(IIIII)I" } : Jvm.MethodName) ({ cls := "TowerTellModel", name := "kinds", desc := "(IIIII)I" } : Jvm.MethodName)) ∈ lw_all := lw_g (lw_at lw_m6 104 rfl) rfl
theorem q1361 : (Jvm.Cond.code ({ cls := "TowerTellModel", name := "kinds", desc := "(IIIII)I" } : Jvm.MethodName) prog_15_method_46_code (10 : Nat) (Option.some Jvm.ClassFile.FieldType.int)) ∈ lw_all := lw_g (lw_at lw_m6 105 rfl) rfl
theorem q1363 : (Jvm.Cond.instanceMethod ({ cls := "TowerTellModel", name := "knew", desc := "(IIIII)I" } : Jvm.MethodName)) ∈ lw_all := lw_g (lw_at lw_m6 107 rfl) rfl
theorem q1364 : (Jvm.Cond.selects "TowerTellModel" ({ cls := "TowerTellModel", name := "knew", desc := "(IIIII)I" } : Jvm.MethodName) ({ cls := "TowerTellModel", name := "knew", desc := "(IIIII)I" } : Jvm.MethodName)) ∈ lw_all := lw_g (lw_at lw_m6 108 rfl) rfl
theorem q1365 : (Jvm.Cond.code ({ cls := "TowerTellModel", name := "knew", desc := "(IIIII)I" } : Jvm.MethodName) prog_15_method_47_code (10 : Nat) (Option.some Jvm.ClassFile.FieldType.int)) ∈ lw_all := lw_g (lw_at lw_m6 109 rfl) rfl
theorem q1367 : (Jvm.Cond.instanceMethod ({ cls := "TowerTellModel", name := "odds", desc := "(III)J" } : Jvm.MethodName)) ∈ lw_all := lw_g (lw_at lw_m6 111 rfl) rfl
theorem q1368 : (Jvm.Cond.selects "TowerTellModel" ({ cls := "TowerTellModel", name := "odds", desc := "(III)J" } : Jvm.MethodName) ({ cls := "TowerTellModel", name := "odds", desc := "(III)J" } : Jvm.MethodName)) ∈ lw_all := lw_g (lw_at lw_m6 112 rfl) rfl
theorem q1369 : (Jvm.Cond.code ({ cls := "TowerTellModel", name := "odds", desc := "(III)J" } : Jvm.MethodName) prog_15_method_49_code (6 : Nat) (Option.some Jvm.ClassFile.FieldType.long)) ∈ lw_all := lw_g (lw_at lw_m6 113 rfl) rfl
theorem q1370 : (Jvm.Cond.constantLong "TowerTellModel" (59 : Nat) (-9223372036854775808 : Int64)) ∈ lw_all := lw_g (lw_at lw_m6 114 rfl) rfl
theorem q1371 : (Jvm.Cond.methodLink "TowerTellModel" (173 : Nat) ({ cls := "TowerTellModel", name := "inLeastTerms", desc := "(JJI)J" } : Jvm.MethodName)) ∈ lw_all := lw_g (lw_at lw_m6 115 rfl) rfl
theorem q1372 : (Jvm.Cond.static ({ cls := "TowerTellModel", name := "inLeastTerms", desc := "(JJI)J" } : Jvm.MethodName)) ∈ lw_all := lw_g (lw_at lw_m6 116 rfl) rfl
theorem q1373 : (Jvm.Cond.code ({ cls := "TowerTellModel", name := "inLeastTerms", desc := "(JJI)J" } : Jvm.MethodName) prog_15_method_48_code (11 : Nat) (Option.some Jvm.ClassFile.FieldType.long)) ∈ lw_all := lw_g (lw_at lw_m6 117 rfl) rfl
theorem q1375 : (Jvm.Cond.instanceMethod ({ cls := "TowerTellModel", name := "sheet", desc := "(III)I" } : Jvm.MethodName)) ∈ lw_all := lw_g (lw_at lw_m6 119 rfl) rfl
theorem q1376 : (Jvm.Cond.selects "TowerTellModel" ({ cls := "TowerTellModel", name := "sheet", desc := "(III)I" } : Jvm.MethodName) ({ cls := "TowerTellModel", name := "sheet", desc := "(III)I" } : Jvm.MethodName)) ∈ lw_all := lw_g (lw_at lw_m6 120 rfl) rfl
theorem q1377 : (Jvm.Cond.code ({ cls := "TowerTellModel", name := "sheet", desc := "(III)I" } : Jvm.MethodName) prog_15_method_50_code (5 : Nat) (Option.some Jvm.ClassFile.FieldType.int)) ∈ lw_all := lw_g (lw_at lw_m6 121 rfl) rfl
theorem q1379 : (Jvm.Cond.instanceMethod ({ cls := "TowerTellModel", name := "lose", desc := "(I)I" } : Jvm.MethodName)) ∈ lw_all := lw_g (lw_at lw_m6 123 rfl) rfl
theorem q1380 : (Jvm.Cond.selects "TowerTellModel" ({ cls := "TowerTellModel", name := "lose", desc := "(I)I" } : Jvm.MethodName) ({ cls := "TowerTellModel", name := "lose", desc := "(I)I" } : Jvm.MethodName)) ∈ lw_all := lw_g (lw_at lw_m6 124 rfl) rfl
theorem q1381 : (Jvm.Cond.code ({ cls := "TowerTellModel", name := "lose", desc := "(I)I" } : Jvm.MethodName) prog_15_method_51_code (3 : Nat) (Option.some Jvm.ClassFile.FieldType.int)) ∈ lw_all := lw_g (lw_at lw_m6 125 rfl) rfl
theorem q1383 : (Jvm.Cond.instanceMethod ({ cls := "TowerTellModel", name := "put", desc := "(III)I" } : Jvm.MethodName)) ∈ lw_all := lw_g (lw_at lw_m6 127 rfl) rfl
theorem q1384 : (Jvm.Cond.selects "TowerTellModel" ({ cls := "TowerTellModel", name := "put", desc := "(III)I" } : Jvm.MethodName) ({ cls := "TowerTellModel", name := "put", desc := "(III)I" } : Jvm.MethodName)) ∈ lw_all := lw_g (lw_at lw_m6 128 rfl) rfl
theorem q1385 : (Jvm.Cond.code ({ cls := "TowerTellModel", name := "put", desc := "(III)I" } : Jvm.MethodName) prog_15_method_52_code (4 : Nat) (Option.some Jvm.ClassFile.FieldType.int)) ∈ lw_all := lw_g (lw_at lw_m6 129 rfl) rfl
theorem q1387 : (Jvm.Cond.instanceMethod ({ cls := "TowerTellModel", name := "cell", desc := "(III)J" } : Jvm.MethodName)) ∈ lw_all := lw_g (lw_at lw_m6 131 rfl) rfl
theorem q1388 : (Jvm.Cond.selects "TowerTellModel" ({ cls := "TowerTellModel", name := "cell", desc := "(III)J" } : Jvm.MethodName) ({ cls := "TowerTellModel", name := "cell", desc := "(III)J" } : Jvm.MethodName)) ∈ lw_all := lw_g (lw_at lw_m6 132 rfl) rfl
theorem q1389 : (Jvm.Cond.code ({ cls := "TowerTellModel", name := "cell", desc := "(III)J" } : Jvm.MethodName) prog_15_method_53_code (4 : Nat) (Option.some Jvm.ClassFile.FieldType.long)) ∈ lw_all := lw_g (lw_at lw_m6 133 rfl) rfl
theorem q1390 : (Jvm.Cond.methodLink "TowerTellModel" (177 : Nat) ({ cls := "TowerTellModel", name := "lost", desc := "(I)J" } : Jvm.MethodName)) ∈ lw_all := lw_g (lw_at lw_m6 134 rfl) rfl
theorem q1391 : (Jvm.Cond.privateMethod ({ cls := "TowerTellModel", name := "lost", desc := "(I)J" } : Jvm.MethodName)) ∈ lw_tbl := lw_at lw_m6 135 rfl
theorem q1392 : (Jvm.Cond.instanceMethod ({ cls := "TowerTellModel", name := "lost", desc := "(I)J" } : Jvm.MethodName)) ∈ lw_all := lw_g (lw_at lw_m6 136 rfl) rfl
theorem q1393 : (Jvm.Cond.code ({ cls := "TowerTellModel", name := "lost", desc := "(I)J" } : Jvm.MethodName) prog_15_method_4_code (2 : Nat) (Option.some Jvm.ClassFile.FieldType.long)) ∈ lw_all := lw_g (lw_at lw_m6 137 rfl) rfl
theorem q1395 : (Jvm.Cond.instanceMethod ({ cls := "TowerTellModel", name := "copy", desc := "(IIIII)I" } : Jvm.MethodName)) ∈ lw_all := lw_g (lw_at lw_m6 139 rfl) rfl
theorem q1396 : (Jvm.Cond.selects "TowerTellModel" ({ cls := "TowerTellModel", name := "copy", desc := "(IIIII)I" } : Jvm.MethodName) ({ cls := "TowerTellModel", name := "copy", desc := "(IIIII)I" } : Jvm.MethodName)) ∈ lw_all := lw_g (lw_at lw_m6 140 rfl) rfl
theorem q1397 : (Jvm.Cond.code ({ cls := "TowerTellModel", name := "copy", desc := "(IIIII)I" } : Jvm.MethodName) prog_15_method_54_code (10 : Nat) (Option.some Jvm.ClassFile.FieldType.int)) ∈ lw_all := lw_g (lw_at lw_m6 141 rfl) rfl
theorem q1399 : (Jvm.Cond.instanceMethod ({ cls := "TowerTellModel", name := "tell", desc := "(I)I" } : Jvm.MethodName)) ∈ lw_all := lw_g (lw_at lw_m6 143 rfl) rfl
theorem q1400 : (Jvm.Cond.selects "TowerTellModel" ({ cls := "TowerTellModel", name := "tell", desc := "(I)I" } : Jvm.MethodName) ({ cls := "TowerTellModel", name := "tell", desc := "(I)I" } : Jvm.MethodName)) ∈ lw_all := lw_g (lw_at lw_m6 144 rfl) rfl
theorem q1401 : (Jvm.Cond.code ({ cls := "TowerTellModel", name := "tell", desc := "(I)I" } : Jvm.MethodName) prog_15_method_56_code (3 : Nat) (Option.some Jvm.ClassFile.FieldType.int)) ∈ lw_all := lw_g (lw_at lw_m6 145 rfl) rfl
theorem q1402 : (Jvm.Cond.methodLink "TowerTellModel" (184 : Nat) ({ cls := "TowerTellModel", name := "begins", desc := "(I)V" } : Jvm.MethodName)) ∈ lw_all := lw_g (lw_at lw_m6 146 rfl) rfl
theorem q1403 : (Jvm.Cond.privateMethod ({ cls := "TowerTellModel", name := "begins", desc := "(I)V" } : Jvm.MethodName)) ∈ lw_tbl := lw_at lw_m6 147 rfl
theorem q1404 : (Jvm.Cond.instanceMethod ({ cls := "TowerTellModel", name := "begins", desc := "(I)V" } : Jvm.MethodName)) ∈ lw_all := lw_g (lw_at lw_m6 148 rfl) rfl
theorem q1405 : (Jvm.Cond.code ({ cls := "TowerTellModel", name := "begins", desc := "(I)V" } : Jvm.MethodName) prog_15_method_55_code (2 : Nat) (Option.none : Option Jvm.ClassFile.FieldType)) ∈ lw_all := lw_g (lw_at lw_m6 149 rfl) rfl
theorem q1407 : (Jvm.Cond.instanceMethod ({ cls := "TowerTellModel", name := "greet", desc := "(I)I" } : Jvm.MethodName)) ∈ lw_all := lw_g (lw_at lw_m6 151 rfl) rfl
theorem q1408 : (Jvm.Cond.selects "TowerTellModel" ({ cls := "TowerTellModel", name := "greet", desc := "(I)I" } : Jvm.MethodName) ({ cls := "TowerTellModel", name := "greet", desc := "(I)I" } : Jvm.MethodName)) ∈ lw_all := lw_g (lw_at lw_m6 152 rfl) rfl
theorem q1409 : (Jvm.Cond.code ({ cls := "TowerTellModel", name := "greet", desc := "(I)I" } : Jvm.MethodName) prog_15_method_57_code (2 : Nat) (Option.some Jvm.ClassFile.FieldType.int)) ∈ lw_all := lw_g (lw_at lw_m6 153 rfl) rfl
theorem q1411 : (Jvm.Cond.instanceMethod ({ cls := "TowerTellModel", name := "as", desc := "(II)I" } : Jvm.MethodName)) ∈ lw_all := lw_g (lw_at lw_m6 155 rfl) rfl
theorem q1412 : (Jvm.Cond.selects "TowerTellModel" ({ cls := "TowerTellModel", name := "as", desc := "(II)I" } : Jvm.MethodName) ({ cls := "TowerTellModel", name := "as", desc := "(II)I" } : Jvm.MethodName)) ∈ lw_all := lw_g (lw_at lw_m6 156 rfl) rfl
theorem q1413 : (Jvm.Cond.code ({ cls := "TowerTellModel", name := "as", desc := "(II)I" } : Jvm.MethodName) prog_15_method_58_code (3 : Nat) (Option.some Jvm.ClassFile.FieldType.int)) ∈ lw_all := lw_g (lw_at lw_m6 157 rfl) rfl
theorem q1415 : (Jvm.Cond.instanceMethod ({ cls := "TowerTellModel", name := "trace", desc := "()I" } : Jvm.MethodName)) ∈ lw_all := lw_g (lw_at lw_m6 159 rfl) rfl
theorem q1416 : (Jvm.Cond.selects "TowerTellModel" ({ cls := "TowerTellModel", name := "trace", desc := "()I" } : Jvm.MethodName) ({ cls := "TowerTellModel", name := "trace", desc := "()I" } : Jvm.MethodName)) ∈ lw_all := lw_g (lw_at lw_m6 160 rfl) rfl
theorem q1417 : (Jvm.Cond.code ({ cls := "TowerTellModel", name := "trace", desc := "()I" } : Jvm.MethodName) prog_15_method_59_code (1 : Nat) (Option.some Jvm.ClassFile.FieldType.int)) ∈ lw_all := lw_g (lw_at lw_m6 161 rfl) rfl
theorem q1419 : (Jvm.Cond.instanceMethod ({ cls := "TowerTellModel", name := "fault", desc := "()I" } : Jvm.MethodName)) ∈ lw_all := lw_g (lw_at lw_m6 163 rfl) rfl
theorem q1420 : (Jvm.Cond.selects "TowerTellModel" ({ cls := "TowerTellModel", name := "fault", desc := "()I" } : Jvm.MethodName) ({ cls := "TowerTellModel", name := "fault", desc := "()I" } : Jvm.MethodName)) ∈ lw_all := lw_g (lw_at lw_m6 164 rfl) rfl
theorem q1421 : (Jvm.Cond.code ({ cls := "TowerTellModel", name := "fault", desc := "()I" } : Jvm.MethodName) prog_15_method_60_code (1 : Nat) (Option.some Jvm.ClassFile.FieldType.int)) ∈ lw_all := lw_g (lw_at lw_m6 165 rfl) rfl
theorem q1423 : (Jvm.Cond.instanceMethod ({ cls := "TowerTellModel", name := "many", desc := "(I)I" } : Jvm.MethodName)) ∈ lw_all := lw_g (lw_at lw_m6 167 rfl) rfl
theorem q1424 : (Jvm.Cond.selects "TowerTellModel" ({ cls := "TowerTellModel", name := "many", desc := "(I)I" } : Jvm.MethodName) ({ cls := "TowerTellModel", name := "many", desc := "(I)I" } : Jvm.MethodName)) ∈ lw_all := lw_g (lw_at lw_m6 168 rfl) rfl
theorem q1425 : (Jvm.Cond.code ({ cls := "TowerTellModel", name := "many", desc := "(I)I" } : Jvm.MethodName) prog_15_method_61_code (2 : Nat) (Option.some Jvm.ClassFile.FieldType.int)) ∈ lw_all := lw_g (lw_at lw_m6 169 rfl) rfl
theorem q1442 : (Jvm.Cond.castable "TowerTellModel" "java/lang/Object") ∈ lw_tbl := lw_at lw_m6 186 rfl
theorem in_X1 : ∀ w ∈ wsX10, w ∈ lw_all := lw_in wsX10 [1144, 1146, 1148, 1150, 1152, 1154, 1156, 1158, 1160, 1162, 1164, 1166, 1168, 1170, 1172, 1174, 1176, 1178, 1180, 1182, 1184, 1186, 1188, 1190, 1192] (by decide +kernel) (by decide +kernel)
