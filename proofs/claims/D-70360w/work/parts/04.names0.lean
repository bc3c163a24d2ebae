/-! TowerTell -/
set_option maxRecDepth 100000
def RX0 : String := "TowerTell"
def TX0 : u_T := fun k => match k with
  | 0 => ("TowerTell", "trace", "I", false)
  | 1 => ("TowerTell", "deeds", "I", false)
  | 2 => ("TowerTell", "weightOf", "[I", true)
  | 3 => ("TowerTell", "people", "Ljava/util/List;", true)
  | 4 => ("TowerTell", "toldBy", "[I", true)
  | 5 => ("TowerTell", "keptBy", "[I", true)
  | 6 => ("TowerTell", "caughtNow", "I", false)
  | 7 => ("TowerTell", "firstWrong", "I", false)
  | 8 => ("TowerTell", "readings", "Ljava/util/List;", true)
  | 9 => ("TowerTell", "fault", "I", false)
  | 10 => ("TowerTell", "sheets", "[LTowerTell$Sheet;", true)
  | _ => ("TowerTell", "rowNow", "[I", false)
def tyX0 : Nat → FieldType := fun k => match k with
  | 0 => .int
  | 1 => .int
  | 2 => .array .int
  | 3 => .object "java/util/List"
  | 4 => .array .int
  | 5 => .array .int
  | 6 => .int
  | 7 => .int
  | 8 => .object "java/util/List"
  | 9 => .int
  | 10 => .array (.object "TowerTell$Sheet")
  | _ => .array .int
abbrev wsX00 : List Cond := u_ws RX0 TX0 12
theorem nmX0 : ∀ a, a < 12 → ∀ b, b < 12 → a ≠ b → (TX0 a).2.1 ≠ (TX0 b).2.1 := by decide +kernel
theorem tyX0_ok : ∀ k, k < 12 → parseFieldDescriptor (TX0 k).2.2.1 = some (tyX0 k) := by decide +kernel
abbrev cX0_init : ByteArray := prog_1_method_3_code
def yX0_init : MethodName := ⟨RX0, "<init>", "()V"⟩
def dkwX0_init_2 : List UInt8 := [42, 7, 189, 0, 31, 181, 0, 33, 177]
abbrev dktX0_init_2 : List UInt8 := dkwX0_init_2 ++ []
def dkwX0_init_1 : List UInt8 := [7, 188, 10, 181, 0, 22, 42, 7, 188, 10, 181, 0, 25, 42, 187, 0, 15, 89, 183, 0, 17, 181, 0, 28]
abbrev dktX0_init_1 : List UInt8 := dkwX0_init_1 ++ dktX0_init_2
def dkwX0_init_0 : List UInt8 := [42, 183, 0, 3, 42, 16, 6, 188, 10, 181, 0, 11, 42, 187, 0, 15, 89, 183, 0, 17, 181, 0, 18, 42]
abbrev dktX0_init_0 : List UInt8 := dkwX0_init_0 ++ dktX0_init_1
theorem dksX0_init_0 : cX0_init.data.toList.drop 0 = dktX0_init_0 := by decide +kernel
theorem dksX0_init_1 : cX0_init.data.toList.drop 24 = dktX0_init_1 := dk_seg dksX0_init_0 24 rfl rfl
theorem dksX0_init_2 : cX0_init.data.toList.drop 48 = dktX0_init_2 := dk_seg dksX0_init_1 24 rfl rfl
theorem dX0_init_0 : decode cX0_init 0 = .ok (.aload_n 0, 1) := dk_42 (dk_at dksX0_init_0 0 rfl rfl)
theorem dX0_init_1 : decode cX0_init 1 = .ok (.invokespecial 3, 3) := dk_183 0 3 (dk_at dksX0_init_0 1 rfl rfl)
theorem dX0_init_4 : decode cX0_init 4 = .ok (.aload_n 0, 1) := dk_42 (dk_at dksX0_init_0 4 rfl rfl)
theorem dX0_init_5 : decode cX0_init 5 = .ok (.bipush 6, 2) := dk_16 6 (dk_at dksX0_init_0 5 rfl rfl)
theorem dX0_init_7 : decode cX0_init 7 = .ok (.newarray .int, 2) := dk_188_10 (dk_at dksX0_init_0 7 rfl rfl)
theorem dX0_init_9 : decode cX0_init 9 = .ok (.putfield 11, 3) := dk_181 0 11 (dk_at dksX0_init_0 9 rfl rfl)
theorem dX0_init_12 : decode cX0_init 12 = .ok (.aload_n 0, 1) := dk_42 (dk_at dksX0_init_0 12 rfl rfl)
theorem dX0_init_13 : decode cX0_init 13 = .ok (.new 15, 3) := dk_187 0 15 (dk_at dksX0_init_0 13 rfl rfl)
theorem dX0_init_16 : decode cX0_init 16 = .ok (.dup, 1) := dk_89 (dk_at dksX0_init_0 16 rfl rfl)
theorem dX0_init_17 : decode cX0_init 17 = .ok (.invokespecial 17, 3) := dk_183 0 17 (dk_at dksX0_init_0 17 rfl rfl)
theorem dX0_init_20 : decode cX0_init 20 = .ok (.putfield 18, 3) := dk_181 0 18 (dk_at dksX0_init_0 20 rfl rfl)
theorem dX0_init_23 : decode cX0_init 23 = .ok (.aload_n 0, 1) := dk_42 (dk_at dksX0_init_0 23 rfl rfl)
theorem dX0_init_24 : decode cX0_init 24 = .ok (.iconst 4, 1) := dk_7 (dk_at dksX0_init_1 0 rfl rfl)
theorem dX0_init_25 : decode cX0_init 25 = .ok (.newarray .int, 2) := dk_188_10 (dk_at dksX0_init_1 1 rfl rfl)
theorem dX0_init_27 : decode cX0_init 27 = .ok (.putfield 22, 3) := dk_181 0 22 (dk_at dksX0_init_1 3 rfl rfl)
theorem dX0_init_30 : decode cX0_init 30 = .ok (.aload_n 0, 1) := dk_42 (dk_at dksX0_init_1 6 rfl rfl)
theorem dX0_init_31 : decode cX0_init 31 = .ok (.iconst 4, 1) := dk_7 (dk_at dksX0_init_1 7 rfl rfl)
theorem dX0_init_32 : decode cX0_init 32 = .ok (.newarray .int, 2) := dk_188_10 (dk_at dksX0_init_1 8 rfl rfl)
theorem dX0_init_34 : decode cX0_init 34 = .ok (.putfield 25, 3) := dk_181 0 25 (dk_at dksX0_init_1 10 rfl rfl)
theorem dX0_init_37 : decode cX0_init 37 = .ok (.aload_n 0, 1) := dk_42 (dk_at dksX0_init_1 13 rfl rfl)
theorem dX0_init_38 : decode cX0_init 38 = .ok (.new 15, 3) := dk_187 0 15 (dk_at dksX0_init_1 14 rfl rfl)
theorem dX0_init_41 : decode cX0_init 41 = .ok (.dup, 1) := dk_89 (dk_at dksX0_init_1 17 rfl rfl)
theorem dX0_init_42 : decode cX0_init 42 = .ok (.invokespecial 17, 3) := dk_183 0 17 (dk_at dksX0_init_1 18 rfl rfl)
theorem dX0_init_45 : decode cX0_init 45 = .ok (.putfield 28, 3) := dk_181 0 28 (dk_at dksX0_init_1 21 rfl rfl)
theorem dX0_init_48 : decode cX0_init 48 = .ok (.aload_n 0, 1) := dk_42 (dk_at dksX0_init_2 0 rfl rfl)
theorem dX0_init_49 : decode cX0_init 49 = .ok (.iconst 4, 1) := dk_7 (dk_at dksX0_init_2 1 rfl rfl)
theorem dX0_init_50 : decode cX0_init 50 = .ok (.anewarray 31, 3) := dk_189 0 31 (dk_at dksX0_init_2 2 rfl rfl)
theorem dX0_init_53 : decode cX0_init 53 = .ok (.putfield 33, 3) := dk_181 0 33 (dk_at dksX0_init_2 5 rfl rfl)
theorem dX0_init_56 : decode cX0_init 56 = .ok (.return_, 1) := dk_177 (dk_at dksX0_init_2 8 rfl rfl)
abbrev cX0_ofPerson : ByteArray := prog_1_method_15_code
def yX0_ofPerson : MethodName := ⟨RX0, "ofPerson", "(II)I"⟩
def dkwX0_ofPerson_4 : List UInt8 := [27, 182, 0, 125, 172, 16, 254, 172]
abbrev dktX0_ofPerson_4 : List UInt8 := dkwX0_ofPerson_4 ++ []
def dkwX0_ofPerson_3 : List UInt8 := [180, 0, 18, 27, 185, 0, 95, 2, 0, 192, 0, 37, 180, 0, 122, 172, 42, 180, 0, 22, 27, 46, 172, 42]
abbrev dktX0_ofPerson_3 : List UInt8 := dkwX0_ofPerson_3 ++ dktX0_ofPerson_4
def dkwX0_ofPerson_2 : List UInt8 := [42, 180, 0, 18, 27, 185, 0, 95, 2, 0, 192, 0, 37, 182, 0, 116, 172, 42, 27, 182, 0, 119, 172, 42]
abbrev dktX0_ofPerson_2 : List UInt8 := dkwX0_ofPerson_2 ++ dktX0_ofPerson_3
def dkwX0_ofPerson_1 : List UInt8 := [170, 0, 0, 0, 86, 0, 0, 0, 0, 0, 0, 0, 4, 0, 0, 0, 33, 0, 0, 0, 50, 0, 0, 0, 56, 0, 0, 0, 73, 0, 0, 0, 80]
abbrev dktX0_ofPerson_1 : List UInt8 := dkwX0_ofPerson_1 ++ dktX0_ofPerson_2
def dkwX0_ofPerson_0 : List UInt8 := [42, 27, 182, 0, 112, 153, 0, 5, 2, 172, 28]
abbrev dktX0_ofPerson_0 : List UInt8 := dkwX0_ofPerson_0 ++ dktX0_ofPerson_1
theorem dksX0_ofPerson_0 : cX0_ofPerson.data.toList.drop 0 = dktX0_ofPerson_0 := by decide +kernel
theorem dksX0_ofPerson_1 : cX0_ofPerson.data.toList.drop 11 = dktX0_ofPerson_1 := dk_seg dksX0_ofPerson_0 11 rfl rfl
theorem dksX0_ofPerson_2 : cX0_ofPerson.data.toList.drop 44 = dktX0_ofPerson_2 := dk_seg dksX0_ofPerson_1 33 rfl rfl
theorem dksX0_ofPerson_3 : cX0_ofPerson.data.toList.drop 68 = dktX0_ofPerson_3 := dk_seg dksX0_ofPerson_2 24 rfl rfl
theorem dksX0_ofPerson_4 : cX0_ofPerson.data.toList.drop 92 = dktX0_ofPerson_4 := dk_seg dksX0_ofPerson_3 24 rfl rfl
theorem dX0_ofPerson_0 : decode cX0_ofPerson 0 = .ok (.aload_n 0, 1) := dk_42 (dk_at dksX0_ofPerson_0 0 rfl rfl)
theorem dX0_ofPerson_1 : decode cX0_ofPerson 1 = .ok (.iload_n 1, 1) := dk_27 (dk_at dksX0_ofPerson_0 1 rfl rfl)
theorem dX0_ofPerson_2 : decode cX0_ofPerson 2 = .ok (.invokevirtual 112, 3) := dk_182 0 112 (dk_at dksX0_ofPerson_0 2 rfl rfl)
theorem dX0_ofPerson_5 : decode cX0_ofPerson 5 = .ok (.ifCond .eq 5, 3) := dk_153 0 5 (dk_at dksX0_ofPerson_0 5 rfl rfl)
theorem dX0_ofPerson_8 : decode cX0_ofPerson 8 = .ok (.iconst (-1), 1) := dk_2 (dk_at dksX0_ofPerson_0 8 rfl rfl)
theorem dX0_ofPerson_9 : decode cX0_ofPerson 9 = .ok (.ireturn, 1) := dk_172 (dk_at dksX0_ofPerson_0 9 rfl rfl)
theorem dX0_ofPerson_10 : decode cX0_ofPerson 10 = .ok (.iload_n 2, 1) := dk_28 (dk_at dksX0_ofPerson_0 10 rfl rfl)
theorem dX0_ofPerson_11 : decode cX0_ofPerson 11 = .ok (.tableswitch 86 0 4 #[33, 50, 56, 73, 80], 33) := by decide +kernel
theorem dX0_ofPerson_44 : decode cX0_ofPerson 44 = .ok (.aload_n 0, 1) := dk_42 (dk_at dksX0_ofPerson_2 0 rfl rfl)
theorem dX0_ofPerson_45 : decode cX0_ofPerson 45 = .ok (.getfield 18, 3) := dk_180 0 18 (dk_at dksX0_ofPerson_2 1 rfl rfl)
theorem dX0_ofPerson_48 : decode cX0_ofPerson 48 = .ok (.iload_n 1, 1) := dk_27 (dk_at dksX0_ofPerson_2 4 rfl rfl)
theorem dX0_ofPerson_49 : decode cX0_ofPerson 49 = .ok (.invokeinterface 95 2, 5) := by decide +kernel
theorem dX0_ofPerson_54 : decode cX0_ofPerson 54 = .ok (.checkcast 37, 3) := dk_192 0 37 (dk_at dksX0_ofPerson_2 10 rfl rfl)
theorem dX0_ofPerson_57 : decode cX0_ofPerson 57 = .ok (.invokevirtual 116, 3) := dk_182 0 116 (dk_at dksX0_ofPerson_2 13 rfl rfl)
theorem dX0_ofPerson_60 : decode cX0_ofPerson 60 = .ok (.ireturn, 1) := dk_172 (dk_at dksX0_ofPerson_2 16 rfl rfl)
theorem dX0_ofPerson_61 : decode cX0_ofPerson 61 = .ok (.aload_n 0, 1) := dk_42 (dk_at dksX0_ofPerson_2 17 rfl rfl)
theorem dX0_ofPerson_62 : decode cX0_ofPerson 62 = .ok (.iload_n 1, 1) := dk_27 (dk_at dksX0_ofPerson_2 18 rfl rfl)
theorem dX0_ofPerson_63 : decode cX0_ofPerson 63 = .ok (.invokevirtual 119, 3) := dk_182 0 119 (dk_at dksX0_ofPerson_2 19 rfl rfl)
theorem dX0_ofPerson_66 : decode cX0_ofPerson 66 = .ok (.ireturn, 1) := dk_172 (dk_at dksX0_ofPerson_2 22 rfl rfl)
theorem dX0_ofPerson_67 : decode cX0_ofPerson 67 = .ok (.aload_n 0, 1) := dk_42 (dk_at dksX0_ofPerson_2 23 rfl rfl)
theorem dX0_ofPerson_68 : decode cX0_ofPerson 68 = .ok (.getfield 18, 3) := dk_180 0 18 (dk_at dksX0_ofPerson_3 0 rfl rfl)
theorem dX0_ofPerson_71 : decode cX0_ofPerson 71 = .ok (.iload_n 1, 1) := dk_27 (dk_at dksX0_ofPerson_3 3 rfl rfl)
theorem dX0_ofPerson_72 : decode cX0_ofPerson 72 = .ok (.invokeinterface 95 2, 5) := by decide +kernel
theorem dX0_ofPerson_77 : decode cX0_ofPerson 77 = .ok (.checkcast 37, 3) := dk_192 0 37 (dk_at dksX0_ofPerson_3 9 rfl rfl)
theorem dX0_ofPerson_80 : decode cX0_ofPerson 80 = .ok (.getfield 122, 3) := dk_180 0 122 (dk_at dksX0_ofPerson_3 12 rfl rfl)
theorem dX0_ofPerson_83 : decode cX0_ofPerson 83 = .ok (.ireturn, 1) := dk_172 (dk_at dksX0_ofPerson_3 15 rfl rfl)
theorem dX0_ofPerson_84 : decode cX0_ofPerson 84 = .ok (.aload_n 0, 1) := dk_42 (dk_at dksX0_ofPerson_3 16 rfl rfl)
theorem dX0_ofPerson_85 : decode cX0_ofPerson 85 = .ok (.getfield 22, 3) := dk_180 0 22 (dk_at dksX0_ofPerson_3 17 rfl rfl)
theorem dX0_ofPerson_88 : decode cX0_ofPerson 88 = .ok (.iload_n 1, 1) := dk_27 (dk_at dksX0_ofPerson_3 20 rfl rfl)
theorem dX0_ofPerson_89 : decode cX0_ofPerson 89 = .ok (.iaload, 1) := dk_46 (dk_at dksX0_ofPerson_3 21 rfl rfl)
theorem dX0_ofPerson_90 : decode cX0_ofPerson 90 = .ok (.ireturn, 1) := dk_172 (dk_at dksX0_ofPerson_3 22 rfl rfl)
theorem dX0_ofPerson_91 : decode cX0_ofPerson 91 = .ok (.aload_n 0, 1) := dk_42 (dk_at dksX0_ofPerson_3 23 rfl rfl)
theorem dX0_ofPerson_92 : decode cX0_ofPerson 92 = .ok (.iload_n 1, 1) := dk_27 (dk_at dksX0_ofPerson_4 0 rfl rfl)
theorem dX0_ofPerson_93 : decode cX0_ofPerson 93 = .ok (.invokevirtual 125, 3) := dk_182 0 125 (dk_at dksX0_ofPerson_4 1 rfl rfl)
theorem dX0_ofPerson_96 : decode cX0_ofPerson 96 = .ok (.ireturn, 1) := dk_172 (dk_at dksX0_ofPerson_4 4 rfl rfl)
theorem dX0_ofPerson_97 : decode cX0_ofPerson 97 = .ok (.bipush (-2), 2) := dk_16 254 (dk_at dksX0_ofPerson_4 5 rfl rfl)
theorem dX0_ofPerson_99 : decode cX0_ofPerson 99 = .ok (.ireturn, 1) := dk_172 (dk_at dksX0_ofPerson_4 7 rfl rfl)
abbrev cX0_noPerson : ByteArray := prog_1_method_7_code
def yX0_noPerson : MethodName := ⟨RX0, "noPerson", "(I)Z"⟩
def dkwX0_noPerson_1 : List UInt8 := [167, 0, 4, 3, 172]
abbrev dktX0_noPerson_1 : List UInt8 := dkwX0_noPerson_1 ++ []
def dkwX0_noPerson_0 : List UInt8 := [27, 133, 9, 42, 180, 0, 18, 185, 0, 62, 1, 0, 4, 100, 133, 184, 0, 58, 154, 0, 7, 4]
abbrev dktX0_noPerson_0 : List UInt8 := dkwX0_noPerson_0 ++ dktX0_noPerson_1
theorem dksX0_noPerson_0 : cX0_noPerson.data.toList.drop 0 = dktX0_noPerson_0 := by decide +kernel
theorem dksX0_noPerson_1 : cX0_noPerson.data.toList.drop 22 = dktX0_noPerson_1 := dk_seg dksX0_noPerson_0 22 rfl rfl
theorem dX0_noPerson_0 : decode cX0_noPerson 0 = .ok (.iload_n 1, 1) := dk_27 (dk_at dksX0_noPerson_0 0 rfl rfl)
theorem dX0_noPerson_1 : decode cX0_noPerson 1 = .ok (.i2l, 1) := dk_133 (dk_at dksX0_noPerson_0 1 rfl rfl)
theorem dX0_noPerson_2 : decode cX0_noPerson 2 = .ok (.lconst 0, 1) := dk_9 (dk_at dksX0_noPerson_0 2 rfl rfl)
theorem dX0_noPerson_3 : decode cX0_noPerson 3 = .ok (.aload_n 0, 1) := dk_42 (dk_at dksX0_noPerson_0 3 rfl rfl)
theorem dX0_noPerson_4 : decode cX0_noPerson 4 = .ok (.getfield 18, 3) := dk_180 0 18 (dk_at dksX0_noPerson_0 4 rfl rfl)
theorem dX0_noPerson_7 : decode cX0_noPerson 7 = .ok (.invokeinterface 62 1, 5) := by decide +kernel
theorem dX0_noPerson_12 : decode cX0_noPerson 12 = .ok (.iconst 1, 1) := dk_4 (dk_at dksX0_noPerson_0 12 rfl rfl)
theorem dX0_noPerson_13 : decode cX0_noPerson 13 = .ok (.isub, 1) := dk_100 (dk_at dksX0_noPerson_0 13 rfl rfl)
theorem dX0_noPerson_14 : decode cX0_noPerson 14 = .ok (.i2l, 1) := dk_133 (dk_at dksX0_noPerson_0 14 rfl rfl)
theorem dX0_noPerson_15 : decode cX0_noPerson 15 = .ok (.invokestatic 58, 3) := dk_184 0 58 (dk_at dksX0_noPerson_0 15 rfl rfl)
theorem dX0_noPerson_18 : decode cX0_noPerson 18 = .ok (.ifCond .ne 7, 3) := dk_154 0 7 (dk_at dksX0_noPerson_0 18 rfl rfl)
theorem dX0_noPerson_21 : decode cX0_noPerson 21 = .ok (.iconst 1, 1) := dk_4 (dk_at dksX0_noPerson_0 21 rfl rfl)
theorem dX0_noPerson_22 : decode cX0_noPerson 22 = .ok (.goto 4, 3) := dk_167 0 4 (dk_at dksX0_noPerson_1 0 rfl rfl)
theorem dX0_noPerson_25 : decode cX0_noPerson 25 = .ok (.iconst 0, 1) := dk_3 (dk_at dksX0_noPerson_1 3 rfl rfl)
theorem dX0_noPerson_26 : decode cX0_noPerson 26 = .ok (.ireturn, 1) := dk_172 (dk_at dksX0_noPerson_1 4 rfl rfl)
abbrev cX0_in : ByteArray := prog_1_method_1_code
def yX0_in : MethodName := ⟨RX0, "in", "(JJJ)Z"⟩
def dkwX0_in_0 : List UInt8 := [30, 32, 148, 155, 0, 14, 30, 22, 4, 148, 157, 0, 7, 4, 167, 0, 4, 3, 172]
abbrev dktX0_in_0 : List UInt8 := dkwX0_in_0 ++ []
theorem dksX0_in_0 : cX0_in.data.toList.drop 0 = dktX0_in_0 := by decide +kernel
theorem dX0_in_0 : decode cX0_in 0 = .ok (.lload_n 0, 1) := dk_30 (dk_at dksX0_in_0 0 rfl rfl)
theorem dX0_in_1 : decode cX0_in 1 = .ok (.lload_n 2, 1) := dk_32 (dk_at dksX0_in_0 1 rfl rfl)
theorem dX0_in_2 : decode cX0_in 2 = .ok (.lcmp, 1) := dk_148 (dk_at dksX0_in_0 2 rfl rfl)
theorem dX0_in_3 : decode cX0_in 3 = .ok (.ifCond .lt 14, 3) := dk_155 0 14 (dk_at dksX0_in_0 3 rfl rfl)
theorem dX0_in_6 : decode cX0_in 6 = .ok (.lload_n 0, 1) := dk_30 (dk_at dksX0_in_0 6 rfl rfl)
theorem dX0_in_7 : decode cX0_in 7 = .ok (.lload 4, 2) := dk_22 4 (dk_at dksX0_in_0 7 rfl rfl)
theorem dX0_in_9 : decode cX0_in 9 = .ok (.lcmp, 1) := dk_148 (dk_at dksX0_in_0 9 rfl rfl)
theorem dX0_in_10 : decode cX0_in 10 = .ok (.ifCond .gt 7, 3) := dk_157 0 7 (dk_at dksX0_in_0 10 rfl rfl)
theorem dX0_in_13 : decode cX0_in 13 = .ok (.iconst 1, 1) := dk_4 (dk_at dksX0_in_0 13 rfl rfl)
theorem dX0_in_14 : decode cX0_in 14 = .ok (.goto 4, 3) := dk_167 0 4 (dk_at dksX0_in_0 14 rfl rfl)
theorem dX0_in_17 : decode cX0_in 17 = .ok (.iconst 0, 1) := dk_3 (dk_at dksX0_in_0 17 rfl rfl)
theorem dX0_in_18 : decode cX0_in 18 = .ok (.ireturn, 1) := dk_172 (dk_at dksX0_in_0 18 rfl rfl)
abbrev cX0_truthsOf : ByteArray := prog_1_method_12_code
def yX0_truthsOf : MethodName := ⟨RX0, "truthsOf", "(I)I"⟩
def dkwX0_truthsOf_1 : List UInt8 := [126, 172]
abbrev dktX0_truthsOf_1 : List UInt8 := dkwX0_truthsOf_1 ++ []
def dkwX0_truthsOf_0 : List UInt8 := [42, 180, 0, 18, 27, 185, 0, 95, 2, 0, 192, 0, 37, 180, 0, 99, 4, 42, 180, 0, 54, 120, 4, 100]
abbrev dktX0_truthsOf_0 : List UInt8 := dkwX0_truthsOf_0 ++ dktX0_truthsOf_1
theorem dksX0_truthsOf_0 : cX0_truthsOf.data.toList.drop 0 = dktX0_truthsOf_0 := by decide +kernel
theorem dksX0_truthsOf_1 : cX0_truthsOf.data.toList.drop 24 = dktX0_truthsOf_1 := dk_seg dksX0_truthsOf_0 24 rfl rfl
theorem dX0_truthsOf_0 : decode cX0_truthsOf 0 = .ok (.aload_n 0, 1) := dk_42 (dk_at dksX0_truthsOf_0 0 rfl rfl)
theorem dX0_truthsOf_1 : decode cX0_truthsOf 1 = .ok (.getfield 18, 3) := dk_180 0 18 (dk_at dksX0_truthsOf_0 1 rfl rfl)
theorem dX0_truthsOf_4 : decode cX0_truthsOf 4 = .ok (.iload_n 1, 1) := dk_27 (dk_at dksX0_truthsOf_0 4 rfl rfl)
theorem dX0_truthsOf_5 : decode cX0_truthsOf 5 = .ok (.invokeinterface 95 2, 5) := by decide +kernel
theorem dX0_truthsOf_10 : decode cX0_truthsOf 10 = .ok (.checkcast 37, 3) := dk_192 0 37 (dk_at dksX0_truthsOf_0 10 rfl rfl)
theorem dX0_truthsOf_13 : decode cX0_truthsOf 13 = .ok (.getfield 99, 3) := dk_180 0 99 (dk_at dksX0_truthsOf_0 13 rfl rfl)
theorem dX0_truthsOf_16 : decode cX0_truthsOf 16 = .ok (.iconst 1, 1) := dk_4 (dk_at dksX0_truthsOf_0 16 rfl rfl)
theorem dX0_truthsOf_17 : decode cX0_truthsOf 17 = .ok (.aload_n 0, 1) := dk_42 (dk_at dksX0_truthsOf_0 17 rfl rfl)
theorem dX0_truthsOf_18 : decode cX0_truthsOf 18 = .ok (.getfield 54, 3) := dk_180 0 54 (dk_at dksX0_truthsOf_0 18 rfl rfl)
theorem dX0_truthsOf_21 : decode cX0_truthsOf 21 = .ok (.ishl, 1) := dk_120 (dk_at dksX0_truthsOf_0 21 rfl rfl)
theorem dX0_truthsOf_22 : decode cX0_truthsOf 22 = .ok (.iconst 1, 1) := dk_4 (dk_at dksX0_truthsOf_0 22 rfl rfl)
theorem dX0_truthsOf_23 : decode cX0_truthsOf 23 = .ok (.isub, 1) := dk_100 (dk_at dksX0_truthsOf_0 23 rfl rfl)
theorem dX0_truthsOf_24 : decode cX0_truthsOf 24 = .ok (.iand, 1) := dk_126 (dk_at dksX0_truthsOf_1 0 rfl rfl)
theorem dX0_truthsOf_25 : decode cX0_truthsOf 25 = .ok (.ireturn, 1) := dk_172 (dk_at dksX0_truthsOf_1 1 rfl rfl)
abbrev cX0_floorOf : ByteArray := prog_1_method_14_code
def yX0_floorOf : MethodName := ⟨RX0, "floorOf", "(I)I"⟩
def dkwX0_floorOf_0 : List UInt8 := [42, 27, 42, 180, 0, 22, 27, 46, 182, 0, 108, 172]
abbrev dktX0_floorOf_0 : List UInt8 := dkwX0_floorOf_0 ++ []
theorem dksX0_floorOf_0 : cX0_floorOf.data.toList.drop 0 = dktX0_floorOf_0 := by decide +kernel
theorem dX0_floorOf_0 : decode cX0_floorOf 0 = .ok (.aload_n 0, 1) := dk_42 (dk_at dksX0_floorOf_0 0 rfl rfl)
theorem dX0_floorOf_1 : decode cX0_floorOf 1 = .ok (.iload_n 1, 1) := dk_27 (dk_at dksX0_floorOf_0 1 rfl rfl)
theorem dX0_floorOf_2 : decode cX0_floorOf 2 = .ok (.aload_n 0, 1) := dk_42 (dk_at dksX0_floorOf_0 2 rfl rfl)
theorem dX0_floorOf_3 : decode cX0_floorOf 3 = .ok (.getfield 22, 3) := dk_180 0 22 (dk_at dksX0_floorOf_0 3 rfl rfl)
theorem dX0_floorOf_6 : decode cX0_floorOf 6 = .ok (.iload_n 1, 1) := dk_27 (dk_at dksX0_floorOf_0 6 rfl rfl)
theorem dX0_floorOf_7 : decode cX0_floorOf 7 = .ok (.iaload, 1) := dk_46 (dk_at dksX0_floorOf_0 7 rfl rfl)
theorem dX0_floorOf_8 : decode cX0_floorOf 8 = .ok (.invokevirtual 108, 3) := dk_182 0 108 (dk_at dksX0_floorOf_0 8 rfl rfl)
theorem dX0_floorOf_11 : decode cX0_floorOf 11 = .ok (.ireturn, 1) := dk_172 (dk_at dksX0_floorOf_0 11 rfl rfl)
abbrev cX0_risesBy : ByteArray := prog_1_method_13_code
def yX0_risesBy : MethodName := ⟨RX0, "risesBy", "(II)I"⟩
def dkwX0_risesBy_2 : List UInt8 := [167, 0, 4, 3, 96, 62, 132, 4, 1, 167, 255, 205, 29, 172]
abbrev dktX0_risesBy_2 : List UInt8 := dkwX0_risesBy_2 ++ []
def dkwX0_risesBy_1 : List UInt8 := [42, 180, 0, 18, 27, 185, 0, 95, 2, 0, 192, 0, 37, 42, 180, 0, 11, 21, 4, 46, 182, 0, 104]
abbrev dktX0_risesBy_1 : List UInt8 := dkwX0_risesBy_1 ++ dktX0_risesBy_2
def dkwX0_risesBy_0 : List UInt8 := [3, 62, 3, 54, 4, 21, 4, 42, 180, 0, 54, 162, 0, 48, 29, 28, 21, 4, 184, 0, 100, 153, 0, 29]
abbrev dktX0_risesBy_0 : List UInt8 := dkwX0_risesBy_0 ++ dktX0_risesBy_1
theorem dksX0_risesBy_0 : cX0_risesBy.data.toList.drop 0 = dktX0_risesBy_0 := by decide +kernel
theorem dksX0_risesBy_1 : cX0_risesBy.data.toList.drop 24 = dktX0_risesBy_1 := dk_seg dksX0_risesBy_0 24 rfl rfl
theorem dksX0_risesBy_2 : cX0_risesBy.data.toList.drop 47 = dktX0_risesBy_2 := dk_seg dksX0_risesBy_1 23 rfl rfl
theorem dX0_risesBy_0 : decode cX0_risesBy 0 = .ok (.iconst 0, 1) := dk_3 (dk_at dksX0_risesBy_0 0 rfl rfl)
theorem dX0_risesBy_1 : decode cX0_risesBy 1 = .ok (.istore_n 3, 1) := dk_62 (dk_at dksX0_risesBy_0 1 rfl rfl)
theorem dX0_risesBy_2 : decode cX0_risesBy 2 = .ok (.iconst 0, 1) := dk_3 (dk_at dksX0_risesBy_0 2 rfl rfl)
theorem dX0_risesBy_3 : decode cX0_risesBy 3 = .ok (.istore 4, 2) := dk_54 4 (dk_at dksX0_risesBy_0 3 rfl rfl)
theorem dX0_risesBy_5 : decode cX0_risesBy 5 = .ok (.iload 4, 2) := dk_21 4 (dk_at dksX0_risesBy_0 5 rfl rfl)
theorem dX0_risesBy_7 : decode cX0_risesBy 7 = .ok (.aload_n 0, 1) := dk_42 (dk_at dksX0_risesBy_0 7 rfl rfl)
theorem dX0_risesBy_8 : decode cX0_risesBy 8 = .ok (.getfield 54, 3) := dk_180 0 54 (dk_at dksX0_risesBy_0 8 rfl rfl)
theorem dX0_risesBy_11 : decode cX0_risesBy 11 = .ok (.if_icmp .ge 48, 3) := dk_162 0 48 (dk_at dksX0_risesBy_0 11 rfl rfl)
theorem dX0_risesBy_14 : decode cX0_risesBy 14 = .ok (.iload_n 3, 1) := dk_29 (dk_at dksX0_risesBy_0 14 rfl rfl)
theorem dX0_risesBy_15 : decode cX0_risesBy 15 = .ok (.iload_n 2, 1) := dk_28 (dk_at dksX0_risesBy_0 15 rfl rfl)
theorem dX0_risesBy_16 : decode cX0_risesBy 16 = .ok (.iload 4, 2) := dk_21 4 (dk_at dksX0_risesBy_0 16 rfl rfl)
theorem dX0_risesBy_18 : decode cX0_risesBy 18 = .ok (.invokestatic 100, 3) := dk_184 0 100 (dk_at dksX0_risesBy_0 18 rfl rfl)
theorem dX0_risesBy_21 : decode cX0_risesBy 21 = .ok (.ifCond .eq 29, 3) := dk_153 0 29 (dk_at dksX0_risesBy_0 21 rfl rfl)
theorem dX0_risesBy_24 : decode cX0_risesBy 24 = .ok (.aload_n 0, 1) := dk_42 (dk_at dksX0_risesBy_1 0 rfl rfl)
theorem dX0_risesBy_25 : decode cX0_risesBy 25 = .ok (.getfield 18, 3) := dk_180 0 18 (dk_at dksX0_risesBy_1 1 rfl rfl)
theorem dX0_risesBy_28 : decode cX0_risesBy 28 = .ok (.iload_n 1, 1) := dk_27 (dk_at dksX0_risesBy_1 4 rfl rfl)
theorem dX0_risesBy_29 : decode cX0_risesBy 29 = .ok (.invokeinterface 95 2, 5) := by decide +kernel
theorem dX0_risesBy_34 : decode cX0_risesBy 34 = .ok (.checkcast 37, 3) := dk_192 0 37 (dk_at dksX0_risesBy_1 10 rfl rfl)
theorem dX0_risesBy_37 : decode cX0_risesBy 37 = .ok (.aload_n 0, 1) := dk_42 (dk_at dksX0_risesBy_1 13 rfl rfl)
theorem dX0_risesBy_38 : decode cX0_risesBy 38 = .ok (.getfield 11, 3) := dk_180 0 11 (dk_at dksX0_risesBy_1 14 rfl rfl)
theorem dX0_risesBy_41 : decode cX0_risesBy 41 = .ok (.iload 4, 2) := dk_21 4 (dk_at dksX0_risesBy_1 17 rfl rfl)
theorem dX0_risesBy_43 : decode cX0_risesBy 43 = .ok (.iaload, 1) := dk_46 (dk_at dksX0_risesBy_1 19 rfl rfl)
theorem dX0_risesBy_44 : decode cX0_risesBy 44 = .ok (.invokevirtual 104, 3) := dk_182 0 104 (dk_at dksX0_risesBy_1 20 rfl rfl)
theorem dX0_risesBy_47 : decode cX0_risesBy 47 = .ok (.goto 4, 3) := dk_167 0 4 (dk_at dksX0_risesBy_2 0 rfl rfl)
theorem dX0_risesBy_50 : decode cX0_risesBy 50 = .ok (.iconst 0, 1) := dk_3 (dk_at dksX0_risesBy_2 3 rfl rfl)
theorem dX0_risesBy_51 : decode cX0_risesBy 51 = .ok (.iadd, 1) := dk_96 (dk_at dksX0_risesBy_2 4 rfl rfl)
theorem dX0_risesBy_52 : decode cX0_risesBy 52 = .ok (.istore_n 3, 1) := dk_62 (dk_at dksX0_risesBy_2 5 rfl rfl)
theorem dX0_risesBy_53 : decode cX0_risesBy 53 = .ok (.iinc 4 1, 3) := dk_132 4 1 (dk_at dksX0_risesBy_2 6 rfl rfl)
theorem dX0_risesBy_56 : decode cX0_risesBy 56 = .ok (.goto (-51), 3) := dk_167 255 205 (dk_at dksX0_risesBy_2 9 rfl rfl)
theorem dX0_risesBy_59 : decode cX0_risesBy 59 = .ok (.iload_n 3, 1) := dk_29 (dk_at dksX0_risesBy_2 12 rfl rfl)
theorem dX0_risesBy_60 : decode cX0_risesBy 60 = .ok (.ireturn, 1) := dk_172 (dk_at dksX0_risesBy_2 13 rfl rfl)
abbrev cX0_isIn : ByteArray := prog_1_method_2_code
def yX0_isIn : MethodName := ⟨RX0, "isIn", "(II)Z"⟩
def dkwX0_isIn_0 : List UInt8 := [26, 27, 122, 4, 126, 4, 160, 0, 7, 4, 167, 0, 4, 3, 172]
abbrev dktX0_isIn_0 : List UInt8 := dkwX0_isIn_0 ++ []
theorem dksX0_isIn_0 : cX0_isIn.data.toList.drop 0 = dktX0_isIn_0 := by decide +kernel
theorem dX0_isIn_0 : decode cX0_isIn 0 = .ok (.iload_n 0, 1) := dk_26 (dk_at dksX0_isIn_0 0 rfl rfl)
theorem dX0_isIn_1 : decode cX0_isIn 1 = .ok (.iload_n 1, 1) := dk_27 (dk_at dksX0_isIn_0 1 rfl rfl)
theorem dX0_isIn_2 : decode cX0_isIn 2 = .ok (.ishr, 1) := dk_122 (dk_at dksX0_isIn_0 2 rfl rfl)
theorem dX0_isIn_3 : decode cX0_isIn 3 = .ok (.iconst 1, 1) := dk_4 (dk_at dksX0_isIn_0 3 rfl rfl)
theorem dX0_isIn_4 : decode cX0_isIn 4 = .ok (.iand, 1) := dk_126 (dk_at dksX0_isIn_0 4 rfl rfl)
theorem dX0_isIn_5 : decode cX0_isIn 5 = .ok (.iconst 1, 1) := dk_4 (dk_at dksX0_isIn_0 5 rfl rfl)
theorem dX0_isIn_6 : decode cX0_isIn 6 = .ok (.if_icmp .ne 7, 3) := dk_160 0 7 (dk_at dksX0_isIn_0 6 rfl rfl)
theorem dX0_isIn_9 : decode cX0_isIn 9 = .ok (.iconst 1, 1) := dk_4 (dk_at dksX0_isIn_0 9 rfl rfl)
theorem dX0_isIn_10 : decode cX0_isIn 10 = .ok (.goto 4, 3) := dk_167 0 4 (dk_at dksX0_isIn_0 10 rfl rfl)
theorem dX0_isIn_13 : decode cX0_isIn 13 = .ok (.iconst 0, 1) := dk_3 (dk_at dksX0_isIn_0 13 rfl rfl)
theorem dX0_isIn_14 : decode cX0_isIn 14 = .ok (.ireturn, 1) := dk_172 (dk_at dksX0_isIn_0 14 rfl rfl)
abbrev cX0_weight : ByteArray := prog_1_method_16_code
def yX0_weight : MethodName := ⟨RX0, "weight", "(I)I"⟩
def dkwX0_weight_0 : List UInt8 := [42, 27, 182, 0, 128, 153, 0, 7, 2, 167, 0, 9, 42, 180, 0, 11, 27, 46, 172]
abbrev dktX0_weight_0 : List UInt8 := dkwX0_weight_0 ++ []
theorem dksX0_weight_0 : cX0_weight.data.toList.drop 0 = dktX0_weight_0 := by decide +kernel
theorem dX0_weight_0 : decode cX0_weight 0 = .ok (.aload_n 0, 1) := dk_42 (dk_at dksX0_weight_0 0 rfl rfl)
theorem dX0_weight_1 : decode cX0_weight 1 = .ok (.iload_n 1, 1) := dk_27 (dk_at dksX0_weight_0 1 rfl rfl)
theorem dX0_weight_2 : decode cX0_weight 2 = .ok (.invokevirtual 128, 3) := dk_182 0 128 (dk_at dksX0_weight_0 2 rfl rfl)
theorem dX0_weight_5 : decode cX0_weight 5 = .ok (.ifCond .eq 7, 3) := dk_153 0 7 (dk_at dksX0_weight_0 5 rfl rfl)
theorem dX0_weight_8 : decode cX0_weight 8 = .ok (.iconst (-1), 1) := dk_2 (dk_at dksX0_weight_0 8 rfl rfl)
theorem dX0_weight_9 : decode cX0_weight 9 = .ok (.goto 9, 3) := dk_167 0 9 (dk_at dksX0_weight_0 9 rfl rfl)
theorem dX0_weight_12 : decode cX0_weight 12 = .ok (.aload_n 0, 1) := dk_42 (dk_at dksX0_weight_0 12 rfl rfl)
theorem dX0_weight_13 : decode cX0_weight 13 = .ok (.getfield 11, 3) := dk_180 0 11 (dk_at dksX0_weight_0 13 rfl rfl)
theorem dX0_weight_16 : decode cX0_weight 16 = .ok (.iload_n 1, 1) := dk_27 (dk_at dksX0_weight_0 16 rfl rfl)
theorem dX0_weight_17 : decode cX0_weight 17 = .ok (.iaload, 1) := dk_46 (dk_at dksX0_weight_0 17 rfl rfl)
theorem dX0_weight_18 : decode cX0_weight 18 = .ok (.ireturn, 1) := dk_172 (dk_at dksX0_weight_0 18 rfl rfl)
abbrev cX0_noDeed : ByteArray := prog_1_method_6_code
def yX0_noDeed : MethodName := ⟨RX0, "noDeed", "(I)Z"⟩
def dkwX0_noDeed_0 : List UInt8 := [27, 133, 9, 42, 180, 0, 54, 4, 100, 133, 184, 0, 58, 154, 0, 7, 4, 167, 0, 4, 3, 172]
abbrev dktX0_noDeed_0 : List UInt8 := dkwX0_noDeed_0 ++ []
theorem dksX0_noDeed_0 : cX0_noDeed.data.toList.drop 0 = dktX0_noDeed_0 := by decide +kernel
theorem dX0_noDeed_0 : decode cX0_noDeed 0 = .ok (.iload_n 1, 1) := dk_27 (dk_at dksX0_noDeed_0 0 rfl rfl)
theorem dX0_noDeed_1 : decode cX0_noDeed 1 = .ok (.i2l, 1) := dk_133 (dk_at dksX0_noDeed_0 1 rfl rfl)
theorem dX0_noDeed_2 : decode cX0_noDeed 2 = .ok (.lconst 0, 1) := dk_9 (dk_at dksX0_noDeed_0 2 rfl rfl)
theorem dX0_noDeed_3 : decode cX0_noDeed 3 = .ok (.aload_n 0, 1) := dk_42 (dk_at dksX0_noDeed_0 3 rfl rfl)
theorem dX0_noDeed_4 : decode cX0_noDeed 4 = .ok (.getfield 54, 3) := dk_180 0 54 (dk_at dksX0_noDeed_0 4 rfl rfl)
theorem dX0_noDeed_7 : decode cX0_noDeed 7 = .ok (.iconst 1, 1) := dk_4 (dk_at dksX0_noDeed_0 7 rfl rfl)
theorem dX0_noDeed_8 : decode cX0_noDeed 8 = .ok (.isub, 1) := dk_100 (dk_at dksX0_noDeed_0 8 rfl rfl)
theorem dX0_noDeed_9 : decode cX0_noDeed 9 = .ok (.i2l, 1) := dk_133 (dk_at dksX0_noDeed_0 9 rfl rfl)
theorem dX0_noDeed_10 : decode cX0_noDeed 10 = .ok (.invokestatic 58, 3) := dk_184 0 58 (dk_at dksX0_noDeed_0 10 rfl rfl)
theorem dX0_noDeed_13 : decode cX0_noDeed 13 = .ok (.ifCond .ne 7, 3) := dk_154 0 7 (dk_at dksX0_noDeed_0 13 rfl rfl)
theorem dX0_noDeed_16 : decode cX0_noDeed 16 = .ok (.iconst 1, 1) := dk_4 (dk_at dksX0_noDeed_0 16 rfl rfl)
theorem dX0_noDeed_17 : decode cX0_noDeed 17 = .ok (.goto 4, 3) := dk_167 0 4 (dk_at dksX0_noDeed_0 17 rfl rfl)
theorem dX0_noDeed_20 : decode cX0_noDeed 20 = .ok (.iconst 0, 1) := dk_3 (dk_at dksX0_noDeed_0 20 rfl rfl)
theorem dX0_noDeed_21 : decode cX0_noDeed 21 = .ok (.ireturn, 1) := dk_172 (dk_at dksX0_noDeed_0 21 rfl rfl)
abbrev cX0_weigh : ByteArray := prog_1_method_17_code
def yX0_weigh : MethodName := ⟨RX0, "weigh", "(II)I"⟩
def dkwX0_weigh_1 : List UInt8 := [172, 42, 180, 0, 11, 27, 46, 62, 42, 180, 0, 11, 27, 28, 79, 29, 172]
abbrev dktX0_weigh_1 : List UInt8 := dkwX0_weigh_1 ++ []
def dkwX0_weigh_0 : List UInt8 := [42, 27, 182, 0, 128, 153, 0, 5, 2, 172, 28, 133, 10, 20, 0, 131, 184, 0, 58, 154, 0, 6, 16, 254]
abbrev dktX0_weigh_0 : List UInt8 := dkwX0_weigh_0 ++ dktX0_weigh_1
theorem dksX0_weigh_0 : cX0_weigh.data.toList.drop 0 = dktX0_weigh_0 := by decide +kernel
theorem dksX0_weigh_1 : cX0_weigh.data.toList.drop 24 = dktX0_weigh_1 := dk_seg dksX0_weigh_0 24 rfl rfl
theorem dX0_weigh_0 : decode cX0_weigh 0 = .ok (.aload_n 0, 1) := dk_42 (dk_at dksX0_weigh_0 0 rfl rfl)
theorem dX0_weigh_1 : decode cX0_weigh 1 = .ok (.iload_n 1, 1) := dk_27 (dk_at dksX0_weigh_0 1 rfl rfl)
theorem dX0_weigh_2 : decode cX0_weigh 2 = .ok (.invokevirtual 128, 3) := dk_182 0 128 (dk_at dksX0_weigh_0 2 rfl rfl)
theorem dX0_weigh_5 : decode cX0_weigh 5 = .ok (.ifCond .eq 5, 3) := dk_153 0 5 (dk_at dksX0_weigh_0 5 rfl rfl)
theorem dX0_weigh_8 : decode cX0_weigh 8 = .ok (.iconst (-1), 1) := dk_2 (dk_at dksX0_weigh_0 8 rfl rfl)
theorem dX0_weigh_9 : decode cX0_weigh 9 = .ok (.ireturn, 1) := dk_172 (dk_at dksX0_weigh_0 9 rfl rfl)
theorem dX0_weigh_10 : decode cX0_weigh 10 = .ok (.iload_n 2, 1) := dk_28 (dk_at dksX0_weigh_0 10 rfl rfl)
theorem dX0_weigh_11 : decode cX0_weigh 11 = .ok (.i2l, 1) := dk_133 (dk_at dksX0_weigh_0 11 rfl rfl)
theorem dX0_weigh_12 : decode cX0_weigh 12 = .ok (.lconst 1, 1) := dk_10 (dk_at dksX0_weigh_0 12 rfl rfl)
theorem dX0_weigh_13 : decode cX0_weigh 13 = .ok (.ldc2_w 131, 3) := dk_20 0 131 (dk_at dksX0_weigh_0 13 rfl rfl)
theorem dX0_weigh_16 : decode cX0_weigh 16 = .ok (.invokestatic 58, 3) := dk_184 0 58 (dk_at dksX0_weigh_0 16 rfl rfl)
theorem dX0_weigh_19 : decode cX0_weigh 19 = .ok (.ifCond .ne 6, 3) := dk_154 0 6 (dk_at dksX0_weigh_0 19 rfl rfl)
theorem dX0_weigh_22 : decode cX0_weigh 22 = .ok (.bipush (-2), 2) := dk_16 254 (dk_at dksX0_weigh_0 22 rfl rfl)
theorem dX0_weigh_24 : decode cX0_weigh 24 = .ok (.ireturn, 1) := dk_172 (dk_at dksX0_weigh_1 0 rfl rfl)
theorem dX0_weigh_25 : decode cX0_weigh 25 = .ok (.aload_n 0, 1) := dk_42 (dk_at dksX0_weigh_1 1 rfl rfl)
theorem dX0_weigh_26 : decode cX0_weigh 26 = .ok (.getfield 11, 3) := dk_180 0 11 (dk_at dksX0_weigh_1 2 rfl rfl)
theorem dX0_weigh_29 : decode cX0_weigh 29 = .ok (.iload_n 1, 1) := dk_27 (dk_at dksX0_weigh_1 5 rfl rfl)
theorem dX0_weigh_30 : decode cX0_weigh 30 = .ok (.iaload, 1) := dk_46 (dk_at dksX0_weigh_1 6 rfl rfl)
theorem dX0_weigh_31 : decode cX0_weigh 31 = .ok (.istore_n 3, 1) := dk_62 (dk_at dksX0_weigh_1 7 rfl rfl)
theorem dX0_weigh_32 : decode cX0_weigh 32 = .ok (.aload_n 0, 1) := dk_42 (dk_at dksX0_weigh_1 8 rfl rfl)
theorem dX0_weigh_33 : decode cX0_weigh 33 = .ok (.getfield 11, 3) := dk_180 0 11 (dk_at dksX0_weigh_1 9 rfl rfl)
theorem dX0_weigh_36 : decode cX0_weigh 36 = .ok (.iload_n 1, 1) := dk_27 (dk_at dksX0_weigh_1 12 rfl rfl)
theorem dX0_weigh_37 : decode cX0_weigh 37 = .ok (.iload_n 2, 1) := dk_28 (dk_at dksX0_weigh_1 13 rfl rfl)
theorem dX0_weigh_38 : decode cX0_weigh 38 = .ok (.iastore, 1) := dk_79 (dk_at dksX0_weigh_1 14 rfl rfl)
theorem dX0_weigh_39 : decode cX0_weigh 39 = .ok (.iload_n 3, 1) := dk_29 (dk_at dksX0_weigh_1 15 rfl rfl)
theorem dX0_weigh_40 : decode cX0_weigh 40 = .ok (.ireturn, 1) := dk_172 (dk_at dksX0_weigh_1 16 rfl rfl)
abbrev cX0_storeys : ByteArray := prog_1_method_18_code
def yX0_storeys : MethodName := ⟨RX0, "storeys", "(II)I"⟩
def dkwX0_storeys_1 : List UInt8 := [27, 185, 0, 95, 2, 0, 192, 0, 37, 42, 180, 0, 11, 28, 46, 182, 0, 104, 172]
abbrev dktX0_storeys_1 : List UInt8 := dkwX0_storeys_1 ++ []
def dkwX0_storeys_0 : List UInt8 := [42, 27, 182, 0, 112, 154, 0, 11, 42, 28, 182, 0, 128, 153, 0, 7, 2, 167, 0, 25, 42, 180, 0, 18]
abbrev dktX0_storeys_0 : List UInt8 := dkwX0_storeys_0 ++ dktX0_storeys_1
theorem dksX0_storeys_0 : cX0_storeys.data.toList.drop 0 = dktX0_storeys_0 := by decide +kernel
theorem dksX0_storeys_1 : cX0_storeys.data.toList.drop 24 = dktX0_storeys_1 := dk_seg dksX0_storeys_0 24 rfl rfl
theorem dX0_storeys_0 : decode cX0_storeys 0 = .ok (.aload_n 0, 1) := dk_42 (dk_at dksX0_storeys_0 0 rfl rfl)
theorem dX0_storeys_1 : decode cX0_storeys 1 = .ok (.iload_n 1, 1) := dk_27 (dk_at dksX0_storeys_0 1 rfl rfl)
theorem dX0_storeys_2 : decode cX0_storeys 2 = .ok (.invokevirtual 112, 3) := dk_182 0 112 (dk_at dksX0_storeys_0 2 rfl rfl)
theorem dX0_storeys_5 : decode cX0_storeys 5 = .ok (.ifCond .ne 11, 3) := dk_154 0 11 (dk_at dksX0_storeys_0 5 rfl rfl)
theorem dX0_storeys_8 : decode cX0_storeys 8 = .ok (.aload_n 0, 1) := dk_42 (dk_at dksX0_storeys_0 8 rfl rfl)
theorem dX0_storeys_9 : decode cX0_storeys 9 = .ok (.iload_n 2, 1) := dk_28 (dk_at dksX0_storeys_0 9 rfl rfl)
theorem dX0_storeys_10 : decode cX0_storeys 10 = .ok (.invokevirtual 128, 3) := dk_182 0 128 (dk_at dksX0_storeys_0 10 rfl rfl)
theorem dX0_storeys_13 : decode cX0_storeys 13 = .ok (.ifCond .eq 7, 3) := dk_153 0 7 (dk_at dksX0_storeys_0 13 rfl rfl)
theorem dX0_storeys_16 : decode cX0_storeys 16 = .ok (.iconst (-1), 1) := dk_2 (dk_at dksX0_storeys_0 16 rfl rfl)
theorem dX0_storeys_17 : decode cX0_storeys 17 = .ok (.goto 25, 3) := dk_167 0 25 (dk_at dksX0_storeys_0 17 rfl rfl)
theorem dX0_storeys_20 : decode cX0_storeys 20 = .ok (.aload_n 0, 1) := dk_42 (dk_at dksX0_storeys_0 20 rfl rfl)
theorem dX0_storeys_21 : decode cX0_storeys 21 = .ok (.getfield 18, 3) := dk_180 0 18 (dk_at dksX0_storeys_0 21 rfl rfl)
theorem dX0_storeys_24 : decode cX0_storeys 24 = .ok (.iload_n 1, 1) := dk_27 (dk_at dksX0_storeys_1 0 rfl rfl)
theorem dX0_storeys_25 : decode cX0_storeys 25 = .ok (.invokeinterface 95 2, 5) := by decide +kernel
theorem dX0_storeys_30 : decode cX0_storeys 30 = .ok (.checkcast 37, 3) := dk_192 0 37 (dk_at dksX0_storeys_1 6 rfl rfl)
theorem dX0_storeys_33 : decode cX0_storeys 33 = .ok (.aload_n 0, 1) := dk_42 (dk_at dksX0_storeys_1 9 rfl rfl)
theorem dX0_storeys_34 : decode cX0_storeys 34 = .ok (.getfield 11, 3) := dk_180 0 11 (dk_at dksX0_storeys_1 10 rfl rfl)
theorem dX0_storeys_37 : decode cX0_storeys 37 = .ok (.iload_n 2, 1) := dk_28 (dk_at dksX0_storeys_1 13 rfl rfl)
theorem dX0_storeys_38 : decode cX0_storeys 38 = .ok (.iaload, 1) := dk_46 (dk_at dksX0_storeys_1 14 rfl rfl)
theorem dX0_storeys_39 : decode cX0_storeys 39 = .ok (.invokevirtual 104, 3) := dk_182 0 104 (dk_at dksX0_storeys_1 15 rfl rfl)
theorem dX0_storeys_42 : decode cX0_storeys 42 = .ok (.ireturn, 1) := dk_172 (dk_at dksX0_storeys_1 18 rfl rfl)
abbrev cX0_say : ByteArray := prog_1_method_21_code
def yX0_say : MethodName := ⟨RX0, "say", "(II)I"⟩
def dkwX0_say_2 : List UInt8 := [27, 182, 0, 125, 172]
abbrev dktX0_say_2 : List UInt8 := dkwX0_say_2 ++ []
def dkwX0_say_1 : List UInt8 := [28, 184, 0, 100, 153, 0, 6, 16, 253, 172, 42, 27, 28, 182, 0, 136, 153, 0, 7, 3, 167, 0, 8, 42]
abbrev dktX0_say_1 : List UInt8 := dkwX0_say_1 ++ dktX0_say_2
def dkwX0_say_0 : List UInt8 := [42, 27, 182, 0, 112, 154, 0, 11, 42, 28, 182, 0, 128, 153, 0, 5, 2, 172, 42, 180, 0, 22, 27, 46]
abbrev dktX0_say_0 : List UInt8 := dkwX0_say_0 ++ dktX0_say_1
theorem dksX0_say_0 : cX0_say.data.toList.drop 0 = dktX0_say_0 := by decide +kernel
theorem dksX0_say_1 : cX0_say.data.toList.drop 24 = dktX0_say_1 := dk_seg dksX0_say_0 24 rfl rfl
theorem dksX0_say_2 : cX0_say.data.toList.drop 48 = dktX0_say_2 := dk_seg dksX0_say_1 24 rfl rfl
theorem dX0_say_0 : decode cX0_say 0 = .ok (.aload_n 0, 1) := dk_42 (dk_at dksX0_say_0 0 rfl rfl)
theorem dX0_say_1 : decode cX0_say 1 = .ok (.iload_n 1, 1) := dk_27 (dk_at dksX0_say_0 1 rfl rfl)
theorem dX0_say_2 : decode cX0_say 2 = .ok (.invokevirtual 112, 3) := dk_182 0 112 (dk_at dksX0_say_0 2 rfl rfl)
theorem dX0_say_5 : decode cX0_say 5 = .ok (.ifCond .ne 11, 3) := dk_154 0 11 (dk_at dksX0_say_0 5 rfl rfl)
theorem dX0_say_8 : decode cX0_say 8 = .ok (.aload_n 0, 1) := dk_42 (dk_at dksX0_say_0 8 rfl rfl)
theorem dX0_say_9 : decode cX0_say 9 = .ok (.iload_n 2, 1) := dk_28 (dk_at dksX0_say_0 9 rfl rfl)
theorem dX0_say_10 : decode cX0_say 10 = .ok (.invokevirtual 128, 3) := dk_182 0 128 (dk_at dksX0_say_0 10 rfl rfl)
theorem dX0_say_13 : decode cX0_say 13 = .ok (.ifCond .eq 5, 3) := dk_153 0 5 (dk_at dksX0_say_0 13 rfl rfl)
theorem dX0_say_16 : decode cX0_say 16 = .ok (.iconst (-1), 1) := dk_2 (dk_at dksX0_say_0 16 rfl rfl)
theorem dX0_say_17 : decode cX0_say 17 = .ok (.ireturn, 1) := dk_172 (dk_at dksX0_say_0 17 rfl rfl)
theorem dX0_say_18 : decode cX0_say 18 = .ok (.aload_n 0, 1) := dk_42 (dk_at dksX0_say_0 18 rfl rfl)
theorem dX0_say_19 : decode cX0_say 19 = .ok (.getfield 22, 3) := dk_180 0 22 (dk_at dksX0_say_0 19 rfl rfl)
theorem dX0_say_22 : decode cX0_say 22 = .ok (.iload_n 1, 1) := dk_27 (dk_at dksX0_say_0 22 rfl rfl)
theorem dX0_say_23 : decode cX0_say 23 = .ok (.iaload, 1) := dk_46 (dk_at dksX0_say_0 23 rfl rfl)
theorem dX0_say_24 : decode cX0_say 24 = .ok (.iload_n 2, 1) := dk_28 (dk_at dksX0_say_1 0 rfl rfl)
theorem dX0_say_25 : decode cX0_say 25 = .ok (.invokestatic 100, 3) := dk_184 0 100 (dk_at dksX0_say_1 1 rfl rfl)
theorem dX0_say_28 : decode cX0_say 28 = .ok (.ifCond .eq 6, 3) := dk_153 0 6 (dk_at dksX0_say_1 4 rfl rfl)
theorem dX0_say_31 : decode cX0_say 31 = .ok (.bipush (-3), 2) := dk_16 253 (dk_at dksX0_say_1 7 rfl rfl)
theorem dX0_say_33 : decode cX0_say 33 = .ok (.ireturn, 1) := dk_172 (dk_at dksX0_say_1 9 rfl rfl)
theorem dX0_say_34 : decode cX0_say 34 = .ok (.aload_n 0, 1) := dk_42 (dk_at dksX0_say_1 10 rfl rfl)
theorem dX0_say_35 : decode cX0_say 35 = .ok (.iload_n 1, 1) := dk_27 (dk_at dksX0_say_1 11 rfl rfl)
theorem dX0_say_36 : decode cX0_say 36 = .ok (.iload_n 2, 1) := dk_28 (dk_at dksX0_say_1 12 rfl rfl)
theorem dX0_say_37 : decode cX0_say 37 = .ok (.invokevirtual 136, 3) := dk_182 0 136 (dk_at dksX0_say_1 13 rfl rfl)
theorem dX0_say_40 : decode cX0_say 40 = .ok (.ifCond .eq 7, 3) := dk_153 0 7 (dk_at dksX0_say_1 16 rfl rfl)
theorem dX0_say_43 : decode cX0_say 43 = .ok (.iconst 0, 1) := dk_3 (dk_at dksX0_say_1 19 rfl rfl)
theorem dX0_say_44 : decode cX0_say 44 = .ok (.goto 8, 3) := dk_167 0 8 (dk_at dksX0_say_1 20 rfl rfl)
theorem dX0_say_47 : decode cX0_say 47 = .ok (.aload_n 0, 1) := dk_42 (dk_at dksX0_say_1 23 rfl rfl)
theorem dX0_say_48 : decode cX0_say 48 = .ok (.iload_n 1, 1) := dk_27 (dk_at dksX0_say_2 0 rfl rfl)
theorem dX0_say_49 : decode cX0_say 49 = .ok (.invokevirtual 125, 3) := dk_182 0 125 (dk_at dksX0_say_2 1 rfl rfl)
theorem dX0_say_52 : decode cX0_say 52 = .ok (.ireturn, 1) := dk_172 (dk_at dksX0_say_2 4 rfl rfl)
abbrev cX0_isCaught : ByteArray := prog_1_method_20_code
def yX0_isCaught : MethodName := ⟨RX0, "isCaught", "(II)Z"⟩
def dkwX0_isCaught_2 : List UInt8 := [128, 79, 29, 172]
abbrev dktX0_isCaught_2 : List UInt8 := dkwX0_isCaught_2 ++ []
def dkwX0_isCaught_1 : List UInt8 := [3, 62, 42, 180, 0, 22, 27, 29, 153, 0, 7, 3, 167, 0, 13, 42, 180, 0, 22, 27, 46, 4, 28, 120]
abbrev dktX0_isCaught_1 : List UInt8 := dkwX0_isCaught_1 ++ dktX0_isCaught_2
def dkwX0_isCaught_0 : List UInt8 := [42, 27, 182, 0, 119, 28, 184, 0, 100, 154, 0, 15, 42, 27, 182, 0, 133, 153, 0, 7, 4, 167, 0, 4]
abbrev dktX0_isCaught_0 : List UInt8 := dkwX0_isCaught_0 ++ dktX0_isCaught_1
theorem dksX0_isCaught_0 : cX0_isCaught.data.toList.drop 0 = dktX0_isCaught_0 := by decide +kernel
theorem dksX0_isCaught_1 : cX0_isCaught.data.toList.drop 24 = dktX0_isCaught_1 := dk_seg dksX0_isCaught_0 24 rfl rfl
theorem dksX0_isCaught_2 : cX0_isCaught.data.toList.drop 48 = dktX0_isCaught_2 := dk_seg dksX0_isCaught_1 24 rfl rfl
theorem dX0_isCaught_0 : decode cX0_isCaught 0 = .ok (.aload_n 0, 1) := dk_42 (dk_at dksX0_isCaught_0 0 rfl rfl)
theorem dX0_isCaught_1 : decode cX0_isCaught 1 = .ok (.iload_n 1, 1) := dk_27 (dk_at dksX0_isCaught_0 1 rfl rfl)
theorem dX0_isCaught_2 : decode cX0_isCaught 2 = .ok (.invokevirtual 119, 3) := dk_182 0 119 (dk_at dksX0_isCaught_0 2 rfl rfl)
theorem dX0_isCaught_5 : decode cX0_isCaught 5 = .ok (.iload_n 2, 1) := dk_28 (dk_at dksX0_isCaught_0 5 rfl rfl)
theorem dX0_isCaught_6 : decode cX0_isCaught 6 = .ok (.invokestatic 100, 3) := dk_184 0 100 (dk_at dksX0_isCaught_0 6 rfl rfl)
theorem dX0_isCaught_9 : decode cX0_isCaught 9 = .ok (.ifCond .ne 15, 3) := dk_154 0 15 (dk_at dksX0_isCaught_0 9 rfl rfl)
theorem dX0_isCaught_12 : decode cX0_isCaught 12 = .ok (.aload_n 0, 1) := dk_42 (dk_at dksX0_isCaught_0 12 rfl rfl)
theorem dX0_isCaught_13 : decode cX0_isCaught 13 = .ok (.iload_n 1, 1) := dk_27 (dk_at dksX0_isCaught_0 13 rfl rfl)
theorem dX0_isCaught_14 : decode cX0_isCaught 14 = .ok (.invokevirtual 133, 3) := dk_182 0 133 (dk_at dksX0_isCaught_0 14 rfl rfl)
theorem dX0_isCaught_17 : decode cX0_isCaught 17 = .ok (.ifCond .eq 7, 3) := dk_153 0 7 (dk_at dksX0_isCaught_0 17 rfl rfl)
theorem dX0_isCaught_20 : decode cX0_isCaught 20 = .ok (.iconst 1, 1) := dk_4 (dk_at dksX0_isCaught_0 20 rfl rfl)
theorem dX0_isCaught_21 : decode cX0_isCaught 21 = .ok (.goto 4, 3) := dk_167 0 4 (dk_at dksX0_isCaught_0 21 rfl rfl)
theorem dX0_isCaught_24 : decode cX0_isCaught 24 = .ok (.iconst 0, 1) := dk_3 (dk_at dksX0_isCaught_1 0 rfl rfl)
theorem dX0_isCaught_25 : decode cX0_isCaught 25 = .ok (.istore_n 3, 1) := dk_62 (dk_at dksX0_isCaught_1 1 rfl rfl)
theorem dX0_isCaught_26 : decode cX0_isCaught 26 = .ok (.aload_n 0, 1) := dk_42 (dk_at dksX0_isCaught_1 2 rfl rfl)
theorem dX0_isCaught_27 : decode cX0_isCaught 27 = .ok (.getfield 22, 3) := dk_180 0 22 (dk_at dksX0_isCaught_1 3 rfl rfl)
theorem dX0_isCaught_30 : decode cX0_isCaught 30 = .ok (.iload_n 1, 1) := dk_27 (dk_at dksX0_isCaught_1 6 rfl rfl)
theorem dX0_isCaught_31 : decode cX0_isCaught 31 = .ok (.iload_n 3, 1) := dk_29 (dk_at dksX0_isCaught_1 7 rfl rfl)
theorem dX0_isCaught_32 : decode cX0_isCaught 32 = .ok (.ifCond .eq 7, 3) := dk_153 0 7 (dk_at dksX0_isCaught_1 8 rfl rfl)
theorem dX0_isCaught_35 : decode cX0_isCaught 35 = .ok (.iconst 0, 1) := dk_3 (dk_at dksX0_isCaught_1 11 rfl rfl)
theorem dX0_isCaught_36 : decode cX0_isCaught 36 = .ok (.goto 13, 3) := dk_167 0 13 (dk_at dksX0_isCaught_1 12 rfl rfl)
theorem dX0_isCaught_39 : decode cX0_isCaught 39 = .ok (.aload_n 0, 1) := dk_42 (dk_at dksX0_isCaught_1 15 rfl rfl)
theorem dX0_isCaught_40 : decode cX0_isCaught 40 = .ok (.getfield 22, 3) := dk_180 0 22 (dk_at dksX0_isCaught_1 16 rfl rfl)
theorem dX0_isCaught_43 : decode cX0_isCaught 43 = .ok (.iload_n 1, 1) := dk_27 (dk_at dksX0_isCaught_1 19 rfl rfl)
theorem dX0_isCaught_44 : decode cX0_isCaught 44 = .ok (.iaload, 1) := dk_46 (dk_at dksX0_isCaught_1 20 rfl rfl)
theorem dX0_isCaught_45 : decode cX0_isCaught 45 = .ok (.iconst 1, 1) := dk_4 (dk_at dksX0_isCaught_1 21 rfl rfl)
theorem dX0_isCaught_46 : decode cX0_isCaught 46 = .ok (.iload_n 2, 1) := dk_28 (dk_at dksX0_isCaught_1 22 rfl rfl)
theorem dX0_isCaught_47 : decode cX0_isCaught 47 = .ok (.ishl, 1) := dk_120 (dk_at dksX0_isCaught_1 23 rfl rfl)
theorem dX0_isCaught_48 : decode cX0_isCaught 48 = .ok (.ior, 1) := dk_128 (dk_at dksX0_isCaught_2 0 rfl rfl)
theorem dX0_isCaught_49 : decode cX0_isCaught 49 = .ok (.iastore, 1) := dk_79 (dk_at dksX0_isCaught_2 1 rfl rfl)
theorem dX0_isCaught_50 : decode cX0_isCaught 50 = .ok (.iload_n 3, 1) := dk_29 (dk_at dksX0_isCaught_2 2 rfl rfl)
theorem dX0_isCaught_51 : decode cX0_isCaught 51 = .ok (.ireturn, 1) := dk_172 (dk_at dksX0_isCaught_2 3 rfl rfl)
abbrev cX0_isSeen : ByteArray := prog_1_method_19_code
def yX0_isSeen : MethodName := ⟨RX0, "isSeen", "(I)Z"⟩
def dkwX0_isSeen_2 : List UInt8 := [182, 0, 125, 160, 0, 5, 4, 172, 132, 2, 1, 167, 255, 200, 3, 172]
abbrev dktX0_isSeen_2 : List UInt8 := dkwX0_isSeen_2 ++ []
def dkwX0_isSeen_1 : List UInt8 := [28, 185, 0, 95, 2, 0, 192, 0, 37, 180, 0, 122, 27, 160, 0, 18, 42, 28, 182, 0, 125, 42, 27]
abbrev dktX0_isSeen_1 : List UInt8 := dkwX0_isSeen_1 ++ dktX0_isSeen_2
def dkwX0_isSeen_0 : List UInt8 := [3, 61, 28, 42, 180, 0, 18, 185, 0, 62, 1, 0, 162, 0, 49, 28, 27, 159, 0, 38, 42, 180, 0, 18]
abbrev dktX0_isSeen_0 : List UInt8 := dkwX0_isSeen_0 ++ dktX0_isSeen_1
theorem dksX0_isSeen_0 : cX0_isSeen.data.toList.drop 0 = dktX0_isSeen_0 := by decide +kernel
theorem dksX0_isSeen_1 : cX0_isSeen.data.toList.drop 24 = dktX0_isSeen_1 := dk_seg dksX0_isSeen_0 24 rfl rfl
theorem dksX0_isSeen_2 : cX0_isSeen.data.toList.drop 47 = dktX0_isSeen_2 := dk_seg dksX0_isSeen_1 23 rfl rfl
theorem dX0_isSeen_0 : decode cX0_isSeen 0 = .ok (.iconst 0, 1) := dk_3 (dk_at dksX0_isSeen_0 0 rfl rfl)
theorem dX0_isSeen_1 : decode cX0_isSeen 1 = .ok (.istore_n 2, 1) := dk_61 (dk_at dksX0_isSeen_0 1 rfl rfl)
theorem dX0_isSeen_2 : decode cX0_isSeen 2 = .ok (.iload_n 2, 1) := dk_28 (dk_at dksX0_isSeen_0 2 rfl rfl)
theorem dX0_isSeen_3 : decode cX0_isSeen 3 = .ok (.aload_n 0, 1) := dk_42 (dk_at dksX0_isSeen_0 3 rfl rfl)
theorem dX0_isSeen_4 : decode cX0_isSeen 4 = .ok (.getfield 18, 3) := dk_180 0 18 (dk_at dksX0_isSeen_0 4 rfl rfl)
theorem dX0_isSeen_7 : decode cX0_isSeen 7 = .ok (.invokeinterface 62 1, 5) := by decide +kernel
theorem dX0_isSeen_12 : decode cX0_isSeen 12 = .ok (.if_icmp .ge 49, 3) := dk_162 0 49 (dk_at dksX0_isSeen_0 12 rfl rfl)
theorem dX0_isSeen_15 : decode cX0_isSeen 15 = .ok (.iload_n 2, 1) := dk_28 (dk_at dksX0_isSeen_0 15 rfl rfl)
theorem dX0_isSeen_16 : decode cX0_isSeen 16 = .ok (.iload_n 1, 1) := dk_27 (dk_at dksX0_isSeen_0 16 rfl rfl)
theorem dX0_isSeen_17 : decode cX0_isSeen 17 = .ok (.if_icmp .eq 38, 3) := dk_159 0 38 (dk_at dksX0_isSeen_0 17 rfl rfl)
theorem dX0_isSeen_20 : decode cX0_isSeen 20 = .ok (.aload_n 0, 1) := dk_42 (dk_at dksX0_isSeen_0 20 rfl rfl)
theorem dX0_isSeen_21 : decode cX0_isSeen 21 = .ok (.getfield 18, 3) := dk_180 0 18 (dk_at dksX0_isSeen_0 21 rfl rfl)
theorem dX0_isSeen_24 : decode cX0_isSeen 24 = .ok (.iload_n 2, 1) := dk_28 (dk_at dksX0_isSeen_1 0 rfl rfl)
theorem dX0_isSeen_25 : decode cX0_isSeen 25 = .ok (.invokeinterface 95 2, 5) := by decide +kernel
theorem dX0_isSeen_30 : decode cX0_isSeen 30 = .ok (.checkcast 37, 3) := dk_192 0 37 (dk_at dksX0_isSeen_1 6 rfl rfl)
theorem dX0_isSeen_33 : decode cX0_isSeen 33 = .ok (.getfield 122, 3) := dk_180 0 122 (dk_at dksX0_isSeen_1 9 rfl rfl)
theorem dX0_isSeen_36 : decode cX0_isSeen 36 = .ok (.iload_n 1, 1) := dk_27 (dk_at dksX0_isSeen_1 12 rfl rfl)
theorem dX0_isSeen_37 : decode cX0_isSeen 37 = .ok (.if_icmp .ne 18, 3) := dk_160 0 18 (dk_at dksX0_isSeen_1 13 rfl rfl)
theorem dX0_isSeen_40 : decode cX0_isSeen 40 = .ok (.aload_n 0, 1) := dk_42 (dk_at dksX0_isSeen_1 16 rfl rfl)
theorem dX0_isSeen_41 : decode cX0_isSeen 41 = .ok (.iload_n 2, 1) := dk_28 (dk_at dksX0_isSeen_1 17 rfl rfl)
theorem dX0_isSeen_42 : decode cX0_isSeen 42 = .ok (.invokevirtual 125, 3) := dk_182 0 125 (dk_at dksX0_isSeen_1 18 rfl rfl)
theorem dX0_isSeen_45 : decode cX0_isSeen 45 = .ok (.aload_n 0, 1) := dk_42 (dk_at dksX0_isSeen_1 21 rfl rfl)
theorem dX0_isSeen_46 : decode cX0_isSeen 46 = .ok (.iload_n 1, 1) := dk_27 (dk_at dksX0_isSeen_1 22 rfl rfl)
theorem dX0_isSeen_47 : decode cX0_isSeen 47 = .ok (.invokevirtual 125, 3) := dk_182 0 125 (dk_at dksX0_isSeen_2 0 rfl rfl)
theorem dX0_isSeen_50 : decode cX0_isSeen 50 = .ok (.if_icmp .ne 5, 3) := dk_160 0 5 (dk_at dksX0_isSeen_2 3 rfl rfl)
theorem dX0_isSeen_53 : decode cX0_isSeen 53 = .ok (.iconst 1, 1) := dk_4 (dk_at dksX0_isSeen_2 6 rfl rfl)
theorem dX0_isSeen_54 : decode cX0_isSeen 54 = .ok (.ireturn, 1) := dk_172 (dk_at dksX0_isSeen_2 7 rfl rfl)
theorem dX0_isSeen_55 : decode cX0_isSeen 55 = .ok (.iinc 2 1, 3) := dk_132 2 1 (dk_at dksX0_isSeen_2 8 rfl rfl)
theorem dX0_isSeen_58 : decode cX0_isSeen 58 = .ok (.goto (-56), 3) := dk_167 255 200 (dk_at dksX0_isSeen_2 11 rfl rfl)
theorem dX0_isSeen_61 : decode cX0_isSeen 61 = .ok (.iconst 0, 1) := dk_3 (dk_at dksX0_isSeen_2 14 rfl rfl)
theorem dX0_isSeen_62 : decode cX0_isSeen 62 = .ok (.ireturn, 1) := dk_172 (dk_at dksX0_isSeen_2 15 rfl rfl)
abbrev cX0_hush : ByteArray := prog_1_method_22_code
def yX0_hush : MethodName := ⟨RX0, "hush", "(I)I"⟩
def dkwX0_hush_1 : List UInt8 := [172]
abbrev dktX0_hush_1 : List UInt8 := dkwX0_hush_1 ++ []
def dkwX0_hush_0 : List UInt8 := [42, 27, 182, 0, 112, 153, 0, 5, 2, 172, 42, 27, 182, 0, 125, 61, 42, 180, 0, 22, 27, 3, 79, 28]
abbrev dktX0_hush_0 : List UInt8 := dkwX0_hush_0 ++ dktX0_hush_1
theorem dksX0_hush_0 : cX0_hush.data.toList.drop 0 = dktX0_hush_0 := by decide +kernel
theorem dksX0_hush_1 : cX0_hush.data.toList.drop 24 = dktX0_hush_1 := dk_seg dksX0_hush_0 24 rfl rfl
theorem dX0_hush_0 : decode cX0_hush 0 = .ok (.aload_n 0, 1) := dk_42 (dk_at dksX0_hush_0 0 rfl rfl)
theorem dX0_hush_1 : decode cX0_hush 1 = .ok (.iload_n 1, 1) := dk_27 (dk_at dksX0_hush_0 1 rfl rfl)
theorem dX0_hush_2 : decode cX0_hush 2 = .ok (.invokevirtual 112, 3) := dk_182 0 112 (dk_at dksX0_hush_0 2 rfl rfl)
theorem dX0_hush_5 : decode cX0_hush 5 = .ok (.ifCond .eq 5, 3) := dk_153 0 5 (dk_at dksX0_hush_0 5 rfl rfl)
theorem dX0_hush_8 : decode cX0_hush 8 = .ok (.iconst (-1), 1) := dk_2 (dk_at dksX0_hush_0 8 rfl rfl)
theorem dX0_hush_9 : decode cX0_hush 9 = .ok (.ireturn, 1) := dk_172 (dk_at dksX0_hush_0 9 rfl rfl)
theorem dX0_hush_10 : decode cX0_hush 10 = .ok (.aload_n 0, 1) := dk_42 (dk_at dksX0_hush_0 10 rfl rfl)
theorem dX0_hush_11 : decode cX0_hush 11 = .ok (.iload_n 1, 1) := dk_27 (dk_at dksX0_hush_0 11 rfl rfl)
theorem dX0_hush_12 : decode cX0_hush 12 = .ok (.invokevirtual 125, 3) := dk_182 0 125 (dk_at dksX0_hush_0 12 rfl rfl)
theorem dX0_hush_15 : decode cX0_hush 15 = .ok (.istore_n 2, 1) := dk_61 (dk_at dksX0_hush_0 15 rfl rfl)
theorem dX0_hush_16 : decode cX0_hush 16 = .ok (.aload_n 0, 1) := dk_42 (dk_at dksX0_hush_0 16 rfl rfl)
theorem dX0_hush_17 : decode cX0_hush 17 = .ok (.getfield 22, 3) := dk_180 0 22 (dk_at dksX0_hush_0 17 rfl rfl)
theorem dX0_hush_20 : decode cX0_hush 20 = .ok (.iload_n 1, 1) := dk_27 (dk_at dksX0_hush_0 20 rfl rfl)
theorem dX0_hush_21 : decode cX0_hush 21 = .ok (.iconst 0, 1) := dk_3 (dk_at dksX0_hush_0 21 rfl rfl)
theorem dX0_hush_22 : decode cX0_hush 22 = .ok (.iastore, 1) := dk_79 (dk_at dksX0_hush_0 22 rfl rfl)
theorem dX0_hush_23 : decode cX0_hush 23 = .ok (.iload_n 2, 1) := dk_28 (dk_at dksX0_hush_0 23 rfl rfl)
theorem dX0_hush_24 : decode cX0_hush 24 = .ok (.ireturn, 1) := dk_172 (dk_at dksX0_hush_1 0 rfl rfl)
abbrev cX0_landing : ByteArray := prog_1_method_23_code
def yX0_landing : MethodName := ⟨RX0, "landing", "(I)I"⟩
def dkwX0_landing_2 : List UInt8 := [167, 0, 4, 3, 128, 61, 132, 3, 1, 167, 255, 221, 28, 172]
abbrev dktX0_landing_2 : List UInt8 := dkwX0_landing_2 ++ []
def dkwX0_landing_1 : List UInt8 := [180, 0, 18, 185, 0, 62, 1, 0, 162, 0, 28, 28, 42, 29, 182, 0, 125, 27, 160, 0, 9, 4, 29, 120]
abbrev dktX0_landing_1 : List UInt8 := dkwX0_landing_1 ++ dktX0_landing_2
def dkwX0_landing_0 : List UInt8 := [42, 182, 0, 139, 153, 0, 6, 16, 253, 172, 27, 156, 0, 6, 16, 254, 172, 3, 61, 3, 62, 29, 42]
abbrev dktX0_landing_0 : List UInt8 := dkwX0_landing_0 ++ dktX0_landing_1
theorem dksX0_landing_0 : cX0_landing.data.toList.drop 0 = dktX0_landing_0 := by decide +kernel
theorem dksX0_landing_1 : cX0_landing.data.toList.drop 23 = dktX0_landing_1 := dk_seg dksX0_landing_0 23 rfl rfl
theorem dksX0_landing_2 : cX0_landing.data.toList.drop 47 = dktX0_landing_2 := dk_seg dksX0_landing_1 24 rfl rfl
theorem dX0_landing_0 : decode cX0_landing 0 = .ok (.aload_n 0, 1) := dk_42 (dk_at dksX0_landing_0 0 rfl rfl)
theorem dX0_landing_1 : decode cX0_landing 1 = .ok (.invokevirtual 139, 3) := dk_182 0 139 (dk_at dksX0_landing_0 1 rfl rfl)
theorem dX0_landing_4 : decode cX0_landing 4 = .ok (.ifCond .eq 6, 3) := dk_153 0 6 (dk_at dksX0_landing_0 4 rfl rfl)
theorem dX0_landing_7 : decode cX0_landing 7 = .ok (.bipush (-3), 2) := dk_16 253 (dk_at dksX0_landing_0 7 rfl rfl)
theorem dX0_landing_9 : decode cX0_landing 9 = .ok (.ireturn, 1) := dk_172 (dk_at dksX0_landing_0 9 rfl rfl)
theorem dX0_landing_10 : decode cX0_landing 10 = .ok (.iload_n 1, 1) := dk_27 (dk_at dksX0_landing_0 10 rfl rfl)
theorem dX0_landing_11 : decode cX0_landing 11 = .ok (.ifCond .ge 6, 3) := dk_156 0 6 (dk_at dksX0_landing_0 11 rfl rfl)
theorem dX0_landing_14 : decode cX0_landing 14 = .ok (.bipush (-2), 2) := dk_16 254 (dk_at dksX0_landing_0 14 rfl rfl)
theorem dX0_landing_16 : decode cX0_landing 16 = .ok (.ireturn, 1) := dk_172 (dk_at dksX0_landing_0 16 rfl rfl)
theorem dX0_landing_17 : decode cX0_landing 17 = .ok (.iconst 0, 1) := dk_3 (dk_at dksX0_landing_0 17 rfl rfl)
theorem dX0_landing_18 : decode cX0_landing 18 = .ok (.istore_n 2, 1) := dk_61 (dk_at dksX0_landing_0 18 rfl rfl)
theorem dX0_landing_19 : decode cX0_landing 19 = .ok (.iconst 0, 1) := dk_3 (dk_at dksX0_landing_0 19 rfl rfl)
theorem dX0_landing_20 : decode cX0_landing 20 = .ok (.istore_n 3, 1) := dk_62 (dk_at dksX0_landing_0 20 rfl rfl)
theorem dX0_landing_21 : decode cX0_landing 21 = .ok (.iload_n 3, 1) := dk_29 (dk_at dksX0_landing_0 21 rfl rfl)
theorem dX0_landing_22 : decode cX0_landing 22 = .ok (.aload_n 0, 1) := dk_42 (dk_at dksX0_landing_0 22 rfl rfl)
theorem dX0_landing_23 : decode cX0_landing 23 = .ok (.getfield 18, 3) := dk_180 0 18 (dk_at dksX0_landing_1 0 rfl rfl)
theorem dX0_landing_26 : decode cX0_landing 26 = .ok (.invokeinterface 62 1, 5) := by decide +kernel
theorem dX0_landing_31 : decode cX0_landing 31 = .ok (.if_icmp .ge 28, 3) := dk_162 0 28 (dk_at dksX0_landing_1 8 rfl rfl)
theorem dX0_landing_34 : decode cX0_landing 34 = .ok (.iload_n 2, 1) := dk_28 (dk_at dksX0_landing_1 11 rfl rfl)
theorem dX0_landing_35 : decode cX0_landing 35 = .ok (.aload_n 0, 1) := dk_42 (dk_at dksX0_landing_1 12 rfl rfl)
theorem dX0_landing_36 : decode cX0_landing 36 = .ok (.iload_n 3, 1) := dk_29 (dk_at dksX0_landing_1 13 rfl rfl)
theorem dX0_landing_37 : decode cX0_landing 37 = .ok (.invokevirtual 125, 3) := dk_182 0 125 (dk_at dksX0_landing_1 14 rfl rfl)
theorem dX0_landing_40 : decode cX0_landing 40 = .ok (.iload_n 1, 1) := dk_27 (dk_at dksX0_landing_1 17 rfl rfl)
theorem dX0_landing_41 : decode cX0_landing 41 = .ok (.if_icmp .ne 9, 3) := dk_160 0 9 (dk_at dksX0_landing_1 18 rfl rfl)
theorem dX0_landing_44 : decode cX0_landing 44 = .ok (.iconst 1, 1) := dk_4 (dk_at dksX0_landing_1 21 rfl rfl)
theorem dX0_landing_45 : decode cX0_landing 45 = .ok (.iload_n 3, 1) := dk_29 (dk_at dksX0_landing_1 22 rfl rfl)
theorem dX0_landing_46 : decode cX0_landing 46 = .ok (.ishl, 1) := dk_120 (dk_at dksX0_landing_1 23 rfl rfl)
theorem dX0_landing_47 : decode cX0_landing 47 = .ok (.goto 4, 3) := dk_167 0 4 (dk_at dksX0_landing_2 0 rfl rfl)
theorem dX0_landing_50 : decode cX0_landing 50 = .ok (.iconst 0, 1) := dk_3 (dk_at dksX0_landing_2 3 rfl rfl)
theorem dX0_landing_51 : decode cX0_landing 51 = .ok (.ior, 1) := dk_128 (dk_at dksX0_landing_2 4 rfl rfl)
theorem dX0_landing_52 : decode cX0_landing 52 = .ok (.istore_n 2, 1) := dk_61 (dk_at dksX0_landing_2 5 rfl rfl)
theorem dX0_landing_53 : decode cX0_landing 53 = .ok (.iinc 3 1, 3) := dk_132 3 1 (dk_at dksX0_landing_2 6 rfl rfl)
theorem dX0_landing_56 : decode cX0_landing 56 = .ok (.goto (-35), 3) := dk_167 255 221 (dk_at dksX0_landing_2 9 rfl rfl)
theorem dX0_landing_59 : decode cX0_landing 59 = .ok (.iload_n 2, 1) := dk_28 (dk_at dksX0_landing_2 12 rfl rfl)
theorem dX0_landing_60 : decode cX0_landing 60 = .ok (.ireturn, 1) := dk_172 (dk_at dksX0_landing_2 13 rfl rfl)
abbrev cX0_noTower : ByteArray := prog_1_method_5_code
def yX0_noTower : MethodName := ⟨RX0, "noTower", "()Z"⟩
def dkwX0_noTower_0 : List UInt8 := [42, 180, 0, 18, 185, 0, 48, 1, 0, 172]
abbrev dktX0_noTower_0 : List UInt8 := dkwX0_noTower_0 ++ []
theorem dksX0_noTower_0 : cX0_noTower.data.toList.drop 0 = dktX0_noTower_0 := by decide +kernel
theorem dX0_noTower_0 : decode cX0_noTower 0 = .ok (.aload_n 0, 1) := dk_42 (dk_at dksX0_noTower_0 0 rfl rfl)
theorem dX0_noTower_1 : decode cX0_noTower 1 = .ok (.getfield 18, 3) := dk_180 0 18 (dk_at dksX0_noTower_0 1 rfl rfl)
theorem dX0_noTower_4 : decode cX0_noTower 4 = .ok (.invokeinterface 48 1, 5) := by decide +kernel
theorem dX0_noTower_9 : decode cX0_noTower 9 = .ok (.ireturn, 1) := dk_172 (dk_at dksX0_noTower_0 9 rfl rfl)
abbrev cX0_way : ByteArray := prog_1_method_31_code
def yX0_way : MethodName := ⟨RX0, "way", "(II)I"⟩
def dkwX0_way_4 : List UInt8 := [167, 0, 5, 21, 4, 54, 4, 132, 5, 1, 167, 255, 183, 21, 4, 172]
abbrev dktX0_way_4 : List UInt8 := dkwX0_way_4 ++ []
def dkwX0_way_3 : List UInt8 := [130, 126, 154, 0, 24, 21, 6, 153, 0, 19, 42, 27, 21, 5, 182, 0, 108, 28, 160, 0, 8, 21, 5]
abbrev dktX0_way_3 : List UInt8 := dkwX0_way_3 ++ dktX0_way_4
def dkwX0_way_2 : List UInt8 := [21, 5, 184, 0, 175, 21, 4, 184, 0, 175, 162, 0, 7, 4, 167, 0, 4, 3, 54, 6, 21, 5, 29, 2]
abbrev dktX0_way_2 : List UInt8 := dkwX0_way_2 ++ dktX0_way_3
def dkwX0_way_1 : List UInt8 := [16, 247, 54, 4, 3, 54, 5, 21, 5, 4, 42, 180, 0, 54, 120, 162, 0, 68, 21, 4, 155, 0, 16]
abbrev dktX0_way_1 : List UInt8 := dkwX0_way_1 ++ dktX0_way_2
def dkwX0_way_0 : List UInt8 := [42, 27, 182, 0, 112, 153, 0, 5, 2, 172, 28, 156, 0, 6, 16, 254, 172, 42, 27, 182, 0, 119, 62]
abbrev dktX0_way_0 : List UInt8 := dkwX0_way_0 ++ dktX0_way_1
theorem dksX0_way_0 : cX0_way.data.toList.drop 0 = dktX0_way_0 := by decide +kernel
theorem dksX0_way_1 : cX0_way.data.toList.drop 23 = dktX0_way_1 := dk_seg dksX0_way_0 23 rfl rfl
theorem dksX0_way_2 : cX0_way.data.toList.drop 46 = dktX0_way_2 := dk_seg dksX0_way_1 23 rfl rfl
theorem dksX0_way_3 : cX0_way.data.toList.drop 70 = dktX0_way_3 := dk_seg dksX0_way_2 24 rfl rfl
theorem dksX0_way_4 : cX0_way.data.toList.drop 93 = dktX0_way_4 := dk_seg dksX0_way_3 23 rfl rfl
theorem dX0_way_0 : decode cX0_way 0 = .ok (.aload_n 0, 1) := dk_42 (dk_at dksX0_way_0 0 rfl rfl)
theorem dX0_way_1 : decode cX0_way 1 = .ok (.iload_n 1, 1) := dk_27 (dk_at dksX0_way_0 1 rfl rfl)
theorem dX0_way_2 : decode cX0_way 2 = .ok (.invokevirtual 112, 3) := dk_182 0 112 (dk_at dksX0_way_0 2 rfl rfl)
theorem dX0_way_5 : decode cX0_way 5 = .ok (.ifCond .eq 5, 3) := dk_153 0 5 (dk_at dksX0_way_0 5 rfl rfl)
theorem dX0_way_8 : decode cX0_way 8 = .ok (.iconst (-1), 1) := dk_2 (dk_at dksX0_way_0 8 rfl rfl)
theorem dX0_way_9 : decode cX0_way 9 = .ok (.ireturn, 1) := dk_172 (dk_at dksX0_way_0 9 rfl rfl)
theorem dX0_way_10 : decode cX0_way 10 = .ok (.iload_n 2, 1) := dk_28 (dk_at dksX0_way_0 10 rfl rfl)
theorem dX0_way_11 : decode cX0_way 11 = .ok (.ifCond .ge 6, 3) := dk_156 0 6 (dk_at dksX0_way_0 11 rfl rfl)
theorem dX0_way_14 : decode cX0_way 14 = .ok (.bipush (-2), 2) := dk_16 254 (dk_at dksX0_way_0 14 rfl rfl)
theorem dX0_way_16 : decode cX0_way 16 = .ok (.ireturn, 1) := dk_172 (dk_at dksX0_way_0 16 rfl rfl)
theorem dX0_way_17 : decode cX0_way 17 = .ok (.aload_n 0, 1) := dk_42 (dk_at dksX0_way_0 17 rfl rfl)
theorem dX0_way_18 : decode cX0_way 18 = .ok (.iload_n 1, 1) := dk_27 (dk_at dksX0_way_0 18 rfl rfl)
theorem dX0_way_19 : decode cX0_way 19 = .ok (.invokevirtual 119, 3) := dk_182 0 119 (dk_at dksX0_way_0 19 rfl rfl)
theorem dX0_way_22 : decode cX0_way 22 = .ok (.istore_n 3, 1) := dk_62 (dk_at dksX0_way_0 22 rfl rfl)
theorem dX0_way_23 : decode cX0_way 23 = .ok (.bipush (-9), 2) := dk_16 247 (dk_at dksX0_way_1 0 rfl rfl)
theorem dX0_way_25 : decode cX0_way 25 = .ok (.istore 4, 2) := dk_54 4 (dk_at dksX0_way_1 2 rfl rfl)
theorem dX0_way_27 : decode cX0_way 27 = .ok (.iconst 0, 1) := dk_3 (dk_at dksX0_way_1 4 rfl rfl)
theorem dX0_way_28 : decode cX0_way 28 = .ok (.istore 5, 2) := dk_54 5 (dk_at dksX0_way_1 5 rfl rfl)
theorem dX0_way_30 : decode cX0_way 30 = .ok (.iload 5, 2) := dk_21 5 (dk_at dksX0_way_1 7 rfl rfl)
theorem dX0_way_32 : decode cX0_way 32 = .ok (.iconst 1, 1) := dk_4 (dk_at dksX0_way_1 9 rfl rfl)
theorem dX0_way_33 : decode cX0_way 33 = .ok (.aload_n 0, 1) := dk_42 (dk_at dksX0_way_1 10 rfl rfl)
theorem dX0_way_34 : decode cX0_way 34 = .ok (.getfield 54, 3) := dk_180 0 54 (dk_at dksX0_way_1 11 rfl rfl)
theorem dX0_way_37 : decode cX0_way 37 = .ok (.ishl, 1) := dk_120 (dk_at dksX0_way_1 14 rfl rfl)
theorem dX0_way_38 : decode cX0_way 38 = .ok (.if_icmp .ge 68, 3) := dk_162 0 68 (dk_at dksX0_way_1 15 rfl rfl)
theorem dX0_way_41 : decode cX0_way 41 = .ok (.iload 4, 2) := dk_21 4 (dk_at dksX0_way_1 18 rfl rfl)
theorem dX0_way_43 : decode cX0_way 43 = .ok (.ifCond .lt 16, 3) := dk_155 0 16 (dk_at dksX0_way_1 20 rfl rfl)
theorem dX0_way_46 : decode cX0_way 46 = .ok (.iload 5, 2) := dk_21 5 (dk_at dksX0_way_2 0 rfl rfl)
theorem dX0_way_48 : decode cX0_way 48 = .ok (.invokestatic 175, 3) := dk_184 0 175 (dk_at dksX0_way_2 2 rfl rfl)
theorem dX0_way_51 : decode cX0_way 51 = .ok (.iload 4, 2) := dk_21 4 (dk_at dksX0_way_2 5 rfl rfl)
theorem dX0_way_53 : decode cX0_way 53 = .ok (.invokestatic 175, 3) := dk_184 0 175 (dk_at dksX0_way_2 7 rfl rfl)
theorem dX0_way_56 : decode cX0_way 56 = .ok (.if_icmp .ge 7, 3) := dk_162 0 7 (dk_at dksX0_way_2 10 rfl rfl)
theorem dX0_way_59 : decode cX0_way 59 = .ok (.iconst 1, 1) := dk_4 (dk_at dksX0_way_2 13 rfl rfl)
theorem dX0_way_60 : decode cX0_way 60 = .ok (.goto 4, 3) := dk_167 0 4 (dk_at dksX0_way_2 14 rfl rfl)
theorem dX0_way_63 : decode cX0_way 63 = .ok (.iconst 0, 1) := dk_3 (dk_at dksX0_way_2 17 rfl rfl)
theorem dX0_way_64 : decode cX0_way 64 = .ok (.istore 6, 2) := dk_54 6 (dk_at dksX0_way_2 18 rfl rfl)
theorem dX0_way_66 : decode cX0_way 66 = .ok (.iload 5, 2) := dk_21 5 (dk_at dksX0_way_2 20 rfl rfl)
theorem dX0_way_68 : decode cX0_way 68 = .ok (.iload_n 3, 1) := dk_29 (dk_at dksX0_way_2 22 rfl rfl)
theorem dX0_way_69 : decode cX0_way 69 = .ok (.iconst (-1), 1) := dk_2 (dk_at dksX0_way_2 23 rfl rfl)
theorem dX0_way_70 : decode cX0_way 70 = .ok (.ixor, 1) := dk_130 (dk_at dksX0_way_3 0 rfl rfl)
theorem dX0_way_71 : decode cX0_way 71 = .ok (.iand, 1) := dk_126 (dk_at dksX0_way_3 1 rfl rfl)
theorem dX0_way_72 : decode cX0_way 72 = .ok (.ifCond .ne 24, 3) := dk_154 0 24 (dk_at dksX0_way_3 2 rfl rfl)
theorem dX0_way_75 : decode cX0_way 75 = .ok (.iload 6, 2) := dk_21 6 (dk_at dksX0_way_3 5 rfl rfl)
theorem dX0_way_77 : decode cX0_way 77 = .ok (.ifCond .eq 19, 3) := dk_153 0 19 (dk_at dksX0_way_3 7 rfl rfl)
theorem dX0_way_80 : decode cX0_way 80 = .ok (.aload_n 0, 1) := dk_42 (dk_at dksX0_way_3 10 rfl rfl)
theorem dX0_way_81 : decode cX0_way 81 = .ok (.iload_n 1, 1) := dk_27 (dk_at dksX0_way_3 11 rfl rfl)
theorem dX0_way_82 : decode cX0_way 82 = .ok (.iload 5, 2) := dk_21 5 (dk_at dksX0_way_3 12 rfl rfl)
theorem dX0_way_84 : decode cX0_way 84 = .ok (.invokevirtual 108, 3) := dk_182 0 108 (dk_at dksX0_way_3 14 rfl rfl)
theorem dX0_way_87 : decode cX0_way 87 = .ok (.iload_n 2, 1) := dk_28 (dk_at dksX0_way_3 17 rfl rfl)
theorem dX0_way_88 : decode cX0_way 88 = .ok (.if_icmp .ne 8, 3) := dk_160 0 8 (dk_at dksX0_way_3 18 rfl rfl)
theorem dX0_way_91 : decode cX0_way 91 = .ok (.iload 5, 2) := dk_21 5 (dk_at dksX0_way_3 21 rfl rfl)
theorem dX0_way_93 : decode cX0_way 93 = .ok (.goto 5, 3) := dk_167 0 5 (dk_at dksX0_way_4 0 rfl rfl)
theorem dX0_way_96 : decode cX0_way 96 = .ok (.iload 4, 2) := dk_21 4 (dk_at dksX0_way_4 3 rfl rfl)
theorem dX0_way_98 : decode cX0_way 98 = .ok (.istore 4, 2) := dk_54 4 (dk_at dksX0_way_4 5 rfl rfl)
theorem dX0_way_100 : decode cX0_way 100 = .ok (.iinc 5 1, 3) := dk_132 5 1 (dk_at dksX0_way_4 7 rfl rfl)
theorem dX0_way_103 : decode cX0_way 103 = .ok (.goto (-73), 3) := dk_167 255 183 (dk_at dksX0_way_4 10 rfl rfl)
theorem dX0_way_106 : decode cX0_way 106 = .ok (.iload 4, 2) := dk_21 4 (dk_at dksX0_way_4 13 rfl rfl)
theorem dX0_way_108 : decode cX0_way 108 = .ok (.ireturn, 1) := dk_172 (dk_at dksX0_way_4 15 rfl rfl)
abbrev cX0_kept : ByteArray := prog_1_method_32_code
def yX0_kept : MethodName := ⟨RX0, "kept", "(II)I"⟩
def dkwX0_kept_3 : List UInt8 := [21, 4, 21, 5, 126, 54, 4, 132, 5, 1, 167, 255, 205, 21, 4, 172]
abbrev dktX0_kept_3 : List UInt8 := dkwX0_kept_3 ++ []
def dkwX0_kept_2 : List UInt8 := [154, 0, 31, 42, 27, 21, 5, 182, 0, 108, 28, 160, 0, 20, 21, 4, 156, 0, 8, 21, 5, 167, 0, 8]
abbrev dktX0_kept_2 : List UInt8 := dkwX0_kept_2 ++ dktX0_kept_3
def dkwX0_kept_1 : List UInt8 := [16, 247, 54, 4, 3, 54, 5, 21, 5, 4, 42, 180, 0, 54, 120, 162, 0, 46, 21, 5, 29, 2, 130, 126]
abbrev dktX0_kept_1 : List UInt8 := dkwX0_kept_1 ++ dktX0_kept_2
def dkwX0_kept_0 : List UInt8 := [42, 27, 182, 0, 112, 153, 0, 5, 2, 172, 28, 156, 0, 6, 16, 254, 172, 42, 27, 182, 0, 119, 62]
abbrev dktX0_kept_0 : List UInt8 := dkwX0_kept_0 ++ dktX0_kept_1
theorem dksX0_kept_0 : cX0_kept.data.toList.drop 0 = dktX0_kept_0 := by decide +kernel
theorem dksX0_kept_1 : cX0_kept.data.toList.drop 23 = dktX0_kept_1 := dk_seg dksX0_kept_0 23 rfl rfl
theorem dksX0_kept_2 : cX0_kept.data.toList.drop 47 = dktX0_kept_2 := dk_seg dksX0_kept_1 24 rfl rfl
theorem dksX0_kept_3 : cX0_kept.data.toList.drop 71 = dktX0_kept_3 := dk_seg dksX0_kept_2 24 rfl rfl
theorem dX0_kept_0 : decode cX0_kept 0 = .ok (.aload_n 0, 1) := dk_42 (dk_at dksX0_kept_0 0 rfl rfl)
theorem dX0_kept_1 : decode cX0_kept 1 = .ok (.iload_n 1, 1) := dk_27 (dk_at dksX0_kept_0 1 rfl rfl)
theorem dX0_kept_2 : decode cX0_kept 2 = .ok (.invokevirtual 112, 3) := dk_182 0 112 (dk_at dksX0_kept_0 2 rfl rfl)
theorem dX0_kept_5 : decode cX0_kept 5 = .ok (.ifCond .eq 5, 3) := dk_153 0 5 (dk_at dksX0_kept_0 5 rfl rfl)
theorem dX0_kept_8 : decode cX0_kept 8 = .ok (.iconst (-1), 1) := dk_2 (dk_at dksX0_kept_0 8 rfl rfl)
theorem dX0_kept_9 : decode cX0_kept 9 = .ok (.ireturn, 1) := dk_172 (dk_at dksX0_kept_0 9 rfl rfl)
theorem dX0_kept_10 : decode cX0_kept 10 = .ok (.iload_n 2, 1) := dk_28 (dk_at dksX0_kept_0 10 rfl rfl)
theorem dX0_kept_11 : decode cX0_kept 11 = .ok (.ifCond .ge 6, 3) := dk_156 0 6 (dk_at dksX0_kept_0 11 rfl rfl)
theorem dX0_kept_14 : decode cX0_kept 14 = .ok (.bipush (-2), 2) := dk_16 254 (dk_at dksX0_kept_0 14 rfl rfl)
theorem dX0_kept_16 : decode cX0_kept 16 = .ok (.ireturn, 1) := dk_172 (dk_at dksX0_kept_0 16 rfl rfl)
theorem dX0_kept_17 : decode cX0_kept 17 = .ok (.aload_n 0, 1) := dk_42 (dk_at dksX0_kept_0 17 rfl rfl)
theorem dX0_kept_18 : decode cX0_kept 18 = .ok (.iload_n 1, 1) := dk_27 (dk_at dksX0_kept_0 18 rfl rfl)
theorem dX0_kept_19 : decode cX0_kept 19 = .ok (.invokevirtual 119, 3) := dk_182 0 119 (dk_at dksX0_kept_0 19 rfl rfl)
theorem dX0_kept_22 : decode cX0_kept 22 = .ok (.istore_n 3, 1) := dk_62 (dk_at dksX0_kept_0 22 rfl rfl)
theorem dX0_kept_23 : decode cX0_kept 23 = .ok (.bipush (-9), 2) := dk_16 247 (dk_at dksX0_kept_1 0 rfl rfl)
theorem dX0_kept_25 : decode cX0_kept 25 = .ok (.istore 4, 2) := dk_54 4 (dk_at dksX0_kept_1 2 rfl rfl)
theorem dX0_kept_27 : decode cX0_kept 27 = .ok (.iconst 0, 1) := dk_3 (dk_at dksX0_kept_1 4 rfl rfl)
theorem dX0_kept_28 : decode cX0_kept 28 = .ok (.istore 5, 2) := dk_54 5 (dk_at dksX0_kept_1 5 rfl rfl)
theorem dX0_kept_30 : decode cX0_kept 30 = .ok (.iload 5, 2) := dk_21 5 (dk_at dksX0_kept_1 7 rfl rfl)
theorem dX0_kept_32 : decode cX0_kept 32 = .ok (.iconst 1, 1) := dk_4 (dk_at dksX0_kept_1 9 rfl rfl)
theorem dX0_kept_33 : decode cX0_kept 33 = .ok (.aload_n 0, 1) := dk_42 (dk_at dksX0_kept_1 10 rfl rfl)
theorem dX0_kept_34 : decode cX0_kept 34 = .ok (.getfield 54, 3) := dk_180 0 54 (dk_at dksX0_kept_1 11 rfl rfl)
theorem dX0_kept_37 : decode cX0_kept 37 = .ok (.ishl, 1) := dk_120 (dk_at dksX0_kept_1 14 rfl rfl)
theorem dX0_kept_38 : decode cX0_kept 38 = .ok (.if_icmp .ge 46, 3) := dk_162 0 46 (dk_at dksX0_kept_1 15 rfl rfl)
theorem dX0_kept_41 : decode cX0_kept 41 = .ok (.iload 5, 2) := dk_21 5 (dk_at dksX0_kept_1 18 rfl rfl)
theorem dX0_kept_43 : decode cX0_kept 43 = .ok (.iload_n 3, 1) := dk_29 (dk_at dksX0_kept_1 20 rfl rfl)
theorem dX0_kept_44 : decode cX0_kept 44 = .ok (.iconst (-1), 1) := dk_2 (dk_at dksX0_kept_1 21 rfl rfl)
theorem dX0_kept_45 : decode cX0_kept 45 = .ok (.ixor, 1) := dk_130 (dk_at dksX0_kept_1 22 rfl rfl)
theorem dX0_kept_46 : decode cX0_kept 46 = .ok (.iand, 1) := dk_126 (dk_at dksX0_kept_1 23 rfl rfl)
theorem dX0_kept_47 : decode cX0_kept 47 = .ok (.ifCond .ne 31, 3) := dk_154 0 31 (dk_at dksX0_kept_2 0 rfl rfl)
theorem dX0_kept_50 : decode cX0_kept 50 = .ok (.aload_n 0, 1) := dk_42 (dk_at dksX0_kept_2 3 rfl rfl)
theorem dX0_kept_51 : decode cX0_kept 51 = .ok (.iload_n 1, 1) := dk_27 (dk_at dksX0_kept_2 4 rfl rfl)
theorem dX0_kept_52 : decode cX0_kept 52 = .ok (.iload 5, 2) := dk_21 5 (dk_at dksX0_kept_2 5 rfl rfl)
theorem dX0_kept_54 : decode cX0_kept 54 = .ok (.invokevirtual 108, 3) := dk_182 0 108 (dk_at dksX0_kept_2 7 rfl rfl)
theorem dX0_kept_57 : decode cX0_kept 57 = .ok (.iload_n 2, 1) := dk_28 (dk_at dksX0_kept_2 10 rfl rfl)
theorem dX0_kept_58 : decode cX0_kept 58 = .ok (.if_icmp .ne 20, 3) := dk_160 0 20 (dk_at dksX0_kept_2 11 rfl rfl)
theorem dX0_kept_61 : decode cX0_kept 61 = .ok (.iload 4, 2) := dk_21 4 (dk_at dksX0_kept_2 14 rfl rfl)
theorem dX0_kept_63 : decode cX0_kept 63 = .ok (.ifCond .ge 8, 3) := dk_156 0 8 (dk_at dksX0_kept_2 16 rfl rfl)
theorem dX0_kept_66 : decode cX0_kept 66 = .ok (.iload 5, 2) := dk_21 5 (dk_at dksX0_kept_2 19 rfl rfl)
theorem dX0_kept_68 : decode cX0_kept 68 = .ok (.goto 8, 3) := dk_167 0 8 (dk_at dksX0_kept_2 21 rfl rfl)
theorem dX0_kept_71 : decode cX0_kept 71 = .ok (.iload 4, 2) := dk_21 4 (dk_at dksX0_kept_3 0 rfl rfl)
theorem dX0_kept_73 : decode cX0_kept 73 = .ok (.iload 5, 2) := dk_21 5 (dk_at dksX0_kept_3 2 rfl rfl)
theorem dX0_kept_75 : decode cX0_kept 75 = .ok (.iand, 1) := dk_126 (dk_at dksX0_kept_3 4 rfl rfl)
theorem dX0_kept_76 : decode cX0_kept 76 = .ok (.istore 4, 2) := dk_54 4 (dk_at dksX0_kept_3 5 rfl rfl)
theorem dX0_kept_78 : decode cX0_kept 78 = .ok (.iinc 5 1, 3) := dk_132 5 1 (dk_at dksX0_kept_3 7 rfl rfl)
theorem dX0_kept_81 : decode cX0_kept 81 = .ok (.goto (-51), 3) := dk_167 255 205 (dk_at dksX0_kept_3 10 rfl rfl)
theorem dX0_kept_84 : decode cX0_kept 84 = .ok (.iload 4, 2) := dk_21 4 (dk_at dksX0_kept_3 13 rfl rfl)
theorem dX0_kept_86 : decode cX0_kept 86 = .ok (.ireturn, 1) := dk_172 (dk_at dksX0_kept_3 15 rfl rfl)
abbrev cX0_roof : ByteArray := prog_1_method_33_code
def yX0_roof : MethodName := ⟨RX0, "roof", "(I)I"⟩
def dkwX0_roof_0 : List UInt8 := [42, 27, 182, 0, 112, 153, 0, 7, 2, 167, 0, 13, 42, 27, 42, 27, 182, 0, 119, 182, 0, 108, 172]
abbrev dktX0_roof_0 : List UInt8 := dkwX0_roof_0 ++ []
theorem dksX0_roof_0 : cX0_roof.data.toList.drop 0 = dktX0_roof_0 := by decide +kernel
theorem dX0_roof_0 : decode cX0_roof 0 = .ok (.aload_n 0, 1) := dk_42 (dk_at dksX0_roof_0 0 rfl rfl)
theorem dX0_roof_1 : decode cX0_roof 1 = .ok (.iload_n 1, 1) := dk_27 (dk_at dksX0_roof_0 1 rfl rfl)
theorem dX0_roof_2 : decode cX0_roof 2 = .ok (.invokevirtual 112, 3) := dk_182 0 112 (dk_at dksX0_roof_0 2 rfl rfl)
theorem dX0_roof_5 : decode cX0_roof 5 = .ok (.ifCond .eq 7, 3) := dk_153 0 7 (dk_at dksX0_roof_0 5 rfl rfl)
theorem dX0_roof_8 : decode cX0_roof 8 = .ok (.iconst (-1), 1) := dk_2 (dk_at dksX0_roof_0 8 rfl rfl)
theorem dX0_roof_9 : decode cX0_roof 9 = .ok (.goto 13, 3) := dk_167 0 13 (dk_at dksX0_roof_0 9 rfl rfl)
theorem dX0_roof_12 : decode cX0_roof 12 = .ok (.aload_n 0, 1) := dk_42 (dk_at dksX0_roof_0 12 rfl rfl)
theorem dX0_roof_13 : decode cX0_roof 13 = .ok (.iload_n 1, 1) := dk_27 (dk_at dksX0_roof_0 13 rfl rfl)
theorem dX0_roof_14 : decode cX0_roof 14 = .ok (.aload_n 0, 1) := dk_42 (dk_at dksX0_roof_0 14 rfl rfl)
theorem dX0_roof_15 : decode cX0_roof 15 = .ok (.iload_n 1, 1) := dk_27 (dk_at dksX0_roof_0 15 rfl rfl)
theorem dX0_roof_16 : decode cX0_roof 16 = .ok (.invokevirtual 119, 3) := dk_182 0 119 (dk_at dksX0_roof_0 16 rfl rfl)
theorem dX0_roof_19 : decode cX0_roof 19 = .ok (.invokevirtual 108, 3) := dk_182 0 108 (dk_at dksX0_roof_0 19 rfl rfl)
theorem dX0_roof_22 : decode cX0_roof 22 = .ok (.ireturn, 1) := dk_172 (dk_at dksX0_roof_0 22 rfl rfl)
abbrev cX0_safe : ByteArray := prog_1_method_34_code
def yX0_safe : MethodName := ⟨RX0, "safe", "(I)I"⟩
def dkwX0_safe_1 : List UInt8 := [2, 130, 126, 61, 42, 27, 182, 0, 133, 153, 0, 13, 28, 42, 27, 182, 0, 119, 126, 167, 0, 4, 28, 172]
abbrev dktX0_safe_1 : List UInt8 := dkwX0_safe_1 ++ []
def dkwX0_safe_0 : List UInt8 := [42, 27, 182, 0, 112, 153, 0, 5, 2, 172, 4, 42, 180, 0, 54, 120, 4, 100, 42, 180, 0, 22, 27, 46]
abbrev dktX0_safe_0 : List UInt8 := dkwX0_safe_0 ++ dktX0_safe_1
theorem dksX0_safe_0 : cX0_safe.data.toList.drop 0 = dktX0_safe_0 := by decide +kernel
theorem dksX0_safe_1 : cX0_safe.data.toList.drop 24 = dktX0_safe_1 := dk_seg dksX0_safe_0 24 rfl rfl
theorem dX0_safe_0 : decode cX0_safe 0 = .ok (.aload_n 0, 1) := dk_42 (dk_at dksX0_safe_0 0 rfl rfl)
theorem dX0_safe_1 : decode cX0_safe 1 = .ok (.iload_n 1, 1) := dk_27 (dk_at dksX0_safe_0 1 rfl rfl)
theorem dX0_safe_2 : decode cX0_safe 2 = .ok (.invokevirtual 112, 3) := dk_182 0 112 (dk_at dksX0_safe_0 2 rfl rfl)
theorem dX0_safe_5 : decode cX0_safe 5 = .ok (.ifCond .eq 5, 3) := dk_153 0 5 (dk_at dksX0_safe_0 5 rfl rfl)
theorem dX0_safe_8 : decode cX0_safe 8 = .ok (.iconst (-1), 1) := dk_2 (dk_at dksX0_safe_0 8 rfl rfl)
theorem dX0_safe_9 : decode cX0_safe 9 = .ok (.ireturn, 1) := dk_172 (dk_at dksX0_safe_0 9 rfl rfl)
theorem dX0_safe_10 : decode cX0_safe 10 = .ok (.iconst 1, 1) := dk_4 (dk_at dksX0_safe_0 10 rfl rfl)
theorem dX0_safe_11 : decode cX0_safe 11 = .ok (.aload_n 0, 1) := dk_42 (dk_at dksX0_safe_0 11 rfl rfl)
theorem dX0_safe_12 : decode cX0_safe 12 = .ok (.getfield 54, 3) := dk_180 0 54 (dk_at dksX0_safe_0 12 rfl rfl)
theorem dX0_safe_15 : decode cX0_safe 15 = .ok (.ishl, 1) := dk_120 (dk_at dksX0_safe_0 15 rfl rfl)
theorem dX0_safe_16 : decode cX0_safe 16 = .ok (.iconst 1, 1) := dk_4 (dk_at dksX0_safe_0 16 rfl rfl)
theorem dX0_safe_17 : decode cX0_safe 17 = .ok (.isub, 1) := dk_100 (dk_at dksX0_safe_0 17 rfl rfl)
theorem dX0_safe_18 : decode cX0_safe 18 = .ok (.aload_n 0, 1) := dk_42 (dk_at dksX0_safe_0 18 rfl rfl)
theorem dX0_safe_19 : decode cX0_safe 19 = .ok (.getfield 22, 3) := dk_180 0 22 (dk_at dksX0_safe_0 19 rfl rfl)
theorem dX0_safe_22 : decode cX0_safe 22 = .ok (.iload_n 1, 1) := dk_27 (dk_at dksX0_safe_0 22 rfl rfl)
theorem dX0_safe_23 : decode cX0_safe 23 = .ok (.iaload, 1) := dk_46 (dk_at dksX0_safe_0 23 rfl rfl)
theorem dX0_safe_24 : decode cX0_safe 24 = .ok (.iconst (-1), 1) := dk_2 (dk_at dksX0_safe_1 0 rfl rfl)
theorem dX0_safe_25 : decode cX0_safe 25 = .ok (.ixor, 1) := dk_130 (dk_at dksX0_safe_1 1 rfl rfl)
theorem dX0_safe_26 : decode cX0_safe 26 = .ok (.iand, 1) := dk_126 (dk_at dksX0_safe_1 2 rfl rfl)
theorem dX0_safe_27 : decode cX0_safe 27 = .ok (.istore_n 2, 1) := dk_61 (dk_at dksX0_safe_1 3 rfl rfl)
theorem dX0_safe_28 : decode cX0_safe 28 = .ok (.aload_n 0, 1) := dk_42 (dk_at dksX0_safe_1 4 rfl rfl)
theorem dX0_safe_29 : decode cX0_safe 29 = .ok (.iload_n 1, 1) := dk_27 (dk_at dksX0_safe_1 5 rfl rfl)
theorem dX0_safe_30 : decode cX0_safe 30 = .ok (.invokevirtual 133, 3) := dk_182 0 133 (dk_at dksX0_safe_1 6 rfl rfl)
theorem dX0_safe_33 : decode cX0_safe 33 = .ok (.ifCond .eq 13, 3) := dk_153 0 13 (dk_at dksX0_safe_1 9 rfl rfl)
theorem dX0_safe_36 : decode cX0_safe 36 = .ok (.iload_n 2, 1) := dk_28 (dk_at dksX0_safe_1 12 rfl rfl)
theorem dX0_safe_37 : decode cX0_safe 37 = .ok (.aload_n 0, 1) := dk_42 (dk_at dksX0_safe_1 13 rfl rfl)
theorem dX0_safe_38 : decode cX0_safe 38 = .ok (.iload_n 1, 1) := dk_27 (dk_at dksX0_safe_1 14 rfl rfl)
theorem dX0_safe_39 : decode cX0_safe 39 = .ok (.invokevirtual 119, 3) := dk_182 0 119 (dk_at dksX0_safe_1 15 rfl rfl)
theorem dX0_safe_42 : decode cX0_safe 42 = .ok (.iand, 1) := dk_126 (dk_at dksX0_safe_1 18 rfl rfl)
theorem dX0_safe_43 : decode cX0_safe 43 = .ok (.goto 4, 3) := dk_167 0 4 (dk_at dksX0_safe_1 19 rfl rfl)
theorem dX0_safe_46 : decode cX0_safe 46 = .ok (.iload_n 2, 1) := dk_28 (dk_at dksX0_safe_1 22 rfl rfl)
theorem dX0_safe_47 : decode cX0_safe 47 = .ok (.ireturn, 1) := dk_172 (dk_at dksX0_safe_1 23 rfl rfl)
abbrev cX0_reading : ByteArray := prog_1_method_35_code
def yX0_reading : MethodName := ⟨RX0, "reading", "(II)I"⟩
def dkwX0_reading_3 : List UInt8 := [4, 100, 172]
abbrev dktX0_reading_3 : List UInt8 := dkwX0_reading_3 ++ []
def dkwX0_reading_2 : List UInt8 := [187, 0, 182, 89, 27, 28, 183, 0, 184, 185, 0, 84, 2, 0, 87, 42, 180, 0, 28, 185, 0, 62, 1, 0]
abbrev dktX0_reading_2 : List UInt8 := dkwX0_reading_2 ++ dktX0_reading_3
def dkwX0_reading_1 : List UInt8 := [172, 42, 180, 0, 28, 185, 0, 62, 1, 0, 16, 8, 160, 0, 6, 16, 252, 172, 42, 180, 0, 28]
abbrev dktX0_reading_1 : List UInt8 := dkwX0_reading_1 ++ dktX0_reading_2
def dkwX0_reading_0 : List UInt8 := [42, 27, 182, 0, 112, 153, 0, 5, 2, 172, 28, 133, 9, 20, 0, 180, 184, 0, 58, 154, 0, 6, 16, 254]
abbrev dktX0_reading_0 : List UInt8 := dkwX0_reading_0 ++ dktX0_reading_1
theorem dksX0_reading_0 : cX0_reading.data.toList.drop 0 = dktX0_reading_0 := by decide +kernel
theorem dksX0_reading_1 : cX0_reading.data.toList.drop 24 = dktX0_reading_1 := dk_seg dksX0_reading_0 24 rfl rfl
theorem dksX0_reading_2 : cX0_reading.data.toList.drop 46 = dktX0_reading_2 := dk_seg dksX0_reading_1 22 rfl rfl
theorem dksX0_reading_3 : cX0_reading.data.toList.drop 70 = dktX0_reading_3 := dk_seg dksX0_reading_2 24 rfl rfl
theorem dX0_reading_0 : decode cX0_reading 0 = .ok (.aload_n 0, 1) := dk_42 (dk_at dksX0_reading_0 0 rfl rfl)
theorem dX0_reading_1 : decode cX0_reading 1 = .ok (.iload_n 1, 1) := dk_27 (dk_at dksX0_reading_0 1 rfl rfl)
theorem dX0_reading_2 : decode cX0_reading 2 = .ok (.invokevirtual 112, 3) := dk_182 0 112 (dk_at dksX0_reading_0 2 rfl rfl)
theorem dX0_reading_5 : decode cX0_reading 5 = .ok (.ifCond .eq 5, 3) := dk_153 0 5 (dk_at dksX0_reading_0 5 rfl rfl)
theorem dX0_reading_8 : decode cX0_reading 8 = .ok (.iconst (-1), 1) := dk_2 (dk_at dksX0_reading_0 8 rfl rfl)
theorem dX0_reading_9 : decode cX0_reading 9 = .ok (.ireturn, 1) := dk_172 (dk_at dksX0_reading_0 9 rfl rfl)
theorem dX0_reading_10 : decode cX0_reading 10 = .ok (.iload_n 2, 1) := dk_28 (dk_at dksX0_reading_0 10 rfl rfl)
theorem dX0_reading_11 : decode cX0_reading 11 = .ok (.i2l, 1) := dk_133 (dk_at dksX0_reading_0 11 rfl rfl)
theorem dX0_reading_12 : decode cX0_reading 12 = .ok (.lconst 0, 1) := dk_9 (dk_at dksX0_reading_0 12 rfl rfl)
theorem dX0_reading_13 : decode cX0_reading 13 = .ok (.ldc2_w 180, 3) := dk_20 0 180 (dk_at dksX0_reading_0 13 rfl rfl)
theorem dX0_reading_16 : decode cX0_reading 16 = .ok (.invokestatic 58, 3) := dk_184 0 58 (dk_at dksX0_reading_0 16 rfl rfl)
theorem dX0_reading_19 : decode cX0_reading 19 = .ok (.ifCond .ne 6, 3) := dk_154 0 6 (dk_at dksX0_reading_0 19 rfl rfl)
theorem dX0_reading_22 : decode cX0_reading 22 = .ok (.bipush (-2), 2) := dk_16 254 (dk_at dksX0_reading_0 22 rfl rfl)
theorem dX0_reading_24 : decode cX0_reading 24 = .ok (.ireturn, 1) := dk_172 (dk_at dksX0_reading_1 0 rfl rfl)
theorem dX0_reading_25 : decode cX0_reading 25 = .ok (.aload_n 0, 1) := dk_42 (dk_at dksX0_reading_1 1 rfl rfl)
theorem dX0_reading_26 : decode cX0_reading 26 = .ok (.getfield 28, 3) := dk_180 0 28 (dk_at dksX0_reading_1 2 rfl rfl)
theorem dX0_reading_29 : decode cX0_reading 29 = .ok (.invokeinterface 62 1, 5) := by decide +kernel
theorem dX0_reading_34 : decode cX0_reading 34 = .ok (.bipush 8, 2) := dk_16 8 (dk_at dksX0_reading_1 10 rfl rfl)
theorem dX0_reading_36 : decode cX0_reading 36 = .ok (.if_icmp .ne 6, 3) := dk_160 0 6 (dk_at dksX0_reading_1 12 rfl rfl)
theorem dX0_reading_39 : decode cX0_reading 39 = .ok (.bipush (-4), 2) := dk_16 252 (dk_at dksX0_reading_1 15 rfl rfl)
theorem dX0_reading_41 : decode cX0_reading 41 = .ok (.ireturn, 1) := dk_172 (dk_at dksX0_reading_1 17 rfl rfl)
theorem dX0_reading_42 : decode cX0_reading 42 = .ok (.aload_n 0, 1) := dk_42 (dk_at dksX0_reading_1 18 rfl rfl)
theorem dX0_reading_43 : decode cX0_reading 43 = .ok (.getfield 28, 3) := dk_180 0 28 (dk_at dksX0_reading_1 19 rfl rfl)
theorem dX0_reading_46 : decode cX0_reading 46 = .ok (.new 182, 3) := dk_187 0 182 (dk_at dksX0_reading_2 0 rfl rfl)
theorem dX0_reading_49 : decode cX0_reading 49 = .ok (.dup, 1) := dk_89 (dk_at dksX0_reading_2 3 rfl rfl)
theorem dX0_reading_50 : decode cX0_reading 50 = .ok (.iload_n 1, 1) := dk_27 (dk_at dksX0_reading_2 4 rfl rfl)
theorem dX0_reading_51 : decode cX0_reading 51 = .ok (.iload_n 2, 1) := dk_28 (dk_at dksX0_reading_2 5 rfl rfl)
theorem dX0_reading_52 : decode cX0_reading 52 = .ok (.invokespecial 184, 3) := dk_183 0 184 (dk_at dksX0_reading_2 6 rfl rfl)
theorem dX0_reading_55 : decode cX0_reading 55 = .ok (.invokeinterface 84 2, 5) := by decide +kernel
theorem dX0_reading_60 : decode cX0_reading 60 = .ok (.pop, 1) := dk_87 (dk_at dksX0_reading_2 14 rfl rfl)
theorem dX0_reading_61 : decode cX0_reading 61 = .ok (.aload_n 0, 1) := dk_42 (dk_at dksX0_reading_2 15 rfl rfl)
theorem dX0_reading_62 : decode cX0_reading 62 = .ok (.getfield 28, 3) := dk_180 0 28 (dk_at dksX0_reading_2 16 rfl rfl)
theorem dX0_reading_65 : decode cX0_reading 65 = .ok (.invokeinterface 62 1, 5) := by decide +kernel
theorem dX0_reading_70 : decode cX0_reading 70 = .ok (.iconst 1, 1) := dk_4 (dk_at dksX0_reading_3 0 rfl rfl)
theorem dX0_reading_71 : decode cX0_reading 71 = .ok (.isub, 1) := dk_100 (dk_at dksX0_reading_3 1 rfl rfl)
theorem dX0_reading_72 : decode cX0_reading 72 = .ok (.ireturn, 1) := dk_172 (dk_at dksX0_reading_3 2 rfl rfl)
abbrev cX0_back : ByteArray := prog_1_method_36_code
def yX0_back : MethodName := ⟨RX0, "back", "(I)I"⟩
def dkwX0_back_2 : List UInt8 := [185, 0, 187, 2, 0, 87, 132, 2, 1, 167, 255, 227, 42, 180, 0, 28, 185, 0, 62, 1, 0, 172]
abbrev dktX0_back_2 : List UInt8 := dkwX0_back_2 ++ []
def dkwX0_back_1 : List UInt8 := [28, 27, 162, 0, 30, 42, 180, 0, 28, 42, 180, 0, 28, 185, 0, 62, 1, 0, 4, 100]
abbrev dktX0_back_1 : List UInt8 := dkwX0_back_1 ++ dktX0_back_2
def dkwX0_back_0 : List UInt8 := [27, 133, 9, 42, 180, 0, 28, 185, 0, 62, 1, 0, 133, 184, 0, 58, 154, 0, 6, 16, 254, 172, 3, 61]
abbrev dktX0_back_0 : List UInt8 := dkwX0_back_0 ++ dktX0_back_1
theorem dksX0_back_0 : cX0_back.data.toList.drop 0 = dktX0_back_0 := by decide +kernel
theorem dksX0_back_1 : cX0_back.data.toList.drop 24 = dktX0_back_1 := dk_seg dksX0_back_0 24 rfl rfl
theorem dksX0_back_2 : cX0_back.data.toList.drop 44 = dktX0_back_2 := dk_seg dksX0_back_1 20 rfl rfl
theorem dX0_back_0 : decode cX0_back 0 = .ok (.iload_n 1, 1) := dk_27 (dk_at dksX0_back_0 0 rfl rfl)
theorem dX0_back_1 : decode cX0_back 1 = .ok (.i2l, 1) := dk_133 (dk_at dksX0_back_0 1 rfl rfl)
theorem dX0_back_2 : decode cX0_back 2 = .ok (.lconst 0, 1) := dk_9 (dk_at dksX0_back_0 2 rfl rfl)
theorem dX0_back_3 : decode cX0_back 3 = .ok (.aload_n 0, 1) := dk_42 (dk_at dksX0_back_0 3 rfl rfl)
theorem dX0_back_4 : decode cX0_back 4 = .ok (.getfield 28, 3) := dk_180 0 28 (dk_at dksX0_back_0 4 rfl rfl)
theorem dX0_back_7 : decode cX0_back 7 = .ok (.invokeinterface 62 1, 5) := by decide +kernel
theorem dX0_back_12 : decode cX0_back 12 = .ok (.i2l, 1) := dk_133 (dk_at dksX0_back_0 12 rfl rfl)
theorem dX0_back_13 : decode cX0_back 13 = .ok (.invokestatic 58, 3) := dk_184 0 58 (dk_at dksX0_back_0 13 rfl rfl)
theorem dX0_back_16 : decode cX0_back 16 = .ok (.ifCond .ne 6, 3) := dk_154 0 6 (dk_at dksX0_back_0 16 rfl rfl)
theorem dX0_back_19 : decode cX0_back 19 = .ok (.bipush (-2), 2) := dk_16 254 (dk_at dksX0_back_0 19 rfl rfl)
theorem dX0_back_21 : decode cX0_back 21 = .ok (.ireturn, 1) := dk_172 (dk_at dksX0_back_0 21 rfl rfl)
theorem dX0_back_22 : decode cX0_back 22 = .ok (.iconst 0, 1) := dk_3 (dk_at dksX0_back_0 22 rfl rfl)
theorem dX0_back_23 : decode cX0_back 23 = .ok (.istore_n 2, 1) := dk_61 (dk_at dksX0_back_0 23 rfl rfl)
theorem dX0_back_24 : decode cX0_back 24 = .ok (.iload_n 2, 1) := dk_28 (dk_at dksX0_back_1 0 rfl rfl)
theorem dX0_back_25 : decode cX0_back 25 = .ok (.iload_n 1, 1) := dk_27 (dk_at dksX0_back_1 1 rfl rfl)
theorem dX0_back_26 : decode cX0_back 26 = .ok (.if_icmp .ge 30, 3) := dk_162 0 30 (dk_at dksX0_back_1 2 rfl rfl)
theorem dX0_back_29 : decode cX0_back 29 = .ok (.aload_n 0, 1) := dk_42 (dk_at dksX0_back_1 5 rfl rfl)
theorem dX0_back_30 : decode cX0_back 30 = .ok (.getfield 28, 3) := dk_180 0 28 (dk_at dksX0_back_1 6 rfl rfl)
theorem dX0_back_33 : decode cX0_back 33 = .ok (.aload_n 0, 1) := dk_42 (dk_at dksX0_back_1 9 rfl rfl)
theorem dX0_back_34 : decode cX0_back 34 = .ok (.getfield 28, 3) := dk_180 0 28 (dk_at dksX0_back_1 10 rfl rfl)
theorem dX0_back_37 : decode cX0_back 37 = .ok (.invokeinterface 62 1, 5) := by decide +kernel
theorem dX0_back_42 : decode cX0_back 42 = .ok (.iconst 1, 1) := dk_4 (dk_at dksX0_back_1 18 rfl rfl)
theorem dX0_back_43 : decode cX0_back 43 = .ok (.isub, 1) := dk_100 (dk_at dksX0_back_1 19 rfl rfl)
theorem dX0_back_44 : decode cX0_back 44 = .ok (.invokeinterface 187 2, 5) := by decide +kernel
theorem dX0_back_49 : decode cX0_back 49 = .ok (.pop, 1) := dk_87 (dk_at dksX0_back_2 5 rfl rfl)
theorem dX0_back_50 : decode cX0_back 50 = .ok (.iinc 2 1, 3) := dk_132 2 1 (dk_at dksX0_back_2 6 rfl rfl)
theorem dX0_back_53 : decode cX0_back 53 = .ok (.goto (-29), 3) := dk_167 255 227 (dk_at dksX0_back_2 9 rfl rfl)
theorem dX0_back_56 : decode cX0_back 56 = .ok (.aload_n 0, 1) := dk_42 (dk_at dksX0_back_2 12 rfl rfl)
theorem dX0_back_57 : decode cX0_back 57 = .ok (.getfield 28, 3) := dk_180 0 28 (dk_at dksX0_back_2 13 rfl rfl)
theorem dX0_back_60 : decode cX0_back 60 = .ok (.invokeinterface 62 1, 5) := by decide +kernel
theorem dX0_back_65 : decode cX0_back 65 = .ok (.ireturn, 1) := dk_172 (dk_at dksX0_back_2 21 rfl rfl)
abbrev cX0_odds : ByteArray := prog_1_method_42_code
def yX0_odds : MethodName := ⟨RX0, "odds", "(III)J"⟩
def dkwX0_odds_4 : List UInt8 := [154, 0, 8, 21, 6, 167, 0, 5, 21, 5, 133, 21, 5, 133, 21, 6, 133, 184, 0, 204, 109, 173]
abbrev dktX0_odds_4 : List UInt8 := dkwX0_odds_4 ++ []
def dkwX0_odds_3 : List UInt8 := [21, 7, 182, 0, 108, 28, 161, 0, 7, 4, 167, 0, 4, 3, 96, 54, 6, 132, 7, 1, 167, 255, 208, 29]
abbrev dktX0_odds_3 : List UInt8 := dkwX0_odds_3 ++ dktX0_odds_4
def dkwX0_odds_2 : List UInt8 := [180, 0, 54, 120, 162, 0, 43, 21, 7, 21, 4, 2, 130, 126, 154, 0, 27, 132, 5, 1, 21, 6, 42, 27]
abbrev dktX0_odds_2 : List UInt8 := dkwX0_odds_2 ++ dktX0_odds_3
def dkwX0_odds_1 : List UInt8 := [20, 0, 208, 173, 42, 27, 182, 0, 119, 54, 4, 3, 54, 5, 3, 54, 6, 3, 54, 7, 21, 7, 4, 42]
abbrev dktX0_odds_1 : List UInt8 := dkwX0_odds_1 ++ dktX0_odds_2
def dkwX0_odds_0 : List UInt8 := [42, 27, 182, 0, 112, 154, 0, 17, 28, 155, 0, 13, 29, 133, 9, 10, 184, 0, 58, 154, 0, 7]
abbrev dktX0_odds_0 : List UInt8 := dkwX0_odds_0 ++ dktX0_odds_1
theorem dksX0_odds_0 : cX0_odds.data.toList.drop 0 = dktX0_odds_0 := by decide +kernel
theorem dksX0_odds_1 : cX0_odds.data.toList.drop 22 = dktX0_odds_1 := dk_seg dksX0_odds_0 22 rfl rfl
theorem dksX0_odds_2 : cX0_odds.data.toList.drop 46 = dktX0_odds_2 := dk_seg dksX0_odds_1 24 rfl rfl
theorem dksX0_odds_3 : cX0_odds.data.toList.drop 70 = dktX0_odds_3 := dk_seg dksX0_odds_2 24 rfl rfl
theorem dksX0_odds_4 : cX0_odds.data.toList.drop 94 = dktX0_odds_4 := dk_seg dksX0_odds_3 24 rfl rfl
theorem dX0_odds_0 : decode cX0_odds 0 = .ok (.aload_n 0, 1) := dk_42 (dk_at dksX0_odds_0 0 rfl rfl)
theorem dX0_odds_1 : decode cX0_odds 1 = .ok (.iload_n 1, 1) := dk_27 (dk_at dksX0_odds_0 1 rfl rfl)
theorem dX0_odds_2 : decode cX0_odds 2 = .ok (.invokevirtual 112, 3) := dk_182 0 112 (dk_at dksX0_odds_0 2 rfl rfl)
theorem dX0_odds_5 : decode cX0_odds 5 = .ok (.ifCond .ne 17, 3) := dk_154 0 17 (dk_at dksX0_odds_0 5 rfl rfl)
theorem dX0_odds_8 : decode cX0_odds 8 = .ok (.iload_n 2, 1) := dk_28 (dk_at dksX0_odds_0 8 rfl rfl)
theorem dX0_odds_9 : decode cX0_odds 9 = .ok (.ifCond .lt 13, 3) := dk_155 0 13 (dk_at dksX0_odds_0 9 rfl rfl)
theorem dX0_odds_12 : decode cX0_odds 12 = .ok (.iload_n 3, 1) := dk_29 (dk_at dksX0_odds_0 12 rfl rfl)
theorem dX0_odds_13 : decode cX0_odds 13 = .ok (.i2l, 1) := dk_133 (dk_at dksX0_odds_0 13 rfl rfl)
theorem dX0_odds_14 : decode cX0_odds 14 = .ok (.lconst 0, 1) := dk_9 (dk_at dksX0_odds_0 14 rfl rfl)
theorem dX0_odds_15 : decode cX0_odds 15 = .ok (.lconst 1, 1) := dk_10 (dk_at dksX0_odds_0 15 rfl rfl)
theorem dX0_odds_16 : decode cX0_odds 16 = .ok (.invokestatic 58, 3) := dk_184 0 58 (dk_at dksX0_odds_0 16 rfl rfl)
theorem dX0_odds_19 : decode cX0_odds 19 = .ok (.ifCond .ne 7, 3) := dk_154 0 7 (dk_at dksX0_odds_0 19 rfl rfl)
theorem dX0_odds_22 : decode cX0_odds 22 = .ok (.ldc2_w 208, 3) := dk_20 0 208 (dk_at dksX0_odds_1 0 rfl rfl)
theorem dX0_odds_25 : decode cX0_odds 25 = .ok (.lreturn, 1) := dk_173 (dk_at dksX0_odds_1 3 rfl rfl)
theorem dX0_odds_26 : decode cX0_odds 26 = .ok (.aload_n 0, 1) := dk_42 (dk_at dksX0_odds_1 4 rfl rfl)
theorem dX0_odds_27 : decode cX0_odds 27 = .ok (.iload_n 1, 1) := dk_27 (dk_at dksX0_odds_1 5 rfl rfl)
theorem dX0_odds_28 : decode cX0_odds 28 = .ok (.invokevirtual 119, 3) := dk_182 0 119 (dk_at dksX0_odds_1 6 rfl rfl)
theorem dX0_odds_31 : decode cX0_odds 31 = .ok (.istore 4, 2) := dk_54 4 (dk_at dksX0_odds_1 9 rfl rfl)
theorem dX0_odds_33 : decode cX0_odds 33 = .ok (.iconst 0, 1) := dk_3 (dk_at dksX0_odds_1 11 rfl rfl)
theorem dX0_odds_34 : decode cX0_odds 34 = .ok (.istore 5, 2) := dk_54 5 (dk_at dksX0_odds_1 12 rfl rfl)
theorem dX0_odds_36 : decode cX0_odds 36 = .ok (.iconst 0, 1) := dk_3 (dk_at dksX0_odds_1 14 rfl rfl)
theorem dX0_odds_37 : decode cX0_odds 37 = .ok (.istore 6, 2) := dk_54 6 (dk_at dksX0_odds_1 15 rfl rfl)
theorem dX0_odds_39 : decode cX0_odds 39 = .ok (.iconst 0, 1) := dk_3 (dk_at dksX0_odds_1 17 rfl rfl)
theorem dX0_odds_40 : decode cX0_odds 40 = .ok (.istore 7, 2) := dk_54 7 (dk_at dksX0_odds_1 18 rfl rfl)
theorem dX0_odds_42 : decode cX0_odds 42 = .ok (.iload 7, 2) := dk_21 7 (dk_at dksX0_odds_1 20 rfl rfl)
theorem dX0_odds_44 : decode cX0_odds 44 = .ok (.iconst 1, 1) := dk_4 (dk_at dksX0_odds_1 22 rfl rfl)
theorem dX0_odds_45 : decode cX0_odds 45 = .ok (.aload_n 0, 1) := dk_42 (dk_at dksX0_odds_1 23 rfl rfl)
theorem dX0_odds_46 : decode cX0_odds 46 = .ok (.getfield 54, 3) := dk_180 0 54 (dk_at dksX0_odds_2 0 rfl rfl)
theorem dX0_odds_49 : decode cX0_odds 49 = .ok (.ishl, 1) := dk_120 (dk_at dksX0_odds_2 3 rfl rfl)
theorem dX0_odds_50 : decode cX0_odds 50 = .ok (.if_icmp .ge 43, 3) := dk_162 0 43 (dk_at dksX0_odds_2 4 rfl rfl)
theorem dX0_odds_53 : decode cX0_odds 53 = .ok (.iload 7, 2) := dk_21 7 (dk_at dksX0_odds_2 7 rfl rfl)
theorem dX0_odds_55 : decode cX0_odds 55 = .ok (.iload 4, 2) := dk_21 4 (dk_at dksX0_odds_2 9 rfl rfl)
theorem dX0_odds_57 : decode cX0_odds 57 = .ok (.iconst (-1), 1) := dk_2 (dk_at dksX0_odds_2 11 rfl rfl)
theorem dX0_odds_58 : decode cX0_odds 58 = .ok (.ixor, 1) := dk_130 (dk_at dksX0_odds_2 12 rfl rfl)
theorem dX0_odds_59 : decode cX0_odds 59 = .ok (.iand, 1) := dk_126 (dk_at dksX0_odds_2 13 rfl rfl)
theorem dX0_odds_60 : decode cX0_odds 60 = .ok (.ifCond .ne 27, 3) := dk_154 0 27 (dk_at dksX0_odds_2 14 rfl rfl)
theorem dX0_odds_63 : decode cX0_odds 63 = .ok (.iinc 5 1, 3) := dk_132 5 1 (dk_at dksX0_odds_2 17 rfl rfl)
theorem dX0_odds_66 : decode cX0_odds 66 = .ok (.iload 6, 2) := dk_21 6 (dk_at dksX0_odds_2 20 rfl rfl)
theorem dX0_odds_68 : decode cX0_odds 68 = .ok (.aload_n 0, 1) := dk_42 (dk_at dksX0_odds_2 22 rfl rfl)
theorem dX0_odds_69 : decode cX0_odds 69 = .ok (.iload_n 1, 1) := dk_27 (dk_at dksX0_odds_2 23 rfl rfl)
theorem dX0_odds_70 : decode cX0_odds 70 = .ok (.iload 7, 2) := dk_21 7 (dk_at dksX0_odds_3 0 rfl rfl)
theorem dX0_odds_72 : decode cX0_odds 72 = .ok (.invokevirtual 108, 3) := dk_182 0 108 (dk_at dksX0_odds_3 2 rfl rfl)
theorem dX0_odds_75 : decode cX0_odds 75 = .ok (.iload_n 2, 1) := dk_28 (dk_at dksX0_odds_3 5 rfl rfl)
theorem dX0_odds_76 : decode cX0_odds 76 = .ok (.if_icmp .lt 7, 3) := dk_161 0 7 (dk_at dksX0_odds_3 6 rfl rfl)
theorem dX0_odds_79 : decode cX0_odds 79 = .ok (.iconst 1, 1) := dk_4 (dk_at dksX0_odds_3 9 rfl rfl)
theorem dX0_odds_80 : decode cX0_odds 80 = .ok (.goto 4, 3) := dk_167 0 4 (dk_at dksX0_odds_3 10 rfl rfl)
theorem dX0_odds_83 : decode cX0_odds 83 = .ok (.iconst 0, 1) := dk_3 (dk_at dksX0_odds_3 13 rfl rfl)
theorem dX0_odds_84 : decode cX0_odds 84 = .ok (.iadd, 1) := dk_96 (dk_at dksX0_odds_3 14 rfl rfl)
theorem dX0_odds_85 : decode cX0_odds 85 = .ok (.istore 6, 2) := dk_54 6 (dk_at dksX0_odds_3 15 rfl rfl)
theorem dX0_odds_87 : decode cX0_odds 87 = .ok (.iinc 7 1, 3) := dk_132 7 1 (dk_at dksX0_odds_3 17 rfl rfl)
theorem dX0_odds_90 : decode cX0_odds 90 = .ok (.goto (-48), 3) := dk_167 255 208 (dk_at dksX0_odds_3 20 rfl rfl)
theorem dX0_odds_93 : decode cX0_odds 93 = .ok (.iload_n 3, 1) := dk_29 (dk_at dksX0_odds_3 23 rfl rfl)
theorem dX0_odds_94 : decode cX0_odds 94 = .ok (.ifCond .ne 8, 3) := dk_154 0 8 (dk_at dksX0_odds_4 0 rfl rfl)
theorem dX0_odds_97 : decode cX0_odds 97 = .ok (.iload 6, 2) := dk_21 6 (dk_at dksX0_odds_4 3 rfl rfl)
theorem dX0_odds_99 : decode cX0_odds 99 = .ok (.goto 5, 3) := dk_167 0 5 (dk_at dksX0_odds_4 5 rfl rfl)
theorem dX0_odds_102 : decode cX0_odds 102 = .ok (.iload 5, 2) := dk_21 5 (dk_at dksX0_odds_4 8 rfl rfl)
theorem dX0_odds_104 : decode cX0_odds 104 = .ok (.i2l, 1) := dk_133 (dk_at dksX0_odds_4 10 rfl rfl)
theorem dX0_odds_105 : decode cX0_odds 105 = .ok (.iload 5, 2) := dk_21 5 (dk_at dksX0_odds_4 11 rfl rfl)
theorem dX0_odds_107 : decode cX0_odds 107 = .ok (.i2l, 1) := dk_133 (dk_at dksX0_odds_4 13 rfl rfl)
theorem dX0_odds_108 : decode cX0_odds 108 = .ok (.iload 6, 2) := dk_21 6 (dk_at dksX0_odds_4 14 rfl rfl)
theorem dX0_odds_110 : decode cX0_odds 110 = .ok (.i2l, 1) := dk_133 (dk_at dksX0_odds_4 16 rfl rfl)
theorem dX0_odds_111 : decode cX0_odds 111 = .ok (.invokestatic 204, 3) := dk_184 0 204 (dk_at dksX0_odds_4 17 rfl rfl)
theorem dX0_odds_114 : decode cX0_odds 114 = .ok (.ldiv, 1) := dk_109 (dk_at dksX0_odds_4 20 rfl rfl)
theorem dX0_odds_115 : decode cX0_odds 115 = .ok (.lreturn, 1) := dk_173 (dk_at dksX0_odds_4 21 rfl rfl)
abbrev cX0_greatest : ByteArray := prog_1_method_41_code
def yX0_greatest : MethodName := ⟨RX0, "greatest", "(JJ)J"⟩
def dkwX0_greatest_0 : List UInt8 := [32, 9, 148, 154, 0, 7, 30, 167, 0, 10, 32, 30, 32, 113, 184, 0, 204, 173]
abbrev dktX0_greatest_0 : List UInt8 := dkwX0_greatest_0 ++ []
theorem dksX0_greatest_0 : cX0_greatest.data.toList.drop 0 = dktX0_greatest_0 := by decide +kernel
theorem dX0_greatest_0 : decode cX0_greatest 0 = .ok (.lload_n 2, 1) := dk_32 (dk_at dksX0_greatest_0 0 rfl rfl)
theorem dX0_greatest_1 : decode cX0_greatest 1 = .ok (.lconst 0, 1) := dk_9 (dk_at dksX0_greatest_0 1 rfl rfl)
theorem dX0_greatest_2 : decode cX0_greatest 2 = .ok (.lcmp, 1) := dk_148 (dk_at dksX0_greatest_0 2 rfl rfl)
theorem dX0_greatest_3 : decode cX0_greatest 3 = .ok (.ifCond .ne 7, 3) := dk_154 0 7 (dk_at dksX0_greatest_0 3 rfl rfl)
theorem dX0_greatest_6 : decode cX0_greatest 6 = .ok (.lload_n 0, 1) := dk_30 (dk_at dksX0_greatest_0 6 rfl rfl)
theorem dX0_greatest_7 : decode cX0_greatest 7 = .ok (.goto 10, 3) := dk_167 0 10 (dk_at dksX0_greatest_0 7 rfl rfl)
theorem dX0_greatest_10 : decode cX0_greatest 10 = .ok (.lload_n 2, 1) := dk_32 (dk_at dksX0_greatest_0 10 rfl rfl)
theorem dX0_greatest_11 : decode cX0_greatest 11 = .ok (.lload_n 0, 1) := dk_30 (dk_at dksX0_greatest_0 11 rfl rfl)
theorem dX0_greatest_12 : decode cX0_greatest 12 = .ok (.lload_n 2, 1) := dk_32 (dk_at dksX0_greatest_0 12 rfl rfl)
theorem dX0_greatest_13 : decode cX0_greatest 13 = .ok (.lrem, 1) := dk_113 (dk_at dksX0_greatest_0 13 rfl rfl)
theorem dX0_greatest_14 : decode cX0_greatest 14 = .ok (.invokestatic 204, 3) := dk_184 0 204 (dk_at dksX0_greatest_0 14 rfl rfl)
theorem dX0_greatest_17 : decode cX0_greatest 17 = .ok (.lreturn, 1) := dk_173 (dk_at dksX0_greatest_0 17 rfl rfl)
abbrev cX0_sheet : ByteArray := prog_1_method_52_code
def yX0_sheet : MethodName := ⟨RX0, "sheet", "(III)I"⟩
def dkwX0_sheet_3 : List UInt8 := [182, 0, 241, 172]
abbrev dktX0_sheet_3 : List UInt8 := dkwX0_sheet_3 ++ []
def dkwX0_sheet_2 : List UInt8 := [180, 0, 33, 27, 187, 0, 31, 89, 28, 29, 184, 0, 232, 183, 0, 236, 83, 4, 172, 58, 4, 42, 7]
abbrev dktX0_sheet_2 : List UInt8 := dkwX0_sheet_2 ++ dktX0_sheet_3
def dkwX0_sheet_1 : List UInt8 := [153, 0, 9, 29, 16, 60, 164, 0, 10, 42, 16, 254, 182, 0, 227, 172, 42, 3, 181, 0, 210, 42]
abbrev dktX0_sheet_1 : List UInt8 := dkwX0_sheet_1 ++ dktX0_sheet_2
def dkwX0_sheet_0 : List UInt8 := [27, 184, 0, 224, 153, 0, 9, 42, 2, 182, 0, 227, 172, 28, 133, 9, 20, 0, 230, 184, 0, 58]
abbrev dktX0_sheet_0 : List UInt8 := dkwX0_sheet_0 ++ dktX0_sheet_1
theorem dksX0_sheet_0 : cX0_sheet.data.toList.drop 0 = dktX0_sheet_0 := by decide +kernel
theorem dksX0_sheet_1 : cX0_sheet.data.toList.drop 22 = dktX0_sheet_1 := dk_seg dksX0_sheet_0 22 rfl rfl
theorem dksX0_sheet_2 : cX0_sheet.data.toList.drop 44 = dktX0_sheet_2 := dk_seg dksX0_sheet_1 22 rfl rfl
theorem dksX0_sheet_3 : cX0_sheet.data.toList.drop 67 = dktX0_sheet_3 := dk_seg dksX0_sheet_2 23 rfl rfl
theorem dX0_sheet_0 : decode cX0_sheet 0 = .ok (.iload_n 1, 1) := dk_27 (dk_at dksX0_sheet_0 0 rfl rfl)
theorem dX0_sheet_1 : decode cX0_sheet 1 = .ok (.invokestatic 224, 3) := dk_184 0 224 (dk_at dksX0_sheet_0 1 rfl rfl)
theorem dX0_sheet_4 : decode cX0_sheet 4 = .ok (.ifCond .eq 9, 3) := dk_153 0 9 (dk_at dksX0_sheet_0 4 rfl rfl)
theorem dX0_sheet_7 : decode cX0_sheet 7 = .ok (.aload_n 0, 1) := dk_42 (dk_at dksX0_sheet_0 7 rfl rfl)
theorem dX0_sheet_8 : decode cX0_sheet 8 = .ok (.iconst (-1), 1) := dk_2 (dk_at dksX0_sheet_0 8 rfl rfl)
theorem dX0_sheet_9 : decode cX0_sheet 9 = .ok (.invokevirtual 227, 3) := dk_182 0 227 (dk_at dksX0_sheet_0 9 rfl rfl)
theorem dX0_sheet_12 : decode cX0_sheet 12 = .ok (.ireturn, 1) := dk_172 (dk_at dksX0_sheet_0 12 rfl rfl)
theorem dX0_sheet_13 : decode cX0_sheet 13 = .ok (.iload_n 2, 1) := dk_28 (dk_at dksX0_sheet_0 13 rfl rfl)
theorem dX0_sheet_14 : decode cX0_sheet 14 = .ok (.i2l, 1) := dk_133 (dk_at dksX0_sheet_0 14 rfl rfl)
theorem dX0_sheet_15 : decode cX0_sheet 15 = .ok (.lconst 0, 1) := dk_9 (dk_at dksX0_sheet_0 15 rfl rfl)
theorem dX0_sheet_16 : decode cX0_sheet 16 = .ok (.ldc2_w 230, 3) := dk_20 0 230 (dk_at dksX0_sheet_0 16 rfl rfl)
theorem dX0_sheet_19 : decode cX0_sheet 19 = .ok (.invokestatic 58, 3) := dk_184 0 58 (dk_at dksX0_sheet_0 19 rfl rfl)
theorem dX0_sheet_22 : decode cX0_sheet 22 = .ok (.ifCond .eq 9, 3) := dk_153 0 9 (dk_at dksX0_sheet_1 0 rfl rfl)
theorem dX0_sheet_25 : decode cX0_sheet 25 = .ok (.iload_n 3, 1) := dk_29 (dk_at dksX0_sheet_1 3 rfl rfl)
theorem dX0_sheet_26 : decode cX0_sheet 26 = .ok (.bipush 60, 2) := dk_16 60 (dk_at dksX0_sheet_1 4 rfl rfl)
theorem dX0_sheet_28 : decode cX0_sheet 28 = .ok (.if_icmp .le 10, 3) := dk_164 0 10 (dk_at dksX0_sheet_1 6 rfl rfl)
theorem dX0_sheet_31 : decode cX0_sheet 31 = .ok (.aload_n 0, 1) := dk_42 (dk_at dksX0_sheet_1 9 rfl rfl)
theorem dX0_sheet_32 : decode cX0_sheet 32 = .ok (.bipush (-2), 2) := dk_16 254 (dk_at dksX0_sheet_1 10 rfl rfl)
theorem dX0_sheet_34 : decode cX0_sheet 34 = .ok (.invokevirtual 227, 3) := dk_182 0 227 (dk_at dksX0_sheet_1 12 rfl rfl)
theorem dX0_sheet_37 : decode cX0_sheet 37 = .ok (.ireturn, 1) := dk_172 (dk_at dksX0_sheet_1 15 rfl rfl)
theorem dX0_sheet_38 : decode cX0_sheet 38 = .ok (.aload_n 0, 1) := dk_42 (dk_at dksX0_sheet_1 16 rfl rfl)
theorem dX0_sheet_39 : decode cX0_sheet 39 = .ok (.iconst 0, 1) := dk_3 (dk_at dksX0_sheet_1 17 rfl rfl)
theorem dX0_sheet_40 : decode cX0_sheet 40 = .ok (.putfield 210, 3) := dk_181 0 210 (dk_at dksX0_sheet_1 18 rfl rfl)
theorem dX0_sheet_43 : decode cX0_sheet 43 = .ok (.aload_n 0, 1) := dk_42 (dk_at dksX0_sheet_1 21 rfl rfl)
theorem dX0_sheet_44 : decode cX0_sheet 44 = .ok (.getfield 33, 3) := dk_180 0 33 (dk_at dksX0_sheet_2 0 rfl rfl)
theorem dX0_sheet_47 : decode cX0_sheet 47 = .ok (.iload_n 1, 1) := dk_27 (dk_at dksX0_sheet_2 3 rfl rfl)
theorem dX0_sheet_48 : decode cX0_sheet 48 = .ok (.new 31, 3) := dk_187 0 31 (dk_at dksX0_sheet_2 4 rfl rfl)
theorem dX0_sheet_51 : decode cX0_sheet 51 = .ok (.dup, 1) := dk_89 (dk_at dksX0_sheet_2 7 rfl rfl)
theorem dX0_sheet_52 : decode cX0_sheet 52 = .ok (.iload_n 2, 1) := dk_28 (dk_at dksX0_sheet_2 8 rfl rfl)
theorem dX0_sheet_53 : decode cX0_sheet 53 = .ok (.iload_n 3, 1) := dk_29 (dk_at dksX0_sheet_2 9 rfl rfl)
theorem dX0_sheet_54 : decode cX0_sheet 54 = .ok (.invokestatic 232, 3) := dk_184 0 232 (dk_at dksX0_sheet_2 10 rfl rfl)
theorem dX0_sheet_57 : decode cX0_sheet 57 = .ok (.invokespecial 236, 3) := dk_183 0 236 (dk_at dksX0_sheet_2 13 rfl rfl)
theorem dX0_sheet_60 : decode cX0_sheet 60 = .ok (.aastore, 1) := dk_83 (dk_at dksX0_sheet_2 16 rfl rfl)
theorem dX0_sheet_61 : decode cX0_sheet 61 = .ok (.iconst 1, 1) := dk_4 (dk_at dksX0_sheet_2 17 rfl rfl)
theorem dX0_sheet_62 : decode cX0_sheet 62 = .ok (.ireturn, 1) := dk_172 (dk_at dksX0_sheet_2 18 rfl rfl)
theorem dX0_sheet_63 : decode cX0_sheet 63 = .ok (.astore 4, 2) := dk_58 4 (dk_at dksX0_sheet_2 19 rfl rfl)
theorem dX0_sheet_65 : decode cX0_sheet 65 = .ok (.aload_n 0, 1) := dk_42 (dk_at dksX0_sheet_2 21 rfl rfl)
theorem dX0_sheet_66 : decode cX0_sheet 66 = .ok (.iconst 4, 1) := dk_7 (dk_at dksX0_sheet_2 22 rfl rfl)
theorem dX0_sheet_67 : decode cX0_sheet 67 = .ok (.invokevirtual 241, 3) := dk_182 0 241 (dk_at dksX0_sheet_3 0 rfl rfl)
theorem dX0_sheet_70 : decode cX0_sheet 70 = .ok (.ireturn, 1) := dk_172 (dk_at dksX0_sheet_3 3 rfl rfl)
abbrev cX0_noSheet : ByteArray := prog_1_method_50_code
def yX0_noSheet : MethodName := ⟨RX0, "noSheet", "(I)Z"⟩
def dkwX0_noSheet_0 : List UInt8 := [26, 133, 9, 20, 0, 218, 184, 0, 58, 154, 0, 7, 4, 167, 0, 4, 3, 172]
abbrev dktX0_noSheet_0 : List UInt8 := dkwX0_noSheet_0 ++ []
theorem dksX0_noSheet_0 : cX0_noSheet.data.toList.drop 0 = dktX0_noSheet_0 := by decide +kernel
theorem dX0_noSheet_0 : decode cX0_noSheet 0 = .ok (.iload_n 0, 1) := dk_26 (dk_at dksX0_noSheet_0 0 rfl rfl)
theorem dX0_noSheet_1 : decode cX0_noSheet 1 = .ok (.i2l, 1) := dk_133 (dk_at dksX0_noSheet_0 1 rfl rfl)
theorem dX0_noSheet_2 : decode cX0_noSheet 2 = .ok (.lconst 0, 1) := dk_9 (dk_at dksX0_noSheet_0 2 rfl rfl)
theorem dX0_noSheet_3 : decode cX0_noSheet 3 = .ok (.ldc2_w 218, 3) := dk_20 0 218 (dk_at dksX0_noSheet_0 3 rfl rfl)
theorem dX0_noSheet_6 : decode cX0_noSheet 6 = .ok (.invokestatic 58, 3) := dk_184 0 58 (dk_at dksX0_noSheet_0 6 rfl rfl)
theorem dX0_noSheet_9 : decode cX0_noSheet 9 = .ok (.ifCond .ne 7, 3) := dk_154 0 7 (dk_at dksX0_noSheet_0 9 rfl rfl)
theorem dX0_noSheet_12 : decode cX0_noSheet 12 = .ok (.iconst 1, 1) := dk_4 (dk_at dksX0_noSheet_0 12 rfl rfl)
theorem dX0_noSheet_13 : decode cX0_noSheet 13 = .ok (.goto 4, 3) := dk_167 0 4 (dk_at dksX0_noSheet_0 13 rfl rfl)
theorem dX0_noSheet_16 : decode cX0_noSheet 16 = .ok (.iconst 0, 1) := dk_3 (dk_at dksX0_noSheet_0 16 rfl rfl)
theorem dX0_noSheet_17 : decode cX0_noSheet 17 = .ok (.ireturn, 1) := dk_172 (dk_at dksX0_noSheet_0 17 rfl rfl)
abbrev cX0_refused : ByteArray := prog_1_method_43_code
def yX0_refused : MethodName := ⟨RX0, "refused", "(I)I"⟩
def dkwX0_refused_0 : List UInt8 := [42, 3, 181, 0, 210, 27, 172]
abbrev dktX0_refused_0 : List UInt8 := dkwX0_refused_0 ++ []
theorem dksX0_refused_0 : cX0_refused.data.toList.drop 0 = dktX0_refused_0 := by decide +kernel
theorem dX0_refused_0 : decode cX0_refused 0 = .ok (.aload_n 0, 1) := dk_42 (dk_at dksX0_refused_0 0 rfl rfl)
theorem dX0_refused_1 : decode cX0_refused 1 = .ok (.iconst 0, 1) := dk_3 (dk_at dksX0_refused_0 1 rfl rfl)
theorem dX0_refused_2 : decode cX0_refused 2 = .ok (.putfield 210, 3) := dk_181 0 210 (dk_at dksX0_refused_0 2 rfl rfl)
theorem dX0_refused_5 : decode cX0_refused 5 = .ok (.iload_n 1, 1) := dk_27 (dk_at dksX0_refused_0 5 rfl rfl)
theorem dX0_refused_6 : decode cX0_refused 6 = .ok (.ireturn, 1) := dk_172 (dk_at dksX0_refused_0 6 rfl rfl)
abbrev cX0_rowOf : ByteArray := prog_1_method_46_code
def yX0_rowOf : MethodName := ⟨RX0, "rowOf", "(II)Ljava/lang/Object;"⟩
def dkwX0_rowOf_1 : List UInt8 := [176]
abbrev dktX0_rowOf_1 : List UInt8 := dkwX0_rowOf_1 ++ []
def dkwX0_rowOf_0 : List UInt8 := [26, 154, 0, 9, 27, 188, 8, 167, 0, 17, 26, 4, 160, 0, 9, 27, 188, 9, 167, 0, 6, 27, 188, 10]
abbrev dktX0_rowOf_0 : List UInt8 := dkwX0_rowOf_0 ++ dktX0_rowOf_1
theorem dksX0_rowOf_0 : cX0_rowOf.data.toList.drop 0 = dktX0_rowOf_0 := by decide +kernel
theorem dksX0_rowOf_1 : cX0_rowOf.data.toList.drop 24 = dktX0_rowOf_1 := dk_seg dksX0_rowOf_0 24 rfl rfl
theorem dX0_rowOf_0 : decode cX0_rowOf 0 = .ok (.iload_n 0, 1) := dk_26 (dk_at dksX0_rowOf_0 0 rfl rfl)
theorem dX0_rowOf_1 : decode cX0_rowOf 1 = .ok (.ifCond .ne 9, 3) := dk_154 0 9 (dk_at dksX0_rowOf_0 1 rfl rfl)
theorem dX0_rowOf_4 : decode cX0_rowOf 4 = .ok (.iload_n 1, 1) := dk_27 (dk_at dksX0_rowOf_0 4 rfl rfl)
theorem dX0_rowOf_5 : decode cX0_rowOf 5 = .ok (.newarray .byte, 2) := dk_188_8 (dk_at dksX0_rowOf_0 5 rfl rfl)
theorem dX0_rowOf_7 : decode cX0_rowOf 7 = .ok (.goto 17, 3) := dk_167 0 17 (dk_at dksX0_rowOf_0 7 rfl rfl)
theorem dX0_rowOf_10 : decode cX0_rowOf 10 = .ok (.iload_n 0, 1) := dk_26 (dk_at dksX0_rowOf_0 10 rfl rfl)
theorem dX0_rowOf_11 : decode cX0_rowOf 11 = .ok (.iconst 1, 1) := dk_4 (dk_at dksX0_rowOf_0 11 rfl rfl)
theorem dX0_rowOf_12 : decode cX0_rowOf 12 = .ok (.if_icmp .ne 9, 3) := dk_160 0 9 (dk_at dksX0_rowOf_0 12 rfl rfl)
theorem dX0_rowOf_15 : decode cX0_rowOf 15 = .ok (.iload_n 1, 1) := dk_27 (dk_at dksX0_rowOf_0 15 rfl rfl)
theorem dX0_rowOf_16 : decode cX0_rowOf 16 = .ok (.newarray .short, 2) := dk_188_9 (dk_at dksX0_rowOf_0 16 rfl rfl)
theorem dX0_rowOf_18 : decode cX0_rowOf 18 = .ok (.goto 6, 3) := dk_167 0 6 (dk_at dksX0_rowOf_0 18 rfl rfl)
theorem dX0_rowOf_21 : decode cX0_rowOf 21 = .ok (.iload_n 1, 1) := dk_27 (dk_at dksX0_rowOf_0 21 rfl rfl)
theorem dX0_rowOf_22 : decode cX0_rowOf 22 = .ok (.newarray .int, 2) := dk_188_10 (dk_at dksX0_rowOf_0 22 rfl rfl)
theorem dX0_rowOf_24 : decode cX0_rowOf 24 = .ok (.areturn, 1) := dk_176 (dk_at dksX0_rowOf_1 0 rfl rfl)
abbrev cX0_fails : ByteArray := prog_1_method_44_code
def yX0_fails : MethodName := ⟨RX0, "fails", "(I)I"⟩
def dkwX0_fails_0 : List UInt8 := [42, 27, 181, 0, 210, 16, 246, 27, 100, 172]
abbrev dktX0_fails_0 : List UInt8 := dkwX0_fails_0 ++ []
theorem dksX0_fails_0 : cX0_fails.data.toList.drop 0 = dktX0_fails_0 := by decide +kernel
theorem dX0_fails_0 : decode cX0_fails 0 = .ok (.aload_n 0, 1) := dk_42 (dk_at dksX0_fails_0 0 rfl rfl)
theorem dX0_fails_1 : decode cX0_fails 1 = .ok (.iload_n 1, 1) := dk_27 (dk_at dksX0_fails_0 1 rfl rfl)
theorem dX0_fails_2 : decode cX0_fails 2 = .ok (.putfield 210, 3) := dk_181 0 210 (dk_at dksX0_fails_0 2 rfl rfl)
theorem dX0_fails_5 : decode cX0_fails 5 = .ok (.bipush (-10), 2) := dk_16 246 (dk_at dksX0_fails_0 5 rfl rfl)
theorem dX0_fails_7 : decode cX0_fails 7 = .ok (.iload_n 1, 1) := dk_27 (dk_at dksX0_fails_0 7 rfl rfl)
theorem dX0_fails_8 : decode cX0_fails 8 = .ok (.isub, 1) := dk_100 (dk_at dksX0_fails_0 8 rfl rfl)
theorem dX0_fails_9 : decode cX0_fails 9 = .ok (.ireturn, 1) := dk_172 (dk_at dksX0_fails_0 9 rfl rfl)
abbrev cX0_lose : ByteArray := prog_1_method_53_code
def yX0_lose : MethodName := ⟨RX0, "lose", "(I)I"⟩
def dkwX0_lose_1 : List UInt8 := [42, 180, 0, 33, 27, 1, 83, 28, 172]
abbrev dktX0_lose_1 : List UInt8 := dkwX0_lose_1 ++ []
def dkwX0_lose_0 : List UInt8 := [27, 184, 0, 224, 153, 0, 5, 2, 172, 42, 180, 0, 33, 27, 50, 199, 0, 7, 3, 167, 0, 4, 4, 61]
abbrev dktX0_lose_0 : List UInt8 := dkwX0_lose_0 ++ dktX0_lose_1
theorem dksX0_lose_0 : cX0_lose.data.toList.drop 0 = dktX0_lose_0 := by decide +kernel
theorem dksX0_lose_1 : cX0_lose.data.toList.drop 24 = dktX0_lose_1 := dk_seg dksX0_lose_0 24 rfl rfl
theorem dX0_lose_0 : decode cX0_lose 0 = .ok (.iload_n 1, 1) := dk_27 (dk_at dksX0_lose_0 0 rfl rfl)
theorem dX0_lose_1 : decode cX0_lose 1 = .ok (.invokestatic 224, 3) := dk_184 0 224 (dk_at dksX0_lose_0 1 rfl rfl)
theorem dX0_lose_4 : decode cX0_lose 4 = .ok (.ifCond .eq 5, 3) := dk_153 0 5 (dk_at dksX0_lose_0 4 rfl rfl)
theorem dX0_lose_7 : decode cX0_lose 7 = .ok (.iconst (-1), 1) := dk_2 (dk_at dksX0_lose_0 7 rfl rfl)
theorem dX0_lose_8 : decode cX0_lose 8 = .ok (.ireturn, 1) := dk_172 (dk_at dksX0_lose_0 8 rfl rfl)
theorem dX0_lose_9 : decode cX0_lose 9 = .ok (.aload_n 0, 1) := dk_42 (dk_at dksX0_lose_0 9 rfl rfl)
theorem dX0_lose_10 : decode cX0_lose 10 = .ok (.getfield 33, 3) := dk_180 0 33 (dk_at dksX0_lose_0 10 rfl rfl)
theorem dX0_lose_13 : decode cX0_lose 13 = .ok (.iload_n 1, 1) := dk_27 (dk_at dksX0_lose_0 13 rfl rfl)
theorem dX0_lose_14 : decode cX0_lose 14 = .ok (.aaload, 1) := dk_50 (dk_at dksX0_lose_0 14 rfl rfl)
theorem dX0_lose_15 : decode cX0_lose 15 = .ok (.ifnonnull 7, 3) := dk_199 0 7 (dk_at dksX0_lose_0 15 rfl rfl)
theorem dX0_lose_18 : decode cX0_lose 18 = .ok (.iconst 0, 1) := dk_3 (dk_at dksX0_lose_0 18 rfl rfl)
theorem dX0_lose_19 : decode cX0_lose 19 = .ok (.goto 4, 3) := dk_167 0 4 (dk_at dksX0_lose_0 19 rfl rfl)
theorem dX0_lose_22 : decode cX0_lose 22 = .ok (.iconst 1, 1) := dk_4 (dk_at dksX0_lose_0 22 rfl rfl)
theorem dX0_lose_23 : decode cX0_lose 23 = .ok (.istore_n 2, 1) := dk_61 (dk_at dksX0_lose_0 23 rfl rfl)
theorem dX0_lose_24 : decode cX0_lose 24 = .ok (.aload_n 0, 1) := dk_42 (dk_at dksX0_lose_1 0 rfl rfl)
theorem dX0_lose_25 : decode cX0_lose 25 = .ok (.getfield 33, 3) := dk_180 0 33 (dk_at dksX0_lose_1 1 rfl rfl)
theorem dX0_lose_28 : decode cX0_lose 28 = .ok (.iload_n 1, 1) := dk_27 (dk_at dksX0_lose_1 4 rfl rfl)
theorem dX0_lose_29 : decode cX0_lose 29 = .ok (.aconst_null, 1) := dk_1 (dk_at dksX0_lose_1 5 rfl rfl)
theorem dX0_lose_30 : decode cX0_lose 30 = .ok (.aastore, 1) := dk_83 (dk_at dksX0_lose_1 6 rfl rfl)
theorem dX0_lose_31 : decode cX0_lose 31 = .ok (.iload_n 2, 1) := dk_28 (dk_at dksX0_lose_1 7 rfl rfl)
theorem dX0_lose_32 : decode cX0_lose 32 = .ok (.ireturn, 1) := dk_172 (dk_at dksX0_lose_1 8 rfl rfl)
abbrev cX0_put : ByteArray := prog_1_method_54_code
def yX0_put : MethodName := ⟨RX0, "put", "(III)I"⟩
def dkwX0_put_2 : List UInt8 := [182, 0, 241, 172]
abbrev dktX0_put_2 : List UInt8 := dkwX0_put_2 ++ []
def dkwX0_put_1 : List UInt8 := [180, 0, 220, 28, 29, 184, 0, 244, 4, 172, 58, 4, 42, 4, 182, 0, 241, 172, 58, 4, 42, 6]
abbrev dktX0_put_1 : List UInt8 := dkwX0_put_1 ++ dktX0_put_2
def dkwX0_put_0 : List UInt8 := [27, 184, 0, 224, 153, 0, 9, 42, 2, 182, 0, 227, 172, 42, 3, 181, 0, 210, 42, 180, 0, 33, 27, 50]
abbrev dktX0_put_0 : List UInt8 := dkwX0_put_0 ++ dktX0_put_1
theorem dksX0_put_0 : cX0_put.data.toList.drop 0 = dktX0_put_0 := by decide +kernel
theorem dksX0_put_1 : cX0_put.data.toList.drop 24 = dktX0_put_1 := dk_seg dksX0_put_0 24 rfl rfl
theorem dksX0_put_2 : cX0_put.data.toList.drop 46 = dktX0_put_2 := dk_seg dksX0_put_1 22 rfl rfl
theorem dX0_put_0 : decode cX0_put 0 = .ok (.iload_n 1, 1) := dk_27 (dk_at dksX0_put_0 0 rfl rfl)
theorem dX0_put_1 : decode cX0_put 1 = .ok (.invokestatic 224, 3) := dk_184 0 224 (dk_at dksX0_put_0 1 rfl rfl)
theorem dX0_put_4 : decode cX0_put 4 = .ok (.ifCond .eq 9, 3) := dk_153 0 9 (dk_at dksX0_put_0 4 rfl rfl)
theorem dX0_put_7 : decode cX0_put 7 = .ok (.aload_n 0, 1) := dk_42 (dk_at dksX0_put_0 7 rfl rfl)
theorem dX0_put_8 : decode cX0_put 8 = .ok (.iconst (-1), 1) := dk_2 (dk_at dksX0_put_0 8 rfl rfl)
theorem dX0_put_9 : decode cX0_put 9 = .ok (.invokevirtual 227, 3) := dk_182 0 227 (dk_at dksX0_put_0 9 rfl rfl)
theorem dX0_put_12 : decode cX0_put 12 = .ok (.ireturn, 1) := dk_172 (dk_at dksX0_put_0 12 rfl rfl)
theorem dX0_put_13 : decode cX0_put 13 = .ok (.aload_n 0, 1) := dk_42 (dk_at dksX0_put_0 13 rfl rfl)
theorem dX0_put_14 : decode cX0_put 14 = .ok (.iconst 0, 1) := dk_3 (dk_at dksX0_put_0 14 rfl rfl)
theorem dX0_put_15 : decode cX0_put 15 = .ok (.putfield 210, 3) := dk_181 0 210 (dk_at dksX0_put_0 15 rfl rfl)
theorem dX0_put_18 : decode cX0_put 18 = .ok (.aload_n 0, 1) := dk_42 (dk_at dksX0_put_0 18 rfl rfl)
theorem dX0_put_19 : decode cX0_put 19 = .ok (.getfield 33, 3) := dk_180 0 33 (dk_at dksX0_put_0 19 rfl rfl)
theorem dX0_put_22 : decode cX0_put 22 = .ok (.iload_n 1, 1) := dk_27 (dk_at dksX0_put_0 22 rfl rfl)
theorem dX0_put_23 : decode cX0_put 23 = .ok (.aaload, 1) := dk_50 (dk_at dksX0_put_0 23 rfl rfl)
theorem dX0_put_24 : decode cX0_put 24 = .ok (.getfield 220, 3) := dk_180 0 220 (dk_at dksX0_put_1 0 rfl rfl)
theorem dX0_put_27 : decode cX0_put 27 = .ok (.iload_n 2, 1) := dk_28 (dk_at dksX0_put_1 3 rfl rfl)
theorem dX0_put_28 : decode cX0_put 28 = .ok (.iload_n 3, 1) := dk_29 (dk_at dksX0_put_1 4 rfl rfl)
theorem dX0_put_29 : decode cX0_put 29 = .ok (.invokestatic 244, 3) := dk_184 0 244 (dk_at dksX0_put_1 5 rfl rfl)
theorem dX0_put_32 : decode cX0_put 32 = .ok (.iconst 1, 1) := dk_4 (dk_at dksX0_put_1 8 rfl rfl)
theorem dX0_put_33 : decode cX0_put 33 = .ok (.ireturn, 1) := dk_172 (dk_at dksX0_put_1 9 rfl rfl)
theorem dX0_put_34 : decode cX0_put 34 = .ok (.astore 4, 2) := dk_58 4 (dk_at dksX0_put_1 10 rfl rfl)
theorem dX0_put_36 : decode cX0_put 36 = .ok (.aload_n 0, 1) := dk_42 (dk_at dksX0_put_1 12 rfl rfl)
theorem dX0_put_37 : decode cX0_put 37 = .ok (.iconst 1, 1) := dk_4 (dk_at dksX0_put_1 13 rfl rfl)
theorem dX0_put_38 : decode cX0_put 38 = .ok (.invokevirtual 241, 3) := dk_182 0 241 (dk_at dksX0_put_1 14 rfl rfl)
theorem dX0_put_41 : decode cX0_put 41 = .ok (.ireturn, 1) := dk_172 (dk_at dksX0_put_1 17 rfl rfl)
theorem dX0_put_42 : decode cX0_put 42 = .ok (.astore 4, 2) := dk_58 4 (dk_at dksX0_put_1 18 rfl rfl)
theorem dX0_put_44 : decode cX0_put 44 = .ok (.aload_n 0, 1) := dk_42 (dk_at dksX0_put_1 20 rfl rfl)
theorem dX0_put_45 : decode cX0_put 45 = .ok (.iconst 3, 1) := dk_6 (dk_at dksX0_put_1 21 rfl rfl)
theorem dX0_put_46 : decode cX0_put 46 = .ok (.invokevirtual 241, 3) := dk_182 0 241 (dk_at dksX0_put_2 0 rfl rfl)
theorem dX0_put_49 : decode cX0_put 49 = .ok (.ireturn, 1) := dk_172 (dk_at dksX0_put_2 3 rfl rfl)
abbrev cX0_setIn : ByteArray := prog_1_method_49_code
def yX0_setIn : MethodName := ⟨RX0, "setIn", "(Ljava/lang/Object;II)V"⟩
def dkwX0_setIn_1 : List UInt8 := [153, 0, 14, 42, 192, 0, 215, 27, 28, 147, 86, 167, 0, 10, 42, 192, 0, 217, 27, 28, 79, 177]
abbrev dktX0_setIn_1 : List UInt8 := dkwX0_setIn_1 ++ []
def dkwX0_setIn_0 : List UInt8 := [42, 193, 0, 213, 153, 0, 14, 42, 192, 0, 213, 27, 28, 145, 84, 167, 0, 28, 42, 193, 0, 215]
abbrev dktX0_setIn_0 : List UInt8 := dkwX0_setIn_0 ++ dktX0_setIn_1
theorem dksX0_setIn_0 : cX0_setIn.data.toList.drop 0 = dktX0_setIn_0 := by decide +kernel
theorem dksX0_setIn_1 : cX0_setIn.data.toList.drop 22 = dktX0_setIn_1 := dk_seg dksX0_setIn_0 22 rfl rfl
theorem dX0_setIn_0 : decode cX0_setIn 0 = .ok (.aload_n 0, 1) := dk_42 (dk_at dksX0_setIn_0 0 rfl rfl)
theorem dX0_setIn_1 : decode cX0_setIn 1 = .ok (.instanceof 213, 3) := dk_193 0 213 (dk_at dksX0_setIn_0 1 rfl rfl)
theorem dX0_setIn_4 : decode cX0_setIn 4 = .ok (.ifCond .eq 14, 3) := dk_153 0 14 (dk_at dksX0_setIn_0 4 rfl rfl)
theorem dX0_setIn_7 : decode cX0_setIn 7 = .ok (.aload_n 0, 1) := dk_42 (dk_at dksX0_setIn_0 7 rfl rfl)
theorem dX0_setIn_8 : decode cX0_setIn 8 = .ok (.checkcast 213, 3) := dk_192 0 213 (dk_at dksX0_setIn_0 8 rfl rfl)
theorem dX0_setIn_11 : decode cX0_setIn 11 = .ok (.iload_n 1, 1) := dk_27 (dk_at dksX0_setIn_0 11 rfl rfl)
theorem dX0_setIn_12 : decode cX0_setIn 12 = .ok (.iload_n 2, 1) := dk_28 (dk_at dksX0_setIn_0 12 rfl rfl)
theorem dX0_setIn_13 : decode cX0_setIn 13 = .ok (.i2b, 1) := dk_145 (dk_at dksX0_setIn_0 13 rfl rfl)
theorem dX0_setIn_14 : decode cX0_setIn 14 = .ok (.bastore, 1) := dk_84 (dk_at dksX0_setIn_0 14 rfl rfl)
theorem dX0_setIn_15 : decode cX0_setIn 15 = .ok (.goto 28, 3) := dk_167 0 28 (dk_at dksX0_setIn_0 15 rfl rfl)
theorem dX0_setIn_18 : decode cX0_setIn 18 = .ok (.aload_n 0, 1) := dk_42 (dk_at dksX0_setIn_0 18 rfl rfl)
theorem dX0_setIn_19 : decode cX0_setIn 19 = .ok (.instanceof 215, 3) := dk_193 0 215 (dk_at dksX0_setIn_0 19 rfl rfl)
theorem dX0_setIn_22 : decode cX0_setIn 22 = .ok (.ifCond .eq 14, 3) := dk_153 0 14 (dk_at dksX0_setIn_1 0 rfl rfl)
theorem dX0_setIn_25 : decode cX0_setIn 25 = .ok (.aload_n 0, 1) := dk_42 (dk_at dksX0_setIn_1 3 rfl rfl)
theorem dX0_setIn_26 : decode cX0_setIn 26 = .ok (.checkcast 215, 3) := dk_192 0 215 (dk_at dksX0_setIn_1 4 rfl rfl)
theorem dX0_setIn_29 : decode cX0_setIn 29 = .ok (.iload_n 1, 1) := dk_27 (dk_at dksX0_setIn_1 7 rfl rfl)
theorem dX0_setIn_30 : decode cX0_setIn 30 = .ok (.iload_n 2, 1) := dk_28 (dk_at dksX0_setIn_1 8 rfl rfl)
theorem dX0_setIn_31 : decode cX0_setIn 31 = .ok (.i2s, 1) := dk_147 (dk_at dksX0_setIn_1 9 rfl rfl)
theorem dX0_setIn_32 : decode cX0_setIn 32 = .ok (.sastore, 1) := dk_86 (dk_at dksX0_setIn_1 10 rfl rfl)
theorem dX0_setIn_33 : decode cX0_setIn 33 = .ok (.goto 10, 3) := dk_167 0 10 (dk_at dksX0_setIn_1 11 rfl rfl)
theorem dX0_setIn_36 : decode cX0_setIn 36 = .ok (.aload_n 0, 1) := dk_42 (dk_at dksX0_setIn_1 14 rfl rfl)
theorem dX0_setIn_37 : decode cX0_setIn 37 = .ok (.checkcast 217, 3) := dk_192 0 217 (dk_at dksX0_setIn_1 15 rfl rfl)
theorem dX0_setIn_40 : decode cX0_setIn 40 = .ok (.iload_n 1, 1) := dk_27 (dk_at dksX0_setIn_1 18 rfl rfl)
theorem dX0_setIn_41 : decode cX0_setIn 41 = .ok (.iload_n 2, 1) := dk_28 (dk_at dksX0_setIn_1 19 rfl rfl)
theorem dX0_setIn_42 : decode cX0_setIn 42 = .ok (.iastore, 1) := dk_79 (dk_at dksX0_setIn_1 20 rfl rfl)
theorem dX0_setIn_43 : decode cX0_setIn 43 = .ok (.return_, 1) := dk_177 (dk_at dksX0_setIn_1 21 rfl rfl)
abbrev cX0_cell : ByteArray := prog_1_method_55_code
def yX0_cell : MethodName := ⟨RX0, "cell", "(III)J"⟩
def dkwX0_cell_2 : List UInt8 := [58, 4, 42, 5, 182, 1, 3, 173, 58, 4, 42, 6, 182, 1, 3, 173]
abbrev dktX0_cell_2 : List UInt8 := dkwX0_cell_2 ++ []
def dkwX0_cell_1 : List UInt8 := [20, 0, 208, 173, 42, 27, 182, 0, 252, 29, 28, 184, 0, 255, 133, 173, 58, 4, 42, 4, 182, 1, 3, 173]
abbrev dktX0_cell_1 : List UInt8 := dkwX0_cell_1 ++ dktX0_cell_2
def dkwX0_cell_0 : List UInt8 := [42, 3, 181, 0, 210, 27, 184, 0, 224, 154, 0, 15, 29, 133, 9, 20, 0, 230, 184, 0, 58, 154, 0, 7]
abbrev dktX0_cell_0 : List UInt8 := dkwX0_cell_0 ++ dktX0_cell_1
theorem dksX0_cell_0 : cX0_cell.data.toList.drop 0 = dktX0_cell_0 := by decide +kernel
theorem dksX0_cell_1 : cX0_cell.data.toList.drop 24 = dktX0_cell_1 := dk_seg dksX0_cell_0 24 rfl rfl
theorem dksX0_cell_2 : cX0_cell.data.toList.drop 48 = dktX0_cell_2 := dk_seg dksX0_cell_1 24 rfl rfl
theorem dX0_cell_0 : decode cX0_cell 0 = .ok (.aload_n 0, 1) := dk_42 (dk_at dksX0_cell_0 0 rfl rfl)
theorem dX0_cell_1 : decode cX0_cell 1 = .ok (.iconst 0, 1) := dk_3 (dk_at dksX0_cell_0 1 rfl rfl)
theorem dX0_cell_2 : decode cX0_cell 2 = .ok (.putfield 210, 3) := dk_181 0 210 (dk_at dksX0_cell_0 2 rfl rfl)
theorem dX0_cell_5 : decode cX0_cell 5 = .ok (.iload_n 1, 1) := dk_27 (dk_at dksX0_cell_0 5 rfl rfl)
theorem dX0_cell_6 : decode cX0_cell 6 = .ok (.invokestatic 224, 3) := dk_184 0 224 (dk_at dksX0_cell_0 6 rfl rfl)
theorem dX0_cell_9 : decode cX0_cell 9 = .ok (.ifCond .ne 15, 3) := dk_154 0 15 (dk_at dksX0_cell_0 9 rfl rfl)
theorem dX0_cell_12 : decode cX0_cell 12 = .ok (.iload_n 3, 1) := dk_29 (dk_at dksX0_cell_0 12 rfl rfl)
theorem dX0_cell_13 : decode cX0_cell 13 = .ok (.i2l, 1) := dk_133 (dk_at dksX0_cell_0 13 rfl rfl)
theorem dX0_cell_14 : decode cX0_cell 14 = .ok (.lconst 0, 1) := dk_9 (dk_at dksX0_cell_0 14 rfl rfl)
theorem dX0_cell_15 : decode cX0_cell 15 = .ok (.ldc2_w 230, 3) := dk_20 0 230 (dk_at dksX0_cell_0 15 rfl rfl)
theorem dX0_cell_18 : decode cX0_cell 18 = .ok (.invokestatic 58, 3) := dk_184 0 58 (dk_at dksX0_cell_0 18 rfl rfl)
theorem dX0_cell_21 : decode cX0_cell 21 = .ok (.ifCond .ne 7, 3) := dk_154 0 7 (dk_at dksX0_cell_0 21 rfl rfl)
theorem dX0_cell_24 : decode cX0_cell 24 = .ok (.ldc2_w 208, 3) := dk_20 0 208 (dk_at dksX0_cell_1 0 rfl rfl)
theorem dX0_cell_27 : decode cX0_cell 27 = .ok (.lreturn, 1) := dk_173 (dk_at dksX0_cell_1 3 rfl rfl)
theorem dX0_cell_28 : decode cX0_cell 28 = .ok (.aload_n 0, 1) := dk_42 (dk_at dksX0_cell_1 4 rfl rfl)
theorem dX0_cell_29 : decode cX0_cell 29 = .ok (.iload_n 1, 1) := dk_27 (dk_at dksX0_cell_1 5 rfl rfl)
theorem dX0_cell_30 : decode cX0_cell 30 = .ok (.invokevirtual 252, 3) := dk_182 0 252 (dk_at dksX0_cell_1 6 rfl rfl)
theorem dX0_cell_33 : decode cX0_cell 33 = .ok (.iload_n 3, 1) := dk_29 (dk_at dksX0_cell_1 9 rfl rfl)
theorem dX0_cell_34 : decode cX0_cell 34 = .ok (.iload_n 2, 1) := dk_28 (dk_at dksX0_cell_1 10 rfl rfl)
theorem dX0_cell_35 : decode cX0_cell 35 = .ok (.invokestatic 255, 3) := dk_184 0 255 (dk_at dksX0_cell_1 11 rfl rfl)
theorem dX0_cell_38 : decode cX0_cell 38 = .ok (.i2l, 1) := dk_133 (dk_at dksX0_cell_1 14 rfl rfl)
theorem dX0_cell_39 : decode cX0_cell 39 = .ok (.lreturn, 1) := dk_173 (dk_at dksX0_cell_1 15 rfl rfl)
theorem dX0_cell_40 : decode cX0_cell 40 = .ok (.astore 4, 2) := dk_58 4 (dk_at dksX0_cell_1 16 rfl rfl)
theorem dX0_cell_42 : decode cX0_cell 42 = .ok (.aload_n 0, 1) := dk_42 (dk_at dksX0_cell_1 18 rfl rfl)
theorem dX0_cell_43 : decode cX0_cell 43 = .ok (.iconst 1, 1) := dk_4 (dk_at dksX0_cell_1 19 rfl rfl)
theorem dX0_cell_44 : decode cX0_cell 44 = .ok (.invokevirtual 259, 3) := dk_182 1 3 (dk_at dksX0_cell_1 20 rfl rfl)
theorem dX0_cell_47 : decode cX0_cell 47 = .ok (.lreturn, 1) := dk_173 (dk_at dksX0_cell_1 23 rfl rfl)
theorem dX0_cell_48 : decode cX0_cell 48 = .ok (.astore 4, 2) := dk_58 4 (dk_at dksX0_cell_2 0 rfl rfl)
theorem dX0_cell_50 : decode cX0_cell 50 = .ok (.aload_n 0, 1) := dk_42 (dk_at dksX0_cell_2 2 rfl rfl)
theorem dX0_cell_51 : decode cX0_cell 51 = .ok (.iconst 2, 1) := dk_5 (dk_at dksX0_cell_2 3 rfl rfl)
theorem dX0_cell_52 : decode cX0_cell 52 = .ok (.invokevirtual 259, 3) := dk_182 1 3 (dk_at dksX0_cell_2 4 rfl rfl)
theorem dX0_cell_55 : decode cX0_cell 55 = .ok (.lreturn, 1) := dk_173 (dk_at dksX0_cell_2 7 rfl rfl)
theorem dX0_cell_56 : decode cX0_cell 56 = .ok (.astore 4, 2) := dk_58 4 (dk_at dksX0_cell_2 8 rfl rfl)
theorem dX0_cell_58 : decode cX0_cell 58 = .ok (.aload_n 0, 1) := dk_42 (dk_at dksX0_cell_2 10 rfl rfl)
theorem dX0_cell_59 : decode cX0_cell 59 = .ok (.iconst 3, 1) := dk_6 (dk_at dksX0_cell_2 11 rfl rfl)
theorem dX0_cell_60 : decode cX0_cell 60 = .ok (.invokevirtual 259, 3) := dk_182 1 3 (dk_at dksX0_cell_2 12 rfl rfl)
theorem dX0_cell_63 : decode cX0_cell 63 = .ok (.lreturn, 1) := dk_173 (dk_at dksX0_cell_2 15 rfl rfl)
abbrev cX0_rowIn : ByteArray := prog_1_method_51_code
def yX0_rowIn : MethodName := ⟨RX0, "rowIn", "(I)Ljava/lang/Object;"⟩
def dkwX0_rowIn_0 : List UInt8 := [42, 180, 0, 33, 27, 50, 199, 0, 7, 1, 167, 0, 12, 42, 180, 0, 33, 27, 50, 180, 0, 220, 176]
abbrev dktX0_rowIn_0 : List UInt8 := dkwX0_rowIn_0 ++ []
theorem dksX0_rowIn_0 : cX0_rowIn.data.toList.drop 0 = dktX0_rowIn_0 := by decide +kernel
theorem dX0_rowIn_0 : decode cX0_rowIn 0 = .ok (.aload_n 0, 1) := dk_42 (dk_at dksX0_rowIn_0 0 rfl rfl)
theorem dX0_rowIn_1 : decode cX0_rowIn 1 = .ok (.getfield 33, 3) := dk_180 0 33 (dk_at dksX0_rowIn_0 1 rfl rfl)
theorem dX0_rowIn_4 : decode cX0_rowIn 4 = .ok (.iload_n 1, 1) := dk_27 (dk_at dksX0_rowIn_0 4 rfl rfl)
theorem dX0_rowIn_5 : decode cX0_rowIn 5 = .ok (.aaload, 1) := dk_50 (dk_at dksX0_rowIn_0 5 rfl rfl)
theorem dX0_rowIn_6 : decode cX0_rowIn 6 = .ok (.ifnonnull 7, 3) := dk_199 0 7 (dk_at dksX0_rowIn_0 6 rfl rfl)
theorem dX0_rowIn_9 : decode cX0_rowIn 9 = .ok (.aconst_null, 1) := dk_1 (dk_at dksX0_rowIn_0 9 rfl rfl)
theorem dX0_rowIn_10 : decode cX0_rowIn 10 = .ok (.goto 12, 3) := dk_167 0 12 (dk_at dksX0_rowIn_0 10 rfl rfl)
theorem dX0_rowIn_13 : decode cX0_rowIn 13 = .ok (.aload_n 0, 1) := dk_42 (dk_at dksX0_rowIn_0 13 rfl rfl)
theorem dX0_rowIn_14 : decode cX0_rowIn 14 = .ok (.getfield 33, 3) := dk_180 0 33 (dk_at dksX0_rowIn_0 14 rfl rfl)
theorem dX0_rowIn_17 : decode cX0_rowIn 17 = .ok (.iload_n 1, 1) := dk_27 (dk_at dksX0_rowIn_0 17 rfl rfl)
theorem dX0_rowIn_18 : decode cX0_rowIn 18 = .ok (.aaload, 1) := dk_50 (dk_at dksX0_rowIn_0 18 rfl rfl)
theorem dX0_rowIn_19 : decode cX0_rowIn 19 = .ok (.getfield 220, 3) := dk_180 0 220 (dk_at dksX0_rowIn_0 19 rfl rfl)
theorem dX0_rowIn_22 : decode cX0_rowIn 22 = .ok (.areturn, 1) := dk_176 (dk_at dksX0_rowIn_0 22 rfl rfl)
abbrev cX0_cellOf : ByteArray := prog_1_method_47_code
def yX0_cellOf : MethodName := ⟨RX0, "cellOf", "(Ljava/lang/Object;II)I"⟩
def dkwX0_cellOf_1 : List UInt8 := [167, 0, 9, 42, 192, 0, 217, 28, 46, 172]
abbrev dktX0_cellOf_1 : List UInt8 := dkwX0_cellOf_1 ++ []
def dkwX0_cellOf_0 : List UInt8 := [27, 154, 0, 12, 42, 192, 0, 213, 28, 51, 167, 0, 23, 27, 4, 160, 0, 12, 42, 192, 0, 215, 28, 53]
abbrev dktX0_cellOf_0 : List UInt8 := dkwX0_cellOf_0 ++ dktX0_cellOf_1
theorem dksX0_cellOf_0 : cX0_cellOf.data.toList.drop 0 = dktX0_cellOf_0 := by decide +kernel
theorem dksX0_cellOf_1 : cX0_cellOf.data.toList.drop 24 = dktX0_cellOf_1 := dk_seg dksX0_cellOf_0 24 rfl rfl
theorem dX0_cellOf_0 : decode cX0_cellOf 0 = .ok (.iload_n 1, 1) := dk_27 (dk_at dksX0_cellOf_0 0 rfl rfl)
theorem dX0_cellOf_1 : decode cX0_cellOf 1 = .ok (.ifCond .ne 12, 3) := dk_154 0 12 (dk_at dksX0_cellOf_0 1 rfl rfl)
theorem dX0_cellOf_4 : decode cX0_cellOf 4 = .ok (.aload_n 0, 1) := dk_42 (dk_at dksX0_cellOf_0 4 rfl rfl)
theorem dX0_cellOf_5 : decode cX0_cellOf 5 = .ok (.checkcast 213, 3) := dk_192 0 213 (dk_at dksX0_cellOf_0 5 rfl rfl)
theorem dX0_cellOf_8 : decode cX0_cellOf 8 = .ok (.iload_n 2, 1) := dk_28 (dk_at dksX0_cellOf_0 8 rfl rfl)
theorem dX0_cellOf_9 : decode cX0_cellOf 9 = .ok (.baload, 1) := dk_51 (dk_at dksX0_cellOf_0 9 rfl rfl)
theorem dX0_cellOf_10 : decode cX0_cellOf 10 = .ok (.goto 23, 3) := dk_167 0 23 (dk_at dksX0_cellOf_0 10 rfl rfl)
theorem dX0_cellOf_13 : decode cX0_cellOf 13 = .ok (.iload_n 1, 1) := dk_27 (dk_at dksX0_cellOf_0 13 rfl rfl)
theorem dX0_cellOf_14 : decode cX0_cellOf 14 = .ok (.iconst 1, 1) := dk_4 (dk_at dksX0_cellOf_0 14 rfl rfl)
theorem dX0_cellOf_15 : decode cX0_cellOf 15 = .ok (.if_icmp .ne 12, 3) := dk_160 0 12 (dk_at dksX0_cellOf_0 15 rfl rfl)
theorem dX0_cellOf_18 : decode cX0_cellOf 18 = .ok (.aload_n 0, 1) := dk_42 (dk_at dksX0_cellOf_0 18 rfl rfl)
theorem dX0_cellOf_19 : decode cX0_cellOf 19 = .ok (.checkcast 215, 3) := dk_192 0 215 (dk_at dksX0_cellOf_0 19 rfl rfl)
theorem dX0_cellOf_22 : decode cX0_cellOf 22 = .ok (.iload_n 2, 1) := dk_28 (dk_at dksX0_cellOf_0 22 rfl rfl)
theorem dX0_cellOf_23 : decode cX0_cellOf 23 = .ok (.saload, 1) := dk_53 (dk_at dksX0_cellOf_0 23 rfl rfl)
theorem dX0_cellOf_24 : decode cX0_cellOf 24 = .ok (.goto 9, 3) := dk_167 0 9 (dk_at dksX0_cellOf_1 0 rfl rfl)
theorem dX0_cellOf_27 : decode cX0_cellOf 27 = .ok (.aload_n 0, 1) := dk_42 (dk_at dksX0_cellOf_1 3 rfl rfl)
theorem dX0_cellOf_28 : decode cX0_cellOf 28 = .ok (.checkcast 217, 3) := dk_192 0 217 (dk_at dksX0_cellOf_1 4 rfl rfl)
theorem dX0_cellOf_31 : decode cX0_cellOf 31 = .ok (.iload_n 2, 1) := dk_28 (dk_at dksX0_cellOf_1 7 rfl rfl)
theorem dX0_cellOf_32 : decode cX0_cellOf 32 = .ok (.iaload, 1) := dk_46 (dk_at dksX0_cellOf_1 8 rfl rfl)
theorem dX0_cellOf_33 : decode cX0_cellOf 33 = .ok (.ireturn, 1) := dk_172 (dk_at dksX0_cellOf_1 9 rfl rfl)
abbrev cX0_failsLong : ByteArray := prog_1_method_45_code
def yX0_failsLong : MethodName := ⟨RX0, "failsLong", "(I)J"⟩
def dkwX0_failsLong_0 : List UInt8 := [42, 27, 181, 0, 210, 20, 0, 208, 173]
abbrev dktX0_failsLong_0 : List UInt8 := dkwX0_failsLong_0 ++ []
theorem dksX0_failsLong_0 : cX0_failsLong.data.toList.drop 0 = dktX0_failsLong_0 := by decide +kernel
theorem dX0_failsLong_0 : decode cX0_failsLong 0 = .ok (.aload_n 0, 1) := dk_42 (dk_at dksX0_failsLong_0 0 rfl rfl)
theorem dX0_failsLong_1 : decode cX0_failsLong 1 = .ok (.iload_n 1, 1) := dk_27 (dk_at dksX0_failsLong_0 1 rfl rfl)
theorem dX0_failsLong_2 : decode cX0_failsLong 2 = .ok (.putfield 210, 3) := dk_181 0 210 (dk_at dksX0_failsLong_0 2 rfl rfl)
theorem dX0_failsLong_5 : decode cX0_failsLong 5 = .ok (.ldc2_w 208, 3) := dk_20 0 208 (dk_at dksX0_failsLong_0 5 rfl rfl)
theorem dX0_failsLong_8 : decode cX0_failsLong 8 = .ok (.lreturn, 1) := dk_173 (dk_at dksX0_failsLong_0 8 rfl rfl)
abbrev cX0_tower : ByteArray := prog_1_method_60_code
def yX0_tower : MethodName := ⟨RX0, "tower", "(IIII)I"⟩
def dkwX0_tower_0 : List UInt8 := [42, 187, 1, 47, 89, 42, 27, 28, 29, 21, 4, 183, 1, 49, 4, 182, 1, 43, 172]
abbrev dktX0_tower_0 : List UInt8 := dkwX0_tower_0 ++ []
theorem dksX0_tower_0 : cX0_tower.data.toList.drop 0 = dktX0_tower_0 := by decide +kernel
theorem dX0_tower_0 : decode cX0_tower 0 = .ok (.aload_n 0, 1) := dk_42 (dk_at dksX0_tower_0 0 rfl rfl)
theorem dX0_tower_1 : decode cX0_tower 1 = .ok (.new 303, 3) := dk_187 1 47 (dk_at dksX0_tower_0 1 rfl rfl)
theorem dX0_tower_4 : decode cX0_tower 4 = .ok (.dup, 1) := dk_89 (dk_at dksX0_tower_0 4 rfl rfl)
theorem dX0_tower_5 : decode cX0_tower 5 = .ok (.aload_n 0, 1) := dk_42 (dk_at dksX0_tower_0 5 rfl rfl)
theorem dX0_tower_6 : decode cX0_tower 6 = .ok (.iload_n 1, 1) := dk_27 (dk_at dksX0_tower_0 6 rfl rfl)
theorem dX0_tower_7 : decode cX0_tower 7 = .ok (.iload_n 2, 1) := dk_28 (dk_at dksX0_tower_0 7 rfl rfl)
theorem dX0_tower_8 : decode cX0_tower 8 = .ok (.iload_n 3, 1) := dk_29 (dk_at dksX0_tower_0 8 rfl rfl)
theorem dX0_tower_9 : decode cX0_tower 9 = .ok (.iload 4, 2) := dk_21 4 (dk_at dksX0_tower_0 9 rfl rfl)
theorem dX0_tower_11 : decode cX0_tower 11 = .ok (.invokespecial 305, 3) := dk_183 1 49 (dk_at dksX0_tower_0 11 rfl rfl)
theorem dX0_tower_14 : decode cX0_tower 14 = .ok (.iconst 1, 1) := dk_4 (dk_at dksX0_tower_0 14 rfl rfl)
theorem dX0_tower_15 : decode cX0_tower 15 = .ok (.invokevirtual 299, 3) := dk_182 1 43 (dk_at dksX0_tower_0 15 rfl rfl)
theorem dX0_tower_18 : decode cX0_tower 18 = .ok (.ireturn, 1) := dk_172 (dk_at dksX0_tower_0 18 rfl rfl)
abbrev cX0_looked : ByteArray := prog_1_method_58_code
def yX0_looked : MethodName := ⟨RX0, "looked", "(LTowerTell$Looking;Z)I"⟩
def dkwX0_looked_2 : List UInt8 := [182, 0, 227, 172]
abbrev dktX0_looked_2 : List UInt8 := dkwX0_looked_2 ++ []
def dkwX0_looked_1 : List UInt8 := [20, 0, 230, 184, 0, 58, 153, 0, 14, 28, 153, 0, 10, 43, 182, 1, 33, 167, 0, 9, 42, 16, 254]
abbrev dktX0_looked_1 : List UInt8 := dkwX0_looked_1 ++ dktX0_looked_2
def dkwX0_looked_0 : List UInt8 := [43, 180, 1, 25, 184, 0, 224, 153, 0, 9, 42, 2, 182, 0, 227, 172, 43, 180, 1, 30, 133, 9]
abbrev dktX0_looked_0 : List UInt8 := dkwX0_looked_0 ++ dktX0_looked_1
theorem dksX0_looked_0 : cX0_looked.data.toList.drop 0 = dktX0_looked_0 := by decide +kernel
theorem dksX0_looked_1 : cX0_looked.data.toList.drop 22 = dktX0_looked_1 := dk_seg dksX0_looked_0 22 rfl rfl
theorem dksX0_looked_2 : cX0_looked.data.toList.drop 45 = dktX0_looked_2 := dk_seg dksX0_looked_1 23 rfl rfl
theorem dX0_looked_0 : decode cX0_looked 0 = .ok (.aload_n 1, 1) := dk_43 (dk_at dksX0_looked_0 0 rfl rfl)
theorem dX0_looked_1 : decode cX0_looked 1 = .ok (.getfield 281, 3) := dk_180 1 25 (dk_at dksX0_looked_0 1 rfl rfl)
theorem dX0_looked_4 : decode cX0_looked 4 = .ok (.invokestatic 224, 3) := dk_184 0 224 (dk_at dksX0_looked_0 4 rfl rfl)
theorem dX0_looked_7 : decode cX0_looked 7 = .ok (.ifCond .eq 9, 3) := dk_153 0 9 (dk_at dksX0_looked_0 7 rfl rfl)
theorem dX0_looked_10 : decode cX0_looked 10 = .ok (.aload_n 0, 1) := dk_42 (dk_at dksX0_looked_0 10 rfl rfl)
theorem dX0_looked_11 : decode cX0_looked 11 = .ok (.iconst (-1), 1) := dk_2 (dk_at dksX0_looked_0 11 rfl rfl)
theorem dX0_looked_12 : decode cX0_looked 12 = .ok (.invokevirtual 227, 3) := dk_182 0 227 (dk_at dksX0_looked_0 12 rfl rfl)
theorem dX0_looked_15 : decode cX0_looked 15 = .ok (.ireturn, 1) := dk_172 (dk_at dksX0_looked_0 15 rfl rfl)
theorem dX0_looked_16 : decode cX0_looked 16 = .ok (.aload_n 1, 1) := dk_43 (dk_at dksX0_looked_0 16 rfl rfl)
theorem dX0_looked_17 : decode cX0_looked 17 = .ok (.getfield 286, 3) := dk_180 1 30 (dk_at dksX0_looked_0 17 rfl rfl)
theorem dX0_looked_20 : decode cX0_looked 20 = .ok (.i2l, 1) := dk_133 (dk_at dksX0_looked_0 20 rfl rfl)
theorem dX0_looked_21 : decode cX0_looked 21 = .ok (.lconst 0, 1) := dk_9 (dk_at dksX0_looked_0 21 rfl rfl)
theorem dX0_looked_22 : decode cX0_looked 22 = .ok (.ldc2_w 230, 3) := dk_20 0 230 (dk_at dksX0_looked_1 0 rfl rfl)
theorem dX0_looked_25 : decode cX0_looked 25 = .ok (.invokestatic 58, 3) := dk_184 0 58 (dk_at dksX0_looked_1 3 rfl rfl)
theorem dX0_looked_28 : decode cX0_looked 28 = .ok (.ifCond .eq 14, 3) := dk_153 0 14 (dk_at dksX0_looked_1 6 rfl rfl)
theorem dX0_looked_31 : decode cX0_looked 31 = .ok (.iload_n 2, 1) := dk_28 (dk_at dksX0_looked_1 9 rfl rfl)
theorem dX0_looked_32 : decode cX0_looked 32 = .ok (.ifCond .eq 10, 3) := dk_153 0 10 (dk_at dksX0_looked_1 10 rfl rfl)
theorem dX0_looked_35 : decode cX0_looked 35 = .ok (.aload_n 1, 1) := dk_43 (dk_at dksX0_looked_1 13 rfl rfl)
theorem dX0_looked_36 : decode cX0_looked 36 = .ok (.invokevirtual 289, 3) := dk_182 1 33 (dk_at dksX0_looked_1 14 rfl rfl)
theorem dX0_looked_39 : decode cX0_looked 39 = .ok (.goto 9, 3) := dk_167 0 9 (dk_at dksX0_looked_1 17 rfl rfl)
theorem dX0_looked_42 : decode cX0_looked 42 = .ok (.aload_n 0, 1) := dk_42 (dk_at dksX0_looked_1 20 rfl rfl)
theorem dX0_looked_43 : decode cX0_looked 43 = .ok (.bipush (-2), 2) := dk_16 254 (dk_at dksX0_looked_1 21 rfl rfl)
theorem dX0_looked_45 : decode cX0_looked 45 = .ok (.invokevirtual 227, 3) := dk_182 0 227 (dk_at dksX0_looked_2 0 rfl rfl)
theorem dX0_looked_48 : decode cX0_looked 48 = .ok (.ireturn, 1) := dk_172 (dk_at dksX0_looked_2 3 rfl rfl)
abbrev cX0_cellsOf : ByteArray := prog_1_method_57_code
def yX0_cellsOf : MethodName := ⟨RX0, "cellsOf", "(Ljava/lang/Object;III)[I"⟩
def dkwX0_cellsOf_3 : List UInt8 := [184, 0, 255, 79, 132, 7, 1, 167, 255, 231, 25, 6, 176]
abbrev dktX0_cellsOf_3 : List UInt8 := dkwX0_cellsOf_3 ++ []
def dkwX0_cellsOf_2 : List UInt8 := [58, 6, 3, 54, 7, 21, 7, 25, 6, 190, 162, 0, 23, 25, 6, 21, 7, 42, 27, 28, 21, 7, 96]
abbrev dktX0_cellsOf_2 : List UInt8 := dkwX0_cellsOf_2 ++ dktX0_cellsOf_3
def dkwX0_cellsOf_1 : List UInt8 := [155, 0, 15, 28, 21, 4, 29, 100, 163, 0, 7, 4, 167, 0, 4, 3, 184, 1, 21, 25, 5, 190, 188, 10]
abbrev dktX0_cellsOf_1 : List UInt8 := dkwX0_cellsOf_1 ++ dktX0_cellsOf_2
def dkwX0_cellsOf_0 : List UInt8 := [42, 27, 184, 1, 14, 54, 4, 29, 16, 61, 184, 1, 18, 188, 8, 58, 5, 29, 16, 61, 162, 0, 19, 28]
abbrev dktX0_cellsOf_0 : List UInt8 := dkwX0_cellsOf_0 ++ dktX0_cellsOf_1
theorem dksX0_cellsOf_0 : cX0_cellsOf.data.toList.drop 0 = dktX0_cellsOf_0 := by decide +kernel
theorem dksX0_cellsOf_1 : cX0_cellsOf.data.toList.drop 24 = dktX0_cellsOf_1 := dk_seg dksX0_cellsOf_0 24 rfl rfl
theorem dksX0_cellsOf_2 : cX0_cellsOf.data.toList.drop 48 = dktX0_cellsOf_2 := dk_seg dksX0_cellsOf_1 24 rfl rfl
theorem dksX0_cellsOf_3 : cX0_cellsOf.data.toList.drop 71 = dktX0_cellsOf_3 := dk_seg dksX0_cellsOf_2 23 rfl rfl
theorem dX0_cellsOf_0 : decode cX0_cellsOf 0 = .ok (.aload_n 0, 1) := dk_42 (dk_at dksX0_cellsOf_0 0 rfl rfl)
theorem dX0_cellsOf_1 : decode cX0_cellsOf 1 = .ok (.iload_n 1, 1) := dk_27 (dk_at dksX0_cellsOf_0 1 rfl rfl)
theorem dX0_cellsOf_2 : decode cX0_cellsOf 2 = .ok (.invokestatic 270, 3) := dk_184 1 14 (dk_at dksX0_cellsOf_0 2 rfl rfl)
theorem dX0_cellsOf_5 : decode cX0_cellsOf 5 = .ok (.istore 4, 2) := dk_54 4 (dk_at dksX0_cellsOf_0 5 rfl rfl)
theorem dX0_cellsOf_7 : decode cX0_cellsOf 7 = .ok (.iload_n 3, 1) := dk_29 (dk_at dksX0_cellsOf_0 7 rfl rfl)
theorem dX0_cellsOf_8 : decode cX0_cellsOf 8 = .ok (.bipush 61, 2) := dk_16 61 (dk_at dksX0_cellsOf_0 8 rfl rfl)
theorem dX0_cellsOf_10 : decode cX0_cellsOf 10 = .ok (.invokestatic 274, 3) := dk_184 1 18 (dk_at dksX0_cellsOf_0 10 rfl rfl)
theorem dX0_cellsOf_13 : decode cX0_cellsOf 13 = .ok (.newarray .byte, 2) := dk_188_8 (dk_at dksX0_cellsOf_0 13 rfl rfl)
theorem dX0_cellsOf_15 : decode cX0_cellsOf 15 = .ok (.astore 5, 2) := dk_58 5 (dk_at dksX0_cellsOf_0 15 rfl rfl)
theorem dX0_cellsOf_17 : decode cX0_cellsOf 17 = .ok (.iload_n 3, 1) := dk_29 (dk_at dksX0_cellsOf_0 17 rfl rfl)
theorem dX0_cellsOf_18 : decode cX0_cellsOf 18 = .ok (.bipush 61, 2) := dk_16 61 (dk_at dksX0_cellsOf_0 18 rfl rfl)
theorem dX0_cellsOf_20 : decode cX0_cellsOf 20 = .ok (.if_icmp .ge 19, 3) := dk_162 0 19 (dk_at dksX0_cellsOf_0 20 rfl rfl)
theorem dX0_cellsOf_23 : decode cX0_cellsOf 23 = .ok (.iload_n 2, 1) := dk_28 (dk_at dksX0_cellsOf_0 23 rfl rfl)
theorem dX0_cellsOf_24 : decode cX0_cellsOf 24 = .ok (.ifCond .lt 15, 3) := dk_155 0 15 (dk_at dksX0_cellsOf_1 0 rfl rfl)
theorem dX0_cellsOf_27 : decode cX0_cellsOf 27 = .ok (.iload_n 2, 1) := dk_28 (dk_at dksX0_cellsOf_1 3 rfl rfl)
theorem dX0_cellsOf_28 : decode cX0_cellsOf 28 = .ok (.iload 4, 2) := dk_21 4 (dk_at dksX0_cellsOf_1 4 rfl rfl)
theorem dX0_cellsOf_30 : decode cX0_cellsOf 30 = .ok (.iload_n 3, 1) := dk_29 (dk_at dksX0_cellsOf_1 6 rfl rfl)
theorem dX0_cellsOf_31 : decode cX0_cellsOf 31 = .ok (.isub, 1) := dk_100 (dk_at dksX0_cellsOf_1 7 rfl rfl)
theorem dX0_cellsOf_32 : decode cX0_cellsOf 32 = .ok (.if_icmp .gt 7, 3) := dk_163 0 7 (dk_at dksX0_cellsOf_1 8 rfl rfl)
theorem dX0_cellsOf_35 : decode cX0_cellsOf 35 = .ok (.iconst 1, 1) := dk_4 (dk_at dksX0_cellsOf_1 11 rfl rfl)
theorem dX0_cellsOf_36 : decode cX0_cellsOf 36 = .ok (.goto 4, 3) := dk_167 0 4 (dk_at dksX0_cellsOf_1 12 rfl rfl)
theorem dX0_cellsOf_39 : decode cX0_cellsOf 39 = .ok (.iconst 0, 1) := dk_3 (dk_at dksX0_cellsOf_1 15 rfl rfl)
theorem dX0_cellsOf_40 : decode cX0_cellsOf 40 = .ok (.invokestatic 277, 3) := dk_184 1 21 (dk_at dksX0_cellsOf_1 16 rfl rfl)
theorem dX0_cellsOf_43 : decode cX0_cellsOf 43 = .ok (.aload 5, 2) := dk_25 5 (dk_at dksX0_cellsOf_1 19 rfl rfl)
theorem dX0_cellsOf_45 : decode cX0_cellsOf 45 = .ok (.arraylength, 1) := dk_190 (dk_at dksX0_cellsOf_1 21 rfl rfl)
theorem dX0_cellsOf_46 : decode cX0_cellsOf 46 = .ok (.newarray .int, 2) := dk_188_10 (dk_at dksX0_cellsOf_1 22 rfl rfl)
theorem dX0_cellsOf_48 : decode cX0_cellsOf 48 = .ok (.astore 6, 2) := dk_58 6 (dk_at dksX0_cellsOf_2 0 rfl rfl)
theorem dX0_cellsOf_50 : decode cX0_cellsOf 50 = .ok (.iconst 0, 1) := dk_3 (dk_at dksX0_cellsOf_2 2 rfl rfl)
theorem dX0_cellsOf_51 : decode cX0_cellsOf 51 = .ok (.istore 7, 2) := dk_54 7 (dk_at dksX0_cellsOf_2 3 rfl rfl)
theorem dX0_cellsOf_53 : decode cX0_cellsOf 53 = .ok (.iload 7, 2) := dk_21 7 (dk_at dksX0_cellsOf_2 5 rfl rfl)
theorem dX0_cellsOf_55 : decode cX0_cellsOf 55 = .ok (.aload 6, 2) := dk_25 6 (dk_at dksX0_cellsOf_2 7 rfl rfl)
theorem dX0_cellsOf_57 : decode cX0_cellsOf 57 = .ok (.arraylength, 1) := dk_190 (dk_at dksX0_cellsOf_2 9 rfl rfl)
theorem dX0_cellsOf_58 : decode cX0_cellsOf 58 = .ok (.if_icmp .ge 23, 3) := dk_162 0 23 (dk_at dksX0_cellsOf_2 10 rfl rfl)
theorem dX0_cellsOf_61 : decode cX0_cellsOf 61 = .ok (.aload 6, 2) := dk_25 6 (dk_at dksX0_cellsOf_2 13 rfl rfl)
theorem dX0_cellsOf_63 : decode cX0_cellsOf 63 = .ok (.iload 7, 2) := dk_21 7 (dk_at dksX0_cellsOf_2 15 rfl rfl)
theorem dX0_cellsOf_65 : decode cX0_cellsOf 65 = .ok (.aload_n 0, 1) := dk_42 (dk_at dksX0_cellsOf_2 17 rfl rfl)
theorem dX0_cellsOf_66 : decode cX0_cellsOf 66 = .ok (.iload_n 1, 1) := dk_27 (dk_at dksX0_cellsOf_2 18 rfl rfl)
theorem dX0_cellsOf_67 : decode cX0_cellsOf 67 = .ok (.iload_n 2, 1) := dk_28 (dk_at dksX0_cellsOf_2 19 rfl rfl)
theorem dX0_cellsOf_68 : decode cX0_cellsOf 68 = .ok (.iload 7, 2) := dk_21 7 (dk_at dksX0_cellsOf_2 20 rfl rfl)
theorem dX0_cellsOf_70 : decode cX0_cellsOf 70 = .ok (.iadd, 1) := dk_96 (dk_at dksX0_cellsOf_2 22 rfl rfl)
theorem dX0_cellsOf_71 : decode cX0_cellsOf 71 = .ok (.invokestatic 255, 3) := dk_184 0 255 (dk_at dksX0_cellsOf_3 0 rfl rfl)
theorem dX0_cellsOf_74 : decode cX0_cellsOf 74 = .ok (.iastore, 1) := dk_79 (dk_at dksX0_cellsOf_3 3 rfl rfl)
theorem dX0_cellsOf_75 : decode cX0_cellsOf 75 = .ok (.iinc 7 1, 3) := dk_132 7 1 (dk_at dksX0_cellsOf_3 4 rfl rfl)
theorem dX0_cellsOf_78 : decode cX0_cellsOf 78 = .ok (.goto (-25), 3) := dk_167 255 231 (dk_at dksX0_cellsOf_3 7 rfl rfl)
theorem dX0_cellsOf_81 : decode cX0_cellsOf 81 = .ok (.aload 6, 2) := dk_25 6 (dk_at dksX0_cellsOf_3 10 rfl rfl)
theorem dX0_cellsOf_83 : decode cX0_cellsOf 83 = .ok (.areturn, 1) := dk_176 (dk_at dksX0_cellsOf_3 12 rfl rfl)
abbrev cX0_sizeOf : ByteArray := prog_1_method_48_code
def yX0_sizeOf : MethodName := ⟨RX0, "sizeOf", "(Ljava/lang/Object;I)I"⟩
def dkwX0_sizeOf_1 : List UInt8 := [167, 0, 8, 42, 192, 0, 217, 190, 172]
abbrev dktX0_sizeOf_1 : List UInt8 := dkwX0_sizeOf_1 ++ []
def dkwX0_sizeOf_0 : List UInt8 := [27, 154, 0, 11, 42, 192, 0, 213, 190, 167, 0, 21, 27, 4, 160, 0, 11, 42, 192, 0, 215, 190]
abbrev dktX0_sizeOf_0 : List UInt8 := dkwX0_sizeOf_0 ++ dktX0_sizeOf_1
theorem dksX0_sizeOf_0 : cX0_sizeOf.data.toList.drop 0 = dktX0_sizeOf_0 := by decide +kernel
theorem dksX0_sizeOf_1 : cX0_sizeOf.data.toList.drop 22 = dktX0_sizeOf_1 := dk_seg dksX0_sizeOf_0 22 rfl rfl
theorem dX0_sizeOf_0 : decode cX0_sizeOf 0 = .ok (.iload_n 1, 1) := dk_27 (dk_at dksX0_sizeOf_0 0 rfl rfl)
theorem dX0_sizeOf_1 : decode cX0_sizeOf 1 = .ok (.ifCond .ne 11, 3) := dk_154 0 11 (dk_at dksX0_sizeOf_0 1 rfl rfl)
theorem dX0_sizeOf_4 : decode cX0_sizeOf 4 = .ok (.aload_n 0, 1) := dk_42 (dk_at dksX0_sizeOf_0 4 rfl rfl)
theorem dX0_sizeOf_5 : decode cX0_sizeOf 5 = .ok (.checkcast 213, 3) := dk_192 0 213 (dk_at dksX0_sizeOf_0 5 rfl rfl)
theorem dX0_sizeOf_8 : decode cX0_sizeOf 8 = .ok (.arraylength, 1) := dk_190 (dk_at dksX0_sizeOf_0 8 rfl rfl)
theorem dX0_sizeOf_9 : decode cX0_sizeOf 9 = .ok (.goto 21, 3) := dk_167 0 21 (dk_at dksX0_sizeOf_0 9 rfl rfl)
theorem dX0_sizeOf_12 : decode cX0_sizeOf 12 = .ok (.iload_n 1, 1) := dk_27 (dk_at dksX0_sizeOf_0 12 rfl rfl)
theorem dX0_sizeOf_13 : decode cX0_sizeOf 13 = .ok (.iconst 1, 1) := dk_4 (dk_at dksX0_sizeOf_0 13 rfl rfl)
theorem dX0_sizeOf_14 : decode cX0_sizeOf 14 = .ok (.if_icmp .ne 11, 3) := dk_160 0 11 (dk_at dksX0_sizeOf_0 14 rfl rfl)
theorem dX0_sizeOf_17 : decode cX0_sizeOf 17 = .ok (.aload_n 0, 1) := dk_42 (dk_at dksX0_sizeOf_0 17 rfl rfl)
theorem dX0_sizeOf_18 : decode cX0_sizeOf 18 = .ok (.checkcast 215, 3) := dk_192 0 215 (dk_at dksX0_sizeOf_0 18 rfl rfl)
theorem dX0_sizeOf_21 : decode cX0_sizeOf 21 = .ok (.arraylength, 1) := dk_190 (dk_at dksX0_sizeOf_0 21 rfl rfl)
theorem dX0_sizeOf_22 : decode cX0_sizeOf 22 = .ok (.goto 8, 3) := dk_167 0 8 (dk_at dksX0_sizeOf_1 0 rfl rfl)
theorem dX0_sizeOf_25 : decode cX0_sizeOf 25 = .ok (.aload_n 0, 1) := dk_42 (dk_at dksX0_sizeOf_1 3 rfl rfl)
theorem dX0_sizeOf_26 : decode cX0_sizeOf 26 = .ok (.checkcast 217, 3) := dk_192 0 217 (dk_at dksX0_sizeOf_1 4 rfl rfl)
theorem dX0_sizeOf_29 : decode cX0_sizeOf 29 = .ok (.arraylength, 1) := dk_190 (dk_at dksX0_sizeOf_1 7 rfl rfl)
theorem dX0_sizeOf_30 : decode cX0_sizeOf 30 = .ok (.ireturn, 1) := dk_172 (dk_at dksX0_sizeOf_1 8 rfl rfl)
abbrev cX0_need : ByteArray := prog_1_method_56_code
def yX0_need : MethodName := ⟨RX0, "need", "(Z)V"⟩
def dkwX0_need_0 : List UInt8 := [26, 154, 0, 14, 187, 0, 250, 89, 19, 1, 9, 183, 1, 11, 191, 177]
abbrev dktX0_need_0 : List UInt8 := dkwX0_need_0 ++ []
theorem dksX0_need_0 : cX0_need.data.toList.drop 0 = dktX0_need_0 := by decide +kernel
theorem dX0_need_0 : decode cX0_need 0 = .ok (.iload_n 0, 1) := dk_26 (dk_at dksX0_need_0 0 rfl rfl)
theorem dX0_need_1 : decode cX0_need 1 = .ok (.ifCond .ne 14, 3) := dk_154 0 14 (dk_at dksX0_need_0 1 rfl rfl)
theorem dX0_need_4 : decode cX0_need 4 = .ok (.new 250, 3) := dk_187 0 250 (dk_at dksX0_need_0 4 rfl rfl)
theorem dX0_need_7 : decode cX0_need 7 = .ok (.dup, 1) := dk_89 (dk_at dksX0_need_0 7 rfl rfl)
theorem dX0_need_8 : decode cX0_need 8 = .ok (.ldc_w 265, 3) := dk_19 1 9 (dk_at dksX0_need_0 8 rfl rfl)
theorem dX0_need_11 : decode cX0_need 11 = .ok (.invokespecial 267, 3) := dk_183 1 11 (dk_at dksX0_need_0 11 rfl rfl)
theorem dX0_need_14 : decode cX0_need 14 = .ok (.athrow, 1) := dk_191 (dk_at dksX0_need_0 14 rfl rfl)
theorem dX0_need_15 : decode cX0_need 15 = .ok (.return_, 1) := dk_177 (dk_at dksX0_need_0 15 rfl rfl)
abbrev cX0_newTower : ByteArray := prog_1_method_11_code
def yX0_newTower : MethodName := ⟨RX0, "newTower", "([I)I"⟩
def dkwX0_newTower_17 : List UInt8 := [185, 0, 88, 1, 0, 42, 180, 0, 18, 185, 0, 62, 1, 0, 172]
abbrev dktX0_newTower_17 : List UInt8 := dkwX0_newTower_17 ++ []
def dkwX0_newTower_16 : List UInt8 := [180, 0, 18, 185, 0, 88, 1, 0, 42, 180, 0, 18, 25, 4, 185, 0, 91, 2, 0, 87, 42, 180, 0, 28]
abbrev dktX0_newTower_16 : List UInt8 := dkwX0_newTower_16 ++ dktX0_newTower_17
def dkwX0_newTower_15 : List UInt8 := [54, 5, 21, 5, 7, 162, 0, 17, 42, 180, 0, 22, 21, 5, 3, 79, 132, 5, 1, 167, 255, 239, 42]
abbrev dktX0_newTower_15 : List UInt8 := dkwX0_newTower_15 ++ dktX0_newTower_16
def dkwX0_newTower_14 : List UInt8 := [42, 180, 0, 11, 21, 5, 43, 5, 5, 21, 5, 104, 96, 184, 0, 77, 79, 132, 5, 1, 167, 255, 227, 3]
abbrev dktX0_newTower_14 : List UInt8 := dkwX0_newTower_14 ++ dktX0_newTower_15
def dkwX0_newTower_13 : List UInt8 := [87, 132, 3, 5, 167, 255, 41, 42, 28, 181, 0, 54, 3, 54, 5, 21, 5, 42, 180, 0, 54, 162, 0, 26]
abbrev dktX0_newTower_13 : List UInt8 := dkwX0_newTower_13 ++ dktX0_newTower_14
def dkwX0_newTower_12 : List UInt8 := [104, 43, 29, 6, 96, 184, 0, 77, 96, 43, 29, 7, 96, 184, 0, 77, 182, 0, 80, 185, 0, 84, 2, 0]
abbrev dktX0_newTower_12 : List UInt8 := dkwX0_newTower_12 ++ dktX0_newTower_13
def dkwX0_newTower_11 : List UInt8 := [154, 0, 8, 16, 152, 29, 100, 172, 25, 4, 42, 21, 6, 25, 4, 185, 0, 62, 1, 0, 16, 10, 21, 7]
abbrev dktX0_newTower_11 : List UInt8 := dkwX0_newTower_11 ++ dktX0_newTower_12
def dkwX0_newTower_10 : List UInt8 := [16, 9, 184, 0, 70, 154, 0, 8, 16, 153, 29, 100, 172, 43, 29, 7, 96, 3, 7, 184, 0, 70]
abbrev dktX0_newTower_10 : List UInt8 := dkwX0_newTower_10 ++ dktX0_newTower_11
def dkwX0_newTower_9 : List UInt8 := [29, 5, 96, 184, 0, 77, 54, 7, 43, 29, 6, 96, 3, 21, 7, 16, 6, 160, 0, 7, 6, 167, 0, 5]
abbrev dktX0_newTower_9 : List UInt8 := dkwX0_newTower_9 ++ dktX0_newTower_10
def dkwX0_newTower_8 : List UInt8 := [16, 155, 29, 100, 172, 43, 29, 5, 96, 3, 16, 6, 184, 0, 70, 154, 0, 8, 16, 154, 29, 100, 172, 43]
abbrev dktX0_newTower_8 : List UInt8 := dkwX0_newTower_8 ++ dktX0_newTower_9
def dkwX0_newTower_7 : List UInt8 := [167, 0, 16, 21, 5, 16, 97, 160, 0, 7, 5, 167, 0, 5, 16, 247, 54, 6, 21, 6, 156, 0, 8]
abbrev dktX0_newTower_7 : List UInt8 := dkwX0_newTower_7 ++ dktX0_newTower_8
def dkwX0_newTower_6 : List UInt8 := [184, 0, 66, 54, 5, 21, 5, 16, 112, 160, 0, 7, 3, 167, 0, 27, 21, 5, 16, 114, 160, 0, 7, 4]
abbrev dktX0_newTower_6 : List UInt8 := dkwX0_newTower_6 ++ dktX0_newTower_7
def dkwX0_newTower_5 : List UInt8 := [159, 0, 13, 43, 29, 184, 0, 66, 16, 44, 159, 0, 8, 16, 156, 29, 100, 172, 43, 29, 4, 96]
abbrev dktX0_newTower_5 : List UInt8 := dkwX0_newTower_5 ++ dktX0_newTower_6
def dkwX0_newTower_4 : List UInt8 := [185, 0, 48, 1, 0, 154, 0, 9, 29, 43, 190, 162, 0, 205, 25, 4, 185, 0, 62, 1, 0, 7]
abbrev dktX0_newTower_4 : List UInt8 := dkwX0_newTower_4 ++ dktX0_newTower_5
def dkwX0_newTower_3 : List UInt8 := [132, 3, 2, 132, 2, 1, 167, 255, 197, 187, 0, 15, 89, 7, 183, 0, 74, 58, 4, 25, 4]
abbrev dktX0_newTower_3 : List UInt8 := dkwX0_newTower_3 ++ dktX0_newTower_4
def dkwX0_newTower_2 : List UInt8 := [16, 156, 29, 100, 172, 43, 29, 4, 96, 4, 16, 9, 184, 0, 70, 154, 0, 8, 16, 155, 29, 100, 172]
abbrev dktX0_newTower_2 : List UInt8 := dkwX0_newTower_2 ++ dktX0_newTower_3
def dkwX0_newTower_1 : List UInt8 := [184, 0, 66, 16, 45, 160, 0, 51, 28, 16, 6, 159, 0, 13, 43, 29, 184, 0, 66, 16, 45, 159, 0, 8]
abbrev dktX0_newTower_1 : List UInt8 := dkwX0_newTower_1 ++ dktX0_newTower_2
def dkwX0_newTower_0 : List UInt8 := [43, 3, 184, 0, 66, 16, 117, 159, 0, 6, 16, 156, 172, 3, 61, 4, 62, 28, 153, 0, 13, 43, 29]
abbrev dktX0_newTower_0 : List UInt8 := dkwX0_newTower_0 ++ dktX0_newTower_1
theorem dksX0_newTower_0 : cX0_newTower.data.toList.drop 0 = dktX0_newTower_0 := by decide +kernel
theorem dksX0_newTower_1 : cX0_newTower.data.toList.drop 23 = dktX0_newTower_1 := dk_seg dksX0_newTower_0 23 rfl rfl
theorem dksX0_newTower_2 : cX0_newTower.data.toList.drop 47 = dktX0_newTower_2 := dk_seg dksX0_newTower_1 24 rfl rfl
theorem dksX0_newTower_3 : cX0_newTower.data.toList.drop 70 = dktX0_newTower_3 := dk_seg dksX0_newTower_2 23 rfl rfl
theorem dksX0_newTower_4 : cX0_newTower.data.toList.drop 91 = dktX0_newTower_4 := dk_seg dksX0_newTower_3 21 rfl rfl
theorem dksX0_newTower_5 : cX0_newTower.data.toList.drop 113 = dktX0_newTower_5 := dk_seg dksX0_newTower_4 22 rfl rfl
theorem dksX0_newTower_6 : cX0_newTower.data.toList.drop 135 = dktX0_newTower_6 := dk_seg dksX0_newTower_5 22 rfl rfl
theorem dksX0_newTower_7 : cX0_newTower.data.toList.drop 159 = dktX0_newTower_7 := dk_seg dksX0_newTower_6 24 rfl rfl
theorem dksX0_newTower_8 : cX0_newTower.data.toList.drop 182 = dktX0_newTower_8 := dk_seg dksX0_newTower_7 23 rfl rfl
theorem dksX0_newTower_9 : cX0_newTower.data.toList.drop 206 = dktX0_newTower_9 := dk_seg dksX0_newTower_8 24 rfl rfl
theorem dksX0_newTower_10 : cX0_newTower.data.toList.drop 230 = dktX0_newTower_10 := dk_seg dksX0_newTower_9 24 rfl rfl
theorem dksX0_newTower_11 : cX0_newTower.data.toList.drop 252 = dktX0_newTower_11 := dk_seg dksX0_newTower_10 22 rfl rfl
theorem dksX0_newTower_12 : cX0_newTower.data.toList.drop 276 = dktX0_newTower_12 := dk_seg dksX0_newTower_11 24 rfl rfl
theorem dksX0_newTower_13 : cX0_newTower.data.toList.drop 300 = dktX0_newTower_13 := dk_seg dksX0_newTower_12 24 rfl rfl
theorem dksX0_newTower_14 : cX0_newTower.data.toList.drop 324 = dktX0_newTower_14 := dk_seg dksX0_newTower_13 24 rfl rfl
theorem dksX0_newTower_15 : cX0_newTower.data.toList.drop 348 = dktX0_newTower_15 := dk_seg dksX0_newTower_14 24 rfl rfl
theorem dksX0_newTower_16 : cX0_newTower.data.toList.drop 371 = dktX0_newTower_16 := dk_seg dksX0_newTower_15 23 rfl rfl
theorem dksX0_newTower_17 : cX0_newTower.data.toList.drop 395 = dktX0_newTower_17 := dk_seg dksX0_newTower_16 24 rfl rfl
theorem dX0_newTower_0 : decode cX0_newTower 0 = .ok (.aload_n 1, 1) := dk_43 (dk_at dksX0_newTower_0 0 rfl rfl)
theorem dX0_newTower_1 : decode cX0_newTower 1 = .ok (.iconst 0, 1) := dk_3 (dk_at dksX0_newTower_0 1 rfl rfl)
theorem dX0_newTower_2 : decode cX0_newTower 2 = .ok (.invokestatic 66, 3) := dk_184 0 66 (dk_at dksX0_newTower_0 2 rfl rfl)
theorem dX0_newTower_5 : decode cX0_newTower 5 = .ok (.bipush 117, 2) := dk_16 117 (dk_at dksX0_newTower_0 5 rfl rfl)
theorem dX0_newTower_7 : decode cX0_newTower 7 = .ok (.if_icmp .eq 6, 3) := dk_159 0 6 (dk_at dksX0_newTower_0 7 rfl rfl)
theorem dX0_newTower_10 : decode cX0_newTower 10 = .ok (.bipush (-100), 2) := dk_16 156 (dk_at dksX0_newTower_0 10 rfl rfl)
theorem dX0_newTower_12 : decode cX0_newTower 12 = .ok (.ireturn, 1) := dk_172 (dk_at dksX0_newTower_0 12 rfl rfl)
theorem dX0_newTower_13 : decode cX0_newTower 13 = .ok (.iconst 0, 1) := dk_3 (dk_at dksX0_newTower_0 13 rfl rfl)
theorem dX0_newTower_14 : decode cX0_newTower 14 = .ok (.istore_n 2, 1) := dk_61 (dk_at dksX0_newTower_0 14 rfl rfl)
theorem dX0_newTower_15 : decode cX0_newTower 15 = .ok (.iconst 1, 1) := dk_4 (dk_at dksX0_newTower_0 15 rfl rfl)
theorem dX0_newTower_16 : decode cX0_newTower 16 = .ok (.istore_n 3, 1) := dk_62 (dk_at dksX0_newTower_0 16 rfl rfl)
theorem dX0_newTower_17 : decode cX0_newTower 17 = .ok (.iload_n 2, 1) := dk_28 (dk_at dksX0_newTower_0 17 rfl rfl)
theorem dX0_newTower_18 : decode cX0_newTower 18 = .ok (.ifCond .eq 13, 3) := dk_153 0 13 (dk_at dksX0_newTower_0 18 rfl rfl)
theorem dX0_newTower_21 : decode cX0_newTower 21 = .ok (.aload_n 1, 1) := dk_43 (dk_at dksX0_newTower_0 21 rfl rfl)
theorem dX0_newTower_22 : decode cX0_newTower 22 = .ok (.iload_n 3, 1) := dk_29 (dk_at dksX0_newTower_0 22 rfl rfl)
theorem dX0_newTower_23 : decode cX0_newTower 23 = .ok (.invokestatic 66, 3) := dk_184 0 66 (dk_at dksX0_newTower_1 0 rfl rfl)
theorem dX0_newTower_26 : decode cX0_newTower 26 = .ok (.bipush 45, 2) := dk_16 45 (dk_at dksX0_newTower_1 3 rfl rfl)
theorem dX0_newTower_28 : decode cX0_newTower 28 = .ok (.if_icmp .ne 51, 3) := dk_160 0 51 (dk_at dksX0_newTower_1 5 rfl rfl)
theorem dX0_newTower_31 : decode cX0_newTower 31 = .ok (.iload_n 2, 1) := dk_28 (dk_at dksX0_newTower_1 8 rfl rfl)
theorem dX0_newTower_32 : decode cX0_newTower 32 = .ok (.bipush 6, 2) := dk_16 6 (dk_at dksX0_newTower_1 9 rfl rfl)
theorem dX0_newTower_34 : decode cX0_newTower 34 = .ok (.if_icmp .eq 13, 3) := dk_159 0 13 (dk_at dksX0_newTower_1 11 rfl rfl)
theorem dX0_newTower_37 : decode cX0_newTower 37 = .ok (.aload_n 1, 1) := dk_43 (dk_at dksX0_newTower_1 14 rfl rfl)
theorem dX0_newTower_38 : decode cX0_newTower 38 = .ok (.iload_n 3, 1) := dk_29 (dk_at dksX0_newTower_1 15 rfl rfl)
theorem dX0_newTower_39 : decode cX0_newTower 39 = .ok (.invokestatic 66, 3) := dk_184 0 66 (dk_at dksX0_newTower_1 16 rfl rfl)
theorem dX0_newTower_42 : decode cX0_newTower 42 = .ok (.bipush 45, 2) := dk_16 45 (dk_at dksX0_newTower_1 19 rfl rfl)
theorem dX0_newTower_44 : decode cX0_newTower 44 = .ok (.if_icmp .eq 8, 3) := dk_159 0 8 (dk_at dksX0_newTower_1 21 rfl rfl)
theorem dX0_newTower_47 : decode cX0_newTower 47 = .ok (.bipush (-100), 2) := dk_16 156 (dk_at dksX0_newTower_2 0 rfl rfl)
theorem dX0_newTower_49 : decode cX0_newTower 49 = .ok (.iload_n 3, 1) := dk_29 (dk_at dksX0_newTower_2 2 rfl rfl)
theorem dX0_newTower_50 : decode cX0_newTower 50 = .ok (.isub, 1) := dk_100 (dk_at dksX0_newTower_2 3 rfl rfl)
theorem dX0_newTower_51 : decode cX0_newTower 51 = .ok (.ireturn, 1) := dk_172 (dk_at dksX0_newTower_2 4 rfl rfl)
theorem dX0_newTower_52 : decode cX0_newTower 52 = .ok (.aload_n 1, 1) := dk_43 (dk_at dksX0_newTower_2 5 rfl rfl)
theorem dX0_newTower_53 : decode cX0_newTower 53 = .ok (.iload_n 3, 1) := dk_29 (dk_at dksX0_newTower_2 6 rfl rfl)
theorem dX0_newTower_54 : decode cX0_newTower 54 = .ok (.iconst 1, 1) := dk_4 (dk_at dksX0_newTower_2 7 rfl rfl)
theorem dX0_newTower_55 : decode cX0_newTower 55 = .ok (.iadd, 1) := dk_96 (dk_at dksX0_newTower_2 8 rfl rfl)
theorem dX0_newTower_56 : decode cX0_newTower 56 = .ok (.iconst 1, 1) := dk_4 (dk_at dksX0_newTower_2 9 rfl rfl)
theorem dX0_newTower_57 : decode cX0_newTower 57 = .ok (.bipush 9, 2) := dk_16 9 (dk_at dksX0_newTower_2 10 rfl rfl)
theorem dX0_newTower_59 : decode cX0_newTower 59 = .ok (.invokestatic 70, 3) := dk_184 0 70 (dk_at dksX0_newTower_2 12 rfl rfl)
theorem dX0_newTower_62 : decode cX0_newTower 62 = .ok (.ifCond .ne 8, 3) := dk_154 0 8 (dk_at dksX0_newTower_2 15 rfl rfl)
theorem dX0_newTower_65 : decode cX0_newTower 65 = .ok (.bipush (-101), 2) := dk_16 155 (dk_at dksX0_newTower_2 18 rfl rfl)
theorem dX0_newTower_67 : decode cX0_newTower 67 = .ok (.iload_n 3, 1) := dk_29 (dk_at dksX0_newTower_2 20 rfl rfl)
theorem dX0_newTower_68 : decode cX0_newTower 68 = .ok (.isub, 1) := dk_100 (dk_at dksX0_newTower_2 21 rfl rfl)
theorem dX0_newTower_69 : decode cX0_newTower 69 = .ok (.ireturn, 1) := dk_172 (dk_at dksX0_newTower_2 22 rfl rfl)
theorem dX0_newTower_70 : decode cX0_newTower 70 = .ok (.iinc 3 2, 3) := dk_132 3 2 (dk_at dksX0_newTower_3 0 rfl rfl)
theorem dX0_newTower_73 : decode cX0_newTower 73 = .ok (.iinc 2 1, 3) := dk_132 2 1 (dk_at dksX0_newTower_3 3 rfl rfl)
theorem dX0_newTower_76 : decode cX0_newTower 76 = .ok (.goto (-59), 3) := dk_167 255 197 (dk_at dksX0_newTower_3 6 rfl rfl)
theorem dX0_newTower_79 : decode cX0_newTower 79 = .ok (.new 15, 3) := dk_187 0 15 (dk_at dksX0_newTower_3 9 rfl rfl)
theorem dX0_newTower_82 : decode cX0_newTower 82 = .ok (.dup, 1) := dk_89 (dk_at dksX0_newTower_3 12 rfl rfl)
theorem dX0_newTower_83 : decode cX0_newTower 83 = .ok (.iconst 4, 1) := dk_7 (dk_at dksX0_newTower_3 13 rfl rfl)
theorem dX0_newTower_84 : decode cX0_newTower 84 = .ok (.invokespecial 74, 3) := dk_183 0 74 (dk_at dksX0_newTower_3 14 rfl rfl)
theorem dX0_newTower_87 : decode cX0_newTower 87 = .ok (.astore 4, 2) := dk_58 4 (dk_at dksX0_newTower_3 17 rfl rfl)
theorem dX0_newTower_89 : decode cX0_newTower 89 = .ok (.aload 4, 2) := dk_25 4 (dk_at dksX0_newTower_3 19 rfl rfl)
theorem dX0_newTower_91 : decode cX0_newTower 91 = .ok (.invokeinterface 48 1, 5) := by decide +kernel
theorem dX0_newTower_96 : decode cX0_newTower 96 = .ok (.ifCond .ne 9, 3) := dk_154 0 9 (dk_at dksX0_newTower_4 5 rfl rfl)
theorem dX0_newTower_99 : decode cX0_newTower 99 = .ok (.iload_n 3, 1) := dk_29 (dk_at dksX0_newTower_4 8 rfl rfl)
theorem dX0_newTower_100 : decode cX0_newTower 100 = .ok (.aload_n 1, 1) := dk_43 (dk_at dksX0_newTower_4 9 rfl rfl)
theorem dX0_newTower_101 : decode cX0_newTower 101 = .ok (.arraylength, 1) := dk_190 (dk_at dksX0_newTower_4 10 rfl rfl)
theorem dX0_newTower_102 : decode cX0_newTower 102 = .ok (.if_icmp .ge 205, 3) := dk_162 0 205 (dk_at dksX0_newTower_4 11 rfl rfl)
theorem dX0_newTower_105 : decode cX0_newTower 105 = .ok (.aload 4, 2) := dk_25 4 (dk_at dksX0_newTower_4 14 rfl rfl)
theorem dX0_newTower_107 : decode cX0_newTower 107 = .ok (.invokeinterface 62 1, 5) := by decide +kernel
theorem dX0_newTower_112 : decode cX0_newTower 112 = .ok (.iconst 4, 1) := dk_7 (dk_at dksX0_newTower_4 21 rfl rfl)
theorem dX0_newTower_113 : decode cX0_newTower 113 = .ok (.if_icmp .eq 13, 3) := dk_159 0 13 (dk_at dksX0_newTower_5 0 rfl rfl)
theorem dX0_newTower_116 : decode cX0_newTower 116 = .ok (.aload_n 1, 1) := dk_43 (dk_at dksX0_newTower_5 3 rfl rfl)
theorem dX0_newTower_117 : decode cX0_newTower 117 = .ok (.iload_n 3, 1) := dk_29 (dk_at dksX0_newTower_5 4 rfl rfl)
theorem dX0_newTower_118 : decode cX0_newTower 118 = .ok (.invokestatic 66, 3) := dk_184 0 66 (dk_at dksX0_newTower_5 5 rfl rfl)
theorem dX0_newTower_121 : decode cX0_newTower 121 = .ok (.bipush 44, 2) := dk_16 44 (dk_at dksX0_newTower_5 8 rfl rfl)
theorem dX0_newTower_123 : decode cX0_newTower 123 = .ok (.if_icmp .eq 8, 3) := dk_159 0 8 (dk_at dksX0_newTower_5 10 rfl rfl)
theorem dX0_newTower_126 : decode cX0_newTower 126 = .ok (.bipush (-100), 2) := dk_16 156 (dk_at dksX0_newTower_5 13 rfl rfl)
theorem dX0_newTower_128 : decode cX0_newTower 128 = .ok (.iload_n 3, 1) := dk_29 (dk_at dksX0_newTower_5 15 rfl rfl)
theorem dX0_newTower_129 : decode cX0_newTower 129 = .ok (.isub, 1) := dk_100 (dk_at dksX0_newTower_5 16 rfl rfl)
theorem dX0_newTower_130 : decode cX0_newTower 130 = .ok (.ireturn, 1) := dk_172 (dk_at dksX0_newTower_5 17 rfl rfl)
theorem dX0_newTower_131 : decode cX0_newTower 131 = .ok (.aload_n 1, 1) := dk_43 (dk_at dksX0_newTower_5 18 rfl rfl)
theorem dX0_newTower_132 : decode cX0_newTower 132 = .ok (.iload_n 3, 1) := dk_29 (dk_at dksX0_newTower_5 19 rfl rfl)
theorem dX0_newTower_133 : decode cX0_newTower 133 = .ok (.iconst 1, 1) := dk_4 (dk_at dksX0_newTower_5 20 rfl rfl)
theorem dX0_newTower_134 : decode cX0_newTower 134 = .ok (.iadd, 1) := dk_96 (dk_at dksX0_newTower_5 21 rfl rfl)
theorem dX0_newTower_135 : decode cX0_newTower 135 = .ok (.invokestatic 66, 3) := dk_184 0 66 (dk_at dksX0_newTower_6 0 rfl rfl)
theorem dX0_newTower_138 : decode cX0_newTower 138 = .ok (.istore 5, 2) := dk_54 5 (dk_at dksX0_newTower_6 3 rfl rfl)
theorem dX0_newTower_140 : decode cX0_newTower 140 = .ok (.iload 5, 2) := dk_21 5 (dk_at dksX0_newTower_6 5 rfl rfl)
theorem dX0_newTower_142 : decode cX0_newTower 142 = .ok (.bipush 112, 2) := dk_16 112 (dk_at dksX0_newTower_6 7 rfl rfl)
theorem dX0_newTower_144 : decode cX0_newTower 144 = .ok (.if_icmp .ne 7, 3) := dk_160 0 7 (dk_at dksX0_newTower_6 9 rfl rfl)
theorem dX0_newTower_147 : decode cX0_newTower 147 = .ok (.iconst 0, 1) := dk_3 (dk_at dksX0_newTower_6 12 rfl rfl)
theorem dX0_newTower_148 : decode cX0_newTower 148 = .ok (.goto 27, 3) := dk_167 0 27 (dk_at dksX0_newTower_6 13 rfl rfl)
theorem dX0_newTower_151 : decode cX0_newTower 151 = .ok (.iload 5, 2) := dk_21 5 (dk_at dksX0_newTower_6 16 rfl rfl)
theorem dX0_newTower_153 : decode cX0_newTower 153 = .ok (.bipush 114, 2) := dk_16 114 (dk_at dksX0_newTower_6 18 rfl rfl)
theorem dX0_newTower_155 : decode cX0_newTower 155 = .ok (.if_icmp .ne 7, 3) := dk_160 0 7 (dk_at dksX0_newTower_6 20 rfl rfl)
theorem dX0_newTower_158 : decode cX0_newTower 158 = .ok (.iconst 1, 1) := dk_4 (dk_at dksX0_newTower_6 23 rfl rfl)
theorem dX0_newTower_159 : decode cX0_newTower 159 = .ok (.goto 16, 3) := dk_167 0 16 (dk_at dksX0_newTower_7 0 rfl rfl)
theorem dX0_newTower_162 : decode cX0_newTower 162 = .ok (.iload 5, 2) := dk_21 5 (dk_at dksX0_newTower_7 3 rfl rfl)
theorem dX0_newTower_164 : decode cX0_newTower 164 = .ok (.bipush 97, 2) := dk_16 97 (dk_at dksX0_newTower_7 5 rfl rfl)
theorem dX0_newTower_166 : decode cX0_newTower 166 = .ok (.if_icmp .ne 7, 3) := dk_160 0 7 (dk_at dksX0_newTower_7 7 rfl rfl)
theorem dX0_newTower_169 : decode cX0_newTower 169 = .ok (.iconst 2, 1) := dk_5 (dk_at dksX0_newTower_7 10 rfl rfl)
theorem dX0_newTower_170 : decode cX0_newTower 170 = .ok (.goto 5, 3) := dk_167 0 5 (dk_at dksX0_newTower_7 11 rfl rfl)
theorem dX0_newTower_173 : decode cX0_newTower 173 = .ok (.bipush (-9), 2) := dk_16 247 (dk_at dksX0_newTower_7 14 rfl rfl)
theorem dX0_newTower_175 : decode cX0_newTower 175 = .ok (.istore 6, 2) := dk_54 6 (dk_at dksX0_newTower_7 16 rfl rfl)
theorem dX0_newTower_177 : decode cX0_newTower 177 = .ok (.iload 6, 2) := dk_21 6 (dk_at dksX0_newTower_7 18 rfl rfl)
theorem dX0_newTower_179 : decode cX0_newTower 179 = .ok (.ifCond .ge 8, 3) := dk_156 0 8 (dk_at dksX0_newTower_7 20 rfl rfl)
theorem dX0_newTower_182 : decode cX0_newTower 182 = .ok (.bipush (-101), 2) := dk_16 155 (dk_at dksX0_newTower_8 0 rfl rfl)
theorem dX0_newTower_184 : decode cX0_newTower 184 = .ok (.iload_n 3, 1) := dk_29 (dk_at dksX0_newTower_8 2 rfl rfl)
theorem dX0_newTower_185 : decode cX0_newTower 185 = .ok (.isub, 1) := dk_100 (dk_at dksX0_newTower_8 3 rfl rfl)
theorem dX0_newTower_186 : decode cX0_newTower 186 = .ok (.ireturn, 1) := dk_172 (dk_at dksX0_newTower_8 4 rfl rfl)
theorem dX0_newTower_187 : decode cX0_newTower 187 = .ok (.aload_n 1, 1) := dk_43 (dk_at dksX0_newTower_8 5 rfl rfl)
theorem dX0_newTower_188 : decode cX0_newTower 188 = .ok (.iload_n 3, 1) := dk_29 (dk_at dksX0_newTower_8 6 rfl rfl)
theorem dX0_newTower_189 : decode cX0_newTower 189 = .ok (.iconst 2, 1) := dk_5 (dk_at dksX0_newTower_8 7 rfl rfl)
theorem dX0_newTower_190 : decode cX0_newTower 190 = .ok (.iadd, 1) := dk_96 (dk_at dksX0_newTower_8 8 rfl rfl)
theorem dX0_newTower_191 : decode cX0_newTower 191 = .ok (.iconst 0, 1) := dk_3 (dk_at dksX0_newTower_8 9 rfl rfl)
theorem dX0_newTower_192 : decode cX0_newTower 192 = .ok (.bipush 6, 2) := dk_16 6 (dk_at dksX0_newTower_8 10 rfl rfl)
theorem dX0_newTower_194 : decode cX0_newTower 194 = .ok (.invokestatic 70, 3) := dk_184 0 70 (dk_at dksX0_newTower_8 12 rfl rfl)
theorem dX0_newTower_197 : decode cX0_newTower 197 = .ok (.ifCond .ne 8, 3) := dk_154 0 8 (dk_at dksX0_newTower_8 15 rfl rfl)
theorem dX0_newTower_200 : decode cX0_newTower 200 = .ok (.bipush (-102), 2) := dk_16 154 (dk_at dksX0_newTower_8 18 rfl rfl)
theorem dX0_newTower_202 : decode cX0_newTower 202 = .ok (.iload_n 3, 1) := dk_29 (dk_at dksX0_newTower_8 20 rfl rfl)
theorem dX0_newTower_203 : decode cX0_newTower 203 = .ok (.isub, 1) := dk_100 (dk_at dksX0_newTower_8 21 rfl rfl)
theorem dX0_newTower_204 : decode cX0_newTower 204 = .ok (.ireturn, 1) := dk_172 (dk_at dksX0_newTower_8 22 rfl rfl)
theorem dX0_newTower_205 : decode cX0_newTower 205 = .ok (.aload_n 1, 1) := dk_43 (dk_at dksX0_newTower_8 23 rfl rfl)
theorem dX0_newTower_206 : decode cX0_newTower 206 = .ok (.iload_n 3, 1) := dk_29 (dk_at dksX0_newTower_9 0 rfl rfl)
theorem dX0_newTower_207 : decode cX0_newTower 207 = .ok (.iconst 2, 1) := dk_5 (dk_at dksX0_newTower_9 1 rfl rfl)
theorem dX0_newTower_208 : decode cX0_newTower 208 = .ok (.iadd, 1) := dk_96 (dk_at dksX0_newTower_9 2 rfl rfl)
theorem dX0_newTower_209 : decode cX0_newTower 209 = .ok (.invokestatic 77, 3) := dk_184 0 77 (dk_at dksX0_newTower_9 3 rfl rfl)
theorem dX0_newTower_212 : decode cX0_newTower 212 = .ok (.istore 7, 2) := dk_54 7 (dk_at dksX0_newTower_9 6 rfl rfl)
theorem dX0_newTower_214 : decode cX0_newTower 214 = .ok (.aload_n 1, 1) := dk_43 (dk_at dksX0_newTower_9 8 rfl rfl)
theorem dX0_newTower_215 : decode cX0_newTower 215 = .ok (.iload_n 3, 1) := dk_29 (dk_at dksX0_newTower_9 9 rfl rfl)
theorem dX0_newTower_216 : decode cX0_newTower 216 = .ok (.iconst 3, 1) := dk_6 (dk_at dksX0_newTower_9 10 rfl rfl)
theorem dX0_newTower_217 : decode cX0_newTower 217 = .ok (.iadd, 1) := dk_96 (dk_at dksX0_newTower_9 11 rfl rfl)
theorem dX0_newTower_218 : decode cX0_newTower 218 = .ok (.iconst 0, 1) := dk_3 (dk_at dksX0_newTower_9 12 rfl rfl)
theorem dX0_newTower_219 : decode cX0_newTower 219 = .ok (.iload 7, 2) := dk_21 7 (dk_at dksX0_newTower_9 13 rfl rfl)
theorem dX0_newTower_221 : decode cX0_newTower 221 = .ok (.bipush 6, 2) := dk_16 6 (dk_at dksX0_newTower_9 15 rfl rfl)
theorem dX0_newTower_223 : decode cX0_newTower 223 = .ok (.if_icmp .ne 7, 3) := dk_160 0 7 (dk_at dksX0_newTower_9 17 rfl rfl)
theorem dX0_newTower_226 : decode cX0_newTower 226 = .ok (.iconst 3, 1) := dk_6 (dk_at dksX0_newTower_9 20 rfl rfl)
theorem dX0_newTower_227 : decode cX0_newTower 227 = .ok (.goto 5, 3) := dk_167 0 5 (dk_at dksX0_newTower_9 21 rfl rfl)
theorem dX0_newTower_230 : decode cX0_newTower 230 = .ok (.bipush 9, 2) := dk_16 9 (dk_at dksX0_newTower_10 0 rfl rfl)
theorem dX0_newTower_232 : decode cX0_newTower 232 = .ok (.invokestatic 70, 3) := dk_184 0 70 (dk_at dksX0_newTower_10 2 rfl rfl)
theorem dX0_newTower_235 : decode cX0_newTower 235 = .ok (.ifCond .ne 8, 3) := dk_154 0 8 (dk_at dksX0_newTower_10 5 rfl rfl)
theorem dX0_newTower_238 : decode cX0_newTower 238 = .ok (.bipush (-103), 2) := dk_16 153 (dk_at dksX0_newTower_10 8 rfl rfl)
theorem dX0_newTower_240 : decode cX0_newTower 240 = .ok (.iload_n 3, 1) := dk_29 (dk_at dksX0_newTower_10 10 rfl rfl)
theorem dX0_newTower_241 : decode cX0_newTower 241 = .ok (.isub, 1) := dk_100 (dk_at dksX0_newTower_10 11 rfl rfl)
theorem dX0_newTower_242 : decode cX0_newTower 242 = .ok (.ireturn, 1) := dk_172 (dk_at dksX0_newTower_10 12 rfl rfl)
theorem dX0_newTower_243 : decode cX0_newTower 243 = .ok (.aload_n 1, 1) := dk_43 (dk_at dksX0_newTower_10 13 rfl rfl)
theorem dX0_newTower_244 : decode cX0_newTower 244 = .ok (.iload_n 3, 1) := dk_29 (dk_at dksX0_newTower_10 14 rfl rfl)
theorem dX0_newTower_245 : decode cX0_newTower 245 = .ok (.iconst 4, 1) := dk_7 (dk_at dksX0_newTower_10 15 rfl rfl)
theorem dX0_newTower_246 : decode cX0_newTower 246 = .ok (.iadd, 1) := dk_96 (dk_at dksX0_newTower_10 16 rfl rfl)
theorem dX0_newTower_247 : decode cX0_newTower 247 = .ok (.iconst 0, 1) := dk_3 (dk_at dksX0_newTower_10 17 rfl rfl)
theorem dX0_newTower_248 : decode cX0_newTower 248 = .ok (.iconst 4, 1) := dk_7 (dk_at dksX0_newTower_10 18 rfl rfl)
theorem dX0_newTower_249 : decode cX0_newTower 249 = .ok (.invokestatic 70, 3) := dk_184 0 70 (dk_at dksX0_newTower_10 19 rfl rfl)
theorem dX0_newTower_252 : decode cX0_newTower 252 = .ok (.ifCond .ne 8, 3) := dk_154 0 8 (dk_at dksX0_newTower_11 0 rfl rfl)
theorem dX0_newTower_255 : decode cX0_newTower 255 = .ok (.bipush (-104), 2) := dk_16 152 (dk_at dksX0_newTower_11 3 rfl rfl)
theorem dX0_newTower_257 : decode cX0_newTower 257 = .ok (.iload_n 3, 1) := dk_29 (dk_at dksX0_newTower_11 5 rfl rfl)
theorem dX0_newTower_258 : decode cX0_newTower 258 = .ok (.isub, 1) := dk_100 (dk_at dksX0_newTower_11 6 rfl rfl)
theorem dX0_newTower_259 : decode cX0_newTower 259 = .ok (.ireturn, 1) := dk_172 (dk_at dksX0_newTower_11 7 rfl rfl)
theorem dX0_newTower_260 : decode cX0_newTower 260 = .ok (.aload 4, 2) := dk_25 4 (dk_at dksX0_newTower_11 8 rfl rfl)
theorem dX0_newTower_262 : decode cX0_newTower 262 = .ok (.aload_n 0, 1) := dk_42 (dk_at dksX0_newTower_11 10 rfl rfl)
theorem dX0_newTower_263 : decode cX0_newTower 263 = .ok (.iload 6, 2) := dk_21 6 (dk_at dksX0_newTower_11 11 rfl rfl)
theorem dX0_newTower_265 : decode cX0_newTower 265 = .ok (.aload 4, 2) := dk_25 4 (dk_at dksX0_newTower_11 13 rfl rfl)
theorem dX0_newTower_267 : decode cX0_newTower 267 = .ok (.invokeinterface 62 1, 5) := by decide +kernel
theorem dX0_newTower_272 : decode cX0_newTower 272 = .ok (.bipush 10, 2) := dk_16 10 (dk_at dksX0_newTower_11 20 rfl rfl)
theorem dX0_newTower_274 : decode cX0_newTower 274 = .ok (.iload 7, 2) := dk_21 7 (dk_at dksX0_newTower_11 22 rfl rfl)
theorem dX0_newTower_276 : decode cX0_newTower 276 = .ok (.imul, 1) := dk_104 (dk_at dksX0_newTower_12 0 rfl rfl)
theorem dX0_newTower_277 : decode cX0_newTower 277 = .ok (.aload_n 1, 1) := dk_43 (dk_at dksX0_newTower_12 1 rfl rfl)
theorem dX0_newTower_278 : decode cX0_newTower 278 = .ok (.iload_n 3, 1) := dk_29 (dk_at dksX0_newTower_12 2 rfl rfl)
theorem dX0_newTower_279 : decode cX0_newTower 279 = .ok (.iconst 3, 1) := dk_6 (dk_at dksX0_newTower_12 3 rfl rfl)
theorem dX0_newTower_280 : decode cX0_newTower 280 = .ok (.iadd, 1) := dk_96 (dk_at dksX0_newTower_12 4 rfl rfl)
theorem dX0_newTower_281 : decode cX0_newTower 281 = .ok (.invokestatic 77, 3) := dk_184 0 77 (dk_at dksX0_newTower_12 5 rfl rfl)
theorem dX0_newTower_284 : decode cX0_newTower 284 = .ok (.iadd, 1) := dk_96 (dk_at dksX0_newTower_12 8 rfl rfl)
theorem dX0_newTower_285 : decode cX0_newTower 285 = .ok (.aload_n 1, 1) := dk_43 (dk_at dksX0_newTower_12 9 rfl rfl)
theorem dX0_newTower_286 : decode cX0_newTower 286 = .ok (.iload_n 3, 1) := dk_29 (dk_at dksX0_newTower_12 10 rfl rfl)
theorem dX0_newTower_287 : decode cX0_newTower 287 = .ok (.iconst 4, 1) := dk_7 (dk_at dksX0_newTower_12 11 rfl rfl)
theorem dX0_newTower_288 : decode cX0_newTower 288 = .ok (.iadd, 1) := dk_96 (dk_at dksX0_newTower_12 12 rfl rfl)
theorem dX0_newTower_289 : decode cX0_newTower 289 = .ok (.invokestatic 77, 3) := dk_184 0 77 (dk_at dksX0_newTower_12 13 rfl rfl)
theorem dX0_newTower_292 : decode cX0_newTower 292 = .ok (.invokevirtual 80, 3) := dk_182 0 80 (dk_at dksX0_newTower_12 16 rfl rfl)
theorem dX0_newTower_295 : decode cX0_newTower 295 = .ok (.invokeinterface 84 2, 5) := by decide +kernel
theorem dX0_newTower_300 : decode cX0_newTower 300 = .ok (.pop, 1) := dk_87 (dk_at dksX0_newTower_13 0 rfl rfl)
theorem dX0_newTower_301 : decode cX0_newTower 301 = .ok (.iinc 3 5, 3) := dk_132 3 5 (dk_at dksX0_newTower_13 1 rfl rfl)
theorem dX0_newTower_304 : decode cX0_newTower 304 = .ok (.goto (-215), 3) := dk_167 255 41 (dk_at dksX0_newTower_13 4 rfl rfl)
theorem dX0_newTower_307 : decode cX0_newTower 307 = .ok (.aload_n 0, 1) := dk_42 (dk_at dksX0_newTower_13 7 rfl rfl)
theorem dX0_newTower_308 : decode cX0_newTower 308 = .ok (.iload_n 2, 1) := dk_28 (dk_at dksX0_newTower_13 8 rfl rfl)
theorem dX0_newTower_309 : decode cX0_newTower 309 = .ok (.putfield 54, 3) := dk_181 0 54 (dk_at dksX0_newTower_13 9 rfl rfl)
theorem dX0_newTower_312 : decode cX0_newTower 312 = .ok (.iconst 0, 1) := dk_3 (dk_at dksX0_newTower_13 12 rfl rfl)
theorem dX0_newTower_313 : decode cX0_newTower 313 = .ok (.istore 5, 2) := dk_54 5 (dk_at dksX0_newTower_13 13 rfl rfl)
theorem dX0_newTower_315 : decode cX0_newTower 315 = .ok (.iload 5, 2) := dk_21 5 (dk_at dksX0_newTower_13 15 rfl rfl)
theorem dX0_newTower_317 : decode cX0_newTower 317 = .ok (.aload_n 0, 1) := dk_42 (dk_at dksX0_newTower_13 17 rfl rfl)
theorem dX0_newTower_318 : decode cX0_newTower 318 = .ok (.getfield 54, 3) := dk_180 0 54 (dk_at dksX0_newTower_13 18 rfl rfl)
theorem dX0_newTower_321 : decode cX0_newTower 321 = .ok (.if_icmp .ge 26, 3) := dk_162 0 26 (dk_at dksX0_newTower_13 21 rfl rfl)
theorem dX0_newTower_324 : decode cX0_newTower 324 = .ok (.aload_n 0, 1) := dk_42 (dk_at dksX0_newTower_14 0 rfl rfl)
theorem dX0_newTower_325 : decode cX0_newTower 325 = .ok (.getfield 11, 3) := dk_180 0 11 (dk_at dksX0_newTower_14 1 rfl rfl)
theorem dX0_newTower_328 : decode cX0_newTower 328 = .ok (.iload 5, 2) := dk_21 5 (dk_at dksX0_newTower_14 4 rfl rfl)
theorem dX0_newTower_330 : decode cX0_newTower 330 = .ok (.aload_n 1, 1) := dk_43 (dk_at dksX0_newTower_14 6 rfl rfl)
theorem dX0_newTower_331 : decode cX0_newTower 331 = .ok (.iconst 2, 1) := dk_5 (dk_at dksX0_newTower_14 7 rfl rfl)
theorem dX0_newTower_332 : decode cX0_newTower 332 = .ok (.iconst 2, 1) := dk_5 (dk_at dksX0_newTower_14 8 rfl rfl)
theorem dX0_newTower_333 : decode cX0_newTower 333 = .ok (.iload 5, 2) := dk_21 5 (dk_at dksX0_newTower_14 9 rfl rfl)
theorem dX0_newTower_335 : decode cX0_newTower 335 = .ok (.imul, 1) := dk_104 (dk_at dksX0_newTower_14 11 rfl rfl)
theorem dX0_newTower_336 : decode cX0_newTower 336 = .ok (.iadd, 1) := dk_96 (dk_at dksX0_newTower_14 12 rfl rfl)
theorem dX0_newTower_337 : decode cX0_newTower 337 = .ok (.invokestatic 77, 3) := dk_184 0 77 (dk_at dksX0_newTower_14 13 rfl rfl)
theorem dX0_newTower_340 : decode cX0_newTower 340 = .ok (.iastore, 1) := dk_79 (dk_at dksX0_newTower_14 16 rfl rfl)
theorem dX0_newTower_341 : decode cX0_newTower 341 = .ok (.iinc 5 1, 3) := dk_132 5 1 (dk_at dksX0_newTower_14 17 rfl rfl)
theorem dX0_newTower_344 : decode cX0_newTower 344 = .ok (.goto (-29), 3) := dk_167 255 227 (dk_at dksX0_newTower_14 20 rfl rfl)
theorem dX0_newTower_347 : decode cX0_newTower 347 = .ok (.iconst 0, 1) := dk_3 (dk_at dksX0_newTower_14 23 rfl rfl)
theorem dX0_newTower_348 : decode cX0_newTower 348 = .ok (.istore 5, 2) := dk_54 5 (dk_at dksX0_newTower_15 0 rfl rfl)
theorem dX0_newTower_350 : decode cX0_newTower 350 = .ok (.iload 5, 2) := dk_21 5 (dk_at dksX0_newTower_15 2 rfl rfl)
theorem dX0_newTower_352 : decode cX0_newTower 352 = .ok (.iconst 4, 1) := dk_7 (dk_at dksX0_newTower_15 4 rfl rfl)
theorem dX0_newTower_353 : decode cX0_newTower 353 = .ok (.if_icmp .ge 17, 3) := dk_162 0 17 (dk_at dksX0_newTower_15 5 rfl rfl)
theorem dX0_newTower_356 : decode cX0_newTower 356 = .ok (.aload_n 0, 1) := dk_42 (dk_at dksX0_newTower_15 8 rfl rfl)
theorem dX0_newTower_357 : decode cX0_newTower 357 = .ok (.getfield 22, 3) := dk_180 0 22 (dk_at dksX0_newTower_15 9 rfl rfl)
theorem dX0_newTower_360 : decode cX0_newTower 360 = .ok (.iload 5, 2) := dk_21 5 (dk_at dksX0_newTower_15 12 rfl rfl)
theorem dX0_newTower_362 : decode cX0_newTower 362 = .ok (.iconst 0, 1) := dk_3 (dk_at dksX0_newTower_15 14 rfl rfl)
theorem dX0_newTower_363 : decode cX0_newTower 363 = .ok (.iastore, 1) := dk_79 (dk_at dksX0_newTower_15 15 rfl rfl)
theorem dX0_newTower_364 : decode cX0_newTower 364 = .ok (.iinc 5 1, 3) := dk_132 5 1 (dk_at dksX0_newTower_15 16 rfl rfl)
theorem dX0_newTower_367 : decode cX0_newTower 367 = .ok (.goto (-17), 3) := dk_167 255 239 (dk_at dksX0_newTower_15 19 rfl rfl)
theorem dX0_newTower_370 : decode cX0_newTower 370 = .ok (.aload_n 0, 1) := dk_42 (dk_at dksX0_newTower_15 22 rfl rfl)
theorem dX0_newTower_371 : decode cX0_newTower 371 = .ok (.getfield 18, 3) := dk_180 0 18 (dk_at dksX0_newTower_16 0 rfl rfl)
theorem dX0_newTower_374 : decode cX0_newTower 374 = .ok (.invokeinterface 88 1, 5) := by decide +kernel
theorem dX0_newTower_379 : decode cX0_newTower 379 = .ok (.aload_n 0, 1) := dk_42 (dk_at dksX0_newTower_16 8 rfl rfl)
theorem dX0_newTower_380 : decode cX0_newTower 380 = .ok (.getfield 18, 3) := dk_180 0 18 (dk_at dksX0_newTower_16 9 rfl rfl)
theorem dX0_newTower_383 : decode cX0_newTower 383 = .ok (.aload 4, 2) := dk_25 4 (dk_at dksX0_newTower_16 12 rfl rfl)
theorem dX0_newTower_385 : decode cX0_newTower 385 = .ok (.invokeinterface 91 2, 5) := by decide +kernel
theorem dX0_newTower_390 : decode cX0_newTower 390 = .ok (.pop, 1) := dk_87 (dk_at dksX0_newTower_16 19 rfl rfl)
theorem dX0_newTower_391 : decode cX0_newTower 391 = .ok (.aload_n 0, 1) := dk_42 (dk_at dksX0_newTower_16 20 rfl rfl)
theorem dX0_newTower_392 : decode cX0_newTower 392 = .ok (.getfield 28, 3) := dk_180 0 28 (dk_at dksX0_newTower_16 21 rfl rfl)
theorem dX0_newTower_395 : decode cX0_newTower 395 = .ok (.invokeinterface 88 1, 5) := by decide +kernel
theorem dX0_newTower_400 : decode cX0_newTower 400 = .ok (.aload_n 0, 1) := dk_42 (dk_at dksX0_newTower_17 5 rfl rfl)
theorem dX0_newTower_401 : decode cX0_newTower 401 = .ok (.getfield 18, 3) := dk_180 0 18 (dk_at dksX0_newTower_17 6 rfl rfl)
theorem dX0_newTower_404 : decode cX0_newTower 404 = .ok (.invokeinterface 62 1, 5) := by decide +kernel
theorem dX0_newTower_409 : decode cX0_newTower 409 = .ok (.ireturn, 1) := dk_172 (dk_at dksX0_newTower_17 14 rfl rfl)
abbrev cX0_codeAt : ByteArray := prog_1_method_8_code
def yX0_codeAt : MethodName := ⟨RX0, "codeAt", "([II)I"⟩
def dkwX0_codeAt_0 : List UInt8 := [27, 42, 190, 162, 0, 9, 42, 27, 46, 167, 0, 5, 16, 247, 172]
abbrev dktX0_codeAt_0 : List UInt8 := dkwX0_codeAt_0 ++ []
theorem dksX0_codeAt_0 : cX0_codeAt.data.toList.drop 0 = dktX0_codeAt_0 := by decide +kernel
theorem dX0_codeAt_0 : decode cX0_codeAt 0 = .ok (.iload_n 1, 1) := dk_27 (dk_at dksX0_codeAt_0 0 rfl rfl)
theorem dX0_codeAt_1 : decode cX0_codeAt 1 = .ok (.aload_n 0, 1) := dk_42 (dk_at dksX0_codeAt_0 1 rfl rfl)
theorem dX0_codeAt_2 : decode cX0_codeAt 2 = .ok (.arraylength, 1) := dk_190 (dk_at dksX0_codeAt_0 2 rfl rfl)
theorem dX0_codeAt_3 : decode cX0_codeAt 3 = .ok (.if_icmp .ge 9, 3) := dk_162 0 9 (dk_at dksX0_codeAt_0 3 rfl rfl)
theorem dX0_codeAt_6 : decode cX0_codeAt 6 = .ok (.aload_n 0, 1) := dk_42 (dk_at dksX0_codeAt_0 6 rfl rfl)
theorem dX0_codeAt_7 : decode cX0_codeAt 7 = .ok (.iload_n 1, 1) := dk_27 (dk_at dksX0_codeAt_0 7 rfl rfl)
theorem dX0_codeAt_8 : decode cX0_codeAt 8 = .ok (.iaload, 1) := dk_46 (dk_at dksX0_codeAt_0 8 rfl rfl)
theorem dX0_codeAt_9 : decode cX0_codeAt 9 = .ok (.goto 5, 3) := dk_167 0 5 (dk_at dksX0_codeAt_0 9 rfl rfl)
theorem dX0_codeAt_12 : decode cX0_codeAt 12 = .ok (.bipush (-9), 2) := dk_16 247 (dk_at dksX0_codeAt_0 12 rfl rfl)
theorem dX0_codeAt_14 : decode cX0_codeAt 14 = .ok (.ireturn, 1) := dk_172 (dk_at dksX0_codeAt_0 14 rfl rfl)
abbrev cX0_isFigure : ByteArray := prog_1_method_9_code
def yX0_isFigure : MethodName := ⟨RX0, "isFigure", "([IIII)Z"⟩
def dkwX0_isFigure_0 : List UInt8 := [42, 27, 184, 0, 66, 16, 48, 100, 133, 28, 133, 29, 133, 184, 0, 58, 172]
abbrev dktX0_isFigure_0 : List UInt8 := dkwX0_isFigure_0 ++ []
theorem dksX0_isFigure_0 : cX0_isFigure.data.toList.drop 0 = dktX0_isFigure_0 := by decide +kernel
theorem dX0_isFigure_0 : decode cX0_isFigure 0 = .ok (.aload_n 0, 1) := dk_42 (dk_at dksX0_isFigure_0 0 rfl rfl)
theorem dX0_isFigure_1 : decode cX0_isFigure 1 = .ok (.iload_n 1, 1) := dk_27 (dk_at dksX0_isFigure_0 1 rfl rfl)
theorem dX0_isFigure_2 : decode cX0_isFigure 2 = .ok (.invokestatic 66, 3) := dk_184 0 66 (dk_at dksX0_isFigure_0 2 rfl rfl)
theorem dX0_isFigure_5 : decode cX0_isFigure 5 = .ok (.bipush 48, 2) := dk_16 48 (dk_at dksX0_isFigure_0 5 rfl rfl)
theorem dX0_isFigure_7 : decode cX0_isFigure 7 = .ok (.isub, 1) := dk_100 (dk_at dksX0_isFigure_0 7 rfl rfl)
theorem dX0_isFigure_8 : decode cX0_isFigure 8 = .ok (.i2l, 1) := dk_133 (dk_at dksX0_isFigure_0 8 rfl rfl)
theorem dX0_isFigure_9 : decode cX0_isFigure 9 = .ok (.iload_n 2, 1) := dk_28 (dk_at dksX0_isFigure_0 9 rfl rfl)
theorem dX0_isFigure_10 : decode cX0_isFigure 10 = .ok (.i2l, 1) := dk_133 (dk_at dksX0_isFigure_0 10 rfl rfl)
theorem dX0_isFigure_11 : decode cX0_isFigure 11 = .ok (.iload_n 3, 1) := dk_29 (dk_at dksX0_isFigure_0 11 rfl rfl)
theorem dX0_isFigure_12 : decode cX0_isFigure 12 = .ok (.i2l, 1) := dk_133 (dk_at dksX0_isFigure_0 12 rfl rfl)
theorem dX0_isFigure_13 : decode cX0_isFigure 13 = .ok (.invokestatic 58, 3) := dk_184 0 58 (dk_at dksX0_isFigure_0 13 rfl rfl)
theorem dX0_isFigure_16 : decode cX0_isFigure 16 = .ok (.ireturn, 1) := dk_172 (dk_at dksX0_isFigure_0 16 rfl rfl)
abbrev cX0_figureAt : ByteArray := prog_1_method_10_code
def yX0_figureAt : MethodName := ⟨RX0, "figureAt", "([II)I"⟩
def dkwX0_figureAt_0 : List UInt8 := [42, 27, 46, 16, 48, 100, 172]
abbrev dktX0_figureAt_0 : List UInt8 := dkwX0_figureAt_0 ++ []
theorem dksX0_figureAt_0 : cX0_figureAt.data.toList.drop 0 = dktX0_figureAt_0 := by decide +kernel
theorem dX0_figureAt_0 : decode cX0_figureAt 0 = .ok (.aload_n 0, 1) := dk_42 (dk_at dksX0_figureAt_0 0 rfl rfl)
theorem dX0_figureAt_1 : decode cX0_figureAt 1 = .ok (.iload_n 1, 1) := dk_27 (dk_at dksX0_figureAt_0 1 rfl rfl)
theorem dX0_figureAt_2 : decode cX0_figureAt 2 = .ok (.iaload, 1) := dk_46 (dk_at dksX0_figureAt_0 2 rfl rfl)
theorem dX0_figureAt_3 : decode cX0_figureAt 3 = .ok (.bipush 48, 2) := dk_16 48 (dk_at dksX0_figureAt_0 3 rfl rfl)
theorem dX0_figureAt_5 : decode cX0_figureAt 5 = .ok (.isub, 1) := dk_100 (dk_at dksX0_figureAt_0 5 rfl rfl)
theorem dX0_figureAt_6 : decode cX0_figureAt 6 = .ok (.ireturn, 1) := dk_172 (dk_at dksX0_figureAt_0 6 rfl rfl)
abbrev cX0_madeOf : ByteArray := prog_1_method_4_code
def yX0_madeOf : MethodName := ⟨RX0, "madeOf", "(IIII)LTowerTell$Person;"⟩
def dkwX0_madeOf_2 : List UInt8 := [183, 0, 47, 176]
abbrev dktX0_madeOf_2 : List UInt8 := dkwX0_madeOf_2 ++ []
def dkwX0_madeOf_1 : List UInt8 := [187, 0, 42, 89, 42, 28, 29, 21, 4, 183, 0, 44, 167, 0, 15, 187, 0, 45, 89, 42, 28, 29, 21, 4]
abbrev dktX0_madeOf_1 : List UInt8 := dkwX0_madeOf_1 ++ dktX0_madeOf_2
def dkwX0_madeOf_0 : List UInt8 := [27, 154, 0, 18, 187, 0, 37, 89, 42, 28, 29, 21, 4, 183, 0, 39, 167, 0, 35, 27, 4, 160, 0, 18]
abbrev dktX0_madeOf_0 : List UInt8 := dkwX0_madeOf_0 ++ dktX0_madeOf_1
theorem dksX0_madeOf_0 : cX0_madeOf.data.toList.drop 0 = dktX0_madeOf_0 := by decide +kernel
theorem dksX0_madeOf_1 : cX0_madeOf.data.toList.drop 24 = dktX0_madeOf_1 := dk_seg dksX0_madeOf_0 24 rfl rfl
theorem dksX0_madeOf_2 : cX0_madeOf.data.toList.drop 48 = dktX0_madeOf_2 := dk_seg dksX0_madeOf_1 24 rfl rfl
theorem dX0_madeOf_0 : decode cX0_madeOf 0 = .ok (.iload_n 1, 1) := dk_27 (dk_at dksX0_madeOf_0 0 rfl rfl)
theorem dX0_madeOf_1 : decode cX0_madeOf 1 = .ok (.ifCond .ne 18, 3) := dk_154 0 18 (dk_at dksX0_madeOf_0 1 rfl rfl)
theorem dX0_madeOf_4 : decode cX0_madeOf 4 = .ok (.new 37, 3) := dk_187 0 37 (dk_at dksX0_madeOf_0 4 rfl rfl)
theorem dX0_madeOf_7 : decode cX0_madeOf 7 = .ok (.dup, 1) := dk_89 (dk_at dksX0_madeOf_0 7 rfl rfl)
theorem dX0_madeOf_8 : decode cX0_madeOf 8 = .ok (.aload_n 0, 1) := dk_42 (dk_at dksX0_madeOf_0 8 rfl rfl)
theorem dX0_madeOf_9 : decode cX0_madeOf 9 = .ok (.iload_n 2, 1) := dk_28 (dk_at dksX0_madeOf_0 9 rfl rfl)
theorem dX0_madeOf_10 : decode cX0_madeOf 10 = .ok (.iload_n 3, 1) := dk_29 (dk_at dksX0_madeOf_0 10 rfl rfl)
theorem dX0_madeOf_11 : decode cX0_madeOf 11 = .ok (.iload 4, 2) := dk_21 4 (dk_at dksX0_madeOf_0 11 rfl rfl)
theorem dX0_madeOf_13 : decode cX0_madeOf 13 = .ok (.invokespecial 39, 3) := dk_183 0 39 (dk_at dksX0_madeOf_0 13 rfl rfl)
theorem dX0_madeOf_16 : decode cX0_madeOf 16 = .ok (.goto 35, 3) := dk_167 0 35 (dk_at dksX0_madeOf_0 16 rfl rfl)
theorem dX0_madeOf_19 : decode cX0_madeOf 19 = .ok (.iload_n 1, 1) := dk_27 (dk_at dksX0_madeOf_0 19 rfl rfl)
theorem dX0_madeOf_20 : decode cX0_madeOf 20 = .ok (.iconst 1, 1) := dk_4 (dk_at dksX0_madeOf_0 20 rfl rfl)
theorem dX0_madeOf_21 : decode cX0_madeOf 21 = .ok (.if_icmp .ne 18, 3) := dk_160 0 18 (dk_at dksX0_madeOf_0 21 rfl rfl)
theorem dX0_madeOf_24 : decode cX0_madeOf 24 = .ok (.new 42, 3) := dk_187 0 42 (dk_at dksX0_madeOf_1 0 rfl rfl)
theorem dX0_madeOf_27 : decode cX0_madeOf 27 = .ok (.dup, 1) := dk_89 (dk_at dksX0_madeOf_1 3 rfl rfl)
theorem dX0_madeOf_28 : decode cX0_madeOf 28 = .ok (.aload_n 0, 1) := dk_42 (dk_at dksX0_madeOf_1 4 rfl rfl)
theorem dX0_madeOf_29 : decode cX0_madeOf 29 = .ok (.iload_n 2, 1) := dk_28 (dk_at dksX0_madeOf_1 5 rfl rfl)
theorem dX0_madeOf_30 : decode cX0_madeOf 30 = .ok (.iload_n 3, 1) := dk_29 (dk_at dksX0_madeOf_1 6 rfl rfl)
theorem dX0_madeOf_31 : decode cX0_madeOf 31 = .ok (.iload 4, 2) := dk_21 4 (dk_at dksX0_madeOf_1 7 rfl rfl)
theorem dX0_madeOf_33 : decode cX0_madeOf 33 = .ok (.invokespecial 44, 3) := dk_183 0 44 (dk_at dksX0_madeOf_1 9 rfl rfl)
theorem dX0_madeOf_36 : decode cX0_madeOf 36 = .ok (.goto 15, 3) := dk_167 0 15 (dk_at dksX0_madeOf_1 12 rfl rfl)
theorem dX0_madeOf_39 : decode cX0_madeOf 39 = .ok (.new 45, 3) := dk_187 0 45 (dk_at dksX0_madeOf_1 15 rfl rfl)
theorem dX0_madeOf_42 : decode cX0_madeOf 42 = .ok (.dup, 1) := dk_89 (dk_at dksX0_madeOf_1 18 rfl rfl)
theorem dX0_madeOf_43 : decode cX0_madeOf 43 = .ok (.aload_n 0, 1) := dk_42 (dk_at dksX0_madeOf_1 19 rfl rfl)
theorem dX0_madeOf_44 : decode cX0_madeOf 44 = .ok (.iload_n 2, 1) := dk_28 (dk_at dksX0_madeOf_1 20 rfl rfl)
theorem dX0_madeOf_45 : decode cX0_madeOf 45 = .ok (.iload_n 3, 1) := dk_29 (dk_at dksX0_madeOf_1 21 rfl rfl)
theorem dX0_madeOf_46 : decode cX0_madeOf 46 = .ok (.iload 4, 2) := dk_21 4 (dk_at dksX0_madeOf_1 22 rfl rfl)
theorem dX0_madeOf_48 : decode cX0_madeOf 48 = .ok (.invokespecial 47, 3) := dk_183 0 47 (dk_at dksX0_madeOf_2 0 rfl rfl)
theorem dX0_madeOf_51 : decode cX0_madeOf 51 = .ok (.areturn, 1) := dk_176 (dk_at dksX0_madeOf_2 3 rfl rfl)
abbrev cX0_pairsBarred : ByteArray := prog_1_method_24_code
def yX0_pairsBarred : MethodName := ⟨RX0, "pairsBarred", "([I)I"⟩
def dkwX0_pairsBarred_2 : List UInt8 := [172, 132, 2, 1, 167, 255, 216, 3, 172]
abbrev dktX0_pairsBarred_2 : List UInt8 := dkwX0_pairsBarred_2 ++ []
def dkwX0_pairsBarred_1 : List UInt8 := [42, 43, 28, 46, 182, 0, 112, 153, 0, 18, 167, 0, 13, 42, 43, 28, 46, 182, 0, 128, 153, 0, 5, 2]
abbrev dktX0_pairsBarred_1 : List UInt8 := dkwX0_pairsBarred_1 ++ dktX0_pairsBarred_2
def dkwX0_pairsBarred_0 : List UInt8 := [42, 182, 0, 139, 153, 0, 6, 16, 253, 172, 3, 61, 28, 43, 190, 162, 0, 40, 28, 5, 112, 154, 0, 16]
abbrev dktX0_pairsBarred_0 : List UInt8 := dkwX0_pairsBarred_0 ++ dktX0_pairsBarred_1
theorem dksX0_pairsBarred_0 : cX0_pairsBarred.data.toList.drop 0 = dktX0_pairsBarred_0 := by decide +kernel
theorem dksX0_pairsBarred_1 : cX0_pairsBarred.data.toList.drop 24 = dktX0_pairsBarred_1 := dk_seg dksX0_pairsBarred_0 24 rfl rfl
theorem dksX0_pairsBarred_2 : cX0_pairsBarred.data.toList.drop 48 = dktX0_pairsBarred_2 := dk_seg dksX0_pairsBarred_1 24 rfl rfl
theorem dX0_pairsBarred_0 : decode cX0_pairsBarred 0 = .ok (.aload_n 0, 1) := dk_42 (dk_at dksX0_pairsBarred_0 0 rfl rfl)
theorem dX0_pairsBarred_1 : decode cX0_pairsBarred 1 = .ok (.invokevirtual 139, 3) := dk_182 0 139 (dk_at dksX0_pairsBarred_0 1 rfl rfl)
theorem dX0_pairsBarred_4 : decode cX0_pairsBarred 4 = .ok (.ifCond .eq 6, 3) := dk_153 0 6 (dk_at dksX0_pairsBarred_0 4 rfl rfl)
theorem dX0_pairsBarred_7 : decode cX0_pairsBarred 7 = .ok (.bipush (-3), 2) := dk_16 253 (dk_at dksX0_pairsBarred_0 7 rfl rfl)
theorem dX0_pairsBarred_9 : decode cX0_pairsBarred 9 = .ok (.ireturn, 1) := dk_172 (dk_at dksX0_pairsBarred_0 9 rfl rfl)
theorem dX0_pairsBarred_10 : decode cX0_pairsBarred 10 = .ok (.iconst 0, 1) := dk_3 (dk_at dksX0_pairsBarred_0 10 rfl rfl)
theorem dX0_pairsBarred_11 : decode cX0_pairsBarred 11 = .ok (.istore_n 2, 1) := dk_61 (dk_at dksX0_pairsBarred_0 11 rfl rfl)
theorem dX0_pairsBarred_12 : decode cX0_pairsBarred 12 = .ok (.iload_n 2, 1) := dk_28 (dk_at dksX0_pairsBarred_0 12 rfl rfl)
theorem dX0_pairsBarred_13 : decode cX0_pairsBarred 13 = .ok (.aload_n 1, 1) := dk_43 (dk_at dksX0_pairsBarred_0 13 rfl rfl)
theorem dX0_pairsBarred_14 : decode cX0_pairsBarred 14 = .ok (.arraylength, 1) := dk_190 (dk_at dksX0_pairsBarred_0 14 rfl rfl)
theorem dX0_pairsBarred_15 : decode cX0_pairsBarred 15 = .ok (.if_icmp .ge 40, 3) := dk_162 0 40 (dk_at dksX0_pairsBarred_0 15 rfl rfl)
theorem dX0_pairsBarred_18 : decode cX0_pairsBarred 18 = .ok (.iload_n 2, 1) := dk_28 (dk_at dksX0_pairsBarred_0 18 rfl rfl)
theorem dX0_pairsBarred_19 : decode cX0_pairsBarred 19 = .ok (.iconst 2, 1) := dk_5 (dk_at dksX0_pairsBarred_0 19 rfl rfl)
theorem dX0_pairsBarred_20 : decode cX0_pairsBarred 20 = .ok (.irem, 1) := dk_112 (dk_at dksX0_pairsBarred_0 20 rfl rfl)
theorem dX0_pairsBarred_21 : decode cX0_pairsBarred 21 = .ok (.ifCond .ne 16, 3) := dk_154 0 16 (dk_at dksX0_pairsBarred_0 21 rfl rfl)
theorem dX0_pairsBarred_24 : decode cX0_pairsBarred 24 = .ok (.aload_n 0, 1) := dk_42 (dk_at dksX0_pairsBarred_1 0 rfl rfl)
theorem dX0_pairsBarred_25 : decode cX0_pairsBarred 25 = .ok (.aload_n 1, 1) := dk_43 (dk_at dksX0_pairsBarred_1 1 rfl rfl)
theorem dX0_pairsBarred_26 : decode cX0_pairsBarred 26 = .ok (.iload_n 2, 1) := dk_28 (dk_at dksX0_pairsBarred_1 2 rfl rfl)
theorem dX0_pairsBarred_27 : decode cX0_pairsBarred 27 = .ok (.iaload, 1) := dk_46 (dk_at dksX0_pairsBarred_1 3 rfl rfl)
theorem dX0_pairsBarred_28 : decode cX0_pairsBarred 28 = .ok (.invokevirtual 112, 3) := dk_182 0 112 (dk_at dksX0_pairsBarred_1 4 rfl rfl)
theorem dX0_pairsBarred_31 : decode cX0_pairsBarred 31 = .ok (.ifCond .eq 18, 3) := dk_153 0 18 (dk_at dksX0_pairsBarred_1 7 rfl rfl)
theorem dX0_pairsBarred_34 : decode cX0_pairsBarred 34 = .ok (.goto 13, 3) := dk_167 0 13 (dk_at dksX0_pairsBarred_1 10 rfl rfl)
theorem dX0_pairsBarred_37 : decode cX0_pairsBarred 37 = .ok (.aload_n 0, 1) := dk_42 (dk_at dksX0_pairsBarred_1 13 rfl rfl)
theorem dX0_pairsBarred_38 : decode cX0_pairsBarred 38 = .ok (.aload_n 1, 1) := dk_43 (dk_at dksX0_pairsBarred_1 14 rfl rfl)
theorem dX0_pairsBarred_39 : decode cX0_pairsBarred 39 = .ok (.iload_n 2, 1) := dk_28 (dk_at dksX0_pairsBarred_1 15 rfl rfl)
theorem dX0_pairsBarred_40 : decode cX0_pairsBarred 40 = .ok (.iaload, 1) := dk_46 (dk_at dksX0_pairsBarred_1 16 rfl rfl)
theorem dX0_pairsBarred_41 : decode cX0_pairsBarred 41 = .ok (.invokevirtual 128, 3) := dk_182 0 128 (dk_at dksX0_pairsBarred_1 17 rfl rfl)
theorem dX0_pairsBarred_44 : decode cX0_pairsBarred 44 = .ok (.ifCond .eq 5, 3) := dk_153 0 5 (dk_at dksX0_pairsBarred_1 20 rfl rfl)
theorem dX0_pairsBarred_47 : decode cX0_pairsBarred 47 = .ok (.iconst (-1), 1) := dk_2 (dk_at dksX0_pairsBarred_1 23 rfl rfl)
theorem dX0_pairsBarred_48 : decode cX0_pairsBarred 48 = .ok (.ireturn, 1) := dk_172 (dk_at dksX0_pairsBarred_2 0 rfl rfl)
theorem dX0_pairsBarred_49 : decode cX0_pairsBarred 49 = .ok (.iinc 2 1, 3) := dk_132 2 1 (dk_at dksX0_pairsBarred_2 1 rfl rfl)
theorem dX0_pairsBarred_52 : decode cX0_pairsBarred 52 = .ok (.goto (-40), 3) := dk_167 255 216 (dk_at dksX0_pairsBarred_2 4 rfl rfl)
theorem dX0_pairsBarred_55 : decode cX0_pairsBarred 55 = .ok (.iconst 0, 1) := dk_3 (dk_at dksX0_pairsBarred_2 7 rfl rfl)
theorem dX0_pairsBarred_56 : decode cX0_pairsBarred 56 = .ok (.ireturn, 1) := dk_172 (dk_at dksX0_pairsBarred_2 8 rfl rfl)
abbrev cX0_days : ByteArray := prog_1_method_61_code
def yX0_days : MethodName := ⟨RX0, "days", "(IIIII)I"⟩
def dkwX0_days_3 : List UInt8 := [21, 7, 167, 0, 13, 42, 42, 180, 1, 60, 21, 5, 182, 1, 63, 172]
abbrev dktX0_days_3 : List UInt8 := dkwX0_days_3 ++ []
def dkwX0_days_2 : List UInt8 := [167, 0, 4, 3, 54, 6, 42, 27, 28, 29, 21, 4, 21, 6, 182, 1, 56, 54, 7, 21, 7, 156, 0, 8]
abbrev dktX0_days_2 : List UInt8 := dkwX0_days_2 ++ dktX0_days_3
def dkwX0_days_1 : List UInt8 := [184, 0, 58, 154, 0, 18, 21, 5, 133, 20, 1, 36, 20, 1, 54, 184, 0, 58, 153, 0, 7, 4]
abbrev dktX0_days_1 : List UInt8 := dkwX0_days_1 ++ dktX0_days_2
def dkwX0_days_0 : List UInt8 := [21, 5, 133, 9, 20, 0, 230, 184, 0, 58, 154, 0, 33, 21, 5, 133, 20, 1, 50, 20, 1, 52]
abbrev dktX0_days_0 : List UInt8 := dkwX0_days_0 ++ dktX0_days_1
theorem dksX0_days_0 : cX0_days.data.toList.drop 0 = dktX0_days_0 := by decide +kernel
theorem dksX0_days_1 : cX0_days.data.toList.drop 22 = dktX0_days_1 := dk_seg dksX0_days_0 22 rfl rfl
theorem dksX0_days_2 : cX0_days.data.toList.drop 44 = dktX0_days_2 := dk_seg dksX0_days_1 22 rfl rfl
theorem dksX0_days_3 : cX0_days.data.toList.drop 68 = dktX0_days_3 := dk_seg dksX0_days_2 24 rfl rfl
theorem dX0_days_0 : decode cX0_days 0 = .ok (.iload 5, 2) := dk_21 5 (dk_at dksX0_days_0 0 rfl rfl)
theorem dX0_days_2 : decode cX0_days 2 = .ok (.i2l, 1) := dk_133 (dk_at dksX0_days_0 2 rfl rfl)
theorem dX0_days_3 : decode cX0_days 3 = .ok (.lconst 0, 1) := dk_9 (dk_at dksX0_days_0 3 rfl rfl)
theorem dX0_days_4 : decode cX0_days 4 = .ok (.ldc2_w 230, 3) := dk_20 0 230 (dk_at dksX0_days_0 4 rfl rfl)
theorem dX0_days_7 : decode cX0_days 7 = .ok (.invokestatic 58, 3) := dk_184 0 58 (dk_at dksX0_days_0 7 rfl rfl)
theorem dX0_days_10 : decode cX0_days 10 = .ok (.ifCond .ne 33, 3) := dk_154 0 33 (dk_at dksX0_days_0 10 rfl rfl)
theorem dX0_days_13 : decode cX0_days 13 = .ok (.iload 5, 2) := dk_21 5 (dk_at dksX0_days_0 13 rfl rfl)
theorem dX0_days_15 : decode cX0_days 15 = .ok (.i2l, 1) := dk_133 (dk_at dksX0_days_0 15 rfl rfl)
theorem dX0_days_16 : decode cX0_days 16 = .ok (.ldc2_w 306, 3) := dk_20 1 50 (dk_at dksX0_days_0 16 rfl rfl)
theorem dX0_days_19 : decode cX0_days 19 = .ok (.ldc2_w 308, 3) := dk_20 1 52 (dk_at dksX0_days_0 19 rfl rfl)
theorem dX0_days_22 : decode cX0_days 22 = .ok (.invokestatic 58, 3) := dk_184 0 58 (dk_at dksX0_days_1 0 rfl rfl)
theorem dX0_days_25 : decode cX0_days 25 = .ok (.ifCond .ne 18, 3) := dk_154 0 18 (dk_at dksX0_days_1 3 rfl rfl)
theorem dX0_days_28 : decode cX0_days 28 = .ok (.iload 5, 2) := dk_21 5 (dk_at dksX0_days_1 6 rfl rfl)
theorem dX0_days_30 : decode cX0_days 30 = .ok (.i2l, 1) := dk_133 (dk_at dksX0_days_1 8 rfl rfl)
theorem dX0_days_31 : decode cX0_days 31 = .ok (.ldc2_w 292, 3) := dk_20 1 36 (dk_at dksX0_days_1 9 rfl rfl)
theorem dX0_days_34 : decode cX0_days 34 = .ok (.ldc2_w 310, 3) := dk_20 1 54 (dk_at dksX0_days_1 12 rfl rfl)
theorem dX0_days_37 : decode cX0_days 37 = .ok (.invokestatic 58, 3) := dk_184 0 58 (dk_at dksX0_days_1 15 rfl rfl)
theorem dX0_days_40 : decode cX0_days 40 = .ok (.ifCond .eq 7, 3) := dk_153 0 7 (dk_at dksX0_days_1 18 rfl rfl)
theorem dX0_days_43 : decode cX0_days 43 = .ok (.iconst 1, 1) := dk_4 (dk_at dksX0_days_1 21 rfl rfl)
theorem dX0_days_44 : decode cX0_days 44 = .ok (.goto 4, 3) := dk_167 0 4 (dk_at dksX0_days_2 0 rfl rfl)
theorem dX0_days_47 : decode cX0_days 47 = .ok (.iconst 0, 1) := dk_3 (dk_at dksX0_days_2 3 rfl rfl)
theorem dX0_days_48 : decode cX0_days 48 = .ok (.istore 6, 2) := dk_54 6 (dk_at dksX0_days_2 4 rfl rfl)
theorem dX0_days_50 : decode cX0_days 50 = .ok (.aload_n 0, 1) := dk_42 (dk_at dksX0_days_2 6 rfl rfl)
theorem dX0_days_51 : decode cX0_days 51 = .ok (.iload_n 1, 1) := dk_27 (dk_at dksX0_days_2 7 rfl rfl)
theorem dX0_days_52 : decode cX0_days 52 = .ok (.iload_n 2, 1) := dk_28 (dk_at dksX0_days_2 8 rfl rfl)
theorem dX0_days_53 : decode cX0_days 53 = .ok (.iload_n 3, 1) := dk_29 (dk_at dksX0_days_2 9 rfl rfl)
theorem dX0_days_54 : decode cX0_days 54 = .ok (.iload 4, 2) := dk_21 4 (dk_at dksX0_days_2 10 rfl rfl)
theorem dX0_days_56 : decode cX0_days 56 = .ok (.iload 6, 2) := dk_21 6 (dk_at dksX0_days_2 12 rfl rfl)
theorem dX0_days_58 : decode cX0_days 58 = .ok (.invokevirtual 312, 3) := dk_182 1 56 (dk_at dksX0_days_2 14 rfl rfl)
theorem dX0_days_61 : decode cX0_days 61 = .ok (.istore 7, 2) := dk_54 7 (dk_at dksX0_days_2 17 rfl rfl)
theorem dX0_days_63 : decode cX0_days 63 = .ok (.iload 7, 2) := dk_21 7 (dk_at dksX0_days_2 19 rfl rfl)
theorem dX0_days_65 : decode cX0_days 65 = .ok (.ifCond .ge 8, 3) := dk_156 0 8 (dk_at dksX0_days_2 21 rfl rfl)
theorem dX0_days_68 : decode cX0_days 68 = .ok (.iload 7, 2) := dk_21 7 (dk_at dksX0_days_3 0 rfl rfl)
theorem dX0_days_70 : decode cX0_days 70 = .ok (.goto 13, 3) := dk_167 0 13 (dk_at dksX0_days_3 2 rfl rfl)
theorem dX0_days_73 : decode cX0_days 73 = .ok (.aload_n 0, 1) := dk_42 (dk_at dksX0_days_3 5 rfl rfl)
theorem dX0_days_74 : decode cX0_days 74 = .ok (.aload_n 0, 1) := dk_42 (dk_at dksX0_days_3 6 rfl rfl)
theorem dX0_days_75 : decode cX0_days 75 = .ok (.getfield 316, 3) := dk_180 1 60 (dk_at dksX0_days_3 7 rfl rfl)
theorem dX0_days_78 : decode cX0_days 78 = .ok (.iload 5, 2) := dk_21 5 (dk_at dksX0_days_3 10 rfl rfl)
theorem dX0_days_80 : decode cX0_days 80 = .ok (.invokevirtual 319, 3) := dk_182 1 63 (dk_at dksX0_days_3 12 rfl rfl)
theorem dX0_days_83 : decode cX0_days 83 = .ok (.ireturn, 1) := dk_172 (dk_at dksX0_days_3 15 rfl rfl)
abbrev cX0_rose : ByteArray := prog_1_method_59_code
def yX0_rose : MethodName := ⟨RX0, "rose", "(IIIIZ)I"⟩
def dkwX0_rose_2 : List UInt8 := [183, 1, 40, 21, 6, 182, 1, 43, 172]
abbrev dktX0_rose_2 : List UInt8 := dkwX0_rose_2 ++ []
def dkwX0_rose_1 : List UInt8 := [54, 6, 42, 187, 1, 38, 89, 42, 27, 28, 29, 21, 6, 153, 0, 10, 5, 21, 4, 104, 167, 0, 4, 3]
abbrev dktX0_rose_1 : List UInt8 := dkwX0_rose_1 ++ dktX0_rose_2
def dkwX0_rose_0 : List UInt8 := [21, 4, 133, 9, 20, 1, 36, 184, 0, 58, 153, 0, 12, 21, 5, 153, 0, 7, 4, 167, 0, 4, 3]
abbrev dktX0_rose_0 : List UInt8 := dkwX0_rose_0 ++ dktX0_rose_1
theorem dksX0_rose_0 : cX0_rose.data.toList.drop 0 = dktX0_rose_0 := by decide +kernel
theorem dksX0_rose_1 : cX0_rose.data.toList.drop 23 = dktX0_rose_1 := dk_seg dksX0_rose_0 23 rfl rfl
theorem dksX0_rose_2 : cX0_rose.data.toList.drop 47 = dktX0_rose_2 := dk_seg dksX0_rose_1 24 rfl rfl
theorem dX0_rose_0 : decode cX0_rose 0 = .ok (.iload 4, 2) := dk_21 4 (dk_at dksX0_rose_0 0 rfl rfl)
theorem dX0_rose_2 : decode cX0_rose 2 = .ok (.i2l, 1) := dk_133 (dk_at dksX0_rose_0 2 rfl rfl)
theorem dX0_rose_3 : decode cX0_rose 3 = .ok (.lconst 0, 1) := dk_9 (dk_at dksX0_rose_0 3 rfl rfl)
theorem dX0_rose_4 : decode cX0_rose 4 = .ok (.ldc2_w 292, 3) := dk_20 1 36 (dk_at dksX0_rose_0 4 rfl rfl)
theorem dX0_rose_7 : decode cX0_rose 7 = .ok (.invokestatic 58, 3) := dk_184 0 58 (dk_at dksX0_rose_0 7 rfl rfl)
theorem dX0_rose_10 : decode cX0_rose 10 = .ok (.ifCond .eq 12, 3) := dk_153 0 12 (dk_at dksX0_rose_0 10 rfl rfl)
theorem dX0_rose_13 : decode cX0_rose 13 = .ok (.iload 5, 2) := dk_21 5 (dk_at dksX0_rose_0 13 rfl rfl)
theorem dX0_rose_15 : decode cX0_rose 15 = .ok (.ifCond .eq 7, 3) := dk_153 0 7 (dk_at dksX0_rose_0 15 rfl rfl)
theorem dX0_rose_18 : decode cX0_rose 18 = .ok (.iconst 1, 1) := dk_4 (dk_at dksX0_rose_0 18 rfl rfl)
theorem dX0_rose_19 : decode cX0_rose 19 = .ok (.goto 4, 3) := dk_167 0 4 (dk_at dksX0_rose_0 19 rfl rfl)
theorem dX0_rose_22 : decode cX0_rose 22 = .ok (.iconst 0, 1) := dk_3 (dk_at dksX0_rose_0 22 rfl rfl)
theorem dX0_rose_23 : decode cX0_rose 23 = .ok (.istore 6, 2) := dk_54 6 (dk_at dksX0_rose_1 0 rfl rfl)
theorem dX0_rose_25 : decode cX0_rose 25 = .ok (.aload_n 0, 1) := dk_42 (dk_at dksX0_rose_1 2 rfl rfl)
theorem dX0_rose_26 : decode cX0_rose 26 = .ok (.new 294, 3) := dk_187 1 38 (dk_at dksX0_rose_1 3 rfl rfl)
theorem dX0_rose_29 : decode cX0_rose 29 = .ok (.dup, 1) := dk_89 (dk_at dksX0_rose_1 6 rfl rfl)
theorem dX0_rose_30 : decode cX0_rose 30 = .ok (.aload_n 0, 1) := dk_42 (dk_at dksX0_rose_1 7 rfl rfl)
theorem dX0_rose_31 : decode cX0_rose 31 = .ok (.iload_n 1, 1) := dk_27 (dk_at dksX0_rose_1 8 rfl rfl)
theorem dX0_rose_32 : decode cX0_rose 32 = .ok (.iload_n 2, 1) := dk_28 (dk_at dksX0_rose_1 9 rfl rfl)
theorem dX0_rose_33 : decode cX0_rose 33 = .ok (.iload_n 3, 1) := dk_29 (dk_at dksX0_rose_1 10 rfl rfl)
theorem dX0_rose_34 : decode cX0_rose 34 = .ok (.iload 6, 2) := dk_21 6 (dk_at dksX0_rose_1 11 rfl rfl)
theorem dX0_rose_36 : decode cX0_rose 36 = .ok (.ifCond .eq 10, 3) := dk_153 0 10 (dk_at dksX0_rose_1 13 rfl rfl)
theorem dX0_rose_39 : decode cX0_rose 39 = .ok (.iconst 2, 1) := dk_5 (dk_at dksX0_rose_1 16 rfl rfl)
theorem dX0_rose_40 : decode cX0_rose 40 = .ok (.iload 4, 2) := dk_21 4 (dk_at dksX0_rose_1 17 rfl rfl)
theorem dX0_rose_42 : decode cX0_rose 42 = .ok (.imul, 1) := dk_104 (dk_at dksX0_rose_1 19 rfl rfl)
theorem dX0_rose_43 : decode cX0_rose 43 = .ok (.goto 4, 3) := dk_167 0 4 (dk_at dksX0_rose_1 20 rfl rfl)
theorem dX0_rose_46 : decode cX0_rose 46 = .ok (.iconst 0, 1) := dk_3 (dk_at dksX0_rose_1 23 rfl rfl)
theorem dX0_rose_47 : decode cX0_rose 47 = .ok (.invokespecial 296, 3) := dk_183 1 40 (dk_at dksX0_rose_2 0 rfl rfl)
theorem dX0_rose_50 : decode cX0_rose 50 = .ok (.iload 6, 2) := dk_21 6 (dk_at dksX0_rose_2 3 rfl rfl)
theorem dX0_rose_52 : decode cX0_rose 52 = .ok (.invokevirtual 299, 3) := dk_182 1 43 (dk_at dksX0_rose_2 5 rfl rfl)
theorem dX0_rose_55 : decode cX0_rose 55 = .ok (.ireturn, 1) := dk_172 (dk_at dksX0_rose_2 8 rfl rfl)
abbrev cX0_daysBy : ByteArray := prog_1_method_30_code
def yX0_daysBy : MethodName := ⟨RX0, "daysBy", "([II)I"⟩
def dkwX0_daysBy_0 : List UInt8 := [42, 182, 0, 162, 42, 43, 182, 0, 165, 42, 28, 182, 0, 169, 62, 42, 182, 0, 172, 29, 172]
abbrev dktX0_daysBy_0 : List UInt8 := dkwX0_daysBy_0 ++ []
theorem dksX0_daysBy_0 : cX0_daysBy.data.toList.drop 0 = dktX0_daysBy_0 := by decide +kernel
theorem dX0_daysBy_0 : decode cX0_daysBy 0 = .ok (.aload_n 0, 1) := dk_42 (dk_at dksX0_daysBy_0 0 rfl rfl)
theorem dX0_daysBy_1 : decode cX0_daysBy 1 = .ok (.invokevirtual 162, 3) := dk_182 0 162 (dk_at dksX0_daysBy_0 1 rfl rfl)
theorem dX0_daysBy_4 : decode cX0_daysBy 4 = .ok (.aload_n 0, 1) := dk_42 (dk_at dksX0_daysBy_0 4 rfl rfl)
theorem dX0_daysBy_5 : decode cX0_daysBy 5 = .ok (.aload_n 1, 1) := dk_43 (dk_at dksX0_daysBy_0 5 rfl rfl)
theorem dX0_daysBy_6 : decode cX0_daysBy 6 = .ok (.invokevirtual 165, 3) := dk_182 0 165 (dk_at dksX0_daysBy_0 6 rfl rfl)
theorem dX0_daysBy_9 : decode cX0_daysBy 9 = .ok (.aload_n 0, 1) := dk_42 (dk_at dksX0_daysBy_0 9 rfl rfl)
theorem dX0_daysBy_10 : decode cX0_daysBy 10 = .ok (.iload_n 2, 1) := dk_28 (dk_at dksX0_daysBy_0 10 rfl rfl)
theorem dX0_daysBy_11 : decode cX0_daysBy 11 = .ok (.invokevirtual 169, 3) := dk_182 0 169 (dk_at dksX0_daysBy_0 11 rfl rfl)
theorem dX0_daysBy_14 : decode cX0_daysBy 14 = .ok (.istore_n 3, 1) := dk_62 (dk_at dksX0_daysBy_0 14 rfl rfl)
theorem dX0_daysBy_15 : decode cX0_daysBy 15 = .ok (.aload_n 0, 1) := dk_42 (dk_at dksX0_daysBy_0 15 rfl rfl)
theorem dX0_daysBy_16 : decode cX0_daysBy 16 = .ok (.invokevirtual 172, 3) := dk_182 0 172 (dk_at dksX0_daysBy_0 16 rfl rfl)
theorem dX0_daysBy_19 : decode cX0_daysBy 19 = .ok (.iload_n 3, 1) := dk_29 (dk_at dksX0_daysBy_0 19 rfl rfl)
theorem dX0_daysBy_20 : decode cX0_daysBy 20 = .ok (.ireturn, 1) := dk_172 (dk_at dksX0_daysBy_0 20 rfl rfl)
abbrev cX0_keep : ByteArray := prog_1_method_25_code
def yX0_keep : MethodName := ⟨RX0, "keep", "()V"⟩
def dkwX0_keep_0 : List UInt8 := [42, 180, 0, 22, 3, 42, 180, 0, 25, 3, 7, 184, 0, 142, 177]
abbrev dktX0_keep_0 : List UInt8 := dkwX0_keep_0 ++ []
theorem dksX0_keep_0 : cX0_keep.data.toList.drop 0 = dktX0_keep_0 := by decide +kernel
theorem dX0_keep_0 : decode cX0_keep 0 = .ok (.aload_n 0, 1) := dk_42 (dk_at dksX0_keep_0 0 rfl rfl)
theorem dX0_keep_1 : decode cX0_keep 1 = .ok (.getfield 22, 3) := dk_180 0 22 (dk_at dksX0_keep_0 1 rfl rfl)
theorem dX0_keep_4 : decode cX0_keep 4 = .ok (.iconst 0, 1) := dk_3 (dk_at dksX0_keep_0 4 rfl rfl)
theorem dX0_keep_5 : decode cX0_keep 5 = .ok (.aload_n 0, 1) := dk_42 (dk_at dksX0_keep_0 5 rfl rfl)
theorem dX0_keep_6 : decode cX0_keep 6 = .ok (.getfield 25, 3) := dk_180 0 25 (dk_at dksX0_keep_0 6 rfl rfl)
theorem dX0_keep_9 : decode cX0_keep 9 = .ok (.iconst 0, 1) := dk_3 (dk_at dksX0_keep_0 9 rfl rfl)
theorem dX0_keep_10 : decode cX0_keep 10 = .ok (.iconst 4, 1) := dk_7 (dk_at dksX0_keep_0 10 rfl rfl)
theorem dX0_keep_11 : decode cX0_keep 11 = .ok (.invokestatic 142, 3) := dk_184 0 142 (dk_at dksX0_keep_0 11 rfl rfl)
theorem dX0_keep_14 : decode cX0_keep 14 = .ok (.return_, 1) := dk_177 (dk_at dksX0_keep_0 14 rfl rfl)
abbrev cX0_goDays : ByteArray := prog_1_method_27_code
def yX0_goDays : MethodName := ⟨RX0, "goDays", "([I)V"⟩
def dkwX0_goDays_3 : List UInt8 := [182, 0, 136, 153, 0, 7, 4, 167, 0, 4, 3, 96, 181, 0, 148, 132, 2, 2, 167, 255, 182, 177]
abbrev dktX0_goDays_3 : List UInt8 := dkwX0_goDays_3 ++ []
def dkwX0_goDays_2 : List UInt8 := [5, 108, 181, 0, 151, 167, 0, 32, 42, 89, 180, 0, 148, 42, 43, 28, 46, 43, 28, 4, 96, 46]
abbrev dktX0_goDays_2 : List UInt8 := dkwX0_goDays_2 ++ dktX0_goDays_3
def dkwX0_goDays_1 : List UInt8 := [156, 0, 67, 42, 180, 0, 22, 43, 28, 46, 46, 43, 28, 4, 96, 46, 184, 0, 100, 153, 0, 13, 42, 28]
abbrev dktX0_goDays_1 : List UInt8 := dkwX0_goDays_1 ++ dktX0_goDays_2
def dkwX0_goDays_0 : List UInt8 := [42, 3, 181, 0, 148, 42, 16, 247, 181, 0, 151, 3, 61, 28, 43, 190, 162, 0, 74, 42, 180, 0, 151]
abbrev dktX0_goDays_0 : List UInt8 := dkwX0_goDays_0 ++ dktX0_goDays_1
theorem dksX0_goDays_0 : cX0_goDays.data.toList.drop 0 = dktX0_goDays_0 := by decide +kernel
theorem dksX0_goDays_1 : cX0_goDays.data.toList.drop 23 = dktX0_goDays_1 := dk_seg dksX0_goDays_0 23 rfl rfl
theorem dksX0_goDays_2 : cX0_goDays.data.toList.drop 47 = dktX0_goDays_2 := dk_seg dksX0_goDays_1 24 rfl rfl
theorem dksX0_goDays_3 : cX0_goDays.data.toList.drop 69 = dktX0_goDays_3 := dk_seg dksX0_goDays_2 22 rfl rfl
theorem dX0_goDays_0 : decode cX0_goDays 0 = .ok (.aload_n 0, 1) := dk_42 (dk_at dksX0_goDays_0 0 rfl rfl)
theorem dX0_goDays_1 : decode cX0_goDays 1 = .ok (.iconst 0, 1) := dk_3 (dk_at dksX0_goDays_0 1 rfl rfl)
theorem dX0_goDays_2 : decode cX0_goDays 2 = .ok (.putfield 148, 3) := dk_181 0 148 (dk_at dksX0_goDays_0 2 rfl rfl)
theorem dX0_goDays_5 : decode cX0_goDays 5 = .ok (.aload_n 0, 1) := dk_42 (dk_at dksX0_goDays_0 5 rfl rfl)
theorem dX0_goDays_6 : decode cX0_goDays 6 = .ok (.bipush (-9), 2) := dk_16 247 (dk_at dksX0_goDays_0 6 rfl rfl)
theorem dX0_goDays_8 : decode cX0_goDays 8 = .ok (.putfield 151, 3) := dk_181 0 151 (dk_at dksX0_goDays_0 8 rfl rfl)
theorem dX0_goDays_11 : decode cX0_goDays 11 = .ok (.iconst 0, 1) := dk_3 (dk_at dksX0_goDays_0 11 rfl rfl)
theorem dX0_goDays_12 : decode cX0_goDays 12 = .ok (.istore_n 2, 1) := dk_61 (dk_at dksX0_goDays_0 12 rfl rfl)
theorem dX0_goDays_13 : decode cX0_goDays 13 = .ok (.iload_n 2, 1) := dk_28 (dk_at dksX0_goDays_0 13 rfl rfl)
theorem dX0_goDays_14 : decode cX0_goDays 14 = .ok (.aload_n 1, 1) := dk_43 (dk_at dksX0_goDays_0 14 rfl rfl)
theorem dX0_goDays_15 : decode cX0_goDays 15 = .ok (.arraylength, 1) := dk_190 (dk_at dksX0_goDays_0 15 rfl rfl)
theorem dX0_goDays_16 : decode cX0_goDays 16 = .ok (.if_icmp .ge 74, 3) := dk_162 0 74 (dk_at dksX0_goDays_0 16 rfl rfl)
theorem dX0_goDays_19 : decode cX0_goDays 19 = .ok (.aload_n 0, 1) := dk_42 (dk_at dksX0_goDays_0 19 rfl rfl)
theorem dX0_goDays_20 : decode cX0_goDays 20 = .ok (.getfield 151, 3) := dk_180 0 151 (dk_at dksX0_goDays_0 20 rfl rfl)
theorem dX0_goDays_23 : decode cX0_goDays 23 = .ok (.ifCond .ge 67, 3) := dk_156 0 67 (dk_at dksX0_goDays_1 0 rfl rfl)
theorem dX0_goDays_26 : decode cX0_goDays 26 = .ok (.aload_n 0, 1) := dk_42 (dk_at dksX0_goDays_1 3 rfl rfl)
theorem dX0_goDays_27 : decode cX0_goDays 27 = .ok (.getfield 22, 3) := dk_180 0 22 (dk_at dksX0_goDays_1 4 rfl rfl)
theorem dX0_goDays_30 : decode cX0_goDays 30 = .ok (.aload_n 1, 1) := dk_43 (dk_at dksX0_goDays_1 7 rfl rfl)
theorem dX0_goDays_31 : decode cX0_goDays 31 = .ok (.iload_n 2, 1) := dk_28 (dk_at dksX0_goDays_1 8 rfl rfl)
theorem dX0_goDays_32 : decode cX0_goDays 32 = .ok (.iaload, 1) := dk_46 (dk_at dksX0_goDays_1 9 rfl rfl)
theorem dX0_goDays_33 : decode cX0_goDays 33 = .ok (.iaload, 1) := dk_46 (dk_at dksX0_goDays_1 10 rfl rfl)
theorem dX0_goDays_34 : decode cX0_goDays 34 = .ok (.aload_n 1, 1) := dk_43 (dk_at dksX0_goDays_1 11 rfl rfl)
theorem dX0_goDays_35 : decode cX0_goDays 35 = .ok (.iload_n 2, 1) := dk_28 (dk_at dksX0_goDays_1 12 rfl rfl)
theorem dX0_goDays_36 : decode cX0_goDays 36 = .ok (.iconst 1, 1) := dk_4 (dk_at dksX0_goDays_1 13 rfl rfl)
theorem dX0_goDays_37 : decode cX0_goDays 37 = .ok (.iadd, 1) := dk_96 (dk_at dksX0_goDays_1 14 rfl rfl)
theorem dX0_goDays_38 : decode cX0_goDays 38 = .ok (.iaload, 1) := dk_46 (dk_at dksX0_goDays_1 15 rfl rfl)
theorem dX0_goDays_39 : decode cX0_goDays 39 = .ok (.invokestatic 100, 3) := dk_184 0 100 (dk_at dksX0_goDays_1 16 rfl rfl)
theorem dX0_goDays_42 : decode cX0_goDays 42 = .ok (.ifCond .eq 13, 3) := dk_153 0 13 (dk_at dksX0_goDays_1 19 rfl rfl)
theorem dX0_goDays_45 : decode cX0_goDays 45 = .ok (.aload_n 0, 1) := dk_42 (dk_at dksX0_goDays_1 22 rfl rfl)
theorem dX0_goDays_46 : decode cX0_goDays 46 = .ok (.iload_n 2, 1) := dk_28 (dk_at dksX0_goDays_1 23 rfl rfl)
theorem dX0_goDays_47 : decode cX0_goDays 47 = .ok (.iconst 2, 1) := dk_5 (dk_at dksX0_goDays_2 0 rfl rfl)
theorem dX0_goDays_48 : decode cX0_goDays 48 = .ok (.idiv, 1) := dk_108 (dk_at dksX0_goDays_2 1 rfl rfl)
theorem dX0_goDays_49 : decode cX0_goDays 49 = .ok (.putfield 151, 3) := dk_181 0 151 (dk_at dksX0_goDays_2 2 rfl rfl)
theorem dX0_goDays_52 : decode cX0_goDays 52 = .ok (.goto 32, 3) := dk_167 0 32 (dk_at dksX0_goDays_2 5 rfl rfl)
theorem dX0_goDays_55 : decode cX0_goDays 55 = .ok (.aload_n 0, 1) := dk_42 (dk_at dksX0_goDays_2 8 rfl rfl)
theorem dX0_goDays_56 : decode cX0_goDays 56 = .ok (.dup, 1) := dk_89 (dk_at dksX0_goDays_2 9 rfl rfl)
theorem dX0_goDays_57 : decode cX0_goDays 57 = .ok (.getfield 148, 3) := dk_180 0 148 (dk_at dksX0_goDays_2 10 rfl rfl)
theorem dX0_goDays_60 : decode cX0_goDays 60 = .ok (.aload_n 0, 1) := dk_42 (dk_at dksX0_goDays_2 13 rfl rfl)
theorem dX0_goDays_61 : decode cX0_goDays 61 = .ok (.aload_n 1, 1) := dk_43 (dk_at dksX0_goDays_2 14 rfl rfl)
theorem dX0_goDays_62 : decode cX0_goDays 62 = .ok (.iload_n 2, 1) := dk_28 (dk_at dksX0_goDays_2 15 rfl rfl)
theorem dX0_goDays_63 : decode cX0_goDays 63 = .ok (.iaload, 1) := dk_46 (dk_at dksX0_goDays_2 16 rfl rfl)
theorem dX0_goDays_64 : decode cX0_goDays 64 = .ok (.aload_n 1, 1) := dk_43 (dk_at dksX0_goDays_2 17 rfl rfl)
theorem dX0_goDays_65 : decode cX0_goDays 65 = .ok (.iload_n 2, 1) := dk_28 (dk_at dksX0_goDays_2 18 rfl rfl)
theorem dX0_goDays_66 : decode cX0_goDays 66 = .ok (.iconst 1, 1) := dk_4 (dk_at dksX0_goDays_2 19 rfl rfl)
theorem dX0_goDays_67 : decode cX0_goDays 67 = .ok (.iadd, 1) := dk_96 (dk_at dksX0_goDays_2 20 rfl rfl)
theorem dX0_goDays_68 : decode cX0_goDays 68 = .ok (.iaload, 1) := dk_46 (dk_at dksX0_goDays_2 21 rfl rfl)
theorem dX0_goDays_69 : decode cX0_goDays 69 = .ok (.invokevirtual 136, 3) := dk_182 0 136 (dk_at dksX0_goDays_3 0 rfl rfl)
theorem dX0_goDays_72 : decode cX0_goDays 72 = .ok (.ifCond .eq 7, 3) := dk_153 0 7 (dk_at dksX0_goDays_3 3 rfl rfl)
theorem dX0_goDays_75 : decode cX0_goDays 75 = .ok (.iconst 1, 1) := dk_4 (dk_at dksX0_goDays_3 6 rfl rfl)
theorem dX0_goDays_76 : decode cX0_goDays 76 = .ok (.goto 4, 3) := dk_167 0 4 (dk_at dksX0_goDays_3 7 rfl rfl)
theorem dX0_goDays_79 : decode cX0_goDays 79 = .ok (.iconst 0, 1) := dk_3 (dk_at dksX0_goDays_3 10 rfl rfl)
theorem dX0_goDays_80 : decode cX0_goDays 80 = .ok (.iadd, 1) := dk_96 (dk_at dksX0_goDays_3 11 rfl rfl)
theorem dX0_goDays_81 : decode cX0_goDays 81 = .ok (.putfield 148, 3) := dk_181 0 148 (dk_at dksX0_goDays_3 12 rfl rfl)
theorem dX0_goDays_84 : decode cX0_goDays 84 = .ok (.iinc 2 2, 3) := dk_132 2 2 (dk_at dksX0_goDays_3 15 rfl rfl)
theorem dX0_goDays_87 : decode cX0_goDays 87 = .ok (.goto (-74), 3) := dk_167 255 182 (dk_at dksX0_goDays_3 18 rfl rfl)
theorem dX0_goDays_90 : decode cX0_goDays 90 = .ok (.return_, 1) := dk_177 (dk_at dksX0_goDays_3 21 rfl rfl)
abbrev cX0_thenBy : ByteArray := prog_1_method_29_code
def yX0_thenBy : MethodName := ⟨RX0, "thenBy", "(I)I"⟩
def dkwX0_thenBy_3 : List UInt8 := [28, 182, 0, 125, 167, 0, 9, 42, 180, 0, 22, 28, 46, 172]
abbrev dktX0_thenBy_3 : List UInt8 := dkwX0_thenBy_3 ++ []
def dkwX0_thenBy_2 : List UInt8 := [16, 10, 112, 61, 42, 28, 182, 0, 112, 153, 0, 8, 16, 247, 167, 0, 23, 27, 16, 20, 162, 0, 11, 42]
abbrev dktX0_thenBy_2 : List UInt8 := dkwX0_thenBy_2 ++ dktX0_thenBy_3
def dkwX0_thenBy_1 : List UInt8 := [172, 27, 16, 10, 162, 0, 19, 27, 154, 0, 10, 42, 180, 0, 148, 167, 0, 7, 42, 182, 0, 159, 172, 27]
abbrev dktX0_thenBy_1 : List UInt8 := dkwX0_thenBy_1 ++ dktX0_thenBy_2
def dkwX0_thenBy_0 : List UInt8 := [27, 4, 160, 0, 8, 42, 180, 0, 151, 172, 42, 180, 0, 151, 155, 0, 11, 16, 156, 42, 180, 0, 151, 100]
abbrev dktX0_thenBy_0 : List UInt8 := dkwX0_thenBy_0 ++ dktX0_thenBy_1
theorem dksX0_thenBy_0 : cX0_thenBy.data.toList.drop 0 = dktX0_thenBy_0 := by decide +kernel
theorem dksX0_thenBy_1 : cX0_thenBy.data.toList.drop 24 = dktX0_thenBy_1 := dk_seg dksX0_thenBy_0 24 rfl rfl
theorem dksX0_thenBy_2 : cX0_thenBy.data.toList.drop 48 = dktX0_thenBy_2 := dk_seg dksX0_thenBy_1 24 rfl rfl
theorem dksX0_thenBy_3 : cX0_thenBy.data.toList.drop 72 = dktX0_thenBy_3 := dk_seg dksX0_thenBy_2 24 rfl rfl
theorem dX0_thenBy_0 : decode cX0_thenBy 0 = .ok (.iload_n 1, 1) := dk_27 (dk_at dksX0_thenBy_0 0 rfl rfl)
theorem dX0_thenBy_1 : decode cX0_thenBy 1 = .ok (.iconst 1, 1) := dk_4 (dk_at dksX0_thenBy_0 1 rfl rfl)
theorem dX0_thenBy_2 : decode cX0_thenBy 2 = .ok (.if_icmp .ne 8, 3) := dk_160 0 8 (dk_at dksX0_thenBy_0 2 rfl rfl)
theorem dX0_thenBy_5 : decode cX0_thenBy 5 = .ok (.aload_n 0, 1) := dk_42 (dk_at dksX0_thenBy_0 5 rfl rfl)
theorem dX0_thenBy_6 : decode cX0_thenBy 6 = .ok (.getfield 151, 3) := dk_180 0 151 (dk_at dksX0_thenBy_0 6 rfl rfl)
theorem dX0_thenBy_9 : decode cX0_thenBy 9 = .ok (.ireturn, 1) := dk_172 (dk_at dksX0_thenBy_0 9 rfl rfl)
theorem dX0_thenBy_10 : decode cX0_thenBy 10 = .ok (.aload_n 0, 1) := dk_42 (dk_at dksX0_thenBy_0 10 rfl rfl)
theorem dX0_thenBy_11 : decode cX0_thenBy 11 = .ok (.getfield 151, 3) := dk_180 0 151 (dk_at dksX0_thenBy_0 11 rfl rfl)
theorem dX0_thenBy_14 : decode cX0_thenBy 14 = .ok (.ifCond .lt 11, 3) := dk_155 0 11 (dk_at dksX0_thenBy_0 14 rfl rfl)
theorem dX0_thenBy_17 : decode cX0_thenBy 17 = .ok (.bipush (-100), 2) := dk_16 156 (dk_at dksX0_thenBy_0 17 rfl rfl)
theorem dX0_thenBy_19 : decode cX0_thenBy 19 = .ok (.aload_n 0, 1) := dk_42 (dk_at dksX0_thenBy_0 19 rfl rfl)
theorem dX0_thenBy_20 : decode cX0_thenBy 20 = .ok (.getfield 151, 3) := dk_180 0 151 (dk_at dksX0_thenBy_0 20 rfl rfl)
theorem dX0_thenBy_23 : decode cX0_thenBy 23 = .ok (.isub, 1) := dk_100 (dk_at dksX0_thenBy_0 23 rfl rfl)
theorem dX0_thenBy_24 : decode cX0_thenBy 24 = .ok (.ireturn, 1) := dk_172 (dk_at dksX0_thenBy_1 0 rfl rfl)
theorem dX0_thenBy_25 : decode cX0_thenBy 25 = .ok (.iload_n 1, 1) := dk_27 (dk_at dksX0_thenBy_1 1 rfl rfl)
theorem dX0_thenBy_26 : decode cX0_thenBy 26 = .ok (.bipush 10, 2) := dk_16 10 (dk_at dksX0_thenBy_1 2 rfl rfl)
theorem dX0_thenBy_28 : decode cX0_thenBy 28 = .ok (.if_icmp .ge 19, 3) := dk_162 0 19 (dk_at dksX0_thenBy_1 4 rfl rfl)
theorem dX0_thenBy_31 : decode cX0_thenBy 31 = .ok (.iload_n 1, 1) := dk_27 (dk_at dksX0_thenBy_1 7 rfl rfl)
theorem dX0_thenBy_32 : decode cX0_thenBy 32 = .ok (.ifCond .ne 10, 3) := dk_154 0 10 (dk_at dksX0_thenBy_1 8 rfl rfl)
theorem dX0_thenBy_35 : decode cX0_thenBy 35 = .ok (.aload_n 0, 1) := dk_42 (dk_at dksX0_thenBy_1 11 rfl rfl)
theorem dX0_thenBy_36 : decode cX0_thenBy 36 = .ok (.getfield 148, 3) := dk_180 0 148 (dk_at dksX0_thenBy_1 12 rfl rfl)
theorem dX0_thenBy_39 : decode cX0_thenBy 39 = .ok (.goto 7, 3) := dk_167 0 7 (dk_at dksX0_thenBy_1 15 rfl rfl)
theorem dX0_thenBy_42 : decode cX0_thenBy 42 = .ok (.aload_n 0, 1) := dk_42 (dk_at dksX0_thenBy_1 18 rfl rfl)
theorem dX0_thenBy_43 : decode cX0_thenBy 43 = .ok (.invokevirtual 159, 3) := dk_182 0 159 (dk_at dksX0_thenBy_1 19 rfl rfl)
theorem dX0_thenBy_46 : decode cX0_thenBy 46 = .ok (.ireturn, 1) := dk_172 (dk_at dksX0_thenBy_1 22 rfl rfl)
theorem dX0_thenBy_47 : decode cX0_thenBy 47 = .ok (.iload_n 1, 1) := dk_27 (dk_at dksX0_thenBy_1 23 rfl rfl)
theorem dX0_thenBy_48 : decode cX0_thenBy 48 = .ok (.bipush 10, 2) := dk_16 10 (dk_at dksX0_thenBy_2 0 rfl rfl)
theorem dX0_thenBy_50 : decode cX0_thenBy 50 = .ok (.irem, 1) := dk_112 (dk_at dksX0_thenBy_2 2 rfl rfl)
theorem dX0_thenBy_51 : decode cX0_thenBy 51 = .ok (.istore_n 2, 1) := dk_61 (dk_at dksX0_thenBy_2 3 rfl rfl)
theorem dX0_thenBy_52 : decode cX0_thenBy 52 = .ok (.aload_n 0, 1) := dk_42 (dk_at dksX0_thenBy_2 4 rfl rfl)
theorem dX0_thenBy_53 : decode cX0_thenBy 53 = .ok (.iload_n 2, 1) := dk_28 (dk_at dksX0_thenBy_2 5 rfl rfl)
theorem dX0_thenBy_54 : decode cX0_thenBy 54 = .ok (.invokevirtual 112, 3) := dk_182 0 112 (dk_at dksX0_thenBy_2 6 rfl rfl)
theorem dX0_thenBy_57 : decode cX0_thenBy 57 = .ok (.ifCond .eq 8, 3) := dk_153 0 8 (dk_at dksX0_thenBy_2 9 rfl rfl)
theorem dX0_thenBy_60 : decode cX0_thenBy 60 = .ok (.bipush (-9), 2) := dk_16 247 (dk_at dksX0_thenBy_2 12 rfl rfl)
theorem dX0_thenBy_62 : decode cX0_thenBy 62 = .ok (.goto 23, 3) := dk_167 0 23 (dk_at dksX0_thenBy_2 14 rfl rfl)
theorem dX0_thenBy_65 : decode cX0_thenBy 65 = .ok (.iload_n 1, 1) := dk_27 (dk_at dksX0_thenBy_2 17 rfl rfl)
theorem dX0_thenBy_66 : decode cX0_thenBy 66 = .ok (.bipush 20, 2) := dk_16 20 (dk_at dksX0_thenBy_2 18 rfl rfl)
theorem dX0_thenBy_68 : decode cX0_thenBy 68 = .ok (.if_icmp .ge 11, 3) := dk_162 0 11 (dk_at dksX0_thenBy_2 20 rfl rfl)
theorem dX0_thenBy_71 : decode cX0_thenBy 71 = .ok (.aload_n 0, 1) := dk_42 (dk_at dksX0_thenBy_2 23 rfl rfl)
theorem dX0_thenBy_72 : decode cX0_thenBy 72 = .ok (.iload_n 2, 1) := dk_28 (dk_at dksX0_thenBy_3 0 rfl rfl)
theorem dX0_thenBy_73 : decode cX0_thenBy 73 = .ok (.invokevirtual 125, 3) := dk_182 0 125 (dk_at dksX0_thenBy_3 1 rfl rfl)
theorem dX0_thenBy_76 : decode cX0_thenBy 76 = .ok (.goto 9, 3) := dk_167 0 9 (dk_at dksX0_thenBy_3 4 rfl rfl)
theorem dX0_thenBy_79 : decode cX0_thenBy 79 = .ok (.aload_n 0, 1) := dk_42 (dk_at dksX0_thenBy_3 7 rfl rfl)
theorem dX0_thenBy_80 : decode cX0_thenBy 80 = .ok (.getfield 22, 3) := dk_180 0 22 (dk_at dksX0_thenBy_3 8 rfl rfl)
theorem dX0_thenBy_83 : decode cX0_thenBy 83 = .ok (.iload_n 2, 1) := dk_28 (dk_at dksX0_thenBy_3 11 rfl rfl)
theorem dX0_thenBy_84 : decode cX0_thenBy 84 = .ok (.iaload, 1) := dk_46 (dk_at dksX0_thenBy_3 12 rfl rfl)
theorem dX0_thenBy_85 : decode cX0_thenBy 85 = .ok (.ireturn, 1) := dk_172 (dk_at dksX0_thenBy_3 13 rfl rfl)
abbrev cX0_highestNow : ByteArray := prog_1_method_28_code
def yX0_highestNow : MethodName := ⟨RX0, "highestNow", "()I"⟩
def dkwX0_highestNow_1 : List UInt8 := [184, 0, 154, 60, 132, 2, 1, 167, 255, 230, 27, 172]
abbrev dktX0_highestNow_1 : List UInt8 := dkwX0_highestNow_1 ++ []
def dkwX0_highestNow_0 : List UInt8 := [3, 60, 3, 61, 28, 42, 180, 0, 18, 185, 0, 62, 1, 0, 162, 0, 19, 27, 42, 28, 182, 0, 125]
abbrev dktX0_highestNow_0 : List UInt8 := dkwX0_highestNow_0 ++ dktX0_highestNow_1
theorem dksX0_highestNow_0 : cX0_highestNow.data.toList.drop 0 = dktX0_highestNow_0 := by decide +kernel
theorem dksX0_highestNow_1 : cX0_highestNow.data.toList.drop 23 = dktX0_highestNow_1 := dk_seg dksX0_highestNow_0 23 rfl rfl
theorem dX0_highestNow_0 : decode cX0_highestNow 0 = .ok (.iconst 0, 1) := dk_3 (dk_at dksX0_highestNow_0 0 rfl rfl)
theorem dX0_highestNow_1 : decode cX0_highestNow 1 = .ok (.istore_n 1, 1) := dk_60 (dk_at dksX0_highestNow_0 1 rfl rfl)
theorem dX0_highestNow_2 : decode cX0_highestNow 2 = .ok (.iconst 0, 1) := dk_3 (dk_at dksX0_highestNow_0 2 rfl rfl)
theorem dX0_highestNow_3 : decode cX0_highestNow 3 = .ok (.istore_n 2, 1) := dk_61 (dk_at dksX0_highestNow_0 3 rfl rfl)
theorem dX0_highestNow_4 : decode cX0_highestNow 4 = .ok (.iload_n 2, 1) := dk_28 (dk_at dksX0_highestNow_0 4 rfl rfl)
theorem dX0_highestNow_5 : decode cX0_highestNow 5 = .ok (.aload_n 0, 1) := dk_42 (dk_at dksX0_highestNow_0 5 rfl rfl)
theorem dX0_highestNow_6 : decode cX0_highestNow 6 = .ok (.getfield 18, 3) := dk_180 0 18 (dk_at dksX0_highestNow_0 6 rfl rfl)
theorem dX0_highestNow_9 : decode cX0_highestNow 9 = .ok (.invokeinterface 62 1, 5) := by decide +kernel
theorem dX0_highestNow_14 : decode cX0_highestNow 14 = .ok (.if_icmp .ge 19, 3) := dk_162 0 19 (dk_at dksX0_highestNow_0 14 rfl rfl)
theorem dX0_highestNow_17 : decode cX0_highestNow 17 = .ok (.iload_n 1, 1) := dk_27 (dk_at dksX0_highestNow_0 17 rfl rfl)
theorem dX0_highestNow_18 : decode cX0_highestNow 18 = .ok (.aload_n 0, 1) := dk_42 (dk_at dksX0_highestNow_0 18 rfl rfl)
theorem dX0_highestNow_19 : decode cX0_highestNow 19 = .ok (.iload_n 2, 1) := dk_28 (dk_at dksX0_highestNow_0 19 rfl rfl)
theorem dX0_highestNow_20 : decode cX0_highestNow 20 = .ok (.invokevirtual 125, 3) := dk_182 0 125 (dk_at dksX0_highestNow_0 20 rfl rfl)
theorem dX0_highestNow_23 : decode cX0_highestNow 23 = .ok (.invokestatic 154, 3) := dk_184 0 154 (dk_at dksX0_highestNow_1 0 rfl rfl)
theorem dX0_highestNow_26 : decode cX0_highestNow 26 = .ok (.istore_n 1, 1) := dk_60 (dk_at dksX0_highestNow_1 3 rfl rfl)
theorem dX0_highestNow_27 : decode cX0_highestNow 27 = .ok (.iinc 2 1, 3) := dk_132 2 1 (dk_at dksX0_highestNow_1 4 rfl rfl)
theorem dX0_highestNow_30 : decode cX0_highestNow 30 = .ok (.goto (-26), 3) := dk_167 255 230 (dk_at dksX0_highestNow_1 7 rfl rfl)
theorem dX0_highestNow_33 : decode cX0_highestNow 33 = .ok (.iload_n 1, 1) := dk_27 (dk_at dksX0_highestNow_1 10 rfl rfl)
theorem dX0_highestNow_34 : decode cX0_highestNow 34 = .ok (.ireturn, 1) := dk_172 (dk_at dksX0_highestNow_1 11 rfl rfl)
abbrev cX0_putBack : ByteArray := prog_1_method_26_code
def yX0_putBack : MethodName := ⟨RX0, "putBack", "()V"⟩
def dkwX0_putBack_0 : List UInt8 := [42, 180, 0, 25, 3, 42, 180, 0, 22, 3, 7, 184, 0, 142, 177]
abbrev dktX0_putBack_0 : List UInt8 := dkwX0_putBack_0 ++ []
theorem dksX0_putBack_0 : cX0_putBack.data.toList.drop 0 = dktX0_putBack_0 := by decide +kernel
theorem dX0_putBack_0 : decode cX0_putBack 0 = .ok (.aload_n 0, 1) := dk_42 (dk_at dksX0_putBack_0 0 rfl rfl)
theorem dX0_putBack_1 : decode cX0_putBack 1 = .ok (.getfield 25, 3) := dk_180 0 25 (dk_at dksX0_putBack_0 1 rfl rfl)
theorem dX0_putBack_4 : decode cX0_putBack 4 = .ok (.iconst 0, 1) := dk_3 (dk_at dksX0_putBack_0 4 rfl rfl)
theorem dX0_putBack_5 : decode cX0_putBack 5 = .ok (.aload_n 0, 1) := dk_42 (dk_at dksX0_putBack_0 5 rfl rfl)
theorem dX0_putBack_6 : decode cX0_putBack 6 = .ok (.getfield 22, 3) := dk_180 0 22 (dk_at dksX0_putBack_0 6 rfl rfl)
theorem dX0_putBack_9 : decode cX0_putBack 9 = .ok (.iconst 0, 1) := dk_3 (dk_at dksX0_putBack_0 9 rfl rfl)
theorem dX0_putBack_10 : decode cX0_putBack 10 = .ok (.iconst 4, 1) := dk_7 (dk_at dksX0_putBack_0 10 rfl rfl)
theorem dX0_putBack_11 : decode cX0_putBack 11 = .ok (.invokestatic 142, 3) := dk_184 0 142 (dk_at dksX0_putBack_0 11 rfl rfl)
theorem dX0_putBack_14 : decode cX0_putBack 14 = .ok (.return_, 1) := dk_177 (dk_at dksX0_putBack_0 14 rfl rfl)
abbrev cX0_weights : ByteArray := prog_1_method_62_code
def yX0_weights : MethodName := ⟨RX0, "weights", "(IIIII)I"⟩
def dkwX0_weights_2 : List UInt8 := [172]
abbrev dktX0_weights_2 : List UInt8 := dkwX0_weights_2 ++ []
def dkwX0_weights_1 : List UInt8 := [182, 1, 56, 54, 6, 21, 6, 156, 0, 8, 21, 6, 167, 0, 12, 42, 42, 180, 1, 60, 27, 182, 1, 66]
abbrev dktX0_weights_1 : List UInt8 := dkwX0_weights_1 ++ dktX0_weights_2
def dkwX0_weights_0 : List UInt8 := [42, 27, 182, 0, 128, 153, 0, 9, 42, 2, 182, 0, 227, 172, 42, 28, 29, 21, 4, 21, 5, 4]
abbrev dktX0_weights_0 : List UInt8 := dkwX0_weights_0 ++ dktX0_weights_1
theorem dksX0_weights_0 : cX0_weights.data.toList.drop 0 = dktX0_weights_0 := by decide +kernel
theorem dksX0_weights_1 : cX0_weights.data.toList.drop 22 = dktX0_weights_1 := dk_seg dksX0_weights_0 22 rfl rfl
theorem dksX0_weights_2 : cX0_weights.data.toList.drop 46 = dktX0_weights_2 := dk_seg dksX0_weights_1 24 rfl rfl
theorem dX0_weights_0 : decode cX0_weights 0 = .ok (.aload_n 0, 1) := dk_42 (dk_at dksX0_weights_0 0 rfl rfl)
theorem dX0_weights_1 : decode cX0_weights 1 = .ok (.iload_n 1, 1) := dk_27 (dk_at dksX0_weights_0 1 rfl rfl)
theorem dX0_weights_2 : decode cX0_weights 2 = .ok (.invokevirtual 128, 3) := dk_182 0 128 (dk_at dksX0_weights_0 2 rfl rfl)
theorem dX0_weights_5 : decode cX0_weights 5 = .ok (.ifCond .eq 9, 3) := dk_153 0 9 (dk_at dksX0_weights_0 5 rfl rfl)
theorem dX0_weights_8 : decode cX0_weights 8 = .ok (.aload_n 0, 1) := dk_42 (dk_at dksX0_weights_0 8 rfl rfl)
theorem dX0_weights_9 : decode cX0_weights 9 = .ok (.iconst (-1), 1) := dk_2 (dk_at dksX0_weights_0 9 rfl rfl)
theorem dX0_weights_10 : decode cX0_weights 10 = .ok (.invokevirtual 227, 3) := dk_182 0 227 (dk_at dksX0_weights_0 10 rfl rfl)
theorem dX0_weights_13 : decode cX0_weights 13 = .ok (.ireturn, 1) := dk_172 (dk_at dksX0_weights_0 13 rfl rfl)
theorem dX0_weights_14 : decode cX0_weights 14 = .ok (.aload_n 0, 1) := dk_42 (dk_at dksX0_weights_0 14 rfl rfl)
theorem dX0_weights_15 : decode cX0_weights 15 = .ok (.iload_n 2, 1) := dk_28 (dk_at dksX0_weights_0 15 rfl rfl)
theorem dX0_weights_16 : decode cX0_weights 16 = .ok (.iload_n 3, 1) := dk_29 (dk_at dksX0_weights_0 16 rfl rfl)
theorem dX0_weights_17 : decode cX0_weights 17 = .ok (.iload 4, 2) := dk_21 4 (dk_at dksX0_weights_0 17 rfl rfl)
theorem dX0_weights_19 : decode cX0_weights 19 = .ok (.iload 5, 2) := dk_21 5 (dk_at dksX0_weights_0 19 rfl rfl)
theorem dX0_weights_21 : decode cX0_weights 21 = .ok (.iconst 1, 1) := dk_4 (dk_at dksX0_weights_0 21 rfl rfl)
theorem dX0_weights_22 : decode cX0_weights 22 = .ok (.invokevirtual 312, 3) := dk_182 1 56 (dk_at dksX0_weights_1 0 rfl rfl)
theorem dX0_weights_25 : decode cX0_weights 25 = .ok (.istore 6, 2) := dk_54 6 (dk_at dksX0_weights_1 3 rfl rfl)
theorem dX0_weights_27 : decode cX0_weights 27 = .ok (.iload 6, 2) := dk_21 6 (dk_at dksX0_weights_1 5 rfl rfl)
theorem dX0_weights_29 : decode cX0_weights 29 = .ok (.ifCond .ge 8, 3) := dk_156 0 8 (dk_at dksX0_weights_1 7 rfl rfl)
theorem dX0_weights_32 : decode cX0_weights 32 = .ok (.iload 6, 2) := dk_21 6 (dk_at dksX0_weights_1 10 rfl rfl)
theorem dX0_weights_34 : decode cX0_weights 34 = .ok (.goto 12, 3) := dk_167 0 12 (dk_at dksX0_weights_1 12 rfl rfl)
theorem dX0_weights_37 : decode cX0_weights 37 = .ok (.aload_n 0, 1) := dk_42 (dk_at dksX0_weights_1 15 rfl rfl)
theorem dX0_weights_38 : decode cX0_weights 38 = .ok (.aload_n 0, 1) := dk_42 (dk_at dksX0_weights_1 16 rfl rfl)
theorem dX0_weights_39 : decode cX0_weights 39 = .ok (.getfield 316, 3) := dk_180 1 60 (dk_at dksX0_weights_1 17 rfl rfl)
theorem dX0_weights_42 : decode cX0_weights 42 = .ok (.iload_n 1, 1) := dk_27 (dk_at dksX0_weights_1 20 rfl rfl)
theorem dX0_weights_43 : decode cX0_weights 43 = .ok (.invokevirtual 322, 3) := dk_182 1 66 (dk_at dksX0_weights_1 21 rfl rfl)
theorem dX0_weights_46 : decode cX0_weights 46 = .ok (.ireturn, 1) := dk_172 (dk_at dksX0_weights_2 0 rfl rfl)
abbrev cX0_weightsBy : ByteArray := prog_1_method_38_code
def yX0_weightsBy : MethodName := ⟨RX0, "weightsBy", "([II)I"⟩
def dkwX0_weightsBy_2 : List UInt8 := [54, 4, 132, 5, 1, 167, 255, 217, 42, 180, 0, 11, 28, 29, 79, 21, 4, 172]
abbrev dktX0_weightsBy_2 : List UInt8 := dkwX0_weightsBy_2 ++ []
def dkwX0_weightsBy_1 : List UInt8 := [28, 21, 5, 79, 21, 4, 42, 43, 182, 0, 196, 153, 0, 10, 4, 21, 5, 120, 167, 0, 4, 3, 128]
abbrev dktX0_weightsBy_1 : List UInt8 := dkwX0_weightsBy_1 ++ dktX0_weightsBy_2
def dkwX0_weightsBy_0 : List UInt8 := [42, 180, 0, 11, 28, 46, 62, 3, 54, 4, 4, 54, 5, 21, 5, 16, 9, 163, 0, 38, 42, 180, 0, 11]
abbrev dktX0_weightsBy_0 : List UInt8 := dkwX0_weightsBy_0 ++ dktX0_weightsBy_1
theorem dksX0_weightsBy_0 : cX0_weightsBy.data.toList.drop 0 = dktX0_weightsBy_0 := by decide +kernel
theorem dksX0_weightsBy_1 : cX0_weightsBy.data.toList.drop 24 = dktX0_weightsBy_1 := dk_seg dksX0_weightsBy_0 24 rfl rfl
theorem dksX0_weightsBy_2 : cX0_weightsBy.data.toList.drop 47 = dktX0_weightsBy_2 := dk_seg dksX0_weightsBy_1 23 rfl rfl
theorem dX0_weightsBy_0 : decode cX0_weightsBy 0 = .ok (.aload_n 0, 1) := dk_42 (dk_at dksX0_weightsBy_0 0 rfl rfl)
theorem dX0_weightsBy_1 : decode cX0_weightsBy 1 = .ok (.getfield 11, 3) := dk_180 0 11 (dk_at dksX0_weightsBy_0 1 rfl rfl)
theorem dX0_weightsBy_4 : decode cX0_weightsBy 4 = .ok (.iload_n 2, 1) := dk_28 (dk_at dksX0_weightsBy_0 4 rfl rfl)
theorem dX0_weightsBy_5 : decode cX0_weightsBy 5 = .ok (.iaload, 1) := dk_46 (dk_at dksX0_weightsBy_0 5 rfl rfl)
theorem dX0_weightsBy_6 : decode cX0_weightsBy 6 = .ok (.istore_n 3, 1) := dk_62 (dk_at dksX0_weightsBy_0 6 rfl rfl)
theorem dX0_weightsBy_7 : decode cX0_weightsBy 7 = .ok (.iconst 0, 1) := dk_3 (dk_at dksX0_weightsBy_0 7 rfl rfl)
theorem dX0_weightsBy_8 : decode cX0_weightsBy 8 = .ok (.istore 4, 2) := dk_54 4 (dk_at dksX0_weightsBy_0 8 rfl rfl)
theorem dX0_weightsBy_10 : decode cX0_weightsBy 10 = .ok (.iconst 1, 1) := dk_4 (dk_at dksX0_weightsBy_0 10 rfl rfl)
theorem dX0_weightsBy_11 : decode cX0_weightsBy 11 = .ok (.istore 5, 2) := dk_54 5 (dk_at dksX0_weightsBy_0 11 rfl rfl)
theorem dX0_weightsBy_13 : decode cX0_weightsBy 13 = .ok (.iload 5, 2) := dk_21 5 (dk_at dksX0_weightsBy_0 13 rfl rfl)
theorem dX0_weightsBy_15 : decode cX0_weightsBy 15 = .ok (.bipush 9, 2) := dk_16 9 (dk_at dksX0_weightsBy_0 15 rfl rfl)
theorem dX0_weightsBy_17 : decode cX0_weightsBy 17 = .ok (.if_icmp .gt 38, 3) := dk_163 0 38 (dk_at dksX0_weightsBy_0 17 rfl rfl)
theorem dX0_weightsBy_20 : decode cX0_weightsBy 20 = .ok (.aload_n 0, 1) := dk_42 (dk_at dksX0_weightsBy_0 20 rfl rfl)
theorem dX0_weightsBy_21 : decode cX0_weightsBy 21 = .ok (.getfield 11, 3) := dk_180 0 11 (dk_at dksX0_weightsBy_0 21 rfl rfl)
theorem dX0_weightsBy_24 : decode cX0_weightsBy 24 = .ok (.iload_n 2, 1) := dk_28 (dk_at dksX0_weightsBy_1 0 rfl rfl)
theorem dX0_weightsBy_25 : decode cX0_weightsBy 25 = .ok (.iload 5, 2) := dk_21 5 (dk_at dksX0_weightsBy_1 1 rfl rfl)
theorem dX0_weightsBy_27 : decode cX0_weightsBy 27 = .ok (.iastore, 1) := dk_79 (dk_at dksX0_weightsBy_1 3 rfl rfl)
theorem dX0_weightsBy_28 : decode cX0_weightsBy 28 = .ok (.iload 4, 2) := dk_21 4 (dk_at dksX0_weightsBy_1 4 rfl rfl)
theorem dX0_weightsBy_30 : decode cX0_weightsBy 30 = .ok (.aload_n 0, 1) := dk_42 (dk_at dksX0_weightsBy_1 6 rfl rfl)
theorem dX0_weightsBy_31 : decode cX0_weightsBy 31 = .ok (.aload_n 1, 1) := dk_43 (dk_at dksX0_weightsBy_1 7 rfl rfl)
theorem dX0_weightsBy_32 : decode cX0_weightsBy 32 = .ok (.invokevirtual 196, 3) := dk_182 0 196 (dk_at dksX0_weightsBy_1 8 rfl rfl)
theorem dX0_weightsBy_35 : decode cX0_weightsBy 35 = .ok (.ifCond .eq 10, 3) := dk_153 0 10 (dk_at dksX0_weightsBy_1 11 rfl rfl)
theorem dX0_weightsBy_38 : decode cX0_weightsBy 38 = .ok (.iconst 1, 1) := dk_4 (dk_at dksX0_weightsBy_1 14 rfl rfl)
theorem dX0_weightsBy_39 : decode cX0_weightsBy 39 = .ok (.iload 5, 2) := dk_21 5 (dk_at dksX0_weightsBy_1 15 rfl rfl)
theorem dX0_weightsBy_41 : decode cX0_weightsBy 41 = .ok (.ishl, 1) := dk_120 (dk_at dksX0_weightsBy_1 17 rfl rfl)
theorem dX0_weightsBy_42 : decode cX0_weightsBy 42 = .ok (.goto 4, 3) := dk_167 0 4 (dk_at dksX0_weightsBy_1 18 rfl rfl)
theorem dX0_weightsBy_45 : decode cX0_weightsBy 45 = .ok (.iconst 0, 1) := dk_3 (dk_at dksX0_weightsBy_1 21 rfl rfl)
theorem dX0_weightsBy_46 : decode cX0_weightsBy 46 = .ok (.ior, 1) := dk_128 (dk_at dksX0_weightsBy_1 22 rfl rfl)
theorem dX0_weightsBy_47 : decode cX0_weightsBy 47 = .ok (.istore 4, 2) := dk_54 4 (dk_at dksX0_weightsBy_2 0 rfl rfl)
theorem dX0_weightsBy_49 : decode cX0_weightsBy 49 = .ok (.iinc 5 1, 3) := dk_132 5 1 (dk_at dksX0_weightsBy_2 2 rfl rfl)
theorem dX0_weightsBy_52 : decode cX0_weightsBy 52 = .ok (.goto (-39), 3) := dk_167 255 217 (dk_at dksX0_weightsBy_2 5 rfl rfl)
theorem dX0_weightsBy_55 : decode cX0_weightsBy 55 = .ok (.aload_n 0, 1) := dk_42 (dk_at dksX0_weightsBy_2 8 rfl rfl)
theorem dX0_weightsBy_56 : decode cX0_weightsBy 56 = .ok (.getfield 11, 3) := dk_180 0 11 (dk_at dksX0_weightsBy_2 9 rfl rfl)
theorem dX0_weightsBy_59 : decode cX0_weightsBy 59 = .ok (.iload_n 2, 1) := dk_28 (dk_at dksX0_weightsBy_2 12 rfl rfl)
theorem dX0_weightsBy_60 : decode cX0_weightsBy 60 = .ok (.iload_n 3, 1) := dk_29 (dk_at dksX0_weightsBy_2 13 rfl rfl)
theorem dX0_weightsBy_61 : decode cX0_weightsBy 61 = .ok (.iastore, 1) := dk_79 (dk_at dksX0_weightsBy_2 14 rfl rfl)
theorem dX0_weightsBy_62 : decode cX0_weightsBy 62 = .ok (.iload 4, 2) := dk_21 4 (dk_at dksX0_weightsBy_2 15 rfl rfl)
theorem dX0_weightsBy_64 : decode cX0_weightsBy 64 = .ok (.ireturn, 1) := dk_172 (dk_at dksX0_weightsBy_2 17 rfl rfl)
abbrev cX0_areSo : ByteArray := prog_1_method_37_code
def yX0_areSo : MethodName := ⟨RX0, "areSo", "([I)Z"⟩
def dkwX0_areSo_4 : List UInt8 := [182, 0, 172, 28, 172]
abbrev dktX0_areSo_4 : List UInt8 := dkwX0_areSo_4 ++ []
def dkwX0_areSo_3 : List UInt8 := [192, 0, 182, 180, 0, 193, 160, 0, 7, 4, 167, 0, 4, 3, 126, 61, 132, 3, 1, 167, 255, 193, 42]
abbrev dktX0_areSo_3 : List UInt8 := dkwX0_areSo_3 ++ dktX0_areSo_4
def dkwX0_areSo_2 : List UInt8 := [185, 0, 95, 2, 0, 192, 0, 182, 180, 0, 190, 182, 0, 125, 42, 180, 0, 28, 29, 185, 0, 95, 2, 0]
abbrev dktX0_areSo_2 : List UInt8 := dkwX0_areSo_2 ++ dktX0_areSo_3
def dkwX0_areSo_1 : List UInt8 := [29, 42, 180, 0, 28, 185, 0, 62, 1, 0, 162, 0, 56, 28, 42, 42, 180, 0, 28, 29]
abbrev dktX0_areSo_1 : List UInt8 := dkwX0_areSo_1 ++ dktX0_areSo_2
def dkwX0_areSo_0 : List UInt8 := [42, 182, 0, 162, 42, 43, 182, 0, 165, 42, 180, 0, 151, 156, 0, 7, 4, 167, 0, 4, 3, 61, 3, 62]
abbrev dktX0_areSo_0 : List UInt8 := dkwX0_areSo_0 ++ dktX0_areSo_1
theorem dksX0_areSo_0 : cX0_areSo.data.toList.drop 0 = dktX0_areSo_0 := by decide +kernel
theorem dksX0_areSo_1 : cX0_areSo.data.toList.drop 24 = dktX0_areSo_1 := dk_seg dksX0_areSo_0 24 rfl rfl
theorem dksX0_areSo_2 : cX0_areSo.data.toList.drop 44 = dktX0_areSo_2 := dk_seg dksX0_areSo_1 20 rfl rfl
theorem dksX0_areSo_3 : cX0_areSo.data.toList.drop 68 = dktX0_areSo_3 := dk_seg dksX0_areSo_2 24 rfl rfl
theorem dksX0_areSo_4 : cX0_areSo.data.toList.drop 91 = dktX0_areSo_4 := dk_seg dksX0_areSo_3 23 rfl rfl
theorem dX0_areSo_0 : decode cX0_areSo 0 = .ok (.aload_n 0, 1) := dk_42 (dk_at dksX0_areSo_0 0 rfl rfl)
theorem dX0_areSo_1 : decode cX0_areSo 1 = .ok (.invokevirtual 162, 3) := dk_182 0 162 (dk_at dksX0_areSo_0 1 rfl rfl)
theorem dX0_areSo_4 : decode cX0_areSo 4 = .ok (.aload_n 0, 1) := dk_42 (dk_at dksX0_areSo_0 4 rfl rfl)
theorem dX0_areSo_5 : decode cX0_areSo 5 = .ok (.aload_n 1, 1) := dk_43 (dk_at dksX0_areSo_0 5 rfl rfl)
theorem dX0_areSo_6 : decode cX0_areSo 6 = .ok (.invokevirtual 165, 3) := dk_182 0 165 (dk_at dksX0_areSo_0 6 rfl rfl)
theorem dX0_areSo_9 : decode cX0_areSo 9 = .ok (.aload_n 0, 1) := dk_42 (dk_at dksX0_areSo_0 9 rfl rfl)
theorem dX0_areSo_10 : decode cX0_areSo 10 = .ok (.getfield 151, 3) := dk_180 0 151 (dk_at dksX0_areSo_0 10 rfl rfl)
theorem dX0_areSo_13 : decode cX0_areSo 13 = .ok (.ifCond .ge 7, 3) := dk_156 0 7 (dk_at dksX0_areSo_0 13 rfl rfl)
theorem dX0_areSo_16 : decode cX0_areSo 16 = .ok (.iconst 1, 1) := dk_4 (dk_at dksX0_areSo_0 16 rfl rfl)
theorem dX0_areSo_17 : decode cX0_areSo 17 = .ok (.goto 4, 3) := dk_167 0 4 (dk_at dksX0_areSo_0 17 rfl rfl)
theorem dX0_areSo_20 : decode cX0_areSo 20 = .ok (.iconst 0, 1) := dk_3 (dk_at dksX0_areSo_0 20 rfl rfl)
theorem dX0_areSo_21 : decode cX0_areSo 21 = .ok (.istore_n 2, 1) := dk_61 (dk_at dksX0_areSo_0 21 rfl rfl)
theorem dX0_areSo_22 : decode cX0_areSo 22 = .ok (.iconst 0, 1) := dk_3 (dk_at dksX0_areSo_0 22 rfl rfl)
theorem dX0_areSo_23 : decode cX0_areSo 23 = .ok (.istore_n 3, 1) := dk_62 (dk_at dksX0_areSo_0 23 rfl rfl)
theorem dX0_areSo_24 : decode cX0_areSo 24 = .ok (.iload_n 3, 1) := dk_29 (dk_at dksX0_areSo_1 0 rfl rfl)
theorem dX0_areSo_25 : decode cX0_areSo 25 = .ok (.aload_n 0, 1) := dk_42 (dk_at dksX0_areSo_1 1 rfl rfl)
theorem dX0_areSo_26 : decode cX0_areSo 26 = .ok (.getfield 28, 3) := dk_180 0 28 (dk_at dksX0_areSo_1 2 rfl rfl)
theorem dX0_areSo_29 : decode cX0_areSo 29 = .ok (.invokeinterface 62 1, 5) := by decide +kernel
theorem dX0_areSo_34 : decode cX0_areSo 34 = .ok (.if_icmp .ge 56, 3) := dk_162 0 56 (dk_at dksX0_areSo_1 10 rfl rfl)
theorem dX0_areSo_37 : decode cX0_areSo 37 = .ok (.iload_n 2, 1) := dk_28 (dk_at dksX0_areSo_1 13 rfl rfl)
theorem dX0_areSo_38 : decode cX0_areSo 38 = .ok (.aload_n 0, 1) := dk_42 (dk_at dksX0_areSo_1 14 rfl rfl)
theorem dX0_areSo_39 : decode cX0_areSo 39 = .ok (.aload_n 0, 1) := dk_42 (dk_at dksX0_areSo_1 15 rfl rfl)
theorem dX0_areSo_40 : decode cX0_areSo 40 = .ok (.getfield 28, 3) := dk_180 0 28 (dk_at dksX0_areSo_1 16 rfl rfl)
theorem dX0_areSo_43 : decode cX0_areSo 43 = .ok (.iload_n 3, 1) := dk_29 (dk_at dksX0_areSo_1 19 rfl rfl)
theorem dX0_areSo_44 : decode cX0_areSo 44 = .ok (.invokeinterface 95 2, 5) := by decide +kernel
theorem dX0_areSo_49 : decode cX0_areSo 49 = .ok (.checkcast 182, 3) := dk_192 0 182 (dk_at dksX0_areSo_2 5 rfl rfl)
theorem dX0_areSo_52 : decode cX0_areSo 52 = .ok (.getfield 190, 3) := dk_180 0 190 (dk_at dksX0_areSo_2 8 rfl rfl)
theorem dX0_areSo_55 : decode cX0_areSo 55 = .ok (.invokevirtual 125, 3) := dk_182 0 125 (dk_at dksX0_areSo_2 11 rfl rfl)
theorem dX0_areSo_58 : decode cX0_areSo 58 = .ok (.aload_n 0, 1) := dk_42 (dk_at dksX0_areSo_2 14 rfl rfl)
theorem dX0_areSo_59 : decode cX0_areSo 59 = .ok (.getfield 28, 3) := dk_180 0 28 (dk_at dksX0_areSo_2 15 rfl rfl)
theorem dX0_areSo_62 : decode cX0_areSo 62 = .ok (.iload_n 3, 1) := dk_29 (dk_at dksX0_areSo_2 18 rfl rfl)
theorem dX0_areSo_63 : decode cX0_areSo 63 = .ok (.invokeinterface 95 2, 5) := by decide +kernel
theorem dX0_areSo_68 : decode cX0_areSo 68 = .ok (.checkcast 182, 3) := dk_192 0 182 (dk_at dksX0_areSo_3 0 rfl rfl)
theorem dX0_areSo_71 : decode cX0_areSo 71 = .ok (.getfield 193, 3) := dk_180 0 193 (dk_at dksX0_areSo_3 3 rfl rfl)
theorem dX0_areSo_74 : decode cX0_areSo 74 = .ok (.if_icmp .ne 7, 3) := dk_160 0 7 (dk_at dksX0_areSo_3 6 rfl rfl)
theorem dX0_areSo_77 : decode cX0_areSo 77 = .ok (.iconst 1, 1) := dk_4 (dk_at dksX0_areSo_3 9 rfl rfl)
theorem dX0_areSo_78 : decode cX0_areSo 78 = .ok (.goto 4, 3) := dk_167 0 4 (dk_at dksX0_areSo_3 10 rfl rfl)
theorem dX0_areSo_81 : decode cX0_areSo 81 = .ok (.iconst 0, 1) := dk_3 (dk_at dksX0_areSo_3 13 rfl rfl)
theorem dX0_areSo_82 : decode cX0_areSo 82 = .ok (.iand, 1) := dk_126 (dk_at dksX0_areSo_3 14 rfl rfl)
theorem dX0_areSo_83 : decode cX0_areSo 83 = .ok (.istore_n 2, 1) := dk_61 (dk_at dksX0_areSo_3 15 rfl rfl)
theorem dX0_areSo_84 : decode cX0_areSo 84 = .ok (.iinc 3 1, 3) := dk_132 3 1 (dk_at dksX0_areSo_3 16 rfl rfl)
theorem dX0_areSo_87 : decode cX0_areSo 87 = .ok (.goto (-63), 3) := dk_167 255 193 (dk_at dksX0_areSo_3 19 rfl rfl)
theorem dX0_areSo_90 : decode cX0_areSo 90 = .ok (.aload_n 0, 1) := dk_42 (dk_at dksX0_areSo_3 22 rfl rfl)
theorem dX0_areSo_91 : decode cX0_areSo 91 = .ok (.invokevirtual 172, 3) := dk_182 0 172 (dk_at dksX0_areSo_4 0 rfl rfl)
theorem dX0_areSo_94 : decode cX0_areSo 94 = .ok (.iload_n 2, 1) := dk_28 (dk_at dksX0_areSo_4 3 rfl rfl)
theorem dX0_areSo_95 : decode cX0_areSo 95 = .ok (.ireturn, 1) := dk_172 (dk_at dksX0_areSo_4 4 rfl rfl)
abbrev cX0_kinds : ByteArray := prog_1_method_63_code
def yX0_kinds : MethodName := ⟨RX0, "kinds", "(IIIII)I"⟩
def dkwX0_kinds_2 : List UInt8 := [172]
abbrev dktX0_kinds_2 : List UInt8 := dkwX0_kinds_2 ++ []
def dkwX0_kinds_1 : List UInt8 := [182, 1, 56, 54, 6, 21, 6, 156, 0, 8, 21, 6, 167, 0, 12, 42, 42, 180, 1, 60, 27, 182, 1, 69]
abbrev dktX0_kinds_1 : List UInt8 := dkwX0_kinds_1 ++ dktX0_kinds_2
def dkwX0_kinds_0 : List UInt8 := [42, 27, 182, 0, 112, 153, 0, 9, 42, 2, 182, 0, 227, 172, 42, 28, 29, 21, 4, 21, 5, 4]
abbrev dktX0_kinds_0 : List UInt8 := dkwX0_kinds_0 ++ dktX0_kinds_1
theorem dksX0_kinds_0 : cX0_kinds.data.toList.drop 0 = dktX0_kinds_0 := by decide +kernel
theorem dksX0_kinds_1 : cX0_kinds.data.toList.drop 22 = dktX0_kinds_1 := dk_seg dksX0_kinds_0 22 rfl rfl
theorem dksX0_kinds_2 : cX0_kinds.data.toList.drop 46 = dktX0_kinds_2 := dk_seg dksX0_kinds_1 24 rfl rfl
theorem dX0_kinds_0 : decode cX0_kinds 0 = .ok (.aload_n 0, 1) := dk_42 (dk_at dksX0_kinds_0 0 rfl rfl)
theorem dX0_kinds_1 : decode cX0_kinds 1 = .ok (.iload_n 1, 1) := dk_27 (dk_at dksX0_kinds_0 1 rfl rfl)
theorem dX0_kinds_2 : decode cX0_kinds 2 = .ok (.invokevirtual 112, 3) := dk_182 0 112 (dk_at dksX0_kinds_0 2 rfl rfl)
theorem dX0_kinds_5 : decode cX0_kinds 5 = .ok (.ifCond .eq 9, 3) := dk_153 0 9 (dk_at dksX0_kinds_0 5 rfl rfl)
theorem dX0_kinds_8 : decode cX0_kinds 8 = .ok (.aload_n 0, 1) := dk_42 (dk_at dksX0_kinds_0 8 rfl rfl)
theorem dX0_kinds_9 : decode cX0_kinds 9 = .ok (.iconst (-1), 1) := dk_2 (dk_at dksX0_kinds_0 9 rfl rfl)
theorem dX0_kinds_10 : decode cX0_kinds 10 = .ok (.invokevirtual 227, 3) := dk_182 0 227 (dk_at dksX0_kinds_0 10 rfl rfl)
theorem dX0_kinds_13 : decode cX0_kinds 13 = .ok (.ireturn, 1) := dk_172 (dk_at dksX0_kinds_0 13 rfl rfl)
theorem dX0_kinds_14 : decode cX0_kinds 14 = .ok (.aload_n 0, 1) := dk_42 (dk_at dksX0_kinds_0 14 rfl rfl)
theorem dX0_kinds_15 : decode cX0_kinds 15 = .ok (.iload_n 2, 1) := dk_28 (dk_at dksX0_kinds_0 15 rfl rfl)
theorem dX0_kinds_16 : decode cX0_kinds 16 = .ok (.iload_n 3, 1) := dk_29 (dk_at dksX0_kinds_0 16 rfl rfl)
theorem dX0_kinds_17 : decode cX0_kinds 17 = .ok (.iload 4, 2) := dk_21 4 (dk_at dksX0_kinds_0 17 rfl rfl)
theorem dX0_kinds_19 : decode cX0_kinds 19 = .ok (.iload 5, 2) := dk_21 5 (dk_at dksX0_kinds_0 19 rfl rfl)
theorem dX0_kinds_21 : decode cX0_kinds 21 = .ok (.iconst 1, 1) := dk_4 (dk_at dksX0_kinds_0 21 rfl rfl)
theorem dX0_kinds_22 : decode cX0_kinds 22 = .ok (.invokevirtual 312, 3) := dk_182 1 56 (dk_at dksX0_kinds_1 0 rfl rfl)
theorem dX0_kinds_25 : decode cX0_kinds 25 = .ok (.istore 6, 2) := dk_54 6 (dk_at dksX0_kinds_1 3 rfl rfl)
theorem dX0_kinds_27 : decode cX0_kinds 27 = .ok (.iload 6, 2) := dk_21 6 (dk_at dksX0_kinds_1 5 rfl rfl)
theorem dX0_kinds_29 : decode cX0_kinds 29 = .ok (.ifCond .ge 8, 3) := dk_156 0 8 (dk_at dksX0_kinds_1 7 rfl rfl)
theorem dX0_kinds_32 : decode cX0_kinds 32 = .ok (.iload 6, 2) := dk_21 6 (dk_at dksX0_kinds_1 10 rfl rfl)
theorem dX0_kinds_34 : decode cX0_kinds 34 = .ok (.goto 12, 3) := dk_167 0 12 (dk_at dksX0_kinds_1 12 rfl rfl)
theorem dX0_kinds_37 : decode cX0_kinds 37 = .ok (.aload_n 0, 1) := dk_42 (dk_at dksX0_kinds_1 15 rfl rfl)
theorem dX0_kinds_38 : decode cX0_kinds 38 = .ok (.aload_n 0, 1) := dk_42 (dk_at dksX0_kinds_1 16 rfl rfl)
theorem dX0_kinds_39 : decode cX0_kinds 39 = .ok (.getfield 316, 3) := dk_180 1 60 (dk_at dksX0_kinds_1 17 rfl rfl)
theorem dX0_kinds_42 : decode cX0_kinds 42 = .ok (.iload_n 1, 1) := dk_27 (dk_at dksX0_kinds_1 20 rfl rfl)
theorem dX0_kinds_43 : decode cX0_kinds 43 = .ok (.invokevirtual 325, 3) := dk_182 1 69 (dk_at dksX0_kinds_1 21 rfl rfl)
theorem dX0_kinds_46 : decode cX0_kinds 46 = .ok (.ireturn, 1) := dk_172 (dk_at dksX0_kinds_2 0 rfl rfl)
abbrev cX0_kindsBy : ByteArray := prog_1_method_39_code
def yX0_kindsBy : MethodName := ⟨RX0, "kindsBy", "([II)I"⟩
def dkwX0_kindsBy_3 : List UInt8 := [128, 54, 4, 132, 5, 1, 167, 255, 200, 42, 180, 0, 18, 28, 45, 185, 0, 200, 3, 0, 87, 21, 4, 172]
abbrev dktX0_kindsBy_3 : List UInt8 := dkwX0_kindsBy_3 ++ []
def dkwX0_kindsBy_2 : List UInt8 := [185, 0, 200, 3, 0, 87, 21, 4, 42, 43, 182, 0, 196, 153, 0, 10, 4, 21, 5, 120, 167, 0, 4, 3]
abbrev dktX0_kindsBy_2 : List UInt8 := dkwX0_kindsBy_2 ++ dktX0_kindsBy_3
def dkwX0_kindsBy_1 : List UInt8 := [162, 0, 56, 42, 180, 0, 18, 28, 42, 21, 5, 28, 45, 180, 0, 99, 45, 180, 0, 122, 182, 0, 80]
abbrev dktX0_kindsBy_1 : List UInt8 := dkwX0_kindsBy_1 ++ dktX0_kindsBy_2
def dkwX0_kindsBy_0 : List UInt8 := [42, 180, 0, 18, 28, 185, 0, 95, 2, 0, 192, 0, 37, 78, 3, 54, 4, 3, 54, 5, 21, 5, 6]
abbrev dktX0_kindsBy_0 : List UInt8 := dkwX0_kindsBy_0 ++ dktX0_kindsBy_1
theorem dksX0_kindsBy_0 : cX0_kindsBy.data.toList.drop 0 = dktX0_kindsBy_0 := by decide +kernel
theorem dksX0_kindsBy_1 : cX0_kindsBy.data.toList.drop 23 = dktX0_kindsBy_1 := dk_seg dksX0_kindsBy_0 23 rfl rfl
theorem dksX0_kindsBy_2 : cX0_kindsBy.data.toList.drop 46 = dktX0_kindsBy_2 := dk_seg dksX0_kindsBy_1 23 rfl rfl
theorem dksX0_kindsBy_3 : cX0_kindsBy.data.toList.drop 70 = dktX0_kindsBy_3 := dk_seg dksX0_kindsBy_2 24 rfl rfl
theorem dX0_kindsBy_0 : decode cX0_kindsBy 0 = .ok (.aload_n 0, 1) := dk_42 (dk_at dksX0_kindsBy_0 0 rfl rfl)
theorem dX0_kindsBy_1 : decode cX0_kindsBy 1 = .ok (.getfield 18, 3) := dk_180 0 18 (dk_at dksX0_kindsBy_0 1 rfl rfl)
theorem dX0_kindsBy_4 : decode cX0_kindsBy 4 = .ok (.iload_n 2, 1) := dk_28 (dk_at dksX0_kindsBy_0 4 rfl rfl)
theorem dX0_kindsBy_5 : decode cX0_kindsBy 5 = .ok (.invokeinterface 95 2, 5) := by decide +kernel
theorem dX0_kindsBy_10 : decode cX0_kindsBy 10 = .ok (.checkcast 37, 3) := dk_192 0 37 (dk_at dksX0_kindsBy_0 10 rfl rfl)
theorem dX0_kindsBy_13 : decode cX0_kindsBy 13 = .ok (.astore_n 3, 1) := dk_78 (dk_at dksX0_kindsBy_0 13 rfl rfl)
theorem dX0_kindsBy_14 : decode cX0_kindsBy 14 = .ok (.iconst 0, 1) := dk_3 (dk_at dksX0_kindsBy_0 14 rfl rfl)
theorem dX0_kindsBy_15 : decode cX0_kindsBy 15 = .ok (.istore 4, 2) := dk_54 4 (dk_at dksX0_kindsBy_0 15 rfl rfl)
theorem dX0_kindsBy_17 : decode cX0_kindsBy 17 = .ok (.iconst 0, 1) := dk_3 (dk_at dksX0_kindsBy_0 17 rfl rfl)
theorem dX0_kindsBy_18 : decode cX0_kindsBy 18 = .ok (.istore 5, 2) := dk_54 5 (dk_at dksX0_kindsBy_0 18 rfl rfl)
theorem dX0_kindsBy_20 : decode cX0_kindsBy 20 = .ok (.iload 5, 2) := dk_21 5 (dk_at dksX0_kindsBy_0 20 rfl rfl)
theorem dX0_kindsBy_22 : decode cX0_kindsBy 22 = .ok (.iconst 3, 1) := dk_6 (dk_at dksX0_kindsBy_0 22 rfl rfl)
theorem dX0_kindsBy_23 : decode cX0_kindsBy 23 = .ok (.if_icmp .ge 56, 3) := dk_162 0 56 (dk_at dksX0_kindsBy_1 0 rfl rfl)
theorem dX0_kindsBy_26 : decode cX0_kindsBy 26 = .ok (.aload_n 0, 1) := dk_42 (dk_at dksX0_kindsBy_1 3 rfl rfl)
theorem dX0_kindsBy_27 : decode cX0_kindsBy 27 = .ok (.getfield 18, 3) := dk_180 0 18 (dk_at dksX0_kindsBy_1 4 rfl rfl)
theorem dX0_kindsBy_30 : decode cX0_kindsBy 30 = .ok (.iload_n 2, 1) := dk_28 (dk_at dksX0_kindsBy_1 7 rfl rfl)
theorem dX0_kindsBy_31 : decode cX0_kindsBy 31 = .ok (.aload_n 0, 1) := dk_42 (dk_at dksX0_kindsBy_1 8 rfl rfl)
theorem dX0_kindsBy_32 : decode cX0_kindsBy 32 = .ok (.iload 5, 2) := dk_21 5 (dk_at dksX0_kindsBy_1 9 rfl rfl)
theorem dX0_kindsBy_34 : decode cX0_kindsBy 34 = .ok (.iload_n 2, 1) := dk_28 (dk_at dksX0_kindsBy_1 11 rfl rfl)
theorem dX0_kindsBy_35 : decode cX0_kindsBy 35 = .ok (.aload_n 3, 1) := dk_45 (dk_at dksX0_kindsBy_1 12 rfl rfl)
theorem dX0_kindsBy_36 : decode cX0_kindsBy 36 = .ok (.getfield 99, 3) := dk_180 0 99 (dk_at dksX0_kindsBy_1 13 rfl rfl)
theorem dX0_kindsBy_39 : decode cX0_kindsBy 39 = .ok (.aload_n 3, 1) := dk_45 (dk_at dksX0_kindsBy_1 16 rfl rfl)
theorem dX0_kindsBy_40 : decode cX0_kindsBy 40 = .ok (.getfield 122, 3) := dk_180 0 122 (dk_at dksX0_kindsBy_1 17 rfl rfl)
theorem dX0_kindsBy_43 : decode cX0_kindsBy 43 = .ok (.invokevirtual 80, 3) := dk_182 0 80 (dk_at dksX0_kindsBy_1 20 rfl rfl)
theorem dX0_kindsBy_46 : decode cX0_kindsBy 46 = .ok (.invokeinterface 200 3, 5) := by decide +kernel
theorem dX0_kindsBy_51 : decode cX0_kindsBy 51 = .ok (.pop, 1) := dk_87 (dk_at dksX0_kindsBy_2 5 rfl rfl)
theorem dX0_kindsBy_52 : decode cX0_kindsBy 52 = .ok (.iload 4, 2) := dk_21 4 (dk_at dksX0_kindsBy_2 6 rfl rfl)
theorem dX0_kindsBy_54 : decode cX0_kindsBy 54 = .ok (.aload_n 0, 1) := dk_42 (dk_at dksX0_kindsBy_2 8 rfl rfl)
theorem dX0_kindsBy_55 : decode cX0_kindsBy 55 = .ok (.aload_n 1, 1) := dk_43 (dk_at dksX0_kindsBy_2 9 rfl rfl)
theorem dX0_kindsBy_56 : decode cX0_kindsBy 56 = .ok (.invokevirtual 196, 3) := dk_182 0 196 (dk_at dksX0_kindsBy_2 10 rfl rfl)
theorem dX0_kindsBy_59 : decode cX0_kindsBy 59 = .ok (.ifCond .eq 10, 3) := dk_153 0 10 (dk_at dksX0_kindsBy_2 13 rfl rfl)
theorem dX0_kindsBy_62 : decode cX0_kindsBy 62 = .ok (.iconst 1, 1) := dk_4 (dk_at dksX0_kindsBy_2 16 rfl rfl)
theorem dX0_kindsBy_63 : decode cX0_kindsBy 63 = .ok (.iload 5, 2) := dk_21 5 (dk_at dksX0_kindsBy_2 17 rfl rfl)
theorem dX0_kindsBy_65 : decode cX0_kindsBy 65 = .ok (.ishl, 1) := dk_120 (dk_at dksX0_kindsBy_2 19 rfl rfl)
theorem dX0_kindsBy_66 : decode cX0_kindsBy 66 = .ok (.goto 4, 3) := dk_167 0 4 (dk_at dksX0_kindsBy_2 20 rfl rfl)
theorem dX0_kindsBy_69 : decode cX0_kindsBy 69 = .ok (.iconst 0, 1) := dk_3 (dk_at dksX0_kindsBy_2 23 rfl rfl)
theorem dX0_kindsBy_70 : decode cX0_kindsBy 70 = .ok (.ior, 1) := dk_128 (dk_at dksX0_kindsBy_3 0 rfl rfl)
theorem dX0_kindsBy_71 : decode cX0_kindsBy 71 = .ok (.istore 4, 2) := dk_54 4 (dk_at dksX0_kindsBy_3 1 rfl rfl)
theorem dX0_kindsBy_73 : decode cX0_kindsBy 73 = .ok (.iinc 5 1, 3) := dk_132 5 1 (dk_at dksX0_kindsBy_3 3 rfl rfl)
theorem dX0_kindsBy_76 : decode cX0_kindsBy 76 = .ok (.goto (-56), 3) := dk_167 255 200 (dk_at dksX0_kindsBy_3 6 rfl rfl)
theorem dX0_kindsBy_79 : decode cX0_kindsBy 79 = .ok (.aload_n 0, 1) := dk_42 (dk_at dksX0_kindsBy_3 9 rfl rfl)
theorem dX0_kindsBy_80 : decode cX0_kindsBy 80 = .ok (.getfield 18, 3) := dk_180 0 18 (dk_at dksX0_kindsBy_3 10 rfl rfl)
theorem dX0_kindsBy_83 : decode cX0_kindsBy 83 = .ok (.iload_n 2, 1) := dk_28 (dk_at dksX0_kindsBy_3 13 rfl rfl)
theorem dX0_kindsBy_84 : decode cX0_kindsBy 84 = .ok (.aload_n 3, 1) := dk_45 (dk_at dksX0_kindsBy_3 14 rfl rfl)
theorem dX0_kindsBy_85 : decode cX0_kindsBy 85 = .ok (.invokeinterface 200 3, 5) := by decide +kernel
theorem dX0_kindsBy_90 : decode cX0_kindsBy 90 = .ok (.pop, 1) := dk_87 (dk_at dksX0_kindsBy_3 20 rfl rfl)
theorem dX0_kindsBy_91 : decode cX0_kindsBy 91 = .ok (.iload 4, 2) := dk_21 4 (dk_at dksX0_kindsBy_3 21 rfl rfl)
theorem dX0_kindsBy_93 : decode cX0_kindsBy 93 = .ok (.ireturn, 1) := dk_172 (dk_at dksX0_kindsBy_3 23 rfl rfl)
abbrev cX0_knew : ByteArray := prog_1_method_64_code
def yX0_knew : MethodName := ⟨RX0, "knew", "(IIIII)I"⟩
def dkwX0_knew_2 : List UInt8 := [172]
abbrev dktX0_knew_2 : List UInt8 := dkwX0_knew_2 ++ []
def dkwX0_knew_1 : List UInt8 := [182, 1, 56, 54, 6, 21, 6, 156, 0, 8, 21, 6, 167, 0, 12, 42, 42, 180, 1, 60, 27, 182, 1, 72]
abbrev dktX0_knew_1 : List UInt8 := dkwX0_knew_1 ++ dktX0_knew_2
def dkwX0_knew_0 : List UInt8 := [42, 27, 182, 0, 112, 153, 0, 9, 42, 2, 182, 0, 227, 172, 42, 28, 29, 21, 4, 21, 5, 4]
abbrev dktX0_knew_0 : List UInt8 := dkwX0_knew_0 ++ dktX0_knew_1
theorem dksX0_knew_0 : cX0_knew.data.toList.drop 0 = dktX0_knew_0 := by decide +kernel
theorem dksX0_knew_1 : cX0_knew.data.toList.drop 22 = dktX0_knew_1 := dk_seg dksX0_knew_0 22 rfl rfl
theorem dksX0_knew_2 : cX0_knew.data.toList.drop 46 = dktX0_knew_2 := dk_seg dksX0_knew_1 24 rfl rfl
theorem dX0_knew_0 : decode cX0_knew 0 = .ok (.aload_n 0, 1) := dk_42 (dk_at dksX0_knew_0 0 rfl rfl)
theorem dX0_knew_1 : decode cX0_knew 1 = .ok (.iload_n 1, 1) := dk_27 (dk_at dksX0_knew_0 1 rfl rfl)
theorem dX0_knew_2 : decode cX0_knew 2 = .ok (.invokevirtual 112, 3) := dk_182 0 112 (dk_at dksX0_knew_0 2 rfl rfl)
theorem dX0_knew_5 : decode cX0_knew 5 = .ok (.ifCond .eq 9, 3) := dk_153 0 9 (dk_at dksX0_knew_0 5 rfl rfl)
theorem dX0_knew_8 : decode cX0_knew 8 = .ok (.aload_n 0, 1) := dk_42 (dk_at dksX0_knew_0 8 rfl rfl)
theorem dX0_knew_9 : decode cX0_knew 9 = .ok (.iconst (-1), 1) := dk_2 (dk_at dksX0_knew_0 9 rfl rfl)
theorem dX0_knew_10 : decode cX0_knew 10 = .ok (.invokevirtual 227, 3) := dk_182 0 227 (dk_at dksX0_knew_0 10 rfl rfl)
theorem dX0_knew_13 : decode cX0_knew 13 = .ok (.ireturn, 1) := dk_172 (dk_at dksX0_knew_0 13 rfl rfl)
theorem dX0_knew_14 : decode cX0_knew 14 = .ok (.aload_n 0, 1) := dk_42 (dk_at dksX0_knew_0 14 rfl rfl)
theorem dX0_knew_15 : decode cX0_knew 15 = .ok (.iload_n 2, 1) := dk_28 (dk_at dksX0_knew_0 15 rfl rfl)
theorem dX0_knew_16 : decode cX0_knew 16 = .ok (.iload_n 3, 1) := dk_29 (dk_at dksX0_knew_0 16 rfl rfl)
theorem dX0_knew_17 : decode cX0_knew 17 = .ok (.iload 4, 2) := dk_21 4 (dk_at dksX0_knew_0 17 rfl rfl)
theorem dX0_knew_19 : decode cX0_knew 19 = .ok (.iload 5, 2) := dk_21 5 (dk_at dksX0_knew_0 19 rfl rfl)
theorem dX0_knew_21 : decode cX0_knew 21 = .ok (.iconst 1, 1) := dk_4 (dk_at dksX0_knew_0 21 rfl rfl)
theorem dX0_knew_22 : decode cX0_knew 22 = .ok (.invokevirtual 312, 3) := dk_182 1 56 (dk_at dksX0_knew_1 0 rfl rfl)
theorem dX0_knew_25 : decode cX0_knew 25 = .ok (.istore 6, 2) := dk_54 6 (dk_at dksX0_knew_1 3 rfl rfl)
theorem dX0_knew_27 : decode cX0_knew 27 = .ok (.iload 6, 2) := dk_21 6 (dk_at dksX0_knew_1 5 rfl rfl)
theorem dX0_knew_29 : decode cX0_knew 29 = .ok (.ifCond .ge 8, 3) := dk_156 0 8 (dk_at dksX0_knew_1 7 rfl rfl)
theorem dX0_knew_32 : decode cX0_knew 32 = .ok (.iload 6, 2) := dk_21 6 (dk_at dksX0_knew_1 10 rfl rfl)
theorem dX0_knew_34 : decode cX0_knew 34 = .ok (.goto 12, 3) := dk_167 0 12 (dk_at dksX0_knew_1 12 rfl rfl)
theorem dX0_knew_37 : decode cX0_knew 37 = .ok (.aload_n 0, 1) := dk_42 (dk_at dksX0_knew_1 15 rfl rfl)
theorem dX0_knew_38 : decode cX0_knew 38 = .ok (.aload_n 0, 1) := dk_42 (dk_at dksX0_knew_1 16 rfl rfl)
theorem dX0_knew_39 : decode cX0_knew 39 = .ok (.getfield 316, 3) := dk_180 1 60 (dk_at dksX0_knew_1 17 rfl rfl)
theorem dX0_knew_42 : decode cX0_knew 42 = .ok (.iload_n 1, 1) := dk_27 (dk_at dksX0_knew_1 20 rfl rfl)
theorem dX0_knew_43 : decode cX0_knew 43 = .ok (.invokevirtual 328, 3) := dk_182 1 72 (dk_at dksX0_knew_1 21 rfl rfl)
theorem dX0_knew_46 : decode cX0_knew 46 = .ok (.ireturn, 1) := dk_172 (dk_at dksX0_knew_2 0 rfl rfl)
abbrev cX0_knewBy : ByteArray := prog_1_method_40_code
def yX0_knewBy : MethodName := ⟨RX0, "knewBy", "([II)I"⟩
def dkwX0_knewBy_3 : List UInt8 := [21, 5, 172]
abbrev dktX0_knewBy_3 : List UInt8 := dkwX0_knewBy_3 ++ []
def dkwX0_knewBy_2 : List UInt8 := [4, 21, 6, 120, 167, 0, 4, 3, 128, 54, 5, 132, 6, 1, 167, 255, 220, 45, 21, 4, 181, 0, 122]
abbrev dktX0_knewBy_2 : List UInt8 := dkwX0_knewBy_2 ++ dktX0_knewBy_3
def dkwX0_knewBy_1 : List UInt8 := [54, 6, 21, 6, 7, 163, 0, 36, 45, 21, 6, 181, 0, 122, 21, 5, 42, 43, 182, 0, 196, 153, 0, 10]
abbrev dktX0_knewBy_1 : List UInt8 := dkwX0_knewBy_1 ++ dktX0_knewBy_2
def dkwX0_knewBy_0 : List UInt8 := [42, 180, 0, 18, 28, 185, 0, 95, 2, 0, 192, 0, 37, 78, 45, 180, 0, 122, 54, 4, 3, 54, 5, 3]
abbrev dktX0_knewBy_0 : List UInt8 := dkwX0_knewBy_0 ++ dktX0_knewBy_1
theorem dksX0_knewBy_0 : cX0_knewBy.data.toList.drop 0 = dktX0_knewBy_0 := by decide +kernel
theorem dksX0_knewBy_1 : cX0_knewBy.data.toList.drop 24 = dktX0_knewBy_1 := dk_seg dksX0_knewBy_0 24 rfl rfl
theorem dksX0_knewBy_2 : cX0_knewBy.data.toList.drop 48 = dktX0_knewBy_2 := dk_seg dksX0_knewBy_1 24 rfl rfl
theorem dksX0_knewBy_3 : cX0_knewBy.data.toList.drop 71 = dktX0_knewBy_3 := dk_seg dksX0_knewBy_2 23 rfl rfl
theorem dX0_knewBy_0 : decode cX0_knewBy 0 = .ok (.aload_n 0, 1) := dk_42 (dk_at dksX0_knewBy_0 0 rfl rfl)
theorem dX0_knewBy_1 : decode cX0_knewBy 1 = .ok (.getfield 18, 3) := dk_180 0 18 (dk_at dksX0_knewBy_0 1 rfl rfl)
theorem dX0_knewBy_4 : decode cX0_knewBy 4 = .ok (.iload_n 2, 1) := dk_28 (dk_at dksX0_knewBy_0 4 rfl rfl)
theorem dX0_knewBy_5 : decode cX0_knewBy 5 = .ok (.invokeinterface 95 2, 5) := by decide +kernel
theorem dX0_knewBy_10 : decode cX0_knewBy 10 = .ok (.checkcast 37, 3) := dk_192 0 37 (dk_at dksX0_knewBy_0 10 rfl rfl)
theorem dX0_knewBy_13 : decode cX0_knewBy 13 = .ok (.astore_n 3, 1) := dk_78 (dk_at dksX0_knewBy_0 13 rfl rfl)
theorem dX0_knewBy_14 : decode cX0_knewBy 14 = .ok (.aload_n 3, 1) := dk_45 (dk_at dksX0_knewBy_0 14 rfl rfl)
theorem dX0_knewBy_15 : decode cX0_knewBy 15 = .ok (.getfield 122, 3) := dk_180 0 122 (dk_at dksX0_knewBy_0 15 rfl rfl)
theorem dX0_knewBy_18 : decode cX0_knewBy 18 = .ok (.istore 4, 2) := dk_54 4 (dk_at dksX0_knewBy_0 18 rfl rfl)
theorem dX0_knewBy_20 : decode cX0_knewBy 20 = .ok (.iconst 0, 1) := dk_3 (dk_at dksX0_knewBy_0 20 rfl rfl)
theorem dX0_knewBy_21 : decode cX0_knewBy 21 = .ok (.istore 5, 2) := dk_54 5 (dk_at dksX0_knewBy_0 21 rfl rfl)
theorem dX0_knewBy_23 : decode cX0_knewBy 23 = .ok (.iconst 0, 1) := dk_3 (dk_at dksX0_knewBy_0 23 rfl rfl)
theorem dX0_knewBy_24 : decode cX0_knewBy 24 = .ok (.istore 6, 2) := dk_54 6 (dk_at dksX0_knewBy_1 0 rfl rfl)
theorem dX0_knewBy_26 : decode cX0_knewBy 26 = .ok (.iload 6, 2) := dk_21 6 (dk_at dksX0_knewBy_1 2 rfl rfl)
theorem dX0_knewBy_28 : decode cX0_knewBy 28 = .ok (.iconst 4, 1) := dk_7 (dk_at dksX0_knewBy_1 4 rfl rfl)
theorem dX0_knewBy_29 : decode cX0_knewBy 29 = .ok (.if_icmp .gt 36, 3) := dk_163 0 36 (dk_at dksX0_knewBy_1 5 rfl rfl)
theorem dX0_knewBy_32 : decode cX0_knewBy 32 = .ok (.aload_n 3, 1) := dk_45 (dk_at dksX0_knewBy_1 8 rfl rfl)
theorem dX0_knewBy_33 : decode cX0_knewBy 33 = .ok (.iload 6, 2) := dk_21 6 (dk_at dksX0_knewBy_1 9 rfl rfl)
theorem dX0_knewBy_35 : decode cX0_knewBy 35 = .ok (.putfield 122, 3) := dk_181 0 122 (dk_at dksX0_knewBy_1 11 rfl rfl)
theorem dX0_knewBy_38 : decode cX0_knewBy 38 = .ok (.iload 5, 2) := dk_21 5 (dk_at dksX0_knewBy_1 14 rfl rfl)
theorem dX0_knewBy_40 : decode cX0_knewBy 40 = .ok (.aload_n 0, 1) := dk_42 (dk_at dksX0_knewBy_1 16 rfl rfl)
theorem dX0_knewBy_41 : decode cX0_knewBy 41 = .ok (.aload_n 1, 1) := dk_43 (dk_at dksX0_knewBy_1 17 rfl rfl)
theorem dX0_knewBy_42 : decode cX0_knewBy 42 = .ok (.invokevirtual 196, 3) := dk_182 0 196 (dk_at dksX0_knewBy_1 18 rfl rfl)
theorem dX0_knewBy_45 : decode cX0_knewBy 45 = .ok (.ifCond .eq 10, 3) := dk_153 0 10 (dk_at dksX0_knewBy_1 21 rfl rfl)
theorem dX0_knewBy_48 : decode cX0_knewBy 48 = .ok (.iconst 1, 1) := dk_4 (dk_at dksX0_knewBy_2 0 rfl rfl)
theorem dX0_knewBy_49 : decode cX0_knewBy 49 = .ok (.iload 6, 2) := dk_21 6 (dk_at dksX0_knewBy_2 1 rfl rfl)
theorem dX0_knewBy_51 : decode cX0_knewBy 51 = .ok (.ishl, 1) := dk_120 (dk_at dksX0_knewBy_2 3 rfl rfl)
theorem dX0_knewBy_52 : decode cX0_knewBy 52 = .ok (.goto 4, 3) := dk_167 0 4 (dk_at dksX0_knewBy_2 4 rfl rfl)
theorem dX0_knewBy_55 : decode cX0_knewBy 55 = .ok (.iconst 0, 1) := dk_3 (dk_at dksX0_knewBy_2 7 rfl rfl)
theorem dX0_knewBy_56 : decode cX0_knewBy 56 = .ok (.ior, 1) := dk_128 (dk_at dksX0_knewBy_2 8 rfl rfl)
theorem dX0_knewBy_57 : decode cX0_knewBy 57 = .ok (.istore 5, 2) := dk_54 5 (dk_at dksX0_knewBy_2 9 rfl rfl)
theorem dX0_knewBy_59 : decode cX0_knewBy 59 = .ok (.iinc 6 1, 3) := dk_132 6 1 (dk_at dksX0_knewBy_2 11 rfl rfl)
theorem dX0_knewBy_62 : decode cX0_knewBy 62 = .ok (.goto (-36), 3) := dk_167 255 220 (dk_at dksX0_knewBy_2 14 rfl rfl)
theorem dX0_knewBy_65 : decode cX0_knewBy 65 = .ok (.aload_n 3, 1) := dk_45 (dk_at dksX0_knewBy_2 17 rfl rfl)
theorem dX0_knewBy_66 : decode cX0_knewBy 66 = .ok (.iload 4, 2) := dk_21 4 (dk_at dksX0_knewBy_2 18 rfl rfl)
theorem dX0_knewBy_68 : decode cX0_knewBy 68 = .ok (.putfield 122, 3) := dk_181 0 122 (dk_at dksX0_knewBy_2 20 rfl rfl)
theorem dX0_knewBy_71 : decode cX0_knewBy 71 = .ok (.iload 5, 2) := dk_21 5 (dk_at dksX0_knewBy_3 0 rfl rfl)
theorem dX0_knewBy_73 : decode cX0_knewBy 73 = .ok (.ireturn, 1) := dk_172 (dk_at dksX0_knewBy_3 2 rfl rfl)
abbrev cX0_copy : ByteArray := prog_1_method_65_code
def yX0_copy : MethodName := ⟨RX0, "copy", "(IIIII)I"⟩
def dkwX0_copy_1 : List UInt8 := [187, 1, 75, 89, 42, 27, 28, 29, 21, 4, 21, 5, 183, 1, 77, 182, 1, 80, 172]
abbrev dktX0_copy_1 : List UInt8 := dkwX0_copy_1 ++ []
def dkwX0_copy_0 : List UInt8 := [27, 184, 0, 224, 154, 0, 10, 29, 184, 0, 224, 153, 0, 11, 42, 2, 182, 0, 227, 167, 0, 21]
abbrev dktX0_copy_0 : List UInt8 := dkwX0_copy_0 ++ dktX0_copy_1
theorem dksX0_copy_0 : cX0_copy.data.toList.drop 0 = dktX0_copy_0 := by decide +kernel
theorem dksX0_copy_1 : cX0_copy.data.toList.drop 22 = dktX0_copy_1 := dk_seg dksX0_copy_0 22 rfl rfl
theorem dX0_copy_0 : decode cX0_copy 0 = .ok (.iload_n 1, 1) := dk_27 (dk_at dksX0_copy_0 0 rfl rfl)
theorem dX0_copy_1 : decode cX0_copy 1 = .ok (.invokestatic 224, 3) := dk_184 0 224 (dk_at dksX0_copy_0 1 rfl rfl)
theorem dX0_copy_4 : decode cX0_copy 4 = .ok (.ifCond .ne 10, 3) := dk_154 0 10 (dk_at dksX0_copy_0 4 rfl rfl)
theorem dX0_copy_7 : decode cX0_copy 7 = .ok (.iload_n 3, 1) := dk_29 (dk_at dksX0_copy_0 7 rfl rfl)
theorem dX0_copy_8 : decode cX0_copy 8 = .ok (.invokestatic 224, 3) := dk_184 0 224 (dk_at dksX0_copy_0 8 rfl rfl)
theorem dX0_copy_11 : decode cX0_copy 11 = .ok (.ifCond .eq 11, 3) := dk_153 0 11 (dk_at dksX0_copy_0 11 rfl rfl)
theorem dX0_copy_14 : decode cX0_copy 14 = .ok (.aload_n 0, 1) := dk_42 (dk_at dksX0_copy_0 14 rfl rfl)
theorem dX0_copy_15 : decode cX0_copy 15 = .ok (.iconst (-1), 1) := dk_2 (dk_at dksX0_copy_0 15 rfl rfl)
theorem dX0_copy_16 : decode cX0_copy 16 = .ok (.invokevirtual 227, 3) := dk_182 0 227 (dk_at dksX0_copy_0 16 rfl rfl)
theorem dX0_copy_19 : decode cX0_copy 19 = .ok (.goto 21, 3) := dk_167 0 21 (dk_at dksX0_copy_0 19 rfl rfl)
theorem dX0_copy_22 : decode cX0_copy 22 = .ok (.new 331, 3) := dk_187 1 75 (dk_at dksX0_copy_1 0 rfl rfl)
theorem dX0_copy_25 : decode cX0_copy 25 = .ok (.dup, 1) := dk_89 (dk_at dksX0_copy_1 3 rfl rfl)
theorem dX0_copy_26 : decode cX0_copy 26 = .ok (.aload_n 0, 1) := dk_42 (dk_at dksX0_copy_1 4 rfl rfl)
theorem dX0_copy_27 : decode cX0_copy 27 = .ok (.iload_n 1, 1) := dk_27 (dk_at dksX0_copy_1 5 rfl rfl)
theorem dX0_copy_28 : decode cX0_copy 28 = .ok (.iload_n 2, 1) := dk_28 (dk_at dksX0_copy_1 6 rfl rfl)
theorem dX0_copy_29 : decode cX0_copy 29 = .ok (.iload_n 3, 1) := dk_29 (dk_at dksX0_copy_1 7 rfl rfl)
theorem dX0_copy_30 : decode cX0_copy 30 = .ok (.iload 4, 2) := dk_21 4 (dk_at dksX0_copy_1 8 rfl rfl)
theorem dX0_copy_32 : decode cX0_copy 32 = .ok (.iload 5, 2) := dk_21 5 (dk_at dksX0_copy_1 10 rfl rfl)
theorem dX0_copy_34 : decode cX0_copy 34 = .ok (.invokespecial 333, 3) := dk_183 1 77 (dk_at dksX0_copy_1 12 rfl rfl)
theorem dX0_copy_37 : decode cX0_copy 37 = .ok (.invokevirtual 336, 3) := dk_182 1 80 (dk_at dksX0_copy_1 15 rfl rfl)
theorem dX0_copy_40 : decode cX0_copy 40 = .ok (.ireturn, 1) := dk_172 (dk_at dksX0_copy_1 18 rfl rfl)
abbrev cX0_tell : ByteArray := prog_1_method_66_code
def yX0_tell : MethodName := ⟨RX0, "tell", "(I)I"⟩
def dkwX0_tell_1 : List UInt8 := [192, 0, 37, 182, 1, 81, 172]
abbrev dktX0_tell_1 : List UInt8 := dkwX0_tell_1 ++ []
def dkwX0_tell_0 : List UInt8 := [42, 27, 182, 0, 112, 153, 0, 7, 2, 167, 0, 19, 42, 180, 0, 18, 27, 185, 0, 95, 2, 0]
abbrev dktX0_tell_0 : List UInt8 := dkwX0_tell_0 ++ dktX0_tell_1
theorem dksX0_tell_0 : cX0_tell.data.toList.drop 0 = dktX0_tell_0 := by decide +kernel
theorem dksX0_tell_1 : cX0_tell.data.toList.drop 22 = dktX0_tell_1 := dk_seg dksX0_tell_0 22 rfl rfl
theorem dX0_tell_0 : decode cX0_tell 0 = .ok (.aload_n 0, 1) := dk_42 (dk_at dksX0_tell_0 0 rfl rfl)
theorem dX0_tell_1 : decode cX0_tell 1 = .ok (.iload_n 1, 1) := dk_27 (dk_at dksX0_tell_0 1 rfl rfl)
theorem dX0_tell_2 : decode cX0_tell 2 = .ok (.invokevirtual 112, 3) := dk_182 0 112 (dk_at dksX0_tell_0 2 rfl rfl)
theorem dX0_tell_5 : decode cX0_tell 5 = .ok (.ifCond .eq 7, 3) := dk_153 0 7 (dk_at dksX0_tell_0 5 rfl rfl)
theorem dX0_tell_8 : decode cX0_tell 8 = .ok (.iconst (-1), 1) := dk_2 (dk_at dksX0_tell_0 8 rfl rfl)
theorem dX0_tell_9 : decode cX0_tell 9 = .ok (.goto 19, 3) := dk_167 0 19 (dk_at dksX0_tell_0 9 rfl rfl)
theorem dX0_tell_12 : decode cX0_tell 12 = .ok (.aload_n 0, 1) := dk_42 (dk_at dksX0_tell_0 12 rfl rfl)
theorem dX0_tell_13 : decode cX0_tell 13 = .ok (.getfield 18, 3) := dk_180 0 18 (dk_at dksX0_tell_0 13 rfl rfl)
theorem dX0_tell_16 : decode cX0_tell 16 = .ok (.iload_n 1, 1) := dk_27 (dk_at dksX0_tell_0 16 rfl rfl)
theorem dX0_tell_17 : decode cX0_tell 17 = .ok (.invokeinterface 95 2, 5) := by decide +kernel
theorem dX0_tell_22 : decode cX0_tell 22 = .ok (.checkcast 37, 3) := dk_192 0 37 (dk_at dksX0_tell_1 0 rfl rfl)
theorem dX0_tell_25 : decode cX0_tell 25 = .ok (.invokevirtual 337, 3) := dk_182 1 81 (dk_at dksX0_tell_1 3 rfl rfl)
theorem dX0_tell_28 : decode cX0_tell 28 = .ok (.ireturn, 1) := dk_172 (dk_at dksX0_tell_1 6 rfl rfl)
abbrev cX0_greet : ByteArray := prog_1_method_67_code
def yX0_greet : MethodName := ⟨RX0, "greet", "(I)I"⟩
def dkwX0_greet_1 : List UInt8 := [44, 185, 1, 86, 1, 0, 172]
abbrev dktX0_greet_1 : List UInt8 := dkwX0_greet_1 ++ []
def dkwX0_greet_0 : List UInt8 := [42, 27, 182, 0, 112, 153, 0, 5, 2, 172, 42, 180, 0, 18, 27, 185, 0, 95, 2, 0, 192, 1, 84, 77]
abbrev dktX0_greet_0 : List UInt8 := dkwX0_greet_0 ++ dktX0_greet_1
theorem dksX0_greet_0 : cX0_greet.data.toList.drop 0 = dktX0_greet_0 := by decide +kernel
theorem dksX0_greet_1 : cX0_greet.data.toList.drop 24 = dktX0_greet_1 := dk_seg dksX0_greet_0 24 rfl rfl
theorem dX0_greet_0 : decode cX0_greet 0 = .ok (.aload_n 0, 1) := dk_42 (dk_at dksX0_greet_0 0 rfl rfl)
theorem dX0_greet_1 : decode cX0_greet 1 = .ok (.iload_n 1, 1) := dk_27 (dk_at dksX0_greet_0 1 rfl rfl)
theorem dX0_greet_2 : decode cX0_greet 2 = .ok (.invokevirtual 112, 3) := dk_182 0 112 (dk_at dksX0_greet_0 2 rfl rfl)
theorem dX0_greet_5 : decode cX0_greet 5 = .ok (.ifCond .eq 5, 3) := dk_153 0 5 (dk_at dksX0_greet_0 5 rfl rfl)
theorem dX0_greet_8 : decode cX0_greet 8 = .ok (.iconst (-1), 1) := dk_2 (dk_at dksX0_greet_0 8 rfl rfl)
theorem dX0_greet_9 : decode cX0_greet 9 = .ok (.ireturn, 1) := dk_172 (dk_at dksX0_greet_0 9 rfl rfl)
theorem dX0_greet_10 : decode cX0_greet 10 = .ok (.aload_n 0, 1) := dk_42 (dk_at dksX0_greet_0 10 rfl rfl)
theorem dX0_greet_11 : decode cX0_greet 11 = .ok (.getfield 18, 3) := dk_180 0 18 (dk_at dksX0_greet_0 11 rfl rfl)
theorem dX0_greet_14 : decode cX0_greet 14 = .ok (.iload_n 1, 1) := dk_27 (dk_at dksX0_greet_0 14 rfl rfl)
theorem dX0_greet_15 : decode cX0_greet 15 = .ok (.invokeinterface 95 2, 5) := by decide +kernel
theorem dX0_greet_20 : decode cX0_greet 20 = .ok (.checkcast 340, 3) := dk_192 1 84 (dk_at dksX0_greet_0 20 rfl rfl)
theorem dX0_greet_23 : decode cX0_greet 23 = .ok (.astore_n 2, 1) := dk_77 (dk_at dksX0_greet_0 23 rfl rfl)
theorem dX0_greet_24 : decode cX0_greet 24 = .ok (.aload_n 2, 1) := dk_44 (dk_at dksX0_greet_1 0 rfl rfl)
theorem dX0_greet_25 : decode cX0_greet 25 = .ok (.invokeinterface 342 1, 5) := by decide +kernel
theorem dX0_greet_30 : decode cX0_greet 30 = .ok (.ireturn, 1) := dk_172 (dk_at dksX0_greet_1 6 rfl rfl)
abbrev cX0_as : ByteArray := prog_1_method_68_code
def yX0_as : MethodName := ⟨RX0, "as", "(II)I"⟩
def dkwX0_as_2 : List UInt8 := [183, 1, 91, 182, 1, 94, 167, 0, 9, 42, 16, 254, 182, 0, 227, 172]
abbrev dktX0_as_2 : List UInt8 := dkwX0_as_2 ++ []
def dkwX0_as_1 : List UInt8 := [153, 0, 31, 187, 1, 89, 89, 42, 42, 180, 0, 18, 27, 185, 0, 95, 2, 0, 192, 0, 37, 28]
abbrev dktX0_as_1 : List UInt8 := dkwX0_as_1 ++ dktX0_as_2
def dkwX0_as_0 : List UInt8 := [42, 27, 182, 0, 112, 153, 0, 9, 42, 2, 182, 0, 227, 172, 28, 133, 9, 20, 0, 230, 184, 0, 58]
abbrev dktX0_as_0 : List UInt8 := dkwX0_as_0 ++ dktX0_as_1
theorem dksX0_as_0 : cX0_as.data.toList.drop 0 = dktX0_as_0 := by decide +kernel
theorem dksX0_as_1 : cX0_as.data.toList.drop 23 = dktX0_as_1 := dk_seg dksX0_as_0 23 rfl rfl
theorem dksX0_as_2 : cX0_as.data.toList.drop 45 = dktX0_as_2 := dk_seg dksX0_as_1 22 rfl rfl
theorem dX0_as_0 : decode cX0_as 0 = .ok (.aload_n 0, 1) := dk_42 (dk_at dksX0_as_0 0 rfl rfl)
theorem dX0_as_1 : decode cX0_as 1 = .ok (.iload_n 1, 1) := dk_27 (dk_at dksX0_as_0 1 rfl rfl)
theorem dX0_as_2 : decode cX0_as 2 = .ok (.invokevirtual 112, 3) := dk_182 0 112 (dk_at dksX0_as_0 2 rfl rfl)
theorem dX0_as_5 : decode cX0_as 5 = .ok (.ifCond .eq 9, 3) := dk_153 0 9 (dk_at dksX0_as_0 5 rfl rfl)
theorem dX0_as_8 : decode cX0_as 8 = .ok (.aload_n 0, 1) := dk_42 (dk_at dksX0_as_0 8 rfl rfl)
theorem dX0_as_9 : decode cX0_as 9 = .ok (.iconst (-1), 1) := dk_2 (dk_at dksX0_as_0 9 rfl rfl)
theorem dX0_as_10 : decode cX0_as 10 = .ok (.invokevirtual 227, 3) := dk_182 0 227 (dk_at dksX0_as_0 10 rfl rfl)
theorem dX0_as_13 : decode cX0_as 13 = .ok (.ireturn, 1) := dk_172 (dk_at dksX0_as_0 13 rfl rfl)
theorem dX0_as_14 : decode cX0_as 14 = .ok (.iload_n 2, 1) := dk_28 (dk_at dksX0_as_0 14 rfl rfl)
theorem dX0_as_15 : decode cX0_as 15 = .ok (.i2l, 1) := dk_133 (dk_at dksX0_as_0 15 rfl rfl)
theorem dX0_as_16 : decode cX0_as 16 = .ok (.lconst 0, 1) := dk_9 (dk_at dksX0_as_0 16 rfl rfl)
theorem dX0_as_17 : decode cX0_as 17 = .ok (.ldc2_w 230, 3) := dk_20 0 230 (dk_at dksX0_as_0 17 rfl rfl)
theorem dX0_as_20 : decode cX0_as 20 = .ok (.invokestatic 58, 3) := dk_184 0 58 (dk_at dksX0_as_0 20 rfl rfl)
theorem dX0_as_23 : decode cX0_as 23 = .ok (.ifCond .eq 31, 3) := dk_153 0 31 (dk_at dksX0_as_1 0 rfl rfl)
theorem dX0_as_26 : decode cX0_as 26 = .ok (.new 345, 3) := dk_187 1 89 (dk_at dksX0_as_1 3 rfl rfl)
theorem dX0_as_29 : decode cX0_as 29 = .ok (.dup, 1) := dk_89 (dk_at dksX0_as_1 6 rfl rfl)
theorem dX0_as_30 : decode cX0_as 30 = .ok (.aload_n 0, 1) := dk_42 (dk_at dksX0_as_1 7 rfl rfl)
theorem dX0_as_31 : decode cX0_as 31 = .ok (.aload_n 0, 1) := dk_42 (dk_at dksX0_as_1 8 rfl rfl)
theorem dX0_as_32 : decode cX0_as 32 = .ok (.getfield 18, 3) := dk_180 0 18 (dk_at dksX0_as_1 9 rfl rfl)
theorem dX0_as_35 : decode cX0_as 35 = .ok (.iload_n 1, 1) := dk_27 (dk_at dksX0_as_1 12 rfl rfl)
theorem dX0_as_36 : decode cX0_as 36 = .ok (.invokeinterface 95 2, 5) := by decide +kernel
theorem dX0_as_41 : decode cX0_as 41 = .ok (.checkcast 37, 3) := dk_192 0 37 (dk_at dksX0_as_1 18 rfl rfl)
theorem dX0_as_44 : decode cX0_as 44 = .ok (.iload_n 2, 1) := dk_28 (dk_at dksX0_as_1 21 rfl rfl)
theorem dX0_as_45 : decode cX0_as 45 = .ok (.invokespecial 347, 3) := dk_183 1 91 (dk_at dksX0_as_2 0 rfl rfl)
theorem dX0_as_48 : decode cX0_as 48 = .ok (.invokevirtual 350, 3) := dk_182 1 94 (dk_at dksX0_as_2 3 rfl rfl)
theorem dX0_as_51 : decode cX0_as 51 = .ok (.goto 9, 3) := dk_167 0 9 (dk_at dksX0_as_2 6 rfl rfl)
theorem dX0_as_54 : decode cX0_as 54 = .ok (.aload_n 0, 1) := dk_42 (dk_at dksX0_as_2 9 rfl rfl)
theorem dX0_as_55 : decode cX0_as 55 = .ok (.bipush (-2), 2) := dk_16 254 (dk_at dksX0_as_2 10 rfl rfl)
theorem dX0_as_57 : decode cX0_as 57 = .ok (.invokevirtual 227, 3) := dk_182 0 227 (dk_at dksX0_as_2 12 rfl rfl)
theorem dX0_as_60 : decode cX0_as 60 = .ok (.ireturn, 1) := dk_172 (dk_at dksX0_as_2 15 rfl rfl)
abbrev cX0_trace : ByteArray := prog_1_method_69_code
def yX0_trace : MethodName := ⟨RX0, "trace", "()I"⟩
theorem dX0_trace_0 : decode cX0_trace 0 = .ok (.aload_n 0, 1) := by decide +kernel
theorem dX0_trace_1 : decode cX0_trace 1 = .ok (.getfield 351, 3) := by decide +kernel
theorem dX0_trace_4 : decode cX0_trace 4 = .ok (.ireturn, 1) := by decide +kernel
abbrev cX0_fault : ByteArray := prog_1_method_70_code
def yX0_fault : MethodName := ⟨RX0, "fault", "()I"⟩
theorem dX0_fault_0 : decode cX0_fault 0 = .ok (.aload_n 0, 1) := by decide +kernel
theorem dX0_fault_1 : decode cX0_fault 1 = .ok (.getfield 210, 3) := by decide +kernel
theorem dX0_fault_4 : decode cX0_fault 4 = .ok (.ireturn, 1) := by decide +kernel
abbrev cX0_many : ByteArray := prog_1_method_71_code
def yX0_many : MethodName := ⟨RX0, "many", "(I)I"⟩
def dkwX0_many_3 : List UInt8 := [172, 16, 254, 172]
abbrev dktX0_many_3 : List UInt8 := dkwX0_many_3 ++ []
def dkwX0_many_2 : List UInt8 := [42, 180, 0, 18, 185, 0, 62, 1, 0, 172, 42, 180, 0, 54, 172, 42, 180, 0, 28, 185, 0, 62, 1, 0]
abbrev dktX0_many_2 : List UInt8 := dkwX0_many_2 ++ dktX0_many_3
def dkwX0_many_1 : List UInt8 := [170, 0, 0, 0, 0, 0, 52, 0, 0, 0, 0, 0, 0, 0, 2, 0, 0, 0, 27, 0, 0, 0, 37, 0, 0, 0, 42]
abbrev dktX0_many_1 : List UInt8 := dkwX0_many_1 ++ dktX0_many_2
def dkwX0_many_0 : List UInt8 := [27]
abbrev dktX0_many_0 : List UInt8 := dkwX0_many_0 ++ dktX0_many_1
theorem dksX0_many_0 : cX0_many.data.toList.drop 0 = dktX0_many_0 := by decide +kernel
theorem dksX0_many_1 : cX0_many.data.toList.drop 1 = dktX0_many_1 := dk_seg dksX0_many_0 1 rfl rfl
theorem dksX0_many_2 : cX0_many.data.toList.drop 28 = dktX0_many_2 := dk_seg dksX0_many_1 27 rfl rfl
theorem dksX0_many_3 : cX0_many.data.toList.drop 52 = dktX0_many_3 := dk_seg dksX0_many_2 24 rfl rfl
theorem dX0_many_0 : decode cX0_many 0 = .ok (.iload_n 1, 1) := dk_27 (dk_at dksX0_many_0 0 rfl rfl)
theorem dX0_many_1 : decode cX0_many 1 = .ok (.tableswitch 52 0 2 #[27, 37, 42], 27) := by decide +kernel
theorem dX0_many_28 : decode cX0_many 28 = .ok (.aload_n 0, 1) := dk_42 (dk_at dksX0_many_2 0 rfl rfl)
theorem dX0_many_29 : decode cX0_many 29 = .ok (.getfield 18, 3) := dk_180 0 18 (dk_at dksX0_many_2 1 rfl rfl)
theorem dX0_many_32 : decode cX0_many 32 = .ok (.invokeinterface 62 1, 5) := by decide +kernel
theorem dX0_many_37 : decode cX0_many 37 = .ok (.ireturn, 1) := dk_172 (dk_at dksX0_many_2 9 rfl rfl)
theorem dX0_many_38 : decode cX0_many 38 = .ok (.aload_n 0, 1) := dk_42 (dk_at dksX0_many_2 10 rfl rfl)
theorem dX0_many_39 : decode cX0_many 39 = .ok (.getfield 54, 3) := dk_180 0 54 (dk_at dksX0_many_2 11 rfl rfl)
theorem dX0_many_42 : decode cX0_many 42 = .ok (.ireturn, 1) := dk_172 (dk_at dksX0_many_2 14 rfl rfl)
theorem dX0_many_43 : decode cX0_many 43 = .ok (.aload_n 0, 1) := dk_42 (dk_at dksX0_many_2 15 rfl rfl)
theorem dX0_many_44 : decode cX0_many 44 = .ok (.getfield 28, 3) := dk_180 0 28 (dk_at dksX0_many_2 16 rfl rfl)
theorem dX0_many_47 : decode cX0_many 47 = .ok (.invokeinterface 62 1, 5) := by decide +kernel
theorem dX0_many_52 : decode cX0_many 52 = .ok (.ireturn, 1) := dk_172 (dk_at dksX0_many_3 0 rfl rfl)
theorem dX0_many_53 : decode cX0_many 53 = .ok (.bipush (-2), 2) := dk_16 254 (dk_at dksX0_many_3 1 rfl rfl)
theorem dX0_many_55 : decode cX0_many 55 = .ok (.ireturn, 1) := dk_172 (dk_at dksX0_many_3 3 rfl rfl)
theorem q57 : (Jvm.Cond.initialized "TowerTell") ∈ lw_all := lw_g (lw_at lw_m1 1 rfl) rfl
theorem q91 : (Jvm.Cond.instantiable "TowerTell" (12 : Nat)) ∈ lw_all := lw_g (lw_at lw_m1 35 rfl) rfl
theorem q93 : (Jvm.Cond.instanceMethod ({ cls := "TowerTell", name := "<init>", desc := "()V" } : Jvm.MethodName)) ∈ lw_all := lw_g (lw_at lw_m1 37 rfl) rfl
theorem q94 : (Jvm.Cond.code ({ cls := "TowerTell", name := "<init>", desc := "()V" } : Jvm.MethodName) prog_1_method_3_code (1 : Nat) (Option.none : Option Jvm.ClassFile.FieldType)) ∈ lw_all := lw_g (lw_at lw_m1 38 rfl) rfl
theorem q95 : (Jvm.Cond.methodLink "TowerTell" (3 : Nat) ({ cls := "java/lang/Object", name := "<init>", desc := "()V" } : Jvm.MethodName)) ∈ lw_all := lw_g (lw_at lw_m1 39 rfl) rfl
theorem q98 : (Jvm.Cond.classLink "TowerTell" (15 : Nat) "java/util/ArrayList") ∈ lw_all := lw_g (lw_at lw_m1 42 rfl) rfl
theorem q100 : (Jvm.Cond.methodLink "TowerTell" (17 : Nat) ({ cls := "java/util/ArrayList", name := "<init>", desc := "()V" } : Jvm.MethodName)) ∈ lw_all := lw_g (lw_at lw_m1 44 rfl) rfl
theorem q125 : (Jvm.Cond.classLink "TowerTell" (31 : Nat) "TowerTell$Sheet") ∈ lw_all := lw_g (lw_at lw_m1 69 rfl) rfl
theorem q128 : (Jvm.Cond.fieldLink "TowerTell" (351 : Nat) "TowerTell" "trace" "I") ∈ lw_all := lw_g (lw_at lw_m1 72 rfl) rfl
theorem q129 : (Jvm.Cond.fieldLink "TowerTell" (54 : Nat) "TowerTell" "deeds" "I") ∈ lw_all := lw_g (lw_at lw_m1 73 rfl) rfl
theorem q130 : (Jvm.Cond.fieldLink "TowerTell" (11 : Nat) "TowerTell" "weightOf" "[I") ∈ lw_all := lw_g (lw_at lw_m1 74 rfl) rfl
theorem q131 : (Jvm.Cond.fieldLink "TowerTell" (18 : Nat) "TowerTell" "people" "Ljava/util/List;") ∈ lw_all := lw_g (lw_at lw_m1 75 rfl) rfl
theorem q132 : (Jvm.Cond.fieldLink "TowerTell" (22 : Nat) "TowerTell" "toldBy" "[I") ∈ lw_all := lw_g (lw_at lw_m1 76 rfl) rfl
theorem q133 : (Jvm.Cond.fieldLink "TowerTell" (25 : Nat) "TowerTell" "keptBy" "[I") ∈ lw_all := lw_g (lw_at lw_m1 77 rfl) rfl
theorem q134 : (Jvm.Cond.fieldLink "TowerTell" (148 : Nat) "TowerTell" "caughtNow" "I") ∈ lw_all := lw_g (lw_at lw_m1 78 rfl) rfl
theorem q135 : (Jvm.Cond.fieldLink "TowerTell" (151 : Nat) "TowerTell" "firstWrong" "I") ∈ lw_all := lw_g (lw_at lw_m1 79 rfl) rfl
theorem q136 : (Jvm.Cond.fieldLink "TowerTell" (28 : Nat) "TowerTell" "readings" "Ljava/util/List;") ∈ lw_all := lw_g (lw_at lw_m1 80 rfl) rfl
theorem q138 : (Jvm.Cond.fieldLink "TowerTell" (210 : Nat) "TowerTell" "fault" "I") ∈ lw_all := lw_g (lw_at lw_m1 82 rfl) rfl
theorem q139 : (Jvm.Cond.fieldLink "TowerTell" (33 : Nat) "TowerTell" "sheets" "[LTowerTell$Sheet;") ∈ lw_all := lw_g (lw_at lw_m1 83 rfl) rfl
theorem q141 : (Jvm.Cond.fieldLink "TowerTell" (316 : Nat) "TowerTell" "rowNow" "[I") ∈ lw_all := lw_g (lw_at lw_m1 85 rfl) rfl
theorem q142 : (Jvm.Cond.lays "TowerTell" "TowerTell" "trace" "I") ∈ lw_all := lw_g (lw_at lw_m1 86 rfl) rfl
theorem q143 : (Jvm.Cond.soleField "TowerTell" "trace") ∈ lw_all := lw_g (lw_at lw_m1 87 rfl) rfl
theorem q144 : (Jvm.Cond.lays "TowerTell" "TowerTell" "deeds" "I") ∈ lw_all := lw_g (lw_at lw_m1 88 rfl) rfl
theorem q145 : (Jvm.Cond.soleField "TowerTell" "deeds") ∈ lw_all := lw_g (lw_at lw_m1 89 rfl) rfl
theorem q146 : (Jvm.Cond.laysFinal "TowerTell" "TowerTell" "weightOf" "[I") ∈ lw_all := lw_g (lw_at lw_m1 90 rfl) rfl
theorem q147 : (Jvm.Cond.soleField "TowerTell" "weightOf") ∈ lw_all := lw_g (lw_at lw_m1 91 rfl) rfl
theorem q148 : (Jvm.Cond.laysFinal "TowerTell" "TowerTell" "people" "Ljava/util/List;") ∈ lw_all := lw_g (lw_at lw_m1 92 rfl) rfl
theorem q149 : (Jvm.Cond.soleField "TowerTell" "people") ∈ lw_all := lw_g (lw_at lw_m1 93 rfl) rfl
theorem q150 : (Jvm.Cond.laysFinal "TowerTell" "TowerTell" "toldBy" "[I") ∈ lw_all := lw_g (lw_at lw_m1 94 rfl) rfl
theorem q151 : (Jvm.Cond.soleField "TowerTell" "toldBy") ∈ lw_all := lw_g (lw_at lw_m1 95 rfl) rfl
theorem q152 : (Jvm.Cond.laysFinal "TowerTell" "TowerTell" "keptBy" "[I") ∈ lw_all := lw_g (lw_at lw_m1 96 rfl) rfl
theorem q153 : (Jvm.Cond.soleField "TowerTell" "keptBy") ∈ lw_all := lw_g (lw_at lw_m1 97 rfl) rfl
theorem q154 : (Jvm.Cond.lays "TowerTell" "TowerTell" "caughtNow" "I") ∈ lw_all := lw_g (lw_at lw_m1 98 rfl) rfl
theorem q155 : (Jvm.Cond.soleField "TowerTell" "caughtNow") ∈ lw_all := lw_g (lw_at lw_m1 99 rfl) rfl
theorem q156 : (Jvm.Cond.lays "TowerTell" "TowerTell" "firstWrong" "I") ∈ lw_all := lw_g (lw_at lw_m1 100 rfl) rfl
theorem q157 : (Jvm.Cond.soleField "TowerTell" "firstWrong") ∈ lw_all := lw_g (lw_at lw_m1 101 rfl) rfl
theorem q158 : (Jvm.Cond.laysFinal "TowerTell" "TowerTell" "readings" "Ljava/util/List;") ∈ lw_all := lw_g (lw_at lw_m1 102 rfl) rfl
theorem q159 : (Jvm.Cond.soleField "TowerTell" "readings") ∈ lw_all := lw_g (lw_at lw_m1 103 rfl) rfl
theorem q160 : (Jvm.Cond.lays "TowerTell" "TowerTell" "fault" "I") ∈ lw_all := lw_g (lw_at lw_m1 104 rfl) rfl
theorem q161 : (Jvm.Cond.soleField "TowerTell" "fault") ∈ lw_all := lw_g (lw_at lw_m1 105 rfl) rfl
theorem q162 : (Jvm.Cond.laysFinal "TowerTell" "TowerTell" "sheets" "[LTowerTell$Sheet;") ∈ lw_all := lw_g (lw_at lw_m1 106 rfl) rfl
theorem q163 : (Jvm.Cond.soleField "TowerTell" "sheets") ∈ lw_all := lw_g (lw_at lw_m1 107 rfl) rfl
theorem q164 : (Jvm.Cond.lays "TowerTell" "TowerTell" "rowNow" "[I") ∈ lw_all := lw_g (lw_at lw_m1 108 rfl) rfl
theorem q165 : (Jvm.Cond.soleField "TowerTell" "rowNow") ∈ lw_all := lw_g (lw_at lw_m1 109 rfl) rfl
theorem q166 : (Jvm.Cond.superclass "TowerTell" "java/lang/Object") ∈ lw_all := lw_g (lw_at lw_m1 110 rfl) rfl
theorem q168 : (Jvm.Cond.instanceMethod ({ cls := "TowerTell", name := "ofPerson", desc := "(II)I" } : Jvm.MethodName)) ∈ lw_all := lw_g (lw_at lw_m1 112 rfl) rfl
theorem q169 : (Jvm.Cond.selects "TowerTell" ({ cls := "TowerTell", name := "ofPerson", desc := "(II)I" } : Jvm.MethodName) ({ cls := "TowerTell", name := "ofPerson", desc := "(II)I" } : Jvm.MethodName)) ∈ lw_all := lw_g (lw_at lw_m1 113 rfl) rfl
theorem q170 : (Jvm.Cond.code ({ cls := "TowerTell", name := "ofPerson", desc := "(II)I" } : Jvm.MethodName) prog_1_method_15_code (3 : Nat) (Option.some Jvm.ClassFile.FieldType.int)) ∈ lw_all := lw_g (lw_at lw_m1 114 rfl) rfl
theorem q171 : (Jvm.Cond.methodLink "TowerTell" (112 : Nat) ({ cls := "TowerTell", name := "noPerson", desc := "(I)Z" } : Jvm.MethodName)) ∈ lw_all := lw_g (lw_at lw_m1 115 rfl) rfl
theorem q172 : (Jvm.Cond.privateMethod ({ cls := "TowerTell", name := "noPerson", desc := "(I)Z" } : Jvm.MethodName)) ∈ lw_tbl := lw_at lw_m1 116 rfl
theorem q173 : (Jvm.Cond.instanceMethod ({ cls := "TowerTell", name := "noPerson", desc := "(I)Z" } : Jvm.MethodName)) ∈ lw_all := lw_g (lw_at lw_m1 117 rfl) rfl
theorem q174 : (Jvm.Cond.code ({ cls := "TowerTell", name := "noPerson", desc := "(I)Z" } : Jvm.MethodName) prog_1_method_7_code (2 : Nat) (Option.some Jvm.ClassFile.FieldType.boolean)) ∈ lw_all := lw_g (lw_at lw_m1 118 rfl) rfl
theorem q175 : (Jvm.Cond.interfaceEntry "TowerTell" (62 : Nat)) ∈ lw_tbl := lw_at lw_m1 119 rfl
theorem q176 : (Jvm.Cond.methodLink "TowerTell" (62 : Nat) ({ cls := "java/util/List", name := "size", desc := "()I" } : Jvm.MethodName)) ∈ lw_all := lw_g (lw_at lw_m1 120 rfl) rfl
theorem q185 : (Jvm.Cond.methodLink "TowerTell" (58 : Nat) ({ cls := "TowerTell", name := "in", desc := "(JJJ)Z" } : Jvm.MethodName)) ∈ lw_all := lw_g (lw_at lw_m1 129 rfl) rfl
theorem q186 : (Jvm.Cond.static ({ cls := "TowerTell", name := "in", desc := "(JJJ)Z" } : Jvm.MethodName)) ∈ lw_all := lw_g (lw_at lw_m1 130 rfl) rfl
theorem q187 : (Jvm.Cond.code ({ cls := "TowerTell", name := "in", desc := "(JJJ)Z" } : Jvm.MethodName) prog_1_method_1_code (6 : Nat) (Option.some Jvm.ClassFile.FieldType.boolean)) ∈ lw_all := lw_g (lw_at lw_m1 131 rfl) rfl
theorem q188 : (Jvm.Cond.interfaceEntry "TowerTell" (95 : Nat)) ∈ lw_tbl := lw_at lw_m1 132 rfl
theorem q189 : (Jvm.Cond.methodLink "TowerTell" (95 : Nat) ({ cls := "java/util/List", name := "get", desc := "(I)Ljava/lang/Object;" } : Jvm.MethodName)) ∈ lw_all := lw_g (lw_at lw_m1 133 rfl) rfl
theorem q207 : (Jvm.Cond.classLink "TowerTell" (37 : Nat) "TowerTell$Person") ∈ lw_all := lw_g (lw_at lw_m1 151 rfl) rfl
theorem q208 : (Jvm.Cond.methodLink "TowerTell" (116 : Nat) ({ cls := "TowerTell$Person", name := "kind", desc := "()I" } : Jvm.MethodName)) ∈ lw_all := lw_g (lw_at lw_m1 152 rfl) rfl
theorem q219 : (Jvm.Cond.methodLink "TowerTell" (119 : Nat) ({ cls := "TowerTell", name := "truthsOf", desc := "(I)I" } : Jvm.MethodName)) ∈ lw_all := lw_g (lw_at lw_m1 163 rfl) rfl
theorem q220 : (Jvm.Cond.privateMethod ({ cls := "TowerTell", name := "truthsOf", desc := "(I)I" } : Jvm.MethodName)) ∈ lw_tbl := lw_at lw_m1 164 rfl
theorem q221 : (Jvm.Cond.instanceMethod ({ cls := "TowerTell", name := "truthsOf", desc := "(I)I" } : Jvm.MethodName)) ∈ lw_all := lw_g (lw_at lw_m1 165 rfl) rfl
theorem q222 : (Jvm.Cond.code ({ cls := "TowerTell", name := "truthsOf", desc := "(I)I" } : Jvm.MethodName) prog_1_method_12_code (2 : Nat) (Option.some Jvm.ClassFile.FieldType.int)) ∈ lw_all := lw_g (lw_at lw_m1 166 rfl) rfl
theorem q223 : (Jvm.Cond.methodLink "TowerTell" (125 : Nat) ({ cls := "TowerTell", name := "floorOf", desc := "(I)I" } : Jvm.MethodName)) ∈ lw_all := lw_g (lw_at lw_m1 167 rfl) rfl
theorem q224 : (Jvm.Cond.privateMethod ({ cls := "TowerTell", name := "floorOf", desc := "(I)I" } : Jvm.MethodName)) ∈ lw_tbl := lw_at lw_m1 168 rfl
theorem q225 : (Jvm.Cond.instanceMethod ({ cls := "TowerTell", name := "floorOf", desc := "(I)I" } : Jvm.MethodName)) ∈ lw_all := lw_g (lw_at lw_m1 169 rfl) rfl
theorem q226 : (Jvm.Cond.code ({ cls := "TowerTell", name := "floorOf", desc := "(I)I" } : Jvm.MethodName) prog_1_method_14_code (2 : Nat) (Option.some Jvm.ClassFile.FieldType.int)) ∈ lw_all := lw_g (lw_at lw_m1 170 rfl) rfl
theorem q227 : (Jvm.Cond.methodLink "TowerTell" (108 : Nat) ({ cls := "TowerTell", name := "risesBy", desc := "(II)I" } : Jvm.MethodName)) ∈ lw_all := lw_g (lw_at lw_m1 171 rfl) rfl
theorem q228 : (Jvm.Cond.privateMethod ({ cls := "TowerTell", name := "risesBy", desc := "(II)I" } : Jvm.MethodName)) ∈ lw_tbl := lw_at lw_m1 172 rfl
theorem q229 : (Jvm.Cond.instanceMethod ({ cls := "TowerTell", name := "risesBy", desc := "(II)I" } : Jvm.MethodName)) ∈ lw_all := lw_g (lw_at lw_m1 173 rfl) rfl
theorem q230 : (Jvm.Cond.code ({ cls := "TowerTell", name := "risesBy", desc := "(II)I" } : Jvm.MethodName) prog_1_method_13_code (5 : Nat) (Option.some Jvm.ClassFile.FieldType.int)) ∈ lw_all := lw_g (lw_at lw_m1 174 rfl) rfl
theorem q231 : (Jvm.Cond.methodLink "TowerTell" (100 : Nat) ({ cls := "TowerTell", name := "isIn", desc := "(II)Z" } : Jvm.MethodName)) ∈ lw_all := lw_g (lw_at lw_m1 175 rfl) rfl
theorem q232 : (Jvm.Cond.static ({ cls := "TowerTell", name := "isIn", desc := "(II)Z" } : Jvm.MethodName)) ∈ lw_all := lw_g (lw_at lw_m1 176 rfl) rfl
theorem q233 : (Jvm.Cond.code ({ cls := "TowerTell", name := "isIn", desc := "(II)Z" } : Jvm.MethodName) prog_1_method_2_code (2 : Nat) (Option.some Jvm.ClassFile.FieldType.boolean)) ∈ lw_all := lw_g (lw_at lw_m1 177 rfl) rfl
theorem q234 : (Jvm.Cond.methodLink "TowerTell" (104 : Nat) ({ cls := "TowerTell$Person", name := "rises", desc := "(I)I" } : Jvm.MethodName)) ∈ lw_all := lw_g (lw_at lw_m1 178 rfl) rfl
theorem q255 : (Jvm.Cond.instanceMethod ({ cls := "TowerTell", name := "weight", desc := "(I)I" } : Jvm.MethodName)) ∈ lw_all := lw_g (lw_at lw_m1 199 rfl) rfl
theorem q256 : (Jvm.Cond.selects "TowerTell" ({ cls := "TowerTell", name := "weight", desc := "(I)I" } : Jvm.MethodName) ({ cls := "TowerTell", name := "weight", desc := "(I)I" } : Jvm.MethodName)) ∈ lw_all := lw_g (lw_at lw_m1 200 rfl) rfl
theorem q257 : (Jvm.Cond.code ({ cls := "TowerTell", name := "weight", desc := "(I)I" } : Jvm.MethodName) prog_1_method_16_code (2 : Nat) (Option.some Jvm.ClassFile.FieldType.int)) ∈ lw_all := lw_g (lw_at lw_m1 201 rfl) rfl
theorem q258 : (Jvm.Cond.methodLink "TowerTell" (128 : Nat) ({ cls := "TowerTell", name := "noDeed", desc := "(I)Z" } : Jvm.MethodName)) ∈ lw_all := lw_g (lw_at lw_m1 202 rfl) rfl
theorem q259 : (Jvm.Cond.privateMethod ({ cls := "TowerTell", name := "noDeed", desc := "(I)Z" } : Jvm.MethodName)) ∈ lw_tbl := lw_at lw_m1 203 rfl
theorem q260 : (Jvm.Cond.instanceMethod ({ cls := "TowerTell", name := "noDeed", desc := "(I)Z" } : Jvm.MethodName)) ∈ lw_all := lw_g (lw_at lw_m1 204 rfl) rfl
theorem q261 : (Jvm.Cond.code ({ cls := "TowerTell", name := "noDeed", desc := "(I)Z" } : Jvm.MethodName) prog_1_method_6_code (2 : Nat) (Option.some Jvm.ClassFile.FieldType.boolean)) ∈ lw_all := lw_g (lw_at lw_m1 205 rfl) rfl
theorem q263 : (Jvm.Cond.instanceMethod ({ cls := "TowerTell", name := "weigh", desc := "(II)I" } : Jvm.MethodName)) ∈ lw_all := lw_g (lw_at lw_m1 207 rfl) rfl
theorem q264 : (Jvm.Cond.selects "TowerTell" ({ cls := "TowerTell", name := "weigh", desc := "(II)I" } : Jvm.MethodName) ({ cls := "TowerTell", name := "weigh", desc := "(II)I" } : Jvm.MethodName)) ∈ lw_all := lw_g (lw_at lw_m1 208 rfl) rfl
theorem q265 : (Jvm.Cond.code ({ cls := "TowerTell", name := "weigh", desc := "(II)I" } : Jvm.MethodName) prog_1_method_17_code (4 : Nat) (Option.some Jvm.ClassFile.FieldType.int)) ∈ lw_all := lw_g (lw_at lw_m1 209 rfl) rfl
theorem q266 : (Jvm.Cond.constantLong "TowerTell" (131 : Nat) (9 : Int64)) ∈ lw_all := lw_g (lw_at lw_m1 210 rfl) rfl
theorem q268 : (Jvm.Cond.instanceMethod ({ cls := "TowerTell", name := "storeys", desc := "(II)I" } : Jvm.MethodName)) ∈ lw_all := lw_g (lw_at lw_m1 212 rfl) rfl
theorem q269 : (Jvm.Cond.selects "TowerTell" ({ cls := "TowerTell", name := "storeys", desc := "(II)I" } : Jvm.MethodName) ({ cls := "TowerTell", name := "storeys", desc := "(II)I" } : Jvm.MethodName)) ∈ lw_all := lw_g (lw_at lw_m1 213 rfl) rfl
theorem q270 : (Jvm.Cond.code ({ cls := "TowerTell", name := "storeys", desc := "(II)I" } : Jvm.MethodName) prog_1_method_18_code (3 : Nat) (Option.some Jvm.ClassFile.FieldType.int)) ∈ lw_all := lw_g (lw_at lw_m1 214 rfl) rfl
theorem q272 : (Jvm.Cond.instanceMethod ({ cls := "TowerTell", name := "say", desc := "(II)I" } : Jvm.MethodName)) ∈ lw_all := lw_g (lw_at lw_m1 216 rfl) rfl
theorem q273 : (Jvm.Cond.selects "TowerTell" ({ cls := "TowerTell", name := "say", desc := "(II)I" } : Jvm.MethodName) ({ cls := "TowerTell", name := "say", desc := "(II)I" } : Jvm.MethodName)) ∈ lw_all := lw_g (lw_at lw_m1 217 rfl) rfl
theorem q274 : (Jvm.Cond.code ({ cls := "TowerTell", name := "say", desc := "(II)I" } : Jvm.MethodName) prog_1_method_21_code (3 : Nat) (Option.some Jvm.ClassFile.FieldType.int)) ∈ lw_all := lw_g (lw_at lw_m1 218 rfl) rfl
theorem q275 : (Jvm.Cond.methodLink "TowerTell" (136 : Nat) ({ cls := "TowerTell", name := "isCaught", desc := "(II)Z" } : Jvm.MethodName)) ∈ lw_all := lw_g (lw_at lw_m1 219 rfl) rfl
theorem q276 : (Jvm.Cond.privateMethod ({ cls := "TowerTell", name := "isCaught", desc := "(II)Z" } : Jvm.MethodName)) ∈ lw_tbl := lw_at lw_m1 220 rfl
theorem q277 : (Jvm.Cond.instanceMethod ({ cls := "TowerTell", name := "isCaught", desc := "(II)Z" } : Jvm.MethodName)) ∈ lw_all := lw_g (lw_at lw_m1 221 rfl) rfl
theorem q278 : (Jvm.Cond.code ({ cls := "TowerTell", name := "isCaught", desc := "(II)Z" } : Jvm.MethodName) prog_1_method_20_code (4 : Nat) (Option.some Jvm.ClassFile.FieldType.boolean)) ∈ lw_all := lw_g (lw_at lw_m1 222 rfl) rfl
theorem q279 : (Jvm.Cond.methodLink "TowerTell" (133 : Nat) ({ cls := "TowerTell", name := "isSeen", desc := "(I)Z" } : Jvm.MethodName)) ∈ lw_all := lw_g (lw_at lw_m1 223 rfl) rfl
theorem q280 : (Jvm.Cond.privateMethod ({ cls := "TowerTell", name := "isSeen", desc := "(I)Z" } : Jvm.MethodName)) ∈ lw_tbl := lw_at lw_m1 224 rfl
theorem q281 : (Jvm.Cond.instanceMethod ({ cls := "TowerTell", name := "isSeen", desc := "(I)Z" } : Jvm.MethodName)) ∈ lw_all := lw_g (lw_at lw_m1 225 rfl) rfl
theorem q282 : (Jvm.Cond.code ({ cls := "TowerTell", name := "isSeen", desc := "(I)Z" } : Jvm.MethodName) prog_1_method_19_code (3 : Nat) (Option.some Jvm.ClassFile.FieldType.boolean)) ∈ lw_all := lw_g (lw_at lw_m1 226 rfl) rfl
theorem q284 : (Jvm.Cond.instanceMethod ({ cls := "TowerTell", name := "hush", desc := "(I)I" } : Jvm.MethodName)) ∈ lw_all := lw_g (lw_at lw_m1 228 rfl) rfl
theorem q285 : (Jvm.Cond.selects "TowerTell" ({ cls := "TowerTell", name := "hush", desc := "(I)I" } : Jvm.MethodName) ({ cls := "TowerTell", name := "hush", desc := "(I)I" } : Jvm.MethodName)) ∈ lw_all := lw_g (lw_at lw_m1 229 rfl) rfl
theorem q286 : (Jvm.Cond.code ({ cls := "TowerTell", name := "hush", desc := "(I)I" } : Jvm.MethodName) prog_1_method_22_code (3 : Nat) (Option.some Jvm.ClassFile.FieldType.int)) ∈ lw_all := lw_g (lw_at lw_m1 230 rfl) rfl
theorem q288 : (Jvm.Cond.instanceMethod ({ cls := "TowerTell", name := "landing", desc := "(I)I" } : Jvm.MethodName)) ∈ lw_all := lw_g (lw_at lw_m1 232 rfl) rfl
theorem q289 : (Jvm.Cond.selects "TowerTell" ({ cls := "TowerTell", name := "landing", desc := "(I)I" } : Jvm.MethodName) ({ cls := "TowerTell", name := "landing", desc := "(I)I" } : Jvm.MethodName)) ∈ lw_all := lw_g (lw_at lw_m1 233 rfl) rfl
theorem q290 : (Jvm.Cond.code ({ cls := "TowerTell", name := "landing", desc := "(I)I" } : Jvm.MethodName) prog_1_method_23_code (4 : Nat) (Option.some Jvm.ClassFile.FieldType.int)) ∈ lw_all := lw_g (lw_at lw_m1 234 rfl) rfl
theorem q291 : (Jvm.Cond.methodLink "TowerTell" (139 : Nat) ({ cls := "TowerTell", name := "noTower", desc := "()Z" } : Jvm.MethodName)) ∈ lw_all := lw_g (lw_at lw_m1 235 rfl) rfl
theorem q292 : (Jvm.Cond.privateMethod ({ cls := "TowerTell", name := "noTower", desc := "()Z" } : Jvm.MethodName)) ∈ lw_tbl := lw_at lw_m1 236 rfl
theorem q293 : (Jvm.Cond.instanceMethod ({ cls := "TowerTell", name := "noTower", desc := "()Z" } : Jvm.MethodName)) ∈ lw_all := lw_g (lw_at lw_m1 237 rfl) rfl
theorem q294 : (Jvm.Cond.code ({ cls := "TowerTell", name := "noTower", desc := "()Z" } : Jvm.MethodName) prog_1_method_5_code (1 : Nat) (Option.some Jvm.ClassFile.FieldType.boolean)) ∈ lw_all := lw_g (lw_at lw_m1 238 rfl) rfl
theorem q295 : (Jvm.Cond.interfaceEntry "TowerTell" (48 : Nat)) ∈ lw_tbl := lw_at lw_m1 239 rfl
theorem q296 : (Jvm.Cond.methodLink "TowerTell" (48 : Nat) ({ cls := "java/util/List", name := "isEmpty", desc := "()Z" } : Jvm.MethodName)) ∈ lw_all := lw_g (lw_at lw_m2 0 rfl) rfl
theorem q305 : (Jvm.Cond.instanceMethod ({ cls := "TowerTell", name := "way", desc := "(II)I" } : Jvm.MethodName)) ∈ lw_all := lw_g (lw_at lw_m2 9 rfl) rfl
theorem q306 : (Jvm.Cond.selects "TowerTell" ({ cls := "TowerTell", name := "way", desc := "(II)I" } : Jvm.MethodName) ({ cls := "TowerTell", name := "way", desc := "(II)I" } : Jvm.MethodName)) ∈ lw_all := lw_g (lw_at lw_m2 10 rfl) rfl
theorem q307 : (Jvm.Cond.code ({ cls := "TowerTell", name := "way", desc := "(II)I" } : Jvm.MethodName) prog_1_method_31_code (7 : Nat) (Option.some Jvm.ClassFile.FieldType.int)) ∈ lw_all := lw_g (lw_at lw_m2 11 rfl) rfl
theorem q308 : (Jvm.Cond.methodLink "TowerTell" (175 : Nat) ({ cls := "java/lang/Integer", name := "bitCount", desc := "(I)I" } : Jvm.MethodName)) ∈ lw_all := lw_g (lw_at lw_m2 12 rfl) rfl
theorem q315 : (Jvm.Cond.instanceMethod ({ cls := "TowerTell", name := "kept", desc := "(II)I" } : Jvm.MethodName)) ∈ lw_all := lw_g (lw_at lw_m2 19 rfl) rfl
theorem q316 : (Jvm.Cond.selects "TowerTell" ({ cls := "TowerTell", name := "kept", desc := "(II)I" } : Jvm.MethodName) ({ cls := "TowerTell", name := "kept", desc := "(II)I" } : Jvm.MethodName)) ∈ lw_all := lw_g (lw_at lw_m2 20 rfl) rfl
theorem q317 : (Jvm.Cond.code ({ cls := "TowerTell", name := "kept", desc := "(II)I" } : Jvm.MethodName) prog_1_method_32_code (6 : Nat) (Option.some Jvm.ClassFile.FieldType.int)) ∈ lw_all := lw_g (lw_at lw_m2 21 rfl) rfl
theorem q319 : (Jvm.Cond.instanceMethod ({ cls := "TowerTell", name := "roof", desc := "(I)I" } : Jvm.MethodName)) ∈ lw_all := lw_g (lw_at lw_m2 23 rfl) rfl
theorem q320 : (Jvm.Cond.selects "TowerTell" ({ cls := "TowerTell", name := "roof", desc := "(I)I" } : Jvm.MethodName) ({ cls := "TowerTell", name := "roof", desc := "(I)I" } : Jvm.MethodName)) ∈ lw_all := lw_g (lw_at lw_m2 24 rfl) rfl
theorem q321 : (Jvm.Cond.code ({ cls := "TowerTell", name := "roof", desc := "(I)I" } : Jvm.MethodName) prog_1_method_33_code (2 : Nat) (Option.some Jvm.ClassFile.FieldType.int)) ∈ lw_all := lw_g (lw_at lw_m2 25 rfl) rfl
theorem q323 : (Jvm.Cond.instanceMethod ({ cls := "TowerTell", name := "safe", desc := "(I)I" } : Jvm.MethodName)) ∈ lw_all := lw_g (lw_at lw_m2 27 rfl) rfl
theorem q324 : (Jvm.Cond.selects "TowerTell" ({ cls := "TowerTell", name := "safe", desc := "(I)I" } : Jvm.MethodName) ({ cls := "TowerTell", name := "safe", desc := "(I)I" } : Jvm.MethodName)) ∈ lw_all := lw_g (lw_at lw_m2 28 rfl) rfl
theorem q325 : (Jvm.Cond.code ({ cls := "TowerTell", name := "safe", desc := "(I)I" } : Jvm.MethodName) prog_1_method_34_code (3 : Nat) (Option.some Jvm.ClassFile.FieldType.int)) ∈ lw_all := lw_g (lw_at lw_m2 29 rfl) rfl
theorem q327 : (Jvm.Cond.instanceMethod ({ cls := "TowerTell", name := "reading", desc := "(II)I" } : Jvm.MethodName)) ∈ lw_all := lw_g (lw_at lw_m2 31 rfl) rfl
theorem q328 : (Jvm.Cond.selects "TowerTell" ({ cls := "TowerTell", name := "reading", desc := "(II)I" } : Jvm.MethodName) ({ cls := "TowerTell", name := "reading", desc := "(II)I" } : Jvm.MethodName)) ∈ lw_all := lw_g (lw_at lw_m2 32 rfl) rfl
theorem q329 : (Jvm.Cond.code ({ cls := "TowerTell", name := "reading", desc := "(II)I" } : Jvm.MethodName) prog_1_method_35_code (3 : Nat) (Option.some Jvm.ClassFile.FieldType.int)) ∈ lw_all := lw_g (lw_at lw_m2 33 rfl) rfl
theorem q330 : (Jvm.Cond.constantLong "TowerTell" (180 : Nat) (99 : Int64)) ∈ lw_all := lw_g (lw_at lw_m2 34 rfl) rfl
theorem q331 : (Jvm.Cond.classLink "TowerTell" (182 : Nat) "TowerTell$Reading") ∈ lw_all := lw_g (lw_at lw_m2 35 rfl) rfl
theorem q333 : (Jvm.Cond.methodLink "TowerTell" (184 : Nat) ({ cls := "TowerTell$Reading", name := "<init>", desc := "(II)V" } : Jvm.MethodName)) ∈ lw_all := lw_g (lw_at lw_m2 37 rfl) rfl
theorem q338 : (Jvm.Cond.fieldLinkNest "TowerTell" (190 : Nat) "TowerTell$Reading" "p" "I" "TowerTell") ∈ lw_tbl := lw_at lw_m2 42 rfl
theorem q340 : (Jvm.Cond.fieldLinkNest "TowerTell" (193 : Nat) "TowerTell$Reading" "f" "I" "TowerTell") ∈ lw_tbl := lw_at lw_m2 44 rfl
theorem q346 : (Jvm.Cond.interfaceEntry "TowerTell" (84 : Nat)) ∈ lw_tbl := lw_at lw_m2 50 rfl
theorem q347 : (Jvm.Cond.methodLink "TowerTell" (84 : Nat) ({ cls := "java/util/List", name := "add", desc := "(Ljava/lang/Object;)Z" } : Jvm.MethodName)) ∈ lw_all := lw_g (lw_at lw_m2 51 rfl) rfl
theorem q383 : (Jvm.Cond.selects "TowerTell" ({ cls := "java/lang/Object", name := "getClass", desc := "()Ljava/lang/Class;" } : Jvm.MethodName) ({ cls := "java/lang/Object", name := "getClass", desc := "()Ljava/lang/Class;" } : Jvm.MethodName)) ∈ lw_all := lw_g (lw_at lw_m2 87 rfl) rfl
theorem q417 : (Jvm.Cond.instanceMethod ({ cls := "TowerTell", name := "back", desc := "(I)I" } : Jvm.MethodName)) ∈ lw_all := lw_g (lw_at lw_m2 121 rfl) rfl
theorem q418 : (Jvm.Cond.selects "TowerTell" ({ cls := "TowerTell", name := "back", desc := "(I)I" } : Jvm.MethodName) ({ cls := "TowerTell", name := "back", desc := "(I)I" } : Jvm.MethodName)) ∈ lw_all := lw_g (lw_at lw_m2 122 rfl) rfl
theorem q419 : (Jvm.Cond.code ({ cls := "TowerTell", name := "back", desc := "(I)I" } : Jvm.MethodName) prog_1_method_36_code (3 : Nat) (Option.some Jvm.ClassFile.FieldType.int)) ∈ lw_all := lw_g (lw_at lw_m2 123 rfl) rfl
theorem q420 : (Jvm.Cond.interfaceEntry "TowerTell" (187 : Nat)) ∈ lw_tbl := lw_at lw_m2 124 rfl
theorem q421 : (Jvm.Cond.methodLink "TowerTell" (187 : Nat) ({ cls := "java/util/List", name := "remove", desc := "(I)Ljava/lang/Object;" } : Jvm.MethodName)) ∈ lw_all := lw_g (lw_at lw_m2 125 rfl) rfl
theorem q435 : (Jvm.Cond.instanceMethod ({ cls := "TowerTell", name := "odds", desc := "(III)J" } : Jvm.MethodName)) ∈ lw_all := lw_g (lw_at lw_m2 139 rfl) rfl
theorem q436 : (Jvm.Cond.selects "TowerTell" ({ cls := "TowerTell", name := "odds", desc := "(III)J" } : Jvm.MethodName) ({ cls := "TowerTell", name := "odds", desc := "(III)J" } : Jvm.MethodName)) ∈ lw_all := lw_g (lw_at lw_m2 140 rfl) rfl
theorem q437 : (Jvm.Cond.code ({ cls := "TowerTell", name := "odds", desc := "(III)J" } : Jvm.MethodName) prog_1_method_42_code (8 : Nat) (Option.some Jvm.ClassFile.FieldType.long)) ∈ lw_all := lw_g (lw_at lw_m2 141 rfl) rfl
theorem q438 : (Jvm.Cond.constantLong "TowerTell" (208 : Nat) (-9223372036854775808 : Int64)) ∈ lw_all := lw_g (lw_at lw_m2 142 rfl) rfl
theorem q439 : (Jvm.Cond.methodLink "TowerTell" (204 : Nat) ({ cls := "TowerTell", name := "greatest", desc := "(JJ)J" } : Jvm.MethodName)) ∈ lw_all := lw_g (lw_at lw_m2 143 rfl) rfl
theorem q440 : (Jvm.Cond.static ({ cls := "TowerTell", name := "greatest", desc := "(JJ)J" } : Jvm.MethodName)) ∈ lw_all := lw_g (lw_at lw_m2 144 rfl) rfl
theorem q441 : (Jvm.Cond.code ({ cls := "TowerTell", name := "greatest", desc := "(JJ)J" } : Jvm.MethodName) prog_1_method_41_code (4 : Nat) (Option.some Jvm.ClassFile.FieldType.long)) ∈ lw_all := lw_g (lw_at lw_m2 145 rfl) rfl
theorem q443 : (Jvm.Cond.instanceMethod ({ cls := "TowerTell", name := "sheet", desc := "(III)I" } : Jvm.MethodName)) ∈ lw_all := lw_g (lw_at lw_m2 147 rfl) rfl
theorem q444 : (Jvm.Cond.selects "TowerTell" ({ cls := "TowerTell", name := "sheet", desc := "(III)I" } : Jvm.MethodName) ({ cls := "TowerTell", name := "sheet", desc := "(III)I" } : Jvm.MethodName)) ∈ lw_all := lw_g (lw_at lw_m2 148 rfl) rfl
theorem q445 : (Jvm.Cond.codeWith ({ cls := "TowerTell", name := "sheet", desc := "(III)I" } : Jvm.MethodName) prog_1_method_52_code (5 : Nat) (Option.some Jvm.ClassFile.FieldType.int) [((43 : Nat), (62 : Nat), (63 : Nat), (239 : Nat))]) ∈ lw_all := lw_g (lw_at lw_m2 149 rfl) rfl
theorem q446 : (Jvm.Cond.classLink "TowerTell" (239 : Nat) "java/lang/NegativeArraySizeException") ∈ lw_all := lw_g (lw_at lw_m2 150 rfl) rfl
theorem q533 : (Jvm.Cond.methodLink "TowerTell" (224 : Nat) ({ cls := "TowerTell", name := "noSheet", desc := "(I)Z" } : Jvm.MethodName)) ∈ lw_all := lw_g (lw_at lw_m2 237 rfl) rfl
theorem q534 : (Jvm.Cond.static ({ cls := "TowerTell", name := "noSheet", desc := "(I)Z" } : Jvm.MethodName)) ∈ lw_all := lw_g (lw_at lw_m2 238 rfl) rfl
theorem q535 : (Jvm.Cond.code ({ cls := "TowerTell", name := "noSheet", desc := "(I)Z" } : Jvm.MethodName) prog_1_method_50_code (1 : Nat) (Option.some Jvm.ClassFile.FieldType.boolean)) ∈ lw_all := lw_g (lw_at lw_m2 239 rfl) rfl
theorem q536 : (Jvm.Cond.constantLong "TowerTell" (218 : Nat) (3 : Int64)) ∈ lw_all := lw_g (lw_at lw_m3 0 rfl) rfl
theorem q537 : (Jvm.Cond.methodLink "TowerTell" (227 : Nat) ({ cls := "TowerTell", name := "refused", desc := "(I)I" } : Jvm.MethodName)) ∈ lw_all := lw_g (lw_at lw_m3 1 rfl) rfl
theorem q538 : (Jvm.Cond.privateMethod ({ cls := "TowerTell", name := "refused", desc := "(I)I" } : Jvm.MethodName)) ∈ lw_tbl := lw_at lw_m3 2 rfl
theorem q539 : (Jvm.Cond.instanceMethod ({ cls := "TowerTell", name := "refused", desc := "(I)I" } : Jvm.MethodName)) ∈ lw_all := lw_g (lw_at lw_m3 3 rfl) rfl
theorem q540 : (Jvm.Cond.code ({ cls := "TowerTell", name := "refused", desc := "(I)I" } : Jvm.MethodName) prog_1_method_43_code (2 : Nat) (Option.some Jvm.ClassFile.FieldType.int)) ∈ lw_all := lw_g (lw_at lw_m3 4 rfl) rfl
theorem q541 : (Jvm.Cond.constantLong "TowerTell" (230 : Nat) (2 : Int64)) ∈ lw_all := lw_g (lw_at lw_m3 5 rfl) rfl
theorem q543 : (Jvm.Cond.methodLink "TowerTell" (232 : Nat) ({ cls := "TowerTell", name := "rowOf", desc := "(II)Ljava/lang/Object;" } : Jvm.MethodName)) ∈ lw_all := lw_g (lw_at lw_m3 7 rfl) rfl
theorem q544 : (Jvm.Cond.static ({ cls := "TowerTell", name := "rowOf", desc := "(II)Ljava/lang/Object;" } : Jvm.MethodName)) ∈ lw_all := lw_g (lw_at lw_m3 8 rfl) rfl
theorem q545 : (Jvm.Cond.code ({ cls := "TowerTell", name := "rowOf", desc := "(II)Ljava/lang/Object;" } : Jvm.MethodName) prog_1_method_46_code (2 : Nat) (Option.some (Jvm.ClassFile.FieldType.object "java/lang/Object"))) ∈ lw_all := lw_g (lw_at lw_m3 9 rfl) rfl
theorem q546 : (Jvm.Cond.methodLink "TowerTell" (236 : Nat) ({ cls := "TowerTell$Sheet", name := "<init>", desc := "(Ljava/lang/Object;)V" } : Jvm.MethodName)) ∈ lw_all := lw_g (lw_at lw_m3 10 rfl) rfl
theorem q551 : (Jvm.Cond.fieldLink "TowerTell" (220 : Nat) "TowerTell$Sheet" "row" "Ljava/lang/Object;") ∈ lw_all := lw_g (lw_at lw_m3 15 rfl) rfl
theorem q556 : (Jvm.Cond.methodLink "TowerTell" (241 : Nat) ({ cls := "TowerTell", name := "fails", desc := "(I)I" } : Jvm.MethodName)) ∈ lw_all := lw_g (lw_at lw_m3 20 rfl) rfl
theorem q557 : (Jvm.Cond.privateMethod ({ cls := "TowerTell", name := "fails", desc := "(I)I" } : Jvm.MethodName)) ∈ lw_tbl := lw_at lw_m3 21 rfl
theorem q558 : (Jvm.Cond.instanceMethod ({ cls := "TowerTell", name := "fails", desc := "(I)I" } : Jvm.MethodName)) ∈ lw_all := lw_g (lw_at lw_m3 22 rfl) rfl
theorem q559 : (Jvm.Cond.code ({ cls := "TowerTell", name := "fails", desc := "(I)I" } : Jvm.MethodName) prog_1_method_44_code (2 : Nat) (Option.some Jvm.ClassFile.FieldType.int)) ∈ lw_all := lw_g (lw_at lw_m3 23 rfl) rfl
theorem q561 : (Jvm.Cond.instanceMethod ({ cls := "TowerTell", name := "lose", desc := "(I)I" } : Jvm.MethodName)) ∈ lw_all := lw_g (lw_at lw_m3 25 rfl) rfl
theorem q562 : (Jvm.Cond.selects "TowerTell" ({ cls := "TowerTell", name := "lose", desc := "(I)I" } : Jvm.MethodName) ({ cls := "TowerTell", name := "lose", desc := "(I)I" } : Jvm.MethodName)) ∈ lw_all := lw_g (lw_at lw_m3 26 rfl) rfl
theorem q563 : (Jvm.Cond.code ({ cls := "TowerTell", name := "lose", desc := "(I)I" } : Jvm.MethodName) prog_1_method_53_code (3 : Nat) (Option.some Jvm.ClassFile.FieldType.int)) ∈ lw_all := lw_g (lw_at lw_m3 27 rfl) rfl
theorem q565 : (Jvm.Cond.instanceMethod ({ cls := "TowerTell", name := "put", desc := "(III)I" } : Jvm.MethodName)) ∈ lw_all := lw_g (lw_at lw_m3 29 rfl) rfl
theorem q566 : (Jvm.Cond.selects "TowerTell" ({ cls := "TowerTell", name := "put", desc := "(III)I" } : Jvm.MethodName) ({ cls := "TowerTell", name := "put", desc := "(III)I" } : Jvm.MethodName)) ∈ lw_all := lw_g (lw_at lw_m3 30 rfl) rfl
theorem q567 : (Jvm.Cond.codeWith ({ cls := "TowerTell", name := "put", desc := "(III)I" } : Jvm.MethodName) prog_1_method_54_code (5 : Nat) (Option.some Jvm.ClassFile.FieldType.int) [((18 : Nat), (33 : Nat), (34 : Nat), (248 : Nat)), ((18 : Nat), (33 : Nat), (42 : Nat), (250 : Nat))]) ∈ lw_all := lw_g (lw_at lw_m3 31 rfl) rfl
theorem q568 : (Jvm.Cond.classLink "TowerTell" (248 : Nat) "java/lang/NullPointerException") ∈ lw_all := lw_g (lw_at lw_m3 32 rfl) rfl
theorem q593 : (Jvm.Cond.classLink "TowerTell" (250 : Nat) "java/lang/IndexOutOfBoundsException") ∈ lw_all := lw_g (lw_at lw_m3 57 rfl) rfl
theorem q612 : (Jvm.Cond.methodLink "TowerTell" (244 : Nat) ({ cls := "TowerTell", name := "setIn", desc := "(Ljava/lang/Object;II)V" } : Jvm.MethodName)) ∈ lw_all := lw_g (lw_at lw_m3 76 rfl) rfl
theorem q613 : (Jvm.Cond.static ({ cls := "TowerTell", name := "setIn", desc := "(Ljava/lang/Object;II)V" } : Jvm.MethodName)) ∈ lw_all := lw_g (lw_at lw_m3 77 rfl) rfl
theorem q614 : (Jvm.Cond.code ({ cls := "TowerTell", name := "setIn", desc := "(Ljava/lang/Object;II)V" } : Jvm.MethodName) prog_1_method_49_code (3 : Nat) (Option.none : Option Jvm.ClassFile.FieldType)) ∈ lw_all := lw_g (lw_at lw_m3 78 rfl) rfl
theorem q615 : (Jvm.Cond.classLink "TowerTell" (213 : Nat) "[B") ∈ lw_all := lw_g (lw_at lw_m3 79 rfl) rfl
theorem q616 : (Jvm.Cond.classLink "TowerTell" (215 : Nat) "[S") ∈ lw_all := lw_g (lw_at lw_m3 80 rfl) rfl
theorem q617 : (Jvm.Cond.classLink "TowerTell" (217 : Nat) "[I") ∈ lw_all := lw_g (lw_at lw_m3 81 rfl) rfl
theorem q619 : (Jvm.Cond.instanceMethod ({ cls := "TowerTell", name := "cell", desc := "(III)J" } : Jvm.MethodName)) ∈ lw_all := lw_g (lw_at lw_m3 83 rfl) rfl
theorem q620 : (Jvm.Cond.selects "TowerTell" ({ cls := "TowerTell", name := "cell", desc := "(III)J" } : Jvm.MethodName) ({ cls := "TowerTell", name := "cell", desc := "(III)J" } : Jvm.MethodName)) ∈ lw_all := lw_g (lw_at lw_m3 84 rfl) rfl
theorem q621 : (Jvm.Cond.codeWith ({ cls := "TowerTell", name := "cell", desc := "(III)J" } : Jvm.MethodName) prog_1_method_55_code (5 : Nat) (Option.some Jvm.ClassFile.FieldType.long) [((28 : Nat), (39 : Nat), (40 : Nat), (248 : Nat)), ((28 : Nat), (39 : Nat), (48 : Nat), (263 : Nat)), ((28 : Nat), (39 : Nat), (56 : Nat), (250 : Nat))]) ∈ lw_all := lw_g (lw_at lw_m3 85 rfl) rfl
theorem q622 : (Jvm.Cond.classLink "TowerTell" (263 : Nat) "java/lang/ClassCastException") ∈ lw_all := lw_g (lw_at lw_m3 86 rfl) rfl
theorem q636 : (Jvm.Cond.methodLink "TowerTell" (252 : Nat) ({ cls := "TowerTell", name := "rowIn", desc := "(I)Ljava/lang/Object;" } : Jvm.MethodName)) ∈ lw_all := lw_g (lw_at lw_m3 100 rfl) rfl
theorem q637 : (Jvm.Cond.privateMethod ({ cls := "TowerTell", name := "rowIn", desc := "(I)Ljava/lang/Object;" } : Jvm.MethodName)) ∈ lw_tbl := lw_at lw_m3 101 rfl
theorem q638 : (Jvm.Cond.instanceMethod ({ cls := "TowerTell", name := "rowIn", desc := "(I)Ljava/lang/Object;" } : Jvm.MethodName)) ∈ lw_all := lw_g (lw_at lw_m3 102 rfl) rfl
theorem q639 : (Jvm.Cond.code ({ cls := "TowerTell", name := "rowIn", desc := "(I)Ljava/lang/Object;" } : Jvm.MethodName) prog_1_method_51_code (2 : Nat) (Option.some (Jvm.ClassFile.FieldType.object "java/lang/Object"))) ∈ lw_all := lw_g (lw_at lw_m3 103 rfl) rfl
theorem q640 : (Jvm.Cond.methodLink "TowerTell" (255 : Nat) ({ cls := "TowerTell", name := "cellOf", desc := "(Ljava/lang/Object;II)I" } : Jvm.MethodName)) ∈ lw_all := lw_g (lw_at lw_m3 104 rfl) rfl
theorem q641 : (Jvm.Cond.static ({ cls := "TowerTell", name := "cellOf", desc := "(Ljava/lang/Object;II)I" } : Jvm.MethodName)) ∈ lw_all := lw_g (lw_at lw_m3 105 rfl) rfl
theorem q642 : (Jvm.Cond.code ({ cls := "TowerTell", name := "cellOf", desc := "(Ljava/lang/Object;II)I" } : Jvm.MethodName) prog_1_method_47_code (3 : Nat) (Option.some Jvm.ClassFile.FieldType.int)) ∈ lw_all := lw_g (lw_at lw_m3 106 rfl) rfl
theorem q643 : (Jvm.Cond.methodLink "TowerTell" (259 : Nat) ({ cls := "TowerTell", name := "failsLong", desc := "(I)J" } : Jvm.MethodName)) ∈ lw_all := lw_g (lw_at lw_m3 107 rfl) rfl
theorem q644 : (Jvm.Cond.privateMethod ({ cls := "TowerTell", name := "failsLong", desc := "(I)J" } : Jvm.MethodName)) ∈ lw_tbl := lw_at lw_m3 108 rfl
theorem q645 : (Jvm.Cond.instanceMethod ({ cls := "TowerTell", name := "failsLong", desc := "(I)J" } : Jvm.MethodName)) ∈ lw_all := lw_g (lw_at lw_m3 109 rfl) rfl
theorem q646 : (Jvm.Cond.code ({ cls := "TowerTell", name := "failsLong", desc := "(I)J" } : Jvm.MethodName) prog_1_method_45_code (2 : Nat) (Option.some Jvm.ClassFile.FieldType.long)) ∈ lw_all := lw_g (lw_at lw_m3 110 rfl) rfl
theorem q648 : (Jvm.Cond.instanceMethod ({ cls := "TowerTell", name := "tower", desc := "(IIII)I" } : Jvm.MethodName)) ∈ lw_all := lw_g (lw_at lw_m3 112 rfl) rfl
theorem q649 : (Jvm.Cond.selects "TowerTell" ({ cls := "TowerTell", name := "tower", desc := "(IIII)I" } : Jvm.MethodName) ({ cls := "TowerTell", name := "tower", desc := "(IIII)I" } : Jvm.MethodName)) ∈ lw_all := lw_g (lw_at lw_m3 113 rfl) rfl
theorem q650 : (Jvm.Cond.code ({ cls := "TowerTell", name := "tower", desc := "(IIII)I" } : Jvm.MethodName) prog_1_method_60_code (5 : Nat) (Option.some Jvm.ClassFile.FieldType.int)) ∈ lw_all := lw_g (lw_at lw_m3 114 rfl) rfl
theorem q651 : (Jvm.Cond.classLink "TowerTell" (303 : Nat) "TowerTell$Laying") ∈ lw_all := lw_g (lw_at lw_m3 115 rfl) rfl
theorem q653 : (Jvm.Cond.methodLink "TowerTell" (305 : Nat) ({ cls := "TowerTell$Laying", name := "<init>", desc := "(LTowerTell;IIII)V" } : Jvm.MethodName)) ∈ lw_all := lw_g (lw_at lw_m3 117 rfl) rfl
theorem q665 : (Jvm.Cond.fieldLink "TowerTell" (281 : Nat) "TowerTell$Looking" "sheet" "I") ∈ lw_all := lw_g (lw_at lw_m3 129 rfl) rfl
theorem q667 : (Jvm.Cond.fieldLink "TowerTell" (286 : Nat) "TowerTell$Looking" "lane" "I") ∈ lw_all := lw_g (lw_at lw_m3 131 rfl) rfl
theorem q687 : (Jvm.Cond.methodLink "TowerTell" (299 : Nat) ({ cls := "TowerTell", name := "looked", desc := "(LTowerTell$Looking;Z)I" } : Jvm.MethodName)) ∈ lw_all := lw_g (lw_at lw_m3 151 rfl) rfl
theorem q688 : (Jvm.Cond.privateMethod ({ cls := "TowerTell", name := "looked", desc := "(LTowerTell$Looking;Z)I" } : Jvm.MethodName)) ∈ lw_tbl := lw_at lw_m3 152 rfl
theorem q689 : (Jvm.Cond.instanceMethod ({ cls := "TowerTell", name := "looked", desc := "(LTowerTell$Looking;Z)I" } : Jvm.MethodName)) ∈ lw_all := lw_g (lw_at lw_m3 153 rfl) rfl
theorem q690 : (Jvm.Cond.code ({ cls := "TowerTell", name := "looked", desc := "(LTowerTell$Looking;Z)I" } : Jvm.MethodName) prog_1_method_58_code (3 : Nat) (Option.some Jvm.ClassFile.FieldType.int)) ∈ lw_all := lw_g (lw_at lw_m3 154 rfl) rfl
theorem q691 : (Jvm.Cond.methodLink "TowerTell" (289 : Nat) ({ cls := "TowerTell$Looking", name := "tried", desc := "()I" } : Jvm.MethodName)) ∈ lw_all := lw_g (lw_at lw_m3 155 rfl) rfl
theorem q729 : (Jvm.Cond.static ({ cls := "TowerTell", name := "cellsOf", desc := "(Ljava/lang/Object;III)[I" } : Jvm.MethodName)) ∈ lw_all := lw_g (lw_at lw_m3 193 rfl) rfl
theorem q730 : (Jvm.Cond.code ({ cls := "TowerTell", name := "cellsOf", desc := "(Ljava/lang/Object;III)[I" } : Jvm.MethodName) prog_1_method_57_code (8 : Nat) (Option.some (Jvm.ClassFile.FieldType.array Jvm.ClassFile.FieldType.int))) ∈ lw_all := lw_g (lw_at lw_m3 194 rfl) rfl
theorem q731 : (Jvm.Cond.methodLink "TowerTell" (270 : Nat) ({ cls := "TowerTell", name := "sizeOf", desc := "(Ljava/lang/Object;I)I" } : Jvm.MethodName)) ∈ lw_all := lw_g (lw_at lw_m3 195 rfl) rfl
theorem q732 : (Jvm.Cond.static ({ cls := "TowerTell", name := "sizeOf", desc := "(Ljava/lang/Object;I)I" } : Jvm.MethodName)) ∈ lw_all := lw_g (lw_at lw_m3 196 rfl) rfl
theorem q733 : (Jvm.Cond.code ({ cls := "TowerTell", name := "sizeOf", desc := "(Ljava/lang/Object;I)I" } : Jvm.MethodName) prog_1_method_48_code (2 : Nat) (Option.some Jvm.ClassFile.FieldType.int)) ∈ lw_all := lw_g (lw_at lw_m3 197 rfl) rfl
theorem q734 : (Jvm.Cond.methodLink "TowerTell" (274 : Nat) ({ cls := "java/lang/Math", name := "min", desc := "(II)I" } : Jvm.MethodName)) ∈ lw_all := lw_g (lw_at lw_m3 198 rfl) rfl
theorem q735 : (Jvm.Cond.methodLink "TowerTell" (277 : Nat) ({ cls := "TowerTell", name := "need", desc := "(Z)V" } : Jvm.MethodName)) ∈ lw_all := lw_g (lw_at lw_m3 199 rfl) rfl
theorem q736 : (Jvm.Cond.static ({ cls := "TowerTell", name := "need", desc := "(Z)V" } : Jvm.MethodName)) ∈ lw_all := lw_g (lw_at lw_m3 200 rfl) rfl
theorem q737 : (Jvm.Cond.code ({ cls := "TowerTell", name := "need", desc := "(Z)V" } : Jvm.MethodName) prog_1_method_56_code (1 : Nat) (Option.none : Option Jvm.ClassFile.FieldType)) ∈ lw_all := lw_g (lw_at lw_m3 201 rfl) rfl
theorem q746 : (Jvm.Cond.stringRef "TowerTell" (265 : Nat) "not all there") ∈ lw_tbl := lw_at lw_m3 210 rfl
theorem q747 : (Jvm.Cond.methodLink "TowerTell" (267 : Nat) ({ cls := "java/lang/IndexOutOfBoundsException", name := "<init>", desc := "(Ljava/lang/String;)V" } : Jvm.MethodName)) ∈ lw_all := lw_g (lw_at lw_m3 211 rfl) rfl
theorem q757 : (Jvm.Cond.privateMethod ({ cls := "TowerTell", name := "newTower", desc := "([I)I" } : Jvm.MethodName)) ∈ lw_tbl := lw_at lw_m3 221 rfl
theorem q758 : (Jvm.Cond.instanceMethod ({ cls := "TowerTell", name := "newTower", desc := "([I)I" } : Jvm.MethodName)) ∈ lw_all := lw_g (lw_at lw_m3 222 rfl) rfl
theorem q759 : (Jvm.Cond.code ({ cls := "TowerTell", name := "newTower", desc := "([I)I" } : Jvm.MethodName) prog_1_method_11_code (8 : Nat) (Option.some Jvm.ClassFile.FieldType.int)) ∈ lw_all := lw_g (lw_at lw_m3 223 rfl) rfl
theorem q760 : (Jvm.Cond.methodLink "TowerTell" (66 : Nat) ({ cls := "TowerTell", name := "codeAt", desc := "([II)I" } : Jvm.MethodName)) ∈ lw_all := lw_g (lw_at lw_m3 224 rfl) rfl
theorem q761 : (Jvm.Cond.static ({ cls := "TowerTell", name := "codeAt", desc := "([II)I" } : Jvm.MethodName)) ∈ lw_all := lw_g (lw_at lw_m3 225 rfl) rfl
theorem q762 : (Jvm.Cond.code ({ cls := "TowerTell", name := "codeAt", desc := "([II)I" } : Jvm.MethodName) prog_1_method_8_code (2 : Nat) (Option.some Jvm.ClassFile.FieldType.int)) ∈ lw_all := lw_g (lw_at lw_m3 226 rfl) rfl
theorem q763 : (Jvm.Cond.methodLink "TowerTell" (70 : Nat) ({ cls := "TowerTell", name := "isFigure", desc := "([IIII)Z" } : Jvm.MethodName)) ∈ lw_all := lw_g (lw_at lw_m3 227 rfl) rfl
theorem q764 : (Jvm.Cond.static ({ cls := "TowerTell", name := "isFigure", desc := "([IIII)Z" } : Jvm.MethodName)) ∈ lw_all := lw_g (lw_at lw_m3 228 rfl) rfl
theorem q765 : (Jvm.Cond.code ({ cls := "TowerTell", name := "isFigure", desc := "([IIII)Z" } : Jvm.MethodName) prog_1_method_9_code (4 : Nat) (Option.some Jvm.ClassFile.FieldType.boolean)) ∈ lw_all := lw_g (lw_at lw_m3 229 rfl) rfl
theorem q766 : (Jvm.Cond.methodLink "TowerTell" (74 : Nat) ({ cls := "java/util/ArrayList", name := "<init>", desc := "(I)V" } : Jvm.MethodName)) ∈ lw_all := lw_g (lw_at lw_m3 230 rfl) rfl
theorem q771 : (Jvm.Cond.methodLink "TowerTell" (77 : Nat) ({ cls := "TowerTell", name := "figureAt", desc := "([II)I" } : Jvm.MethodName)) ∈ lw_all := lw_g (lw_at lw_m3 235 rfl) rfl
theorem q772 : (Jvm.Cond.static ({ cls := "TowerTell", name := "figureAt", desc := "([II)I" } : Jvm.MethodName)) ∈ lw_all := lw_g (lw_at lw_m3 236 rfl) rfl
theorem q773 : (Jvm.Cond.code ({ cls := "TowerTell", name := "figureAt", desc := "([II)I" } : Jvm.MethodName) prog_1_method_10_code (2 : Nat) (Option.some Jvm.ClassFile.FieldType.int)) ∈ lw_all := lw_g (lw_at lw_m3 237 rfl) rfl
theorem q774 : (Jvm.Cond.methodLink "TowerTell" (80 : Nat) ({ cls := "TowerTell", name := "madeOf", desc := "(IIII)LTowerTell$Person;" } : Jvm.MethodName)) ∈ lw_all := lw_g (lw_at lw_m3 238 rfl) rfl
theorem q775 : (Jvm.Cond.privateMethod ({ cls := "TowerTell", name := "madeOf", desc := "(IIII)LTowerTell$Person;" } : Jvm.MethodName)) ∈ lw_tbl := lw_at lw_m3 239 rfl
theorem q776 : (Jvm.Cond.instanceMethod ({ cls := "TowerTell", name := "madeOf", desc := "(IIII)LTowerTell$Person;" } : Jvm.MethodName)) ∈ lw_all := lw_g (lw_at lw_m4 0 rfl) rfl
theorem q777 : (Jvm.Cond.code ({ cls := "TowerTell", name := "madeOf", desc := "(IIII)LTowerTell$Person;" } : Jvm.MethodName) prog_1_method_4_code (5 : Nat) (Option.some (Jvm.ClassFile.FieldType.object "TowerTell$Person"))) ∈ lw_all := lw_g (lw_at lw_m4 1 rfl) rfl
theorem q779 : (Jvm.Cond.methodLink "TowerTell" (39 : Nat) ({ cls := "TowerTell$Person", name := "<init>", desc := "(LTowerTell;III)V" } : Jvm.MethodName)) ∈ lw_all := lw_g (lw_at lw_m4 3 rfl) rfl
theorem q790 : (Jvm.Cond.fieldLink "TowerTell" (99 : Nat) "TowerTell$Person" "deeds" "I") ∈ lw_all := lw_g (lw_at lw_m4 14 rfl) rfl
theorem q792 : (Jvm.Cond.fieldLink "TowerTell" (122 : Nat) "TowerTell$Person" "known" "I") ∈ lw_all := lw_g (lw_at lw_m4 16 rfl) rfl
theorem q803 : (Jvm.Cond.classLink "TowerTell" (42 : Nat) "TowerTell$Proud") ∈ lw_all := lw_g (lw_at lw_m4 27 rfl) rfl
theorem q805 : (Jvm.Cond.methodLink "TowerTell" (44 : Nat) ({ cls := "TowerTell$Proud", name := "<init>", desc := "(LTowerTell;III)V" } : Jvm.MethodName)) ∈ lw_all := lw_g (lw_at lw_m4 29 rfl) rfl
theorem q816 : (Jvm.Cond.classLink "TowerTell" (45 : Nat) "TowerTell$Abject") ∈ lw_all := lw_g (lw_at lw_m4 40 rfl) rfl
theorem q818 : (Jvm.Cond.methodLink "TowerTell" (47 : Nat) ({ cls := "TowerTell$Abject", name := "<init>", desc := "(LTowerTell;III)V" } : Jvm.MethodName)) ∈ lw_all := lw_g (lw_at lw_m4 42 rfl) rfl
theorem q831 : (Jvm.Cond.interfaceEntry "TowerTell" (88 : Nat)) ∈ lw_tbl := lw_at lw_m4 55 rfl
theorem q832 : (Jvm.Cond.methodLink "TowerTell" (88 : Nat) ({ cls := "java/util/List", name := "clear", desc := "()V" } : Jvm.MethodName)) ∈ lw_all := lw_g (lw_at lw_m4 56 rfl) rfl
theorem q840 : (Jvm.Cond.interfaceEntry "TowerTell" (91 : Nat)) ∈ lw_tbl := lw_at lw_m4 64 rfl
theorem q841 : (Jvm.Cond.methodLink "TowerTell" (91 : Nat) ({ cls := "java/util/List", name := "addAll", desc := "(Ljava/util/Collection;)Z" } : Jvm.MethodName)) ∈ lw_all := lw_g (lw_at lw_m4 65 rfl) rfl
theorem q863 : (Jvm.Cond.privateMethod ({ cls := "TowerTell", name := "pairsBarred", desc := "([I)I" } : Jvm.MethodName)) ∈ lw_tbl := lw_at lw_m4 87 rfl
theorem q864 : (Jvm.Cond.instanceMethod ({ cls := "TowerTell", name := "pairsBarred", desc := "([I)I" } : Jvm.MethodName)) ∈ lw_all := lw_g (lw_at lw_m4 88 rfl) rfl
theorem q865 : (Jvm.Cond.code ({ cls := "TowerTell", name := "pairsBarred", desc := "([I)I" } : Jvm.MethodName) prog_1_method_24_code (3 : Nat) (Option.some Jvm.ClassFile.FieldType.int)) ∈ lw_all := lw_g (lw_at lw_m4 89 rfl) rfl
theorem q874 : (Jvm.Cond.instanceMethod ({ cls := "TowerTell", name := "days", desc := "(IIIII)I" } : Jvm.MethodName)) ∈ lw_all := lw_g (lw_at lw_m4 98 rfl) rfl
theorem q875 : (Jvm.Cond.selects "TowerTell" ({ cls := "TowerTell", name := "days", desc := "(IIIII)I" } : Jvm.MethodName) ({ cls := "TowerTell", name := "days", desc := "(IIIII)I" } : Jvm.MethodName)) ∈ lw_all := lw_g (lw_at lw_m4 99 rfl) rfl
theorem q876 : (Jvm.Cond.code ({ cls := "TowerTell", name := "days", desc := "(IIIII)I" } : Jvm.MethodName) prog_1_method_61_code (8 : Nat) (Option.some Jvm.ClassFile.FieldType.int)) ∈ lw_all := lw_g (lw_at lw_m4 100 rfl) rfl
theorem q877 : (Jvm.Cond.constantLong "TowerTell" (306 : Nat) (10 : Int64)) ∈ lw_all := lw_g (lw_at lw_m4 101 rfl) rfl
theorem q878 : (Jvm.Cond.constantLong "TowerTell" (308 : Nat) (13 : Int64)) ∈ lw_all := lw_g (lw_at lw_m4 102 rfl) rfl
theorem q879 : (Jvm.Cond.constantLong "TowerTell" (292 : Nat) (20 : Int64)) ∈ lw_all := lw_g (lw_at lw_m4 103 rfl) rfl
theorem q880 : (Jvm.Cond.constantLong "TowerTell" (310 : Nat) (23 : Int64)) ∈ lw_all := lw_g (lw_at lw_m4 104 rfl) rfl
theorem q881 : (Jvm.Cond.methodLink "TowerTell" (312 : Nat) ({ cls := "TowerTell", name := "rose", desc := "(IIIIZ)I" } : Jvm.MethodName)) ∈ lw_all := lw_g (lw_at lw_m4 105 rfl) rfl
theorem q882 : (Jvm.Cond.privateMethod ({ cls := "TowerTell", name := "rose", desc := "(IIIIZ)I" } : Jvm.MethodName)) ∈ lw_tbl := lw_at lw_m4 106 rfl
theorem q883 : (Jvm.Cond.instanceMethod ({ cls := "TowerTell", name := "rose", desc := "(IIIIZ)I" } : Jvm.MethodName)) ∈ lw_all := lw_g (lw_at lw_m4 107 rfl) rfl
theorem q884 : (Jvm.Cond.code ({ cls := "TowerTell", name := "rose", desc := "(IIIIZ)I" } : Jvm.MethodName) prog_1_method_59_code (7 : Nat) (Option.some Jvm.ClassFile.FieldType.int)) ∈ lw_all := lw_g (lw_at lw_m4 108 rfl) rfl
theorem q885 : (Jvm.Cond.classLink "TowerTell" (294 : Nat) "TowerTell$Rising") ∈ lw_all := lw_g (lw_at lw_m4 109 rfl) rfl
theorem q887 : (Jvm.Cond.methodLink "TowerTell" (296 : Nat) ({ cls := "TowerTell$Rising", name := "<init>", desc := "(LTowerTell;IIII)V" } : Jvm.MethodName)) ∈ lw_all := lw_g (lw_at lw_m4 111 rfl) rfl
theorem q901 : (Jvm.Cond.methodLink "TowerTell" (319 : Nat) ({ cls := "TowerTell", name := "daysBy", desc := "([II)I" } : Jvm.MethodName)) ∈ lw_all := lw_g (lw_at lw_m4 125 rfl) rfl
theorem q902 : (Jvm.Cond.privateMethod ({ cls := "TowerTell", name := "daysBy", desc := "([II)I" } : Jvm.MethodName)) ∈ lw_tbl := lw_at lw_m4 126 rfl
theorem q903 : (Jvm.Cond.instanceMethod ({ cls := "TowerTell", name := "daysBy", desc := "([II)I" } : Jvm.MethodName)) ∈ lw_all := lw_g (lw_at lw_m4 127 rfl) rfl
theorem q904 : (Jvm.Cond.code ({ cls := "TowerTell", name := "daysBy", desc := "([II)I" } : Jvm.MethodName) prog_1_method_30_code (4 : Nat) (Option.some Jvm.ClassFile.FieldType.int)) ∈ lw_all := lw_g (lw_at lw_m4 128 rfl) rfl
theorem q905 : (Jvm.Cond.methodLink "TowerTell" (162 : Nat) ({ cls := "TowerTell", name := "keep", desc := "()V" } : Jvm.MethodName)) ∈ lw_all := lw_g (lw_at lw_m4 129 rfl) rfl
theorem q906 : (Jvm.Cond.privateMethod ({ cls := "TowerTell", name := "keep", desc := "()V" } : Jvm.MethodName)) ∈ lw_tbl := lw_at lw_m4 130 rfl
theorem q907 : (Jvm.Cond.instanceMethod ({ cls := "TowerTell", name := "keep", desc := "()V" } : Jvm.MethodName)) ∈ lw_all := lw_g (lw_at lw_m4 131 rfl) rfl
theorem q908 : (Jvm.Cond.code ({ cls := "TowerTell", name := "keep", desc := "()V" } : Jvm.MethodName) prog_1_method_25_code (1 : Nat) (Option.none : Option Jvm.ClassFile.FieldType)) ∈ lw_all := lw_g (lw_at lw_m4 132 rfl) rfl
theorem q909 : (Jvm.Cond.methodLink "TowerTell" (142 : Nat) ({ cls := "java/lang/System", name := "arraycopy", desc := "(Ljava/lang/Object;ILjava/lang/Object;II)V" } : Jvm.MethodName)) ∈ lw_all := lw_g (lw_at lw_m4 133 rfl) rfl
theorem q910 : (Jvm.Cond.methodLink "TowerTell" (165 : Nat) ({ cls := "TowerTell", name := "goDays", desc := "([I)V" } : Jvm.MethodName)) ∈ lw_all := lw_g (lw_at lw_m4 134 rfl) rfl
theorem q911 : (Jvm.Cond.privateMethod ({ cls := "TowerTell", name := "goDays", desc := "([I)V" } : Jvm.MethodName)) ∈ lw_tbl := lw_at lw_m4 135 rfl
theorem q912 : (Jvm.Cond.instanceMethod ({ cls := "TowerTell", name := "goDays", desc := "([I)V" } : Jvm.MethodName)) ∈ lw_all := lw_g (lw_at lw_m4 136 rfl) rfl
theorem q913 : (Jvm.Cond.code ({ cls := "TowerTell", name := "goDays", desc := "([I)V" } : Jvm.MethodName) prog_1_method_27_code (3 : Nat) (Option.none : Option Jvm.ClassFile.FieldType)) ∈ lw_all := lw_g (lw_at lw_m4 137 rfl) rfl
theorem q914 : (Jvm.Cond.methodLink "TowerTell" (169 : Nat) ({ cls := "TowerTell", name := "thenBy", desc := "(I)I" } : Jvm.MethodName)) ∈ lw_all := lw_g (lw_at lw_m4 138 rfl) rfl
theorem q915 : (Jvm.Cond.privateMethod ({ cls := "TowerTell", name := "thenBy", desc := "(I)I" } : Jvm.MethodName)) ∈ lw_tbl := lw_at lw_m4 139 rfl
theorem q916 : (Jvm.Cond.instanceMethod ({ cls := "TowerTell", name := "thenBy", desc := "(I)I" } : Jvm.MethodName)) ∈ lw_all := lw_g (lw_at lw_m4 140 rfl) rfl
theorem q917 : (Jvm.Cond.code ({ cls := "TowerTell", name := "thenBy", desc := "(I)I" } : Jvm.MethodName) prog_1_method_29_code (3 : Nat) (Option.some Jvm.ClassFile.FieldType.int)) ∈ lw_all := lw_g (lw_at lw_m4 141 rfl) rfl
theorem q918 : (Jvm.Cond.methodLink "TowerTell" (159 : Nat) ({ cls := "TowerTell", name := "highestNow", desc := "()I" } : Jvm.MethodName)) ∈ lw_all := lw_g (lw_at lw_m4 142 rfl) rfl
theorem q919 : (Jvm.Cond.privateMethod ({ cls := "TowerTell", name := "highestNow", desc := "()I" } : Jvm.MethodName)) ∈ lw_tbl := lw_at lw_m4 143 rfl
theorem q920 : (Jvm.Cond.instanceMethod ({ cls := "TowerTell", name := "highestNow", desc := "()I" } : Jvm.MethodName)) ∈ lw_all := lw_g (lw_at lw_m4 144 rfl) rfl
theorem q921 : (Jvm.Cond.code ({ cls := "TowerTell", name := "highestNow", desc := "()I" } : Jvm.MethodName) prog_1_method_28_code (3 : Nat) (Option.some Jvm.ClassFile.FieldType.int)) ∈ lw_all := lw_g (lw_at lw_m4 145 rfl) rfl
theorem q922 : (Jvm.Cond.methodLink "TowerTell" (154 : Nat) ({ cls := "java/lang/Math", name := "max", desc := "(II)I" } : Jvm.MethodName)) ∈ lw_all := lw_g (lw_at lw_m4 146 rfl) rfl
theorem q923 : (Jvm.Cond.methodLink "TowerTell" (172 : Nat) ({ cls := "TowerTell", name := "putBack", desc := "()V" } : Jvm.MethodName)) ∈ lw_all := lw_g (lw_at lw_m4 147 rfl) rfl
theorem q924 : (Jvm.Cond.privateMethod ({ cls := "TowerTell", name := "putBack", desc := "()V" } : Jvm.MethodName)) ∈ lw_tbl := lw_at lw_m4 148 rfl
theorem q925 : (Jvm.Cond.instanceMethod ({ cls := "TowerTell", name := "putBack", desc := "()V" } : Jvm.MethodName)) ∈ lw_all := lw_g (lw_at lw_m4 149 rfl) rfl
theorem q926 : (Jvm.Cond.code ({ cls := "TowerTell", name := "putBack", desc := "()V" } : Jvm.MethodName) prog_1_method_26_code (1 : Nat) (Option.none : Option Jvm.ClassFile.FieldType)) ∈ lw_all := lw_g (lw_at lw_m4 150 rfl) rfl
theorem q928 : (Jvm.Cond.instanceMethod ({ cls := "TowerTell", name := "weights", desc := "(IIIII)I" } : Jvm.MethodName)) ∈ lw_all := lw_g (lw_at lw_m4 152 rfl) rfl
theorem q929 : (Jvm.Cond.selects "TowerTell" ({ cls := "TowerTell", name := "weights", desc := "(IIIII)I" } : Jvm.MethodName) ({ cls := "TowerTell", name := "weights", desc := "(IIIII)I" } : Jvm.MethodName)) ∈ lw_all := lw_g (lw_at lw_m4 153 rfl) rfl
theorem q930 : (Jvm.Cond.code ({ cls := "TowerTell", name := "weights", desc := "(IIIII)I" } : Jvm.MethodName) prog_1_method_62_code (7 : Nat) (Option.some Jvm.ClassFile.FieldType.int)) ∈ lw_all := lw_g (lw_at lw_m4 154 rfl) rfl
theorem q931 : (Jvm.Cond.methodLink "TowerTell" (322 : Nat) ({ cls := "TowerTell", name := "weightsBy", desc := "([II)I" } : Jvm.MethodName)) ∈ lw_all := lw_g (lw_at lw_m4 155 rfl) rfl
theorem q932 : (Jvm.Cond.privateMethod ({ cls := "TowerTell", name := "weightsBy", desc := "([II)I" } : Jvm.MethodName)) ∈ lw_tbl := lw_at lw_m4 156 rfl
theorem q933 : (Jvm.Cond.instanceMethod ({ cls := "TowerTell", name := "weightsBy", desc := "([II)I" } : Jvm.MethodName)) ∈ lw_all := lw_g (lw_at lw_m4 157 rfl) rfl
theorem q934 : (Jvm.Cond.code ({ cls := "TowerTell", name := "weightsBy", desc := "([II)I" } : Jvm.MethodName) prog_1_method_38_code (6 : Nat) (Option.some Jvm.ClassFile.FieldType.int)) ∈ lw_all := lw_g (lw_at lw_m4 158 rfl) rfl
theorem q935 : (Jvm.Cond.methodLink "TowerTell" (196 : Nat) ({ cls := "TowerTell", name := "areSo", desc := "([I)Z" } : Jvm.MethodName)) ∈ lw_all := lw_g (lw_at lw_m4 159 rfl) rfl
theorem q936 : (Jvm.Cond.privateMethod ({ cls := "TowerTell", name := "areSo", desc := "([I)Z" } : Jvm.MethodName)) ∈ lw_tbl := lw_at lw_m4 160 rfl
theorem q937 : (Jvm.Cond.instanceMethod ({ cls := "TowerTell", name := "areSo", desc := "([I)Z" } : Jvm.MethodName)) ∈ lw_all := lw_g (lw_at lw_m4 161 rfl) rfl
theorem q938 : (Jvm.Cond.code ({ cls := "TowerTell", name := "areSo", desc := "([I)Z" } : Jvm.MethodName) prog_1_method_37_code (4 : Nat) (Option.some Jvm.ClassFile.FieldType.boolean)) ∈ lw_all := lw_g (lw_at lw_m4 162 rfl) rfl
theorem q940 : (Jvm.Cond.instanceMethod ({ cls := "TowerTell", name := "kinds", desc := "(IIIII)I" } : Jvm.MethodName)) ∈ lw_all := lw_g (lw_at lw_m4 164 rfl) rfl
theorem q941 : (Jvm.Cond.selects "TowerTell" ({ cls := "TowerTell", name := "kinds", desc := "(IIIII)I" } : Jvm.MethodName) ({ cls := "TowerTell", name := "kinds", desc := "(IIIII)I" } : Jvm.MethodName)) ∈ lw_all := lw_g (lw_at lw_m4 165 rfl) rfl
theorem q942 : (Jvm.Cond.code ({ cls := "TowerTell", name := "kinds", desc := "(IIIII)I" } : Jvm.MethodName) prog_1_method_63_code (7 : Nat) (Option.some Jvm.ClassFile.FieldType.int)) ∈ lw_all := lw_g (lw_at lw_m4 166 rfl) rfl
theorem q943 : (Jvm.Cond.methodLink "TowerTell" (325 : Nat) ({ cls := "TowerTell", name := "kindsBy", desc := "([II)I" } : Jvm.MethodName)) ∈ lw_all := lw_g (lw_at lw_m4 167 rfl) rfl
theorem q944 : (Jvm.Cond.privateMethod ({ cls := "TowerTell", name := "kindsBy", desc := "([II)I" } : Jvm.MethodName)) ∈ lw_tbl := lw_at lw_m4 168 rfl
theorem q945 : (Jvm.Cond.instanceMethod ({ cls := "TowerTell", name := "kindsBy", desc := "([II)I" } : Jvm.MethodName)) ∈ lw_all := lw_g (lw_at lw_m4 169 rfl) rfl
theorem q946 : (Jvm.Cond.code ({ cls := "TowerTell", name := "kindsBy", desc := "([II)I" } : Jvm.MethodName) prog_1_method_39_code (6 : Nat) (Option.some Jvm.ClassFile.FieldType.int)) ∈ lw_all := lw_g (lw_at lw_m4 170 rfl) rfl
theorem q947 : (Jvm.Cond.interfaceEntry "TowerTell" (200 : Nat)) ∈ lw_tbl := lw_at lw_m4 171 rfl
theorem q948 : (Jvm.Cond.methodLink "TowerTell" (200 : Nat) ({ cls := "java/util/List", name := "set", desc := "(ILjava/lang/Object;)Ljava/lang/Object;" } : Jvm.MethodName)) ∈ lw_all := lw_g (lw_at lw_m4 172 rfl) rfl
theorem q957 : (Jvm.Cond.instanceMethod ({ cls := "TowerTell", name := "knew", desc := "(IIIII)I" } : Jvm.MethodName)) ∈ lw_all := lw_g (lw_at lw_m4 181 rfl) rfl
theorem q958 : (Jvm.Cond.selects "TowerTell" ({ cls := "TowerTell", name := "knew", desc := "(IIIII)I" } : Jvm.MethodName) ({ cls := "TowerTell", name := "knew", desc := "(IIIII)I" } : Jvm.MethodName)) ∈ lw_all := lw_g (lw_at lw_m4 182 rfl) rfl
theorem q959 : (Jvm.Cond.code ({ cls := "TowerTell", name := "knew", desc := "(IIIII)I" } : Jvm.MethodName) prog_1_method_64_code (7 : Nat) (Option.some Jvm.ClassFile.FieldType.int)) ∈ lw_all := lw_g (lw_at lw_m4 183 rfl) rfl
theorem q960 : (Jvm.Cond.methodLink "TowerTell" (328 : Nat) ({ cls := "TowerTell", name := "knewBy", desc := "([II)I" } : Jvm.MethodName)) ∈ lw_all := lw_g (lw_at lw_m4 184 rfl) rfl
theorem q961 : (Jvm.Cond.privateMethod ({ cls := "TowerTell", name := "knewBy", desc := "([II)I" } : Jvm.MethodName)) ∈ lw_tbl := lw_at lw_m4 185 rfl
theorem q962 : (Jvm.Cond.instanceMethod ({ cls := "TowerTell", name := "knewBy", desc := "([II)I" } : Jvm.MethodName)) ∈ lw_all := lw_g (lw_at lw_m4 186 rfl) rfl
theorem q963 : (Jvm.Cond.code ({ cls := "TowerTell", name := "knewBy", desc := "([II)I" } : Jvm.MethodName) prog_1_method_40_code (7 : Nat) (Option.some Jvm.ClassFile.FieldType.int)) ∈ lw_all := lw_g (lw_at lw_m4 187 rfl) rfl
theorem q965 : (Jvm.Cond.instanceMethod ({ cls := "TowerTell", name := "copy", desc := "(IIIII)I" } : Jvm.MethodName)) ∈ lw_all := lw_g (lw_at lw_m4 189 rfl) rfl
theorem q966 : (Jvm.Cond.selects "TowerTell" ({ cls := "TowerTell", name := "copy", desc := "(IIIII)I" } : Jvm.MethodName) ({ cls := "TowerTell", name := "copy", desc := "(IIIII)I" } : Jvm.MethodName)) ∈ lw_all := lw_g (lw_at lw_m4 190 rfl) rfl
theorem q967 : (Jvm.Cond.code ({ cls := "TowerTell", name := "copy", desc := "(IIIII)I" } : Jvm.MethodName) prog_1_method_65_code (6 : Nat) (Option.some Jvm.ClassFile.FieldType.int)) ∈ lw_all := lw_g (lw_at lw_m4 191 rfl) rfl
theorem q968 : (Jvm.Cond.classLink "TowerTell" (331 : Nat) "TowerTell$Copying") ∈ lw_all := lw_g (lw_at lw_m4 192 rfl) rfl
theorem q970 : (Jvm.Cond.methodLink "TowerTell" (333 : Nat) ({ cls := "TowerTell$Copying", name := "<init>", desc := "(LTowerTell;IIIII)V" } : Jvm.MethodName)) ∈ lw_all := lw_g (lw_at lw_m4 194 rfl) rfl
theorem q994 : (Jvm.Cond.methodLink "TowerTell" (336 : Nat) ({ cls := "TowerTell$Copying", name := "tried", desc := "()I" } : Jvm.MethodName)) ∈ lw_all := lw_g (lw_at lw_m4 218 rfl) rfl
theorem q998 : (Jvm.Cond.instanceMethod ({ cls := "TowerTell", name := "tell", desc := "(I)I" } : Jvm.MethodName)) ∈ lw_all := lw_g (lw_at lw_m4 222 rfl) rfl
theorem q999 : (Jvm.Cond.selects "TowerTell" ({ cls := "TowerTell", name := "tell", desc := "(I)I" } : Jvm.MethodName) ({ cls := "TowerTell", name := "tell", desc := "(I)I" } : Jvm.MethodName)) ∈ lw_all := lw_g (lw_at lw_m4 223 rfl) rfl
theorem q1000 : (Jvm.Cond.code ({ cls := "TowerTell", name := "tell", desc := "(I)I" } : Jvm.MethodName) prog_1_method_66_code (2 : Nat) (Option.some Jvm.ClassFile.FieldType.int)) ∈ lw_all := lw_g (lw_at lw_m4 224 rfl) rfl
theorem q1001 : (Jvm.Cond.methodLink "TowerTell" (337 : Nat) ({ cls := "TowerTell$Person", name := "said", desc := "()I" } : Jvm.MethodName)) ∈ lw_all := lw_g (lw_at lw_m4 225 rfl) rfl
theorem q1032 : (Jvm.Cond.instanceMethod ({ cls := "TowerTell", name := "greet", desc := "(I)I" } : Jvm.MethodName)) ∈ lw_all := lw_g (lw_at lw_m5 16 rfl) rfl
theorem q1033 : (Jvm.Cond.selects "TowerTell" ({ cls := "TowerTell", name := "greet", desc := "(I)I" } : Jvm.MethodName) ({ cls := "TowerTell", name := "greet", desc := "(I)I" } : Jvm.MethodName)) ∈ lw_all := lw_g (lw_at lw_m5 17 rfl) rfl
theorem q1034 : (Jvm.Cond.code ({ cls := "TowerTell", name := "greet", desc := "(I)I" } : Jvm.MethodName) prog_1_method_67_code (3 : Nat) (Option.some Jvm.ClassFile.FieldType.int)) ∈ lw_all := lw_g (lw_at lw_m5 18 rfl) rfl
theorem q1035 : (Jvm.Cond.classLink "TowerTell" (340 : Nat) "TowerTell$Greeted") ∈ lw_all := lw_g (lw_at lw_m5 19 rfl) rfl
theorem q1036 : (Jvm.Cond.interfaceEntry "TowerTell" (342 : Nat)) ∈ lw_tbl := lw_at lw_m5 20 rfl
theorem q1037 : (Jvm.Cond.methodLink "TowerTell" (342 : Nat) ({ cls := "TowerTell$Greeted", name := "greeted", desc := "()I" } : Jvm.MethodName)) ∈ lw_all := lw_g (lw_at lw_m5 21 rfl) rfl
theorem q1078 : (Jvm.Cond.instanceMethod ({ cls := "TowerTell", name := "as", desc := "(II)I" } : Jvm.MethodName)) ∈ lw_all := lw_g (lw_at lw_m5 62 rfl) rfl
theorem q1079 : (Jvm.Cond.selects "TowerTell" ({ cls := "TowerTell", name := "as", desc := "(II)I" } : Jvm.MethodName) ({ cls := "TowerTell", name := "as", desc := "(II)I" } : Jvm.MethodName)) ∈ lw_all := lw_g (lw_at lw_m5 63 rfl) rfl
theorem q1080 : (Jvm.Cond.code ({ cls := "TowerTell", name := "as", desc := "(II)I" } : Jvm.MethodName) prog_1_method_68_code (3 : Nat) (Option.some Jvm.ClassFile.FieldType.int)) ∈ lw_all := lw_g (lw_at lw_m5 64 rfl) rfl
theorem q1081 : (Jvm.Cond.classLink "TowerTell" (345 : Nat) "TowerTell$Taking") ∈ lw_all := lw_g (lw_at lw_m5 65 rfl) rfl
theorem q1083 : (Jvm.Cond.methodLink "TowerTell" (347 : Nat) ({ cls := "TowerTell$Taking", name := "<init>", desc := "(LTowerTell;LTowerTell$Person;I)V" } : Jvm.MethodName)) ∈ lw_all := lw_g (lw_at lw_m5 67 rfl) rfl
theorem q1098 : (Jvm.Cond.methodLink "TowerTell" (350 : Nat) ({ cls := "TowerTell$Taking", name := "tried", desc := "()I" } : Jvm.MethodName)) ∈ lw_all := lw_g (lw_at lw_m5 82 rfl) rfl
theorem q1102 : (Jvm.Cond.instanceMethod ({ cls := "TowerTell", name := "trace", desc := "()I" } : Jvm.MethodName)) ∈ lw_all := lw_g (lw_at lw_m5 86 rfl) rfl
theorem q1103 : (Jvm.Cond.selects "TowerTell" ({ cls := "TowerTell", name := "trace", desc := "()I" } : Jvm.MethodName) ({ cls := "TowerTell", name := "trace", desc := "()I" } : Jvm.MethodName)) ∈ lw_all := lw_g (lw_at lw_m5 87 rfl) rfl
theorem q1104 : (Jvm.Cond.code ({ cls := "TowerTell", name := "trace", desc := "()I" } : Jvm.MethodName) prog_1_method_69_code (1 : Nat) (Option.some Jvm.ClassFile.FieldType.int)) ∈ lw_all := lw_g (lw_at lw_m5 88 rfl) rfl
theorem q1106 : (Jvm.Cond.instanceMethod ({ cls := "TowerTell", name := "fault", desc := "()I" } : Jvm.MethodName)) ∈ lw_all := lw_g (lw_at lw_m5 90 rfl) rfl
theorem q1107 : (Jvm.Cond.selects "TowerTell" ({ cls := "TowerTell", name := "fault", desc := "()I" } : Jvm.MethodName) ({ cls := "TowerTell", name := "fault", desc := "()I" } : Jvm.MethodName)) ∈ lw_all := lw_g (lw_at lw_m5 91 rfl) rfl
theorem q1108 : (Jvm.Cond.code ({ cls := "TowerTell", name := "fault", desc := "()I" } : Jvm.MethodName) prog_1_method_70_code (1 : Nat) (Option.some Jvm.ClassFile.FieldType.int)) ∈ lw_all := lw_g (lw_at lw_m5 92 rfl) rfl
theorem q1110 : (Jvm.Cond.instanceMethod ({ cls := "TowerTell", name := "many", desc := "(I)I" } : Jvm.MethodName)) ∈ lw_all := lw_g (lw_at lw_m5 94 rfl) rfl
theorem q1111 : (Jvm.Cond.selects "TowerTell" ({ cls := "TowerTell", name := "many", desc := "(I)I" } : Jvm.MethodName) ({ cls := "TowerTell", name := "many", desc := "(I)I" } : Jvm.MethodName)) ∈ lw_all := lw_g (lw_at lw_m5 95 rfl) rfl
theorem q1112 : (Jvm.Cond.code ({ cls := "TowerTell", name := "many", desc := "(I)I" } : Jvm.MethodName) prog_1_method_71_code (2 : Nat) (Option.some Jvm.ClassFile.FieldType.int)) ∈ lw_all := lw_g (lw_at lw_m5 96 rfl) rfl
theorem q1440 : (Jvm.Cond.castable "TowerTell" "java/lang/Object") ∈ lw_tbl := lw_at lw_m6 184 rfl
theorem in_X0 : ∀ w ∈ wsX00, w ∈ lw_all := lw_in wsX00 [142, 144, 146, 148, 150, 152, 154, 156, 158, 160, 162, 164] (by decide +kernel) (by decide +kernel)
