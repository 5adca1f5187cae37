/-! TroughTreaty -/
set_option maxRecDepth 100000
def RX1 : String := "TroughTreaty"
def TX1 : u_T := fun k => match k with
  | 0 => ("TroughTreaty", "tape", "[B", true)
  | 1 => ("TroughTreaty", "taped", "I", false)
  | 2 => ("TroughTreaty", "faultKind", "I", false)
  | 3 => ("TroughTreaty", "faultPlace", "I", false)
  | 4 => ("TroughTreaty", "keptMany", "I", false)
  | 5 => ("TroughTreaty", "reader", "LTroughTreaty$Reader;", true)
  | 6 => ("TroughTreaty", "road", "LTroughTreaty$Road;", false)
  | 7 => ("TroughTreaty", "names", "[J", true)
  | 8 => ("TroughTreaty", "nature", "LTroughTreaty$Nature;", true)
  | 9 => ("TroughTreaty", "now", "LTroughTreaty$State;", true)
  | 10 => ("TroughTreaty", "other", "LTroughTreaty$State;", true)
  | 11 => ("TroughTreaty", "image", "LTroughTreaty$State;", true)
  | 12 => ("TroughTreaty", "kept", "[LTroughTreaty$State;", true)
  | 13 => ("TroughTreaty", "hasImage", "Z", false)
  | 14 => ("TroughTreaty", "leaves", "[I", true)
  | 15 => ("TroughTreaty", "leavesNext", "[I", true)
  | 16 => ("TroughTreaty", "seen", "Ljava/util/ArrayList;", true)
  | 17 => ("TroughTreaty", "isStruck", "[Z", true)
  | _ => ("TroughTreaty", "known", "I", false)
def tyX1 : Nat → FieldType := fun k => match k with
  | 0 => .array .byte
  | 1 => .int
  | 2 => .int
  | 3 => .int
  | 4 => .int
  | 5 => .object "TroughTreaty$Reader"
  | 6 => .object "TroughTreaty$Road"
  | 7 => .array .long
  | 8 => .object "TroughTreaty$Nature"
  | 9 => .object "TroughTreaty$State"
  | 10 => .object "TroughTreaty$State"
  | 11 => .object "TroughTreaty$State"
  | 12 => .array (.object "TroughTreaty$State")
  | 13 => .boolean
  | 14 => .array .int
  | 15 => .array .int
  | 16 => .object "java/util/ArrayList"
  | 17 => .array .boolean
  | _ => .int
abbrev wsX10 : List Cond := u_ws RX1 TX1 19
set_option maxRecDepth 100000 in
theorem nmX1 : ∀ a, a < 19 → ∀ b, b < 19 → a ≠ b → (TX1 a).2.1 ≠ (TX1 b).2.1 := by decide +kernel
set_option maxRecDepth 100000 in
theorem tyX1_ok : ∀ k, k < 19 → parseFieldDescriptor (TX1 k).2.2.1 = some (tyX1 k) := by decide +kernel
abbrev cX1_init : ByteArray := prog_1_method_9_code
def yX1_init : MethodName := ⟨RX1, "<init>", "()V"⟩
def dkwX1_init_6 : List UInt8 := [181, 0, 128, 42, 2, 181, 0, 132, 42, 180, 0, 101, 182, 0, 135, 177]
abbrev dktX1_init_6 : List UInt8 := dkwX1_init_6 ++ []
def dkwX1_init_5 : List UInt8 := [188, 10, 181, 0, 119, 42, 187, 0, 24, 89, 16, 24, 183, 0, 122, 181, 0, 125, 42, 16, 24, 188, 4]
abbrev dktX1_init_5 : List UInt8 := dkwX1_init_5 ++ dktX1_init_6
def dkwX1_init_4 : List UInt8 := [181, 0, 108, 42, 16, 20, 189, 0, 98, 181, 0, 111, 42, 16, 6, 188, 10, 181, 0, 115, 42, 16, 6]
abbrev dktX1_init_4 : List UInt8 := dkwX1_init_4 ++ dktX1_init_5
def dkwX1_init_3 : List UInt8 := [181, 0, 101, 42, 187, 0, 98, 89, 42, 183, 0, 100, 181, 0, 105, 42, 187, 0, 98, 89, 42, 183, 0, 100]
abbrev dktX1_init_3 : List UInt8 := dkwX1_init_3 ++ dktX1_init_4
def dkwX1_init_2 : List UInt8 := [181, 0, 46, 42, 187, 0, 91, 89, 42, 183, 0, 93, 181, 0, 94, 42, 187, 0, 98, 89, 42, 183, 0, 100]
abbrev dktX1_init_2 : List UInt8 := dkwX1_init_2 ++ dktX1_init_3
def dkwX1_init_1 : List UInt8 := [183, 0, 83, 181, 0, 86, 42, 187, 0, 18, 89, 183, 0, 90, 181, 0, 13, 42, 16, 7, 188, 11]
abbrev dktX1_init_1 : List UInt8 := dkwX1_init_1 ++ dktX1_init_2
def dkwX1_init_0 : List UInt8 := [42, 183, 0, 67, 42, 17, 2, 188, 188, 8, 181, 0, 73, 42, 2, 181, 0, 77, 42, 187, 0, 81, 89, 42]
abbrev dktX1_init_0 : List UInt8 := dkwX1_init_0 ++ dktX1_init_1
theorem dksX1_init_0 : cX1_init.data.toList.drop 0 = dktX1_init_0 := by decide +kernel
theorem dksX1_init_1 : cX1_init.data.toList.drop 24 = dktX1_init_1 := dk_seg dksX1_init_0 24 rfl rfl
theorem dksX1_init_2 : cX1_init.data.toList.drop 46 = dktX1_init_2 := dk_seg dksX1_init_1 22 rfl rfl
theorem dksX1_init_3 : cX1_init.data.toList.drop 70 = dktX1_init_3 := dk_seg dksX1_init_2 24 rfl rfl
theorem dksX1_init_4 : cX1_init.data.toList.drop 94 = dktX1_init_4 := dk_seg dksX1_init_3 24 rfl rfl
theorem dksX1_init_5 : cX1_init.data.toList.drop 117 = dktX1_init_5 := dk_seg dksX1_init_4 23 rfl rfl
theorem dksX1_init_6 : cX1_init.data.toList.drop 140 = dktX1_init_6 := dk_seg dksX1_init_5 23 rfl rfl
theorem dX1_init_0 : decode cX1_init 0 = .ok (.aload_n 0, 1) := dk_42 (dk_at dksX1_init_0 0 rfl rfl)
theorem dX1_init_1 : decode cX1_init 1 = .ok (.invokespecial 67, 3) := dk_183 0 67 (dk_at dksX1_init_0 1 rfl rfl)
theorem dX1_init_4 : decode cX1_init 4 = .ok (.aload_n 0, 1) := dk_42 (dk_at dksX1_init_0 4 rfl rfl)
theorem dX1_init_5 : decode cX1_init 5 = .ok (.sipush 700, 3) := dk_17 2 188 (dk_at dksX1_init_0 5 rfl rfl)
theorem dX1_init_8 : decode cX1_init 8 = .ok (.newarray .byte, 2) := dk_188_8 (dk_at dksX1_init_0 8 rfl rfl)
theorem dX1_init_10 : decode cX1_init 10 = .ok (.putfield 73, 3) := dk_181 0 73 (dk_at dksX1_init_0 10 rfl rfl)
theorem dX1_init_13 : decode cX1_init 13 = .ok (.aload_n 0, 1) := dk_42 (dk_at dksX1_init_0 13 rfl rfl)
theorem dX1_init_14 : decode cX1_init 14 = .ok (.iconst (-1), 1) := dk_2 (dk_at dksX1_init_0 14 rfl rfl)
theorem dX1_init_15 : decode cX1_init 15 = .ok (.putfield 77, 3) := dk_181 0 77 (dk_at dksX1_init_0 15 rfl rfl)
theorem dX1_init_18 : decode cX1_init 18 = .ok (.aload_n 0, 1) := dk_42 (dk_at dksX1_init_0 18 rfl rfl)
theorem dX1_init_19 : decode cX1_init 19 = .ok (.new 81, 3) := dk_187 0 81 (dk_at dksX1_init_0 19 rfl rfl)
theorem dX1_init_22 : decode cX1_init 22 = .ok (.dup, 1) := dk_89 (dk_at dksX1_init_0 22 rfl rfl)
theorem dX1_init_23 : decode cX1_init 23 = .ok (.aload_n 0, 1) := dk_42 (dk_at dksX1_init_0 23 rfl rfl)
theorem dX1_init_24 : decode cX1_init 24 = .ok (.invokespecial 83, 3) := dk_183 0 83 (dk_at dksX1_init_1 0 rfl rfl)
theorem dX1_init_27 : decode cX1_init 27 = .ok (.putfield 86, 3) := dk_181 0 86 (dk_at dksX1_init_1 3 rfl rfl)
theorem dX1_init_30 : decode cX1_init 30 = .ok (.aload_n 0, 1) := dk_42 (dk_at dksX1_init_1 6 rfl rfl)
theorem dX1_init_31 : decode cX1_init 31 = .ok (.new 18, 3) := dk_187 0 18 (dk_at dksX1_init_1 7 rfl rfl)
theorem dX1_init_34 : decode cX1_init 34 = .ok (.dup, 1) := dk_89 (dk_at dksX1_init_1 10 rfl rfl)
theorem dX1_init_35 : decode cX1_init 35 = .ok (.invokespecial 90, 3) := dk_183 0 90 (dk_at dksX1_init_1 11 rfl rfl)
theorem dX1_init_38 : decode cX1_init 38 = .ok (.putfield 13, 3) := dk_181 0 13 (dk_at dksX1_init_1 14 rfl rfl)
theorem dX1_init_41 : decode cX1_init 41 = .ok (.aload_n 0, 1) := dk_42 (dk_at dksX1_init_1 17 rfl rfl)
theorem dX1_init_42 : decode cX1_init 42 = .ok (.bipush 7, 2) := dk_16 7 (dk_at dksX1_init_1 18 rfl rfl)
theorem dX1_init_44 : decode cX1_init 44 = .ok (.newarray .long, 2) := dk_188_11 (dk_at dksX1_init_1 20 rfl rfl)
theorem dX1_init_46 : decode cX1_init 46 = .ok (.putfield 46, 3) := dk_181 0 46 (dk_at dksX1_init_2 0 rfl rfl)
theorem dX1_init_49 : decode cX1_init 49 = .ok (.aload_n 0, 1) := dk_42 (dk_at dksX1_init_2 3 rfl rfl)
theorem dX1_init_50 : decode cX1_init 50 = .ok (.new 91, 3) := dk_187 0 91 (dk_at dksX1_init_2 4 rfl rfl)
theorem dX1_init_53 : decode cX1_init 53 = .ok (.dup, 1) := dk_89 (dk_at dksX1_init_2 7 rfl rfl)
theorem dX1_init_54 : decode cX1_init 54 = .ok (.aload_n 0, 1) := dk_42 (dk_at dksX1_init_2 8 rfl rfl)
theorem dX1_init_55 : decode cX1_init 55 = .ok (.invokespecial 93, 3) := dk_183 0 93 (dk_at dksX1_init_2 9 rfl rfl)
theorem dX1_init_58 : decode cX1_init 58 = .ok (.putfield 94, 3) := dk_181 0 94 (dk_at dksX1_init_2 12 rfl rfl)
theorem dX1_init_61 : decode cX1_init 61 = .ok (.aload_n 0, 1) := dk_42 (dk_at dksX1_init_2 15 rfl rfl)
theorem dX1_init_62 : decode cX1_init 62 = .ok (.new 98, 3) := dk_187 0 98 (dk_at dksX1_init_2 16 rfl rfl)
theorem dX1_init_65 : decode cX1_init 65 = .ok (.dup, 1) := dk_89 (dk_at dksX1_init_2 19 rfl rfl)
theorem dX1_init_66 : decode cX1_init 66 = .ok (.aload_n 0, 1) := dk_42 (dk_at dksX1_init_2 20 rfl rfl)
theorem dX1_init_67 : decode cX1_init 67 = .ok (.invokespecial 100, 3) := dk_183 0 100 (dk_at dksX1_init_2 21 rfl rfl)
theorem dX1_init_70 : decode cX1_init 70 = .ok (.putfield 101, 3) := dk_181 0 101 (dk_at dksX1_init_3 0 rfl rfl)
theorem dX1_init_73 : decode cX1_init 73 = .ok (.aload_n 0, 1) := dk_42 (dk_at dksX1_init_3 3 rfl rfl)
theorem dX1_init_74 : decode cX1_init 74 = .ok (.new 98, 3) := dk_187 0 98 (dk_at dksX1_init_3 4 rfl rfl)
theorem dX1_init_77 : decode cX1_init 77 = .ok (.dup, 1) := dk_89 (dk_at dksX1_init_3 7 rfl rfl)
theorem dX1_init_78 : decode cX1_init 78 = .ok (.aload_n 0, 1) := dk_42 (dk_at dksX1_init_3 8 rfl rfl)
theorem dX1_init_79 : decode cX1_init 79 = .ok (.invokespecial 100, 3) := dk_183 0 100 (dk_at dksX1_init_3 9 rfl rfl)
theorem dX1_init_82 : decode cX1_init 82 = .ok (.putfield 105, 3) := dk_181 0 105 (dk_at dksX1_init_3 12 rfl rfl)
theorem dX1_init_85 : decode cX1_init 85 = .ok (.aload_n 0, 1) := dk_42 (dk_at dksX1_init_3 15 rfl rfl)
theorem dX1_init_86 : decode cX1_init 86 = .ok (.new 98, 3) := dk_187 0 98 (dk_at dksX1_init_3 16 rfl rfl)
theorem dX1_init_89 : decode cX1_init 89 = .ok (.dup, 1) := dk_89 (dk_at dksX1_init_3 19 rfl rfl)
theorem dX1_init_90 : decode cX1_init 90 = .ok (.aload_n 0, 1) := dk_42 (dk_at dksX1_init_3 20 rfl rfl)
theorem dX1_init_91 : decode cX1_init 91 = .ok (.invokespecial 100, 3) := dk_183 0 100 (dk_at dksX1_init_3 21 rfl rfl)
theorem dX1_init_94 : decode cX1_init 94 = .ok (.putfield 108, 3) := dk_181 0 108 (dk_at dksX1_init_4 0 rfl rfl)
theorem dX1_init_97 : decode cX1_init 97 = .ok (.aload_n 0, 1) := dk_42 (dk_at dksX1_init_4 3 rfl rfl)
theorem dX1_init_98 : decode cX1_init 98 = .ok (.bipush 20, 2) := dk_16 20 (dk_at dksX1_init_4 4 rfl rfl)
theorem dX1_init_100 : decode cX1_init 100 = .ok (.anewarray 98, 3) := dk_189 0 98 (dk_at dksX1_init_4 6 rfl rfl)
theorem dX1_init_103 : decode cX1_init 103 = .ok (.putfield 111, 3) := dk_181 0 111 (dk_at dksX1_init_4 9 rfl rfl)
theorem dX1_init_106 : decode cX1_init 106 = .ok (.aload_n 0, 1) := dk_42 (dk_at dksX1_init_4 12 rfl rfl)
theorem dX1_init_107 : decode cX1_init 107 = .ok (.bipush 6, 2) := dk_16 6 (dk_at dksX1_init_4 13 rfl rfl)
theorem dX1_init_109 : decode cX1_init 109 = .ok (.newarray .int, 2) := dk_188_10 (dk_at dksX1_init_4 15 rfl rfl)
theorem dX1_init_111 : decode cX1_init 111 = .ok (.putfield 115, 3) := dk_181 0 115 (dk_at dksX1_init_4 17 rfl rfl)
theorem dX1_init_114 : decode cX1_init 114 = .ok (.aload_n 0, 1) := dk_42 (dk_at dksX1_init_4 20 rfl rfl)
theorem dX1_init_115 : decode cX1_init 115 = .ok (.bipush 6, 2) := dk_16 6 (dk_at dksX1_init_4 21 rfl rfl)
theorem dX1_init_117 : decode cX1_init 117 = .ok (.newarray .int, 2) := dk_188_10 (dk_at dksX1_init_5 0 rfl rfl)
theorem dX1_init_119 : decode cX1_init 119 = .ok (.putfield 119, 3) := dk_181 0 119 (dk_at dksX1_init_5 2 rfl rfl)
theorem dX1_init_122 : decode cX1_init 122 = .ok (.aload_n 0, 1) := dk_42 (dk_at dksX1_init_5 5 rfl rfl)
theorem dX1_init_123 : decode cX1_init 123 = .ok (.new 24, 3) := dk_187 0 24 (dk_at dksX1_init_5 6 rfl rfl)
theorem dX1_init_126 : decode cX1_init 126 = .ok (.dup, 1) := dk_89 (dk_at dksX1_init_5 9 rfl rfl)
theorem dX1_init_127 : decode cX1_init 127 = .ok (.bipush 24, 2) := dk_16 24 (dk_at dksX1_init_5 10 rfl rfl)
theorem dX1_init_129 : decode cX1_init 129 = .ok (.invokespecial 122, 3) := dk_183 0 122 (dk_at dksX1_init_5 12 rfl rfl)
theorem dX1_init_132 : decode cX1_init 132 = .ok (.putfield 125, 3) := dk_181 0 125 (dk_at dksX1_init_5 15 rfl rfl)
theorem dX1_init_135 : decode cX1_init 135 = .ok (.aload_n 0, 1) := dk_42 (dk_at dksX1_init_5 18 rfl rfl)
theorem dX1_init_136 : decode cX1_init 136 = .ok (.bipush 24, 2) := dk_16 24 (dk_at dksX1_init_5 19 rfl rfl)
theorem dX1_init_138 : decode cX1_init 138 = .ok (.newarray .boolean, 2) := dk_188_4 (dk_at dksX1_init_5 21 rfl rfl)
theorem dX1_init_140 : decode cX1_init 140 = .ok (.putfield 128, 3) := dk_181 0 128 (dk_at dksX1_init_6 0 rfl rfl)
theorem dX1_init_143 : decode cX1_init 143 = .ok (.aload_n 0, 1) := dk_42 (dk_at dksX1_init_6 3 rfl rfl)
theorem dX1_init_144 : decode cX1_init 144 = .ok (.iconst (-1), 1) := dk_2 (dk_at dksX1_init_6 4 rfl rfl)
theorem dX1_init_145 : decode cX1_init 145 = .ok (.putfield 132, 3) := dk_181 0 132 (dk_at dksX1_init_6 5 rfl rfl)
theorem dX1_init_148 : decode cX1_init 148 = .ok (.aload_n 0, 1) := dk_42 (dk_at dksX1_init_6 8 rfl rfl)
theorem dX1_init_149 : decode cX1_init 149 = .ok (.getfield 101, 3) := dk_180 0 101 (dk_at dksX1_init_6 9 rfl rfl)
theorem dX1_init_152 : decode cX1_init 152 = .ok (.invokevirtual 135, 3) := dk_182 0 135 (dk_at dksX1_init_6 12 rfl rfl)
theorem dX1_init_155 : decode cX1_init 155 = .ok (.return_, 1) := dk_177 (dk_at dksX1_init_6 15 rfl rfl)
abbrev cX1_horses : ByteArray := prog_1_method_5_code
def yX1_horses : MethodName := ⟨RX1, "horses", "()I"⟩
def dkwX1_horses_0 : List UInt8 := [42, 180, 0, 13, 180, 0, 35, 182, 0, 23, 172]
abbrev dktX1_horses_0 : List UInt8 := dkwX1_horses_0 ++ []
theorem dksX1_horses_0 : cX1_horses.data.toList.drop 0 = dktX1_horses_0 := by decide +kernel
theorem dX1_horses_0 : decode cX1_horses 0 = .ok (.aload_n 0, 1) := dk_42 (dk_at dksX1_horses_0 0 rfl rfl)
theorem dX1_horses_1 : decode cX1_horses 1 = .ok (.getfield 13, 3) := dk_180 0 13 (dk_at dksX1_horses_0 1 rfl rfl)
theorem dX1_horses_4 : decode cX1_horses 4 = .ok (.getfield 35, 3) := dk_180 0 35 (dk_at dksX1_horses_0 4 rfl rfl)
theorem dX1_horses_7 : decode cX1_horses 7 = .ok (.invokevirtual 23, 3) := dk_182 0 23 (dk_at dksX1_horses_0 7 rfl rfl)
theorem dX1_horses_10 : decode cX1_horses 10 = .ok (.ireturn, 1) := dk_172 (dk_at dksX1_horses_0 10 rfl rfl)
abbrev cX1_horse : ByteArray := prog_1_method_6_code
def yX1_horse : MethodName := ⟨RX1, "horse", "(I)LTroughTreaty$Horse;"⟩
def dkwX1_horse_0 : List UInt8 := [42, 180, 0, 13, 180, 0, 35, 27, 182, 0, 29, 192, 0, 38, 176]
abbrev dktX1_horse_0 : List UInt8 := dkwX1_horse_0 ++ []
theorem dksX1_horse_0 : cX1_horse.data.toList.drop 0 = dktX1_horse_0 := by decide +kernel
theorem dX1_horse_0 : decode cX1_horse 0 = .ok (.aload_n 0, 1) := dk_42 (dk_at dksX1_horse_0 0 rfl rfl)
theorem dX1_horse_1 : decode cX1_horse 1 = .ok (.getfield 13, 3) := dk_180 0 13 (dk_at dksX1_horse_0 1 rfl rfl)
theorem dX1_horse_4 : decode cX1_horse 4 = .ok (.getfield 35, 3) := dk_180 0 35 (dk_at dksX1_horse_0 4 rfl rfl)
theorem dX1_horse_7 : decode cX1_horse 7 = .ok (.iload_n 1, 1) := dk_27 (dk_at dksX1_horse_0 7 rfl rfl)
theorem dX1_horse_8 : decode cX1_horse 8 = .ok (.invokevirtual 29, 3) := dk_182 0 29 (dk_at dksX1_horse_0 8 rfl rfl)
theorem dX1_horse_11 : decode cX1_horse 11 = .ok (.checkcast 38, 3) := dk_192 0 38 (dk_at dksX1_horse_0 11 rfl rfl)
theorem dX1_horse_14 : decode cX1_horse 14 = .ok (.areturn, 1) := dk_176 (dk_at dksX1_horse_0 14 rfl rfl)
abbrev cX1_troughs : ByteArray := prog_1_method_3_code
def yX1_troughs : MethodName := ⟨RX1, "troughs", "()I"⟩
def dkwX1_troughs_0 : List UInt8 := [42, 180, 0, 13, 180, 0, 17, 182, 0, 23, 172]
abbrev dktX1_troughs_0 : List UInt8 := dkwX1_troughs_0 ++ []
theorem dksX1_troughs_0 : cX1_troughs.data.toList.drop 0 = dktX1_troughs_0 := by decide +kernel
theorem dX1_troughs_0 : decode cX1_troughs 0 = .ok (.aload_n 0, 1) := dk_42 (dk_at dksX1_troughs_0 0 rfl rfl)
theorem dX1_troughs_1 : decode cX1_troughs 1 = .ok (.getfield 13, 3) := dk_180 0 13 (dk_at dksX1_troughs_0 1 rfl rfl)
theorem dX1_troughs_4 : decode cX1_troughs 4 = .ok (.getfield 17, 3) := dk_180 0 17 (dk_at dksX1_troughs_0 4 rfl rfl)
theorem dX1_troughs_7 : decode cX1_troughs 7 = .ok (.invokevirtual 23, 3) := dk_182 0 23 (dk_at dksX1_troughs_0 7 rfl rfl)
theorem dX1_troughs_10 : decode cX1_troughs 10 = .ok (.ireturn, 1) := dk_172 (dk_at dksX1_troughs_0 10 rfl rfl)
abbrev cX1_trough : ByteArray := prog_1_method_4_code
def yX1_trough : MethodName := ⟨RX1, "trough", "(I)LTroughTreaty$Trough;"⟩
def dkwX1_trough_0 : List UInt8 := [42, 180, 0, 13, 180, 0, 17, 27, 182, 0, 29, 192, 0, 33, 176]
abbrev dktX1_trough_0 : List UInt8 := dkwX1_trough_0 ++ []
theorem dksX1_trough_0 : cX1_trough.data.toList.drop 0 = dktX1_trough_0 := by decide +kernel
theorem dX1_trough_0 : decode cX1_trough 0 = .ok (.aload_n 0, 1) := dk_42 (dk_at dksX1_trough_0 0 rfl rfl)
theorem dX1_trough_1 : decode cX1_trough 1 = .ok (.getfield 13, 3) := dk_180 0 13 (dk_at dksX1_trough_0 1 rfl rfl)
theorem dX1_trough_4 : decode cX1_trough 4 = .ok (.getfield 17, 3) := dk_180 0 17 (dk_at dksX1_trough_0 4 rfl rfl)
theorem dX1_trough_7 : decode cX1_trough 7 = .ok (.iload_n 1, 1) := dk_27 (dk_at dksX1_trough_0 7 rfl rfl)
theorem dX1_trough_8 : decode cX1_trough 8 = .ok (.invokevirtual 29, 3) := dk_182 0 29 (dk_at dksX1_trough_0 8 rfl rfl)
theorem dX1_trough_11 : decode cX1_trough 11 = .ok (.checkcast 33, 3) := dk_192 0 33 (dk_at dksX1_trough_0 11 rfl rfl)
theorem dX1_trough_14 : decode cX1_trough 14 = .ok (.areturn, 1) := dk_176 (dk_at dksX1_trough_0 14 rfl rfl)
abbrev cX1_feed : ByteArray := prog_1_method_10_code
def yX1_feed : MethodName := ⟨RX1, "feed", "(IIIII)I"⟩
def dkwX1_feed_2 : List UInt8 := [172]
abbrev dktX1_feed_2 : List UInt8 := dkwX1_feed_2 ++ []
def dkwX1_feed_1 : List UInt8 := [182, 0, 141, 42, 29, 182, 0, 141, 42, 21, 4, 182, 0, 141, 42, 21, 5, 182, 0, 141, 42, 180, 0, 138]
abbrev dktX1_feed_1 : List UInt8 := dkwX1_feed_1 ++ dktX1_feed_2
def dkwX1_feed_0 : List UInt8 := [42, 180, 0, 138, 16, 20, 96, 17, 2, 188, 164, 0, 5, 2, 172, 42, 27, 182, 0, 141, 42, 28]
abbrev dktX1_feed_0 : List UInt8 := dkwX1_feed_0 ++ dktX1_feed_1
theorem dksX1_feed_0 : cX1_feed.data.toList.drop 0 = dktX1_feed_0 := by decide +kernel
theorem dksX1_feed_1 : cX1_feed.data.toList.drop 22 = dktX1_feed_1 := dk_seg dksX1_feed_0 22 rfl rfl
theorem dksX1_feed_2 : cX1_feed.data.toList.drop 46 = dktX1_feed_2 := dk_seg dksX1_feed_1 24 rfl rfl
theorem dX1_feed_0 : decode cX1_feed 0 = .ok (.aload_n 0, 1) := dk_42 (dk_at dksX1_feed_0 0 rfl rfl)
theorem dX1_feed_1 : decode cX1_feed 1 = .ok (.getfield 138, 3) := dk_180 0 138 (dk_at dksX1_feed_0 1 rfl rfl)
theorem dX1_feed_4 : decode cX1_feed 4 = .ok (.bipush 20, 2) := dk_16 20 (dk_at dksX1_feed_0 4 rfl rfl)
theorem dX1_feed_6 : decode cX1_feed 6 = .ok (.iadd, 1) := dk_96 (dk_at dksX1_feed_0 6 rfl rfl)
theorem dX1_feed_7 : decode cX1_feed 7 = .ok (.sipush 700, 3) := dk_17 2 188 (dk_at dksX1_feed_0 7 rfl rfl)
theorem dX1_feed_10 : decode cX1_feed 10 = .ok (.if_icmp .le 5, 3) := dk_164 0 5 (dk_at dksX1_feed_0 10 rfl rfl)
theorem dX1_feed_13 : decode cX1_feed 13 = .ok (.iconst (-1), 1) := dk_2 (dk_at dksX1_feed_0 13 rfl rfl)
theorem dX1_feed_14 : decode cX1_feed 14 = .ok (.ireturn, 1) := dk_172 (dk_at dksX1_feed_0 14 rfl rfl)
theorem dX1_feed_15 : decode cX1_feed 15 = .ok (.aload_n 0, 1) := dk_42 (dk_at dksX1_feed_0 15 rfl rfl)
theorem dX1_feed_16 : decode cX1_feed 16 = .ok (.iload_n 1, 1) := dk_27 (dk_at dksX1_feed_0 16 rfl rfl)
theorem dX1_feed_17 : decode cX1_feed 17 = .ok (.invokevirtual 141, 3) := dk_182 0 141 (dk_at dksX1_feed_0 17 rfl rfl)
theorem dX1_feed_20 : decode cX1_feed 20 = .ok (.aload_n 0, 1) := dk_42 (dk_at dksX1_feed_0 20 rfl rfl)
theorem dX1_feed_21 : decode cX1_feed 21 = .ok (.iload_n 2, 1) := dk_28 (dk_at dksX1_feed_0 21 rfl rfl)
theorem dX1_feed_22 : decode cX1_feed 22 = .ok (.invokevirtual 141, 3) := dk_182 0 141 (dk_at dksX1_feed_1 0 rfl rfl)
theorem dX1_feed_25 : decode cX1_feed 25 = .ok (.aload_n 0, 1) := dk_42 (dk_at dksX1_feed_1 3 rfl rfl)
theorem dX1_feed_26 : decode cX1_feed 26 = .ok (.iload_n 3, 1) := dk_29 (dk_at dksX1_feed_1 4 rfl rfl)
theorem dX1_feed_27 : decode cX1_feed 27 = .ok (.invokevirtual 141, 3) := dk_182 0 141 (dk_at dksX1_feed_1 5 rfl rfl)
theorem dX1_feed_30 : decode cX1_feed 30 = .ok (.aload_n 0, 1) := dk_42 (dk_at dksX1_feed_1 8 rfl rfl)
theorem dX1_feed_31 : decode cX1_feed 31 = .ok (.iload 4, 2) := dk_21 4 (dk_at dksX1_feed_1 9 rfl rfl)
theorem dX1_feed_33 : decode cX1_feed 33 = .ok (.invokevirtual 141, 3) := dk_182 0 141 (dk_at dksX1_feed_1 11 rfl rfl)
theorem dX1_feed_36 : decode cX1_feed 36 = .ok (.aload_n 0, 1) := dk_42 (dk_at dksX1_feed_1 14 rfl rfl)
theorem dX1_feed_37 : decode cX1_feed 37 = .ok (.iload 5, 2) := dk_21 5 (dk_at dksX1_feed_1 15 rfl rfl)
theorem dX1_feed_39 : decode cX1_feed 39 = .ok (.invokevirtual 141, 3) := dk_182 0 141 (dk_at dksX1_feed_1 17 rfl rfl)
theorem dX1_feed_42 : decode cX1_feed 42 = .ok (.aload_n 0, 1) := dk_42 (dk_at dksX1_feed_1 20 rfl rfl)
theorem dX1_feed_43 : decode cX1_feed 43 = .ok (.getfield 138, 3) := dk_180 0 138 (dk_at dksX1_feed_1 21 rfl rfl)
theorem dX1_feed_46 : decode cX1_feed 46 = .ok (.ireturn, 1) := dk_172 (dk_at dksX1_feed_2 0 rfl rfl)
abbrev cX1_put : ByteArray := prog_1_method_11_code
def yX1_put : MethodName := ⟨RX1, "put", "(I)V"⟩
def dkwX1_put_1 : List UInt8 := [122, 145, 84, 132, 2, 248, 167, 255, 229, 177]
abbrev dktX1_put_1 : List UInt8 := dkwX1_put_1 ++ []
def dkwX1_put_0 : List UInt8 := [16, 24, 61, 28, 155, 0, 29, 42, 180, 0, 73, 42, 89, 180, 0, 138, 90, 4, 96, 181, 0, 138, 27, 28]
abbrev dktX1_put_0 : List UInt8 := dkwX1_put_0 ++ dktX1_put_1
theorem dksX1_put_0 : cX1_put.data.toList.drop 0 = dktX1_put_0 := by decide +kernel
theorem dksX1_put_1 : cX1_put.data.toList.drop 24 = dktX1_put_1 := dk_seg dksX1_put_0 24 rfl rfl
theorem dX1_put_0 : decode cX1_put 0 = .ok (.bipush 24, 2) := dk_16 24 (dk_at dksX1_put_0 0 rfl rfl)
theorem dX1_put_2 : decode cX1_put 2 = .ok (.istore_n 2, 1) := dk_61 (dk_at dksX1_put_0 2 rfl rfl)
theorem dX1_put_3 : decode cX1_put 3 = .ok (.iload_n 2, 1) := dk_28 (dk_at dksX1_put_0 3 rfl rfl)
theorem dX1_put_4 : decode cX1_put 4 = .ok (.ifCond .lt 29, 3) := dk_155 0 29 (dk_at dksX1_put_0 4 rfl rfl)
theorem dX1_put_7 : decode cX1_put 7 = .ok (.aload_n 0, 1) := dk_42 (dk_at dksX1_put_0 7 rfl rfl)
theorem dX1_put_8 : decode cX1_put 8 = .ok (.getfield 73, 3) := dk_180 0 73 (dk_at dksX1_put_0 8 rfl rfl)
theorem dX1_put_11 : decode cX1_put 11 = .ok (.aload_n 0, 1) := dk_42 (dk_at dksX1_put_0 11 rfl rfl)
theorem dX1_put_12 : decode cX1_put 12 = .ok (.dup, 1) := dk_89 (dk_at dksX1_put_0 12 rfl rfl)
theorem dX1_put_13 : decode cX1_put 13 = .ok (.getfield 138, 3) := dk_180 0 138 (dk_at dksX1_put_0 13 rfl rfl)
theorem dX1_put_16 : decode cX1_put 16 = .ok (.dup_x1, 1) := dk_90 (dk_at dksX1_put_0 16 rfl rfl)
theorem dX1_put_17 : decode cX1_put 17 = .ok (.iconst 1, 1) := dk_4 (dk_at dksX1_put_0 17 rfl rfl)
theorem dX1_put_18 : decode cX1_put 18 = .ok (.iadd, 1) := dk_96 (dk_at dksX1_put_0 18 rfl rfl)
theorem dX1_put_19 : decode cX1_put 19 = .ok (.putfield 138, 3) := dk_181 0 138 (dk_at dksX1_put_0 19 rfl rfl)
theorem dX1_put_22 : decode cX1_put 22 = .ok (.iload_n 1, 1) := dk_27 (dk_at dksX1_put_0 22 rfl rfl)
theorem dX1_put_23 : decode cX1_put 23 = .ok (.iload_n 2, 1) := dk_28 (dk_at dksX1_put_0 23 rfl rfl)
theorem dX1_put_24 : decode cX1_put 24 = .ok (.ishr, 1) := dk_122 (dk_at dksX1_put_1 0 rfl rfl)
theorem dX1_put_25 : decode cX1_put 25 = .ok (.i2b, 1) := dk_145 (dk_at dksX1_put_1 1 rfl rfl)
theorem dX1_put_26 : decode cX1_put 26 = .ok (.bastore, 1) := dk_84 (dk_at dksX1_put_1 2 rfl rfl)
theorem dX1_put_27 : decode cX1_put 27 = .ok (.iinc 2 (-8), 3) := dk_132 2 248 (dk_at dksX1_put_1 3 rfl rfl)
theorem dX1_put_30 : decode cX1_put 30 = .ok (.goto (-27), 3) := dk_167 255 229 (dk_at dksX1_put_1 6 rfl rfl)
theorem dX1_put_33 : decode cX1_put 33 = .ok (.return_, 1) := dk_177 (dk_at dksX1_put_1 9 rfl rfl)
abbrev cX1_text : ByteArray := prog_1_method_12_code
def yX1_text : MethodName := ⟨RX1, "text", "(I)I"⟩
def dkwX1_text_4 : List UInt8 := [181, 0, 132, 42, 180, 0, 13, 180, 0, 173, 172]
abbrev dktX1_text_4 : List UInt8 := dkwX1_text_4 ++ []
def dkwX1_text_3 : List UInt8 := [182, 0, 135, 42, 3, 181, 0, 163, 42, 3, 181, 0, 166, 42, 180, 0, 125, 182, 0, 170, 42, 2]
abbrev dktX1_text_3 : List UInt8 := dkwX1_text_3 ++ dktX1_text_4
def dkwX1_text_2 : List UInt8 := [42, 44, 180, 0, 157, 181, 0, 148, 42, 44, 180, 0, 160, 181, 0, 77, 2, 172, 42, 180, 0, 101]
abbrev dktX1_text_2 : List UInt8 := dkwX1_text_2 ++ dktX1_text_3
def dkwX1_text_1 : List UInt8 := [181, 0, 148, 42, 2, 181, 0, 77, 42, 42, 180, 0, 86, 27, 182, 0, 151, 181, 0, 13, 167, 0, 22, 77]
abbrev dktX1_text_1 : List UInt8 := dkwX1_text_1 ++ dktX1_text_2
def dkwX1_text_0 : List UInt8 := [27, 133, 9, 42, 180, 0, 138, 133, 184, 0, 144, 154, 0, 6, 16, 254, 172, 42, 3, 181, 0, 138, 42, 3]
abbrev dktX1_text_0 : List UInt8 := dkwX1_text_0 ++ dktX1_text_1
theorem dksX1_text_0 : cX1_text.data.toList.drop 0 = dktX1_text_0 := by decide +kernel
theorem dksX1_text_1 : cX1_text.data.toList.drop 24 = dktX1_text_1 := dk_seg dksX1_text_0 24 rfl rfl
theorem dksX1_text_2 : cX1_text.data.toList.drop 48 = dktX1_text_2 := dk_seg dksX1_text_1 24 rfl rfl
theorem dksX1_text_3 : cX1_text.data.toList.drop 70 = dktX1_text_3 := dk_seg dksX1_text_2 22 rfl rfl
theorem dksX1_text_4 : cX1_text.data.toList.drop 92 = dktX1_text_4 := dk_seg dksX1_text_3 22 rfl rfl
theorem dX1_text_0 : decode cX1_text 0 = .ok (.iload_n 1, 1) := dk_27 (dk_at dksX1_text_0 0 rfl rfl)
theorem dX1_text_1 : decode cX1_text 1 = .ok (.i2l, 1) := dk_133 (dk_at dksX1_text_0 1 rfl rfl)
theorem dX1_text_2 : decode cX1_text 2 = .ok (.lconst 0, 1) := dk_9 (dk_at dksX1_text_0 2 rfl rfl)
theorem dX1_text_3 : decode cX1_text 3 = .ok (.aload_n 0, 1) := dk_42 (dk_at dksX1_text_0 3 rfl rfl)
theorem dX1_text_4 : decode cX1_text 4 = .ok (.getfield 138, 3) := dk_180 0 138 (dk_at dksX1_text_0 4 rfl rfl)
theorem dX1_text_7 : decode cX1_text 7 = .ok (.i2l, 1) := dk_133 (dk_at dksX1_text_0 7 rfl rfl)
theorem dX1_text_8 : decode cX1_text 8 = .ok (.invokestatic 144, 3) := dk_184 0 144 (dk_at dksX1_text_0 8 rfl rfl)
theorem dX1_text_11 : decode cX1_text 11 = .ok (.ifCond .ne 6, 3) := dk_154 0 6 (dk_at dksX1_text_0 11 rfl rfl)
theorem dX1_text_14 : decode cX1_text 14 = .ok (.bipush (-2), 2) := dk_16 254 (dk_at dksX1_text_0 14 rfl rfl)
theorem dX1_text_16 : decode cX1_text 16 = .ok (.ireturn, 1) := dk_172 (dk_at dksX1_text_0 16 rfl rfl)
theorem dX1_text_17 : decode cX1_text 17 = .ok (.aload_n 0, 1) := dk_42 (dk_at dksX1_text_0 17 rfl rfl)
theorem dX1_text_18 : decode cX1_text 18 = .ok (.iconst 0, 1) := dk_3 (dk_at dksX1_text_0 18 rfl rfl)
theorem dX1_text_19 : decode cX1_text 19 = .ok (.putfield 138, 3) := dk_181 0 138 (dk_at dksX1_text_0 19 rfl rfl)
theorem dX1_text_22 : decode cX1_text 22 = .ok (.aload_n 0, 1) := dk_42 (dk_at dksX1_text_0 22 rfl rfl)
theorem dX1_text_23 : decode cX1_text 23 = .ok (.iconst 0, 1) := dk_3 (dk_at dksX1_text_0 23 rfl rfl)
theorem dX1_text_24 : decode cX1_text 24 = .ok (.putfield 148, 3) := dk_181 0 148 (dk_at dksX1_text_1 0 rfl rfl)
theorem dX1_text_27 : decode cX1_text 27 = .ok (.aload_n 0, 1) := dk_42 (dk_at dksX1_text_1 3 rfl rfl)
theorem dX1_text_28 : decode cX1_text 28 = .ok (.iconst (-1), 1) := dk_2 (dk_at dksX1_text_1 4 rfl rfl)
theorem dX1_text_29 : decode cX1_text 29 = .ok (.putfield 77, 3) := dk_181 0 77 (dk_at dksX1_text_1 5 rfl rfl)
theorem dX1_text_32 : decode cX1_text 32 = .ok (.aload_n 0, 1) := dk_42 (dk_at dksX1_text_1 8 rfl rfl)
theorem dX1_text_33 : decode cX1_text 33 = .ok (.aload_n 0, 1) := dk_42 (dk_at dksX1_text_1 9 rfl rfl)
theorem dX1_text_34 : decode cX1_text 34 = .ok (.getfield 86, 3) := dk_180 0 86 (dk_at dksX1_text_1 10 rfl rfl)
theorem dX1_text_37 : decode cX1_text 37 = .ok (.iload_n 1, 1) := dk_27 (dk_at dksX1_text_1 13 rfl rfl)
theorem dX1_text_38 : decode cX1_text 38 = .ok (.invokevirtual 151, 3) := dk_182 0 151 (dk_at dksX1_text_1 14 rfl rfl)
theorem dX1_text_41 : decode cX1_text 41 = .ok (.putfield 13, 3) := dk_181 0 13 (dk_at dksX1_text_1 17 rfl rfl)
theorem dX1_text_44 : decode cX1_text 44 = .ok (.goto 22, 3) := dk_167 0 22 (dk_at dksX1_text_1 20 rfl rfl)
theorem dX1_text_47 : decode cX1_text 47 = .ok (.astore_n 2, 1) := dk_77 (dk_at dksX1_text_1 23 rfl rfl)
theorem dX1_text_48 : decode cX1_text 48 = .ok (.aload_n 0, 1) := dk_42 (dk_at dksX1_text_2 0 rfl rfl)
theorem dX1_text_49 : decode cX1_text 49 = .ok (.aload_n 2, 1) := dk_44 (dk_at dksX1_text_2 1 rfl rfl)
theorem dX1_text_50 : decode cX1_text 50 = .ok (.getfield 157, 3) := dk_180 0 157 (dk_at dksX1_text_2 2 rfl rfl)
theorem dX1_text_53 : decode cX1_text 53 = .ok (.putfield 148, 3) := dk_181 0 148 (dk_at dksX1_text_2 5 rfl rfl)
theorem dX1_text_56 : decode cX1_text 56 = .ok (.aload_n 0, 1) := dk_42 (dk_at dksX1_text_2 8 rfl rfl)
theorem dX1_text_57 : decode cX1_text 57 = .ok (.aload_n 2, 1) := dk_44 (dk_at dksX1_text_2 9 rfl rfl)
theorem dX1_text_58 : decode cX1_text 58 = .ok (.getfield 160, 3) := dk_180 0 160 (dk_at dksX1_text_2 10 rfl rfl)
theorem dX1_text_61 : decode cX1_text 61 = .ok (.putfield 77, 3) := dk_181 0 77 (dk_at dksX1_text_2 13 rfl rfl)
theorem dX1_text_64 : decode cX1_text 64 = .ok (.iconst (-1), 1) := dk_2 (dk_at dksX1_text_2 16 rfl rfl)
theorem dX1_text_65 : decode cX1_text 65 = .ok (.ireturn, 1) := dk_172 (dk_at dksX1_text_2 17 rfl rfl)
theorem dX1_text_66 : decode cX1_text 66 = .ok (.aload_n 0, 1) := dk_42 (dk_at dksX1_text_2 18 rfl rfl)
theorem dX1_text_67 : decode cX1_text 67 = .ok (.getfield 101, 3) := dk_180 0 101 (dk_at dksX1_text_2 19 rfl rfl)
theorem dX1_text_70 : decode cX1_text 70 = .ok (.invokevirtual 135, 3) := dk_182 0 135 (dk_at dksX1_text_3 0 rfl rfl)
theorem dX1_text_73 : decode cX1_text 73 = .ok (.aload_n 0, 1) := dk_42 (dk_at dksX1_text_3 3 rfl rfl)
theorem dX1_text_74 : decode cX1_text 74 = .ok (.iconst 0, 1) := dk_3 (dk_at dksX1_text_3 4 rfl rfl)
theorem dX1_text_75 : decode cX1_text 75 = .ok (.putfield 163, 3) := dk_181 0 163 (dk_at dksX1_text_3 5 rfl rfl)
theorem dX1_text_78 : decode cX1_text 78 = .ok (.aload_n 0, 1) := dk_42 (dk_at dksX1_text_3 8 rfl rfl)
theorem dX1_text_79 : decode cX1_text 79 = .ok (.iconst 0, 1) := dk_3 (dk_at dksX1_text_3 9 rfl rfl)
theorem dX1_text_80 : decode cX1_text 80 = .ok (.putfield 166, 3) := dk_181 0 166 (dk_at dksX1_text_3 10 rfl rfl)
theorem dX1_text_83 : decode cX1_text 83 = .ok (.aload_n 0, 1) := dk_42 (dk_at dksX1_text_3 13 rfl rfl)
theorem dX1_text_84 : decode cX1_text 84 = .ok (.getfield 125, 3) := dk_180 0 125 (dk_at dksX1_text_3 14 rfl rfl)
theorem dX1_text_87 : decode cX1_text 87 = .ok (.invokevirtual 170, 3) := dk_182 0 170 (dk_at dksX1_text_3 17 rfl rfl)
theorem dX1_text_90 : decode cX1_text 90 = .ok (.aload_n 0, 1) := dk_42 (dk_at dksX1_text_3 20 rfl rfl)
theorem dX1_text_91 : decode cX1_text 91 = .ok (.iconst (-1), 1) := dk_2 (dk_at dksX1_text_3 21 rfl rfl)
theorem dX1_text_92 : decode cX1_text 92 = .ok (.putfield 132, 3) := dk_181 0 132 (dk_at dksX1_text_4 0 rfl rfl)
theorem dX1_text_95 : decode cX1_text 95 = .ok (.aload_n 0, 1) := dk_42 (dk_at dksX1_text_4 3 rfl rfl)
theorem dX1_text_96 : decode cX1_text 96 = .ok (.getfield 13, 3) := dk_180 0 13 (dk_at dksX1_text_4 4 rfl rfl)
theorem dX1_text_99 : decode cX1_text 99 = .ok (.getfield 173, 3) := dk_180 0 173 (dk_at dksX1_text_4 7 rfl rfl)
theorem dX1_text_102 : decode cX1_text 102 = .ok (.ireturn, 1) := dk_172 (dk_at dksX1_text_4 10 rfl rfl)
abbrev cX1_in : ByteArray := prog_1_method_1_code
def yX1_in : MethodName := ⟨RX1, "in", "(JJJ)Z"⟩
def dkwX1_in_0 : List UInt8 := [30, 32, 148, 155, 0, 14, 30, 22, 4, 148, 157, 0, 7, 4, 167, 0, 4, 3, 172]
abbrev dktX1_in_0 : List UInt8 := dkwX1_in_0 ++ []
theorem dksX1_in_0 : cX1_in.data.toList.drop 0 = dktX1_in_0 := by decide +kernel
theorem dX1_in_0 : decode cX1_in 0 = .ok (.lload_n 0, 1) := dk_30 (dk_at dksX1_in_0 0 rfl rfl)
theorem dX1_in_1 : decode cX1_in 1 = .ok (.lload_n 2, 1) := dk_32 (dk_at dksX1_in_0 1 rfl rfl)
theorem dX1_in_2 : decode cX1_in 2 = .ok (.lcmp, 1) := dk_148 (dk_at dksX1_in_0 2 rfl rfl)
theorem dX1_in_3 : decode cX1_in 3 = .ok (.ifCond .lt 14, 3) := dk_155 0 14 (dk_at dksX1_in_0 3 rfl rfl)
theorem dX1_in_6 : decode cX1_in 6 = .ok (.lload_n 0, 1) := dk_30 (dk_at dksX1_in_0 6 rfl rfl)
theorem dX1_in_7 : decode cX1_in 7 = .ok (.lload 4, 2) := dk_22 4 (dk_at dksX1_in_0 7 rfl rfl)
theorem dX1_in_9 : decode cX1_in 9 = .ok (.lcmp, 1) := dk_148 (dk_at dksX1_in_0 9 rfl rfl)
theorem dX1_in_10 : decode cX1_in 10 = .ok (.ifCond .gt 7, 3) := dk_157 0 7 (dk_at dksX1_in_0 10 rfl rfl)
theorem dX1_in_13 : decode cX1_in 13 = .ok (.iconst 1, 1) := dk_4 (dk_at dksX1_in_0 13 rfl rfl)
theorem dX1_in_14 : decode cX1_in 14 = .ok (.goto 4, 3) := dk_167 0 4 (dk_at dksX1_in_0 14 rfl rfl)
theorem dX1_in_17 : decode cX1_in 17 = .ok (.iconst 0, 1) := dk_3 (dk_at dksX1_in_0 17 rfl rfl)
theorem dX1_in_18 : decode cX1_in 18 = .ok (.ireturn, 1) := dk_172 (dk_at dksX1_in_0 18 rfl rfl)
abbrev cX1_fault : ByteArray := prog_1_method_13_code
def yX1_fault : MethodName := ⟨RX1, "fault", "(I)I"⟩
def dkwX1_fault_1 : List UInt8 := [172]
abbrev dktX1_fault_1 : List UInt8 := dkwX1_fault_1 ++ []
def dkwX1_fault_0 : List UInt8 := [27, 154, 0, 10, 42, 180, 0, 148, 167, 0, 16, 27, 4, 160, 0, 10, 42, 180, 0, 77, 167, 0, 4, 2]
abbrev dktX1_fault_0 : List UInt8 := dkwX1_fault_0 ++ dktX1_fault_1
theorem dksX1_fault_0 : cX1_fault.data.toList.drop 0 = dktX1_fault_0 := by decide +kernel
theorem dksX1_fault_1 : cX1_fault.data.toList.drop 24 = dktX1_fault_1 := dk_seg dksX1_fault_0 24 rfl rfl
theorem dX1_fault_0 : decode cX1_fault 0 = .ok (.iload_n 1, 1) := dk_27 (dk_at dksX1_fault_0 0 rfl rfl)
theorem dX1_fault_1 : decode cX1_fault 1 = .ok (.ifCond .ne 10, 3) := dk_154 0 10 (dk_at dksX1_fault_0 1 rfl rfl)
theorem dX1_fault_4 : decode cX1_fault 4 = .ok (.aload_n 0, 1) := dk_42 (dk_at dksX1_fault_0 4 rfl rfl)
theorem dX1_fault_5 : decode cX1_fault 5 = .ok (.getfield 148, 3) := dk_180 0 148 (dk_at dksX1_fault_0 5 rfl rfl)
theorem dX1_fault_8 : decode cX1_fault 8 = .ok (.goto 16, 3) := dk_167 0 16 (dk_at dksX1_fault_0 8 rfl rfl)
theorem dX1_fault_11 : decode cX1_fault 11 = .ok (.iload_n 1, 1) := dk_27 (dk_at dksX1_fault_0 11 rfl rfl)
theorem dX1_fault_12 : decode cX1_fault 12 = .ok (.iconst 1, 1) := dk_4 (dk_at dksX1_fault_0 12 rfl rfl)
theorem dX1_fault_13 : decode cX1_fault 13 = .ok (.if_icmp .ne 10, 3) := dk_160 0 10 (dk_at dksX1_fault_0 13 rfl rfl)
theorem dX1_fault_16 : decode cX1_fault 16 = .ok (.aload_n 0, 1) := dk_42 (dk_at dksX1_fault_0 16 rfl rfl)
theorem dX1_fault_17 : decode cX1_fault 17 = .ok (.getfield 77, 3) := dk_180 0 77 (dk_at dksX1_fault_0 17 rfl rfl)
theorem dX1_fault_20 : decode cX1_fault 20 = .ok (.goto 4, 3) := dk_167 0 4 (dk_at dksX1_fault_0 20 rfl rfl)
theorem dX1_fault_23 : decode cX1_fault 23 = .ok (.iconst (-1), 1) := dk_2 (dk_at dksX1_fault_0 23 rfl rfl)
theorem dX1_fault_24 : decode cX1_fault 24 = .ok (.ireturn, 1) := dk_172 (dk_at dksX1_fault_1 0 rfl rfl)
abbrev cX1_named : ByteArray := prog_1_method_14_code
def yX1_named : MethodName := ⟨RX1, "named", "(II)I"⟩
def dkwX1_named_1 : List UInt8 := [180, 0, 13, 180, 0, 35, 28, 184, 0, 176, 167, 0, 4, 2, 172]
abbrev dktX1_named_1 : List UInt8 := dkwX1_named_1 ++ []
def dkwX1_named_0 : List UInt8 := [27, 154, 0, 17, 42, 180, 0, 13, 180, 0, 17, 28, 184, 0, 176, 167, 0, 23, 27, 4, 160, 0, 17, 42]
abbrev dktX1_named_0 : List UInt8 := dkwX1_named_0 ++ dktX1_named_1
theorem dksX1_named_0 : cX1_named.data.toList.drop 0 = dktX1_named_0 := by decide +kernel
theorem dksX1_named_1 : cX1_named.data.toList.drop 24 = dktX1_named_1 := dk_seg dksX1_named_0 24 rfl rfl
theorem dX1_named_0 : decode cX1_named 0 = .ok (.iload_n 1, 1) := dk_27 (dk_at dksX1_named_0 0 rfl rfl)
theorem dX1_named_1 : decode cX1_named 1 = .ok (.ifCond .ne 17, 3) := dk_154 0 17 (dk_at dksX1_named_0 1 rfl rfl)
theorem dX1_named_4 : decode cX1_named 4 = .ok (.aload_n 0, 1) := dk_42 (dk_at dksX1_named_0 4 rfl rfl)
theorem dX1_named_5 : decode cX1_named 5 = .ok (.getfield 13, 3) := dk_180 0 13 (dk_at dksX1_named_0 5 rfl rfl)
theorem dX1_named_8 : decode cX1_named 8 = .ok (.getfield 17, 3) := dk_180 0 17 (dk_at dksX1_named_0 8 rfl rfl)
theorem dX1_named_11 : decode cX1_named 11 = .ok (.iload_n 2, 1) := dk_28 (dk_at dksX1_named_0 11 rfl rfl)
theorem dX1_named_12 : decode cX1_named 12 = .ok (.invokestatic 176, 3) := dk_184 0 176 (dk_at dksX1_named_0 12 rfl rfl)
theorem dX1_named_15 : decode cX1_named 15 = .ok (.goto 23, 3) := dk_167 0 23 (dk_at dksX1_named_0 15 rfl rfl)
theorem dX1_named_18 : decode cX1_named 18 = .ok (.iload_n 1, 1) := dk_27 (dk_at dksX1_named_0 18 rfl rfl)
theorem dX1_named_19 : decode cX1_named 19 = .ok (.iconst 1, 1) := dk_4 (dk_at dksX1_named_0 19 rfl rfl)
theorem dX1_named_20 : decode cX1_named 20 = .ok (.if_icmp .ne 17, 3) := dk_160 0 17 (dk_at dksX1_named_0 20 rfl rfl)
theorem dX1_named_23 : decode cX1_named 23 = .ok (.aload_n 0, 1) := dk_42 (dk_at dksX1_named_0 23 rfl rfl)
theorem dX1_named_24 : decode cX1_named 24 = .ok (.getfield 13, 3) := dk_180 0 13 (dk_at dksX1_named_1 0 rfl rfl)
theorem dX1_named_27 : decode cX1_named 27 = .ok (.getfield 35, 3) := dk_180 0 35 (dk_at dksX1_named_1 3 rfl rfl)
theorem dX1_named_30 : decode cX1_named 30 = .ok (.iload_n 2, 1) := dk_28 (dk_at dksX1_named_1 6 rfl rfl)
theorem dX1_named_31 : decode cX1_named 31 = .ok (.invokestatic 176, 3) := dk_184 0 176 (dk_at dksX1_named_1 7 rfl rfl)
theorem dX1_named_34 : decode cX1_named 34 = .ok (.goto 4, 3) := dk_167 0 4 (dk_at dksX1_named_1 10 rfl rfl)
theorem dX1_named_37 : decode cX1_named 37 = .ok (.iconst (-1), 1) := dk_2 (dk_at dksX1_named_1 13 rfl rfl)
theorem dX1_named_38 : decode cX1_named 38 = .ok (.ireturn, 1) := dk_172 (dk_at dksX1_named_1 14 rfl rfl)
abbrev cX1_trough_2 : ByteArray := prog_1_method_21_code
def yX1_trough_2 : MethodName := ⟨RX1, "trough", "(II)I"⟩
def dkwX1_trough_2_3 : List UInt8 := [180, 0, 239, 172, 42, 27, 182, 0, 242, 172, 2, 172]
abbrev dktX1_trough_2_3 : List UInt8 := dkwX1_trough_2_3 ++ []
def dkwX1_trough_2_2 : List UInt8 := [42, 27, 182, 0, 228, 180, 0, 232, 172, 42, 180, 0, 101, 180, 0, 236, 27, 46, 172, 42, 27, 182, 0, 228]
abbrev dktX1_trough_2_2 : List UInt8 := dkwX1_trough_2_2 ++ dktX1_trough_2_3
def dkwX1_trough_2_1 : List UInt8 := [170, 0, 0, 0, 63, 0, 0, 0, 0, 0, 0, 0, 3, 0, 0, 0, 29, 0, 0, 0, 38, 0, 0, 0, 48, 0, 0, 0, 57]
abbrev dktX1_trough_2_1 : List UInt8 := dkwX1_trough_2_1 ++ dktX1_trough_2_2
def dkwX1_trough_2_0 : List UInt8 := [42, 27, 182, 0, 233, 154, 0, 5, 2, 172, 28]
abbrev dktX1_trough_2_0 : List UInt8 := dkwX1_trough_2_0 ++ dktX1_trough_2_1
theorem dksX1_trough_2_0 : cX1_trough_2.data.toList.drop 0 = dktX1_trough_2_0 := by decide +kernel
theorem dksX1_trough_2_1 : cX1_trough_2.data.toList.drop 11 = dktX1_trough_2_1 := dk_seg dksX1_trough_2_0 11 rfl rfl
theorem dksX1_trough_2_2 : cX1_trough_2.data.toList.drop 40 = dktX1_trough_2_2 := dk_seg dksX1_trough_2_1 29 rfl rfl
theorem dksX1_trough_2_3 : cX1_trough_2.data.toList.drop 64 = dktX1_trough_2_3 := dk_seg dksX1_trough_2_2 24 rfl rfl
theorem dX1_trough_2_0 : decode cX1_trough_2 0 = .ok (.aload_n 0, 1) := dk_42 (dk_at dksX1_trough_2_0 0 rfl rfl)
theorem dX1_trough_2_1 : decode cX1_trough_2 1 = .ok (.iload_n 1, 1) := dk_27 (dk_at dksX1_trough_2_0 1 rfl rfl)
theorem dX1_trough_2_2 : decode cX1_trough_2 2 = .ok (.invokevirtual 233, 3) := dk_182 0 233 (dk_at dksX1_trough_2_0 2 rfl rfl)
theorem dX1_trough_2_5 : decode cX1_trough_2 5 = .ok (.ifCond .ne 5, 3) := dk_154 0 5 (dk_at dksX1_trough_2_0 5 rfl rfl)
theorem dX1_trough_2_8 : decode cX1_trough_2 8 = .ok (.iconst (-1), 1) := dk_2 (dk_at dksX1_trough_2_0 8 rfl rfl)
theorem dX1_trough_2_9 : decode cX1_trough_2 9 = .ok (.ireturn, 1) := dk_172 (dk_at dksX1_trough_2_0 9 rfl rfl)
theorem dX1_trough_2_10 : decode cX1_trough_2 10 = .ok (.iload_n 2, 1) := dk_28 (dk_at dksX1_trough_2_0 10 rfl rfl)
theorem dX1_trough_2_11 : decode cX1_trough_2 11 = .ok (.tableswitch 63 0 3 #[29, 38, 48, 57], 29) := by decide +kernel
theorem dX1_trough_2_40 : decode cX1_trough_2 40 = .ok (.aload_n 0, 1) := dk_42 (dk_at dksX1_trough_2_2 0 rfl rfl)
theorem dX1_trough_2_41 : decode cX1_trough_2 41 = .ok (.iload_n 1, 1) := dk_27 (dk_at dksX1_trough_2_2 1 rfl rfl)
theorem dX1_trough_2_42 : decode cX1_trough_2 42 = .ok (.invokevirtual 228, 3) := dk_182 0 228 (dk_at dksX1_trough_2_2 2 rfl rfl)
theorem dX1_trough_2_45 : decode cX1_trough_2 45 = .ok (.getfield 232, 3) := dk_180 0 232 (dk_at dksX1_trough_2_2 5 rfl rfl)
theorem dX1_trough_2_48 : decode cX1_trough_2 48 = .ok (.ireturn, 1) := dk_172 (dk_at dksX1_trough_2_2 8 rfl rfl)
theorem dX1_trough_2_49 : decode cX1_trough_2 49 = .ok (.aload_n 0, 1) := dk_42 (dk_at dksX1_trough_2_2 9 rfl rfl)
theorem dX1_trough_2_50 : decode cX1_trough_2 50 = .ok (.getfield 101, 3) := dk_180 0 101 (dk_at dksX1_trough_2_2 10 rfl rfl)
theorem dX1_trough_2_53 : decode cX1_trough_2 53 = .ok (.getfield 236, 3) := dk_180 0 236 (dk_at dksX1_trough_2_2 13 rfl rfl)
theorem dX1_trough_2_56 : decode cX1_trough_2 56 = .ok (.iload_n 1, 1) := dk_27 (dk_at dksX1_trough_2_2 16 rfl rfl)
theorem dX1_trough_2_57 : decode cX1_trough_2 57 = .ok (.iaload, 1) := dk_46 (dk_at dksX1_trough_2_2 17 rfl rfl)
theorem dX1_trough_2_58 : decode cX1_trough_2 58 = .ok (.ireturn, 1) := dk_172 (dk_at dksX1_trough_2_2 18 rfl rfl)
theorem dX1_trough_2_59 : decode cX1_trough_2 59 = .ok (.aload_n 0, 1) := dk_42 (dk_at dksX1_trough_2_2 19 rfl rfl)
theorem dX1_trough_2_60 : decode cX1_trough_2 60 = .ok (.iload_n 1, 1) := dk_27 (dk_at dksX1_trough_2_2 20 rfl rfl)
theorem dX1_trough_2_61 : decode cX1_trough_2 61 = .ok (.invokevirtual 228, 3) := dk_182 0 228 (dk_at dksX1_trough_2_2 21 rfl rfl)
theorem dX1_trough_2_64 : decode cX1_trough_2 64 = .ok (.getfield 239, 3) := dk_180 0 239 (dk_at dksX1_trough_2_3 0 rfl rfl)
theorem dX1_trough_2_67 : decode cX1_trough_2 67 = .ok (.ireturn, 1) := dk_172 (dk_at dksX1_trough_2_3 3 rfl rfl)
theorem dX1_trough_2_68 : decode cX1_trough_2 68 = .ok (.aload_n 0, 1) := dk_42 (dk_at dksX1_trough_2_3 4 rfl rfl)
theorem dX1_trough_2_69 : decode cX1_trough_2 69 = .ok (.iload_n 1, 1) := dk_27 (dk_at dksX1_trough_2_3 5 rfl rfl)
theorem dX1_trough_2_70 : decode cX1_trough_2 70 = .ok (.invokevirtual 242, 3) := dk_182 0 242 (dk_at dksX1_trough_2_3 6 rfl rfl)
theorem dX1_trough_2_73 : decode cX1_trough_2 73 = .ok (.ireturn, 1) := dk_172 (dk_at dksX1_trough_2_3 9 rfl rfl)
theorem dX1_trough_2_74 : decode cX1_trough_2 74 = .ok (.iconst (-1), 1) := dk_2 (dk_at dksX1_trough_2_3 10 rfl rfl)
theorem dX1_trough_2_75 : decode cX1_trough_2 75 = .ok (.ireturn, 1) := dk_172 (dk_at dksX1_trough_2_3 11 rfl rfl)
abbrev cX1_isTrough : ByteArray := prog_1_method_15_code
def yX1_isTrough : MethodName := ⟨RX1, "isTrough", "(I)Z"⟩
def dkwX1_isTrough_0 : List UInt8 := [27, 133, 9, 42, 182, 0, 182, 4, 100, 133, 184, 0, 144, 172]
abbrev dktX1_isTrough_0 : List UInt8 := dkwX1_isTrough_0 ++ []
theorem dksX1_isTrough_0 : cX1_isTrough.data.toList.drop 0 = dktX1_isTrough_0 := by decide +kernel
theorem dX1_isTrough_0 : decode cX1_isTrough 0 = .ok (.iload_n 1, 1) := dk_27 (dk_at dksX1_isTrough_0 0 rfl rfl)
theorem dX1_isTrough_1 : decode cX1_isTrough 1 = .ok (.i2l, 1) := dk_133 (dk_at dksX1_isTrough_0 1 rfl rfl)
theorem dX1_isTrough_2 : decode cX1_isTrough 2 = .ok (.lconst 0, 1) := dk_9 (dk_at dksX1_isTrough_0 2 rfl rfl)
theorem dX1_isTrough_3 : decode cX1_isTrough 3 = .ok (.aload_n 0, 1) := dk_42 (dk_at dksX1_isTrough_0 3 rfl rfl)
theorem dX1_isTrough_4 : decode cX1_isTrough 4 = .ok (.invokevirtual 182, 3) := dk_182 0 182 (dk_at dksX1_isTrough_0 4 rfl rfl)
theorem dX1_isTrough_7 : decode cX1_isTrough 7 = .ok (.iconst 1, 1) := dk_4 (dk_at dksX1_isTrough_0 7 rfl rfl)
theorem dX1_isTrough_8 : decode cX1_isTrough 8 = .ok (.isub, 1) := dk_100 (dk_at dksX1_isTrough_0 8 rfl rfl)
theorem dX1_isTrough_9 : decode cX1_isTrough 9 = .ok (.i2l, 1) := dk_133 (dk_at dksX1_isTrough_0 9 rfl rfl)
theorem dX1_isTrough_10 : decode cX1_isTrough 10 = .ok (.invokestatic 144, 3) := dk_184 0 144 (dk_at dksX1_isTrough_0 10 rfl rfl)
theorem dX1_isTrough_13 : decode cX1_isTrough 13 = .ok (.ireturn, 1) := dk_172 (dk_at dksX1_isTrough_0 13 rfl rfl)
abbrev cX1_drinkers : ByteArray := prog_1_method_20_code
def yX1_drinkers : MethodName := ⟨RX1, "drinkers", "(I)I"⟩
def dkwX1_drinkers_2 : List UInt8 := [167, 0, 4, 3, 128, 61, 132, 3, 1, 167, 255, 204, 28, 172]
abbrev dktX1_drinkers_2 : List UInt8 := dkwX1_drinkers_2 ++ []
def dkwX1_drinkers_1 : List UInt8 := [42, 180, 0, 101, 180, 0, 200, 29, 46, 42, 27, 182, 0, 228, 180, 0, 232, 160, 0, 9, 4, 29, 120]
abbrev dktX1_drinkers_1 : List UInt8 := dkwX1_drinkers_1 ++ dktX1_drinkers_2
def dkwX1_drinkers_0 : List UInt8 := [3, 61, 3, 62, 29, 42, 182, 0, 184, 162, 0, 50, 28, 42, 180, 0, 101, 29, 182, 0, 219, 153, 0, 29]
abbrev dktX1_drinkers_0 : List UInt8 := dkwX1_drinkers_0 ++ dktX1_drinkers_1
theorem dksX1_drinkers_0 : cX1_drinkers.data.toList.drop 0 = dktX1_drinkers_0 := by decide +kernel
theorem dksX1_drinkers_1 : cX1_drinkers.data.toList.drop 24 = dktX1_drinkers_1 := dk_seg dksX1_drinkers_0 24 rfl rfl
theorem dksX1_drinkers_2 : cX1_drinkers.data.toList.drop 47 = dktX1_drinkers_2 := dk_seg dksX1_drinkers_1 23 rfl rfl
theorem dX1_drinkers_0 : decode cX1_drinkers 0 = .ok (.iconst 0, 1) := dk_3 (dk_at dksX1_drinkers_0 0 rfl rfl)
theorem dX1_drinkers_1 : decode cX1_drinkers 1 = .ok (.istore_n 2, 1) := dk_61 (dk_at dksX1_drinkers_0 1 rfl rfl)
theorem dX1_drinkers_2 : decode cX1_drinkers 2 = .ok (.iconst 0, 1) := dk_3 (dk_at dksX1_drinkers_0 2 rfl rfl)
theorem dX1_drinkers_3 : decode cX1_drinkers 3 = .ok (.istore_n 3, 1) := dk_62 (dk_at dksX1_drinkers_0 3 rfl rfl)
theorem dX1_drinkers_4 : decode cX1_drinkers 4 = .ok (.iload_n 3, 1) := dk_29 (dk_at dksX1_drinkers_0 4 rfl rfl)
theorem dX1_drinkers_5 : decode cX1_drinkers 5 = .ok (.aload_n 0, 1) := dk_42 (dk_at dksX1_drinkers_0 5 rfl rfl)
theorem dX1_drinkers_6 : decode cX1_drinkers 6 = .ok (.invokevirtual 184, 3) := dk_182 0 184 (dk_at dksX1_drinkers_0 6 rfl rfl)
theorem dX1_drinkers_9 : decode cX1_drinkers 9 = .ok (.if_icmp .ge 50, 3) := dk_162 0 50 (dk_at dksX1_drinkers_0 9 rfl rfl)
theorem dX1_drinkers_12 : decode cX1_drinkers 12 = .ok (.iload_n 2, 1) := dk_28 (dk_at dksX1_drinkers_0 12 rfl rfl)
theorem dX1_drinkers_13 : decode cX1_drinkers 13 = .ok (.aload_n 0, 1) := dk_42 (dk_at dksX1_drinkers_0 13 rfl rfl)
theorem dX1_drinkers_14 : decode cX1_drinkers 14 = .ok (.getfield 101, 3) := dk_180 0 101 (dk_at dksX1_drinkers_0 14 rfl rfl)
theorem dX1_drinkers_17 : decode cX1_drinkers 17 = .ok (.iload_n 3, 1) := dk_29 (dk_at dksX1_drinkers_0 17 rfl rfl)
theorem dX1_drinkers_18 : decode cX1_drinkers 18 = .ok (.invokevirtual 219, 3) := dk_182 0 219 (dk_at dksX1_drinkers_0 18 rfl rfl)
theorem dX1_drinkers_21 : decode cX1_drinkers 21 = .ok (.ifCond .eq 29, 3) := dk_153 0 29 (dk_at dksX1_drinkers_0 21 rfl rfl)
theorem dX1_drinkers_24 : decode cX1_drinkers 24 = .ok (.aload_n 0, 1) := dk_42 (dk_at dksX1_drinkers_1 0 rfl rfl)
theorem dX1_drinkers_25 : decode cX1_drinkers 25 = .ok (.getfield 101, 3) := dk_180 0 101 (dk_at dksX1_drinkers_1 1 rfl rfl)
theorem dX1_drinkers_28 : decode cX1_drinkers 28 = .ok (.getfield 200, 3) := dk_180 0 200 (dk_at dksX1_drinkers_1 4 rfl rfl)
theorem dX1_drinkers_31 : decode cX1_drinkers 31 = .ok (.iload_n 3, 1) := dk_29 (dk_at dksX1_drinkers_1 7 rfl rfl)
theorem dX1_drinkers_32 : decode cX1_drinkers 32 = .ok (.iaload, 1) := dk_46 (dk_at dksX1_drinkers_1 8 rfl rfl)
theorem dX1_drinkers_33 : decode cX1_drinkers 33 = .ok (.aload_n 0, 1) := dk_42 (dk_at dksX1_drinkers_1 9 rfl rfl)
theorem dX1_drinkers_34 : decode cX1_drinkers 34 = .ok (.iload_n 1, 1) := dk_27 (dk_at dksX1_drinkers_1 10 rfl rfl)
theorem dX1_drinkers_35 : decode cX1_drinkers 35 = .ok (.invokevirtual 228, 3) := dk_182 0 228 (dk_at dksX1_drinkers_1 11 rfl rfl)
theorem dX1_drinkers_38 : decode cX1_drinkers 38 = .ok (.getfield 232, 3) := dk_180 0 232 (dk_at dksX1_drinkers_1 14 rfl rfl)
theorem dX1_drinkers_41 : decode cX1_drinkers 41 = .ok (.if_icmp .ne 9, 3) := dk_160 0 9 (dk_at dksX1_drinkers_1 17 rfl rfl)
theorem dX1_drinkers_44 : decode cX1_drinkers 44 = .ok (.iconst 1, 1) := dk_4 (dk_at dksX1_drinkers_1 20 rfl rfl)
theorem dX1_drinkers_45 : decode cX1_drinkers 45 = .ok (.iload_n 3, 1) := dk_29 (dk_at dksX1_drinkers_1 21 rfl rfl)
theorem dX1_drinkers_46 : decode cX1_drinkers 46 = .ok (.ishl, 1) := dk_120 (dk_at dksX1_drinkers_1 22 rfl rfl)
theorem dX1_drinkers_47 : decode cX1_drinkers 47 = .ok (.goto 4, 3) := dk_167 0 4 (dk_at dksX1_drinkers_2 0 rfl rfl)
theorem dX1_drinkers_50 : decode cX1_drinkers 50 = .ok (.iconst 0, 1) := dk_3 (dk_at dksX1_drinkers_2 3 rfl rfl)
theorem dX1_drinkers_51 : decode cX1_drinkers 51 = .ok (.ior, 1) := dk_128 (dk_at dksX1_drinkers_2 4 rfl rfl)
theorem dX1_drinkers_52 : decode cX1_drinkers 52 = .ok (.istore_n 2, 1) := dk_61 (dk_at dksX1_drinkers_2 5 rfl rfl)
theorem dX1_drinkers_53 : decode cX1_drinkers 53 = .ok (.iinc 3 1, 3) := dk_132 3 1 (dk_at dksX1_drinkers_2 6 rfl rfl)
theorem dX1_drinkers_56 : decode cX1_drinkers 56 = .ok (.goto (-52), 3) := dk_167 255 204 (dk_at dksX1_drinkers_2 9 rfl rfl)
theorem dX1_drinkers_59 : decode cX1_drinkers 59 = .ok (.iload_n 2, 1) := dk_28 (dk_at dksX1_drinkers_2 12 rfl rfl)
theorem dX1_drinkers_60 : decode cX1_drinkers 60 = .ok (.ireturn, 1) := dk_172 (dk_at dksX1_drinkers_2 13 rfl rfl)
abbrev cX1_law : ByteArray := prog_1_method_22_code
def yX1_law : MethodName := ⟨RX1, "law", "(II)J"⟩
def dkwX1_law_2 : List UInt8 := [167, 0, 4, 5, 182, 0, 250, 173]
abbrev dktX1_law_2 : List UInt8 := dkwX1_law_2 ++ []
def dkwX1_law_1 : List UInt8 := [42, 180, 0, 101, 28, 182, 0, 247, 42, 27, 154, 0, 7, 3, 167, 0, 13, 27, 4, 160, 0, 7, 4]
abbrev dktX1_law_1 : List UInt8 := dkwX1_law_1 ++ dktX1_law_2
def dkwX1_law_0 : List UInt8 := [27, 133, 9, 20, 0, 245, 184, 0, 144, 153, 0, 11, 42, 28, 182, 0, 186, 154, 0, 7, 20, 0, 44, 173]
abbrev dktX1_law_0 : List UInt8 := dkwX1_law_0 ++ dktX1_law_1
theorem dksX1_law_0 : cX1_law.data.toList.drop 0 = dktX1_law_0 := by decide +kernel
theorem dksX1_law_1 : cX1_law.data.toList.drop 24 = dktX1_law_1 := dk_seg dksX1_law_0 24 rfl rfl
theorem dksX1_law_2 : cX1_law.data.toList.drop 47 = dktX1_law_2 := dk_seg dksX1_law_1 23 rfl rfl
theorem dX1_law_0 : decode cX1_law 0 = .ok (.iload_n 1, 1) := dk_27 (dk_at dksX1_law_0 0 rfl rfl)
theorem dX1_law_1 : decode cX1_law 1 = .ok (.i2l, 1) := dk_133 (dk_at dksX1_law_0 1 rfl rfl)
theorem dX1_law_2 : decode cX1_law 2 = .ok (.lconst 0, 1) := dk_9 (dk_at dksX1_law_0 2 rfl rfl)
theorem dX1_law_3 : decode cX1_law 3 = .ok (.ldc2_w 245, 3) := dk_20 0 245 (dk_at dksX1_law_0 3 rfl rfl)
theorem dX1_law_6 : decode cX1_law 6 = .ok (.invokestatic 144, 3) := dk_184 0 144 (dk_at dksX1_law_0 6 rfl rfl)
theorem dX1_law_9 : decode cX1_law 9 = .ok (.ifCond .eq 11, 3) := dk_153 0 11 (dk_at dksX1_law_0 9 rfl rfl)
theorem dX1_law_12 : decode cX1_law 12 = .ok (.aload_n 0, 1) := dk_42 (dk_at dksX1_law_0 12 rfl rfl)
theorem dX1_law_13 : decode cX1_law 13 = .ok (.iload_n 2, 1) := dk_28 (dk_at dksX1_law_0 13 rfl rfl)
theorem dX1_law_14 : decode cX1_law 14 = .ok (.invokevirtual 186, 3) := dk_182 0 186 (dk_at dksX1_law_0 14 rfl rfl)
theorem dX1_law_17 : decode cX1_law 17 = .ok (.ifCond .ne 7, 3) := dk_154 0 7 (dk_at dksX1_law_0 17 rfl rfl)
theorem dX1_law_20 : decode cX1_law 20 = .ok (.ldc2_w 44, 3) := dk_20 0 44 (dk_at dksX1_law_0 20 rfl rfl)
theorem dX1_law_23 : decode cX1_law 23 = .ok (.lreturn, 1) := dk_173 (dk_at dksX1_law_0 23 rfl rfl)
theorem dX1_law_24 : decode cX1_law 24 = .ok (.aload_n 0, 1) := dk_42 (dk_at dksX1_law_1 0 rfl rfl)
theorem dX1_law_25 : decode cX1_law 25 = .ok (.getfield 101, 3) := dk_180 0 101 (dk_at dksX1_law_1 1 rfl rfl)
theorem dX1_law_28 : decode cX1_law 28 = .ok (.iload_n 2, 1) := dk_28 (dk_at dksX1_law_1 4 rfl rfl)
theorem dX1_law_29 : decode cX1_law 29 = .ok (.invokevirtual 247, 3) := dk_182 0 247 (dk_at dksX1_law_1 5 rfl rfl)
theorem dX1_law_32 : decode cX1_law 32 = .ok (.aload_n 0, 1) := dk_42 (dk_at dksX1_law_1 8 rfl rfl)
theorem dX1_law_33 : decode cX1_law 33 = .ok (.iload_n 1, 1) := dk_27 (dk_at dksX1_law_1 9 rfl rfl)
theorem dX1_law_34 : decode cX1_law 34 = .ok (.ifCond .ne 7, 3) := dk_154 0 7 (dk_at dksX1_law_1 10 rfl rfl)
theorem dX1_law_37 : decode cX1_law 37 = .ok (.iconst 0, 1) := dk_3 (dk_at dksX1_law_1 13 rfl rfl)
theorem dX1_law_38 : decode cX1_law 38 = .ok (.goto 13, 3) := dk_167 0 13 (dk_at dksX1_law_1 14 rfl rfl)
theorem dX1_law_41 : decode cX1_law 41 = .ok (.iload_n 1, 1) := dk_27 (dk_at dksX1_law_1 17 rfl rfl)
theorem dX1_law_42 : decode cX1_law 42 = .ok (.iconst 1, 1) := dk_4 (dk_at dksX1_law_1 18 rfl rfl)
theorem dX1_law_43 : decode cX1_law 43 = .ok (.if_icmp .ne 7, 3) := dk_160 0 7 (dk_at dksX1_law_1 19 rfl rfl)
theorem dX1_law_46 : decode cX1_law 46 = .ok (.iconst 1, 1) := dk_4 (dk_at dksX1_law_1 22 rfl rfl)
theorem dX1_law_47 : decode cX1_law 47 = .ok (.goto 4, 3) := dk_167 0 4 (dk_at dksX1_law_2 0 rfl rfl)
theorem dX1_law_50 : decode cX1_law 50 = .ok (.iconst 2, 1) := dk_5 (dk_at dksX1_law_2 3 rfl rfl)
theorem dX1_law_51 : decode cX1_law 51 = .ok (.invokevirtual 250, 3) := dk_182 0 250 (dk_at dksX1_law_2 4 rfl rfl)
theorem dX1_law_54 : decode cX1_law 54 = .ok (.lreturn, 1) := dk_173 (dk_at dksX1_law_2 7 rfl rfl)
abbrev cX1_isHorse : ByteArray := prog_1_method_16_code
def yX1_isHorse : MethodName := ⟨RX1, "isHorse", "(I)Z"⟩
def dkwX1_isHorse_0 : List UInt8 := [27, 133, 9, 42, 182, 0, 184, 4, 100, 133, 184, 0, 144, 172]
abbrev dktX1_isHorse_0 : List UInt8 := dkwX1_isHorse_0 ++ []
theorem dksX1_isHorse_0 : cX1_isHorse.data.toList.drop 0 = dktX1_isHorse_0 := by decide +kernel
theorem dX1_isHorse_0 : decode cX1_isHorse 0 = .ok (.iload_n 1, 1) := dk_27 (dk_at dksX1_isHorse_0 0 rfl rfl)
theorem dX1_isHorse_1 : decode cX1_isHorse 1 = .ok (.i2l, 1) := dk_133 (dk_at dksX1_isHorse_0 1 rfl rfl)
theorem dX1_isHorse_2 : decode cX1_isHorse 2 = .ok (.lconst 0, 1) := dk_9 (dk_at dksX1_isHorse_0 2 rfl rfl)
theorem dX1_isHorse_3 : decode cX1_isHorse 3 = .ok (.aload_n 0, 1) := dk_42 (dk_at dksX1_isHorse_0 3 rfl rfl)
theorem dX1_isHorse_4 : decode cX1_isHorse 4 = .ok (.invokevirtual 184, 3) := dk_182 0 184 (dk_at dksX1_isHorse_0 4 rfl rfl)
theorem dX1_isHorse_7 : decode cX1_isHorse 7 = .ok (.iconst 1, 1) := dk_4 (dk_at dksX1_isHorse_0 7 rfl rfl)
theorem dX1_isHorse_8 : decode cX1_isHorse 8 = .ok (.isub, 1) := dk_100 (dk_at dksX1_isHorse_0 8 rfl rfl)
theorem dX1_isHorse_9 : decode cX1_isHorse 9 = .ok (.i2l, 1) := dk_133 (dk_at dksX1_isHorse_0 9 rfl rfl)
theorem dX1_isHorse_10 : decode cX1_isHorse 10 = .ok (.invokestatic 144, 3) := dk_184 0 144 (dk_at dksX1_isHorse_0 10 rfl rfl)
theorem dX1_isHorse_13 : decode cX1_isHorse 13 = .ok (.ireturn, 1) := dk_172 (dk_at dksX1_isHorse_0 13 rfl rfl)
abbrev cX1_work : ByteArray := prog_1_method_7_code
def yX1_work : MethodName := ⟨RX1, "work", "(I)J"⟩
def dkwX1_work_1 : List UInt8 := [50, 42, 180, 0, 46, 182, 0, 50, 173, 77, 20, 0, 44, 173]
abbrev dktX1_work_1 : List UInt8 := dkwX1_work_1 ++ []
def dkwX1_work_0 : List UInt8 := [42, 180, 0, 13, 180, 0, 40, 27, 50, 199, 0, 7, 20, 0, 44, 173, 42, 180, 0, 13, 180, 0, 40, 27]
abbrev dktX1_work_0 : List UInt8 := dkwX1_work_0 ++ dktX1_work_1
theorem dksX1_work_0 : cX1_work.data.toList.drop 0 = dktX1_work_0 := by decide +kernel
theorem dksX1_work_1 : cX1_work.data.toList.drop 24 = dktX1_work_1 := dk_seg dksX1_work_0 24 rfl rfl
theorem dX1_work_0 : decode cX1_work 0 = .ok (.aload_n 0, 1) := dk_42 (dk_at dksX1_work_0 0 rfl rfl)
theorem dX1_work_1 : decode cX1_work 1 = .ok (.getfield 13, 3) := dk_180 0 13 (dk_at dksX1_work_0 1 rfl rfl)
theorem dX1_work_4 : decode cX1_work 4 = .ok (.getfield 40, 3) := dk_180 0 40 (dk_at dksX1_work_0 4 rfl rfl)
theorem dX1_work_7 : decode cX1_work 7 = .ok (.iload_n 1, 1) := dk_27 (dk_at dksX1_work_0 7 rfl rfl)
theorem dX1_work_8 : decode cX1_work 8 = .ok (.aaload, 1) := dk_50 (dk_at dksX1_work_0 8 rfl rfl)
theorem dX1_work_9 : decode cX1_work 9 = .ok (.ifnonnull 7, 3) := dk_199 0 7 (dk_at dksX1_work_0 9 rfl rfl)
theorem dX1_work_12 : decode cX1_work 12 = .ok (.ldc2_w 44, 3) := dk_20 0 44 (dk_at dksX1_work_0 12 rfl rfl)
theorem dX1_work_15 : decode cX1_work 15 = .ok (.lreturn, 1) := dk_173 (dk_at dksX1_work_0 15 rfl rfl)
theorem dX1_work_16 : decode cX1_work 16 = .ok (.aload_n 0, 1) := dk_42 (dk_at dksX1_work_0 16 rfl rfl)
theorem dX1_work_17 : decode cX1_work 17 = .ok (.getfield 13, 3) := dk_180 0 13 (dk_at dksX1_work_0 17 rfl rfl)
theorem dX1_work_20 : decode cX1_work 20 = .ok (.getfield 40, 3) := dk_180 0 40 (dk_at dksX1_work_0 20 rfl rfl)
theorem dX1_work_23 : decode cX1_work 23 = .ok (.iload_n 1, 1) := dk_27 (dk_at dksX1_work_0 23 rfl rfl)
theorem dX1_work_24 : decode cX1_work 24 = .ok (.aaload, 1) := dk_50 (dk_at dksX1_work_1 0 rfl rfl)
theorem dX1_work_25 : decode cX1_work 25 = .ok (.aload_n 0, 1) := dk_42 (dk_at dksX1_work_1 1 rfl rfl)
theorem dX1_work_26 : decode cX1_work 26 = .ok (.getfield 46, 3) := dk_180 0 46 (dk_at dksX1_work_1 2 rfl rfl)
theorem dX1_work_29 : decode cX1_work 29 = .ok (.invokevirtual 50, 3) := dk_182 0 50 (dk_at dksX1_work_1 5 rfl rfl)
theorem dX1_work_32 : decode cX1_work 32 = .ok (.lreturn, 1) := dk_173 (dk_at dksX1_work_1 8 rfl rfl)
theorem dX1_work_33 : decode cX1_work 33 = .ok (.astore_n 2, 1) := dk_77 (dk_at dksX1_work_1 9 rfl rfl)
theorem dX1_work_34 : decode cX1_work 34 = .ok (.ldc2_w 44, 3) := dk_20 0 44 (dk_at dksX1_work_1 10 rfl rfl)
theorem dX1_work_37 : decode cX1_work 37 = .ok (.lreturn, 1) := dk_173 (dk_at dksX1_work_1 13 rfl rfl)
abbrev cX1_sure : ByteArray := prog_1_method_2_code
def yX1_sure : MethodName := ⟨RX1, "sure", "(J)J"⟩
def dkwX1_sure_0 : List UInt8 := [30, 20, 0, 5, 148, 157, 0, 11, 30, 20, 0, 7, 148, 156, 0, 7, 178, 0, 9, 191, 30, 173]
abbrev dktX1_sure_0 : List UInt8 := dkwX1_sure_0 ++ []
theorem dksX1_sure_0 : cX1_sure.data.toList.drop 0 = dktX1_sure_0 := by decide +kernel
theorem dX1_sure_0 : decode cX1_sure 0 = .ok (.lload_n 0, 1) := dk_30 (dk_at dksX1_sure_0 0 rfl rfl)
theorem dX1_sure_1 : decode cX1_sure 1 = .ok (.ldc2_w 5, 3) := dk_20 0 5 (dk_at dksX1_sure_0 1 rfl rfl)
theorem dX1_sure_4 : decode cX1_sure 4 = .ok (.lcmp, 1) := dk_148 (dk_at dksX1_sure_0 4 rfl rfl)
theorem dX1_sure_5 : decode cX1_sure 5 = .ok (.ifCond .gt 11, 3) := dk_157 0 11 (dk_at dksX1_sure_0 5 rfl rfl)
theorem dX1_sure_8 : decode cX1_sure 8 = .ok (.lload_n 0, 1) := dk_30 (dk_at dksX1_sure_0 8 rfl rfl)
theorem dX1_sure_9 : decode cX1_sure 9 = .ok (.ldc2_w 7, 3) := dk_20 0 7 (dk_at dksX1_sure_0 9 rfl rfl)
theorem dX1_sure_12 : decode cX1_sure 12 = .ok (.lcmp, 1) := dk_148 (dk_at dksX1_sure_0 12 rfl rfl)
theorem dX1_sure_13 : decode cX1_sure 13 = .ok (.ifCond .ge 7, 3) := dk_156 0 7 (dk_at dksX1_sure_0 13 rfl rfl)
theorem dX1_sure_16 : decode cX1_sure 16 = .ok (.getstatic 9, 3) := dk_178 0 9 (dk_at dksX1_sure_0 16 rfl rfl)
theorem dX1_sure_19 : decode cX1_sure 19 = .ok (.athrow, 1) := dk_191 (dk_at dksX1_sure_0 19 rfl rfl)
theorem dX1_sure_20 : decode cX1_sure 20 = .ok (.lload_n 0, 1) := dk_30 (dk_at dksX1_sure_0 20 rfl rfl)
theorem dX1_sure_21 : decode cX1_sure 21 = .ok (.lreturn, 1) := dk_173 (dk_at dksX1_sure_0 21 rfl rfl)
abbrev cX1_send : ByteArray := prog_1_method_24_code
def yX1_send : MethodName := ⟨RX1, "send", "(II)I"⟩
def dkwX1_send_3 : List UInt8 := [180, 0, 101, 180, 0, 200, 27, 46, 100, 184, 1, 5, 172]
abbrev dktX1_send_3 : List UInt8 := dkwX1_send_3 ++ []
def dkwX1_send_2 : List UInt8 := [182, 1, 2, 42, 180, 0, 101, 180, 0, 209, 27, 28, 79, 42, 28, 182, 0, 228, 180, 0, 232, 42]
abbrev dktX1_send_2 : List UInt8 := dkwX1_send_2 ++ dktX1_send_3
def dkwX1_send_1 : List UInt8 := [154, 0, 5, 2, 172, 42, 180, 0, 101, 180, 0, 209, 27, 46, 28, 160, 0, 6, 16, 254, 172, 42]
abbrev dktX1_send_1 : List UInt8 := dkwX1_send_1 ++ dktX1_send_2
def dkwX1_send_0 : List UInt8 := [42, 27, 182, 0, 186, 153, 0, 22, 42, 28, 182, 0, 233, 153, 0, 14, 42, 180, 0, 101, 27, 182, 0, 219]
abbrev dktX1_send_0 : List UInt8 := dkwX1_send_0 ++ dktX1_send_1
theorem dksX1_send_0 : cX1_send.data.toList.drop 0 = dktX1_send_0 := by decide +kernel
theorem dksX1_send_1 : cX1_send.data.toList.drop 24 = dktX1_send_1 := dk_seg dksX1_send_0 24 rfl rfl
theorem dksX1_send_2 : cX1_send.data.toList.drop 46 = dktX1_send_2 := dk_seg dksX1_send_1 22 rfl rfl
theorem dksX1_send_3 : cX1_send.data.toList.drop 68 = dktX1_send_3 := dk_seg dksX1_send_2 22 rfl rfl
theorem dX1_send_0 : decode cX1_send 0 = .ok (.aload_n 0, 1) := dk_42 (dk_at dksX1_send_0 0 rfl rfl)
theorem dX1_send_1 : decode cX1_send 1 = .ok (.iload_n 1, 1) := dk_27 (dk_at dksX1_send_0 1 rfl rfl)
theorem dX1_send_2 : decode cX1_send 2 = .ok (.invokevirtual 186, 3) := dk_182 0 186 (dk_at dksX1_send_0 2 rfl rfl)
theorem dX1_send_5 : decode cX1_send 5 = .ok (.ifCond .eq 22, 3) := dk_153 0 22 (dk_at dksX1_send_0 5 rfl rfl)
theorem dX1_send_8 : decode cX1_send 8 = .ok (.aload_n 0, 1) := dk_42 (dk_at dksX1_send_0 8 rfl rfl)
theorem dX1_send_9 : decode cX1_send 9 = .ok (.iload_n 2, 1) := dk_28 (dk_at dksX1_send_0 9 rfl rfl)
theorem dX1_send_10 : decode cX1_send 10 = .ok (.invokevirtual 233, 3) := dk_182 0 233 (dk_at dksX1_send_0 10 rfl rfl)
theorem dX1_send_13 : decode cX1_send 13 = .ok (.ifCond .eq 14, 3) := dk_153 0 14 (dk_at dksX1_send_0 13 rfl rfl)
theorem dX1_send_16 : decode cX1_send 16 = .ok (.aload_n 0, 1) := dk_42 (dk_at dksX1_send_0 16 rfl rfl)
theorem dX1_send_17 : decode cX1_send 17 = .ok (.getfield 101, 3) := dk_180 0 101 (dk_at dksX1_send_0 17 rfl rfl)
theorem dX1_send_20 : decode cX1_send 20 = .ok (.iload_n 1, 1) := dk_27 (dk_at dksX1_send_0 20 rfl rfl)
theorem dX1_send_21 : decode cX1_send 21 = .ok (.invokevirtual 219, 3) := dk_182 0 219 (dk_at dksX1_send_0 21 rfl rfl)
theorem dX1_send_24 : decode cX1_send 24 = .ok (.ifCond .ne 5, 3) := dk_154 0 5 (dk_at dksX1_send_1 0 rfl rfl)
theorem dX1_send_27 : decode cX1_send 27 = .ok (.iconst (-1), 1) := dk_2 (dk_at dksX1_send_1 3 rfl rfl)
theorem dX1_send_28 : decode cX1_send 28 = .ok (.ireturn, 1) := dk_172 (dk_at dksX1_send_1 4 rfl rfl)
theorem dX1_send_29 : decode cX1_send 29 = .ok (.aload_n 0, 1) := dk_42 (dk_at dksX1_send_1 5 rfl rfl)
theorem dX1_send_30 : decode cX1_send 30 = .ok (.getfield 101, 3) := dk_180 0 101 (dk_at dksX1_send_1 6 rfl rfl)
theorem dX1_send_33 : decode cX1_send 33 = .ok (.getfield 209, 3) := dk_180 0 209 (dk_at dksX1_send_1 9 rfl rfl)
theorem dX1_send_36 : decode cX1_send 36 = .ok (.iload_n 1, 1) := dk_27 (dk_at dksX1_send_1 12 rfl rfl)
theorem dX1_send_37 : decode cX1_send 37 = .ok (.iaload, 1) := dk_46 (dk_at dksX1_send_1 13 rfl rfl)
theorem dX1_send_38 : decode cX1_send 38 = .ok (.iload_n 2, 1) := dk_28 (dk_at dksX1_send_1 14 rfl rfl)
theorem dX1_send_39 : decode cX1_send 39 = .ok (.if_icmp .ne 6, 3) := dk_160 0 6 (dk_at dksX1_send_1 15 rfl rfl)
theorem dX1_send_42 : decode cX1_send 42 = .ok (.bipush (-2), 2) := dk_16 254 (dk_at dksX1_send_1 18 rfl rfl)
theorem dX1_send_44 : decode cX1_send 44 = .ok (.ireturn, 1) := dk_172 (dk_at dksX1_send_1 20 rfl rfl)
theorem dX1_send_45 : decode cX1_send 45 = .ok (.aload_n 0, 1) := dk_42 (dk_at dksX1_send_1 21 rfl rfl)
theorem dX1_send_46 : decode cX1_send 46 = .ok (.invokevirtual 258, 3) := dk_182 1 2 (dk_at dksX1_send_2 0 rfl rfl)
theorem dX1_send_49 : decode cX1_send 49 = .ok (.aload_n 0, 1) := dk_42 (dk_at dksX1_send_2 3 rfl rfl)
theorem dX1_send_50 : decode cX1_send 50 = .ok (.getfield 101, 3) := dk_180 0 101 (dk_at dksX1_send_2 4 rfl rfl)
theorem dX1_send_53 : decode cX1_send 53 = .ok (.getfield 209, 3) := dk_180 0 209 (dk_at dksX1_send_2 7 rfl rfl)
theorem dX1_send_56 : decode cX1_send 56 = .ok (.iload_n 1, 1) := dk_27 (dk_at dksX1_send_2 10 rfl rfl)
theorem dX1_send_57 : decode cX1_send 57 = .ok (.iload_n 2, 1) := dk_28 (dk_at dksX1_send_2 11 rfl rfl)
theorem dX1_send_58 : decode cX1_send 58 = .ok (.iastore, 1) := dk_79 (dk_at dksX1_send_2 12 rfl rfl)
theorem dX1_send_59 : decode cX1_send 59 = .ok (.aload_n 0, 1) := dk_42 (dk_at dksX1_send_2 13 rfl rfl)
theorem dX1_send_60 : decode cX1_send 60 = .ok (.iload_n 2, 1) := dk_28 (dk_at dksX1_send_2 14 rfl rfl)
theorem dX1_send_61 : decode cX1_send 61 = .ok (.invokevirtual 228, 3) := dk_182 0 228 (dk_at dksX1_send_2 15 rfl rfl)
theorem dX1_send_64 : decode cX1_send 64 = .ok (.getfield 232, 3) := dk_180 0 232 (dk_at dksX1_send_2 18 rfl rfl)
theorem dX1_send_67 : decode cX1_send 67 = .ok (.aload_n 0, 1) := dk_42 (dk_at dksX1_send_2 21 rfl rfl)
theorem dX1_send_68 : decode cX1_send 68 = .ok (.getfield 101, 3) := dk_180 0 101 (dk_at dksX1_send_3 0 rfl rfl)
theorem dX1_send_71 : decode cX1_send 71 = .ok (.getfield 200, 3) := dk_180 0 200 (dk_at dksX1_send_3 3 rfl rfl)
theorem dX1_send_74 : decode cX1_send 74 = .ok (.iload_n 1, 1) := dk_27 (dk_at dksX1_send_3 6 rfl rfl)
theorem dX1_send_75 : decode cX1_send 75 = .ok (.iaload, 1) := dk_46 (dk_at dksX1_send_3 7 rfl rfl)
theorem dX1_send_76 : decode cX1_send 76 = .ok (.isub, 1) := dk_100 (dk_at dksX1_send_3 8 rfl rfl)
theorem dX1_send_77 : decode cX1_send 77 = .ok (.invokestatic 261, 3) := dk_184 1 5 (dk_at dksX1_send_3 9 rfl rfl)
theorem dX1_send_80 : decode cX1_send 80 = .ok (.ireturn, 1) := dk_172 (dk_at dksX1_send_3 12 rfl rfl)
abbrev cX1_keepNow : ByteArray := prog_1_method_23_code
def yX1_keepNow : MethodName := ⟨RX1, "keepNow", "()V"⟩
def dkwX1_keepNow_4 : List UInt8 := [42, 180, 0, 163, 50, 42, 180, 0, 101, 182, 0, 254, 42, 89, 180, 0, 163, 4, 96, 181, 0, 163, 177]
abbrev dktX1_keepNow_4 : List UInt8 := dkwX1_keepNow_4 ++ []
def dkwX1_keepNow_3 : List UInt8 := [199, 0, 20, 42, 180, 0, 111, 42, 180, 0, 163, 187, 0, 98, 89, 42, 183, 0, 100, 83, 42, 180, 0, 111]
abbrev dktX1_keepNow_3 : List UInt8 := dkwX1_keepNow_3 ++ dktX1_keepNow_4
def dkwX1_keepNow_2 : List UInt8 := [16, 19, 43, 83, 42, 89, 180, 0, 163, 4, 100, 181, 0, 163, 42, 180, 0, 111, 42, 180, 0, 163, 50]
abbrev dktX1_keepNow_2 : List UInt8 := dkwX1_keepNow_2 ++ dktX1_keepNow_3
def dkwX1_keepNow_1 : List UInt8 := [42, 180, 0, 111, 28, 4, 100, 42, 180, 0, 111, 28, 50, 83, 132, 2, 1, 167, 255, 233, 42, 180, 0, 111]
abbrev dktX1_keepNow_1 : List UInt8 := dkwX1_keepNow_1 ++ dktX1_keepNow_2
def dkwX1_keepNow_0 : List UInt8 := [42, 180, 0, 163, 16, 20, 160, 0, 56, 42, 180, 0, 111, 3, 50, 76, 4, 61, 28, 16, 20, 162, 0, 23]
abbrev dktX1_keepNow_0 : List UInt8 := dkwX1_keepNow_0 ++ dktX1_keepNow_1
theorem dksX1_keepNow_0 : cX1_keepNow.data.toList.drop 0 = dktX1_keepNow_0 := by decide +kernel
theorem dksX1_keepNow_1 : cX1_keepNow.data.toList.drop 24 = dktX1_keepNow_1 := dk_seg dksX1_keepNow_0 24 rfl rfl
theorem dksX1_keepNow_2 : cX1_keepNow.data.toList.drop 48 = dktX1_keepNow_2 := dk_seg dksX1_keepNow_1 24 rfl rfl
theorem dksX1_keepNow_3 : cX1_keepNow.data.toList.drop 71 = dktX1_keepNow_3 := dk_seg dksX1_keepNow_2 23 rfl rfl
theorem dksX1_keepNow_4 : cX1_keepNow.data.toList.drop 95 = dktX1_keepNow_4 := dk_seg dksX1_keepNow_3 24 rfl rfl
theorem dX1_keepNow_0 : decode cX1_keepNow 0 = .ok (.aload_n 0, 1) := dk_42 (dk_at dksX1_keepNow_0 0 rfl rfl)
theorem dX1_keepNow_1 : decode cX1_keepNow 1 = .ok (.getfield 163, 3) := dk_180 0 163 (dk_at dksX1_keepNow_0 1 rfl rfl)
theorem dX1_keepNow_4 : decode cX1_keepNow 4 = .ok (.bipush 20, 2) := dk_16 20 (dk_at dksX1_keepNow_0 4 rfl rfl)
theorem dX1_keepNow_6 : decode cX1_keepNow 6 = .ok (.if_icmp .ne 56, 3) := dk_160 0 56 (dk_at dksX1_keepNow_0 6 rfl rfl)
theorem dX1_keepNow_9 : decode cX1_keepNow 9 = .ok (.aload_n 0, 1) := dk_42 (dk_at dksX1_keepNow_0 9 rfl rfl)
theorem dX1_keepNow_10 : decode cX1_keepNow 10 = .ok (.getfield 111, 3) := dk_180 0 111 (dk_at dksX1_keepNow_0 10 rfl rfl)
theorem dX1_keepNow_13 : decode cX1_keepNow 13 = .ok (.iconst 0, 1) := dk_3 (dk_at dksX1_keepNow_0 13 rfl rfl)
theorem dX1_keepNow_14 : decode cX1_keepNow 14 = .ok (.aaload, 1) := dk_50 (dk_at dksX1_keepNow_0 14 rfl rfl)
theorem dX1_keepNow_15 : decode cX1_keepNow 15 = .ok (.astore_n 1, 1) := dk_76 (dk_at dksX1_keepNow_0 15 rfl rfl)
theorem dX1_keepNow_16 : decode cX1_keepNow 16 = .ok (.iconst 1, 1) := dk_4 (dk_at dksX1_keepNow_0 16 rfl rfl)
theorem dX1_keepNow_17 : decode cX1_keepNow 17 = .ok (.istore_n 2, 1) := dk_61 (dk_at dksX1_keepNow_0 17 rfl rfl)
theorem dX1_keepNow_18 : decode cX1_keepNow 18 = .ok (.iload_n 2, 1) := dk_28 (dk_at dksX1_keepNow_0 18 rfl rfl)
theorem dX1_keepNow_19 : decode cX1_keepNow 19 = .ok (.bipush 20, 2) := dk_16 20 (dk_at dksX1_keepNow_0 19 rfl rfl)
theorem dX1_keepNow_21 : decode cX1_keepNow 21 = .ok (.if_icmp .ge 23, 3) := dk_162 0 23 (dk_at dksX1_keepNow_0 21 rfl rfl)
theorem dX1_keepNow_24 : decode cX1_keepNow 24 = .ok (.aload_n 0, 1) := dk_42 (dk_at dksX1_keepNow_1 0 rfl rfl)
theorem dX1_keepNow_25 : decode cX1_keepNow 25 = .ok (.getfield 111, 3) := dk_180 0 111 (dk_at dksX1_keepNow_1 1 rfl rfl)
theorem dX1_keepNow_28 : decode cX1_keepNow 28 = .ok (.iload_n 2, 1) := dk_28 (dk_at dksX1_keepNow_1 4 rfl rfl)
theorem dX1_keepNow_29 : decode cX1_keepNow 29 = .ok (.iconst 1, 1) := dk_4 (dk_at dksX1_keepNow_1 5 rfl rfl)
theorem dX1_keepNow_30 : decode cX1_keepNow 30 = .ok (.isub, 1) := dk_100 (dk_at dksX1_keepNow_1 6 rfl rfl)
theorem dX1_keepNow_31 : decode cX1_keepNow 31 = .ok (.aload_n 0, 1) := dk_42 (dk_at dksX1_keepNow_1 7 rfl rfl)
theorem dX1_keepNow_32 : decode cX1_keepNow 32 = .ok (.getfield 111, 3) := dk_180 0 111 (dk_at dksX1_keepNow_1 8 rfl rfl)
theorem dX1_keepNow_35 : decode cX1_keepNow 35 = .ok (.iload_n 2, 1) := dk_28 (dk_at dksX1_keepNow_1 11 rfl rfl)
theorem dX1_keepNow_36 : decode cX1_keepNow 36 = .ok (.aaload, 1) := dk_50 (dk_at dksX1_keepNow_1 12 rfl rfl)
theorem dX1_keepNow_37 : decode cX1_keepNow 37 = .ok (.aastore, 1) := dk_83 (dk_at dksX1_keepNow_1 13 rfl rfl)
theorem dX1_keepNow_38 : decode cX1_keepNow 38 = .ok (.iinc 2 1, 3) := dk_132 2 1 (dk_at dksX1_keepNow_1 14 rfl rfl)
theorem dX1_keepNow_41 : decode cX1_keepNow 41 = .ok (.goto (-23), 3) := dk_167 255 233 (dk_at dksX1_keepNow_1 17 rfl rfl)
theorem dX1_keepNow_44 : decode cX1_keepNow 44 = .ok (.aload_n 0, 1) := dk_42 (dk_at dksX1_keepNow_1 20 rfl rfl)
theorem dX1_keepNow_45 : decode cX1_keepNow 45 = .ok (.getfield 111, 3) := dk_180 0 111 (dk_at dksX1_keepNow_1 21 rfl rfl)
theorem dX1_keepNow_48 : decode cX1_keepNow 48 = .ok (.bipush 19, 2) := dk_16 19 (dk_at dksX1_keepNow_2 0 rfl rfl)
theorem dX1_keepNow_50 : decode cX1_keepNow 50 = .ok (.aload_n 1, 1) := dk_43 (dk_at dksX1_keepNow_2 2 rfl rfl)
theorem dX1_keepNow_51 : decode cX1_keepNow 51 = .ok (.aastore, 1) := dk_83 (dk_at dksX1_keepNow_2 3 rfl rfl)
theorem dX1_keepNow_52 : decode cX1_keepNow 52 = .ok (.aload_n 0, 1) := dk_42 (dk_at dksX1_keepNow_2 4 rfl rfl)
theorem dX1_keepNow_53 : decode cX1_keepNow 53 = .ok (.dup, 1) := dk_89 (dk_at dksX1_keepNow_2 5 rfl rfl)
theorem dX1_keepNow_54 : decode cX1_keepNow 54 = .ok (.getfield 163, 3) := dk_180 0 163 (dk_at dksX1_keepNow_2 6 rfl rfl)
theorem dX1_keepNow_57 : decode cX1_keepNow 57 = .ok (.iconst 1, 1) := dk_4 (dk_at dksX1_keepNow_2 9 rfl rfl)
theorem dX1_keepNow_58 : decode cX1_keepNow 58 = .ok (.isub, 1) := dk_100 (dk_at dksX1_keepNow_2 10 rfl rfl)
theorem dX1_keepNow_59 : decode cX1_keepNow 59 = .ok (.putfield 163, 3) := dk_181 0 163 (dk_at dksX1_keepNow_2 11 rfl rfl)
theorem dX1_keepNow_62 : decode cX1_keepNow 62 = .ok (.aload_n 0, 1) := dk_42 (dk_at dksX1_keepNow_2 14 rfl rfl)
theorem dX1_keepNow_63 : decode cX1_keepNow 63 = .ok (.getfield 111, 3) := dk_180 0 111 (dk_at dksX1_keepNow_2 15 rfl rfl)
theorem dX1_keepNow_66 : decode cX1_keepNow 66 = .ok (.aload_n 0, 1) := dk_42 (dk_at dksX1_keepNow_2 18 rfl rfl)
theorem dX1_keepNow_67 : decode cX1_keepNow 67 = .ok (.getfield 163, 3) := dk_180 0 163 (dk_at dksX1_keepNow_2 19 rfl rfl)
theorem dX1_keepNow_70 : decode cX1_keepNow 70 = .ok (.aaload, 1) := dk_50 (dk_at dksX1_keepNow_2 22 rfl rfl)
theorem dX1_keepNow_71 : decode cX1_keepNow 71 = .ok (.ifnonnull 20, 3) := dk_199 0 20 (dk_at dksX1_keepNow_3 0 rfl rfl)
theorem dX1_keepNow_74 : decode cX1_keepNow 74 = .ok (.aload_n 0, 1) := dk_42 (dk_at dksX1_keepNow_3 3 rfl rfl)
theorem dX1_keepNow_75 : decode cX1_keepNow 75 = .ok (.getfield 111, 3) := dk_180 0 111 (dk_at dksX1_keepNow_3 4 rfl rfl)
theorem dX1_keepNow_78 : decode cX1_keepNow 78 = .ok (.aload_n 0, 1) := dk_42 (dk_at dksX1_keepNow_3 7 rfl rfl)
theorem dX1_keepNow_79 : decode cX1_keepNow 79 = .ok (.getfield 163, 3) := dk_180 0 163 (dk_at dksX1_keepNow_3 8 rfl rfl)
theorem dX1_keepNow_82 : decode cX1_keepNow 82 = .ok (.new 98, 3) := dk_187 0 98 (dk_at dksX1_keepNow_3 11 rfl rfl)
theorem dX1_keepNow_85 : decode cX1_keepNow 85 = .ok (.dup, 1) := dk_89 (dk_at dksX1_keepNow_3 14 rfl rfl)
theorem dX1_keepNow_86 : decode cX1_keepNow 86 = .ok (.aload_n 0, 1) := dk_42 (dk_at dksX1_keepNow_3 15 rfl rfl)
theorem dX1_keepNow_87 : decode cX1_keepNow 87 = .ok (.invokespecial 100, 3) := dk_183 0 100 (dk_at dksX1_keepNow_3 16 rfl rfl)
theorem dX1_keepNow_90 : decode cX1_keepNow 90 = .ok (.aastore, 1) := dk_83 (dk_at dksX1_keepNow_3 19 rfl rfl)
theorem dX1_keepNow_91 : decode cX1_keepNow 91 = .ok (.aload_n 0, 1) := dk_42 (dk_at dksX1_keepNow_3 20 rfl rfl)
theorem dX1_keepNow_92 : decode cX1_keepNow 92 = .ok (.getfield 111, 3) := dk_180 0 111 (dk_at dksX1_keepNow_3 21 rfl rfl)
theorem dX1_keepNow_95 : decode cX1_keepNow 95 = .ok (.aload_n 0, 1) := dk_42 (dk_at dksX1_keepNow_4 0 rfl rfl)
theorem dX1_keepNow_96 : decode cX1_keepNow 96 = .ok (.getfield 163, 3) := dk_180 0 163 (dk_at dksX1_keepNow_4 1 rfl rfl)
theorem dX1_keepNow_99 : decode cX1_keepNow 99 = .ok (.aaload, 1) := dk_50 (dk_at dksX1_keepNow_4 4 rfl rfl)
theorem dX1_keepNow_100 : decode cX1_keepNow 100 = .ok (.aload_n 0, 1) := dk_42 (dk_at dksX1_keepNow_4 5 rfl rfl)
theorem dX1_keepNow_101 : decode cX1_keepNow 101 = .ok (.getfield 101, 3) := dk_180 0 101 (dk_at dksX1_keepNow_4 6 rfl rfl)
theorem dX1_keepNow_104 : decode cX1_keepNow 104 = .ok (.invokevirtual 254, 3) := dk_182 0 254 (dk_at dksX1_keepNow_4 9 rfl rfl)
theorem dX1_keepNow_107 : decode cX1_keepNow 107 = .ok (.aload_n 0, 1) := dk_42 (dk_at dksX1_keepNow_4 12 rfl rfl)
theorem dX1_keepNow_108 : decode cX1_keepNow 108 = .ok (.dup, 1) := dk_89 (dk_at dksX1_keepNow_4 13 rfl rfl)
theorem dX1_keepNow_109 : decode cX1_keepNow 109 = .ok (.getfield 163, 3) := dk_180 0 163 (dk_at dksX1_keepNow_4 14 rfl rfl)
theorem dX1_keepNow_112 : decode cX1_keepNow 112 = .ok (.iconst 1, 1) := dk_4 (dk_at dksX1_keepNow_4 17 rfl rfl)
theorem dX1_keepNow_113 : decode cX1_keepNow 113 = .ok (.iadd, 1) := dk_96 (dk_at dksX1_keepNow_4 18 rfl rfl)
theorem dX1_keepNow_114 : decode cX1_keepNow 114 = .ok (.putfield 163, 3) := dk_181 0 163 (dk_at dksX1_keepNow_4 19 rfl rfl)
theorem dX1_keepNow_117 : decode cX1_keepNow 117 = .ok (.return_, 1) := dk_177 (dk_at dksX1_keepNow_4 22 rfl rfl)
abbrev cX1_fill : ByteArray := prog_1_method_25_code
def yX1_fill : MethodName := ⟨RX1, "fill", "(II)I"⟩
def dkwX1_fill_2 : List UInt8 := [184, 1, 10, 79, 42, 180, 0, 101, 180, 0, 236, 27, 46, 172]
abbrev dktX1_fill_2 : List UInt8 := dkwX1_fill_2 ++ []
def dkwX1_fill_1 : List UInt8 := [182, 1, 2, 42, 180, 0, 101, 180, 0, 236, 27, 16, 99, 42, 180, 0, 101, 180, 0, 236, 27, 46, 28, 96]
abbrev dktX1_fill_1 : List UInt8 := dkwX1_fill_1 ++ dktX1_fill_2
def dkwX1_fill_0 : List UInt8 := [42, 27, 182, 0, 233, 153, 0, 15, 28, 133, 10, 20, 1, 8, 184, 0, 144, 154, 0, 5, 2, 172, 42]
abbrev dktX1_fill_0 : List UInt8 := dkwX1_fill_0 ++ dktX1_fill_1
theorem dksX1_fill_0 : cX1_fill.data.toList.drop 0 = dktX1_fill_0 := by decide +kernel
theorem dksX1_fill_1 : cX1_fill.data.toList.drop 23 = dktX1_fill_1 := dk_seg dksX1_fill_0 23 rfl rfl
theorem dksX1_fill_2 : cX1_fill.data.toList.drop 47 = dktX1_fill_2 := dk_seg dksX1_fill_1 24 rfl rfl
theorem dX1_fill_0 : decode cX1_fill 0 = .ok (.aload_n 0, 1) := dk_42 (dk_at dksX1_fill_0 0 rfl rfl)
theorem dX1_fill_1 : decode cX1_fill 1 = .ok (.iload_n 1, 1) := dk_27 (dk_at dksX1_fill_0 1 rfl rfl)
theorem dX1_fill_2 : decode cX1_fill 2 = .ok (.invokevirtual 233, 3) := dk_182 0 233 (dk_at dksX1_fill_0 2 rfl rfl)
theorem dX1_fill_5 : decode cX1_fill 5 = .ok (.ifCond .eq 15, 3) := dk_153 0 15 (dk_at dksX1_fill_0 5 rfl rfl)
theorem dX1_fill_8 : decode cX1_fill 8 = .ok (.iload_n 2, 1) := dk_28 (dk_at dksX1_fill_0 8 rfl rfl)
theorem dX1_fill_9 : decode cX1_fill 9 = .ok (.i2l, 1) := dk_133 (dk_at dksX1_fill_0 9 rfl rfl)
theorem dX1_fill_10 : decode cX1_fill 10 = .ok (.lconst 1, 1) := dk_10 (dk_at dksX1_fill_0 10 rfl rfl)
theorem dX1_fill_11 : decode cX1_fill 11 = .ok (.ldc2_w 264, 3) := dk_20 1 8 (dk_at dksX1_fill_0 11 rfl rfl)
theorem dX1_fill_14 : decode cX1_fill 14 = .ok (.invokestatic 144, 3) := dk_184 0 144 (dk_at dksX1_fill_0 14 rfl rfl)
theorem dX1_fill_17 : decode cX1_fill 17 = .ok (.ifCond .ne 5, 3) := dk_154 0 5 (dk_at dksX1_fill_0 17 rfl rfl)
theorem dX1_fill_20 : decode cX1_fill 20 = .ok (.iconst (-1), 1) := dk_2 (dk_at dksX1_fill_0 20 rfl rfl)
theorem dX1_fill_21 : decode cX1_fill 21 = .ok (.ireturn, 1) := dk_172 (dk_at dksX1_fill_0 21 rfl rfl)
theorem dX1_fill_22 : decode cX1_fill 22 = .ok (.aload_n 0, 1) := dk_42 (dk_at dksX1_fill_0 22 rfl rfl)
theorem dX1_fill_23 : decode cX1_fill 23 = .ok (.invokevirtual 258, 3) := dk_182 1 2 (dk_at dksX1_fill_1 0 rfl rfl)
theorem dX1_fill_26 : decode cX1_fill 26 = .ok (.aload_n 0, 1) := dk_42 (dk_at dksX1_fill_1 3 rfl rfl)
theorem dX1_fill_27 : decode cX1_fill 27 = .ok (.getfield 101, 3) := dk_180 0 101 (dk_at dksX1_fill_1 4 rfl rfl)
theorem dX1_fill_30 : decode cX1_fill 30 = .ok (.getfield 236, 3) := dk_180 0 236 (dk_at dksX1_fill_1 7 rfl rfl)
theorem dX1_fill_33 : decode cX1_fill 33 = .ok (.iload_n 1, 1) := dk_27 (dk_at dksX1_fill_1 10 rfl rfl)
theorem dX1_fill_34 : decode cX1_fill 34 = .ok (.bipush 99, 2) := dk_16 99 (dk_at dksX1_fill_1 11 rfl rfl)
theorem dX1_fill_36 : decode cX1_fill 36 = .ok (.aload_n 0, 1) := dk_42 (dk_at dksX1_fill_1 13 rfl rfl)
theorem dX1_fill_37 : decode cX1_fill 37 = .ok (.getfield 101, 3) := dk_180 0 101 (dk_at dksX1_fill_1 14 rfl rfl)
theorem dX1_fill_40 : decode cX1_fill 40 = .ok (.getfield 236, 3) := dk_180 0 236 (dk_at dksX1_fill_1 17 rfl rfl)
theorem dX1_fill_43 : decode cX1_fill 43 = .ok (.iload_n 1, 1) := dk_27 (dk_at dksX1_fill_1 20 rfl rfl)
theorem dX1_fill_44 : decode cX1_fill 44 = .ok (.iaload, 1) := dk_46 (dk_at dksX1_fill_1 21 rfl rfl)
theorem dX1_fill_45 : decode cX1_fill 45 = .ok (.iload_n 2, 1) := dk_28 (dk_at dksX1_fill_1 22 rfl rfl)
theorem dX1_fill_46 : decode cX1_fill 46 = .ok (.iadd, 1) := dk_96 (dk_at dksX1_fill_1 23 rfl rfl)
theorem dX1_fill_47 : decode cX1_fill 47 = .ok (.invokestatic 266, 3) := dk_184 1 10 (dk_at dksX1_fill_2 0 rfl rfl)
theorem dX1_fill_50 : decode cX1_fill 50 = .ok (.iastore, 1) := dk_79 (dk_at dksX1_fill_2 3 rfl rfl)
theorem dX1_fill_51 : decode cX1_fill 51 = .ok (.aload_n 0, 1) := dk_42 (dk_at dksX1_fill_2 4 rfl rfl)
theorem dX1_fill_52 : decode cX1_fill 52 = .ok (.getfield 101, 3) := dk_180 0 101 (dk_at dksX1_fill_2 5 rfl rfl)
theorem dX1_fill_55 : decode cX1_fill 55 = .ok (.getfield 236, 3) := dk_180 0 236 (dk_at dksX1_fill_2 8 rfl rfl)
theorem dX1_fill_58 : decode cX1_fill 58 = .ok (.iload_n 1, 1) := dk_27 (dk_at dksX1_fill_2 11 rfl rfl)
theorem dX1_fill_59 : decode cX1_fill 59 = .ok (.iaload, 1) := dk_46 (dk_at dksX1_fill_2 12 rfl rfl)
theorem dX1_fill_60 : decode cX1_fill 60 = .ok (.ireturn, 1) := dk_172 (dk_at dksX1_fill_2 13 rfl rfl)
abbrev cX1_lead : ByteArray := prog_1_method_26_code
def yX1_lead : MethodName := ⟨RX1, "lead", "(II)Z"⟩
def dkwX1_lead_3 : List UInt8 := [180, 0, 101, 180, 0, 200, 27, 28, 79, 42, 180, 0, 101, 180, 0, 209, 27, 2, 79, 4, 172]
abbrev dktX1_lead_3 : List UInt8 := dkwX1_lead_3 ++ []
def dkwX1_lead_2 : List UInt8 := [160, 0, 18, 42, 180, 0, 101, 180, 0, 209, 27, 46, 2, 160, 0, 5, 3, 172, 42, 182, 1, 2, 42]
abbrev dktX1_lead_2 : List UInt8 := dkwX1_lead_2 ++ dktX1_lead_3
def dkwX1_lead_1 : List UInt8 := [153, 0, 40, 42, 180, 0, 101, 27, 182, 0, 219, 153, 0, 29, 42, 180, 0, 101, 180, 0, 200, 27, 46, 28]
abbrev dktX1_lead_1 : List UInt8 := dkwX1_lead_1 ++ dktX1_lead_2
def dkwX1_lead_0 : List UInt8 := [42, 27, 182, 0, 186, 153, 0, 57, 28, 133, 9, 42, 180, 0, 13, 180, 1, 13, 133, 184, 0, 144]
abbrev dktX1_lead_0 : List UInt8 := dkwX1_lead_0 ++ dktX1_lead_1
theorem dksX1_lead_0 : cX1_lead.data.toList.drop 0 = dktX1_lead_0 := by decide +kernel
theorem dksX1_lead_1 : cX1_lead.data.toList.drop 22 = dktX1_lead_1 := dk_seg dksX1_lead_0 22 rfl rfl
theorem dksX1_lead_2 : cX1_lead.data.toList.drop 46 = dktX1_lead_2 := dk_seg dksX1_lead_1 24 rfl rfl
theorem dksX1_lead_3 : cX1_lead.data.toList.drop 69 = dktX1_lead_3 := dk_seg dksX1_lead_2 23 rfl rfl
theorem dX1_lead_0 : decode cX1_lead 0 = .ok (.aload_n 0, 1) := dk_42 (dk_at dksX1_lead_0 0 rfl rfl)
theorem dX1_lead_1 : decode cX1_lead 1 = .ok (.iload_n 1, 1) := dk_27 (dk_at dksX1_lead_0 1 rfl rfl)
theorem dX1_lead_2 : decode cX1_lead 2 = .ok (.invokevirtual 186, 3) := dk_182 0 186 (dk_at dksX1_lead_0 2 rfl rfl)
theorem dX1_lead_5 : decode cX1_lead 5 = .ok (.ifCond .eq 57, 3) := dk_153 0 57 (dk_at dksX1_lead_0 5 rfl rfl)
theorem dX1_lead_8 : decode cX1_lead 8 = .ok (.iload_n 2, 1) := dk_28 (dk_at dksX1_lead_0 8 rfl rfl)
theorem dX1_lead_9 : decode cX1_lead 9 = .ok (.i2l, 1) := dk_133 (dk_at dksX1_lead_0 9 rfl rfl)
theorem dX1_lead_10 : decode cX1_lead 10 = .ok (.lconst 0, 1) := dk_9 (dk_at dksX1_lead_0 10 rfl rfl)
theorem dX1_lead_11 : decode cX1_lead 11 = .ok (.aload_n 0, 1) := dk_42 (dk_at dksX1_lead_0 11 rfl rfl)
theorem dX1_lead_12 : decode cX1_lead 12 = .ok (.getfield 13, 3) := dk_180 0 13 (dk_at dksX1_lead_0 12 rfl rfl)
theorem dX1_lead_15 : decode cX1_lead 15 = .ok (.getfield 269, 3) := dk_180 1 13 (dk_at dksX1_lead_0 15 rfl rfl)
theorem dX1_lead_18 : decode cX1_lead 18 = .ok (.i2l, 1) := dk_133 (dk_at dksX1_lead_0 18 rfl rfl)
theorem dX1_lead_19 : decode cX1_lead 19 = .ok (.invokestatic 144, 3) := dk_184 0 144 (dk_at dksX1_lead_0 19 rfl rfl)
theorem dX1_lead_22 : decode cX1_lead 22 = .ok (.ifCond .eq 40, 3) := dk_153 0 40 (dk_at dksX1_lead_1 0 rfl rfl)
theorem dX1_lead_25 : decode cX1_lead 25 = .ok (.aload_n 0, 1) := dk_42 (dk_at dksX1_lead_1 3 rfl rfl)
theorem dX1_lead_26 : decode cX1_lead 26 = .ok (.getfield 101, 3) := dk_180 0 101 (dk_at dksX1_lead_1 4 rfl rfl)
theorem dX1_lead_29 : decode cX1_lead 29 = .ok (.iload_n 1, 1) := dk_27 (dk_at dksX1_lead_1 7 rfl rfl)
theorem dX1_lead_30 : decode cX1_lead 30 = .ok (.invokevirtual 219, 3) := dk_182 0 219 (dk_at dksX1_lead_1 8 rfl rfl)
theorem dX1_lead_33 : decode cX1_lead 33 = .ok (.ifCond .eq 29, 3) := dk_153 0 29 (dk_at dksX1_lead_1 11 rfl rfl)
theorem dX1_lead_36 : decode cX1_lead 36 = .ok (.aload_n 0, 1) := dk_42 (dk_at dksX1_lead_1 14 rfl rfl)
theorem dX1_lead_37 : decode cX1_lead 37 = .ok (.getfield 101, 3) := dk_180 0 101 (dk_at dksX1_lead_1 15 rfl rfl)
theorem dX1_lead_40 : decode cX1_lead 40 = .ok (.getfield 200, 3) := dk_180 0 200 (dk_at dksX1_lead_1 18 rfl rfl)
theorem dX1_lead_43 : decode cX1_lead 43 = .ok (.iload_n 1, 1) := dk_27 (dk_at dksX1_lead_1 21 rfl rfl)
theorem dX1_lead_44 : decode cX1_lead 44 = .ok (.iaload, 1) := dk_46 (dk_at dksX1_lead_1 22 rfl rfl)
theorem dX1_lead_45 : decode cX1_lead 45 = .ok (.iload_n 2, 1) := dk_28 (dk_at dksX1_lead_1 23 rfl rfl)
theorem dX1_lead_46 : decode cX1_lead 46 = .ok (.if_icmp .ne 18, 3) := dk_160 0 18 (dk_at dksX1_lead_2 0 rfl rfl)
theorem dX1_lead_49 : decode cX1_lead 49 = .ok (.aload_n 0, 1) := dk_42 (dk_at dksX1_lead_2 3 rfl rfl)
theorem dX1_lead_50 : decode cX1_lead 50 = .ok (.getfield 101, 3) := dk_180 0 101 (dk_at dksX1_lead_2 4 rfl rfl)
theorem dX1_lead_53 : decode cX1_lead 53 = .ok (.getfield 209, 3) := dk_180 0 209 (dk_at dksX1_lead_2 7 rfl rfl)
theorem dX1_lead_56 : decode cX1_lead 56 = .ok (.iload_n 1, 1) := dk_27 (dk_at dksX1_lead_2 10 rfl rfl)
theorem dX1_lead_57 : decode cX1_lead 57 = .ok (.iaload, 1) := dk_46 (dk_at dksX1_lead_2 11 rfl rfl)
theorem dX1_lead_58 : decode cX1_lead 58 = .ok (.iconst (-1), 1) := dk_2 (dk_at dksX1_lead_2 12 rfl rfl)
theorem dX1_lead_59 : decode cX1_lead 59 = .ok (.if_icmp .ne 5, 3) := dk_160 0 5 (dk_at dksX1_lead_2 13 rfl rfl)
theorem dX1_lead_62 : decode cX1_lead 62 = .ok (.iconst 0, 1) := dk_3 (dk_at dksX1_lead_2 16 rfl rfl)
theorem dX1_lead_63 : decode cX1_lead 63 = .ok (.ireturn, 1) := dk_172 (dk_at dksX1_lead_2 17 rfl rfl)
theorem dX1_lead_64 : decode cX1_lead 64 = .ok (.aload_n 0, 1) := dk_42 (dk_at dksX1_lead_2 18 rfl rfl)
theorem dX1_lead_65 : decode cX1_lead 65 = .ok (.invokevirtual 258, 3) := dk_182 1 2 (dk_at dksX1_lead_2 19 rfl rfl)
theorem dX1_lead_68 : decode cX1_lead 68 = .ok (.aload_n 0, 1) := dk_42 (dk_at dksX1_lead_2 22 rfl rfl)
theorem dX1_lead_69 : decode cX1_lead 69 = .ok (.getfield 101, 3) := dk_180 0 101 (dk_at dksX1_lead_3 0 rfl rfl)
theorem dX1_lead_72 : decode cX1_lead 72 = .ok (.getfield 200, 3) := dk_180 0 200 (dk_at dksX1_lead_3 3 rfl rfl)
theorem dX1_lead_75 : decode cX1_lead 75 = .ok (.iload_n 1, 1) := dk_27 (dk_at dksX1_lead_3 6 rfl rfl)
theorem dX1_lead_76 : decode cX1_lead 76 = .ok (.iload_n 2, 1) := dk_28 (dk_at dksX1_lead_3 7 rfl rfl)
theorem dX1_lead_77 : decode cX1_lead 77 = .ok (.iastore, 1) := dk_79 (dk_at dksX1_lead_3 8 rfl rfl)
theorem dX1_lead_78 : decode cX1_lead 78 = .ok (.aload_n 0, 1) := dk_42 (dk_at dksX1_lead_3 9 rfl rfl)
theorem dX1_lead_79 : decode cX1_lead 79 = .ok (.getfield 101, 3) := dk_180 0 101 (dk_at dksX1_lead_3 10 rfl rfl)
theorem dX1_lead_82 : decode cX1_lead 82 = .ok (.getfield 209, 3) := dk_180 0 209 (dk_at dksX1_lead_3 13 rfl rfl)
theorem dX1_lead_85 : decode cX1_lead 85 = .ok (.iload_n 1, 1) := dk_27 (dk_at dksX1_lead_3 16 rfl rfl)
theorem dX1_lead_86 : decode cX1_lead 86 = .ok (.iconst (-1), 1) := dk_2 (dk_at dksX1_lead_3 17 rfl rfl)
theorem dX1_lead_87 : decode cX1_lead 87 = .ok (.iastore, 1) := dk_79 (dk_at dksX1_lead_3 18 rfl rfl)
theorem dX1_lead_88 : decode cX1_lead 88 = .ok (.iconst 1, 1) := dk_4 (dk_at dksX1_lead_3 19 rfl rfl)
theorem dX1_lead_89 : decode cX1_lead 89 = .ok (.ireturn, 1) := dk_172 (dk_at dksX1_lead_3 20 rfl rfl)
abbrev cX1_go : ByteArray := prog_1_method_27_code
def yX1_go : MethodName := ⟨RX1, "go", "(I)I"⟩
def dkwX1_go_2 : List UInt8 := [180, 0, 101, 4, 182, 1, 21, 132, 2, 1, 167, 255, 240, 42, 180, 0, 101, 180, 1, 18, 172]
abbrev dktX1_go_2 : List UInt8 := dkwX1_go_2 ++ []
def dkwX1_go_1 : List UInt8 := [164, 0, 5, 2, 172, 27, 158, 0, 8, 42, 3, 181, 0, 163, 3, 61, 28, 27, 162, 0, 17, 42]
abbrev dktX1_go_1 : List UInt8 := dkwX1_go_1 ++ dktX1_go_2
def dkwX1_go_0 : List UInt8 := [27, 133, 9, 20, 1, 16, 184, 0, 144, 153, 0, 18, 42, 180, 0, 101, 180, 1, 18, 27, 96, 17, 35, 40]
abbrev dktX1_go_0 : List UInt8 := dkwX1_go_0 ++ dktX1_go_1
theorem dksX1_go_0 : cX1_go.data.toList.drop 0 = dktX1_go_0 := by decide +kernel
theorem dksX1_go_1 : cX1_go.data.toList.drop 24 = dktX1_go_1 := dk_seg dksX1_go_0 24 rfl rfl
theorem dksX1_go_2 : cX1_go.data.toList.drop 46 = dktX1_go_2 := dk_seg dksX1_go_1 22 rfl rfl
theorem dX1_go_0 : decode cX1_go 0 = .ok (.iload_n 1, 1) := dk_27 (dk_at dksX1_go_0 0 rfl rfl)
theorem dX1_go_1 : decode cX1_go 1 = .ok (.i2l, 1) := dk_133 (dk_at dksX1_go_0 1 rfl rfl)
theorem dX1_go_2 : decode cX1_go 2 = .ok (.lconst 0, 1) := dk_9 (dk_at dksX1_go_0 2 rfl rfl)
theorem dX1_go_3 : decode cX1_go 3 = .ok (.ldc2_w 272, 3) := dk_20 1 16 (dk_at dksX1_go_0 3 rfl rfl)
theorem dX1_go_6 : decode cX1_go 6 = .ok (.invokestatic 144, 3) := dk_184 0 144 (dk_at dksX1_go_0 6 rfl rfl)
theorem dX1_go_9 : decode cX1_go 9 = .ok (.ifCond .eq 18, 3) := dk_153 0 18 (dk_at dksX1_go_0 9 rfl rfl)
theorem dX1_go_12 : decode cX1_go 12 = .ok (.aload_n 0, 1) := dk_42 (dk_at dksX1_go_0 12 rfl rfl)
theorem dX1_go_13 : decode cX1_go 13 = .ok (.getfield 101, 3) := dk_180 0 101 (dk_at dksX1_go_0 13 rfl rfl)
theorem dX1_go_16 : decode cX1_go 16 = .ok (.getfield 274, 3) := dk_180 1 18 (dk_at dksX1_go_0 16 rfl rfl)
theorem dX1_go_19 : decode cX1_go 19 = .ok (.iload_n 1, 1) := dk_27 (dk_at dksX1_go_0 19 rfl rfl)
theorem dX1_go_20 : decode cX1_go 20 = .ok (.iadd, 1) := dk_96 (dk_at dksX1_go_0 20 rfl rfl)
theorem dX1_go_21 : decode cX1_go 21 = .ok (.sipush 9000, 3) := dk_17 35 40 (dk_at dksX1_go_0 21 rfl rfl)
theorem dX1_go_24 : decode cX1_go 24 = .ok (.if_icmp .le 5, 3) := dk_164 0 5 (dk_at dksX1_go_1 0 rfl rfl)
theorem dX1_go_27 : decode cX1_go 27 = .ok (.iconst (-1), 1) := dk_2 (dk_at dksX1_go_1 3 rfl rfl)
theorem dX1_go_28 : decode cX1_go 28 = .ok (.ireturn, 1) := dk_172 (dk_at dksX1_go_1 4 rfl rfl)
theorem dX1_go_29 : decode cX1_go 29 = .ok (.iload_n 1, 1) := dk_27 (dk_at dksX1_go_1 5 rfl rfl)
theorem dX1_go_30 : decode cX1_go 30 = .ok (.ifCond .le 8, 3) := dk_158 0 8 (dk_at dksX1_go_1 6 rfl rfl)
theorem dX1_go_33 : decode cX1_go 33 = .ok (.aload_n 0, 1) := dk_42 (dk_at dksX1_go_1 9 rfl rfl)
theorem dX1_go_34 : decode cX1_go 34 = .ok (.iconst 0, 1) := dk_3 (dk_at dksX1_go_1 10 rfl rfl)
theorem dX1_go_35 : decode cX1_go 35 = .ok (.putfield 163, 3) := dk_181 0 163 (dk_at dksX1_go_1 11 rfl rfl)
theorem dX1_go_38 : decode cX1_go 38 = .ok (.iconst 0, 1) := dk_3 (dk_at dksX1_go_1 14 rfl rfl)
theorem dX1_go_39 : decode cX1_go 39 = .ok (.istore_n 2, 1) := dk_61 (dk_at dksX1_go_1 15 rfl rfl)
theorem dX1_go_40 : decode cX1_go 40 = .ok (.iload_n 2, 1) := dk_28 (dk_at dksX1_go_1 16 rfl rfl)
theorem dX1_go_41 : decode cX1_go 41 = .ok (.iload_n 1, 1) := dk_27 (dk_at dksX1_go_1 17 rfl rfl)
theorem dX1_go_42 : decode cX1_go 42 = .ok (.if_icmp .ge 17, 3) := dk_162 0 17 (dk_at dksX1_go_1 18 rfl rfl)
theorem dX1_go_45 : decode cX1_go 45 = .ok (.aload_n 0, 1) := dk_42 (dk_at dksX1_go_1 21 rfl rfl)
theorem dX1_go_46 : decode cX1_go 46 = .ok (.getfield 101, 3) := dk_180 0 101 (dk_at dksX1_go_2 0 rfl rfl)
theorem dX1_go_49 : decode cX1_go 49 = .ok (.iconst 1, 1) := dk_4 (dk_at dksX1_go_2 3 rfl rfl)
theorem dX1_go_50 : decode cX1_go 50 = .ok (.invokevirtual 277, 3) := dk_182 1 21 (dk_at dksX1_go_2 4 rfl rfl)
theorem dX1_go_53 : decode cX1_go 53 = .ok (.iinc 2 1, 3) := dk_132 2 1 (dk_at dksX1_go_2 7 rfl rfl)
theorem dX1_go_56 : decode cX1_go 56 = .ok (.goto (-16), 3) := dk_167 255 240 (dk_at dksX1_go_2 10 rfl rfl)
theorem dX1_go_59 : decode cX1_go 59 = .ok (.aload_n 0, 1) := dk_42 (dk_at dksX1_go_2 13 rfl rfl)
theorem dX1_go_60 : decode cX1_go 60 = .ok (.getfield 101, 3) := dk_180 0 101 (dk_at dksX1_go_2 14 rfl rfl)
theorem dX1_go_63 : decode cX1_go 63 = .ok (.getfield 274, 3) := dk_180 1 18 (dk_at dksX1_go_2 17 rfl rfl)
theorem dX1_go_66 : decode cX1_go 66 = .ok (.ireturn, 1) := dk_172 (dk_at dksX1_go_2 20 rfl rfl)
abbrev cX1_within : ByteArray := prog_1_method_8_code
def yX1_within : MethodName := ⟨RX1, "within", "(JIII)I"⟩
def dkwX1_within_1 : List UInt8 := [136, 172]
abbrev dktX1_within_1 : List UInt8 := dkwX1_within_1 ++ []
def dkwX1_within_0 : List UInt8 := [30, 20, 0, 44, 148, 154, 0, 8, 21, 4, 167, 0, 15, 28, 133, 29, 133, 30, 184, 0, 58, 184, 0, 64]
abbrev dktX1_within_0 : List UInt8 := dkwX1_within_0 ++ dktX1_within_1
theorem dksX1_within_0 : cX1_within.data.toList.drop 0 = dktX1_within_0 := by decide +kernel
theorem dksX1_within_1 : cX1_within.data.toList.drop 24 = dktX1_within_1 := dk_seg dksX1_within_0 24 rfl rfl
theorem dX1_within_0 : decode cX1_within 0 = .ok (.lload_n 0, 1) := dk_30 (dk_at dksX1_within_0 0 rfl rfl)
theorem dX1_within_1 : decode cX1_within 1 = .ok (.ldc2_w 44, 3) := dk_20 0 44 (dk_at dksX1_within_0 1 rfl rfl)
theorem dX1_within_4 : decode cX1_within 4 = .ok (.lcmp, 1) := dk_148 (dk_at dksX1_within_0 4 rfl rfl)
theorem dX1_within_5 : decode cX1_within 5 = .ok (.ifCond .ne 8, 3) := dk_154 0 8 (dk_at dksX1_within_0 5 rfl rfl)
theorem dX1_within_8 : decode cX1_within 8 = .ok (.iload 4, 2) := dk_21 4 (dk_at dksX1_within_0 8 rfl rfl)
theorem dX1_within_10 : decode cX1_within 10 = .ok (.goto 15, 3) := dk_167 0 15 (dk_at dksX1_within_0 10 rfl rfl)
theorem dX1_within_13 : decode cX1_within 13 = .ok (.iload_n 2, 1) := dk_28 (dk_at dksX1_within_0 13 rfl rfl)
theorem dX1_within_14 : decode cX1_within 14 = .ok (.i2l, 1) := dk_133 (dk_at dksX1_within_0 14 rfl rfl)
theorem dX1_within_15 : decode cX1_within 15 = .ok (.iload_n 3, 1) := dk_29 (dk_at dksX1_within_0 15 rfl rfl)
theorem dX1_within_16 : decode cX1_within 16 = .ok (.i2l, 1) := dk_133 (dk_at dksX1_within_0 16 rfl rfl)
theorem dX1_within_17 : decode cX1_within 17 = .ok (.lload_n 0, 1) := dk_30 (dk_at dksX1_within_0 17 rfl rfl)
theorem dX1_within_18 : decode cX1_within 18 = .ok (.invokestatic 58, 3) := dk_184 0 58 (dk_at dksX1_within_0 18 rfl rfl)
theorem dX1_within_21 : decode cX1_within 21 = .ok (.invokestatic 64, 3) := dk_184 0 64 (dk_at dksX1_within_0 21 rfl rfl)
theorem dX1_within_24 : decode cX1_within 24 = .ok (.l2i, 1) := dk_136 (dk_at dksX1_within_1 0 rfl rfl)
theorem dX1_within_25 : decode cX1_within 25 = .ok (.ireturn, 1) := dk_172 (dk_at dksX1_within_1 1 rfl rfl)
abbrev cX1_ahead : ByteArray := prog_1_method_28_code
def yX1_ahead : MethodName := ⟨RX1, "ahead", "(III)I"⟩
def dkwX1_ahead_7 : List UInt8 := [180, 0, 236, 29, 46, 172, 42, 180, 0, 105, 180, 1, 36, 184, 1, 39, 172]
abbrev dktX1_ahead_7 : List UInt8 := dkwX1_ahead_7 ++ []
def dkwX1_ahead_6 : List UInt8 := [180, 0, 101, 180, 1, 33, 100, 172, 42, 180, 0, 105, 180, 0, 203, 29, 46, 172, 42, 180, 0, 105]
abbrev dktX1_ahead_6 : List UInt8 := dkwX1_ahead_6 ++ dktX1_ahead_7
def dkwX1_ahead_5 : List UInt8 := [42, 180, 0, 105, 180, 1, 30, 42, 180, 0, 101, 180, 1, 30, 100, 172, 42, 180, 0, 105, 180, 1, 33, 42]
abbrev dktX1_ahead_5 : List UInt8 := dkwX1_ahead_5 ++ dktX1_ahead_6
def dkwX1_ahead_4 : List UInt8 := [170, 0, 0, 0, 0, 0, 0, 84, 0, 0, 0, 0, 0, 0, 0, 3, 0, 0, 0, 32, 0, 0, 0, 48, 0, 0, 0, 64, 0, 0, 0, 74]
abbrev dktX1_ahead_4 : List UInt8 := dkwX1_ahead_4 ++ dktX1_ahead_5
def dkwX1_ahead_3 : List UInt8 := [28]
abbrev dktX1_ahead_3 : List UInt8 := dkwX1_ahead_3 ++ dktX1_ahead_4
def dkwX1_ahead_2 : List UInt8 := [154, 0, 5, 2, 172, 42, 180, 0, 105, 42, 180, 0, 101, 182, 0, 254, 42, 180, 0, 105, 27, 182, 1, 27]
abbrev dktX1_ahead_2 : List UInt8 := dkwX1_ahead_2 ++ dktX1_ahead_3
def dkwX1_ahead_1 : List UInt8 := [28, 5, 160, 0, 11, 42, 29, 182, 0, 186, 153, 0, 16, 28, 6, 160, 0, 13, 42, 29, 182, 0, 233]
abbrev dktX1_ahead_1 : List UInt8 := dkwX1_ahead_1 ++ dktX1_ahead_2
def dkwX1_ahead_0 : List UInt8 := [27, 133, 9, 20, 1, 16, 184, 0, 144, 153, 0, 41, 28, 133, 9, 20, 1, 25, 184, 0, 144, 153, 0, 29]
abbrev dktX1_ahead_0 : List UInt8 := dkwX1_ahead_0 ++ dktX1_ahead_1
theorem dksX1_ahead_0 : cX1_ahead.data.toList.drop 0 = dktX1_ahead_0 := by decide +kernel
theorem dksX1_ahead_1 : cX1_ahead.data.toList.drop 24 = dktX1_ahead_1 := dk_seg dksX1_ahead_0 24 rfl rfl
theorem dksX1_ahead_2 : cX1_ahead.data.toList.drop 47 = dktX1_ahead_2 := dk_seg dksX1_ahead_1 23 rfl rfl
theorem dksX1_ahead_3 : cX1_ahead.data.toList.drop 71 = dktX1_ahead_3 := dk_seg dksX1_ahead_2 24 rfl rfl
theorem dksX1_ahead_4 : cX1_ahead.data.toList.drop 72 = dktX1_ahead_4 := dk_seg dksX1_ahead_3 1 rfl rfl
theorem dksX1_ahead_5 : cX1_ahead.data.toList.drop 104 = dktX1_ahead_5 := dk_seg dksX1_ahead_4 32 rfl rfl
theorem dksX1_ahead_6 : cX1_ahead.data.toList.drop 128 = dktX1_ahead_6 := dk_seg dksX1_ahead_5 24 rfl rfl
theorem dksX1_ahead_7 : cX1_ahead.data.toList.drop 150 = dktX1_ahead_7 := dk_seg dksX1_ahead_6 22 rfl rfl
theorem dX1_ahead_0 : decode cX1_ahead 0 = .ok (.iload_n 1, 1) := dk_27 (dk_at dksX1_ahead_0 0 rfl rfl)
theorem dX1_ahead_1 : decode cX1_ahead 1 = .ok (.i2l, 1) := dk_133 (dk_at dksX1_ahead_0 1 rfl rfl)
theorem dX1_ahead_2 : decode cX1_ahead 2 = .ok (.lconst 0, 1) := dk_9 (dk_at dksX1_ahead_0 2 rfl rfl)
theorem dX1_ahead_3 : decode cX1_ahead 3 = .ok (.ldc2_w 272, 3) := dk_20 1 16 (dk_at dksX1_ahead_0 3 rfl rfl)
theorem dX1_ahead_6 : decode cX1_ahead 6 = .ok (.invokestatic 144, 3) := dk_184 0 144 (dk_at dksX1_ahead_0 6 rfl rfl)
theorem dX1_ahead_9 : decode cX1_ahead 9 = .ok (.ifCond .eq 41, 3) := dk_153 0 41 (dk_at dksX1_ahead_0 9 rfl rfl)
theorem dX1_ahead_12 : decode cX1_ahead 12 = .ok (.iload_n 2, 1) := dk_28 (dk_at dksX1_ahead_0 12 rfl rfl)
theorem dX1_ahead_13 : decode cX1_ahead 13 = .ok (.i2l, 1) := dk_133 (dk_at dksX1_ahead_0 13 rfl rfl)
theorem dX1_ahead_14 : decode cX1_ahead 14 = .ok (.lconst 0, 1) := dk_9 (dk_at dksX1_ahead_0 14 rfl rfl)
theorem dX1_ahead_15 : decode cX1_ahead 15 = .ok (.ldc2_w 281, 3) := dk_20 1 25 (dk_at dksX1_ahead_0 15 rfl rfl)
theorem dX1_ahead_18 : decode cX1_ahead 18 = .ok (.invokestatic 144, 3) := dk_184 0 144 (dk_at dksX1_ahead_0 18 rfl rfl)
theorem dX1_ahead_21 : decode cX1_ahead 21 = .ok (.ifCond .eq 29, 3) := dk_153 0 29 (dk_at dksX1_ahead_0 21 rfl rfl)
theorem dX1_ahead_24 : decode cX1_ahead 24 = .ok (.iload_n 2, 1) := dk_28 (dk_at dksX1_ahead_1 0 rfl rfl)
theorem dX1_ahead_25 : decode cX1_ahead 25 = .ok (.iconst 2, 1) := dk_5 (dk_at dksX1_ahead_1 1 rfl rfl)
theorem dX1_ahead_26 : decode cX1_ahead 26 = .ok (.if_icmp .ne 11, 3) := dk_160 0 11 (dk_at dksX1_ahead_1 2 rfl rfl)
theorem dX1_ahead_29 : decode cX1_ahead 29 = .ok (.aload_n 0, 1) := dk_42 (dk_at dksX1_ahead_1 5 rfl rfl)
theorem dX1_ahead_30 : decode cX1_ahead 30 = .ok (.iload_n 3, 1) := dk_29 (dk_at dksX1_ahead_1 6 rfl rfl)
theorem dX1_ahead_31 : decode cX1_ahead 31 = .ok (.invokevirtual 186, 3) := dk_182 0 186 (dk_at dksX1_ahead_1 7 rfl rfl)
theorem dX1_ahead_34 : decode cX1_ahead 34 = .ok (.ifCond .eq 16, 3) := dk_153 0 16 (dk_at dksX1_ahead_1 10 rfl rfl)
theorem dX1_ahead_37 : decode cX1_ahead 37 = .ok (.iload_n 2, 1) := dk_28 (dk_at dksX1_ahead_1 13 rfl rfl)
theorem dX1_ahead_38 : decode cX1_ahead 38 = .ok (.iconst 3, 1) := dk_6 (dk_at dksX1_ahead_1 14 rfl rfl)
theorem dX1_ahead_39 : decode cX1_ahead 39 = .ok (.if_icmp .ne 13, 3) := dk_160 0 13 (dk_at dksX1_ahead_1 15 rfl rfl)
theorem dX1_ahead_42 : decode cX1_ahead 42 = .ok (.aload_n 0, 1) := dk_42 (dk_at dksX1_ahead_1 18 rfl rfl)
theorem dX1_ahead_43 : decode cX1_ahead 43 = .ok (.iload_n 3, 1) := dk_29 (dk_at dksX1_ahead_1 19 rfl rfl)
theorem dX1_ahead_44 : decode cX1_ahead 44 = .ok (.invokevirtual 233, 3) := dk_182 0 233 (dk_at dksX1_ahead_1 20 rfl rfl)
theorem dX1_ahead_47 : decode cX1_ahead 47 = .ok (.ifCond .ne 5, 3) := dk_154 0 5 (dk_at dksX1_ahead_2 0 rfl rfl)
theorem dX1_ahead_50 : decode cX1_ahead 50 = .ok (.iconst (-1), 1) := dk_2 (dk_at dksX1_ahead_2 3 rfl rfl)
theorem dX1_ahead_51 : decode cX1_ahead 51 = .ok (.ireturn, 1) := dk_172 (dk_at dksX1_ahead_2 4 rfl rfl)
theorem dX1_ahead_52 : decode cX1_ahead 52 = .ok (.aload_n 0, 1) := dk_42 (dk_at dksX1_ahead_2 5 rfl rfl)
theorem dX1_ahead_53 : decode cX1_ahead 53 = .ok (.getfield 105, 3) := dk_180 0 105 (dk_at dksX1_ahead_2 6 rfl rfl)
theorem dX1_ahead_56 : decode cX1_ahead 56 = .ok (.aload_n 0, 1) := dk_42 (dk_at dksX1_ahead_2 9 rfl rfl)
theorem dX1_ahead_57 : decode cX1_ahead 57 = .ok (.getfield 101, 3) := dk_180 0 101 (dk_at dksX1_ahead_2 10 rfl rfl)
theorem dX1_ahead_60 : decode cX1_ahead 60 = .ok (.invokevirtual 254, 3) := dk_182 0 254 (dk_at dksX1_ahead_2 13 rfl rfl)
theorem dX1_ahead_63 : decode cX1_ahead 63 = .ok (.aload_n 0, 1) := dk_42 (dk_at dksX1_ahead_2 16 rfl rfl)
theorem dX1_ahead_64 : decode cX1_ahead 64 = .ok (.getfield 105, 3) := dk_180 0 105 (dk_at dksX1_ahead_2 17 rfl rfl)
theorem dX1_ahead_67 : decode cX1_ahead 67 = .ok (.iload_n 1, 1) := dk_27 (dk_at dksX1_ahead_2 20 rfl rfl)
theorem dX1_ahead_68 : decode cX1_ahead 68 = .ok (.invokevirtual 283, 3) := dk_182 1 27 (dk_at dksX1_ahead_2 21 rfl rfl)
theorem dX1_ahead_71 : decode cX1_ahead 71 = .ok (.iload_n 2, 1) := dk_28 (dk_at dksX1_ahead_3 0 rfl rfl)
theorem dX1_ahead_72 : decode cX1_ahead 72 = .ok (.tableswitch 84 0 3 #[32, 48, 64, 74], 32) := by decide +kernel
theorem dX1_ahead_104 : decode cX1_ahead 104 = .ok (.aload_n 0, 1) := dk_42 (dk_at dksX1_ahead_5 0 rfl rfl)
theorem dX1_ahead_105 : decode cX1_ahead 105 = .ok (.getfield 105, 3) := dk_180 0 105 (dk_at dksX1_ahead_5 1 rfl rfl)
theorem dX1_ahead_108 : decode cX1_ahead 108 = .ok (.getfield 286, 3) := dk_180 1 30 (dk_at dksX1_ahead_5 4 rfl rfl)
theorem dX1_ahead_111 : decode cX1_ahead 111 = .ok (.aload_n 0, 1) := dk_42 (dk_at dksX1_ahead_5 7 rfl rfl)
theorem dX1_ahead_112 : decode cX1_ahead 112 = .ok (.getfield 101, 3) := dk_180 0 101 (dk_at dksX1_ahead_5 8 rfl rfl)
theorem dX1_ahead_115 : decode cX1_ahead 115 = .ok (.getfield 286, 3) := dk_180 1 30 (dk_at dksX1_ahead_5 11 rfl rfl)
theorem dX1_ahead_118 : decode cX1_ahead 118 = .ok (.isub, 1) := dk_100 (dk_at dksX1_ahead_5 14 rfl rfl)
theorem dX1_ahead_119 : decode cX1_ahead 119 = .ok (.ireturn, 1) := dk_172 (dk_at dksX1_ahead_5 15 rfl rfl)
theorem dX1_ahead_120 : decode cX1_ahead 120 = .ok (.aload_n 0, 1) := dk_42 (dk_at dksX1_ahead_5 16 rfl rfl)
theorem dX1_ahead_121 : decode cX1_ahead 121 = .ok (.getfield 105, 3) := dk_180 0 105 (dk_at dksX1_ahead_5 17 rfl rfl)
theorem dX1_ahead_124 : decode cX1_ahead 124 = .ok (.getfield 289, 3) := dk_180 1 33 (dk_at dksX1_ahead_5 20 rfl rfl)
theorem dX1_ahead_127 : decode cX1_ahead 127 = .ok (.aload_n 0, 1) := dk_42 (dk_at dksX1_ahead_5 23 rfl rfl)
theorem dX1_ahead_128 : decode cX1_ahead 128 = .ok (.getfield 101, 3) := dk_180 0 101 (dk_at dksX1_ahead_6 0 rfl rfl)
theorem dX1_ahead_131 : decode cX1_ahead 131 = .ok (.getfield 289, 3) := dk_180 1 33 (dk_at dksX1_ahead_6 3 rfl rfl)
theorem dX1_ahead_134 : decode cX1_ahead 134 = .ok (.isub, 1) := dk_100 (dk_at dksX1_ahead_6 6 rfl rfl)
theorem dX1_ahead_135 : decode cX1_ahead 135 = .ok (.ireturn, 1) := dk_172 (dk_at dksX1_ahead_6 7 rfl rfl)
theorem dX1_ahead_136 : decode cX1_ahead 136 = .ok (.aload_n 0, 1) := dk_42 (dk_at dksX1_ahead_6 8 rfl rfl)
theorem dX1_ahead_137 : decode cX1_ahead 137 = .ok (.getfield 105, 3) := dk_180 0 105 (dk_at dksX1_ahead_6 9 rfl rfl)
theorem dX1_ahead_140 : decode cX1_ahead 140 = .ok (.getfield 203, 3) := dk_180 0 203 (dk_at dksX1_ahead_6 12 rfl rfl)
theorem dX1_ahead_143 : decode cX1_ahead 143 = .ok (.iload_n 3, 1) := dk_29 (dk_at dksX1_ahead_6 15 rfl rfl)
theorem dX1_ahead_144 : decode cX1_ahead 144 = .ok (.iaload, 1) := dk_46 (dk_at dksX1_ahead_6 16 rfl rfl)
theorem dX1_ahead_145 : decode cX1_ahead 145 = .ok (.ireturn, 1) := dk_172 (dk_at dksX1_ahead_6 17 rfl rfl)
theorem dX1_ahead_146 : decode cX1_ahead 146 = .ok (.aload_n 0, 1) := dk_42 (dk_at dksX1_ahead_6 18 rfl rfl)
theorem dX1_ahead_147 : decode cX1_ahead 147 = .ok (.getfield 105, 3) := dk_180 0 105 (dk_at dksX1_ahead_6 19 rfl rfl)
theorem dX1_ahead_150 : decode cX1_ahead 150 = .ok (.getfield 236, 3) := dk_180 0 236 (dk_at dksX1_ahead_7 0 rfl rfl)
theorem dX1_ahead_153 : decode cX1_ahead 153 = .ok (.iload_n 3, 1) := dk_29 (dk_at dksX1_ahead_7 3 rfl rfl)
theorem dX1_ahead_154 : decode cX1_ahead 154 = .ok (.iaload, 1) := dk_46 (dk_at dksX1_ahead_7 4 rfl rfl)
theorem dX1_ahead_155 : decode cX1_ahead 155 = .ok (.ireturn, 1) := dk_172 (dk_at dksX1_ahead_7 5 rfl rfl)
theorem dX1_ahead_156 : decode cX1_ahead 156 = .ok (.aload_n 0, 1) := dk_42 (dk_at dksX1_ahead_7 6 rfl rfl)
theorem dX1_ahead_157 : decode cX1_ahead 157 = .ok (.getfield 105, 3) := dk_180 0 105 (dk_at dksX1_ahead_7 7 rfl rfl)
theorem dX1_ahead_160 : decode cX1_ahead 160 = .ok (.getfield 292, 3) := dk_180 1 36 (dk_at dksX1_ahead_7 10 rfl rfl)
theorem dX1_ahead_163 : decode cX1_ahead 163 = .ok (.invokestatic 295, 3) := dk_184 1 39 (dk_at dksX1_ahead_7 13 rfl rfl)
theorem dX1_ahead_166 : decode cX1_ahead 166 = .ok (.ireturn, 1) := dk_172 (dk_at dksX1_ahead_7 16 rfl rfl)
abbrev cX1_falls : ByteArray := prog_1_method_29_code
def yX1_falls : MethodName := ⟨RX1, "falls", "(I)I"⟩
def dkwX1_falls_2 : List UInt8 := [182, 1, 21, 132, 2, 1, 167, 255, 225, 16, 254, 172]
abbrev dktX1_falls_2 : List UInt8 := dkwX1_falls_2 ++ []
def dkwX1_falls_1 : List UInt8 := [17, 0, 199, 163, 0, 30, 42, 180, 0, 105, 27, 182, 0, 219, 154, 0, 5, 28, 172, 42, 180, 0, 105, 3]
abbrev dktX1_falls_1 : List UInt8 := dkwX1_falls_1 ++ dktX1_falls_2
def dkwX1_falls_0 : List UInt8 := [42, 27, 182, 0, 186, 154, 0, 5, 2, 172, 42, 180, 0, 105, 42, 180, 0, 101, 182, 0, 254, 3, 61, 28]
abbrev dktX1_falls_0 : List UInt8 := dkwX1_falls_0 ++ dktX1_falls_1
theorem dksX1_falls_0 : cX1_falls.data.toList.drop 0 = dktX1_falls_0 := by decide +kernel
theorem dksX1_falls_1 : cX1_falls.data.toList.drop 24 = dktX1_falls_1 := dk_seg dksX1_falls_0 24 rfl rfl
theorem dksX1_falls_2 : cX1_falls.data.toList.drop 48 = dktX1_falls_2 := dk_seg dksX1_falls_1 24 rfl rfl
theorem dX1_falls_0 : decode cX1_falls 0 = .ok (.aload_n 0, 1) := dk_42 (dk_at dksX1_falls_0 0 rfl rfl)
theorem dX1_falls_1 : decode cX1_falls 1 = .ok (.iload_n 1, 1) := dk_27 (dk_at dksX1_falls_0 1 rfl rfl)
theorem dX1_falls_2 : decode cX1_falls 2 = .ok (.invokevirtual 186, 3) := dk_182 0 186 (dk_at dksX1_falls_0 2 rfl rfl)
theorem dX1_falls_5 : decode cX1_falls 5 = .ok (.ifCond .ne 5, 3) := dk_154 0 5 (dk_at dksX1_falls_0 5 rfl rfl)
theorem dX1_falls_8 : decode cX1_falls 8 = .ok (.iconst (-1), 1) := dk_2 (dk_at dksX1_falls_0 8 rfl rfl)
theorem dX1_falls_9 : decode cX1_falls 9 = .ok (.ireturn, 1) := dk_172 (dk_at dksX1_falls_0 9 rfl rfl)
theorem dX1_falls_10 : decode cX1_falls 10 = .ok (.aload_n 0, 1) := dk_42 (dk_at dksX1_falls_0 10 rfl rfl)
theorem dX1_falls_11 : decode cX1_falls 11 = .ok (.getfield 105, 3) := dk_180 0 105 (dk_at dksX1_falls_0 11 rfl rfl)
theorem dX1_falls_14 : decode cX1_falls 14 = .ok (.aload_n 0, 1) := dk_42 (dk_at dksX1_falls_0 14 rfl rfl)
theorem dX1_falls_15 : decode cX1_falls 15 = .ok (.getfield 101, 3) := dk_180 0 101 (dk_at dksX1_falls_0 15 rfl rfl)
theorem dX1_falls_18 : decode cX1_falls 18 = .ok (.invokevirtual 254, 3) := dk_182 0 254 (dk_at dksX1_falls_0 18 rfl rfl)
theorem dX1_falls_21 : decode cX1_falls 21 = .ok (.iconst 0, 1) := dk_3 (dk_at dksX1_falls_0 21 rfl rfl)
theorem dX1_falls_22 : decode cX1_falls 22 = .ok (.istore_n 2, 1) := dk_61 (dk_at dksX1_falls_0 22 rfl rfl)
theorem dX1_falls_23 : decode cX1_falls 23 = .ok (.iload_n 2, 1) := dk_28 (dk_at dksX1_falls_0 23 rfl rfl)
theorem dX1_falls_24 : decode cX1_falls 24 = .ok (.sipush 199, 3) := dk_17 0 199 (dk_at dksX1_falls_1 0 rfl rfl)
theorem dX1_falls_27 : decode cX1_falls 27 = .ok (.if_icmp .gt 30, 3) := dk_163 0 30 (dk_at dksX1_falls_1 3 rfl rfl)
theorem dX1_falls_30 : decode cX1_falls 30 = .ok (.aload_n 0, 1) := dk_42 (dk_at dksX1_falls_1 6 rfl rfl)
theorem dX1_falls_31 : decode cX1_falls 31 = .ok (.getfield 105, 3) := dk_180 0 105 (dk_at dksX1_falls_1 7 rfl rfl)
theorem dX1_falls_34 : decode cX1_falls 34 = .ok (.iload_n 1, 1) := dk_27 (dk_at dksX1_falls_1 10 rfl rfl)
theorem dX1_falls_35 : decode cX1_falls 35 = .ok (.invokevirtual 219, 3) := dk_182 0 219 (dk_at dksX1_falls_1 11 rfl rfl)
theorem dX1_falls_38 : decode cX1_falls 38 = .ok (.ifCond .ne 5, 3) := dk_154 0 5 (dk_at dksX1_falls_1 14 rfl rfl)
theorem dX1_falls_41 : decode cX1_falls 41 = .ok (.iload_n 2, 1) := dk_28 (dk_at dksX1_falls_1 17 rfl rfl)
theorem dX1_falls_42 : decode cX1_falls 42 = .ok (.ireturn, 1) := dk_172 (dk_at dksX1_falls_1 18 rfl rfl)
theorem dX1_falls_43 : decode cX1_falls 43 = .ok (.aload_n 0, 1) := dk_42 (dk_at dksX1_falls_1 19 rfl rfl)
theorem dX1_falls_44 : decode cX1_falls 44 = .ok (.getfield 105, 3) := dk_180 0 105 (dk_at dksX1_falls_1 20 rfl rfl)
theorem dX1_falls_47 : decode cX1_falls 47 = .ok (.iconst 0, 1) := dk_3 (dk_at dksX1_falls_1 23 rfl rfl)
theorem dX1_falls_48 : decode cX1_falls 48 = .ok (.invokevirtual 277, 3) := dk_182 1 21 (dk_at dksX1_falls_2 0 rfl rfl)
theorem dX1_falls_51 : decode cX1_falls 51 = .ok (.iinc 2 1, 3) := dk_132 2 1 (dk_at dksX1_falls_2 3 rfl rfl)
theorem dX1_falls_54 : decode cX1_falls 54 = .ok (.goto (-31), 3) := dk_167 255 225 (dk_at dksX1_falls_2 6 rfl rfl)
theorem dX1_falls_57 : decode cX1_falls 57 = .ok (.bipush (-2), 2) := dk_16 254 (dk_at dksX1_falls_2 9 rfl rfl)
theorem dX1_falls_59 : decode cX1_falls 59 = .ok (.ireturn, 1) := dk_172 (dk_at dksX1_falls_2 11 rfl rfl)
abbrev cX1_nextFight : ByteArray := prog_1_method_30_code
def yX1_nextFight : MethodName := ⟨RX1, "nextFight", "(I)I"⟩
def dkwX1_nextFight_3 : List UInt8 := [167, 255, 211, 16, 254, 172]
abbrev dktX1_nextFight_3 : List UInt8 := dkwX1_nextFight_3 ++ []
def dkwX1_nextFight_2 : List UInt8 := [159, 0, 19, 27, 154, 0, 7, 28, 167, 0, 10, 42, 180, 0, 105, 180, 1, 44, 172, 132, 2, 1]
abbrev dktX1_nextFight_2 : List UInt8 := dkwX1_nextFight_2 ++ dktX1_nextFight_3
def dkwX1_nextFight_1 : List UInt8 := [61, 28, 17, 0, 199, 163, 0, 44, 42, 180, 0, 105, 3, 182, 1, 21, 42, 180, 0, 105, 180, 1, 44, 2]
abbrev dktX1_nextFight_1 : List UInt8 := dkwX1_nextFight_1 ++ dktX1_nextFight_2
def dkwX1_nextFight_0 : List UInt8 := [27, 133, 9, 10, 184, 0, 144, 154, 0, 5, 2, 172, 42, 180, 0, 105, 42, 180, 0, 101, 182, 0, 254, 4]
abbrev dktX1_nextFight_0 : List UInt8 := dkwX1_nextFight_0 ++ dktX1_nextFight_1
theorem dksX1_nextFight_0 : cX1_nextFight.data.toList.drop 0 = dktX1_nextFight_0 := by decide +kernel
theorem dksX1_nextFight_1 : cX1_nextFight.data.toList.drop 24 = dktX1_nextFight_1 := dk_seg dksX1_nextFight_0 24 rfl rfl
theorem dksX1_nextFight_2 : cX1_nextFight.data.toList.drop 48 = dktX1_nextFight_2 := dk_seg dksX1_nextFight_1 24 rfl rfl
theorem dksX1_nextFight_3 : cX1_nextFight.data.toList.drop 70 = dktX1_nextFight_3 := dk_seg dksX1_nextFight_2 22 rfl rfl
theorem dX1_nextFight_0 : decode cX1_nextFight 0 = .ok (.iload_n 1, 1) := dk_27 (dk_at dksX1_nextFight_0 0 rfl rfl)
theorem dX1_nextFight_1 : decode cX1_nextFight 1 = .ok (.i2l, 1) := dk_133 (dk_at dksX1_nextFight_0 1 rfl rfl)
theorem dX1_nextFight_2 : decode cX1_nextFight 2 = .ok (.lconst 0, 1) := dk_9 (dk_at dksX1_nextFight_0 2 rfl rfl)
theorem dX1_nextFight_3 : decode cX1_nextFight 3 = .ok (.lconst 1, 1) := dk_10 (dk_at dksX1_nextFight_0 3 rfl rfl)
theorem dX1_nextFight_4 : decode cX1_nextFight 4 = .ok (.invokestatic 144, 3) := dk_184 0 144 (dk_at dksX1_nextFight_0 4 rfl rfl)
theorem dX1_nextFight_7 : decode cX1_nextFight 7 = .ok (.ifCond .ne 5, 3) := dk_154 0 5 (dk_at dksX1_nextFight_0 7 rfl rfl)
theorem dX1_nextFight_10 : decode cX1_nextFight 10 = .ok (.iconst (-1), 1) := dk_2 (dk_at dksX1_nextFight_0 10 rfl rfl)
theorem dX1_nextFight_11 : decode cX1_nextFight 11 = .ok (.ireturn, 1) := dk_172 (dk_at dksX1_nextFight_0 11 rfl rfl)
theorem dX1_nextFight_12 : decode cX1_nextFight 12 = .ok (.aload_n 0, 1) := dk_42 (dk_at dksX1_nextFight_0 12 rfl rfl)
theorem dX1_nextFight_13 : decode cX1_nextFight 13 = .ok (.getfield 105, 3) := dk_180 0 105 (dk_at dksX1_nextFight_0 13 rfl rfl)
theorem dX1_nextFight_16 : decode cX1_nextFight 16 = .ok (.aload_n 0, 1) := dk_42 (dk_at dksX1_nextFight_0 16 rfl rfl)
theorem dX1_nextFight_17 : decode cX1_nextFight 17 = .ok (.getfield 101, 3) := dk_180 0 101 (dk_at dksX1_nextFight_0 17 rfl rfl)
theorem dX1_nextFight_20 : decode cX1_nextFight 20 = .ok (.invokevirtual 254, 3) := dk_182 0 254 (dk_at dksX1_nextFight_0 20 rfl rfl)
theorem dX1_nextFight_23 : decode cX1_nextFight 23 = .ok (.iconst 1, 1) := dk_4 (dk_at dksX1_nextFight_0 23 rfl rfl)
theorem dX1_nextFight_24 : decode cX1_nextFight 24 = .ok (.istore_n 2, 1) := dk_61 (dk_at dksX1_nextFight_1 0 rfl rfl)
theorem dX1_nextFight_25 : decode cX1_nextFight 25 = .ok (.iload_n 2, 1) := dk_28 (dk_at dksX1_nextFight_1 1 rfl rfl)
theorem dX1_nextFight_26 : decode cX1_nextFight 26 = .ok (.sipush 199, 3) := dk_17 0 199 (dk_at dksX1_nextFight_1 2 rfl rfl)
theorem dX1_nextFight_29 : decode cX1_nextFight 29 = .ok (.if_icmp .gt 44, 3) := dk_163 0 44 (dk_at dksX1_nextFight_1 5 rfl rfl)
theorem dX1_nextFight_32 : decode cX1_nextFight 32 = .ok (.aload_n 0, 1) := dk_42 (dk_at dksX1_nextFight_1 8 rfl rfl)
theorem dX1_nextFight_33 : decode cX1_nextFight 33 = .ok (.getfield 105, 3) := dk_180 0 105 (dk_at dksX1_nextFight_1 9 rfl rfl)
theorem dX1_nextFight_36 : decode cX1_nextFight 36 = .ok (.iconst 0, 1) := dk_3 (dk_at dksX1_nextFight_1 12 rfl rfl)
theorem dX1_nextFight_37 : decode cX1_nextFight 37 = .ok (.invokevirtual 277, 3) := dk_182 1 21 (dk_at dksX1_nextFight_1 13 rfl rfl)
theorem dX1_nextFight_40 : decode cX1_nextFight 40 = .ok (.aload_n 0, 1) := dk_42 (dk_at dksX1_nextFight_1 16 rfl rfl)
theorem dX1_nextFight_41 : decode cX1_nextFight 41 = .ok (.getfield 105, 3) := dk_180 0 105 (dk_at dksX1_nextFight_1 17 rfl rfl)
theorem dX1_nextFight_44 : decode cX1_nextFight 44 = .ok (.getfield 300, 3) := dk_180 1 44 (dk_at dksX1_nextFight_1 20 rfl rfl)
theorem dX1_nextFight_47 : decode cX1_nextFight 47 = .ok (.iconst (-1), 1) := dk_2 (dk_at dksX1_nextFight_1 23 rfl rfl)
theorem dX1_nextFight_48 : decode cX1_nextFight 48 = .ok (.if_icmp .eq 19, 3) := dk_159 0 19 (dk_at dksX1_nextFight_2 0 rfl rfl)
theorem dX1_nextFight_51 : decode cX1_nextFight 51 = .ok (.iload_n 1, 1) := dk_27 (dk_at dksX1_nextFight_2 3 rfl rfl)
theorem dX1_nextFight_52 : decode cX1_nextFight 52 = .ok (.ifCond .ne 7, 3) := dk_154 0 7 (dk_at dksX1_nextFight_2 4 rfl rfl)
theorem dX1_nextFight_55 : decode cX1_nextFight 55 = .ok (.iload_n 2, 1) := dk_28 (dk_at dksX1_nextFight_2 7 rfl rfl)
theorem dX1_nextFight_56 : decode cX1_nextFight 56 = .ok (.goto 10, 3) := dk_167 0 10 (dk_at dksX1_nextFight_2 8 rfl rfl)
theorem dX1_nextFight_59 : decode cX1_nextFight 59 = .ok (.aload_n 0, 1) := dk_42 (dk_at dksX1_nextFight_2 11 rfl rfl)
theorem dX1_nextFight_60 : decode cX1_nextFight 60 = .ok (.getfield 105, 3) := dk_180 0 105 (dk_at dksX1_nextFight_2 12 rfl rfl)
theorem dX1_nextFight_63 : decode cX1_nextFight 63 = .ok (.getfield 300, 3) := dk_180 1 44 (dk_at dksX1_nextFight_2 15 rfl rfl)
theorem dX1_nextFight_66 : decode cX1_nextFight 66 = .ok (.ireturn, 1) := dk_172 (dk_at dksX1_nextFight_2 18 rfl rfl)
theorem dX1_nextFight_67 : decode cX1_nextFight 67 = .ok (.iinc 2 1, 3) := dk_132 2 1 (dk_at dksX1_nextFight_2 19 rfl rfl)
theorem dX1_nextFight_70 : decode cX1_nextFight 70 = .ok (.goto (-45), 3) := dk_167 255 211 (dk_at dksX1_nextFight_3 0 rfl rfl)
theorem dX1_nextFight_73 : decode cX1_nextFight 73 = .ok (.bipush (-2), 2) := dk_16 254 (dk_at dksX1_nextFight_3 3 rfl rfl)
theorem dX1_nextFight_75 : decode cX1_nextFight 75 = .ok (.ireturn, 1) := dk_172 (dk_at dksX1_nextFight_3 5 rfl rfl)
abbrev cX1_meet : ByteArray := prog_1_method_31_code
def yX1_meet : MethodName := ⟨RX1, "meet", "(II)I"⟩
def dkwX1_meet_3 : List UInt8 := [180, 0, 105, 180, 0, 200, 28, 46, 160, 0, 5, 29, 172, 132, 3, 1, 167, 255, 193, 16, 254, 172]
abbrev dktX1_meet_3 : List UInt8 := dkwX1_meet_3 ++ []
def dkwX1_meet_2 : List UInt8 := [153, 0, 37, 42, 180, 0, 105, 28, 182, 0, 219, 153, 0, 26, 42, 180, 0, 105, 180, 0, 200, 27, 46, 42]
abbrev dktX1_meet_2 : List UInt8 := dkwX1_meet_2 ++ dktX1_meet_3
def dkwX1_meet_1 : List UInt8 := [29, 17, 0, 199, 163, 0, 62, 42, 180, 0, 105, 3, 182, 1, 21, 42, 180, 0, 105, 27, 182, 0, 219]
abbrev dktX1_meet_1 : List UInt8 := dkwX1_meet_1 ++ dktX1_meet_2
def dkwX1_meet_0 : List UInt8 := [42, 27, 28, 182, 1, 47, 154, 0, 5, 2, 172, 42, 180, 0, 105, 42, 180, 0, 101, 182, 0, 254, 4, 62]
abbrev dktX1_meet_0 : List UInt8 := dkwX1_meet_0 ++ dktX1_meet_1
theorem dksX1_meet_0 : cX1_meet.data.toList.drop 0 = dktX1_meet_0 := by decide +kernel
theorem dksX1_meet_1 : cX1_meet.data.toList.drop 24 = dktX1_meet_1 := dk_seg dksX1_meet_0 24 rfl rfl
theorem dksX1_meet_2 : cX1_meet.data.toList.drop 47 = dktX1_meet_2 := dk_seg dksX1_meet_1 23 rfl rfl
theorem dksX1_meet_3 : cX1_meet.data.toList.drop 71 = dktX1_meet_3 := dk_seg dksX1_meet_2 24 rfl rfl
theorem dX1_meet_0 : decode cX1_meet 0 = .ok (.aload_n 0, 1) := dk_42 (dk_at dksX1_meet_0 0 rfl rfl)
theorem dX1_meet_1 : decode cX1_meet 1 = .ok (.iload_n 1, 1) := dk_27 (dk_at dksX1_meet_0 1 rfl rfl)
theorem dX1_meet_2 : decode cX1_meet 2 = .ok (.iload_n 2, 1) := dk_28 (dk_at dksX1_meet_0 2 rfl rfl)
theorem dX1_meet_3 : decode cX1_meet 3 = .ok (.invokevirtual 303, 3) := dk_182 1 47 (dk_at dksX1_meet_0 3 rfl rfl)
theorem dX1_meet_6 : decode cX1_meet 6 = .ok (.ifCond .ne 5, 3) := dk_154 0 5 (dk_at dksX1_meet_0 6 rfl rfl)
theorem dX1_meet_9 : decode cX1_meet 9 = .ok (.iconst (-1), 1) := dk_2 (dk_at dksX1_meet_0 9 rfl rfl)
theorem dX1_meet_10 : decode cX1_meet 10 = .ok (.ireturn, 1) := dk_172 (dk_at dksX1_meet_0 10 rfl rfl)
theorem dX1_meet_11 : decode cX1_meet 11 = .ok (.aload_n 0, 1) := dk_42 (dk_at dksX1_meet_0 11 rfl rfl)
theorem dX1_meet_12 : decode cX1_meet 12 = .ok (.getfield 105, 3) := dk_180 0 105 (dk_at dksX1_meet_0 12 rfl rfl)
theorem dX1_meet_15 : decode cX1_meet 15 = .ok (.aload_n 0, 1) := dk_42 (dk_at dksX1_meet_0 15 rfl rfl)
theorem dX1_meet_16 : decode cX1_meet 16 = .ok (.getfield 101, 3) := dk_180 0 101 (dk_at dksX1_meet_0 16 rfl rfl)
theorem dX1_meet_19 : decode cX1_meet 19 = .ok (.invokevirtual 254, 3) := dk_182 0 254 (dk_at dksX1_meet_0 19 rfl rfl)
theorem dX1_meet_22 : decode cX1_meet 22 = .ok (.iconst 1, 1) := dk_4 (dk_at dksX1_meet_0 22 rfl rfl)
theorem dX1_meet_23 : decode cX1_meet 23 = .ok (.istore_n 3, 1) := dk_62 (dk_at dksX1_meet_0 23 rfl rfl)
theorem dX1_meet_24 : decode cX1_meet 24 = .ok (.iload_n 3, 1) := dk_29 (dk_at dksX1_meet_1 0 rfl rfl)
theorem dX1_meet_25 : decode cX1_meet 25 = .ok (.sipush 199, 3) := dk_17 0 199 (dk_at dksX1_meet_1 1 rfl rfl)
theorem dX1_meet_28 : decode cX1_meet 28 = .ok (.if_icmp .gt 62, 3) := dk_163 0 62 (dk_at dksX1_meet_1 4 rfl rfl)
theorem dX1_meet_31 : decode cX1_meet 31 = .ok (.aload_n 0, 1) := dk_42 (dk_at dksX1_meet_1 7 rfl rfl)
theorem dX1_meet_32 : decode cX1_meet 32 = .ok (.getfield 105, 3) := dk_180 0 105 (dk_at dksX1_meet_1 8 rfl rfl)
theorem dX1_meet_35 : decode cX1_meet 35 = .ok (.iconst 0, 1) := dk_3 (dk_at dksX1_meet_1 11 rfl rfl)
theorem dX1_meet_36 : decode cX1_meet 36 = .ok (.invokevirtual 277, 3) := dk_182 1 21 (dk_at dksX1_meet_1 12 rfl rfl)
theorem dX1_meet_39 : decode cX1_meet 39 = .ok (.aload_n 0, 1) := dk_42 (dk_at dksX1_meet_1 15 rfl rfl)
theorem dX1_meet_40 : decode cX1_meet 40 = .ok (.getfield 105, 3) := dk_180 0 105 (dk_at dksX1_meet_1 16 rfl rfl)
theorem dX1_meet_43 : decode cX1_meet 43 = .ok (.iload_n 1, 1) := dk_27 (dk_at dksX1_meet_1 19 rfl rfl)
theorem dX1_meet_44 : decode cX1_meet 44 = .ok (.invokevirtual 219, 3) := dk_182 0 219 (dk_at dksX1_meet_1 20 rfl rfl)
theorem dX1_meet_47 : decode cX1_meet 47 = .ok (.ifCond .eq 37, 3) := dk_153 0 37 (dk_at dksX1_meet_2 0 rfl rfl)
theorem dX1_meet_50 : decode cX1_meet 50 = .ok (.aload_n 0, 1) := dk_42 (dk_at dksX1_meet_2 3 rfl rfl)
theorem dX1_meet_51 : decode cX1_meet 51 = .ok (.getfield 105, 3) := dk_180 0 105 (dk_at dksX1_meet_2 4 rfl rfl)
theorem dX1_meet_54 : decode cX1_meet 54 = .ok (.iload_n 2, 1) := dk_28 (dk_at dksX1_meet_2 7 rfl rfl)
theorem dX1_meet_55 : decode cX1_meet 55 = .ok (.invokevirtual 219, 3) := dk_182 0 219 (dk_at dksX1_meet_2 8 rfl rfl)
theorem dX1_meet_58 : decode cX1_meet 58 = .ok (.ifCond .eq 26, 3) := dk_153 0 26 (dk_at dksX1_meet_2 11 rfl rfl)
theorem dX1_meet_61 : decode cX1_meet 61 = .ok (.aload_n 0, 1) := dk_42 (dk_at dksX1_meet_2 14 rfl rfl)
theorem dX1_meet_62 : decode cX1_meet 62 = .ok (.getfield 105, 3) := dk_180 0 105 (dk_at dksX1_meet_2 15 rfl rfl)
theorem dX1_meet_65 : decode cX1_meet 65 = .ok (.getfield 200, 3) := dk_180 0 200 (dk_at dksX1_meet_2 18 rfl rfl)
theorem dX1_meet_68 : decode cX1_meet 68 = .ok (.iload_n 1, 1) := dk_27 (dk_at dksX1_meet_2 21 rfl rfl)
theorem dX1_meet_69 : decode cX1_meet 69 = .ok (.iaload, 1) := dk_46 (dk_at dksX1_meet_2 22 rfl rfl)
theorem dX1_meet_70 : decode cX1_meet 70 = .ok (.aload_n 0, 1) := dk_42 (dk_at dksX1_meet_2 23 rfl rfl)
theorem dX1_meet_71 : decode cX1_meet 71 = .ok (.getfield 105, 3) := dk_180 0 105 (dk_at dksX1_meet_3 0 rfl rfl)
theorem dX1_meet_74 : decode cX1_meet 74 = .ok (.getfield 200, 3) := dk_180 0 200 (dk_at dksX1_meet_3 3 rfl rfl)
theorem dX1_meet_77 : decode cX1_meet 77 = .ok (.iload_n 2, 1) := dk_28 (dk_at dksX1_meet_3 6 rfl rfl)
theorem dX1_meet_78 : decode cX1_meet 78 = .ok (.iaload, 1) := dk_46 (dk_at dksX1_meet_3 7 rfl rfl)
theorem dX1_meet_79 : decode cX1_meet 79 = .ok (.if_icmp .ne 5, 3) := dk_160 0 5 (dk_at dksX1_meet_3 8 rfl rfl)
theorem dX1_meet_82 : decode cX1_meet 82 = .ok (.iload_n 3, 1) := dk_29 (dk_at dksX1_meet_3 11 rfl rfl)
theorem dX1_meet_83 : decode cX1_meet 83 = .ok (.ireturn, 1) := dk_172 (dk_at dksX1_meet_3 12 rfl rfl)
theorem dX1_meet_84 : decode cX1_meet 84 = .ok (.iinc 3 1, 3) := dk_132 3 1 (dk_at dksX1_meet_3 13 rfl rfl)
theorem dX1_meet_87 : decode cX1_meet 87 = .ok (.goto (-63), 3) := dk_167 255 193 (dk_at dksX1_meet_3 16 rfl rfl)
theorem dX1_meet_90 : decode cX1_meet 90 = .ok (.bipush (-2), 2) := dk_16 254 (dk_at dksX1_meet_3 19 rfl rfl)
theorem dX1_meet_92 : decode cX1_meet 92 = .ok (.ireturn, 1) := dk_172 (dk_at dksX1_meet_3 21 rfl rfl)
abbrev cX1_areTwo : ByteArray := prog_1_method_17_code
def yX1_areTwo : MethodName := ⟨RX1, "areTwo", "(II)Z"⟩
def dkwX1_areTwo_1 : List UInt8 := [167, 0, 4, 3, 172]
abbrev dktX1_areTwo_1 : List UInt8 := dkwX1_areTwo_1 ++ []
def dkwX1_areTwo_0 : List UInt8 := [42, 27, 182, 0, 186, 153, 0, 20, 42, 28, 182, 0, 186, 153, 0, 12, 27, 28, 159, 0, 7, 4]
abbrev dktX1_areTwo_0 : List UInt8 := dkwX1_areTwo_0 ++ dktX1_areTwo_1
theorem dksX1_areTwo_0 : cX1_areTwo.data.toList.drop 0 = dktX1_areTwo_0 := by decide +kernel
theorem dksX1_areTwo_1 : cX1_areTwo.data.toList.drop 22 = dktX1_areTwo_1 := dk_seg dksX1_areTwo_0 22 rfl rfl
theorem dX1_areTwo_0 : decode cX1_areTwo 0 = .ok (.aload_n 0, 1) := dk_42 (dk_at dksX1_areTwo_0 0 rfl rfl)
theorem dX1_areTwo_1 : decode cX1_areTwo 1 = .ok (.iload_n 1, 1) := dk_27 (dk_at dksX1_areTwo_0 1 rfl rfl)
theorem dX1_areTwo_2 : decode cX1_areTwo 2 = .ok (.invokevirtual 186, 3) := dk_182 0 186 (dk_at dksX1_areTwo_0 2 rfl rfl)
theorem dX1_areTwo_5 : decode cX1_areTwo 5 = .ok (.ifCond .eq 20, 3) := dk_153 0 20 (dk_at dksX1_areTwo_0 5 rfl rfl)
theorem dX1_areTwo_8 : decode cX1_areTwo 8 = .ok (.aload_n 0, 1) := dk_42 (dk_at dksX1_areTwo_0 8 rfl rfl)
theorem dX1_areTwo_9 : decode cX1_areTwo 9 = .ok (.iload_n 2, 1) := dk_28 (dk_at dksX1_areTwo_0 9 rfl rfl)
theorem dX1_areTwo_10 : decode cX1_areTwo 10 = .ok (.invokevirtual 186, 3) := dk_182 0 186 (dk_at dksX1_areTwo_0 10 rfl rfl)
theorem dX1_areTwo_13 : decode cX1_areTwo 13 = .ok (.ifCond .eq 12, 3) := dk_153 0 12 (dk_at dksX1_areTwo_0 13 rfl rfl)
theorem dX1_areTwo_16 : decode cX1_areTwo 16 = .ok (.iload_n 1, 1) := dk_27 (dk_at dksX1_areTwo_0 16 rfl rfl)
theorem dX1_areTwo_17 : decode cX1_areTwo 17 = .ok (.iload_n 2, 1) := dk_28 (dk_at dksX1_areTwo_0 17 rfl rfl)
theorem dX1_areTwo_18 : decode cX1_areTwo 18 = .ok (.if_icmp .eq 7, 3) := dk_159 0 7 (dk_at dksX1_areTwo_0 18 rfl rfl)
theorem dX1_areTwo_21 : decode cX1_areTwo 21 = .ok (.iconst 1, 1) := dk_4 (dk_at dksX1_areTwo_0 21 rfl rfl)
theorem dX1_areTwo_22 : decode cX1_areTwo 22 = .ok (.goto 4, 3) := dk_167 0 4 (dk_at dksX1_areTwo_1 0 rfl rfl)
theorem dX1_areTwo_25 : decode cX1_areTwo 25 = .ok (.iconst 0, 1) := dk_3 (dk_at dksX1_areTwo_1 3 rfl rfl)
theorem dX1_areTwo_26 : decode cX1_areTwo 26 = .ok (.ireturn, 1) := dk_172 (dk_at dksX1_areTwo_1 4 rfl rfl)
abbrev cX1_sendIn : ByteArray := prog_1_method_32_code
def yX1_sendIn : MethodName := ⟨RX1, "sendIn", "(III)I"⟩
def dkwX1_sendIn_6 : List UInt8 := [132, 6, 1, 167, 255, 163, 29, 154, 0, 8, 21, 4, 167, 0, 5, 21, 5, 172]
abbrev dktX1_sendIn_6 : List UInt8 := dkwX1_sendIn_6 ++ []
def dkwX1_sendIn_5 : List UInt8 := [21, 5, 2, 159, 0, 13, 21, 7, 21, 5, 161, 0, 6, 167, 0, 11, 21, 6, 54, 4, 21, 7, 54, 5]
abbrev dktX1_sendIn_5 : List UInt8 := dkwX1_sendIn_5 ++ dktX1_sendIn_6
def dkwX1_sendIn_4 : List UInt8 := [21, 6, 100, 182, 1, 27, 42, 180, 0, 105, 180, 1, 30, 42, 180, 0, 101, 180, 1, 30, 100, 54, 7]
abbrev dktX1_sendIn_4 : List UInt8 := dkwX1_sendIn_4 ++ dktX1_sendIn_5
def dkwX1_sendIn_3 : List UInt8 := [180, 0, 105, 21, 6, 182, 1, 27, 42, 180, 0, 105, 180, 0, 209, 27, 28, 79, 42, 180, 0, 105, 16, 40]
abbrev dktX1_sendIn_3 : List UInt8 := dkwX1_sendIn_3 ++ dktX1_sendIn_4
def dkwX1_sendIn_2 : List UInt8 := [54, 5, 3, 54, 6, 21, 6, 16, 20, 163, 0, 92, 42, 180, 0, 105, 42, 180, 0, 101, 182, 0, 254, 42]
abbrev dktX1_sendIn_2 : List UInt8 := dkwX1_sendIn_2 ++ dktX1_sendIn_3
def dkwX1_sendIn_1 : List UInt8 := [154, 0, 5, 2, 172, 42, 180, 0, 101, 27, 182, 0, 219, 154, 0, 6, 16, 254, 172, 3, 54, 4, 2]
abbrev dktX1_sendIn_1 : List UInt8 := dkwX1_sendIn_1 ++ dktX1_sendIn_2
def dkwX1_sendIn_0 : List UInt8 := [42, 27, 182, 0, 186, 153, 0, 21, 42, 28, 182, 0, 233, 153, 0, 13, 29, 133, 9, 10, 184, 0, 144]
abbrev dktX1_sendIn_0 : List UInt8 := dkwX1_sendIn_0 ++ dktX1_sendIn_1
theorem dksX1_sendIn_0 : cX1_sendIn.data.toList.drop 0 = dktX1_sendIn_0 := by decide +kernel
theorem dksX1_sendIn_1 : cX1_sendIn.data.toList.drop 23 = dktX1_sendIn_1 := dk_seg dksX1_sendIn_0 23 rfl rfl
theorem dksX1_sendIn_2 : cX1_sendIn.data.toList.drop 46 = dktX1_sendIn_2 := dk_seg dksX1_sendIn_1 23 rfl rfl
theorem dksX1_sendIn_3 : cX1_sendIn.data.toList.drop 70 = dktX1_sendIn_3 := dk_seg dksX1_sendIn_2 24 rfl rfl
theorem dksX1_sendIn_4 : cX1_sendIn.data.toList.drop 94 = dktX1_sendIn_4 := dk_seg dksX1_sendIn_3 24 rfl rfl
theorem dksX1_sendIn_5 : cX1_sendIn.data.toList.drop 117 = dktX1_sendIn_5 := dk_seg dksX1_sendIn_4 23 rfl rfl
theorem dksX1_sendIn_6 : cX1_sendIn.data.toList.drop 141 = dktX1_sendIn_6 := dk_seg dksX1_sendIn_5 24 rfl rfl
theorem dX1_sendIn_0 : decode cX1_sendIn 0 = .ok (.aload_n 0, 1) := dk_42 (dk_at dksX1_sendIn_0 0 rfl rfl)
theorem dX1_sendIn_1 : decode cX1_sendIn 1 = .ok (.iload_n 1, 1) := dk_27 (dk_at dksX1_sendIn_0 1 rfl rfl)
theorem dX1_sendIn_2 : decode cX1_sendIn 2 = .ok (.invokevirtual 186, 3) := dk_182 0 186 (dk_at dksX1_sendIn_0 2 rfl rfl)
theorem dX1_sendIn_5 : decode cX1_sendIn 5 = .ok (.ifCond .eq 21, 3) := dk_153 0 21 (dk_at dksX1_sendIn_0 5 rfl rfl)
theorem dX1_sendIn_8 : decode cX1_sendIn 8 = .ok (.aload_n 0, 1) := dk_42 (dk_at dksX1_sendIn_0 8 rfl rfl)
theorem dX1_sendIn_9 : decode cX1_sendIn 9 = .ok (.iload_n 2, 1) := dk_28 (dk_at dksX1_sendIn_0 9 rfl rfl)
theorem dX1_sendIn_10 : decode cX1_sendIn 10 = .ok (.invokevirtual 233, 3) := dk_182 0 233 (dk_at dksX1_sendIn_0 10 rfl rfl)
theorem dX1_sendIn_13 : decode cX1_sendIn 13 = .ok (.ifCond .eq 13, 3) := dk_153 0 13 (dk_at dksX1_sendIn_0 13 rfl rfl)
theorem dX1_sendIn_16 : decode cX1_sendIn 16 = .ok (.iload_n 3, 1) := dk_29 (dk_at dksX1_sendIn_0 16 rfl rfl)
theorem dX1_sendIn_17 : decode cX1_sendIn 17 = .ok (.i2l, 1) := dk_133 (dk_at dksX1_sendIn_0 17 rfl rfl)
theorem dX1_sendIn_18 : decode cX1_sendIn 18 = .ok (.lconst 0, 1) := dk_9 (dk_at dksX1_sendIn_0 18 rfl rfl)
theorem dX1_sendIn_19 : decode cX1_sendIn 19 = .ok (.lconst 1, 1) := dk_10 (dk_at dksX1_sendIn_0 19 rfl rfl)
theorem dX1_sendIn_20 : decode cX1_sendIn 20 = .ok (.invokestatic 144, 3) := dk_184 0 144 (dk_at dksX1_sendIn_0 20 rfl rfl)
theorem dX1_sendIn_23 : decode cX1_sendIn 23 = .ok (.ifCond .ne 5, 3) := dk_154 0 5 (dk_at dksX1_sendIn_1 0 rfl rfl)
theorem dX1_sendIn_26 : decode cX1_sendIn 26 = .ok (.iconst (-1), 1) := dk_2 (dk_at dksX1_sendIn_1 3 rfl rfl)
theorem dX1_sendIn_27 : decode cX1_sendIn 27 = .ok (.ireturn, 1) := dk_172 (dk_at dksX1_sendIn_1 4 rfl rfl)
theorem dX1_sendIn_28 : decode cX1_sendIn 28 = .ok (.aload_n 0, 1) := dk_42 (dk_at dksX1_sendIn_1 5 rfl rfl)
theorem dX1_sendIn_29 : decode cX1_sendIn 29 = .ok (.getfield 101, 3) := dk_180 0 101 (dk_at dksX1_sendIn_1 6 rfl rfl)
theorem dX1_sendIn_32 : decode cX1_sendIn 32 = .ok (.iload_n 1, 1) := dk_27 (dk_at dksX1_sendIn_1 9 rfl rfl)
theorem dX1_sendIn_33 : decode cX1_sendIn 33 = .ok (.invokevirtual 219, 3) := dk_182 0 219 (dk_at dksX1_sendIn_1 10 rfl rfl)
theorem dX1_sendIn_36 : decode cX1_sendIn 36 = .ok (.ifCond .ne 6, 3) := dk_154 0 6 (dk_at dksX1_sendIn_1 13 rfl rfl)
theorem dX1_sendIn_39 : decode cX1_sendIn 39 = .ok (.bipush (-2), 2) := dk_16 254 (dk_at dksX1_sendIn_1 16 rfl rfl)
theorem dX1_sendIn_41 : decode cX1_sendIn 41 = .ok (.ireturn, 1) := dk_172 (dk_at dksX1_sendIn_1 18 rfl rfl)
theorem dX1_sendIn_42 : decode cX1_sendIn 42 = .ok (.iconst 0, 1) := dk_3 (dk_at dksX1_sendIn_1 19 rfl rfl)
theorem dX1_sendIn_43 : decode cX1_sendIn 43 = .ok (.istore 4, 2) := dk_54 4 (dk_at dksX1_sendIn_1 20 rfl rfl)
theorem dX1_sendIn_45 : decode cX1_sendIn 45 = .ok (.iconst (-1), 1) := dk_2 (dk_at dksX1_sendIn_1 22 rfl rfl)
theorem dX1_sendIn_46 : decode cX1_sendIn 46 = .ok (.istore 5, 2) := dk_54 5 (dk_at dksX1_sendIn_2 0 rfl rfl)
theorem dX1_sendIn_48 : decode cX1_sendIn 48 = .ok (.iconst 0, 1) := dk_3 (dk_at dksX1_sendIn_2 2 rfl rfl)
theorem dX1_sendIn_49 : decode cX1_sendIn 49 = .ok (.istore 6, 2) := dk_54 6 (dk_at dksX1_sendIn_2 3 rfl rfl)
theorem dX1_sendIn_51 : decode cX1_sendIn 51 = .ok (.iload 6, 2) := dk_21 6 (dk_at dksX1_sendIn_2 5 rfl rfl)
theorem dX1_sendIn_53 : decode cX1_sendIn 53 = .ok (.bipush 20, 2) := dk_16 20 (dk_at dksX1_sendIn_2 7 rfl rfl)
theorem dX1_sendIn_55 : decode cX1_sendIn 55 = .ok (.if_icmp .gt 92, 3) := dk_163 0 92 (dk_at dksX1_sendIn_2 9 rfl rfl)
theorem dX1_sendIn_58 : decode cX1_sendIn 58 = .ok (.aload_n 0, 1) := dk_42 (dk_at dksX1_sendIn_2 12 rfl rfl)
theorem dX1_sendIn_59 : decode cX1_sendIn 59 = .ok (.getfield 105, 3) := dk_180 0 105 (dk_at dksX1_sendIn_2 13 rfl rfl)
theorem dX1_sendIn_62 : decode cX1_sendIn 62 = .ok (.aload_n 0, 1) := dk_42 (dk_at dksX1_sendIn_2 16 rfl rfl)
theorem dX1_sendIn_63 : decode cX1_sendIn 63 = .ok (.getfield 101, 3) := dk_180 0 101 (dk_at dksX1_sendIn_2 17 rfl rfl)
theorem dX1_sendIn_66 : decode cX1_sendIn 66 = .ok (.invokevirtual 254, 3) := dk_182 0 254 (dk_at dksX1_sendIn_2 20 rfl rfl)
theorem dX1_sendIn_69 : decode cX1_sendIn 69 = .ok (.aload_n 0, 1) := dk_42 (dk_at dksX1_sendIn_2 23 rfl rfl)
theorem dX1_sendIn_70 : decode cX1_sendIn 70 = .ok (.getfield 105, 3) := dk_180 0 105 (dk_at dksX1_sendIn_3 0 rfl rfl)
theorem dX1_sendIn_73 : decode cX1_sendIn 73 = .ok (.iload 6, 2) := dk_21 6 (dk_at dksX1_sendIn_3 3 rfl rfl)
theorem dX1_sendIn_75 : decode cX1_sendIn 75 = .ok (.invokevirtual 283, 3) := dk_182 1 27 (dk_at dksX1_sendIn_3 5 rfl rfl)
theorem dX1_sendIn_78 : decode cX1_sendIn 78 = .ok (.aload_n 0, 1) := dk_42 (dk_at dksX1_sendIn_3 8 rfl rfl)
theorem dX1_sendIn_79 : decode cX1_sendIn 79 = .ok (.getfield 105, 3) := dk_180 0 105 (dk_at dksX1_sendIn_3 9 rfl rfl)
theorem dX1_sendIn_82 : decode cX1_sendIn 82 = .ok (.getfield 209, 3) := dk_180 0 209 (dk_at dksX1_sendIn_3 12 rfl rfl)
theorem dX1_sendIn_85 : decode cX1_sendIn 85 = .ok (.iload_n 1, 1) := dk_27 (dk_at dksX1_sendIn_3 15 rfl rfl)
theorem dX1_sendIn_86 : decode cX1_sendIn 86 = .ok (.iload_n 2, 1) := dk_28 (dk_at dksX1_sendIn_3 16 rfl rfl)
theorem dX1_sendIn_87 : decode cX1_sendIn 87 = .ok (.iastore, 1) := dk_79 (dk_at dksX1_sendIn_3 17 rfl rfl)
theorem dX1_sendIn_88 : decode cX1_sendIn 88 = .ok (.aload_n 0, 1) := dk_42 (dk_at dksX1_sendIn_3 18 rfl rfl)
theorem dX1_sendIn_89 : decode cX1_sendIn 89 = .ok (.getfield 105, 3) := dk_180 0 105 (dk_at dksX1_sendIn_3 19 rfl rfl)
theorem dX1_sendIn_92 : decode cX1_sendIn 92 = .ok (.bipush 40, 2) := dk_16 40 (dk_at dksX1_sendIn_3 22 rfl rfl)
theorem dX1_sendIn_94 : decode cX1_sendIn 94 = .ok (.iload 6, 2) := dk_21 6 (dk_at dksX1_sendIn_4 0 rfl rfl)
theorem dX1_sendIn_96 : decode cX1_sendIn 96 = .ok (.isub, 1) := dk_100 (dk_at dksX1_sendIn_4 2 rfl rfl)
theorem dX1_sendIn_97 : decode cX1_sendIn 97 = .ok (.invokevirtual 283, 3) := dk_182 1 27 (dk_at dksX1_sendIn_4 3 rfl rfl)
theorem dX1_sendIn_100 : decode cX1_sendIn 100 = .ok (.aload_n 0, 1) := dk_42 (dk_at dksX1_sendIn_4 6 rfl rfl)
theorem dX1_sendIn_101 : decode cX1_sendIn 101 = .ok (.getfield 105, 3) := dk_180 0 105 (dk_at dksX1_sendIn_4 7 rfl rfl)
theorem dX1_sendIn_104 : decode cX1_sendIn 104 = .ok (.getfield 286, 3) := dk_180 1 30 (dk_at dksX1_sendIn_4 10 rfl rfl)
theorem dX1_sendIn_107 : decode cX1_sendIn 107 = .ok (.aload_n 0, 1) := dk_42 (dk_at dksX1_sendIn_4 13 rfl rfl)
theorem dX1_sendIn_108 : decode cX1_sendIn 108 = .ok (.getfield 101, 3) := dk_180 0 101 (dk_at dksX1_sendIn_4 14 rfl rfl)
theorem dX1_sendIn_111 : decode cX1_sendIn 111 = .ok (.getfield 286, 3) := dk_180 1 30 (dk_at dksX1_sendIn_4 17 rfl rfl)
theorem dX1_sendIn_114 : decode cX1_sendIn 114 = .ok (.isub, 1) := dk_100 (dk_at dksX1_sendIn_4 20 rfl rfl)
theorem dX1_sendIn_115 : decode cX1_sendIn 115 = .ok (.istore 7, 2) := dk_54 7 (dk_at dksX1_sendIn_4 21 rfl rfl)
theorem dX1_sendIn_117 : decode cX1_sendIn 117 = .ok (.iload 5, 2) := dk_21 5 (dk_at dksX1_sendIn_5 0 rfl rfl)
theorem dX1_sendIn_119 : decode cX1_sendIn 119 = .ok (.iconst (-1), 1) := dk_2 (dk_at dksX1_sendIn_5 2 rfl rfl)
theorem dX1_sendIn_120 : decode cX1_sendIn 120 = .ok (.if_icmp .eq 13, 3) := dk_159 0 13 (dk_at dksX1_sendIn_5 3 rfl rfl)
theorem dX1_sendIn_123 : decode cX1_sendIn 123 = .ok (.iload 7, 2) := dk_21 7 (dk_at dksX1_sendIn_5 6 rfl rfl)
theorem dX1_sendIn_125 : decode cX1_sendIn 125 = .ok (.iload 5, 2) := dk_21 5 (dk_at dksX1_sendIn_5 8 rfl rfl)
theorem dX1_sendIn_127 : decode cX1_sendIn 127 = .ok (.if_icmp .lt 6, 3) := dk_161 0 6 (dk_at dksX1_sendIn_5 10 rfl rfl)
theorem dX1_sendIn_130 : decode cX1_sendIn 130 = .ok (.goto 11, 3) := dk_167 0 11 (dk_at dksX1_sendIn_5 13 rfl rfl)
theorem dX1_sendIn_133 : decode cX1_sendIn 133 = .ok (.iload 6, 2) := dk_21 6 (dk_at dksX1_sendIn_5 16 rfl rfl)
theorem dX1_sendIn_135 : decode cX1_sendIn 135 = .ok (.istore 4, 2) := dk_54 4 (dk_at dksX1_sendIn_5 18 rfl rfl)
theorem dX1_sendIn_137 : decode cX1_sendIn 137 = .ok (.iload 7, 2) := dk_21 7 (dk_at dksX1_sendIn_5 20 rfl rfl)
theorem dX1_sendIn_139 : decode cX1_sendIn 139 = .ok (.istore 5, 2) := dk_54 5 (dk_at dksX1_sendIn_5 22 rfl rfl)
theorem dX1_sendIn_141 : decode cX1_sendIn 141 = .ok (.iinc 6 1, 3) := dk_132 6 1 (dk_at dksX1_sendIn_6 0 rfl rfl)
theorem dX1_sendIn_144 : decode cX1_sendIn 144 = .ok (.goto (-93), 3) := dk_167 255 163 (dk_at dksX1_sendIn_6 3 rfl rfl)
theorem dX1_sendIn_147 : decode cX1_sendIn 147 = .ok (.iload_n 3, 1) := dk_29 (dk_at dksX1_sendIn_6 6 rfl rfl)
theorem dX1_sendIn_148 : decode cX1_sendIn 148 = .ok (.ifCond .ne 8, 3) := dk_154 0 8 (dk_at dksX1_sendIn_6 7 rfl rfl)
theorem dX1_sendIn_151 : decode cX1_sendIn 151 = .ok (.iload 4, 2) := dk_21 4 (dk_at dksX1_sendIn_6 10 rfl rfl)
theorem dX1_sendIn_153 : decode cX1_sendIn 153 = .ok (.goto 5, 3) := dk_167 0 5 (dk_at dksX1_sendIn_6 12 rfl rfl)
theorem dX1_sendIn_156 : decode cX1_sendIn 156 = .ok (.iload 5, 2) := dk_21 5 (dk_at dksX1_sendIn_6 15 rfl rfl)
theorem dX1_sendIn_158 : decode cX1_sendIn 158 = .ok (.ireturn, 1) := dk_172 (dk_at dksX1_sendIn_6 17 rfl rfl)
abbrev cX1_pump : ByteArray := prog_1_method_34_code
def yX1_pump : MethodName := ⟨RX1, "pump", "(I)I"⟩
def dkwX1_pump_2 : List UInt8 := [42, 29, 27, 182, 1, 53, 153, 0, 5, 29, 61, 132, 3, 1, 167, 255, 215, 28, 172]
abbrev dktX1_pump_2 : List UInt8 := dkwX1_pump_2 ++ []
def dkwX1_pump_1 : List UInt8 := [182, 0, 182, 120, 162, 0, 37, 28, 16, 254, 159, 0, 14, 29, 184, 1, 39, 28, 184, 1, 39, 162, 0, 14]
abbrev dktX1_pump_1 : List UInt8 := dkwX1_pump_1 ++ dktX1_pump_2
def dkwX1_pump_0 : List UInt8 := [27, 133, 10, 20, 1, 51, 184, 0, 144, 154, 0, 5, 2, 172, 16, 254, 61, 3, 62, 29, 4, 42]
abbrev dktX1_pump_0 : List UInt8 := dkwX1_pump_0 ++ dktX1_pump_1
theorem dksX1_pump_0 : cX1_pump.data.toList.drop 0 = dktX1_pump_0 := by decide +kernel
theorem dksX1_pump_1 : cX1_pump.data.toList.drop 22 = dktX1_pump_1 := dk_seg dksX1_pump_0 22 rfl rfl
theorem dksX1_pump_2 : cX1_pump.data.toList.drop 46 = dktX1_pump_2 := dk_seg dksX1_pump_1 24 rfl rfl
theorem dX1_pump_0 : decode cX1_pump 0 = .ok (.iload_n 1, 1) := dk_27 (dk_at dksX1_pump_0 0 rfl rfl)
theorem dX1_pump_1 : decode cX1_pump 1 = .ok (.i2l, 1) := dk_133 (dk_at dksX1_pump_0 1 rfl rfl)
theorem dX1_pump_2 : decode cX1_pump 2 = .ok (.lconst 1, 1) := dk_10 (dk_at dksX1_pump_0 2 rfl rfl)
theorem dX1_pump_3 : decode cX1_pump 3 = .ok (.ldc2_w 307, 3) := dk_20 1 51 (dk_at dksX1_pump_0 3 rfl rfl)
theorem dX1_pump_6 : decode cX1_pump 6 = .ok (.invokestatic 144, 3) := dk_184 0 144 (dk_at dksX1_pump_0 6 rfl rfl)
theorem dX1_pump_9 : decode cX1_pump 9 = .ok (.ifCond .ne 5, 3) := dk_154 0 5 (dk_at dksX1_pump_0 9 rfl rfl)
theorem dX1_pump_12 : decode cX1_pump 12 = .ok (.iconst (-1), 1) := dk_2 (dk_at dksX1_pump_0 12 rfl rfl)
theorem dX1_pump_13 : decode cX1_pump 13 = .ok (.ireturn, 1) := dk_172 (dk_at dksX1_pump_0 13 rfl rfl)
theorem dX1_pump_14 : decode cX1_pump 14 = .ok (.bipush (-2), 2) := dk_16 254 (dk_at dksX1_pump_0 14 rfl rfl)
theorem dX1_pump_16 : decode cX1_pump 16 = .ok (.istore_n 2, 1) := dk_61 (dk_at dksX1_pump_0 16 rfl rfl)
theorem dX1_pump_17 : decode cX1_pump 17 = .ok (.iconst 0, 1) := dk_3 (dk_at dksX1_pump_0 17 rfl rfl)
theorem dX1_pump_18 : decode cX1_pump 18 = .ok (.istore_n 3, 1) := dk_62 (dk_at dksX1_pump_0 18 rfl rfl)
theorem dX1_pump_19 : decode cX1_pump 19 = .ok (.iload_n 3, 1) := dk_29 (dk_at dksX1_pump_0 19 rfl rfl)
theorem dX1_pump_20 : decode cX1_pump 20 = .ok (.iconst 1, 1) := dk_4 (dk_at dksX1_pump_0 20 rfl rfl)
theorem dX1_pump_21 : decode cX1_pump 21 = .ok (.aload_n 0, 1) := dk_42 (dk_at dksX1_pump_0 21 rfl rfl)
theorem dX1_pump_22 : decode cX1_pump 22 = .ok (.invokevirtual 182, 3) := dk_182 0 182 (dk_at dksX1_pump_1 0 rfl rfl)
theorem dX1_pump_25 : decode cX1_pump 25 = .ok (.ishl, 1) := dk_120 (dk_at dksX1_pump_1 3 rfl rfl)
theorem dX1_pump_26 : decode cX1_pump 26 = .ok (.if_icmp .ge 37, 3) := dk_162 0 37 (dk_at dksX1_pump_1 4 rfl rfl)
theorem dX1_pump_29 : decode cX1_pump 29 = .ok (.iload_n 2, 1) := dk_28 (dk_at dksX1_pump_1 7 rfl rfl)
theorem dX1_pump_30 : decode cX1_pump 30 = .ok (.bipush (-2), 2) := dk_16 254 (dk_at dksX1_pump_1 8 rfl rfl)
theorem dX1_pump_32 : decode cX1_pump 32 = .ok (.if_icmp .eq 14, 3) := dk_159 0 14 (dk_at dksX1_pump_1 10 rfl rfl)
theorem dX1_pump_35 : decode cX1_pump 35 = .ok (.iload_n 3, 1) := dk_29 (dk_at dksX1_pump_1 13 rfl rfl)
theorem dX1_pump_36 : decode cX1_pump 36 = .ok (.invokestatic 295, 3) := dk_184 1 39 (dk_at dksX1_pump_1 14 rfl rfl)
theorem dX1_pump_39 : decode cX1_pump 39 = .ok (.iload_n 2, 1) := dk_28 (dk_at dksX1_pump_1 17 rfl rfl)
theorem dX1_pump_40 : decode cX1_pump 40 = .ok (.invokestatic 295, 3) := dk_184 1 39 (dk_at dksX1_pump_1 18 rfl rfl)
theorem dX1_pump_43 : decode cX1_pump 43 = .ok (.if_icmp .ge 14, 3) := dk_162 0 14 (dk_at dksX1_pump_1 21 rfl rfl)
theorem dX1_pump_46 : decode cX1_pump 46 = .ok (.aload_n 0, 1) := dk_42 (dk_at dksX1_pump_2 0 rfl rfl)
theorem dX1_pump_47 : decode cX1_pump 47 = .ok (.iload_n 3, 1) := dk_29 (dk_at dksX1_pump_2 1 rfl rfl)
theorem dX1_pump_48 : decode cX1_pump 48 = .ok (.iload_n 1, 1) := dk_27 (dk_at dksX1_pump_2 2 rfl rfl)
theorem dX1_pump_49 : decode cX1_pump 49 = .ok (.invokevirtual 309, 3) := dk_182 1 53 (dk_at dksX1_pump_2 3 rfl rfl)
theorem dX1_pump_52 : decode cX1_pump 52 = .ok (.ifCond .eq 5, 3) := dk_153 0 5 (dk_at dksX1_pump_2 6 rfl rfl)
theorem dX1_pump_55 : decode cX1_pump 55 = .ok (.iload_n 3, 1) := dk_29 (dk_at dksX1_pump_2 9 rfl rfl)
theorem dX1_pump_56 : decode cX1_pump 56 = .ok (.istore_n 2, 1) := dk_61 (dk_at dksX1_pump_2 10 rfl rfl)
theorem dX1_pump_57 : decode cX1_pump 57 = .ok (.iinc 3 1, 3) := dk_132 3 1 (dk_at dksX1_pump_2 11 rfl rfl)
theorem dX1_pump_60 : decode cX1_pump 60 = .ok (.goto (-41), 3) := dk_167 255 215 (dk_at dksX1_pump_2 14 rfl rfl)
theorem dX1_pump_63 : decode cX1_pump 63 = .ok (.iload_n 2, 1) := dk_28 (dk_at dksX1_pump_2 17 rfl rfl)
theorem dX1_pump_64 : decode cX1_pump 64 = .ok (.ireturn, 1) := dk_172 (dk_at dksX1_pump_2 18 rfl rfl)
abbrev cX1_isPumped : ByteArray := prog_1_method_33_code
def yX1_isPumped : MethodName := ⟨RX1, "isPumped", "(II)Z"⟩
def dkwX1_isPumped_3 : List UInt8 := [4, 167, 0, 4, 3, 172]
abbrev dktX1_isPumped_3 : List UInt8 := dkwX1_isPumped_3 ++ []
def dkwX1_isPumped_2 : List UInt8 := [180, 0, 105, 28, 182, 1, 27, 42, 180, 0, 105, 180, 1, 36, 42, 180, 0, 101, 180, 1, 36, 160, 0, 7]
abbrev dktX1_isPumped_2 : List UInt8 := dkwX1_isPumped_2 ++ dktX1_isPumped_3
def dkwX1_isPumped_1 : List UInt8 := [4, 126, 4, 160, 0, 14, 42, 180, 0, 105, 180, 0, 236, 29, 16, 99, 79, 132, 3, 1, 167, 255, 225, 42]
abbrev dktX1_isPumped_1 : List UInt8 := dkwX1_isPumped_1 ++ dktX1_isPumped_2
def dkwX1_isPumped_0 : List UInt8 := [42, 180, 0, 105, 42, 180, 0, 101, 182, 0, 254, 3, 62, 29, 42, 182, 0, 182, 162, 0, 29, 27, 29, 122]
abbrev dktX1_isPumped_0 : List UInt8 := dkwX1_isPumped_0 ++ dktX1_isPumped_1
theorem dksX1_isPumped_0 : cX1_isPumped.data.toList.drop 0 = dktX1_isPumped_0 := by decide +kernel
theorem dksX1_isPumped_1 : cX1_isPumped.data.toList.drop 24 = dktX1_isPumped_1 := dk_seg dksX1_isPumped_0 24 rfl rfl
theorem dksX1_isPumped_2 : cX1_isPumped.data.toList.drop 48 = dktX1_isPumped_2 := dk_seg dksX1_isPumped_1 24 rfl rfl
theorem dksX1_isPumped_3 : cX1_isPumped.data.toList.drop 72 = dktX1_isPumped_3 := dk_seg dksX1_isPumped_2 24 rfl rfl
theorem dX1_isPumped_0 : decode cX1_isPumped 0 = .ok (.aload_n 0, 1) := dk_42 (dk_at dksX1_isPumped_0 0 rfl rfl)
theorem dX1_isPumped_1 : decode cX1_isPumped 1 = .ok (.getfield 105, 3) := dk_180 0 105 (dk_at dksX1_isPumped_0 1 rfl rfl)
theorem dX1_isPumped_4 : decode cX1_isPumped 4 = .ok (.aload_n 0, 1) := dk_42 (dk_at dksX1_isPumped_0 4 rfl rfl)
theorem dX1_isPumped_5 : decode cX1_isPumped 5 = .ok (.getfield 101, 3) := dk_180 0 101 (dk_at dksX1_isPumped_0 5 rfl rfl)
theorem dX1_isPumped_8 : decode cX1_isPumped 8 = .ok (.invokevirtual 254, 3) := dk_182 0 254 (dk_at dksX1_isPumped_0 8 rfl rfl)
theorem dX1_isPumped_11 : decode cX1_isPumped 11 = .ok (.iconst 0, 1) := dk_3 (dk_at dksX1_isPumped_0 11 rfl rfl)
theorem dX1_isPumped_12 : decode cX1_isPumped 12 = .ok (.istore_n 3, 1) := dk_62 (dk_at dksX1_isPumped_0 12 rfl rfl)
theorem dX1_isPumped_13 : decode cX1_isPumped 13 = .ok (.iload_n 3, 1) := dk_29 (dk_at dksX1_isPumped_0 13 rfl rfl)
theorem dX1_isPumped_14 : decode cX1_isPumped 14 = .ok (.aload_n 0, 1) := dk_42 (dk_at dksX1_isPumped_0 14 rfl rfl)
theorem dX1_isPumped_15 : decode cX1_isPumped 15 = .ok (.invokevirtual 182, 3) := dk_182 0 182 (dk_at dksX1_isPumped_0 15 rfl rfl)
theorem dX1_isPumped_18 : decode cX1_isPumped 18 = .ok (.if_icmp .ge 29, 3) := dk_162 0 29 (dk_at dksX1_isPumped_0 18 rfl rfl)
theorem dX1_isPumped_21 : decode cX1_isPumped 21 = .ok (.iload_n 1, 1) := dk_27 (dk_at dksX1_isPumped_0 21 rfl rfl)
theorem dX1_isPumped_22 : decode cX1_isPumped 22 = .ok (.iload_n 3, 1) := dk_29 (dk_at dksX1_isPumped_0 22 rfl rfl)
theorem dX1_isPumped_23 : decode cX1_isPumped 23 = .ok (.ishr, 1) := dk_122 (dk_at dksX1_isPumped_0 23 rfl rfl)
theorem dX1_isPumped_24 : decode cX1_isPumped 24 = .ok (.iconst 1, 1) := dk_4 (dk_at dksX1_isPumped_1 0 rfl rfl)
theorem dX1_isPumped_25 : decode cX1_isPumped 25 = .ok (.iand, 1) := dk_126 (dk_at dksX1_isPumped_1 1 rfl rfl)
theorem dX1_isPumped_26 : decode cX1_isPumped 26 = .ok (.iconst 1, 1) := dk_4 (dk_at dksX1_isPumped_1 2 rfl rfl)
theorem dX1_isPumped_27 : decode cX1_isPumped 27 = .ok (.if_icmp .ne 14, 3) := dk_160 0 14 (dk_at dksX1_isPumped_1 3 rfl rfl)
theorem dX1_isPumped_30 : decode cX1_isPumped 30 = .ok (.aload_n 0, 1) := dk_42 (dk_at dksX1_isPumped_1 6 rfl rfl)
theorem dX1_isPumped_31 : decode cX1_isPumped 31 = .ok (.getfield 105, 3) := dk_180 0 105 (dk_at dksX1_isPumped_1 7 rfl rfl)
theorem dX1_isPumped_34 : decode cX1_isPumped 34 = .ok (.getfield 236, 3) := dk_180 0 236 (dk_at dksX1_isPumped_1 10 rfl rfl)
theorem dX1_isPumped_37 : decode cX1_isPumped 37 = .ok (.iload_n 3, 1) := dk_29 (dk_at dksX1_isPumped_1 13 rfl rfl)
theorem dX1_isPumped_38 : decode cX1_isPumped 38 = .ok (.bipush 99, 2) := dk_16 99 (dk_at dksX1_isPumped_1 14 rfl rfl)
theorem dX1_isPumped_40 : decode cX1_isPumped 40 = .ok (.iastore, 1) := dk_79 (dk_at dksX1_isPumped_1 16 rfl rfl)
theorem dX1_isPumped_41 : decode cX1_isPumped 41 = .ok (.iinc 3 1, 3) := dk_132 3 1 (dk_at dksX1_isPumped_1 17 rfl rfl)
theorem dX1_isPumped_44 : decode cX1_isPumped 44 = .ok (.goto (-31), 3) := dk_167 255 225 (dk_at dksX1_isPumped_1 20 rfl rfl)
theorem dX1_isPumped_47 : decode cX1_isPumped 47 = .ok (.aload_n 0, 1) := dk_42 (dk_at dksX1_isPumped_1 23 rfl rfl)
theorem dX1_isPumped_48 : decode cX1_isPumped 48 = .ok (.getfield 105, 3) := dk_180 0 105 (dk_at dksX1_isPumped_2 0 rfl rfl)
theorem dX1_isPumped_51 : decode cX1_isPumped 51 = .ok (.iload_n 2, 1) := dk_28 (dk_at dksX1_isPumped_2 3 rfl rfl)
theorem dX1_isPumped_52 : decode cX1_isPumped 52 = .ok (.invokevirtual 283, 3) := dk_182 1 27 (dk_at dksX1_isPumped_2 4 rfl rfl)
theorem dX1_isPumped_55 : decode cX1_isPumped 55 = .ok (.aload_n 0, 1) := dk_42 (dk_at dksX1_isPumped_2 7 rfl rfl)
theorem dX1_isPumped_56 : decode cX1_isPumped 56 = .ok (.getfield 105, 3) := dk_180 0 105 (dk_at dksX1_isPumped_2 8 rfl rfl)
theorem dX1_isPumped_59 : decode cX1_isPumped 59 = .ok (.getfield 292, 3) := dk_180 1 36 (dk_at dksX1_isPumped_2 11 rfl rfl)
theorem dX1_isPumped_62 : decode cX1_isPumped 62 = .ok (.aload_n 0, 1) := dk_42 (dk_at dksX1_isPumped_2 14 rfl rfl)
theorem dX1_isPumped_63 : decode cX1_isPumped 63 = .ok (.getfield 101, 3) := dk_180 0 101 (dk_at dksX1_isPumped_2 15 rfl rfl)
theorem dX1_isPumped_66 : decode cX1_isPumped 66 = .ok (.getfield 292, 3) := dk_180 1 36 (dk_at dksX1_isPumped_2 18 rfl rfl)
theorem dX1_isPumped_69 : decode cX1_isPumped 69 = .ok (.if_icmp .ne 7, 3) := dk_160 0 7 (dk_at dksX1_isPumped_2 21 rfl rfl)
theorem dX1_isPumped_72 : decode cX1_isPumped 72 = .ok (.iconst 1, 1) := dk_4 (dk_at dksX1_isPumped_3 0 rfl rfl)
theorem dX1_isPumped_73 : decode cX1_isPumped 73 = .ok (.goto 4, 3) := dk_167 0 4 (dk_at dksX1_isPumped_3 1 rfl rfl)
theorem dX1_isPumped_76 : decode cX1_isPumped 76 = .ok (.iconst 0, 1) := dk_3 (dk_at dksX1_isPumped_3 4 rfl rfl)
theorem dX1_isPumped_77 : decode cX1_isPumped 77 = .ok (.ireturn, 1) := dk_172 (dk_at dksX1_isPumped_3 5 rfl rfl)
abbrev cX1_stops : ByteArray := prog_1_method_38_code
def yX1_stops : MethodName := ⟨RX1, "stops", "(II)I"⟩
def dkwX1_stops_8 : List UInt8 := [46, 182, 1, 63, 132, 4, 1, 167, 255, 212, 132, 3, 1, 167, 255, 147, 16, 254, 172]
abbrev dktX1_stops_8 : List UInt8 := dkwX1_stops_8 ++ []
def dkwX1_stops_7 : List UInt8 := [21, 4, 46, 2, 159, 0, 24, 42, 27, 42, 21, 4, 182, 0, 228, 180, 0, 232, 42, 180, 0, 115, 21, 4]
abbrev dktX1_stops_7 : List UInt8 := dkwX1_stops_7 ++ dktX1_stops_8
def dkwX1_stops_6 : List UInt8 := [42, 180, 0, 119, 182, 1, 60, 3, 54, 4, 21, 4, 42, 182, 0, 182, 162, 0, 41, 42, 180, 0, 115]
abbrev dktX1_stops_6 : List UInt8 := dkwX1_stops_6 ++ dktX1_stops_7
def dkwX1_stops_5 : List UInt8 := [162, 0, 23, 42, 180, 0, 115, 21, 4, 42, 180, 0, 119, 21, 4, 46, 79, 132, 4, 1, 167, 255, 232, 42]
abbrev dktX1_stops_5 : List UInt8 := dkwX1_stops_5 ++ dktX1_stops_6
def dkwX1_stops_4 : List UInt8 := [163, 0, 109, 42, 180, 0, 119, 28, 46, 2, 159, 0, 5, 29, 172, 3, 54, 4, 21, 4, 16, 6]
abbrev dktX1_stops_4 : List UInt8 := dkwX1_stops_4 ++ dktX1_stops_5
def dkwX1_stops_3 : List UInt8 := [180, 0, 200, 27, 46, 42, 180, 0, 101, 180, 0, 203, 27, 46, 182, 1, 63, 4, 62, 29, 16, 6]
abbrev dktX1_stops_3 : List UInt8 := dkwX1_stops_3 ++ dktX1_stops_4
def dkwX1_stops_2 : List UInt8 := [180, 0, 232, 160, 0, 5, 3, 172, 42, 42, 180, 0, 119, 182, 1, 60, 42, 27, 42, 180, 0, 101]
abbrev dktX1_stops_2 : List UInt8 := dkwX1_stops_2 ++ dktX1_stops_3
def dkwX1_stops_1 : List UInt8 := [182, 0, 219, 154, 0, 6, 16, 254, 172, 42, 180, 0, 101, 180, 0, 200, 27, 46, 42, 28, 182, 0, 228]
abbrev dktX1_stops_1 : List UInt8 := dkwX1_stops_1 ++ dktX1_stops_2
def dkwX1_stops_0 : List UInt8 := [42, 27, 182, 0, 186, 153, 0, 11, 42, 28, 182, 0, 233, 154, 0, 5, 2, 172, 42, 180, 0, 101, 27]
abbrev dktX1_stops_0 : List UInt8 := dkwX1_stops_0 ++ dktX1_stops_1
theorem dksX1_stops_0 : cX1_stops.data.toList.drop 0 = dktX1_stops_0 := by decide +kernel
theorem dksX1_stops_1 : cX1_stops.data.toList.drop 23 = dktX1_stops_1 := dk_seg dksX1_stops_0 23 rfl rfl
theorem dksX1_stops_2 : cX1_stops.data.toList.drop 46 = dktX1_stops_2 := dk_seg dksX1_stops_1 23 rfl rfl
theorem dksX1_stops_3 : cX1_stops.data.toList.drop 68 = dktX1_stops_3 := dk_seg dksX1_stops_2 22 rfl rfl
theorem dksX1_stops_4 : cX1_stops.data.toList.drop 90 = dktX1_stops_4 := dk_seg dksX1_stops_3 22 rfl rfl
theorem dksX1_stops_5 : cX1_stops.data.toList.drop 112 = dktX1_stops_5 := dk_seg dksX1_stops_4 22 rfl rfl
theorem dksX1_stops_6 : cX1_stops.data.toList.drop 136 = dktX1_stops_6 := dk_seg dksX1_stops_5 24 rfl rfl
theorem dksX1_stops_7 : cX1_stops.data.toList.drop 159 = dktX1_stops_7 := dk_seg dksX1_stops_6 23 rfl rfl
theorem dksX1_stops_8 : cX1_stops.data.toList.drop 183 = dktX1_stops_8 := dk_seg dksX1_stops_7 24 rfl rfl
theorem dX1_stops_0 : decode cX1_stops 0 = .ok (.aload_n 0, 1) := dk_42 (dk_at dksX1_stops_0 0 rfl rfl)
theorem dX1_stops_1 : decode cX1_stops 1 = .ok (.iload_n 1, 1) := dk_27 (dk_at dksX1_stops_0 1 rfl rfl)
theorem dX1_stops_2 : decode cX1_stops 2 = .ok (.invokevirtual 186, 3) := dk_182 0 186 (dk_at dksX1_stops_0 2 rfl rfl)
theorem dX1_stops_5 : decode cX1_stops 5 = .ok (.ifCond .eq 11, 3) := dk_153 0 11 (dk_at dksX1_stops_0 5 rfl rfl)
theorem dX1_stops_8 : decode cX1_stops 8 = .ok (.aload_n 0, 1) := dk_42 (dk_at dksX1_stops_0 8 rfl rfl)
theorem dX1_stops_9 : decode cX1_stops 9 = .ok (.iload_n 2, 1) := dk_28 (dk_at dksX1_stops_0 9 rfl rfl)
theorem dX1_stops_10 : decode cX1_stops 10 = .ok (.invokevirtual 233, 3) := dk_182 0 233 (dk_at dksX1_stops_0 10 rfl rfl)
theorem dX1_stops_13 : decode cX1_stops 13 = .ok (.ifCond .ne 5, 3) := dk_154 0 5 (dk_at dksX1_stops_0 13 rfl rfl)
theorem dX1_stops_16 : decode cX1_stops 16 = .ok (.iconst (-1), 1) := dk_2 (dk_at dksX1_stops_0 16 rfl rfl)
theorem dX1_stops_17 : decode cX1_stops 17 = .ok (.ireturn, 1) := dk_172 (dk_at dksX1_stops_0 17 rfl rfl)
theorem dX1_stops_18 : decode cX1_stops 18 = .ok (.aload_n 0, 1) := dk_42 (dk_at dksX1_stops_0 18 rfl rfl)
theorem dX1_stops_19 : decode cX1_stops 19 = .ok (.getfield 101, 3) := dk_180 0 101 (dk_at dksX1_stops_0 19 rfl rfl)
theorem dX1_stops_22 : decode cX1_stops 22 = .ok (.iload_n 1, 1) := dk_27 (dk_at dksX1_stops_0 22 rfl rfl)
theorem dX1_stops_23 : decode cX1_stops 23 = .ok (.invokevirtual 219, 3) := dk_182 0 219 (dk_at dksX1_stops_1 0 rfl rfl)
theorem dX1_stops_26 : decode cX1_stops 26 = .ok (.ifCond .ne 6, 3) := dk_154 0 6 (dk_at dksX1_stops_1 3 rfl rfl)
theorem dX1_stops_29 : decode cX1_stops 29 = .ok (.bipush (-2), 2) := dk_16 254 (dk_at dksX1_stops_1 6 rfl rfl)
theorem dX1_stops_31 : decode cX1_stops 31 = .ok (.ireturn, 1) := dk_172 (dk_at dksX1_stops_1 8 rfl rfl)
theorem dX1_stops_32 : decode cX1_stops 32 = .ok (.aload_n 0, 1) := dk_42 (dk_at dksX1_stops_1 9 rfl rfl)
theorem dX1_stops_33 : decode cX1_stops 33 = .ok (.getfield 101, 3) := dk_180 0 101 (dk_at dksX1_stops_1 10 rfl rfl)
theorem dX1_stops_36 : decode cX1_stops 36 = .ok (.getfield 200, 3) := dk_180 0 200 (dk_at dksX1_stops_1 13 rfl rfl)
theorem dX1_stops_39 : decode cX1_stops 39 = .ok (.iload_n 1, 1) := dk_27 (dk_at dksX1_stops_1 16 rfl rfl)
theorem dX1_stops_40 : decode cX1_stops 40 = .ok (.iaload, 1) := dk_46 (dk_at dksX1_stops_1 17 rfl rfl)
theorem dX1_stops_41 : decode cX1_stops 41 = .ok (.aload_n 0, 1) := dk_42 (dk_at dksX1_stops_1 18 rfl rfl)
theorem dX1_stops_42 : decode cX1_stops 42 = .ok (.iload_n 2, 1) := dk_28 (dk_at dksX1_stops_1 19 rfl rfl)
theorem dX1_stops_43 : decode cX1_stops 43 = .ok (.invokevirtual 228, 3) := dk_182 0 228 (dk_at dksX1_stops_1 20 rfl rfl)
theorem dX1_stops_46 : decode cX1_stops 46 = .ok (.getfield 232, 3) := dk_180 0 232 (dk_at dksX1_stops_2 0 rfl rfl)
theorem dX1_stops_49 : decode cX1_stops 49 = .ok (.if_icmp .ne 5, 3) := dk_160 0 5 (dk_at dksX1_stops_2 3 rfl rfl)
theorem dX1_stops_52 : decode cX1_stops 52 = .ok (.iconst 0, 1) := dk_3 (dk_at dksX1_stops_2 6 rfl rfl)
theorem dX1_stops_53 : decode cX1_stops 53 = .ok (.ireturn, 1) := dk_172 (dk_at dksX1_stops_2 7 rfl rfl)
theorem dX1_stops_54 : decode cX1_stops 54 = .ok (.aload_n 0, 1) := dk_42 (dk_at dksX1_stops_2 8 rfl rfl)
theorem dX1_stops_55 : decode cX1_stops 55 = .ok (.aload_n 0, 1) := dk_42 (dk_at dksX1_stops_2 9 rfl rfl)
theorem dX1_stops_56 : decode cX1_stops 56 = .ok (.getfield 119, 3) := dk_180 0 119 (dk_at dksX1_stops_2 10 rfl rfl)
theorem dX1_stops_59 : decode cX1_stops 59 = .ok (.invokevirtual 316, 3) := dk_182 1 60 (dk_at dksX1_stops_2 13 rfl rfl)
theorem dX1_stops_62 : decode cX1_stops 62 = .ok (.aload_n 0, 1) := dk_42 (dk_at dksX1_stops_2 16 rfl rfl)
theorem dX1_stops_63 : decode cX1_stops 63 = .ok (.iload_n 1, 1) := dk_27 (dk_at dksX1_stops_2 17 rfl rfl)
theorem dX1_stops_64 : decode cX1_stops 64 = .ok (.aload_n 0, 1) := dk_42 (dk_at dksX1_stops_2 18 rfl rfl)
theorem dX1_stops_65 : decode cX1_stops 65 = .ok (.getfield 101, 3) := dk_180 0 101 (dk_at dksX1_stops_2 19 rfl rfl)
theorem dX1_stops_68 : decode cX1_stops 68 = .ok (.getfield 200, 3) := dk_180 0 200 (dk_at dksX1_stops_3 0 rfl rfl)
theorem dX1_stops_71 : decode cX1_stops 71 = .ok (.iload_n 1, 1) := dk_27 (dk_at dksX1_stops_3 3 rfl rfl)
theorem dX1_stops_72 : decode cX1_stops 72 = .ok (.iaload, 1) := dk_46 (dk_at dksX1_stops_3 4 rfl rfl)
theorem dX1_stops_73 : decode cX1_stops 73 = .ok (.aload_n 0, 1) := dk_42 (dk_at dksX1_stops_3 5 rfl rfl)
theorem dX1_stops_74 : decode cX1_stops 74 = .ok (.getfield 101, 3) := dk_180 0 101 (dk_at dksX1_stops_3 6 rfl rfl)
theorem dX1_stops_77 : decode cX1_stops 77 = .ok (.getfield 203, 3) := dk_180 0 203 (dk_at dksX1_stops_3 9 rfl rfl)
theorem dX1_stops_80 : decode cX1_stops 80 = .ok (.iload_n 1, 1) := dk_27 (dk_at dksX1_stops_3 12 rfl rfl)
theorem dX1_stops_81 : decode cX1_stops 81 = .ok (.iaload, 1) := dk_46 (dk_at dksX1_stops_3 13 rfl rfl)
theorem dX1_stops_82 : decode cX1_stops 82 = .ok (.invokevirtual 319, 3) := dk_182 1 63 (dk_at dksX1_stops_3 14 rfl rfl)
theorem dX1_stops_85 : decode cX1_stops 85 = .ok (.iconst 1, 1) := dk_4 (dk_at dksX1_stops_3 17 rfl rfl)
theorem dX1_stops_86 : decode cX1_stops 86 = .ok (.istore_n 3, 1) := dk_62 (dk_at dksX1_stops_3 18 rfl rfl)
theorem dX1_stops_87 : decode cX1_stops 87 = .ok (.iload_n 3, 1) := dk_29 (dk_at dksX1_stops_3 19 rfl rfl)
theorem dX1_stops_88 : decode cX1_stops 88 = .ok (.bipush 6, 2) := dk_16 6 (dk_at dksX1_stops_3 20 rfl rfl)
theorem dX1_stops_90 : decode cX1_stops 90 = .ok (.if_icmp .gt 109, 3) := dk_163 0 109 (dk_at dksX1_stops_4 0 rfl rfl)
theorem dX1_stops_93 : decode cX1_stops 93 = .ok (.aload_n 0, 1) := dk_42 (dk_at dksX1_stops_4 3 rfl rfl)
theorem dX1_stops_94 : decode cX1_stops 94 = .ok (.getfield 119, 3) := dk_180 0 119 (dk_at dksX1_stops_4 4 rfl rfl)
theorem dX1_stops_97 : decode cX1_stops 97 = .ok (.iload_n 2, 1) := dk_28 (dk_at dksX1_stops_4 7 rfl rfl)
theorem dX1_stops_98 : decode cX1_stops 98 = .ok (.iaload, 1) := dk_46 (dk_at dksX1_stops_4 8 rfl rfl)
theorem dX1_stops_99 : decode cX1_stops 99 = .ok (.iconst (-1), 1) := dk_2 (dk_at dksX1_stops_4 9 rfl rfl)
theorem dX1_stops_100 : decode cX1_stops 100 = .ok (.if_icmp .eq 5, 3) := dk_159 0 5 (dk_at dksX1_stops_4 10 rfl rfl)
theorem dX1_stops_103 : decode cX1_stops 103 = .ok (.iload_n 3, 1) := dk_29 (dk_at dksX1_stops_4 13 rfl rfl)
theorem dX1_stops_104 : decode cX1_stops 104 = .ok (.ireturn, 1) := dk_172 (dk_at dksX1_stops_4 14 rfl rfl)
theorem dX1_stops_105 : decode cX1_stops 105 = .ok (.iconst 0, 1) := dk_3 (dk_at dksX1_stops_4 15 rfl rfl)
theorem dX1_stops_106 : decode cX1_stops 106 = .ok (.istore 4, 2) := dk_54 4 (dk_at dksX1_stops_4 16 rfl rfl)
theorem dX1_stops_108 : decode cX1_stops 108 = .ok (.iload 4, 2) := dk_21 4 (dk_at dksX1_stops_4 18 rfl rfl)
theorem dX1_stops_110 : decode cX1_stops 110 = .ok (.bipush 6, 2) := dk_16 6 (dk_at dksX1_stops_4 20 rfl rfl)
theorem dX1_stops_112 : decode cX1_stops 112 = .ok (.if_icmp .ge 23, 3) := dk_162 0 23 (dk_at dksX1_stops_5 0 rfl rfl)
theorem dX1_stops_115 : decode cX1_stops 115 = .ok (.aload_n 0, 1) := dk_42 (dk_at dksX1_stops_5 3 rfl rfl)
theorem dX1_stops_116 : decode cX1_stops 116 = .ok (.getfield 115, 3) := dk_180 0 115 (dk_at dksX1_stops_5 4 rfl rfl)
theorem dX1_stops_119 : decode cX1_stops 119 = .ok (.iload 4, 2) := dk_21 4 (dk_at dksX1_stops_5 7 rfl rfl)
theorem dX1_stops_121 : decode cX1_stops 121 = .ok (.aload_n 0, 1) := dk_42 (dk_at dksX1_stops_5 9 rfl rfl)
theorem dX1_stops_122 : decode cX1_stops 122 = .ok (.getfield 119, 3) := dk_180 0 119 (dk_at dksX1_stops_5 10 rfl rfl)
theorem dX1_stops_125 : decode cX1_stops 125 = .ok (.iload 4, 2) := dk_21 4 (dk_at dksX1_stops_5 13 rfl rfl)
theorem dX1_stops_127 : decode cX1_stops 127 = .ok (.iaload, 1) := dk_46 (dk_at dksX1_stops_5 15 rfl rfl)
theorem dX1_stops_128 : decode cX1_stops 128 = .ok (.iastore, 1) := dk_79 (dk_at dksX1_stops_5 16 rfl rfl)
theorem dX1_stops_129 : decode cX1_stops 129 = .ok (.iinc 4 1, 3) := dk_132 4 1 (dk_at dksX1_stops_5 17 rfl rfl)
theorem dX1_stops_132 : decode cX1_stops 132 = .ok (.goto (-24), 3) := dk_167 255 232 (dk_at dksX1_stops_5 20 rfl rfl)
theorem dX1_stops_135 : decode cX1_stops 135 = .ok (.aload_n 0, 1) := dk_42 (dk_at dksX1_stops_5 23 rfl rfl)
theorem dX1_stops_136 : decode cX1_stops 136 = .ok (.aload_n 0, 1) := dk_42 (dk_at dksX1_stops_6 0 rfl rfl)
theorem dX1_stops_137 : decode cX1_stops 137 = .ok (.getfield 119, 3) := dk_180 0 119 (dk_at dksX1_stops_6 1 rfl rfl)
theorem dX1_stops_140 : decode cX1_stops 140 = .ok (.invokevirtual 316, 3) := dk_182 1 60 (dk_at dksX1_stops_6 4 rfl rfl)
theorem dX1_stops_143 : decode cX1_stops 143 = .ok (.iconst 0, 1) := dk_3 (dk_at dksX1_stops_6 7 rfl rfl)
theorem dX1_stops_144 : decode cX1_stops 144 = .ok (.istore 4, 2) := dk_54 4 (dk_at dksX1_stops_6 8 rfl rfl)
theorem dX1_stops_146 : decode cX1_stops 146 = .ok (.iload 4, 2) := dk_21 4 (dk_at dksX1_stops_6 10 rfl rfl)
theorem dX1_stops_148 : decode cX1_stops 148 = .ok (.aload_n 0, 1) := dk_42 (dk_at dksX1_stops_6 12 rfl rfl)
theorem dX1_stops_149 : decode cX1_stops 149 = .ok (.invokevirtual 182, 3) := dk_182 0 182 (dk_at dksX1_stops_6 13 rfl rfl)
theorem dX1_stops_152 : decode cX1_stops 152 = .ok (.if_icmp .ge 41, 3) := dk_162 0 41 (dk_at dksX1_stops_6 16 rfl rfl)
theorem dX1_stops_155 : decode cX1_stops 155 = .ok (.aload_n 0, 1) := dk_42 (dk_at dksX1_stops_6 19 rfl rfl)
theorem dX1_stops_156 : decode cX1_stops 156 = .ok (.getfield 115, 3) := dk_180 0 115 (dk_at dksX1_stops_6 20 rfl rfl)
theorem dX1_stops_159 : decode cX1_stops 159 = .ok (.iload 4, 2) := dk_21 4 (dk_at dksX1_stops_7 0 rfl rfl)
theorem dX1_stops_161 : decode cX1_stops 161 = .ok (.iaload, 1) := dk_46 (dk_at dksX1_stops_7 2 rfl rfl)
theorem dX1_stops_162 : decode cX1_stops 162 = .ok (.iconst (-1), 1) := dk_2 (dk_at dksX1_stops_7 3 rfl rfl)
theorem dX1_stops_163 : decode cX1_stops 163 = .ok (.if_icmp .eq 24, 3) := dk_159 0 24 (dk_at dksX1_stops_7 4 rfl rfl)
theorem dX1_stops_166 : decode cX1_stops 166 = .ok (.aload_n 0, 1) := dk_42 (dk_at dksX1_stops_7 7 rfl rfl)
theorem dX1_stops_167 : decode cX1_stops 167 = .ok (.iload_n 1, 1) := dk_27 (dk_at dksX1_stops_7 8 rfl rfl)
theorem dX1_stops_168 : decode cX1_stops 168 = .ok (.aload_n 0, 1) := dk_42 (dk_at dksX1_stops_7 9 rfl rfl)
theorem dX1_stops_169 : decode cX1_stops 169 = .ok (.iload 4, 2) := dk_21 4 (dk_at dksX1_stops_7 10 rfl rfl)
theorem dX1_stops_171 : decode cX1_stops 171 = .ok (.invokevirtual 228, 3) := dk_182 0 228 (dk_at dksX1_stops_7 12 rfl rfl)
theorem dX1_stops_174 : decode cX1_stops 174 = .ok (.getfield 232, 3) := dk_180 0 232 (dk_at dksX1_stops_7 15 rfl rfl)
theorem dX1_stops_177 : decode cX1_stops 177 = .ok (.aload_n 0, 1) := dk_42 (dk_at dksX1_stops_7 18 rfl rfl)
theorem dX1_stops_178 : decode cX1_stops 178 = .ok (.getfield 115, 3) := dk_180 0 115 (dk_at dksX1_stops_7 19 rfl rfl)
theorem dX1_stops_181 : decode cX1_stops 181 = .ok (.iload 4, 2) := dk_21 4 (dk_at dksX1_stops_7 22 rfl rfl)
theorem dX1_stops_183 : decode cX1_stops 183 = .ok (.iaload, 1) := dk_46 (dk_at dksX1_stops_8 0 rfl rfl)
theorem dX1_stops_184 : decode cX1_stops 184 = .ok (.invokevirtual 319, 3) := dk_182 1 63 (dk_at dksX1_stops_8 1 rfl rfl)
theorem dX1_stops_187 : decode cX1_stops 187 = .ok (.iinc 4 1, 3) := dk_132 4 1 (dk_at dksX1_stops_8 4 rfl rfl)
theorem dX1_stops_190 : decode cX1_stops 190 = .ok (.goto (-44), 3) := dk_167 255 212 (dk_at dksX1_stops_8 7 rfl rfl)
theorem dX1_stops_193 : decode cX1_stops 193 = .ok (.iinc 3 1, 3) := dk_132 3 1 (dk_at dksX1_stops_8 10 rfl rfl)
theorem dX1_stops_196 : decode cX1_stops 196 = .ok (.goto (-109), 3) := dk_167 255 147 (dk_at dksX1_stops_8 13 rfl rfl)
theorem dX1_stops_199 : decode cX1_stops 199 = .ok (.bipush (-2), 2) := dk_16 254 (dk_at dksX1_stops_8 16 rfl rfl)
theorem dX1_stops_201 : decode cX1_stops 201 = .ok (.ireturn, 1) := dk_172 (dk_at dksX1_stops_8 18 rfl rfl)
abbrev cX1_clear : ByteArray := prog_1_method_37_code
def yX1_clear : MethodName := ⟨RX1, "clear", "([I)V"⟩
def dkwX1_clear_0 : List UInt8 := [3, 61, 28, 16, 6, 162, 0, 13, 43, 28, 2, 79, 132, 2, 1, 167, 255, 243, 177]
abbrev dktX1_clear_0 : List UInt8 := dkwX1_clear_0 ++ []
theorem dksX1_clear_0 : cX1_clear.data.toList.drop 0 = dktX1_clear_0 := by decide +kernel
theorem dX1_clear_0 : decode cX1_clear 0 = .ok (.iconst 0, 1) := dk_3 (dk_at dksX1_clear_0 0 rfl rfl)
theorem dX1_clear_1 : decode cX1_clear 1 = .ok (.istore_n 2, 1) := dk_61 (dk_at dksX1_clear_0 1 rfl rfl)
theorem dX1_clear_2 : decode cX1_clear 2 = .ok (.iload_n 2, 1) := dk_28 (dk_at dksX1_clear_0 2 rfl rfl)
theorem dX1_clear_3 : decode cX1_clear 3 = .ok (.bipush 6, 2) := dk_16 6 (dk_at dksX1_clear_0 3 rfl rfl)
theorem dX1_clear_5 : decode cX1_clear 5 = .ok (.if_icmp .ge 13, 3) := dk_162 0 13 (dk_at dksX1_clear_0 5 rfl rfl)
theorem dX1_clear_8 : decode cX1_clear 8 = .ok (.aload_n 1, 1) := dk_43 (dk_at dksX1_clear_0 8 rfl rfl)
theorem dX1_clear_9 : decode cX1_clear 9 = .ok (.iload_n 2, 1) := dk_28 (dk_at dksX1_clear_0 9 rfl rfl)
theorem dX1_clear_10 : decode cX1_clear 10 = .ok (.iconst (-1), 1) := dk_2 (dk_at dksX1_clear_0 10 rfl rfl)
theorem dX1_clear_11 : decode cX1_clear 11 = .ok (.iastore, 1) := dk_79 (dk_at dksX1_clear_0 11 rfl rfl)
theorem dX1_clear_12 : decode cX1_clear 12 = .ok (.iinc 2 1, 3) := dk_132 2 1 (dk_at dksX1_clear_0 12 rfl rfl)
theorem dX1_clear_15 : decode cX1_clear 15 = .ok (.goto (-13), 3) := dk_167 255 243 (dk_at dksX1_clear_0 15 rfl rfl)
theorem dX1_clear_18 : decode cX1_clear 18 = .ok (.return_, 1) := dk_177 (dk_at dksX1_clear_0 18 rfl rfl)
abbrev cX1_leg : ByteArray := prog_1_method_36_code
def yX1_leg : MethodName := ⟨RX1, "leg", "(III)V"⟩
def dkwX1_leg_4 : List UInt8 := [167, 255, 167, 177]
abbrev dktX1_leg_4 : List UInt8 := dkwX1_leg_4 ++ []
def dkwX1_leg_3 : List UInt8 := [21, 5, 42, 180, 0, 119, 21, 4, 46, 162, 0, 12, 42, 180, 0, 119, 21, 4, 21, 5, 79, 132, 4, 1]
abbrev dktX1_leg_3 : List UInt8 := dkwX1_leg_3 ++ dktX1_leg_4
def dkwX1_leg_2 : List UInt8 := [180, 0, 236, 21, 4, 46, 158, 0, 6, 3, 54, 5, 42, 180, 0, 119, 21, 4, 46, 2, 159, 0, 15]
abbrev dktX1_leg_2 : List UInt8 := dkwX1_leg_2 ++ dktX1_leg_3
def dkwX1_leg_1 : List UInt8 := [180, 0, 232, 182, 1, 56, 96, 54, 5, 21, 5, 16, 100, 161, 0, 6, 167, 0, 51, 42, 180, 0, 101]
abbrev dktX1_leg_1 : List UInt8 := dkwX1_leg_1 ++ dktX1_leg_2
def dkwX1_leg_0 : List UInt8 := [3, 54, 4, 21, 4, 42, 182, 0, 182, 162, 0, 86, 29, 42, 27, 28, 42, 21, 4, 182, 0, 228]
abbrev dktX1_leg_0 : List UInt8 := dkwX1_leg_0 ++ dktX1_leg_1
theorem dksX1_leg_0 : cX1_leg.data.toList.drop 0 = dktX1_leg_0 := by decide +kernel
theorem dksX1_leg_1 : cX1_leg.data.toList.drop 22 = dktX1_leg_1 := dk_seg dksX1_leg_0 22 rfl rfl
theorem dksX1_leg_2 : cX1_leg.data.toList.drop 45 = dktX1_leg_2 := dk_seg dksX1_leg_1 23 rfl rfl
theorem dksX1_leg_3 : cX1_leg.data.toList.drop 68 = dktX1_leg_3 := dk_seg dksX1_leg_2 23 rfl rfl
theorem dksX1_leg_4 : cX1_leg.data.toList.drop 92 = dktX1_leg_4 := dk_seg dksX1_leg_3 24 rfl rfl
theorem dX1_leg_0 : decode cX1_leg 0 = .ok (.iconst 0, 1) := dk_3 (dk_at dksX1_leg_0 0 rfl rfl)
theorem dX1_leg_1 : decode cX1_leg 1 = .ok (.istore 4, 2) := dk_54 4 (dk_at dksX1_leg_0 1 rfl rfl)
theorem dX1_leg_3 : decode cX1_leg 3 = .ok (.iload 4, 2) := dk_21 4 (dk_at dksX1_leg_0 3 rfl rfl)
theorem dX1_leg_5 : decode cX1_leg 5 = .ok (.aload_n 0, 1) := dk_42 (dk_at dksX1_leg_0 5 rfl rfl)
theorem dX1_leg_6 : decode cX1_leg 6 = .ok (.invokevirtual 182, 3) := dk_182 0 182 (dk_at dksX1_leg_0 6 rfl rfl)
theorem dX1_leg_9 : decode cX1_leg 9 = .ok (.if_icmp .ge 86, 3) := dk_162 0 86 (dk_at dksX1_leg_0 9 rfl rfl)
theorem dX1_leg_12 : decode cX1_leg 12 = .ok (.iload_n 3, 1) := dk_29 (dk_at dksX1_leg_0 12 rfl rfl)
theorem dX1_leg_13 : decode cX1_leg 13 = .ok (.aload_n 0, 1) := dk_42 (dk_at dksX1_leg_0 13 rfl rfl)
theorem dX1_leg_14 : decode cX1_leg 14 = .ok (.iload_n 1, 1) := dk_27 (dk_at dksX1_leg_0 14 rfl rfl)
theorem dX1_leg_15 : decode cX1_leg 15 = .ok (.iload_n 2, 1) := dk_28 (dk_at dksX1_leg_0 15 rfl rfl)
theorem dX1_leg_16 : decode cX1_leg 16 = .ok (.aload_n 0, 1) := dk_42 (dk_at dksX1_leg_0 16 rfl rfl)
theorem dX1_leg_17 : decode cX1_leg 17 = .ok (.iload 4, 2) := dk_21 4 (dk_at dksX1_leg_0 17 rfl rfl)
theorem dX1_leg_19 : decode cX1_leg 19 = .ok (.invokevirtual 228, 3) := dk_182 0 228 (dk_at dksX1_leg_0 19 rfl rfl)
theorem dX1_leg_22 : decode cX1_leg 22 = .ok (.getfield 232, 3) := dk_180 0 232 (dk_at dksX1_leg_1 0 rfl rfl)
theorem dX1_leg_25 : decode cX1_leg 25 = .ok (.invokevirtual 312, 3) := dk_182 1 56 (dk_at dksX1_leg_1 3 rfl rfl)
theorem dX1_leg_28 : decode cX1_leg 28 = .ok (.iadd, 1) := dk_96 (dk_at dksX1_leg_1 6 rfl rfl)
theorem dX1_leg_29 : decode cX1_leg 29 = .ok (.istore 5, 2) := dk_54 5 (dk_at dksX1_leg_1 7 rfl rfl)
theorem dX1_leg_31 : decode cX1_leg 31 = .ok (.iload 5, 2) := dk_21 5 (dk_at dksX1_leg_1 9 rfl rfl)
theorem dX1_leg_33 : decode cX1_leg 33 = .ok (.bipush 100, 2) := dk_16 100 (dk_at dksX1_leg_1 11 rfl rfl)
theorem dX1_leg_35 : decode cX1_leg 35 = .ok (.if_icmp .lt 6, 3) := dk_161 0 6 (dk_at dksX1_leg_1 13 rfl rfl)
theorem dX1_leg_38 : decode cX1_leg 38 = .ok (.goto 51, 3) := dk_167 0 51 (dk_at dksX1_leg_1 16 rfl rfl)
theorem dX1_leg_41 : decode cX1_leg 41 = .ok (.aload_n 0, 1) := dk_42 (dk_at dksX1_leg_1 19 rfl rfl)
theorem dX1_leg_42 : decode cX1_leg 42 = .ok (.getfield 101, 3) := dk_180 0 101 (dk_at dksX1_leg_1 20 rfl rfl)
theorem dX1_leg_45 : decode cX1_leg 45 = .ok (.getfield 236, 3) := dk_180 0 236 (dk_at dksX1_leg_2 0 rfl rfl)
theorem dX1_leg_48 : decode cX1_leg 48 = .ok (.iload 4, 2) := dk_21 4 (dk_at dksX1_leg_2 3 rfl rfl)
theorem dX1_leg_50 : decode cX1_leg 50 = .ok (.iaload, 1) := dk_46 (dk_at dksX1_leg_2 5 rfl rfl)
theorem dX1_leg_51 : decode cX1_leg 51 = .ok (.ifCond .le 6, 3) := dk_158 0 6 (dk_at dksX1_leg_2 6 rfl rfl)
theorem dX1_leg_54 : decode cX1_leg 54 = .ok (.iconst 0, 1) := dk_3 (dk_at dksX1_leg_2 9 rfl rfl)
theorem dX1_leg_55 : decode cX1_leg 55 = .ok (.istore 5, 2) := dk_54 5 (dk_at dksX1_leg_2 10 rfl rfl)
theorem dX1_leg_57 : decode cX1_leg 57 = .ok (.aload_n 0, 1) := dk_42 (dk_at dksX1_leg_2 12 rfl rfl)
theorem dX1_leg_58 : decode cX1_leg 58 = .ok (.getfield 119, 3) := dk_180 0 119 (dk_at dksX1_leg_2 13 rfl rfl)
theorem dX1_leg_61 : decode cX1_leg 61 = .ok (.iload 4, 2) := dk_21 4 (dk_at dksX1_leg_2 16 rfl rfl)
theorem dX1_leg_63 : decode cX1_leg 63 = .ok (.iaload, 1) := dk_46 (dk_at dksX1_leg_2 18 rfl rfl)
theorem dX1_leg_64 : decode cX1_leg 64 = .ok (.iconst (-1), 1) := dk_2 (dk_at dksX1_leg_2 19 rfl rfl)
theorem dX1_leg_65 : decode cX1_leg 65 = .ok (.if_icmp .eq 15, 3) := dk_159 0 15 (dk_at dksX1_leg_2 20 rfl rfl)
theorem dX1_leg_68 : decode cX1_leg 68 = .ok (.iload 5, 2) := dk_21 5 (dk_at dksX1_leg_3 0 rfl rfl)
theorem dX1_leg_70 : decode cX1_leg 70 = .ok (.aload_n 0, 1) := dk_42 (dk_at dksX1_leg_3 2 rfl rfl)
theorem dX1_leg_71 : decode cX1_leg 71 = .ok (.getfield 119, 3) := dk_180 0 119 (dk_at dksX1_leg_3 3 rfl rfl)
theorem dX1_leg_74 : decode cX1_leg 74 = .ok (.iload 4, 2) := dk_21 4 (dk_at dksX1_leg_3 6 rfl rfl)
theorem dX1_leg_76 : decode cX1_leg 76 = .ok (.iaload, 1) := dk_46 (dk_at dksX1_leg_3 8 rfl rfl)
theorem dX1_leg_77 : decode cX1_leg 77 = .ok (.if_icmp .ge 12, 3) := dk_162 0 12 (dk_at dksX1_leg_3 9 rfl rfl)
theorem dX1_leg_80 : decode cX1_leg 80 = .ok (.aload_n 0, 1) := dk_42 (dk_at dksX1_leg_3 12 rfl rfl)
theorem dX1_leg_81 : decode cX1_leg 81 = .ok (.getfield 119, 3) := dk_180 0 119 (dk_at dksX1_leg_3 13 rfl rfl)
theorem dX1_leg_84 : decode cX1_leg 84 = .ok (.iload 4, 2) := dk_21 4 (dk_at dksX1_leg_3 16 rfl rfl)
theorem dX1_leg_86 : decode cX1_leg 86 = .ok (.iload 5, 2) := dk_21 5 (dk_at dksX1_leg_3 18 rfl rfl)
theorem dX1_leg_88 : decode cX1_leg 88 = .ok (.iastore, 1) := dk_79 (dk_at dksX1_leg_3 20 rfl rfl)
theorem dX1_leg_89 : decode cX1_leg 89 = .ok (.iinc 4 1, 3) := dk_132 4 1 (dk_at dksX1_leg_3 21 rfl rfl)
theorem dX1_leg_92 : decode cX1_leg 92 = .ok (.goto (-89), 3) := dk_167 255 167 (dk_at dksX1_leg_4 0 rfl rfl)
theorem dX1_leg_95 : decode cX1_leg 95 = .ok (.return_, 1) := dk_177 (dk_at dksX1_leg_4 3 rfl rfl)
abbrev cX1_legHours : ByteArray := prog_1_method_35_code
def yX1_legHours : MethodName := ⟨RX1, "legHours", "(III)I"⟩
def dkwX1_legHours_1 : List UInt8 := [180, 0, 206, 108, 172]
abbrev dktX1_legHours_1 : List UInt8 := dkwX1_legHours_1 ++ []
def dkwX1_legHours_0 : List UInt8 := [28, 29, 100, 184, 1, 5, 42, 27, 182, 0, 193, 180, 0, 206, 96, 4, 100, 42, 27, 182, 0, 193]
abbrev dktX1_legHours_0 : List UInt8 := dkwX1_legHours_0 ++ dktX1_legHours_1
theorem dksX1_legHours_0 : cX1_legHours.data.toList.drop 0 = dktX1_legHours_0 := by decide +kernel
theorem dksX1_legHours_1 : cX1_legHours.data.toList.drop 22 = dktX1_legHours_1 := dk_seg dksX1_legHours_0 22 rfl rfl
theorem dX1_legHours_0 : decode cX1_legHours 0 = .ok (.iload_n 2, 1) := dk_28 (dk_at dksX1_legHours_0 0 rfl rfl)
theorem dX1_legHours_1 : decode cX1_legHours 1 = .ok (.iload_n 3, 1) := dk_29 (dk_at dksX1_legHours_0 1 rfl rfl)
theorem dX1_legHours_2 : decode cX1_legHours 2 = .ok (.isub, 1) := dk_100 (dk_at dksX1_legHours_0 2 rfl rfl)
theorem dX1_legHours_3 : decode cX1_legHours 3 = .ok (.invokestatic 261, 3) := dk_184 1 5 (dk_at dksX1_legHours_0 3 rfl rfl)
theorem dX1_legHours_6 : decode cX1_legHours 6 = .ok (.aload_n 0, 1) := dk_42 (dk_at dksX1_legHours_0 6 rfl rfl)
theorem dX1_legHours_7 : decode cX1_legHours 7 = .ok (.iload_n 1, 1) := dk_27 (dk_at dksX1_legHours_0 7 rfl rfl)
theorem dX1_legHours_8 : decode cX1_legHours 8 = .ok (.invokevirtual 193, 3) := dk_182 0 193 (dk_at dksX1_legHours_0 8 rfl rfl)
theorem dX1_legHours_11 : decode cX1_legHours 11 = .ok (.getfield 206, 3) := dk_180 0 206 (dk_at dksX1_legHours_0 11 rfl rfl)
theorem dX1_legHours_14 : decode cX1_legHours 14 = .ok (.iadd, 1) := dk_96 (dk_at dksX1_legHours_0 14 rfl rfl)
theorem dX1_legHours_15 : decode cX1_legHours 15 = .ok (.iconst 1, 1) := dk_4 (dk_at dksX1_legHours_0 15 rfl rfl)
theorem dX1_legHours_16 : decode cX1_legHours 16 = .ok (.isub, 1) := dk_100 (dk_at dksX1_legHours_0 16 rfl rfl)
theorem dX1_legHours_17 : decode cX1_legHours 17 = .ok (.aload_n 0, 1) := dk_42 (dk_at dksX1_legHours_0 17 rfl rfl)
theorem dX1_legHours_18 : decode cX1_legHours 18 = .ok (.iload_n 1, 1) := dk_27 (dk_at dksX1_legHours_0 18 rfl rfl)
theorem dX1_legHours_19 : decode cX1_legHours 19 = .ok (.invokevirtual 193, 3) := dk_182 0 193 (dk_at dksX1_legHours_0 19 rfl rfl)
theorem dX1_legHours_22 : decode cX1_legHours 22 = .ok (.getfield 206, 3) := dk_180 0 206 (dk_at dksX1_legHours_1 0 rfl rfl)
theorem dX1_legHours_25 : decode cX1_legHours 25 = .ok (.idiv, 1) := dk_108 (dk_at dksX1_legHours_1 3 rfl rfl)
theorem dX1_legHours_26 : decode cX1_legHours 26 = .ok (.ireturn, 1) := dk_172 (dk_at dksX1_legHours_1 4 rfl rfl)
abbrev cX1_reach : ByteArray := prog_1_method_39_code
def yX1_reach : MethodName := ⟨RX1, "reach", "(I)I"⟩
def dkwX1_reach_3 : List UInt8 := [2, 159, 0, 9, 4, 29, 120, 167, 0, 4, 3, 128, 61, 132, 3, 1, 167, 255, 225, 28, 172]
abbrev dktX1_reach_3 : List UInt8 := dkwX1_reach_3 ++ []
def dkwX1_reach_2 : List UInt8 := [27, 46, 182, 1, 63, 3, 61, 3, 62, 29, 42, 182, 0, 182, 162, 0, 29, 28, 42, 180, 0, 119, 29, 46]
abbrev dktX1_reach_2 : List UInt8 := dkwX1_reach_2 ++ dktX1_reach_3
def dkwX1_reach_1 : List UInt8 := [182, 0, 219, 153, 0, 26, 42, 27, 42, 180, 0, 101, 180, 0, 200, 27, 46, 42, 180, 0, 101, 180, 0, 203]
abbrev dktX1_reach_1 : List UInt8 := dkwX1_reach_1 ++ dktX1_reach_2
def dkwX1_reach_0 : List UInt8 := [42, 27, 182, 0, 186, 154, 0, 5, 2, 172, 42, 42, 180, 0, 119, 182, 1, 60, 42, 180, 0, 101, 27]
abbrev dktX1_reach_0 : List UInt8 := dkwX1_reach_0 ++ dktX1_reach_1
theorem dksX1_reach_0 : cX1_reach.data.toList.drop 0 = dktX1_reach_0 := by decide +kernel
theorem dksX1_reach_1 : cX1_reach.data.toList.drop 23 = dktX1_reach_1 := dk_seg dksX1_reach_0 23 rfl rfl
theorem dksX1_reach_2 : cX1_reach.data.toList.drop 47 = dktX1_reach_2 := dk_seg dksX1_reach_1 24 rfl rfl
theorem dksX1_reach_3 : cX1_reach.data.toList.drop 71 = dktX1_reach_3 := dk_seg dksX1_reach_2 24 rfl rfl
theorem dX1_reach_0 : decode cX1_reach 0 = .ok (.aload_n 0, 1) := dk_42 (dk_at dksX1_reach_0 0 rfl rfl)
theorem dX1_reach_1 : decode cX1_reach 1 = .ok (.iload_n 1, 1) := dk_27 (dk_at dksX1_reach_0 1 rfl rfl)
theorem dX1_reach_2 : decode cX1_reach 2 = .ok (.invokevirtual 186, 3) := dk_182 0 186 (dk_at dksX1_reach_0 2 rfl rfl)
theorem dX1_reach_5 : decode cX1_reach 5 = .ok (.ifCond .ne 5, 3) := dk_154 0 5 (dk_at dksX1_reach_0 5 rfl rfl)
theorem dX1_reach_8 : decode cX1_reach 8 = .ok (.iconst (-1), 1) := dk_2 (dk_at dksX1_reach_0 8 rfl rfl)
theorem dX1_reach_9 : decode cX1_reach 9 = .ok (.ireturn, 1) := dk_172 (dk_at dksX1_reach_0 9 rfl rfl)
theorem dX1_reach_10 : decode cX1_reach 10 = .ok (.aload_n 0, 1) := dk_42 (dk_at dksX1_reach_0 10 rfl rfl)
theorem dX1_reach_11 : decode cX1_reach 11 = .ok (.aload_n 0, 1) := dk_42 (dk_at dksX1_reach_0 11 rfl rfl)
theorem dX1_reach_12 : decode cX1_reach 12 = .ok (.getfield 119, 3) := dk_180 0 119 (dk_at dksX1_reach_0 12 rfl rfl)
theorem dX1_reach_15 : decode cX1_reach 15 = .ok (.invokevirtual 316, 3) := dk_182 1 60 (dk_at dksX1_reach_0 15 rfl rfl)
theorem dX1_reach_18 : decode cX1_reach 18 = .ok (.aload_n 0, 1) := dk_42 (dk_at dksX1_reach_0 18 rfl rfl)
theorem dX1_reach_19 : decode cX1_reach 19 = .ok (.getfield 101, 3) := dk_180 0 101 (dk_at dksX1_reach_0 19 rfl rfl)
theorem dX1_reach_22 : decode cX1_reach 22 = .ok (.iload_n 1, 1) := dk_27 (dk_at dksX1_reach_0 22 rfl rfl)
theorem dX1_reach_23 : decode cX1_reach 23 = .ok (.invokevirtual 219, 3) := dk_182 0 219 (dk_at dksX1_reach_1 0 rfl rfl)
theorem dX1_reach_26 : decode cX1_reach 26 = .ok (.ifCond .eq 26, 3) := dk_153 0 26 (dk_at dksX1_reach_1 3 rfl rfl)
theorem dX1_reach_29 : decode cX1_reach 29 = .ok (.aload_n 0, 1) := dk_42 (dk_at dksX1_reach_1 6 rfl rfl)
theorem dX1_reach_30 : decode cX1_reach 30 = .ok (.iload_n 1, 1) := dk_27 (dk_at dksX1_reach_1 7 rfl rfl)
theorem dX1_reach_31 : decode cX1_reach 31 = .ok (.aload_n 0, 1) := dk_42 (dk_at dksX1_reach_1 8 rfl rfl)
theorem dX1_reach_32 : decode cX1_reach 32 = .ok (.getfield 101, 3) := dk_180 0 101 (dk_at dksX1_reach_1 9 rfl rfl)
theorem dX1_reach_35 : decode cX1_reach 35 = .ok (.getfield 200, 3) := dk_180 0 200 (dk_at dksX1_reach_1 12 rfl rfl)
theorem dX1_reach_38 : decode cX1_reach 38 = .ok (.iload_n 1, 1) := dk_27 (dk_at dksX1_reach_1 15 rfl rfl)
theorem dX1_reach_39 : decode cX1_reach 39 = .ok (.iaload, 1) := dk_46 (dk_at dksX1_reach_1 16 rfl rfl)
theorem dX1_reach_40 : decode cX1_reach 40 = .ok (.aload_n 0, 1) := dk_42 (dk_at dksX1_reach_1 17 rfl rfl)
theorem dX1_reach_41 : decode cX1_reach 41 = .ok (.getfield 101, 3) := dk_180 0 101 (dk_at dksX1_reach_1 18 rfl rfl)
theorem dX1_reach_44 : decode cX1_reach 44 = .ok (.getfield 203, 3) := dk_180 0 203 (dk_at dksX1_reach_1 21 rfl rfl)
theorem dX1_reach_47 : decode cX1_reach 47 = .ok (.iload_n 1, 1) := dk_27 (dk_at dksX1_reach_2 0 rfl rfl)
theorem dX1_reach_48 : decode cX1_reach 48 = .ok (.iaload, 1) := dk_46 (dk_at dksX1_reach_2 1 rfl rfl)
theorem dX1_reach_49 : decode cX1_reach 49 = .ok (.invokevirtual 319, 3) := dk_182 1 63 (dk_at dksX1_reach_2 2 rfl rfl)
theorem dX1_reach_52 : decode cX1_reach 52 = .ok (.iconst 0, 1) := dk_3 (dk_at dksX1_reach_2 5 rfl rfl)
theorem dX1_reach_53 : decode cX1_reach 53 = .ok (.istore_n 2, 1) := dk_61 (dk_at dksX1_reach_2 6 rfl rfl)
theorem dX1_reach_54 : decode cX1_reach 54 = .ok (.iconst 0, 1) := dk_3 (dk_at dksX1_reach_2 7 rfl rfl)
theorem dX1_reach_55 : decode cX1_reach 55 = .ok (.istore_n 3, 1) := dk_62 (dk_at dksX1_reach_2 8 rfl rfl)
theorem dX1_reach_56 : decode cX1_reach 56 = .ok (.iload_n 3, 1) := dk_29 (dk_at dksX1_reach_2 9 rfl rfl)
theorem dX1_reach_57 : decode cX1_reach 57 = .ok (.aload_n 0, 1) := dk_42 (dk_at dksX1_reach_2 10 rfl rfl)
theorem dX1_reach_58 : decode cX1_reach 58 = .ok (.invokevirtual 182, 3) := dk_182 0 182 (dk_at dksX1_reach_2 11 rfl rfl)
theorem dX1_reach_61 : decode cX1_reach 61 = .ok (.if_icmp .ge 29, 3) := dk_162 0 29 (dk_at dksX1_reach_2 14 rfl rfl)
theorem dX1_reach_64 : decode cX1_reach 64 = .ok (.iload_n 2, 1) := dk_28 (dk_at dksX1_reach_2 17 rfl rfl)
theorem dX1_reach_65 : decode cX1_reach 65 = .ok (.aload_n 0, 1) := dk_42 (dk_at dksX1_reach_2 18 rfl rfl)
theorem dX1_reach_66 : decode cX1_reach 66 = .ok (.getfield 119, 3) := dk_180 0 119 (dk_at dksX1_reach_2 19 rfl rfl)
theorem dX1_reach_69 : decode cX1_reach 69 = .ok (.iload_n 3, 1) := dk_29 (dk_at dksX1_reach_2 22 rfl rfl)
theorem dX1_reach_70 : decode cX1_reach 70 = .ok (.iaload, 1) := dk_46 (dk_at dksX1_reach_2 23 rfl rfl)
theorem dX1_reach_71 : decode cX1_reach 71 = .ok (.iconst (-1), 1) := dk_2 (dk_at dksX1_reach_3 0 rfl rfl)
theorem dX1_reach_72 : decode cX1_reach 72 = .ok (.if_icmp .eq 9, 3) := dk_159 0 9 (dk_at dksX1_reach_3 1 rfl rfl)
theorem dX1_reach_75 : decode cX1_reach 75 = .ok (.iconst 1, 1) := dk_4 (dk_at dksX1_reach_3 4 rfl rfl)
theorem dX1_reach_76 : decode cX1_reach 76 = .ok (.iload_n 3, 1) := dk_29 (dk_at dksX1_reach_3 5 rfl rfl)
theorem dX1_reach_77 : decode cX1_reach 77 = .ok (.ishl, 1) := dk_120 (dk_at dksX1_reach_3 6 rfl rfl)
theorem dX1_reach_78 : decode cX1_reach 78 = .ok (.goto 4, 3) := dk_167 0 4 (dk_at dksX1_reach_3 7 rfl rfl)
theorem dX1_reach_81 : decode cX1_reach 81 = .ok (.iconst 0, 1) := dk_3 (dk_at dksX1_reach_3 10 rfl rfl)
theorem dX1_reach_82 : decode cX1_reach 82 = .ok (.ior, 1) := dk_128 (dk_at dksX1_reach_3 11 rfl rfl)
theorem dX1_reach_83 : decode cX1_reach 83 = .ok (.istore_n 2, 1) := dk_61 (dk_at dksX1_reach_3 12 rfl rfl)
theorem dX1_reach_84 : decode cX1_reach 84 = .ok (.iinc 3 1, 3) := dk_132 3 1 (dk_at dksX1_reach_3 13 rfl rfl)
theorem dX1_reach_87 : decode cX1_reach 87 = .ok (.goto (-31), 3) := dk_167 255 225 (dk_at dksX1_reach_3 16 rfl rfl)
theorem dX1_reach_90 : decode cX1_reach 90 = .ok (.iload_n 2, 1) := dk_28 (dk_at dksX1_reach_3 19 rfl rfl)
theorem dX1_reach_91 : decode cX1_reach 91 = .ok (.ireturn, 1) := dk_172 (dk_at dksX1_reach_3 20 rfl rfl)
abbrev cX1_cover : ByteArray := prog_1_method_41_code
def yX1_cover : MethodName := ⟨RX1, "cover", "(I)I"⟩
def dkwX1_cover_2 : List UInt8 := [42, 29, 27, 182, 1, 71, 153, 0, 5, 29, 61, 132, 3, 1, 167, 255, 215, 28, 172]
abbrev dktX1_cover_2 : List UInt8 := dkwX1_cover_2 ++ []
def dkwX1_cover_1 : List UInt8 := [182, 0, 182, 120, 162, 0, 37, 28, 16, 254, 159, 0, 14, 29, 184, 1, 39, 28, 184, 1, 39, 162, 0, 14]
abbrev dktX1_cover_1 : List UInt8 := dkwX1_cover_1 ++ dktX1_cover_2
def dkwX1_cover_0 : List UInt8 := [27, 133, 10, 20, 1, 51, 184, 0, 144, 154, 0, 5, 2, 172, 16, 254, 61, 3, 62, 29, 4, 42]
abbrev dktX1_cover_0 : List UInt8 := dkwX1_cover_0 ++ dktX1_cover_1
theorem dksX1_cover_0 : cX1_cover.data.toList.drop 0 = dktX1_cover_0 := by decide +kernel
theorem dksX1_cover_1 : cX1_cover.data.toList.drop 22 = dktX1_cover_1 := dk_seg dksX1_cover_0 22 rfl rfl
theorem dksX1_cover_2 : cX1_cover.data.toList.drop 46 = dktX1_cover_2 := dk_seg dksX1_cover_1 24 rfl rfl
theorem dX1_cover_0 : decode cX1_cover 0 = .ok (.iload_n 1, 1) := dk_27 (dk_at dksX1_cover_0 0 rfl rfl)
theorem dX1_cover_1 : decode cX1_cover 1 = .ok (.i2l, 1) := dk_133 (dk_at dksX1_cover_0 1 rfl rfl)
theorem dX1_cover_2 : decode cX1_cover 2 = .ok (.lconst 1, 1) := dk_10 (dk_at dksX1_cover_0 2 rfl rfl)
theorem dX1_cover_3 : decode cX1_cover 3 = .ok (.ldc2_w 307, 3) := dk_20 1 51 (dk_at dksX1_cover_0 3 rfl rfl)
theorem dX1_cover_6 : decode cX1_cover 6 = .ok (.invokestatic 144, 3) := dk_184 0 144 (dk_at dksX1_cover_0 6 rfl rfl)
theorem dX1_cover_9 : decode cX1_cover 9 = .ok (.ifCond .ne 5, 3) := dk_154 0 5 (dk_at dksX1_cover_0 9 rfl rfl)
theorem dX1_cover_12 : decode cX1_cover 12 = .ok (.iconst (-1), 1) := dk_2 (dk_at dksX1_cover_0 12 rfl rfl)
theorem dX1_cover_13 : decode cX1_cover 13 = .ok (.ireturn, 1) := dk_172 (dk_at dksX1_cover_0 13 rfl rfl)
theorem dX1_cover_14 : decode cX1_cover 14 = .ok (.bipush (-2), 2) := dk_16 254 (dk_at dksX1_cover_0 14 rfl rfl)
theorem dX1_cover_16 : decode cX1_cover 16 = .ok (.istore_n 2, 1) := dk_61 (dk_at dksX1_cover_0 16 rfl rfl)
theorem dX1_cover_17 : decode cX1_cover 17 = .ok (.iconst 0, 1) := dk_3 (dk_at dksX1_cover_0 17 rfl rfl)
theorem dX1_cover_18 : decode cX1_cover 18 = .ok (.istore_n 3, 1) := dk_62 (dk_at dksX1_cover_0 18 rfl rfl)
theorem dX1_cover_19 : decode cX1_cover 19 = .ok (.iload_n 3, 1) := dk_29 (dk_at dksX1_cover_0 19 rfl rfl)
theorem dX1_cover_20 : decode cX1_cover 20 = .ok (.iconst 1, 1) := dk_4 (dk_at dksX1_cover_0 20 rfl rfl)
theorem dX1_cover_21 : decode cX1_cover 21 = .ok (.aload_n 0, 1) := dk_42 (dk_at dksX1_cover_0 21 rfl rfl)
theorem dX1_cover_22 : decode cX1_cover 22 = .ok (.invokevirtual 182, 3) := dk_182 0 182 (dk_at dksX1_cover_1 0 rfl rfl)
theorem dX1_cover_25 : decode cX1_cover 25 = .ok (.ishl, 1) := dk_120 (dk_at dksX1_cover_1 3 rfl rfl)
theorem dX1_cover_26 : decode cX1_cover 26 = .ok (.if_icmp .ge 37, 3) := dk_162 0 37 (dk_at dksX1_cover_1 4 rfl rfl)
theorem dX1_cover_29 : decode cX1_cover 29 = .ok (.iload_n 2, 1) := dk_28 (dk_at dksX1_cover_1 7 rfl rfl)
theorem dX1_cover_30 : decode cX1_cover 30 = .ok (.bipush (-2), 2) := dk_16 254 (dk_at dksX1_cover_1 8 rfl rfl)
theorem dX1_cover_32 : decode cX1_cover 32 = .ok (.if_icmp .eq 14, 3) := dk_159 0 14 (dk_at dksX1_cover_1 10 rfl rfl)
theorem dX1_cover_35 : decode cX1_cover 35 = .ok (.iload_n 3, 1) := dk_29 (dk_at dksX1_cover_1 13 rfl rfl)
theorem dX1_cover_36 : decode cX1_cover 36 = .ok (.invokestatic 295, 3) := dk_184 1 39 (dk_at dksX1_cover_1 14 rfl rfl)
theorem dX1_cover_39 : decode cX1_cover 39 = .ok (.iload_n 2, 1) := dk_28 (dk_at dksX1_cover_1 17 rfl rfl)
theorem dX1_cover_40 : decode cX1_cover 40 = .ok (.invokestatic 295, 3) := dk_184 1 39 (dk_at dksX1_cover_1 18 rfl rfl)
theorem dX1_cover_43 : decode cX1_cover 43 = .ok (.if_icmp .ge 14, 3) := dk_162 0 14 (dk_at dksX1_cover_1 21 rfl rfl)
theorem dX1_cover_46 : decode cX1_cover 46 = .ok (.aload_n 0, 1) := dk_42 (dk_at dksX1_cover_2 0 rfl rfl)
theorem dX1_cover_47 : decode cX1_cover 47 = .ok (.iload_n 3, 1) := dk_29 (dk_at dksX1_cover_2 1 rfl rfl)
theorem dX1_cover_48 : decode cX1_cover 48 = .ok (.iload_n 1, 1) := dk_27 (dk_at dksX1_cover_2 2 rfl rfl)
theorem dX1_cover_49 : decode cX1_cover 49 = .ok (.invokevirtual 327, 3) := dk_182 1 71 (dk_at dksX1_cover_2 3 rfl rfl)
theorem dX1_cover_52 : decode cX1_cover 52 = .ok (.ifCond .eq 5, 3) := dk_153 0 5 (dk_at dksX1_cover_2 6 rfl rfl)
theorem dX1_cover_55 : decode cX1_cover 55 = .ok (.iload_n 3, 1) := dk_29 (dk_at dksX1_cover_2 9 rfl rfl)
theorem dX1_cover_56 : decode cX1_cover 56 = .ok (.istore_n 2, 1) := dk_61 (dk_at dksX1_cover_2 10 rfl rfl)
theorem dX1_cover_57 : decode cX1_cover 57 = .ok (.iinc 3 1, 3) := dk_132 3 1 (dk_at dksX1_cover_2 11 rfl rfl)
theorem dX1_cover_60 : decode cX1_cover 60 = .ok (.goto (-41), 3) := dk_167 255 215 (dk_at dksX1_cover_2 14 rfl rfl)
theorem dX1_cover_63 : decode cX1_cover 63 = .ok (.iload_n 2, 1) := dk_28 (dk_at dksX1_cover_2 17 rfl rfl)
theorem dX1_cover_64 : decode cX1_cover 64 = .ok (.ireturn, 1) := dk_172 (dk_at dksX1_cover_2 18 rfl rfl)
abbrev cX1_doCover : ByteArray := prog_1_method_40_code
def yX1_doCover : MethodName := ⟨RX1, "doCover", "(II)Z"⟩
def dkwX1_doCover_3 : List UInt8 := [172, 21, 4, 62, 132, 4, 1, 167, 255, 184, 4, 172]
abbrev dktX1_doCover_3 : List UInt8 := dkwX1_doCover_3 ++ []
def dkwX1_doCover_2 : List UInt8 := [159, 0, 28, 27, 21, 5, 122, 4, 126, 154, 0, 6, 167, 0, 16, 21, 4, 29, 100, 28, 164, 0, 5, 3]
abbrev dktX1_doCover_2 : List UInt8 := dkwX1_doCover_2 ++ dktX1_doCover_3
def dkwX1_doCover_1 : List UInt8 := [21, 4, 184, 1, 67, 54, 5, 21, 4, 42, 180, 0, 13, 180, 1, 13, 159, 0, 21, 21, 5, 2]
abbrev dktX1_doCover_1 : List UInt8 := dkwX1_doCover_1 ++ dktX1_doCover_2
def dkwX1_doCover_0 : List UInt8 := [3, 62, 3, 54, 4, 21, 4, 42, 180, 0, 13, 180, 1, 13, 163, 0, 66, 42, 180, 0, 13, 180, 0, 17]
abbrev dktX1_doCover_0 : List UInt8 := dkwX1_doCover_0 ++ dktX1_doCover_1
theorem dksX1_doCover_0 : cX1_doCover.data.toList.drop 0 = dktX1_doCover_0 := by decide +kernel
theorem dksX1_doCover_1 : cX1_doCover.data.toList.drop 24 = dktX1_doCover_1 := dk_seg dksX1_doCover_0 24 rfl rfl
theorem dksX1_doCover_2 : cX1_doCover.data.toList.drop 46 = dktX1_doCover_2 := dk_seg dksX1_doCover_1 22 rfl rfl
theorem dksX1_doCover_3 : cX1_doCover.data.toList.drop 70 = dktX1_doCover_3 := dk_seg dksX1_doCover_2 24 rfl rfl
theorem dX1_doCover_0 : decode cX1_doCover 0 = .ok (.iconst 0, 1) := dk_3 (dk_at dksX1_doCover_0 0 rfl rfl)
theorem dX1_doCover_1 : decode cX1_doCover 1 = .ok (.istore_n 3, 1) := dk_62 (dk_at dksX1_doCover_0 1 rfl rfl)
theorem dX1_doCover_2 : decode cX1_doCover 2 = .ok (.iconst 0, 1) := dk_3 (dk_at dksX1_doCover_0 2 rfl rfl)
theorem dX1_doCover_3 : decode cX1_doCover 3 = .ok (.istore 4, 2) := dk_54 4 (dk_at dksX1_doCover_0 3 rfl rfl)
theorem dX1_doCover_5 : decode cX1_doCover 5 = .ok (.iload 4, 2) := dk_21 4 (dk_at dksX1_doCover_0 5 rfl rfl)
theorem dX1_doCover_7 : decode cX1_doCover 7 = .ok (.aload_n 0, 1) := dk_42 (dk_at dksX1_doCover_0 7 rfl rfl)
theorem dX1_doCover_8 : decode cX1_doCover 8 = .ok (.getfield 13, 3) := dk_180 0 13 (dk_at dksX1_doCover_0 8 rfl rfl)
theorem dX1_doCover_11 : decode cX1_doCover 11 = .ok (.getfield 269, 3) := dk_180 1 13 (dk_at dksX1_doCover_0 11 rfl rfl)
theorem dX1_doCover_14 : decode cX1_doCover 14 = .ok (.if_icmp .gt 66, 3) := dk_163 0 66 (dk_at dksX1_doCover_0 14 rfl rfl)
theorem dX1_doCover_17 : decode cX1_doCover 17 = .ok (.aload_n 0, 1) := dk_42 (dk_at dksX1_doCover_0 17 rfl rfl)
theorem dX1_doCover_18 : decode cX1_doCover 18 = .ok (.getfield 13, 3) := dk_180 0 13 (dk_at dksX1_doCover_0 18 rfl rfl)
theorem dX1_doCover_21 : decode cX1_doCover 21 = .ok (.getfield 17, 3) := dk_180 0 17 (dk_at dksX1_doCover_0 21 rfl rfl)
theorem dX1_doCover_24 : decode cX1_doCover 24 = .ok (.iload 4, 2) := dk_21 4 (dk_at dksX1_doCover_1 0 rfl rfl)
theorem dX1_doCover_26 : decode cX1_doCover 26 = .ok (.invokestatic 323, 3) := dk_184 1 67 (dk_at dksX1_doCover_1 2 rfl rfl)
theorem dX1_doCover_29 : decode cX1_doCover 29 = .ok (.istore 5, 2) := dk_54 5 (dk_at dksX1_doCover_1 5 rfl rfl)
theorem dX1_doCover_31 : decode cX1_doCover 31 = .ok (.iload 4, 2) := dk_21 4 (dk_at dksX1_doCover_1 7 rfl rfl)
theorem dX1_doCover_33 : decode cX1_doCover 33 = .ok (.aload_n 0, 1) := dk_42 (dk_at dksX1_doCover_1 9 rfl rfl)
theorem dX1_doCover_34 : decode cX1_doCover 34 = .ok (.getfield 13, 3) := dk_180 0 13 (dk_at dksX1_doCover_1 10 rfl rfl)
theorem dX1_doCover_37 : decode cX1_doCover 37 = .ok (.getfield 269, 3) := dk_180 1 13 (dk_at dksX1_doCover_1 13 rfl rfl)
theorem dX1_doCover_40 : decode cX1_doCover 40 = .ok (.if_icmp .eq 21, 3) := dk_159 0 21 (dk_at dksX1_doCover_1 16 rfl rfl)
theorem dX1_doCover_43 : decode cX1_doCover 43 = .ok (.iload 5, 2) := dk_21 5 (dk_at dksX1_doCover_1 19 rfl rfl)
theorem dX1_doCover_45 : decode cX1_doCover 45 = .ok (.iconst (-1), 1) := dk_2 (dk_at dksX1_doCover_1 21 rfl rfl)
theorem dX1_doCover_46 : decode cX1_doCover 46 = .ok (.if_icmp .eq 28, 3) := dk_159 0 28 (dk_at dksX1_doCover_2 0 rfl rfl)
theorem dX1_doCover_49 : decode cX1_doCover 49 = .ok (.iload_n 1, 1) := dk_27 (dk_at dksX1_doCover_2 3 rfl rfl)
theorem dX1_doCover_50 : decode cX1_doCover 50 = .ok (.iload 5, 2) := dk_21 5 (dk_at dksX1_doCover_2 4 rfl rfl)
theorem dX1_doCover_52 : decode cX1_doCover 52 = .ok (.ishr, 1) := dk_122 (dk_at dksX1_doCover_2 6 rfl rfl)
theorem dX1_doCover_53 : decode cX1_doCover 53 = .ok (.iconst 1, 1) := dk_4 (dk_at dksX1_doCover_2 7 rfl rfl)
theorem dX1_doCover_54 : decode cX1_doCover 54 = .ok (.iand, 1) := dk_126 (dk_at dksX1_doCover_2 8 rfl rfl)
theorem dX1_doCover_55 : decode cX1_doCover 55 = .ok (.ifCond .ne 6, 3) := dk_154 0 6 (dk_at dksX1_doCover_2 9 rfl rfl)
theorem dX1_doCover_58 : decode cX1_doCover 58 = .ok (.goto 16, 3) := dk_167 0 16 (dk_at dksX1_doCover_2 12 rfl rfl)
theorem dX1_doCover_61 : decode cX1_doCover 61 = .ok (.iload 4, 2) := dk_21 4 (dk_at dksX1_doCover_2 15 rfl rfl)
theorem dX1_doCover_63 : decode cX1_doCover 63 = .ok (.iload_n 3, 1) := dk_29 (dk_at dksX1_doCover_2 17 rfl rfl)
theorem dX1_doCover_64 : decode cX1_doCover 64 = .ok (.isub, 1) := dk_100 (dk_at dksX1_doCover_2 18 rfl rfl)
theorem dX1_doCover_65 : decode cX1_doCover 65 = .ok (.iload_n 2, 1) := dk_28 (dk_at dksX1_doCover_2 19 rfl rfl)
theorem dX1_doCover_66 : decode cX1_doCover 66 = .ok (.if_icmp .le 5, 3) := dk_164 0 5 (dk_at dksX1_doCover_2 20 rfl rfl)
theorem dX1_doCover_69 : decode cX1_doCover 69 = .ok (.iconst 0, 1) := dk_3 (dk_at dksX1_doCover_2 23 rfl rfl)
theorem dX1_doCover_70 : decode cX1_doCover 70 = .ok (.ireturn, 1) := dk_172 (dk_at dksX1_doCover_3 0 rfl rfl)
theorem dX1_doCover_71 : decode cX1_doCover 71 = .ok (.iload 4, 2) := dk_21 4 (dk_at dksX1_doCover_3 1 rfl rfl)
theorem dX1_doCover_73 : decode cX1_doCover 73 = .ok (.istore_n 3, 1) := dk_62 (dk_at dksX1_doCover_3 3 rfl rfl)
theorem dX1_doCover_74 : decode cX1_doCover 74 = .ok (.iinc 4 1, 3) := dk_132 4 1 (dk_at dksX1_doCover_3 4 rfl rfl)
theorem dX1_doCover_77 : decode cX1_doCover 77 = .ok (.goto (-72), 3) := dk_167 255 184 (dk_at dksX1_doCover_3 7 rfl rfl)
theorem dX1_doCover_80 : decode cX1_doCover 80 = .ok (.iconst 1, 1) := dk_4 (dk_at dksX1_doCover_3 10 rfl rfl)
theorem dX1_doCover_81 : decode cX1_doCover 81 = .ok (.ireturn, 1) := dk_172 (dk_at dksX1_doCover_3 11 rfl rfl)
abbrev cX1_round : ByteArray := prog_1_method_42_code
def yX1_round : MethodName := ⟨RX1, "round", "(I)I"⟩
def dkwX1_round_4 : List UInt8 := [184, 1, 5, 184, 1, 10, 96, 172]
abbrev dktX1_round_4 : List UInt8 := dkwX1_round_4 ++ []
def dkwX1_round_3 : List UInt8 := [184, 1, 74, 62, 132, 5, 1, 167, 255, 216, 29, 28, 100, 21, 4, 28, 100, 184, 1, 5, 21, 4, 29, 100]
abbrev dktX1_round_3 : List UInt8 := dkwX1_round_3 ++ dktX1_round_4
def dkwX1_round_2 : List UInt8 := [42, 21, 5, 182, 0, 228, 180, 0, 232, 184, 1, 10, 61, 29, 42, 21, 5, 182, 0, 228, 180, 0, 232]
abbrev dktX1_round_2 : List UInt8 := dkwX1_round_2 ++ dktX1_round_3
def dkwX1_round_1 : List UInt8 := [42, 180, 0, 101, 180, 0, 200, 27, 46, 54, 4, 3, 54, 5, 21, 5, 42, 182, 0, 182, 162, 0, 37, 28]
abbrev dktX1_round_1 : List UInt8 := dkwX1_round_1 ++ dktX1_round_2
def dkwX1_round_0 : List UInt8 := [42, 27, 182, 0, 186, 154, 0, 5, 2, 172, 42, 182, 0, 182, 154, 0, 5, 3, 172, 16, 60, 61, 3, 62]
abbrev dktX1_round_0 : List UInt8 := dkwX1_round_0 ++ dktX1_round_1
theorem dksX1_round_0 : cX1_round.data.toList.drop 0 = dktX1_round_0 := by decide +kernel
theorem dksX1_round_1 : cX1_round.data.toList.drop 24 = dktX1_round_1 := dk_seg dksX1_round_0 24 rfl rfl
theorem dksX1_round_2 : cX1_round.data.toList.drop 48 = dktX1_round_2 := dk_seg dksX1_round_1 24 rfl rfl
theorem dksX1_round_3 : cX1_round.data.toList.drop 71 = dktX1_round_3 := dk_seg dksX1_round_2 23 rfl rfl
theorem dksX1_round_4 : cX1_round.data.toList.drop 95 = dktX1_round_4 := dk_seg dksX1_round_3 24 rfl rfl
theorem dX1_round_0 : decode cX1_round 0 = .ok (.aload_n 0, 1) := dk_42 (dk_at dksX1_round_0 0 rfl rfl)
theorem dX1_round_1 : decode cX1_round 1 = .ok (.iload_n 1, 1) := dk_27 (dk_at dksX1_round_0 1 rfl rfl)
theorem dX1_round_2 : decode cX1_round 2 = .ok (.invokevirtual 186, 3) := dk_182 0 186 (dk_at dksX1_round_0 2 rfl rfl)
theorem dX1_round_5 : decode cX1_round 5 = .ok (.ifCond .ne 5, 3) := dk_154 0 5 (dk_at dksX1_round_0 5 rfl rfl)
theorem dX1_round_8 : decode cX1_round 8 = .ok (.iconst (-1), 1) := dk_2 (dk_at dksX1_round_0 8 rfl rfl)
theorem dX1_round_9 : decode cX1_round 9 = .ok (.ireturn, 1) := dk_172 (dk_at dksX1_round_0 9 rfl rfl)
theorem dX1_round_10 : decode cX1_round 10 = .ok (.aload_n 0, 1) := dk_42 (dk_at dksX1_round_0 10 rfl rfl)
theorem dX1_round_11 : decode cX1_round 11 = .ok (.invokevirtual 182, 3) := dk_182 0 182 (dk_at dksX1_round_0 11 rfl rfl)
theorem dX1_round_14 : decode cX1_round 14 = .ok (.ifCond .ne 5, 3) := dk_154 0 5 (dk_at dksX1_round_0 14 rfl rfl)
theorem dX1_round_17 : decode cX1_round 17 = .ok (.iconst 0, 1) := dk_3 (dk_at dksX1_round_0 17 rfl rfl)
theorem dX1_round_18 : decode cX1_round 18 = .ok (.ireturn, 1) := dk_172 (dk_at dksX1_round_0 18 rfl rfl)
theorem dX1_round_19 : decode cX1_round 19 = .ok (.bipush 60, 2) := dk_16 60 (dk_at dksX1_round_0 19 rfl rfl)
theorem dX1_round_21 : decode cX1_round 21 = .ok (.istore_n 2, 1) := dk_61 (dk_at dksX1_round_0 21 rfl rfl)
theorem dX1_round_22 : decode cX1_round 22 = .ok (.iconst 0, 1) := dk_3 (dk_at dksX1_round_0 22 rfl rfl)
theorem dX1_round_23 : decode cX1_round 23 = .ok (.istore_n 3, 1) := dk_62 (dk_at dksX1_round_0 23 rfl rfl)
theorem dX1_round_24 : decode cX1_round 24 = .ok (.aload_n 0, 1) := dk_42 (dk_at dksX1_round_1 0 rfl rfl)
theorem dX1_round_25 : decode cX1_round 25 = .ok (.getfield 101, 3) := dk_180 0 101 (dk_at dksX1_round_1 1 rfl rfl)
theorem dX1_round_28 : decode cX1_round 28 = .ok (.getfield 200, 3) := dk_180 0 200 (dk_at dksX1_round_1 4 rfl rfl)
theorem dX1_round_31 : decode cX1_round 31 = .ok (.iload_n 1, 1) := dk_27 (dk_at dksX1_round_1 7 rfl rfl)
theorem dX1_round_32 : decode cX1_round 32 = .ok (.iaload, 1) := dk_46 (dk_at dksX1_round_1 8 rfl rfl)
theorem dX1_round_33 : decode cX1_round 33 = .ok (.istore 4, 2) := dk_54 4 (dk_at dksX1_round_1 9 rfl rfl)
theorem dX1_round_35 : decode cX1_round 35 = .ok (.iconst 0, 1) := dk_3 (dk_at dksX1_round_1 11 rfl rfl)
theorem dX1_round_36 : decode cX1_round 36 = .ok (.istore 5, 2) := dk_54 5 (dk_at dksX1_round_1 12 rfl rfl)
theorem dX1_round_38 : decode cX1_round 38 = .ok (.iload 5, 2) := dk_21 5 (dk_at dksX1_round_1 14 rfl rfl)
theorem dX1_round_40 : decode cX1_round 40 = .ok (.aload_n 0, 1) := dk_42 (dk_at dksX1_round_1 16 rfl rfl)
theorem dX1_round_41 : decode cX1_round 41 = .ok (.invokevirtual 182, 3) := dk_182 0 182 (dk_at dksX1_round_1 17 rfl rfl)
theorem dX1_round_44 : decode cX1_round 44 = .ok (.if_icmp .ge 37, 3) := dk_162 0 37 (dk_at dksX1_round_1 20 rfl rfl)
theorem dX1_round_47 : decode cX1_round 47 = .ok (.iload_n 2, 1) := dk_28 (dk_at dksX1_round_1 23 rfl rfl)
theorem dX1_round_48 : decode cX1_round 48 = .ok (.aload_n 0, 1) := dk_42 (dk_at dksX1_round_2 0 rfl rfl)
theorem dX1_round_49 : decode cX1_round 49 = .ok (.iload 5, 2) := dk_21 5 (dk_at dksX1_round_2 1 rfl rfl)
theorem dX1_round_51 : decode cX1_round 51 = .ok (.invokevirtual 228, 3) := dk_182 0 228 (dk_at dksX1_round_2 3 rfl rfl)
theorem dX1_round_54 : decode cX1_round 54 = .ok (.getfield 232, 3) := dk_180 0 232 (dk_at dksX1_round_2 6 rfl rfl)
theorem dX1_round_57 : decode cX1_round 57 = .ok (.invokestatic 266, 3) := dk_184 1 10 (dk_at dksX1_round_2 9 rfl rfl)
theorem dX1_round_60 : decode cX1_round 60 = .ok (.istore_n 2, 1) := dk_61 (dk_at dksX1_round_2 12 rfl rfl)
theorem dX1_round_61 : decode cX1_round 61 = .ok (.iload_n 3, 1) := dk_29 (dk_at dksX1_round_2 13 rfl rfl)
theorem dX1_round_62 : decode cX1_round 62 = .ok (.aload_n 0, 1) := dk_42 (dk_at dksX1_round_2 14 rfl rfl)
theorem dX1_round_63 : decode cX1_round 63 = .ok (.iload 5, 2) := dk_21 5 (dk_at dksX1_round_2 15 rfl rfl)
theorem dX1_round_65 : decode cX1_round 65 = .ok (.invokevirtual 228, 3) := dk_182 0 228 (dk_at dksX1_round_2 17 rfl rfl)
theorem dX1_round_68 : decode cX1_round 68 = .ok (.getfield 232, 3) := dk_180 0 232 (dk_at dksX1_round_2 20 rfl rfl)
theorem dX1_round_71 : decode cX1_round 71 = .ok (.invokestatic 330, 3) := dk_184 1 74 (dk_at dksX1_round_3 0 rfl rfl)
theorem dX1_round_74 : decode cX1_round 74 = .ok (.istore_n 3, 1) := dk_62 (dk_at dksX1_round_3 3 rfl rfl)
theorem dX1_round_75 : decode cX1_round 75 = .ok (.iinc 5 1, 3) := dk_132 5 1 (dk_at dksX1_round_3 4 rfl rfl)
theorem dX1_round_78 : decode cX1_round 78 = .ok (.goto (-40), 3) := dk_167 255 216 (dk_at dksX1_round_3 7 rfl rfl)
theorem dX1_round_81 : decode cX1_round 81 = .ok (.iload_n 3, 1) := dk_29 (dk_at dksX1_round_3 10 rfl rfl)
theorem dX1_round_82 : decode cX1_round 82 = .ok (.iload_n 2, 1) := dk_28 (dk_at dksX1_round_3 11 rfl rfl)
theorem dX1_round_83 : decode cX1_round 83 = .ok (.isub, 1) := dk_100 (dk_at dksX1_round_3 12 rfl rfl)
theorem dX1_round_84 : decode cX1_round 84 = .ok (.iload 4, 2) := dk_21 4 (dk_at dksX1_round_3 13 rfl rfl)
theorem dX1_round_86 : decode cX1_round 86 = .ok (.iload_n 2, 1) := dk_28 (dk_at dksX1_round_3 15 rfl rfl)
theorem dX1_round_87 : decode cX1_round 87 = .ok (.isub, 1) := dk_100 (dk_at dksX1_round_3 16 rfl rfl)
theorem dX1_round_88 : decode cX1_round 88 = .ok (.invokestatic 261, 3) := dk_184 1 5 (dk_at dksX1_round_3 17 rfl rfl)
theorem dX1_round_91 : decode cX1_round 91 = .ok (.iload 4, 2) := dk_21 4 (dk_at dksX1_round_3 20 rfl rfl)
theorem dX1_round_93 : decode cX1_round 93 = .ok (.iload_n 3, 1) := dk_29 (dk_at dksX1_round_3 22 rfl rfl)
theorem dX1_round_94 : decode cX1_round 94 = .ok (.isub, 1) := dk_100 (dk_at dksX1_round_3 23 rfl rfl)
theorem dX1_round_95 : decode cX1_round 95 = .ok (.invokestatic 261, 3) := dk_184 1 5 (dk_at dksX1_round_4 0 rfl rfl)
theorem dX1_round_98 : decode cX1_round 98 = .ok (.invokestatic 266, 3) := dk_184 1 10 (dk_at dksX1_round_4 3 rfl rfl)
theorem dX1_round_101 : decode cX1_round 101 = .ok (.iadd, 1) := dk_96 (dk_at dksX1_round_4 6 rfl rfl)
theorem dX1_round_102 : decode cX1_round 102 = .ok (.ireturn, 1) := dk_172 (dk_at dksX1_round_4 7 rfl rfl)
abbrev cX1_gather : ByteArray := prog_1_method_44_code
def yX1_gather : MethodName := ⟨RX1, "gather", "(I)I"⟩
def dkwX1_gather_3 : List UInt8 := [167, 0, 8, 42, 28, 182, 1, 76, 172]
abbrev dktX1_gather_3 : List UInt8 := dkwX1_gather_3 ++ []
def dkwX1_gather_2 : List UInt8 := [182, 1, 76, 42, 28, 182, 1, 76, 162, 0, 5, 29, 61, 132, 3, 1, 167, 255, 230, 27, 154, 0, 7, 28]
abbrev dktX1_gather_2 : List UInt8 := dkwX1_gather_2 ++ dktX1_gather_3
def dkwX1_gather_1 : List UInt8 := [180, 1, 36, 154, 0, 6, 16, 254, 172, 3, 61, 4, 62, 29, 42, 182, 0, 182, 162, 0, 24, 42, 29]
abbrev dktX1_gather_1 : List UInt8 := dkwX1_gather_1 ++ dktX1_gather_2
def dkwX1_gather_0 : List UInt8 := [27, 133, 9, 10, 184, 0, 144, 154, 0, 5, 2, 172, 42, 182, 0, 182, 153, 0, 13, 42, 180, 0, 101]
abbrev dktX1_gather_0 : List UInt8 := dkwX1_gather_0 ++ dktX1_gather_1
theorem dksX1_gather_0 : cX1_gather.data.toList.drop 0 = dktX1_gather_0 := by decide +kernel
theorem dksX1_gather_1 : cX1_gather.data.toList.drop 23 = dktX1_gather_1 := dk_seg dksX1_gather_0 23 rfl rfl
theorem dksX1_gather_2 : cX1_gather.data.toList.drop 46 = dktX1_gather_2 := dk_seg dksX1_gather_1 23 rfl rfl
theorem dksX1_gather_3 : cX1_gather.data.toList.drop 70 = dktX1_gather_3 := dk_seg dksX1_gather_2 24 rfl rfl
theorem dX1_gather_0 : decode cX1_gather 0 = .ok (.iload_n 1, 1) := dk_27 (dk_at dksX1_gather_0 0 rfl rfl)
theorem dX1_gather_1 : decode cX1_gather 1 = .ok (.i2l, 1) := dk_133 (dk_at dksX1_gather_0 1 rfl rfl)
theorem dX1_gather_2 : decode cX1_gather 2 = .ok (.lconst 0, 1) := dk_9 (dk_at dksX1_gather_0 2 rfl rfl)
theorem dX1_gather_3 : decode cX1_gather 3 = .ok (.lconst 1, 1) := dk_10 (dk_at dksX1_gather_0 3 rfl rfl)
theorem dX1_gather_4 : decode cX1_gather 4 = .ok (.invokestatic 144, 3) := dk_184 0 144 (dk_at dksX1_gather_0 4 rfl rfl)
theorem dX1_gather_7 : decode cX1_gather 7 = .ok (.ifCond .ne 5, 3) := dk_154 0 5 (dk_at dksX1_gather_0 7 rfl rfl)
theorem dX1_gather_10 : decode cX1_gather 10 = .ok (.iconst (-1), 1) := dk_2 (dk_at dksX1_gather_0 10 rfl rfl)
theorem dX1_gather_11 : decode cX1_gather 11 = .ok (.ireturn, 1) := dk_172 (dk_at dksX1_gather_0 11 rfl rfl)
theorem dX1_gather_12 : decode cX1_gather 12 = .ok (.aload_n 0, 1) := dk_42 (dk_at dksX1_gather_0 12 rfl rfl)
theorem dX1_gather_13 : decode cX1_gather 13 = .ok (.invokevirtual 182, 3) := dk_182 0 182 (dk_at dksX1_gather_0 13 rfl rfl)
theorem dX1_gather_16 : decode cX1_gather 16 = .ok (.ifCond .eq 13, 3) := dk_153 0 13 (dk_at dksX1_gather_0 16 rfl rfl)
theorem dX1_gather_19 : decode cX1_gather 19 = .ok (.aload_n 0, 1) := dk_42 (dk_at dksX1_gather_0 19 rfl rfl)
theorem dX1_gather_20 : decode cX1_gather 20 = .ok (.getfield 101, 3) := dk_180 0 101 (dk_at dksX1_gather_0 20 rfl rfl)
theorem dX1_gather_23 : decode cX1_gather 23 = .ok (.getfield 292, 3) := dk_180 1 36 (dk_at dksX1_gather_1 0 rfl rfl)
theorem dX1_gather_26 : decode cX1_gather 26 = .ok (.ifCond .ne 6, 3) := dk_154 0 6 (dk_at dksX1_gather_1 3 rfl rfl)
theorem dX1_gather_29 : decode cX1_gather 29 = .ok (.bipush (-2), 2) := dk_16 254 (dk_at dksX1_gather_1 6 rfl rfl)
theorem dX1_gather_31 : decode cX1_gather 31 = .ok (.ireturn, 1) := dk_172 (dk_at dksX1_gather_1 8 rfl rfl)
theorem dX1_gather_32 : decode cX1_gather 32 = .ok (.iconst 0, 1) := dk_3 (dk_at dksX1_gather_1 9 rfl rfl)
theorem dX1_gather_33 : decode cX1_gather 33 = .ok (.istore_n 2, 1) := dk_61 (dk_at dksX1_gather_1 10 rfl rfl)
theorem dX1_gather_34 : decode cX1_gather 34 = .ok (.iconst 1, 1) := dk_4 (dk_at dksX1_gather_1 11 rfl rfl)
theorem dX1_gather_35 : decode cX1_gather 35 = .ok (.istore_n 3, 1) := dk_62 (dk_at dksX1_gather_1 12 rfl rfl)
theorem dX1_gather_36 : decode cX1_gather 36 = .ok (.iload_n 3, 1) := dk_29 (dk_at dksX1_gather_1 13 rfl rfl)
theorem dX1_gather_37 : decode cX1_gather 37 = .ok (.aload_n 0, 1) := dk_42 (dk_at dksX1_gather_1 14 rfl rfl)
theorem dX1_gather_38 : decode cX1_gather 38 = .ok (.invokevirtual 182, 3) := dk_182 0 182 (dk_at dksX1_gather_1 15 rfl rfl)
theorem dX1_gather_41 : decode cX1_gather 41 = .ok (.if_icmp .ge 24, 3) := dk_162 0 24 (dk_at dksX1_gather_1 18 rfl rfl)
theorem dX1_gather_44 : decode cX1_gather 44 = .ok (.aload_n 0, 1) := dk_42 (dk_at dksX1_gather_1 21 rfl rfl)
theorem dX1_gather_45 : decode cX1_gather 45 = .ok (.iload_n 3, 1) := dk_29 (dk_at dksX1_gather_1 22 rfl rfl)
theorem dX1_gather_46 : decode cX1_gather 46 = .ok (.invokevirtual 332, 3) := dk_182 1 76 (dk_at dksX1_gather_2 0 rfl rfl)
theorem dX1_gather_49 : decode cX1_gather 49 = .ok (.aload_n 0, 1) := dk_42 (dk_at dksX1_gather_2 3 rfl rfl)
theorem dX1_gather_50 : decode cX1_gather 50 = .ok (.iload_n 2, 1) := dk_28 (dk_at dksX1_gather_2 4 rfl rfl)
theorem dX1_gather_51 : decode cX1_gather 51 = .ok (.invokevirtual 332, 3) := dk_182 1 76 (dk_at dksX1_gather_2 5 rfl rfl)
theorem dX1_gather_54 : decode cX1_gather 54 = .ok (.if_icmp .ge 5, 3) := dk_162 0 5 (dk_at dksX1_gather_2 8 rfl rfl)
theorem dX1_gather_57 : decode cX1_gather 57 = .ok (.iload_n 3, 1) := dk_29 (dk_at dksX1_gather_2 11 rfl rfl)
theorem dX1_gather_58 : decode cX1_gather 58 = .ok (.istore_n 2, 1) := dk_61 (dk_at dksX1_gather_2 12 rfl rfl)
theorem dX1_gather_59 : decode cX1_gather 59 = .ok (.iinc 3 1, 3) := dk_132 3 1 (dk_at dksX1_gather_2 13 rfl rfl)
theorem dX1_gather_62 : decode cX1_gather 62 = .ok (.goto (-26), 3) := dk_167 255 230 (dk_at dksX1_gather_2 16 rfl rfl)
theorem dX1_gather_65 : decode cX1_gather 65 = .ok (.iload_n 1, 1) := dk_27 (dk_at dksX1_gather_2 19 rfl rfl)
theorem dX1_gather_66 : decode cX1_gather 66 = .ok (.ifCond .ne 7, 3) := dk_154 0 7 (dk_at dksX1_gather_2 20 rfl rfl)
theorem dX1_gather_69 : decode cX1_gather 69 = .ok (.iload_n 2, 1) := dk_28 (dk_at dksX1_gather_2 23 rfl rfl)
theorem dX1_gather_70 : decode cX1_gather 70 = .ok (.goto 8, 3) := dk_167 0 8 (dk_at dksX1_gather_3 0 rfl rfl)
theorem dX1_gather_73 : decode cX1_gather 73 = .ok (.aload_n 0, 1) := dk_42 (dk_at dksX1_gather_3 3 rfl rfl)
theorem dX1_gather_74 : decode cX1_gather 74 = .ok (.iload_n 2, 1) := dk_28 (dk_at dksX1_gather_3 4 rfl rfl)
theorem dX1_gather_75 : decode cX1_gather 75 = .ok (.invokevirtual 332, 3) := dk_182 1 76 (dk_at dksX1_gather_3 5 rfl rfl)
theorem dX1_gather_78 : decode cX1_gather 78 = .ok (.ireturn, 1) := dk_172 (dk_at dksX1_gather_3 8 rfl rfl)
abbrev cX1_hoursTo : ByteArray := prog_1_method_43_code
def yX1_hoursTo : MethodName := ⟨RX1, "hoursTo", "(I)I"⟩
def dkwX1_hoursTo_2 : List UInt8 := [167, 0, 4, 3, 184, 1, 74, 61, 132, 3, 1, 167, 255, 203, 28, 172]
abbrev dktX1_hoursTo_2 : List UInt8 := dkwX1_hoursTo_2 ++ []
def dkwX1_hoursTo_1 : List UInt8 := [42, 29, 42, 180, 0, 101, 180, 0, 200, 29, 46, 42, 27, 182, 0, 228, 180, 0, 232, 182, 1, 56]
abbrev dktX1_hoursTo_1 : List UInt8 := dkwX1_hoursTo_1 ++ dktX1_hoursTo_2
def dkwX1_hoursTo_0 : List UInt8 := [3, 61, 3, 62, 29, 42, 182, 0, 184, 162, 0, 51, 28, 42, 180, 0, 101, 29, 182, 0, 219, 153, 0, 28]
abbrev dktX1_hoursTo_0 : List UInt8 := dkwX1_hoursTo_0 ++ dktX1_hoursTo_1
theorem dksX1_hoursTo_0 : cX1_hoursTo.data.toList.drop 0 = dktX1_hoursTo_0 := by decide +kernel
theorem dksX1_hoursTo_1 : cX1_hoursTo.data.toList.drop 24 = dktX1_hoursTo_1 := dk_seg dksX1_hoursTo_0 24 rfl rfl
theorem dksX1_hoursTo_2 : cX1_hoursTo.data.toList.drop 46 = dktX1_hoursTo_2 := dk_seg dksX1_hoursTo_1 22 rfl rfl
theorem dX1_hoursTo_0 : decode cX1_hoursTo 0 = .ok (.iconst 0, 1) := dk_3 (dk_at dksX1_hoursTo_0 0 rfl rfl)
theorem dX1_hoursTo_1 : decode cX1_hoursTo 1 = .ok (.istore_n 2, 1) := dk_61 (dk_at dksX1_hoursTo_0 1 rfl rfl)
theorem dX1_hoursTo_2 : decode cX1_hoursTo 2 = .ok (.iconst 0, 1) := dk_3 (dk_at dksX1_hoursTo_0 2 rfl rfl)
theorem dX1_hoursTo_3 : decode cX1_hoursTo 3 = .ok (.istore_n 3, 1) := dk_62 (dk_at dksX1_hoursTo_0 3 rfl rfl)
theorem dX1_hoursTo_4 : decode cX1_hoursTo 4 = .ok (.iload_n 3, 1) := dk_29 (dk_at dksX1_hoursTo_0 4 rfl rfl)
theorem dX1_hoursTo_5 : decode cX1_hoursTo 5 = .ok (.aload_n 0, 1) := dk_42 (dk_at dksX1_hoursTo_0 5 rfl rfl)
theorem dX1_hoursTo_6 : decode cX1_hoursTo 6 = .ok (.invokevirtual 184, 3) := dk_182 0 184 (dk_at dksX1_hoursTo_0 6 rfl rfl)
theorem dX1_hoursTo_9 : decode cX1_hoursTo 9 = .ok (.if_icmp .ge 51, 3) := dk_162 0 51 (dk_at dksX1_hoursTo_0 9 rfl rfl)
theorem dX1_hoursTo_12 : decode cX1_hoursTo 12 = .ok (.iload_n 2, 1) := dk_28 (dk_at dksX1_hoursTo_0 12 rfl rfl)
theorem dX1_hoursTo_13 : decode cX1_hoursTo 13 = .ok (.aload_n 0, 1) := dk_42 (dk_at dksX1_hoursTo_0 13 rfl rfl)
theorem dX1_hoursTo_14 : decode cX1_hoursTo 14 = .ok (.getfield 101, 3) := dk_180 0 101 (dk_at dksX1_hoursTo_0 14 rfl rfl)
theorem dX1_hoursTo_17 : decode cX1_hoursTo 17 = .ok (.iload_n 3, 1) := dk_29 (dk_at dksX1_hoursTo_0 17 rfl rfl)
theorem dX1_hoursTo_18 : decode cX1_hoursTo 18 = .ok (.invokevirtual 219, 3) := dk_182 0 219 (dk_at dksX1_hoursTo_0 18 rfl rfl)
theorem dX1_hoursTo_21 : decode cX1_hoursTo 21 = .ok (.ifCond .eq 28, 3) := dk_153 0 28 (dk_at dksX1_hoursTo_0 21 rfl rfl)
theorem dX1_hoursTo_24 : decode cX1_hoursTo 24 = .ok (.aload_n 0, 1) := dk_42 (dk_at dksX1_hoursTo_1 0 rfl rfl)
theorem dX1_hoursTo_25 : decode cX1_hoursTo 25 = .ok (.iload_n 3, 1) := dk_29 (dk_at dksX1_hoursTo_1 1 rfl rfl)
theorem dX1_hoursTo_26 : decode cX1_hoursTo 26 = .ok (.aload_n 0, 1) := dk_42 (dk_at dksX1_hoursTo_1 2 rfl rfl)
theorem dX1_hoursTo_27 : decode cX1_hoursTo 27 = .ok (.getfield 101, 3) := dk_180 0 101 (dk_at dksX1_hoursTo_1 3 rfl rfl)
theorem dX1_hoursTo_30 : decode cX1_hoursTo 30 = .ok (.getfield 200, 3) := dk_180 0 200 (dk_at dksX1_hoursTo_1 6 rfl rfl)
theorem dX1_hoursTo_33 : decode cX1_hoursTo 33 = .ok (.iload_n 3, 1) := dk_29 (dk_at dksX1_hoursTo_1 9 rfl rfl)
theorem dX1_hoursTo_34 : decode cX1_hoursTo 34 = .ok (.iaload, 1) := dk_46 (dk_at dksX1_hoursTo_1 10 rfl rfl)
theorem dX1_hoursTo_35 : decode cX1_hoursTo 35 = .ok (.aload_n 0, 1) := dk_42 (dk_at dksX1_hoursTo_1 11 rfl rfl)
theorem dX1_hoursTo_36 : decode cX1_hoursTo 36 = .ok (.iload_n 1, 1) := dk_27 (dk_at dksX1_hoursTo_1 12 rfl rfl)
theorem dX1_hoursTo_37 : decode cX1_hoursTo 37 = .ok (.invokevirtual 228, 3) := dk_182 0 228 (dk_at dksX1_hoursTo_1 13 rfl rfl)
theorem dX1_hoursTo_40 : decode cX1_hoursTo 40 = .ok (.getfield 232, 3) := dk_180 0 232 (dk_at dksX1_hoursTo_1 16 rfl rfl)
theorem dX1_hoursTo_43 : decode cX1_hoursTo 43 = .ok (.invokevirtual 312, 3) := dk_182 1 56 (dk_at dksX1_hoursTo_1 19 rfl rfl)
theorem dX1_hoursTo_46 : decode cX1_hoursTo 46 = .ok (.goto 4, 3) := dk_167 0 4 (dk_at dksX1_hoursTo_2 0 rfl rfl)
theorem dX1_hoursTo_49 : decode cX1_hoursTo 49 = .ok (.iconst 0, 1) := dk_3 (dk_at dksX1_hoursTo_2 3 rfl rfl)
theorem dX1_hoursTo_50 : decode cX1_hoursTo 50 = .ok (.invokestatic 330, 3) := dk_184 1 74 (dk_at dksX1_hoursTo_2 4 rfl rfl)
theorem dX1_hoursTo_53 : decode cX1_hoursTo 53 = .ok (.istore_n 2, 1) := dk_61 (dk_at dksX1_hoursTo_2 7 rfl rfl)
theorem dX1_hoursTo_54 : decode cX1_hoursTo 54 = .ok (.iinc 3 1, 3) := dk_132 3 1 (dk_at dksX1_hoursTo_2 8 rfl rfl)
theorem dX1_hoursTo_57 : decode cX1_hoursTo 57 = .ok (.goto (-53), 3) := dk_167 255 203 (dk_at dksX1_hoursTo_2 11 rfl rfl)
theorem dX1_hoursTo_60 : decode cX1_hoursTo 60 = .ok (.iload_n 2, 1) := dk_28 (dk_at dksX1_hoursTo_2 14 rfl rfl)
theorem dX1_hoursTo_61 : decode cX1_hoursTo 61 = .ok (.ireturn, 1) := dk_172 (dk_at dksX1_hoursTo_2 15 rfl rfl)
abbrev cX1_sides : ByteArray := prog_1_method_45_code
def yX1_sides : MethodName := ⟨RX1, "sides", "()I"⟩
def dkwX1_sides_1 : List UInt8 := [4, 42, 28, 182, 0, 193, 180, 0, 197, 120, 167, 0, 4, 3, 128, 60, 132, 2, 1, 167, 255, 217, 27, 172]
abbrev dktX1_sides_1 : List UInt8 := dkwX1_sides_1 ++ []
def dkwX1_sides_0 : List UInt8 := [3, 60, 3, 61, 28, 42, 182, 0, 184, 162, 0, 37, 27, 42, 180, 0, 101, 28, 182, 0, 219, 153, 0, 16]
abbrev dktX1_sides_0 : List UInt8 := dkwX1_sides_0 ++ dktX1_sides_1
theorem dksX1_sides_0 : cX1_sides.data.toList.drop 0 = dktX1_sides_0 := by decide +kernel
theorem dksX1_sides_1 : cX1_sides.data.toList.drop 24 = dktX1_sides_1 := dk_seg dksX1_sides_0 24 rfl rfl
theorem dX1_sides_0 : decode cX1_sides 0 = .ok (.iconst 0, 1) := dk_3 (dk_at dksX1_sides_0 0 rfl rfl)
theorem dX1_sides_1 : decode cX1_sides 1 = .ok (.istore_n 1, 1) := dk_60 (dk_at dksX1_sides_0 1 rfl rfl)
theorem dX1_sides_2 : decode cX1_sides 2 = .ok (.iconst 0, 1) := dk_3 (dk_at dksX1_sides_0 2 rfl rfl)
theorem dX1_sides_3 : decode cX1_sides 3 = .ok (.istore_n 2, 1) := dk_61 (dk_at dksX1_sides_0 3 rfl rfl)
theorem dX1_sides_4 : decode cX1_sides 4 = .ok (.iload_n 2, 1) := dk_28 (dk_at dksX1_sides_0 4 rfl rfl)
theorem dX1_sides_5 : decode cX1_sides 5 = .ok (.aload_n 0, 1) := dk_42 (dk_at dksX1_sides_0 5 rfl rfl)
theorem dX1_sides_6 : decode cX1_sides 6 = .ok (.invokevirtual 184, 3) := dk_182 0 184 (dk_at dksX1_sides_0 6 rfl rfl)
theorem dX1_sides_9 : decode cX1_sides 9 = .ok (.if_icmp .ge 37, 3) := dk_162 0 37 (dk_at dksX1_sides_0 9 rfl rfl)
theorem dX1_sides_12 : decode cX1_sides 12 = .ok (.iload_n 1, 1) := dk_27 (dk_at dksX1_sides_0 12 rfl rfl)
theorem dX1_sides_13 : decode cX1_sides 13 = .ok (.aload_n 0, 1) := dk_42 (dk_at dksX1_sides_0 13 rfl rfl)
theorem dX1_sides_14 : decode cX1_sides 14 = .ok (.getfield 101, 3) := dk_180 0 101 (dk_at dksX1_sides_0 14 rfl rfl)
theorem dX1_sides_17 : decode cX1_sides 17 = .ok (.iload_n 2, 1) := dk_28 (dk_at dksX1_sides_0 17 rfl rfl)
theorem dX1_sides_18 : decode cX1_sides 18 = .ok (.invokevirtual 219, 3) := dk_182 0 219 (dk_at dksX1_sides_0 18 rfl rfl)
theorem dX1_sides_21 : decode cX1_sides 21 = .ok (.ifCond .eq 16, 3) := dk_153 0 16 (dk_at dksX1_sides_0 21 rfl rfl)
theorem dX1_sides_24 : decode cX1_sides 24 = .ok (.iconst 1, 1) := dk_4 (dk_at dksX1_sides_1 0 rfl rfl)
theorem dX1_sides_25 : decode cX1_sides 25 = .ok (.aload_n 0, 1) := dk_42 (dk_at dksX1_sides_1 1 rfl rfl)
theorem dX1_sides_26 : decode cX1_sides 26 = .ok (.iload_n 2, 1) := dk_28 (dk_at dksX1_sides_1 2 rfl rfl)
theorem dX1_sides_27 : decode cX1_sides 27 = .ok (.invokevirtual 193, 3) := dk_182 0 193 (dk_at dksX1_sides_1 3 rfl rfl)
theorem dX1_sides_30 : decode cX1_sides 30 = .ok (.getfield 197, 3) := dk_180 0 197 (dk_at dksX1_sides_1 6 rfl rfl)
theorem dX1_sides_33 : decode cX1_sides 33 = .ok (.ishl, 1) := dk_120 (dk_at dksX1_sides_1 9 rfl rfl)
theorem dX1_sides_34 : decode cX1_sides 34 = .ok (.goto 4, 3) := dk_167 0 4 (dk_at dksX1_sides_1 10 rfl rfl)
theorem dX1_sides_37 : decode cX1_sides 37 = .ok (.iconst 0, 1) := dk_3 (dk_at dksX1_sides_1 13 rfl rfl)
theorem dX1_sides_38 : decode cX1_sides 38 = .ok (.ior, 1) := dk_128 (dk_at dksX1_sides_1 14 rfl rfl)
theorem dX1_sides_39 : decode cX1_sides 39 = .ok (.istore_n 1, 1) := dk_60 (dk_at dksX1_sides_1 15 rfl rfl)
theorem dX1_sides_40 : decode cX1_sides 40 = .ok (.iinc 2 1, 3) := dk_132 2 1 (dk_at dksX1_sides_1 16 rfl rfl)
theorem dX1_sides_43 : decode cX1_sides 43 = .ok (.goto (-39), 3) := dk_167 255 217 (dk_at dksX1_sides_1 19 rfl rfl)
theorem dX1_sides_46 : decode cX1_sides 46 = .ok (.iload_n 1, 1) := dk_27 (dk_at dksX1_sides_1 22 rfl rfl)
theorem dX1_sides_47 : decode cX1_sides 47 = .ok (.ireturn, 1) := dk_172 (dk_at dksX1_sides_1 23 rfl rfl)
abbrev cX1_enemies : ByteArray := prog_1_method_46_code
def yX1_enemies : MethodName := ⟨RX1, "enemies", "(I)I"⟩
def dkwX1_enemies_4 : List UInt8 := [128, 61, 132, 3, 1, 167, 255, 173, 28, 172]
abbrev dktX1_enemies_4 : List UInt8 := dkwX1_enemies_4 ++ []
def dkwX1_enemies_3 : List UInt8 := [182, 0, 193, 180, 0, 197, 42, 27, 182, 0, 193, 180, 0, 197, 159, 0, 9, 4, 29, 120, 167, 0, 4, 3]
abbrev dktX1_enemies_3 : List UInt8 := dkwX1_enemies_3 ++ dktX1_enemies_4
def dkwX1_enemies_2 : List UInt8 := [180, 0, 101, 180, 0, 200, 29, 46, 42, 180, 0, 101, 180, 0, 200, 27, 46, 160, 0, 28, 42, 29]
abbrev dktX1_enemies_2 : List UInt8 := dkwX1_enemies_2 ++ dktX1_enemies_3
def dkwX1_enemies_1 : List UInt8 := [180, 0, 101, 27, 182, 0, 219, 153, 0, 60, 42, 180, 0, 101, 29, 182, 0, 219, 153, 0, 49, 42]
abbrev dktX1_enemies_1 : List UInt8 := dkwX1_enemies_1 ++ dktX1_enemies_2
def dkwX1_enemies_0 : List UInt8 := [42, 27, 182, 0, 186, 154, 0, 5, 2, 172, 3, 61, 3, 62, 29, 42, 182, 0, 184, 162, 0, 81, 28, 42]
abbrev dktX1_enemies_0 : List UInt8 := dkwX1_enemies_0 ++ dktX1_enemies_1
theorem dksX1_enemies_0 : cX1_enemies.data.toList.drop 0 = dktX1_enemies_0 := by decide +kernel
theorem dksX1_enemies_1 : cX1_enemies.data.toList.drop 24 = dktX1_enemies_1 := dk_seg dksX1_enemies_0 24 rfl rfl
theorem dksX1_enemies_2 : cX1_enemies.data.toList.drop 46 = dktX1_enemies_2 := dk_seg dksX1_enemies_1 22 rfl rfl
theorem dksX1_enemies_3 : cX1_enemies.data.toList.drop 68 = dktX1_enemies_3 := dk_seg dksX1_enemies_2 22 rfl rfl
theorem dksX1_enemies_4 : cX1_enemies.data.toList.drop 92 = dktX1_enemies_4 := dk_seg dksX1_enemies_3 24 rfl rfl
theorem dX1_enemies_0 : decode cX1_enemies 0 = .ok (.aload_n 0, 1) := dk_42 (dk_at dksX1_enemies_0 0 rfl rfl)
theorem dX1_enemies_1 : decode cX1_enemies 1 = .ok (.iload_n 1, 1) := dk_27 (dk_at dksX1_enemies_0 1 rfl rfl)
theorem dX1_enemies_2 : decode cX1_enemies 2 = .ok (.invokevirtual 186, 3) := dk_182 0 186 (dk_at dksX1_enemies_0 2 rfl rfl)
theorem dX1_enemies_5 : decode cX1_enemies 5 = .ok (.ifCond .ne 5, 3) := dk_154 0 5 (dk_at dksX1_enemies_0 5 rfl rfl)
theorem dX1_enemies_8 : decode cX1_enemies 8 = .ok (.iconst (-1), 1) := dk_2 (dk_at dksX1_enemies_0 8 rfl rfl)
theorem dX1_enemies_9 : decode cX1_enemies 9 = .ok (.ireturn, 1) := dk_172 (dk_at dksX1_enemies_0 9 rfl rfl)
theorem dX1_enemies_10 : decode cX1_enemies 10 = .ok (.iconst 0, 1) := dk_3 (dk_at dksX1_enemies_0 10 rfl rfl)
theorem dX1_enemies_11 : decode cX1_enemies 11 = .ok (.istore_n 2, 1) := dk_61 (dk_at dksX1_enemies_0 11 rfl rfl)
theorem dX1_enemies_12 : decode cX1_enemies 12 = .ok (.iconst 0, 1) := dk_3 (dk_at dksX1_enemies_0 12 rfl rfl)
theorem dX1_enemies_13 : decode cX1_enemies 13 = .ok (.istore_n 3, 1) := dk_62 (dk_at dksX1_enemies_0 13 rfl rfl)
theorem dX1_enemies_14 : decode cX1_enemies 14 = .ok (.iload_n 3, 1) := dk_29 (dk_at dksX1_enemies_0 14 rfl rfl)
theorem dX1_enemies_15 : decode cX1_enemies 15 = .ok (.aload_n 0, 1) := dk_42 (dk_at dksX1_enemies_0 15 rfl rfl)
theorem dX1_enemies_16 : decode cX1_enemies 16 = .ok (.invokevirtual 184, 3) := dk_182 0 184 (dk_at dksX1_enemies_0 16 rfl rfl)
theorem dX1_enemies_19 : decode cX1_enemies 19 = .ok (.if_icmp .ge 81, 3) := dk_162 0 81 (dk_at dksX1_enemies_0 19 rfl rfl)
theorem dX1_enemies_22 : decode cX1_enemies 22 = .ok (.iload_n 2, 1) := dk_28 (dk_at dksX1_enemies_0 22 rfl rfl)
theorem dX1_enemies_23 : decode cX1_enemies 23 = .ok (.aload_n 0, 1) := dk_42 (dk_at dksX1_enemies_0 23 rfl rfl)
theorem dX1_enemies_24 : decode cX1_enemies 24 = .ok (.getfield 101, 3) := dk_180 0 101 (dk_at dksX1_enemies_1 0 rfl rfl)
theorem dX1_enemies_27 : decode cX1_enemies 27 = .ok (.iload_n 1, 1) := dk_27 (dk_at dksX1_enemies_1 3 rfl rfl)
theorem dX1_enemies_28 : decode cX1_enemies 28 = .ok (.invokevirtual 219, 3) := dk_182 0 219 (dk_at dksX1_enemies_1 4 rfl rfl)
theorem dX1_enemies_31 : decode cX1_enemies 31 = .ok (.ifCond .eq 60, 3) := dk_153 0 60 (dk_at dksX1_enemies_1 7 rfl rfl)
theorem dX1_enemies_34 : decode cX1_enemies 34 = .ok (.aload_n 0, 1) := dk_42 (dk_at dksX1_enemies_1 10 rfl rfl)
theorem dX1_enemies_35 : decode cX1_enemies 35 = .ok (.getfield 101, 3) := dk_180 0 101 (dk_at dksX1_enemies_1 11 rfl rfl)
theorem dX1_enemies_38 : decode cX1_enemies 38 = .ok (.iload_n 3, 1) := dk_29 (dk_at dksX1_enemies_1 14 rfl rfl)
theorem dX1_enemies_39 : decode cX1_enemies 39 = .ok (.invokevirtual 219, 3) := dk_182 0 219 (dk_at dksX1_enemies_1 15 rfl rfl)
theorem dX1_enemies_42 : decode cX1_enemies 42 = .ok (.ifCond .eq 49, 3) := dk_153 0 49 (dk_at dksX1_enemies_1 18 rfl rfl)
theorem dX1_enemies_45 : decode cX1_enemies 45 = .ok (.aload_n 0, 1) := dk_42 (dk_at dksX1_enemies_1 21 rfl rfl)
theorem dX1_enemies_46 : decode cX1_enemies 46 = .ok (.getfield 101, 3) := dk_180 0 101 (dk_at dksX1_enemies_2 0 rfl rfl)
theorem dX1_enemies_49 : decode cX1_enemies 49 = .ok (.getfield 200, 3) := dk_180 0 200 (dk_at dksX1_enemies_2 3 rfl rfl)
theorem dX1_enemies_52 : decode cX1_enemies 52 = .ok (.iload_n 3, 1) := dk_29 (dk_at dksX1_enemies_2 6 rfl rfl)
theorem dX1_enemies_53 : decode cX1_enemies 53 = .ok (.iaload, 1) := dk_46 (dk_at dksX1_enemies_2 7 rfl rfl)
theorem dX1_enemies_54 : decode cX1_enemies 54 = .ok (.aload_n 0, 1) := dk_42 (dk_at dksX1_enemies_2 8 rfl rfl)
theorem dX1_enemies_55 : decode cX1_enemies 55 = .ok (.getfield 101, 3) := dk_180 0 101 (dk_at dksX1_enemies_2 9 rfl rfl)
theorem dX1_enemies_58 : decode cX1_enemies 58 = .ok (.getfield 200, 3) := dk_180 0 200 (dk_at dksX1_enemies_2 12 rfl rfl)
theorem dX1_enemies_61 : decode cX1_enemies 61 = .ok (.iload_n 1, 1) := dk_27 (dk_at dksX1_enemies_2 15 rfl rfl)
theorem dX1_enemies_62 : decode cX1_enemies 62 = .ok (.iaload, 1) := dk_46 (dk_at dksX1_enemies_2 16 rfl rfl)
theorem dX1_enemies_63 : decode cX1_enemies 63 = .ok (.if_icmp .ne 28, 3) := dk_160 0 28 (dk_at dksX1_enemies_2 17 rfl rfl)
theorem dX1_enemies_66 : decode cX1_enemies 66 = .ok (.aload_n 0, 1) := dk_42 (dk_at dksX1_enemies_2 20 rfl rfl)
theorem dX1_enemies_67 : decode cX1_enemies 67 = .ok (.iload_n 3, 1) := dk_29 (dk_at dksX1_enemies_2 21 rfl rfl)
theorem dX1_enemies_68 : decode cX1_enemies 68 = .ok (.invokevirtual 193, 3) := dk_182 0 193 (dk_at dksX1_enemies_3 0 rfl rfl)
theorem dX1_enemies_71 : decode cX1_enemies 71 = .ok (.getfield 197, 3) := dk_180 0 197 (dk_at dksX1_enemies_3 3 rfl rfl)
theorem dX1_enemies_74 : decode cX1_enemies 74 = .ok (.aload_n 0, 1) := dk_42 (dk_at dksX1_enemies_3 6 rfl rfl)
theorem dX1_enemies_75 : decode cX1_enemies 75 = .ok (.iload_n 1, 1) := dk_27 (dk_at dksX1_enemies_3 7 rfl rfl)
theorem dX1_enemies_76 : decode cX1_enemies 76 = .ok (.invokevirtual 193, 3) := dk_182 0 193 (dk_at dksX1_enemies_3 8 rfl rfl)
theorem dX1_enemies_79 : decode cX1_enemies 79 = .ok (.getfield 197, 3) := dk_180 0 197 (dk_at dksX1_enemies_3 11 rfl rfl)
theorem dX1_enemies_82 : decode cX1_enemies 82 = .ok (.if_icmp .eq 9, 3) := dk_159 0 9 (dk_at dksX1_enemies_3 14 rfl rfl)
theorem dX1_enemies_85 : decode cX1_enemies 85 = .ok (.iconst 1, 1) := dk_4 (dk_at dksX1_enemies_3 17 rfl rfl)
theorem dX1_enemies_86 : decode cX1_enemies 86 = .ok (.iload_n 3, 1) := dk_29 (dk_at dksX1_enemies_3 18 rfl rfl)
theorem dX1_enemies_87 : decode cX1_enemies 87 = .ok (.ishl, 1) := dk_120 (dk_at dksX1_enemies_3 19 rfl rfl)
theorem dX1_enemies_88 : decode cX1_enemies 88 = .ok (.goto 4, 3) := dk_167 0 4 (dk_at dksX1_enemies_3 20 rfl rfl)
theorem dX1_enemies_91 : decode cX1_enemies 91 = .ok (.iconst 0, 1) := dk_3 (dk_at dksX1_enemies_3 23 rfl rfl)
theorem dX1_enemies_92 : decode cX1_enemies 92 = .ok (.ior, 1) := dk_128 (dk_at dksX1_enemies_4 0 rfl rfl)
theorem dX1_enemies_93 : decode cX1_enemies 93 = .ok (.istore_n 2, 1) := dk_61 (dk_at dksX1_enemies_4 1 rfl rfl)
theorem dX1_enemies_94 : decode cX1_enemies 94 = .ok (.iinc 3 1, 3) := dk_132 3 1 (dk_at dksX1_enemies_4 2 rfl rfl)
theorem dX1_enemies_97 : decode cX1_enemies 97 = .ok (.goto (-83), 3) := dk_167 255 173 (dk_at dksX1_enemies_4 5 rfl rfl)
theorem dX1_enemies_100 : decode cX1_enemies 100 = .ok (.iload_n 2, 1) := dk_28 (dk_at dksX1_enemies_4 8 rfl rfl)
theorem dX1_enemies_101 : decode cX1_enemies 101 = .ok (.ireturn, 1) := dk_172 (dk_at dksX1_enemies_4 9 rfl rfl)
abbrev cX1_runsDry : ByteArray := prog_1_method_47_code
def yX1_runsDry : MethodName := ⟨RX1, "runsDry", "(I)I"⟩
def dkwX1_runsDry_2 : List UInt8 := [3, 182, 1, 21, 132, 2, 1, 167, 255, 224, 16, 254, 172]
abbrev dktX1_runsDry_2 : List UInt8 := dkwX1_runsDry_2 ++ []
def dkwX1_runsDry_1 : List UInt8 := [17, 0, 199, 163, 0, 31, 42, 180, 0, 105, 180, 0, 236, 27, 46, 154, 0, 5, 28, 172, 42, 180, 0, 105]
abbrev dktX1_runsDry_1 : List UInt8 := dkwX1_runsDry_1 ++ dktX1_runsDry_2
def dkwX1_runsDry_0 : List UInt8 := [42, 27, 182, 0, 233, 154, 0, 5, 2, 172, 42, 180, 0, 105, 42, 180, 0, 101, 182, 0, 254, 3, 61, 28]
abbrev dktX1_runsDry_0 : List UInt8 := dkwX1_runsDry_0 ++ dktX1_runsDry_1
theorem dksX1_runsDry_0 : cX1_runsDry.data.toList.drop 0 = dktX1_runsDry_0 := by decide +kernel
theorem dksX1_runsDry_1 : cX1_runsDry.data.toList.drop 24 = dktX1_runsDry_1 := dk_seg dksX1_runsDry_0 24 rfl rfl
theorem dksX1_runsDry_2 : cX1_runsDry.data.toList.drop 48 = dktX1_runsDry_2 := dk_seg dksX1_runsDry_1 24 rfl rfl
theorem dX1_runsDry_0 : decode cX1_runsDry 0 = .ok (.aload_n 0, 1) := dk_42 (dk_at dksX1_runsDry_0 0 rfl rfl)
theorem dX1_runsDry_1 : decode cX1_runsDry 1 = .ok (.iload_n 1, 1) := dk_27 (dk_at dksX1_runsDry_0 1 rfl rfl)
theorem dX1_runsDry_2 : decode cX1_runsDry 2 = .ok (.invokevirtual 233, 3) := dk_182 0 233 (dk_at dksX1_runsDry_0 2 rfl rfl)
theorem dX1_runsDry_5 : decode cX1_runsDry 5 = .ok (.ifCond .ne 5, 3) := dk_154 0 5 (dk_at dksX1_runsDry_0 5 rfl rfl)
theorem dX1_runsDry_8 : decode cX1_runsDry 8 = .ok (.iconst (-1), 1) := dk_2 (dk_at dksX1_runsDry_0 8 rfl rfl)
theorem dX1_runsDry_9 : decode cX1_runsDry 9 = .ok (.ireturn, 1) := dk_172 (dk_at dksX1_runsDry_0 9 rfl rfl)
theorem dX1_runsDry_10 : decode cX1_runsDry 10 = .ok (.aload_n 0, 1) := dk_42 (dk_at dksX1_runsDry_0 10 rfl rfl)
theorem dX1_runsDry_11 : decode cX1_runsDry 11 = .ok (.getfield 105, 3) := dk_180 0 105 (dk_at dksX1_runsDry_0 11 rfl rfl)
theorem dX1_runsDry_14 : decode cX1_runsDry 14 = .ok (.aload_n 0, 1) := dk_42 (dk_at dksX1_runsDry_0 14 rfl rfl)
theorem dX1_runsDry_15 : decode cX1_runsDry 15 = .ok (.getfield 101, 3) := dk_180 0 101 (dk_at dksX1_runsDry_0 15 rfl rfl)
theorem dX1_runsDry_18 : decode cX1_runsDry 18 = .ok (.invokevirtual 254, 3) := dk_182 0 254 (dk_at dksX1_runsDry_0 18 rfl rfl)
theorem dX1_runsDry_21 : decode cX1_runsDry 21 = .ok (.iconst 0, 1) := dk_3 (dk_at dksX1_runsDry_0 21 rfl rfl)
theorem dX1_runsDry_22 : decode cX1_runsDry 22 = .ok (.istore_n 2, 1) := dk_61 (dk_at dksX1_runsDry_0 22 rfl rfl)
theorem dX1_runsDry_23 : decode cX1_runsDry 23 = .ok (.iload_n 2, 1) := dk_28 (dk_at dksX1_runsDry_0 23 rfl rfl)
theorem dX1_runsDry_24 : decode cX1_runsDry 24 = .ok (.sipush 199, 3) := dk_17 0 199 (dk_at dksX1_runsDry_1 0 rfl rfl)
theorem dX1_runsDry_27 : decode cX1_runsDry 27 = .ok (.if_icmp .gt 31, 3) := dk_163 0 31 (dk_at dksX1_runsDry_1 3 rfl rfl)
theorem dX1_runsDry_30 : decode cX1_runsDry 30 = .ok (.aload_n 0, 1) := dk_42 (dk_at dksX1_runsDry_1 6 rfl rfl)
theorem dX1_runsDry_31 : decode cX1_runsDry 31 = .ok (.getfield 105, 3) := dk_180 0 105 (dk_at dksX1_runsDry_1 7 rfl rfl)
theorem dX1_runsDry_34 : decode cX1_runsDry 34 = .ok (.getfield 236, 3) := dk_180 0 236 (dk_at dksX1_runsDry_1 10 rfl rfl)
theorem dX1_runsDry_37 : decode cX1_runsDry 37 = .ok (.iload_n 1, 1) := dk_27 (dk_at dksX1_runsDry_1 13 rfl rfl)
theorem dX1_runsDry_38 : decode cX1_runsDry 38 = .ok (.iaload, 1) := dk_46 (dk_at dksX1_runsDry_1 14 rfl rfl)
theorem dX1_runsDry_39 : decode cX1_runsDry 39 = .ok (.ifCond .ne 5, 3) := dk_154 0 5 (dk_at dksX1_runsDry_1 15 rfl rfl)
theorem dX1_runsDry_42 : decode cX1_runsDry 42 = .ok (.iload_n 2, 1) := dk_28 (dk_at dksX1_runsDry_1 18 rfl rfl)
theorem dX1_runsDry_43 : decode cX1_runsDry 43 = .ok (.ireturn, 1) := dk_172 (dk_at dksX1_runsDry_1 19 rfl rfl)
theorem dX1_runsDry_44 : decode cX1_runsDry 44 = .ok (.aload_n 0, 1) := dk_42 (dk_at dksX1_runsDry_1 20 rfl rfl)
theorem dX1_runsDry_45 : decode cX1_runsDry 45 = .ok (.getfield 105, 3) := dk_180 0 105 (dk_at dksX1_runsDry_1 21 rfl rfl)
theorem dX1_runsDry_48 : decode cX1_runsDry 48 = .ok (.iconst 0, 1) := dk_3 (dk_at dksX1_runsDry_2 0 rfl rfl)
theorem dX1_runsDry_49 : decode cX1_runsDry 49 = .ok (.invokevirtual 277, 3) := dk_182 1 21 (dk_at dksX1_runsDry_2 1 rfl rfl)
theorem dX1_runsDry_52 : decode cX1_runsDry 52 = .ok (.iinc 2 1, 3) := dk_132 2 1 (dk_at dksX1_runsDry_2 4 rfl rfl)
theorem dX1_runsDry_55 : decode cX1_runsDry 55 = .ok (.goto (-32), 3) := dk_167 255 224 (dk_at dksX1_runsDry_2 7 rfl rfl)
theorem dX1_runsDry_58 : decode cX1_runsDry 58 = .ok (.bipush (-2), 2) := dk_16 254 (dk_at dksX1_runsDry_2 10 rfl rfl)
theorem dX1_runsDry_60 : decode cX1_runsDry 60 = .ok (.ireturn, 1) := dk_172 (dk_at dksX1_runsDry_2 12 rfl rfl)
abbrev cX1_rests : ByteArray := prog_1_method_51_code
def yX1_rests : MethodName := ⟨RX1, "rests", "(II)I"⟩
def dkwX1_rests_0 : List UInt8 := [42, 27, 28, 182, 1, 47, 153, 0, 13, 42, 27, 28, 2, 182, 1, 87, 167, 0, 4, 2, 172]
abbrev dktX1_rests_0 : List UInt8 := dkwX1_rests_0 ++ []
theorem dksX1_rests_0 : cX1_rests.data.toList.drop 0 = dktX1_rests_0 := by decide +kernel
theorem dX1_rests_0 : decode cX1_rests 0 = .ok (.aload_n 0, 1) := dk_42 (dk_at dksX1_rests_0 0 rfl rfl)
theorem dX1_rests_1 : decode cX1_rests 1 = .ok (.iload_n 1, 1) := dk_27 (dk_at dksX1_rests_0 1 rfl rfl)
theorem dX1_rests_2 : decode cX1_rests 2 = .ok (.iload_n 2, 1) := dk_28 (dk_at dksX1_rests_0 2 rfl rfl)
theorem dX1_rests_3 : decode cX1_rests 3 = .ok (.invokevirtual 303, 3) := dk_182 1 47 (dk_at dksX1_rests_0 3 rfl rfl)
theorem dX1_rests_6 : decode cX1_rests 6 = .ok (.ifCond .eq 13, 3) := dk_153 0 13 (dk_at dksX1_rests_0 6 rfl rfl)
theorem dX1_rests_9 : decode cX1_rests 9 = .ok (.aload_n 0, 1) := dk_42 (dk_at dksX1_rests_0 9 rfl rfl)
theorem dX1_rests_10 : decode cX1_rests 10 = .ok (.iload_n 1, 1) := dk_27 (dk_at dksX1_rests_0 10 rfl rfl)
theorem dX1_rests_11 : decode cX1_rests 11 = .ok (.iload_n 2, 1) := dk_28 (dk_at dksX1_rests_0 11 rfl rfl)
theorem dX1_rests_12 : decode cX1_rests 12 = .ok (.iconst (-1), 1) := dk_2 (dk_at dksX1_rests_0 12 rfl rfl)
theorem dX1_rests_13 : decode cX1_rests 13 = .ok (.invokevirtual 343, 3) := dk_182 1 87 (dk_at dksX1_rests_0 13 rfl rfl)
theorem dX1_rests_16 : decode cX1_rests 16 = .ok (.goto 4, 3) := dk_167 0 4 (dk_at dksX1_rests_0 16 rfl rfl)
theorem dX1_rests_19 : decode cX1_rests 19 = .ok (.iconst (-1), 1) := dk_2 (dk_at dksX1_rests_0 19 rfl rfl)
theorem dX1_rests_20 : decode cX1_rests 20 = .ok (.ireturn, 1) := dk_172 (dk_at dksX1_rests_0 20 rfl rfl)
abbrev cX1_restOf : ByteArray := prog_1_method_50_code
def yX1_restOf : MethodName := ⟨RX1, "restOf", "(III)I"⟩
def dkwX1_restOf_3 : List UInt8 := [16, 254, 172]
abbrev dktX1_restOf_3 : List UInt8 := dkwX1_restOf_3 ++ []
def dkwX1_restOf_2 : List UInt8 := [5, 112, 96, 172, 132, 4, 1, 132, 5, 1, 167, 255, 205, 29, 2, 160, 0, 8, 21, 4, 167, 0, 5]
abbrev dktX1_restOf_2 : List UInt8 := dkwX1_restOf_2 ++ dktX1_restOf_3
def dkwX1_restOf_1 : List UInt8 := [182, 1, 83, 154, 0, 6, 167, 0, 25, 21, 4, 29, 160, 0, 16, 16, 10, 21, 5, 5, 108, 104, 21, 5]
abbrev dktX1_restOf_1 : List UInt8 := dkwX1_restOf_1 ++ dktX1_restOf_2
def dkwX1_restOf_0 : List UInt8 := [3, 54, 4, 3, 54, 5, 21, 5, 7, 162, 0, 51, 42, 27, 28, 21, 5, 5, 108, 21, 5, 5, 112]
abbrev dktX1_restOf_0 : List UInt8 := dkwX1_restOf_0 ++ dktX1_restOf_1
theorem dksX1_restOf_0 : cX1_restOf.data.toList.drop 0 = dktX1_restOf_0 := by decide +kernel
theorem dksX1_restOf_1 : cX1_restOf.data.toList.drop 23 = dktX1_restOf_1 := dk_seg dksX1_restOf_0 23 rfl rfl
theorem dksX1_restOf_2 : cX1_restOf.data.toList.drop 47 = dktX1_restOf_2 := dk_seg dksX1_restOf_1 24 rfl rfl
theorem dksX1_restOf_3 : cX1_restOf.data.toList.drop 70 = dktX1_restOf_3 := dk_seg dksX1_restOf_2 23 rfl rfl
theorem dX1_restOf_0 : decode cX1_restOf 0 = .ok (.iconst 0, 1) := dk_3 (dk_at dksX1_restOf_0 0 rfl rfl)
theorem dX1_restOf_1 : decode cX1_restOf 1 = .ok (.istore 4, 2) := dk_54 4 (dk_at dksX1_restOf_0 1 rfl rfl)
theorem dX1_restOf_3 : decode cX1_restOf 3 = .ok (.iconst 0, 1) := dk_3 (dk_at dksX1_restOf_0 3 rfl rfl)
theorem dX1_restOf_4 : decode cX1_restOf 4 = .ok (.istore 5, 2) := dk_54 5 (dk_at dksX1_restOf_0 4 rfl rfl)
theorem dX1_restOf_6 : decode cX1_restOf 6 = .ok (.iload 5, 2) := dk_21 5 (dk_at dksX1_restOf_0 6 rfl rfl)
theorem dX1_restOf_8 : decode cX1_restOf 8 = .ok (.iconst 4, 1) := dk_7 (dk_at dksX1_restOf_0 8 rfl rfl)
theorem dX1_restOf_9 : decode cX1_restOf 9 = .ok (.if_icmp .ge 51, 3) := dk_162 0 51 (dk_at dksX1_restOf_0 9 rfl rfl)
theorem dX1_restOf_12 : decode cX1_restOf 12 = .ok (.aload_n 0, 1) := dk_42 (dk_at dksX1_restOf_0 12 rfl rfl)
theorem dX1_restOf_13 : decode cX1_restOf 13 = .ok (.iload_n 1, 1) := dk_27 (dk_at dksX1_restOf_0 13 rfl rfl)
theorem dX1_restOf_14 : decode cX1_restOf 14 = .ok (.iload_n 2, 1) := dk_28 (dk_at dksX1_restOf_0 14 rfl rfl)
theorem dX1_restOf_15 : decode cX1_restOf 15 = .ok (.iload 5, 2) := dk_21 5 (dk_at dksX1_restOf_0 15 rfl rfl)
theorem dX1_restOf_17 : decode cX1_restOf 17 = .ok (.iconst 2, 1) := dk_5 (dk_at dksX1_restOf_0 17 rfl rfl)
theorem dX1_restOf_18 : decode cX1_restOf 18 = .ok (.idiv, 1) := dk_108 (dk_at dksX1_restOf_0 18 rfl rfl)
theorem dX1_restOf_19 : decode cX1_restOf 19 = .ok (.iload 5, 2) := dk_21 5 (dk_at dksX1_restOf_0 19 rfl rfl)
theorem dX1_restOf_21 : decode cX1_restOf 21 = .ok (.iconst 2, 1) := dk_5 (dk_at dksX1_restOf_0 21 rfl rfl)
theorem dX1_restOf_22 : decode cX1_restOf 22 = .ok (.irem, 1) := dk_112 (dk_at dksX1_restOf_0 22 rfl rfl)
theorem dX1_restOf_23 : decode cX1_restOf 23 = .ok (.invokevirtual 339, 3) := dk_182 1 83 (dk_at dksX1_restOf_1 0 rfl rfl)
theorem dX1_restOf_26 : decode cX1_restOf 26 = .ok (.ifCond .ne 6, 3) := dk_154 0 6 (dk_at dksX1_restOf_1 3 rfl rfl)
theorem dX1_restOf_29 : decode cX1_restOf 29 = .ok (.goto 25, 3) := dk_167 0 25 (dk_at dksX1_restOf_1 6 rfl rfl)
theorem dX1_restOf_32 : decode cX1_restOf 32 = .ok (.iload 4, 2) := dk_21 4 (dk_at dksX1_restOf_1 9 rfl rfl)
theorem dX1_restOf_34 : decode cX1_restOf 34 = .ok (.iload_n 3, 1) := dk_29 (dk_at dksX1_restOf_1 11 rfl rfl)
theorem dX1_restOf_35 : decode cX1_restOf 35 = .ok (.if_icmp .ne 16, 3) := dk_160 0 16 (dk_at dksX1_restOf_1 12 rfl rfl)
theorem dX1_restOf_38 : decode cX1_restOf 38 = .ok (.bipush 10, 2) := dk_16 10 (dk_at dksX1_restOf_1 15 rfl rfl)
theorem dX1_restOf_40 : decode cX1_restOf 40 = .ok (.iload 5, 2) := dk_21 5 (dk_at dksX1_restOf_1 17 rfl rfl)
theorem dX1_restOf_42 : decode cX1_restOf 42 = .ok (.iconst 2, 1) := dk_5 (dk_at dksX1_restOf_1 19 rfl rfl)
theorem dX1_restOf_43 : decode cX1_restOf 43 = .ok (.idiv, 1) := dk_108 (dk_at dksX1_restOf_1 20 rfl rfl)
theorem dX1_restOf_44 : decode cX1_restOf 44 = .ok (.imul, 1) := dk_104 (dk_at dksX1_restOf_1 21 rfl rfl)
theorem dX1_restOf_45 : decode cX1_restOf 45 = .ok (.iload 5, 2) := dk_21 5 (dk_at dksX1_restOf_1 22 rfl rfl)
theorem dX1_restOf_47 : decode cX1_restOf 47 = .ok (.iconst 2, 1) := dk_5 (dk_at dksX1_restOf_2 0 rfl rfl)
theorem dX1_restOf_48 : decode cX1_restOf 48 = .ok (.irem, 1) := dk_112 (dk_at dksX1_restOf_2 1 rfl rfl)
theorem dX1_restOf_49 : decode cX1_restOf 49 = .ok (.iadd, 1) := dk_96 (dk_at dksX1_restOf_2 2 rfl rfl)
theorem dX1_restOf_50 : decode cX1_restOf 50 = .ok (.ireturn, 1) := dk_172 (dk_at dksX1_restOf_2 3 rfl rfl)
theorem dX1_restOf_51 : decode cX1_restOf 51 = .ok (.iinc 4 1, 3) := dk_132 4 1 (dk_at dksX1_restOf_2 4 rfl rfl)
theorem dX1_restOf_54 : decode cX1_restOf 54 = .ok (.iinc 5 1, 3) := dk_132 5 1 (dk_at dksX1_restOf_2 7 rfl rfl)
theorem dX1_restOf_57 : decode cX1_restOf 57 = .ok (.goto (-51), 3) := dk_167 255 205 (dk_at dksX1_restOf_2 10 rfl rfl)
theorem dX1_restOf_60 : decode cX1_restOf 60 = .ok (.iload_n 3, 1) := dk_29 (dk_at dksX1_restOf_2 13 rfl rfl)
theorem dX1_restOf_61 : decode cX1_restOf 61 = .ok (.iconst (-1), 1) := dk_2 (dk_at dksX1_restOf_2 14 rfl rfl)
theorem dX1_restOf_62 : decode cX1_restOf 62 = .ok (.if_icmp .ne 8, 3) := dk_160 0 8 (dk_at dksX1_restOf_2 15 rfl rfl)
theorem dX1_restOf_65 : decode cX1_restOf 65 = .ok (.iload 4, 2) := dk_21 4 (dk_at dksX1_restOf_2 18 rfl rfl)
theorem dX1_restOf_67 : decode cX1_restOf 67 = .ok (.goto 5, 3) := dk_167 0 5 (dk_at dksX1_restOf_2 20 rfl rfl)
theorem dX1_restOf_70 : decode cX1_restOf 70 = .ok (.bipush (-2), 2) := dk_16 254 (dk_at dksX1_restOf_3 0 rfl rfl)
theorem dX1_restOf_72 : decode cX1_restOf 72 = .ok (.ireturn, 1) := dk_172 (dk_at dksX1_restOf_3 2 rfl rfl)
abbrev cX1_isRest : ByteArray := prog_1_method_49_code
def yX1_isRest : MethodName := ⟨RX1, "isRest", "(IIII)Z"⟩
def dkwX1_isRest_2 : List UInt8 := [167, 0, 4, 3, 172]
abbrev dktX1_isRest_2 : List UInt8 := dkwX1_isRest_2 ++ []
def dkwX1_isRest_1 : List UInt8 := [28, 27, 4, 21, 4, 100, 29, 182, 1, 79, 42, 28, 27, 21, 4, 29, 182, 1, 79, 163, 0, 7, 4]
abbrev dktX1_isRest_1 : List UInt8 := dkwX1_isRest_1 ++ dktX1_isRest_2
def dkwX1_isRest_0 : List UInt8 := [42, 27, 28, 4, 29, 100, 21, 4, 182, 1, 79, 42, 27, 28, 29, 21, 4, 182, 1, 79, 163, 0, 30, 42]
abbrev dktX1_isRest_0 : List UInt8 := dkwX1_isRest_0 ++ dktX1_isRest_1
theorem dksX1_isRest_0 : cX1_isRest.data.toList.drop 0 = dktX1_isRest_0 := by decide +kernel
theorem dksX1_isRest_1 : cX1_isRest.data.toList.drop 24 = dktX1_isRest_1 := dk_seg dksX1_isRest_0 24 rfl rfl
theorem dksX1_isRest_2 : cX1_isRest.data.toList.drop 47 = dktX1_isRest_2 := dk_seg dksX1_isRest_1 23 rfl rfl
theorem dX1_isRest_0 : decode cX1_isRest 0 = .ok (.aload_n 0, 1) := dk_42 (dk_at dksX1_isRest_0 0 rfl rfl)
theorem dX1_isRest_1 : decode cX1_isRest 1 = .ok (.iload_n 1, 1) := dk_27 (dk_at dksX1_isRest_0 1 rfl rfl)
theorem dX1_isRest_2 : decode cX1_isRest 2 = .ok (.iload_n 2, 1) := dk_28 (dk_at dksX1_isRest_0 2 rfl rfl)
theorem dX1_isRest_3 : decode cX1_isRest 3 = .ok (.iconst 1, 1) := dk_4 (dk_at dksX1_isRest_0 3 rfl rfl)
theorem dX1_isRest_4 : decode cX1_isRest 4 = .ok (.iload_n 3, 1) := dk_29 (dk_at dksX1_isRest_0 4 rfl rfl)
theorem dX1_isRest_5 : decode cX1_isRest 5 = .ok (.isub, 1) := dk_100 (dk_at dksX1_isRest_0 5 rfl rfl)
theorem dX1_isRest_6 : decode cX1_isRest 6 = .ok (.iload 4, 2) := dk_21 4 (dk_at dksX1_isRest_0 6 rfl rfl)
theorem dX1_isRest_8 : decode cX1_isRest 8 = .ok (.invokevirtual 335, 3) := dk_182 1 79 (dk_at dksX1_isRest_0 8 rfl rfl)
theorem dX1_isRest_11 : decode cX1_isRest 11 = .ok (.aload_n 0, 1) := dk_42 (dk_at dksX1_isRest_0 11 rfl rfl)
theorem dX1_isRest_12 : decode cX1_isRest 12 = .ok (.iload_n 1, 1) := dk_27 (dk_at dksX1_isRest_0 12 rfl rfl)
theorem dX1_isRest_13 : decode cX1_isRest 13 = .ok (.iload_n 2, 1) := dk_28 (dk_at dksX1_isRest_0 13 rfl rfl)
theorem dX1_isRest_14 : decode cX1_isRest 14 = .ok (.iload_n 3, 1) := dk_29 (dk_at dksX1_isRest_0 14 rfl rfl)
theorem dX1_isRest_15 : decode cX1_isRest 15 = .ok (.iload 4, 2) := dk_21 4 (dk_at dksX1_isRest_0 15 rfl rfl)
theorem dX1_isRest_17 : decode cX1_isRest 17 = .ok (.invokevirtual 335, 3) := dk_182 1 79 (dk_at dksX1_isRest_0 17 rfl rfl)
theorem dX1_isRest_20 : decode cX1_isRest 20 = .ok (.if_icmp .gt 30, 3) := dk_163 0 30 (dk_at dksX1_isRest_0 20 rfl rfl)
theorem dX1_isRest_23 : decode cX1_isRest 23 = .ok (.aload_n 0, 1) := dk_42 (dk_at dksX1_isRest_0 23 rfl rfl)
theorem dX1_isRest_24 : decode cX1_isRest 24 = .ok (.iload_n 2, 1) := dk_28 (dk_at dksX1_isRest_1 0 rfl rfl)
theorem dX1_isRest_25 : decode cX1_isRest 25 = .ok (.iload_n 1, 1) := dk_27 (dk_at dksX1_isRest_1 1 rfl rfl)
theorem dX1_isRest_26 : decode cX1_isRest 26 = .ok (.iconst 1, 1) := dk_4 (dk_at dksX1_isRest_1 2 rfl rfl)
theorem dX1_isRest_27 : decode cX1_isRest 27 = .ok (.iload 4, 2) := dk_21 4 (dk_at dksX1_isRest_1 3 rfl rfl)
theorem dX1_isRest_29 : decode cX1_isRest 29 = .ok (.isub, 1) := dk_100 (dk_at dksX1_isRest_1 5 rfl rfl)
theorem dX1_isRest_30 : decode cX1_isRest 30 = .ok (.iload_n 3, 1) := dk_29 (dk_at dksX1_isRest_1 6 rfl rfl)
theorem dX1_isRest_31 : decode cX1_isRest 31 = .ok (.invokevirtual 335, 3) := dk_182 1 79 (dk_at dksX1_isRest_1 7 rfl rfl)
theorem dX1_isRest_34 : decode cX1_isRest 34 = .ok (.aload_n 0, 1) := dk_42 (dk_at dksX1_isRest_1 10 rfl rfl)
theorem dX1_isRest_35 : decode cX1_isRest 35 = .ok (.iload_n 2, 1) := dk_28 (dk_at dksX1_isRest_1 11 rfl rfl)
theorem dX1_isRest_36 : decode cX1_isRest 36 = .ok (.iload_n 1, 1) := dk_27 (dk_at dksX1_isRest_1 12 rfl rfl)
theorem dX1_isRest_37 : decode cX1_isRest 37 = .ok (.iload 4, 2) := dk_21 4 (dk_at dksX1_isRest_1 13 rfl rfl)
theorem dX1_isRest_39 : decode cX1_isRest 39 = .ok (.iload_n 3, 1) := dk_29 (dk_at dksX1_isRest_1 15 rfl rfl)
theorem dX1_isRest_40 : decode cX1_isRest 40 = .ok (.invokevirtual 335, 3) := dk_182 1 79 (dk_at dksX1_isRest_1 16 rfl rfl)
theorem dX1_isRest_43 : decode cX1_isRest 43 = .ok (.if_icmp .gt 7, 3) := dk_163 0 7 (dk_at dksX1_isRest_1 19 rfl rfl)
theorem dX1_isRest_46 : decode cX1_isRest 46 = .ok (.iconst 1, 1) := dk_4 (dk_at dksX1_isRest_1 22 rfl rfl)
theorem dX1_isRest_47 : decode cX1_isRest 47 = .ok (.goto 4, 3) := dk_167 0 4 (dk_at dksX1_isRest_2 0 rfl rfl)
theorem dX1_isRest_50 : decode cX1_isRest 50 = .ok (.iconst 0, 1) := dk_3 (dk_at dksX1_isRest_2 3 rfl rfl)
theorem dX1_isRest_51 : decode cX1_isRest 51 = .ok (.ireturn, 1) := dk_172 (dk_at dksX1_isRest_2 4 rfl rfl)
abbrev cX1_has : ByteArray := prog_1_method_48_code
def yX1_has : MethodName := ⟨RX1, "has", "(IIII)I"⟩
def dkwX1_has_3 : List UInt8 := [5, 108, 172]
abbrev dktX1_has_3 : List UInt8 := dkwX1_has_3 ++ []
def dkwX1_has_2 : List UInt8 := [21, 4, 154, 0, 14, 42, 27, 182, 0, 193, 180, 0, 206, 167, 0, 13, 42, 27, 182, 0, 193, 180, 0, 206]
abbrev dktX1_has_2 : List UInt8 := dkwX1_has_2 ++ dktX1_has_3
def dkwX1_has_1 : List UInt8 := [180, 0, 197, 100, 184, 1, 5, 100, 167, 0, 14, 42, 180, 0, 101, 180, 0, 203, 27, 46, 8, 108, 172]
abbrev dktX1_has_1 : List UInt8 := dkwX1_has_1 ++ dktX1_has_2
def dkwX1_has_0 : List UInt8 := [29, 154, 0, 46, 21, 4, 154, 0, 29, 16, 10, 42, 27, 182, 0, 193, 180, 0, 197, 42, 28, 182, 0, 193]
abbrev dktX1_has_0 : List UInt8 := dkwX1_has_0 ++ dktX1_has_1
theorem dksX1_has_0 : cX1_has.data.toList.drop 0 = dktX1_has_0 := by decide +kernel
theorem dksX1_has_1 : cX1_has.data.toList.drop 24 = dktX1_has_1 := dk_seg dksX1_has_0 24 rfl rfl
theorem dksX1_has_2 : cX1_has.data.toList.drop 47 = dktX1_has_2 := dk_seg dksX1_has_1 23 rfl rfl
theorem dksX1_has_3 : cX1_has.data.toList.drop 71 = dktX1_has_3 := dk_seg dksX1_has_2 24 rfl rfl
theorem dX1_has_0 : decode cX1_has 0 = .ok (.iload_n 3, 1) := dk_29 (dk_at dksX1_has_0 0 rfl rfl)
theorem dX1_has_1 : decode cX1_has 1 = .ok (.ifCond .ne 46, 3) := dk_154 0 46 (dk_at dksX1_has_0 1 rfl rfl)
theorem dX1_has_4 : decode cX1_has 4 = .ok (.iload 4, 2) := dk_21 4 (dk_at dksX1_has_0 4 rfl rfl)
theorem dX1_has_6 : decode cX1_has 6 = .ok (.ifCond .ne 29, 3) := dk_154 0 29 (dk_at dksX1_has_0 6 rfl rfl)
theorem dX1_has_9 : decode cX1_has 9 = .ok (.bipush 10, 2) := dk_16 10 (dk_at dksX1_has_0 9 rfl rfl)
theorem dX1_has_11 : decode cX1_has 11 = .ok (.aload_n 0, 1) := dk_42 (dk_at dksX1_has_0 11 rfl rfl)
theorem dX1_has_12 : decode cX1_has 12 = .ok (.iload_n 1, 1) := dk_27 (dk_at dksX1_has_0 12 rfl rfl)
theorem dX1_has_13 : decode cX1_has 13 = .ok (.invokevirtual 193, 3) := dk_182 0 193 (dk_at dksX1_has_0 13 rfl rfl)
theorem dX1_has_16 : decode cX1_has 16 = .ok (.getfield 197, 3) := dk_180 0 197 (dk_at dksX1_has_0 16 rfl rfl)
theorem dX1_has_19 : decode cX1_has 19 = .ok (.aload_n 0, 1) := dk_42 (dk_at dksX1_has_0 19 rfl rfl)
theorem dX1_has_20 : decode cX1_has 20 = .ok (.iload_n 2, 1) := dk_28 (dk_at dksX1_has_0 20 rfl rfl)
theorem dX1_has_21 : decode cX1_has 21 = .ok (.invokevirtual 193, 3) := dk_182 0 193 (dk_at dksX1_has_0 21 rfl rfl)
theorem dX1_has_24 : decode cX1_has 24 = .ok (.getfield 197, 3) := dk_180 0 197 (dk_at dksX1_has_1 0 rfl rfl)
theorem dX1_has_27 : decode cX1_has 27 = .ok (.isub, 1) := dk_100 (dk_at dksX1_has_1 3 rfl rfl)
theorem dX1_has_28 : decode cX1_has 28 = .ok (.invokestatic 261, 3) := dk_184 1 5 (dk_at dksX1_has_1 4 rfl rfl)
theorem dX1_has_31 : decode cX1_has 31 = .ok (.isub, 1) := dk_100 (dk_at dksX1_has_1 7 rfl rfl)
theorem dX1_has_32 : decode cX1_has 32 = .ok (.goto 14, 3) := dk_167 0 14 (dk_at dksX1_has_1 8 rfl rfl)
theorem dX1_has_35 : decode cX1_has 35 = .ok (.aload_n 0, 1) := dk_42 (dk_at dksX1_has_1 11 rfl rfl)
theorem dX1_has_36 : decode cX1_has 36 = .ok (.getfield 101, 3) := dk_180 0 101 (dk_at dksX1_has_1 12 rfl rfl)
theorem dX1_has_39 : decode cX1_has 39 = .ok (.getfield 203, 3) := dk_180 0 203 (dk_at dksX1_has_1 15 rfl rfl)
theorem dX1_has_42 : decode cX1_has 42 = .ok (.iload_n 1, 1) := dk_27 (dk_at dksX1_has_1 18 rfl rfl)
theorem dX1_has_43 : decode cX1_has 43 = .ok (.iaload, 1) := dk_46 (dk_at dksX1_has_1 19 rfl rfl)
theorem dX1_has_44 : decode cX1_has 44 = .ok (.iconst 5, 1) := dk_8 (dk_at dksX1_has_1 20 rfl rfl)
theorem dX1_has_45 : decode cX1_has 45 = .ok (.idiv, 1) := dk_108 (dk_at dksX1_has_1 21 rfl rfl)
theorem dX1_has_46 : decode cX1_has 46 = .ok (.ireturn, 1) := dk_172 (dk_at dksX1_has_1 22 rfl rfl)
theorem dX1_has_47 : decode cX1_has 47 = .ok (.iload 4, 2) := dk_21 4 (dk_at dksX1_has_2 0 rfl rfl)
theorem dX1_has_49 : decode cX1_has 49 = .ok (.ifCond .ne 14, 3) := dk_154 0 14 (dk_at dksX1_has_2 2 rfl rfl)
theorem dX1_has_52 : decode cX1_has 52 = .ok (.aload_n 0, 1) := dk_42 (dk_at dksX1_has_2 5 rfl rfl)
theorem dX1_has_53 : decode cX1_has 53 = .ok (.iload_n 1, 1) := dk_27 (dk_at dksX1_has_2 6 rfl rfl)
theorem dX1_has_54 : decode cX1_has 54 = .ok (.invokevirtual 193, 3) := dk_182 0 193 (dk_at dksX1_has_2 7 rfl rfl)
theorem dX1_has_57 : decode cX1_has 57 = .ok (.getfield 206, 3) := dk_180 0 206 (dk_at dksX1_has_2 10 rfl rfl)
theorem dX1_has_60 : decode cX1_has 60 = .ok (.goto 13, 3) := dk_167 0 13 (dk_at dksX1_has_2 13 rfl rfl)
theorem dX1_has_63 : decode cX1_has 63 = .ok (.aload_n 0, 1) := dk_42 (dk_at dksX1_has_2 16 rfl rfl)
theorem dX1_has_64 : decode cX1_has 64 = .ok (.iload_n 1, 1) := dk_27 (dk_at dksX1_has_2 17 rfl rfl)
theorem dX1_has_65 : decode cX1_has 65 = .ok (.invokevirtual 193, 3) := dk_182 0 193 (dk_at dksX1_has_2 18 rfl rfl)
theorem dX1_has_68 : decode cX1_has 68 = .ok (.getfield 206, 3) := dk_180 0 206 (dk_at dksX1_has_2 21 rfl rfl)
theorem dX1_has_71 : decode cX1_has 71 = .ok (.iconst 2, 1) := dk_5 (dk_at dksX1_has_3 0 rfl rfl)
theorem dX1_has_72 : decode cX1_has 72 = .ok (.idiv, 1) := dk_108 (dk_at dksX1_has_3 1 rfl rfl)
theorem dX1_has_73 : decode cX1_has 73 = .ok (.ireturn, 1) := dk_172 (dk_at dksX1_has_3 2 rfl rfl)
abbrev cX1_rest : ByteArray := prog_1_method_52_code
def yX1_rest : MethodName := ⟨RX1, "rest", "(III)I"⟩
def dkwX1_rest_1 : List UInt8 := [172]
abbrev dktX1_rest_1 : List UInt8 := dkwX1_rest_1 ++ []
def dkwX1_rest_0 : List UInt8 := [42, 27, 28, 182, 1, 47, 153, 0, 17, 29, 155, 0, 13, 42, 27, 28, 29, 182, 1, 87, 167, 0, 4, 2]
abbrev dktX1_rest_0 : List UInt8 := dkwX1_rest_0 ++ dktX1_rest_1
theorem dksX1_rest_0 : cX1_rest.data.toList.drop 0 = dktX1_rest_0 := by decide +kernel
theorem dksX1_rest_1 : cX1_rest.data.toList.drop 24 = dktX1_rest_1 := dk_seg dksX1_rest_0 24 rfl rfl
theorem dX1_rest_0 : decode cX1_rest 0 = .ok (.aload_n 0, 1) := dk_42 (dk_at dksX1_rest_0 0 rfl rfl)
theorem dX1_rest_1 : decode cX1_rest 1 = .ok (.iload_n 1, 1) := dk_27 (dk_at dksX1_rest_0 1 rfl rfl)
theorem dX1_rest_2 : decode cX1_rest 2 = .ok (.iload_n 2, 1) := dk_28 (dk_at dksX1_rest_0 2 rfl rfl)
theorem dX1_rest_3 : decode cX1_rest 3 = .ok (.invokevirtual 303, 3) := dk_182 1 47 (dk_at dksX1_rest_0 3 rfl rfl)
theorem dX1_rest_6 : decode cX1_rest 6 = .ok (.ifCond .eq 17, 3) := dk_153 0 17 (dk_at dksX1_rest_0 6 rfl rfl)
theorem dX1_rest_9 : decode cX1_rest 9 = .ok (.iload_n 3, 1) := dk_29 (dk_at dksX1_rest_0 9 rfl rfl)
theorem dX1_rest_10 : decode cX1_rest 10 = .ok (.ifCond .lt 13, 3) := dk_155 0 13 (dk_at dksX1_rest_0 10 rfl rfl)
theorem dX1_rest_13 : decode cX1_rest 13 = .ok (.aload_n 0, 1) := dk_42 (dk_at dksX1_rest_0 13 rfl rfl)
theorem dX1_rest_14 : decode cX1_rest 14 = .ok (.iload_n 1, 1) := dk_27 (dk_at dksX1_rest_0 14 rfl rfl)
theorem dX1_rest_15 : decode cX1_rest 15 = .ok (.iload_n 2, 1) := dk_28 (dk_at dksX1_rest_0 15 rfl rfl)
theorem dX1_rest_16 : decode cX1_rest 16 = .ok (.iload_n 3, 1) := dk_29 (dk_at dksX1_rest_0 16 rfl rfl)
theorem dX1_rest_17 : decode cX1_rest 17 = .ok (.invokevirtual 343, 3) := dk_182 1 87 (dk_at dksX1_rest_0 17 rfl rfl)
theorem dX1_rest_20 : decode cX1_rest 20 = .ok (.goto 4, 3) := dk_167 0 4 (dk_at dksX1_rest_0 20 rfl rfl)
theorem dX1_rest_23 : decode cX1_rest 23 = .ok (.iconst (-1), 1) := dk_2 (dk_at dksX1_rest_0 23 rfl rfl)
theorem dX1_rest_24 : decode cX1_rest 24 = .ok (.ireturn, 1) := dk_172 (dk_at dksX1_rest_1 0 rfl rfl)
abbrev cX1_staysDry : ByteArray := prog_1_method_54_code
def yX1_staysDry : MethodName := ⟨RX1, "staysDry", "(II)J"⟩
def dkwX1_staysDry_4 : List UInt8 := [173]
abbrev dktX1_staysDry_4 : List UInt8 := dkwX1_staysDry_4 ++ []
def dkwX1_staysDry_3 : List UInt8 := [33, 22, 5, 184, 1, 90, 55, 7, 28, 154, 0, 10, 33, 22, 7, 109, 167, 0, 8, 22, 5, 22, 7, 109]
abbrev dktX1_staysDry_3 : List UInt8 := dkwX1_staysDry_3 ++ dktX1_staysDry_4
def dkwX1_staysDry_2 : List UInt8 := [180, 0, 13, 180, 1, 97, 100, 133, 105, 66, 22, 5, 20, 1, 100, 105, 55, 5, 132, 7, 1, 167, 255, 225]
abbrev dktX1_staysDry_2 : List UInt8 := dkwX1_staysDry_2 ++ dktX1_staysDry_3
def dkwX1_staysDry_1 : List UInt8 := [20, 1, 95, 173, 10, 66, 10, 55, 5, 3, 54, 7, 21, 7, 27, 162, 0, 31, 33, 16, 100, 42]
abbrev dktX1_staysDry_1 : List UInt8 := dkwX1_staysDry_1 ++ dktX1_staysDry_2
def dkwX1_staysDry_0 : List UInt8 := [27, 133, 9, 20, 1, 93, 184, 0, 144, 153, 0, 13, 28, 133, 9, 10, 184, 0, 144, 154, 0, 7]
abbrev dktX1_staysDry_0 : List UInt8 := dkwX1_staysDry_0 ++ dktX1_staysDry_1
theorem dksX1_staysDry_0 : cX1_staysDry.data.toList.drop 0 = dktX1_staysDry_0 := by decide +kernel
theorem dksX1_staysDry_1 : cX1_staysDry.data.toList.drop 22 = dktX1_staysDry_1 := dk_seg dksX1_staysDry_0 22 rfl rfl
theorem dksX1_staysDry_2 : cX1_staysDry.data.toList.drop 44 = dktX1_staysDry_2 := dk_seg dksX1_staysDry_1 22 rfl rfl
theorem dksX1_staysDry_3 : cX1_staysDry.data.toList.drop 68 = dktX1_staysDry_3 := dk_seg dksX1_staysDry_2 24 rfl rfl
theorem dksX1_staysDry_4 : cX1_staysDry.data.toList.drop 92 = dktX1_staysDry_4 := dk_seg dksX1_staysDry_3 24 rfl rfl
theorem dX1_staysDry_0 : decode cX1_staysDry 0 = .ok (.iload_n 1, 1) := dk_27 (dk_at dksX1_staysDry_0 0 rfl rfl)
theorem dX1_staysDry_1 : decode cX1_staysDry 1 = .ok (.i2l, 1) := dk_133 (dk_at dksX1_staysDry_0 1 rfl rfl)
theorem dX1_staysDry_2 : decode cX1_staysDry 2 = .ok (.lconst 0, 1) := dk_9 (dk_at dksX1_staysDry_0 2 rfl rfl)
theorem dX1_staysDry_3 : decode cX1_staysDry 3 = .ok (.ldc2_w 349, 3) := dk_20 1 93 (dk_at dksX1_staysDry_0 3 rfl rfl)
theorem dX1_staysDry_6 : decode cX1_staysDry 6 = .ok (.invokestatic 144, 3) := dk_184 0 144 (dk_at dksX1_staysDry_0 6 rfl rfl)
theorem dX1_staysDry_9 : decode cX1_staysDry 9 = .ok (.ifCond .eq 13, 3) := dk_153 0 13 (dk_at dksX1_staysDry_0 9 rfl rfl)
theorem dX1_staysDry_12 : decode cX1_staysDry 12 = .ok (.iload_n 2, 1) := dk_28 (dk_at dksX1_staysDry_0 12 rfl rfl)
theorem dX1_staysDry_13 : decode cX1_staysDry 13 = .ok (.i2l, 1) := dk_133 (dk_at dksX1_staysDry_0 13 rfl rfl)
theorem dX1_staysDry_14 : decode cX1_staysDry 14 = .ok (.lconst 0, 1) := dk_9 (dk_at dksX1_staysDry_0 14 rfl rfl)
theorem dX1_staysDry_15 : decode cX1_staysDry 15 = .ok (.lconst 1, 1) := dk_10 (dk_at dksX1_staysDry_0 15 rfl rfl)
theorem dX1_staysDry_16 : decode cX1_staysDry 16 = .ok (.invokestatic 144, 3) := dk_184 0 144 (dk_at dksX1_staysDry_0 16 rfl rfl)
theorem dX1_staysDry_19 : decode cX1_staysDry 19 = .ok (.ifCond .ne 7, 3) := dk_154 0 7 (dk_at dksX1_staysDry_0 19 rfl rfl)
theorem dX1_staysDry_22 : decode cX1_staysDry 22 = .ok (.ldc2_w 351, 3) := dk_20 1 95 (dk_at dksX1_staysDry_1 0 rfl rfl)
theorem dX1_staysDry_25 : decode cX1_staysDry 25 = .ok (.lreturn, 1) := dk_173 (dk_at dksX1_staysDry_1 3 rfl rfl)
theorem dX1_staysDry_26 : decode cX1_staysDry 26 = .ok (.lconst 1, 1) := dk_10 (dk_at dksX1_staysDry_1 4 rfl rfl)
theorem dX1_staysDry_27 : decode cX1_staysDry 27 = .ok (.lstore_n 3, 1) := dk_66 (dk_at dksX1_staysDry_1 5 rfl rfl)
theorem dX1_staysDry_28 : decode cX1_staysDry 28 = .ok (.lconst 1, 1) := dk_10 (dk_at dksX1_staysDry_1 6 rfl rfl)
theorem dX1_staysDry_29 : decode cX1_staysDry 29 = .ok (.lstore 5, 2) := dk_55 5 (dk_at dksX1_staysDry_1 7 rfl rfl)
theorem dX1_staysDry_31 : decode cX1_staysDry 31 = .ok (.iconst 0, 1) := dk_3 (dk_at dksX1_staysDry_1 9 rfl rfl)
theorem dX1_staysDry_32 : decode cX1_staysDry 32 = .ok (.istore 7, 2) := dk_54 7 (dk_at dksX1_staysDry_1 10 rfl rfl)
theorem dX1_staysDry_34 : decode cX1_staysDry 34 = .ok (.iload 7, 2) := dk_21 7 (dk_at dksX1_staysDry_1 12 rfl rfl)
theorem dX1_staysDry_36 : decode cX1_staysDry 36 = .ok (.iload_n 1, 1) := dk_27 (dk_at dksX1_staysDry_1 14 rfl rfl)
theorem dX1_staysDry_37 : decode cX1_staysDry 37 = .ok (.if_icmp .ge 31, 3) := dk_162 0 31 (dk_at dksX1_staysDry_1 15 rfl rfl)
theorem dX1_staysDry_40 : decode cX1_staysDry 40 = .ok (.lload_n 3, 1) := dk_33 (dk_at dksX1_staysDry_1 18 rfl rfl)
theorem dX1_staysDry_41 : decode cX1_staysDry 41 = .ok (.bipush 100, 2) := dk_16 100 (dk_at dksX1_staysDry_1 19 rfl rfl)
theorem dX1_staysDry_43 : decode cX1_staysDry 43 = .ok (.aload_n 0, 1) := dk_42 (dk_at dksX1_staysDry_1 21 rfl rfl)
theorem dX1_staysDry_44 : decode cX1_staysDry 44 = .ok (.getfield 13, 3) := dk_180 0 13 (dk_at dksX1_staysDry_2 0 rfl rfl)
theorem dX1_staysDry_47 : decode cX1_staysDry 47 = .ok (.getfield 353, 3) := dk_180 1 97 (dk_at dksX1_staysDry_2 3 rfl rfl)
theorem dX1_staysDry_50 : decode cX1_staysDry 50 = .ok (.isub, 1) := dk_100 (dk_at dksX1_staysDry_2 6 rfl rfl)
theorem dX1_staysDry_51 : decode cX1_staysDry 51 = .ok (.i2l, 1) := dk_133 (dk_at dksX1_staysDry_2 7 rfl rfl)
theorem dX1_staysDry_52 : decode cX1_staysDry 52 = .ok (.lmul, 1) := dk_105 (dk_at dksX1_staysDry_2 8 rfl rfl)
theorem dX1_staysDry_53 : decode cX1_staysDry 53 = .ok (.lstore_n 3, 1) := dk_66 (dk_at dksX1_staysDry_2 9 rfl rfl)
theorem dX1_staysDry_54 : decode cX1_staysDry 54 = .ok (.lload 5, 2) := dk_22 5 (dk_at dksX1_staysDry_2 10 rfl rfl)
theorem dX1_staysDry_56 : decode cX1_staysDry 56 = .ok (.ldc2_w 356, 3) := dk_20 1 100 (dk_at dksX1_staysDry_2 12 rfl rfl)
theorem dX1_staysDry_59 : decode cX1_staysDry 59 = .ok (.lmul, 1) := dk_105 (dk_at dksX1_staysDry_2 15 rfl rfl)
theorem dX1_staysDry_60 : decode cX1_staysDry 60 = .ok (.lstore 5, 2) := dk_55 5 (dk_at dksX1_staysDry_2 16 rfl rfl)
theorem dX1_staysDry_62 : decode cX1_staysDry 62 = .ok (.iinc 7 1, 3) := dk_132 7 1 (dk_at dksX1_staysDry_2 18 rfl rfl)
theorem dX1_staysDry_65 : decode cX1_staysDry 65 = .ok (.goto (-31), 3) := dk_167 255 225 (dk_at dksX1_staysDry_2 21 rfl rfl)
theorem dX1_staysDry_68 : decode cX1_staysDry 68 = .ok (.lload_n 3, 1) := dk_33 (dk_at dksX1_staysDry_3 0 rfl rfl)
theorem dX1_staysDry_69 : decode cX1_staysDry 69 = .ok (.lload 5, 2) := dk_22 5 (dk_at dksX1_staysDry_3 1 rfl rfl)
theorem dX1_staysDry_71 : decode cX1_staysDry 71 = .ok (.invokestatic 346, 3) := dk_184 1 90 (dk_at dksX1_staysDry_3 3 rfl rfl)
theorem dX1_staysDry_74 : decode cX1_staysDry 74 = .ok (.lstore 7, 2) := dk_55 7 (dk_at dksX1_staysDry_3 6 rfl rfl)
theorem dX1_staysDry_76 : decode cX1_staysDry 76 = .ok (.iload_n 2, 1) := dk_28 (dk_at dksX1_staysDry_3 8 rfl rfl)
theorem dX1_staysDry_77 : decode cX1_staysDry 77 = .ok (.ifCond .ne 10, 3) := dk_154 0 10 (dk_at dksX1_staysDry_3 9 rfl rfl)
theorem dX1_staysDry_80 : decode cX1_staysDry 80 = .ok (.lload_n 3, 1) := dk_33 (dk_at dksX1_staysDry_3 12 rfl rfl)
theorem dX1_staysDry_81 : decode cX1_staysDry 81 = .ok (.lload 7, 2) := dk_22 7 (dk_at dksX1_staysDry_3 13 rfl rfl)
theorem dX1_staysDry_83 : decode cX1_staysDry 83 = .ok (.ldiv, 1) := dk_109 (dk_at dksX1_staysDry_3 15 rfl rfl)
theorem dX1_staysDry_84 : decode cX1_staysDry 84 = .ok (.goto 8, 3) := dk_167 0 8 (dk_at dksX1_staysDry_3 16 rfl rfl)
theorem dX1_staysDry_87 : decode cX1_staysDry 87 = .ok (.lload 5, 2) := dk_22 5 (dk_at dksX1_staysDry_3 19 rfl rfl)
theorem dX1_staysDry_89 : decode cX1_staysDry 89 = .ok (.lload 7, 2) := dk_22 7 (dk_at dksX1_staysDry_3 21 rfl rfl)
theorem dX1_staysDry_91 : decode cX1_staysDry 91 = .ok (.ldiv, 1) := dk_109 (dk_at dksX1_staysDry_3 23 rfl rfl)
theorem dX1_staysDry_92 : decode cX1_staysDry 92 = .ok (.lreturn, 1) := dk_173 (dk_at dksX1_staysDry_4 0 rfl rfl)
abbrev cX1_common : ByteArray := prog_1_method_53_code
def yX1_common : MethodName := ⟨RX1, "common", "(JJ)J"⟩
def dkwX1_common_0 : List UInt8 := [32, 9, 148, 154, 0, 7, 30, 167, 0, 10, 32, 30, 32, 113, 184, 1, 90, 173]
abbrev dktX1_common_0 : List UInt8 := dkwX1_common_0 ++ []
theorem dksX1_common_0 : cX1_common.data.toList.drop 0 = dktX1_common_0 := by decide +kernel
theorem dX1_common_0 : decode cX1_common 0 = .ok (.lload_n 2, 1) := dk_32 (dk_at dksX1_common_0 0 rfl rfl)
theorem dX1_common_1 : decode cX1_common 1 = .ok (.lconst 0, 1) := dk_9 (dk_at dksX1_common_0 1 rfl rfl)
theorem dX1_common_2 : decode cX1_common 2 = .ok (.lcmp, 1) := dk_148 (dk_at dksX1_common_0 2 rfl rfl)
theorem dX1_common_3 : decode cX1_common 3 = .ok (.ifCond .ne 7, 3) := dk_154 0 7 (dk_at dksX1_common_0 3 rfl rfl)
theorem dX1_common_6 : decode cX1_common 6 = .ok (.lload_n 0, 1) := dk_30 (dk_at dksX1_common_0 6 rfl rfl)
theorem dX1_common_7 : decode cX1_common 7 = .ok (.goto 10, 3) := dk_167 0 10 (dk_at dksX1_common_0 7 rfl rfl)
theorem dX1_common_10 : decode cX1_common 10 = .ok (.lload_n 2, 1) := dk_32 (dk_at dksX1_common_0 10 rfl rfl)
theorem dX1_common_11 : decode cX1_common 11 = .ok (.lload_n 0, 1) := dk_30 (dk_at dksX1_common_0 11 rfl rfl)
theorem dX1_common_12 : decode cX1_common 12 = .ok (.lload_n 2, 1) := dk_32 (dk_at dksX1_common_0 12 rfl rfl)
theorem dX1_common_13 : decode cX1_common 13 = .ok (.lrem, 1) := dk_113 (dk_at dksX1_common_0 13 rfl rfl)
theorem dX1_common_14 : decode cX1_common 14 = .ok (.invokestatic 346, 3) := dk_184 1 90 (dk_at dksX1_common_0 14 rfl rfl)
theorem dX1_common_17 : decode cX1_common 17 = .ok (.lreturn, 1) := dk_173 (dk_at dksX1_common_0 17 rfl rfl)
abbrev cX1_peace : ByteArray := prog_1_method_55_code
def yX1_peace : MethodName := ⟨RX1, "peace", "(II)I"⟩
def dkwX1_peace_2 : List UInt8 := [180, 0, 101, 180, 1, 107, 29, 122, 2, 130, 126, 4, 126, 172]
abbrev dktX1_peace_2 : List UInt8 := dkwX1_peace_2 ++ []
def dkwX1_peace_1 : List UInt8 := [27, 28, 160, 0, 5, 2, 172, 7, 27, 104, 28, 96, 62, 42, 180, 0, 101, 180, 1, 104, 29, 122, 42]
abbrev dktX1_peace_1 : List UInt8 := dkwX1_peace_1 ++ dktX1_peace_2
def dkwX1_peace_0 : List UInt8 := [27, 133, 9, 20, 1, 102, 184, 0, 144, 153, 0, 20, 28, 133, 9, 20, 1, 102, 184, 0, 144, 153, 0, 8]
abbrev dktX1_peace_0 : List UInt8 := dkwX1_peace_0 ++ dktX1_peace_1
theorem dksX1_peace_0 : cX1_peace.data.toList.drop 0 = dktX1_peace_0 := by decide +kernel
theorem dksX1_peace_1 : cX1_peace.data.toList.drop 24 = dktX1_peace_1 := dk_seg dksX1_peace_0 24 rfl rfl
theorem dksX1_peace_2 : cX1_peace.data.toList.drop 47 = dktX1_peace_2 := dk_seg dksX1_peace_1 23 rfl rfl
theorem dX1_peace_0 : decode cX1_peace 0 = .ok (.iload_n 1, 1) := dk_27 (dk_at dksX1_peace_0 0 rfl rfl)
theorem dX1_peace_1 : decode cX1_peace 1 = .ok (.i2l, 1) := dk_133 (dk_at dksX1_peace_0 1 rfl rfl)
theorem dX1_peace_2 : decode cX1_peace 2 = .ok (.lconst 0, 1) := dk_9 (dk_at dksX1_peace_0 2 rfl rfl)
theorem dX1_peace_3 : decode cX1_peace 3 = .ok (.ldc2_w 358, 3) := dk_20 1 102 (dk_at dksX1_peace_0 3 rfl rfl)
theorem dX1_peace_6 : decode cX1_peace 6 = .ok (.invokestatic 144, 3) := dk_184 0 144 (dk_at dksX1_peace_0 6 rfl rfl)
theorem dX1_peace_9 : decode cX1_peace 9 = .ok (.ifCond .eq 20, 3) := dk_153 0 20 (dk_at dksX1_peace_0 9 rfl rfl)
theorem dX1_peace_12 : decode cX1_peace 12 = .ok (.iload_n 2, 1) := dk_28 (dk_at dksX1_peace_0 12 rfl rfl)
theorem dX1_peace_13 : decode cX1_peace 13 = .ok (.i2l, 1) := dk_133 (dk_at dksX1_peace_0 13 rfl rfl)
theorem dX1_peace_14 : decode cX1_peace 14 = .ok (.lconst 0, 1) := dk_9 (dk_at dksX1_peace_0 14 rfl rfl)
theorem dX1_peace_15 : decode cX1_peace 15 = .ok (.ldc2_w 358, 3) := dk_20 1 102 (dk_at dksX1_peace_0 15 rfl rfl)
theorem dX1_peace_18 : decode cX1_peace 18 = .ok (.invokestatic 144, 3) := dk_184 0 144 (dk_at dksX1_peace_0 18 rfl rfl)
theorem dX1_peace_21 : decode cX1_peace 21 = .ok (.ifCond .eq 8, 3) := dk_153 0 8 (dk_at dksX1_peace_0 21 rfl rfl)
theorem dX1_peace_24 : decode cX1_peace 24 = .ok (.iload_n 1, 1) := dk_27 (dk_at dksX1_peace_1 0 rfl rfl)
theorem dX1_peace_25 : decode cX1_peace 25 = .ok (.iload_n 2, 1) := dk_28 (dk_at dksX1_peace_1 1 rfl rfl)
theorem dX1_peace_26 : decode cX1_peace 26 = .ok (.if_icmp .ne 5, 3) := dk_160 0 5 (dk_at dksX1_peace_1 2 rfl rfl)
theorem dX1_peace_29 : decode cX1_peace 29 = .ok (.iconst (-1), 1) := dk_2 (dk_at dksX1_peace_1 5 rfl rfl)
theorem dX1_peace_30 : decode cX1_peace 30 = .ok (.ireturn, 1) := dk_172 (dk_at dksX1_peace_1 6 rfl rfl)
theorem dX1_peace_31 : decode cX1_peace 31 = .ok (.iconst 4, 1) := dk_7 (dk_at dksX1_peace_1 7 rfl rfl)
theorem dX1_peace_32 : decode cX1_peace 32 = .ok (.iload_n 1, 1) := dk_27 (dk_at dksX1_peace_1 8 rfl rfl)
theorem dX1_peace_33 : decode cX1_peace 33 = .ok (.imul, 1) := dk_104 (dk_at dksX1_peace_1 9 rfl rfl)
theorem dX1_peace_34 : decode cX1_peace 34 = .ok (.iload_n 2, 1) := dk_28 (dk_at dksX1_peace_1 10 rfl rfl)
theorem dX1_peace_35 : decode cX1_peace 35 = .ok (.iadd, 1) := dk_96 (dk_at dksX1_peace_1 11 rfl rfl)
theorem dX1_peace_36 : decode cX1_peace 36 = .ok (.istore_n 3, 1) := dk_62 (dk_at dksX1_peace_1 12 rfl rfl)
theorem dX1_peace_37 : decode cX1_peace 37 = .ok (.aload_n 0, 1) := dk_42 (dk_at dksX1_peace_1 13 rfl rfl)
theorem dX1_peace_38 : decode cX1_peace 38 = .ok (.getfield 101, 3) := dk_180 0 101 (dk_at dksX1_peace_1 14 rfl rfl)
theorem dX1_peace_41 : decode cX1_peace 41 = .ok (.getfield 360, 3) := dk_180 1 104 (dk_at dksX1_peace_1 17 rfl rfl)
theorem dX1_peace_44 : decode cX1_peace 44 = .ok (.iload_n 3, 1) := dk_29 (dk_at dksX1_peace_1 20 rfl rfl)
theorem dX1_peace_45 : decode cX1_peace 45 = .ok (.ishr, 1) := dk_122 (dk_at dksX1_peace_1 21 rfl rfl)
theorem dX1_peace_46 : decode cX1_peace 46 = .ok (.aload_n 0, 1) := dk_42 (dk_at dksX1_peace_1 22 rfl rfl)
theorem dX1_peace_47 : decode cX1_peace 47 = .ok (.getfield 101, 3) := dk_180 0 101 (dk_at dksX1_peace_2 0 rfl rfl)
theorem dX1_peace_50 : decode cX1_peace 50 = .ok (.getfield 363, 3) := dk_180 1 107 (dk_at dksX1_peace_2 3 rfl rfl)
theorem dX1_peace_53 : decode cX1_peace 53 = .ok (.iload_n 3, 1) := dk_29 (dk_at dksX1_peace_2 6 rfl rfl)
theorem dX1_peace_54 : decode cX1_peace 54 = .ok (.ishr, 1) := dk_122 (dk_at dksX1_peace_2 7 rfl rfl)
theorem dX1_peace_55 : decode cX1_peace 55 = .ok (.iconst (-1), 1) := dk_2 (dk_at dksX1_peace_2 8 rfl rfl)
theorem dX1_peace_56 : decode cX1_peace 56 = .ok (.ixor, 1) := dk_130 (dk_at dksX1_peace_2 9 rfl rfl)
theorem dX1_peace_57 : decode cX1_peace 57 = .ok (.iand, 1) := dk_126 (dk_at dksX1_peace_2 10 rfl rfl)
theorem dX1_peace_58 : decode cX1_peace 58 = .ok (.iconst 1, 1) := dk_4 (dk_at dksX1_peace_2 11 rfl rfl)
theorem dX1_peace_59 : decode cX1_peace 59 = .ok (.iand, 1) := dk_126 (dk_at dksX1_peace_2 12 rfl rfl)
theorem dX1_peace_60 : decode cX1_peace 60 = .ok (.ireturn, 1) := dk_172 (dk_at dksX1_peace_2 13 rfl rfl)
abbrev cX1_thirstiest : ByteArray := prog_1_method_56_code
def yX1_thirstiest : MethodName := ⟨RX1, "thirstiest", "()I"⟩
def dkwX1_thirstiest_2 : List UInt8 := [164, 0, 5, 28, 60, 132, 2, 1, 167, 255, 205, 27, 172]
abbrev dktX1_thirstiest_2 : List UInt8 := dkwX1_thirstiest_2 ++ []
def dkwX1_thirstiest_1 : List UInt8 := [27, 16, 254, 159, 0, 24, 42, 180, 0, 101, 180, 0, 203, 28, 46, 42, 180, 0, 101, 180, 0, 203, 27, 46]
abbrev dktX1_thirstiest_1 : List UInt8 := dkwX1_thirstiest_1 ++ dktX1_thirstiest_2
def dkwX1_thirstiest_0 : List UInt8 := [16, 254, 60, 3, 61, 28, 42, 182, 0, 184, 162, 0, 49, 42, 180, 0, 101, 28, 182, 0, 219, 153, 0, 32]
abbrev dktX1_thirstiest_0 : List UInt8 := dkwX1_thirstiest_0 ++ dktX1_thirstiest_1
theorem dksX1_thirstiest_0 : cX1_thirstiest.data.toList.drop 0 = dktX1_thirstiest_0 := by decide +kernel
theorem dksX1_thirstiest_1 : cX1_thirstiest.data.toList.drop 24 = dktX1_thirstiest_1 := dk_seg dksX1_thirstiest_0 24 rfl rfl
theorem dksX1_thirstiest_2 : cX1_thirstiest.data.toList.drop 48 = dktX1_thirstiest_2 := dk_seg dksX1_thirstiest_1 24 rfl rfl
theorem dX1_thirstiest_0 : decode cX1_thirstiest 0 = .ok (.bipush (-2), 2) := dk_16 254 (dk_at dksX1_thirstiest_0 0 rfl rfl)
theorem dX1_thirstiest_2 : decode cX1_thirstiest 2 = .ok (.istore_n 1, 1) := dk_60 (dk_at dksX1_thirstiest_0 2 rfl rfl)
theorem dX1_thirstiest_3 : decode cX1_thirstiest 3 = .ok (.iconst 0, 1) := dk_3 (dk_at dksX1_thirstiest_0 3 rfl rfl)
theorem dX1_thirstiest_4 : decode cX1_thirstiest 4 = .ok (.istore_n 2, 1) := dk_61 (dk_at dksX1_thirstiest_0 4 rfl rfl)
theorem dX1_thirstiest_5 : decode cX1_thirstiest 5 = .ok (.iload_n 2, 1) := dk_28 (dk_at dksX1_thirstiest_0 5 rfl rfl)
theorem dX1_thirstiest_6 : decode cX1_thirstiest 6 = .ok (.aload_n 0, 1) := dk_42 (dk_at dksX1_thirstiest_0 6 rfl rfl)
theorem dX1_thirstiest_7 : decode cX1_thirstiest 7 = .ok (.invokevirtual 184, 3) := dk_182 0 184 (dk_at dksX1_thirstiest_0 7 rfl rfl)
theorem dX1_thirstiest_10 : decode cX1_thirstiest 10 = .ok (.if_icmp .ge 49, 3) := dk_162 0 49 (dk_at dksX1_thirstiest_0 10 rfl rfl)
theorem dX1_thirstiest_13 : decode cX1_thirstiest 13 = .ok (.aload_n 0, 1) := dk_42 (dk_at dksX1_thirstiest_0 13 rfl rfl)
theorem dX1_thirstiest_14 : decode cX1_thirstiest 14 = .ok (.getfield 101, 3) := dk_180 0 101 (dk_at dksX1_thirstiest_0 14 rfl rfl)
theorem dX1_thirstiest_17 : decode cX1_thirstiest 17 = .ok (.iload_n 2, 1) := dk_28 (dk_at dksX1_thirstiest_0 17 rfl rfl)
theorem dX1_thirstiest_18 : decode cX1_thirstiest 18 = .ok (.invokevirtual 219, 3) := dk_182 0 219 (dk_at dksX1_thirstiest_0 18 rfl rfl)
theorem dX1_thirstiest_21 : decode cX1_thirstiest 21 = .ok (.ifCond .eq 32, 3) := dk_153 0 32 (dk_at dksX1_thirstiest_0 21 rfl rfl)
theorem dX1_thirstiest_24 : decode cX1_thirstiest 24 = .ok (.iload_n 1, 1) := dk_27 (dk_at dksX1_thirstiest_1 0 rfl rfl)
theorem dX1_thirstiest_25 : decode cX1_thirstiest 25 = .ok (.bipush (-2), 2) := dk_16 254 (dk_at dksX1_thirstiest_1 1 rfl rfl)
theorem dX1_thirstiest_27 : decode cX1_thirstiest 27 = .ok (.if_icmp .eq 24, 3) := dk_159 0 24 (dk_at dksX1_thirstiest_1 3 rfl rfl)
theorem dX1_thirstiest_30 : decode cX1_thirstiest 30 = .ok (.aload_n 0, 1) := dk_42 (dk_at dksX1_thirstiest_1 6 rfl rfl)
theorem dX1_thirstiest_31 : decode cX1_thirstiest 31 = .ok (.getfield 101, 3) := dk_180 0 101 (dk_at dksX1_thirstiest_1 7 rfl rfl)
theorem dX1_thirstiest_34 : decode cX1_thirstiest 34 = .ok (.getfield 203, 3) := dk_180 0 203 (dk_at dksX1_thirstiest_1 10 rfl rfl)
theorem dX1_thirstiest_37 : decode cX1_thirstiest 37 = .ok (.iload_n 2, 1) := dk_28 (dk_at dksX1_thirstiest_1 13 rfl rfl)
theorem dX1_thirstiest_38 : decode cX1_thirstiest 38 = .ok (.iaload, 1) := dk_46 (dk_at dksX1_thirstiest_1 14 rfl rfl)
theorem dX1_thirstiest_39 : decode cX1_thirstiest 39 = .ok (.aload_n 0, 1) := dk_42 (dk_at dksX1_thirstiest_1 15 rfl rfl)
theorem dX1_thirstiest_40 : decode cX1_thirstiest 40 = .ok (.getfield 101, 3) := dk_180 0 101 (dk_at dksX1_thirstiest_1 16 rfl rfl)
theorem dX1_thirstiest_43 : decode cX1_thirstiest 43 = .ok (.getfield 203, 3) := dk_180 0 203 (dk_at dksX1_thirstiest_1 19 rfl rfl)
theorem dX1_thirstiest_46 : decode cX1_thirstiest 46 = .ok (.iload_n 1, 1) := dk_27 (dk_at dksX1_thirstiest_1 22 rfl rfl)
theorem dX1_thirstiest_47 : decode cX1_thirstiest 47 = .ok (.iaload, 1) := dk_46 (dk_at dksX1_thirstiest_1 23 rfl rfl)
theorem dX1_thirstiest_48 : decode cX1_thirstiest 48 = .ok (.if_icmp .le 5, 3) := dk_164 0 5 (dk_at dksX1_thirstiest_2 0 rfl rfl)
theorem dX1_thirstiest_51 : decode cX1_thirstiest 51 = .ok (.iload_n 2, 1) := dk_28 (dk_at dksX1_thirstiest_2 3 rfl rfl)
theorem dX1_thirstiest_52 : decode cX1_thirstiest 52 = .ok (.istore_n 1, 1) := dk_60 (dk_at dksX1_thirstiest_2 4 rfl rfl)
theorem dX1_thirstiest_53 : decode cX1_thirstiest 53 = .ok (.iinc 2 1, 3) := dk_132 2 1 (dk_at dksX1_thirstiest_2 5 rfl rfl)
theorem dX1_thirstiest_56 : decode cX1_thirstiest 56 = .ok (.goto (-51), 3) := dk_167 255 205 (dk_at dksX1_thirstiest_2 8 rfl rfl)
theorem dX1_thirstiest_59 : decode cX1_thirstiest 59 = .ok (.iload_n 1, 1) := dk_27 (dk_at dksX1_thirstiest_2 11 rfl rfl)
theorem dX1_thirstiest_60 : decode cX1_thirstiest 60 = .ok (.ireturn, 1) := dk_172 (dk_at dksX1_thirstiest_2 12 rfl rfl)
abbrev cX1_driest : ByteArray := prog_1_method_57_code
def yX1_driest : MethodName := ⟨RX1, "driest", "()I"⟩
def dkwX1_driest_1 : List UInt8 := [28, 46, 42, 180, 0, 101, 180, 0, 236, 27, 46, 162, 0, 5, 28, 60, 132, 2, 1, 167, 255, 217, 27, 172]
abbrev dktX1_driest_1 : List UInt8 := dkwX1_driest_1 ++ []
def dkwX1_driest_0 : List UInt8 := [2, 60, 3, 61, 28, 42, 182, 0, 182, 162, 0, 37, 27, 2, 159, 0, 24, 42, 180, 0, 101, 180, 0, 236]
abbrev dktX1_driest_0 : List UInt8 := dkwX1_driest_0 ++ dktX1_driest_1
theorem dksX1_driest_0 : cX1_driest.data.toList.drop 0 = dktX1_driest_0 := by decide +kernel
theorem dksX1_driest_1 : cX1_driest.data.toList.drop 24 = dktX1_driest_1 := dk_seg dksX1_driest_0 24 rfl rfl
theorem dX1_driest_0 : decode cX1_driest 0 = .ok (.iconst (-1), 1) := dk_2 (dk_at dksX1_driest_0 0 rfl rfl)
theorem dX1_driest_1 : decode cX1_driest 1 = .ok (.istore_n 1, 1) := dk_60 (dk_at dksX1_driest_0 1 rfl rfl)
theorem dX1_driest_2 : decode cX1_driest 2 = .ok (.iconst 0, 1) := dk_3 (dk_at dksX1_driest_0 2 rfl rfl)
theorem dX1_driest_3 : decode cX1_driest 3 = .ok (.istore_n 2, 1) := dk_61 (dk_at dksX1_driest_0 3 rfl rfl)
theorem dX1_driest_4 : decode cX1_driest 4 = .ok (.iload_n 2, 1) := dk_28 (dk_at dksX1_driest_0 4 rfl rfl)
theorem dX1_driest_5 : decode cX1_driest 5 = .ok (.aload_n 0, 1) := dk_42 (dk_at dksX1_driest_0 5 rfl rfl)
theorem dX1_driest_6 : decode cX1_driest 6 = .ok (.invokevirtual 182, 3) := dk_182 0 182 (dk_at dksX1_driest_0 6 rfl rfl)
theorem dX1_driest_9 : decode cX1_driest 9 = .ok (.if_icmp .ge 37, 3) := dk_162 0 37 (dk_at dksX1_driest_0 9 rfl rfl)
theorem dX1_driest_12 : decode cX1_driest 12 = .ok (.iload_n 1, 1) := dk_27 (dk_at dksX1_driest_0 12 rfl rfl)
theorem dX1_driest_13 : decode cX1_driest 13 = .ok (.iconst (-1), 1) := dk_2 (dk_at dksX1_driest_0 13 rfl rfl)
theorem dX1_driest_14 : decode cX1_driest 14 = .ok (.if_icmp .eq 24, 3) := dk_159 0 24 (dk_at dksX1_driest_0 14 rfl rfl)
theorem dX1_driest_17 : decode cX1_driest 17 = .ok (.aload_n 0, 1) := dk_42 (dk_at dksX1_driest_0 17 rfl rfl)
theorem dX1_driest_18 : decode cX1_driest 18 = .ok (.getfield 101, 3) := dk_180 0 101 (dk_at dksX1_driest_0 18 rfl rfl)
theorem dX1_driest_21 : decode cX1_driest 21 = .ok (.getfield 236, 3) := dk_180 0 236 (dk_at dksX1_driest_0 21 rfl rfl)
theorem dX1_driest_24 : decode cX1_driest 24 = .ok (.iload_n 2, 1) := dk_28 (dk_at dksX1_driest_1 0 rfl rfl)
theorem dX1_driest_25 : decode cX1_driest 25 = .ok (.iaload, 1) := dk_46 (dk_at dksX1_driest_1 1 rfl rfl)
theorem dX1_driest_26 : decode cX1_driest 26 = .ok (.aload_n 0, 1) := dk_42 (dk_at dksX1_driest_1 2 rfl rfl)
theorem dX1_driest_27 : decode cX1_driest 27 = .ok (.getfield 101, 3) := dk_180 0 101 (dk_at dksX1_driest_1 3 rfl rfl)
theorem dX1_driest_30 : decode cX1_driest 30 = .ok (.getfield 236, 3) := dk_180 0 236 (dk_at dksX1_driest_1 6 rfl rfl)
theorem dX1_driest_33 : decode cX1_driest 33 = .ok (.iload_n 1, 1) := dk_27 (dk_at dksX1_driest_1 9 rfl rfl)
theorem dX1_driest_34 : decode cX1_driest 34 = .ok (.iaload, 1) := dk_46 (dk_at dksX1_driest_1 10 rfl rfl)
theorem dX1_driest_35 : decode cX1_driest 35 = .ok (.if_icmp .ge 5, 3) := dk_162 0 5 (dk_at dksX1_driest_1 11 rfl rfl)
theorem dX1_driest_38 : decode cX1_driest 38 = .ok (.iload_n 2, 1) := dk_28 (dk_at dksX1_driest_1 14 rfl rfl)
theorem dX1_driest_39 : decode cX1_driest 39 = .ok (.istore_n 1, 1) := dk_60 (dk_at dksX1_driest_1 15 rfl rfl)
theorem dX1_driest_40 : decode cX1_driest 40 = .ok (.iinc 2 1, 3) := dk_132 2 1 (dk_at dksX1_driest_1 16 rfl rfl)
theorem dX1_driest_43 : decode cX1_driest 43 = .ok (.goto (-39), 3) := dk_167 255 217 (dk_at dksX1_driest_1 19 rfl rfl)
theorem dX1_driest_46 : decode cX1_driest 46 = .ok (.iload_n 1, 1) := dk_27 (dk_at dksX1_driest_1 22 rfl rfl)
theorem dX1_driest_47 : decode cX1_driest 47 = .ok (.ireturn, 1) := dk_172 (dk_at dksX1_driest_1 23 rfl rfl)
abbrev cX1_nearest : ByteArray := prog_1_method_58_code
def yX1_nearest : MethodName := ⟨RX1, "nearest", "(I)I"⟩
def dkwX1_nearest_3 : List UInt8 := [162, 0, 5, 29, 61, 132, 3, 1, 167, 255, 192, 28, 172]
abbrev dktX1_nearest_3 : List UInt8 := dkwX1_nearest_3 ++ []
def dkwX1_nearest_2 : List UInt8 := [184, 1, 5, 42, 28, 182, 0, 228, 180, 0, 232, 42, 180, 0, 101, 180, 0, 200, 27, 46, 100, 184, 1, 5]
abbrev dktX1_nearest_2 : List UInt8 := dkwX1_nearest_2 ++ dktX1_nearest_3
def dkwX1_nearest_1 : List UInt8 := [16, 254, 159, 0, 48, 42, 29, 182, 0, 228, 180, 0, 232, 42, 180, 0, 101, 180, 0, 200, 27, 46, 100]
abbrev dktX1_nearest_1 : List UInt8 := dkwX1_nearest_1 ++ dktX1_nearest_2
def dkwX1_nearest_0 : List UInt8 := [42, 27, 182, 0, 186, 154, 0, 5, 2, 172, 16, 254, 61, 3, 62, 29, 42, 182, 0, 182, 162, 0, 62, 28]
abbrev dktX1_nearest_0 : List UInt8 := dkwX1_nearest_0 ++ dktX1_nearest_1
theorem dksX1_nearest_0 : cX1_nearest.data.toList.drop 0 = dktX1_nearest_0 := by decide +kernel
theorem dksX1_nearest_1 : cX1_nearest.data.toList.drop 24 = dktX1_nearest_1 := dk_seg dksX1_nearest_0 24 rfl rfl
theorem dksX1_nearest_2 : cX1_nearest.data.toList.drop 47 = dktX1_nearest_2 := dk_seg dksX1_nearest_1 23 rfl rfl
theorem dksX1_nearest_3 : cX1_nearest.data.toList.drop 71 = dktX1_nearest_3 := dk_seg dksX1_nearest_2 24 rfl rfl
theorem dX1_nearest_0 : decode cX1_nearest 0 = .ok (.aload_n 0, 1) := dk_42 (dk_at dksX1_nearest_0 0 rfl rfl)
theorem dX1_nearest_1 : decode cX1_nearest 1 = .ok (.iload_n 1, 1) := dk_27 (dk_at dksX1_nearest_0 1 rfl rfl)
theorem dX1_nearest_2 : decode cX1_nearest 2 = .ok (.invokevirtual 186, 3) := dk_182 0 186 (dk_at dksX1_nearest_0 2 rfl rfl)
theorem dX1_nearest_5 : decode cX1_nearest 5 = .ok (.ifCond .ne 5, 3) := dk_154 0 5 (dk_at dksX1_nearest_0 5 rfl rfl)
theorem dX1_nearest_8 : decode cX1_nearest 8 = .ok (.iconst (-1), 1) := dk_2 (dk_at dksX1_nearest_0 8 rfl rfl)
theorem dX1_nearest_9 : decode cX1_nearest 9 = .ok (.ireturn, 1) := dk_172 (dk_at dksX1_nearest_0 9 rfl rfl)
theorem dX1_nearest_10 : decode cX1_nearest 10 = .ok (.bipush (-2), 2) := dk_16 254 (dk_at dksX1_nearest_0 10 rfl rfl)
theorem dX1_nearest_12 : decode cX1_nearest 12 = .ok (.istore_n 2, 1) := dk_61 (dk_at dksX1_nearest_0 12 rfl rfl)
theorem dX1_nearest_13 : decode cX1_nearest 13 = .ok (.iconst 0, 1) := dk_3 (dk_at dksX1_nearest_0 13 rfl rfl)
theorem dX1_nearest_14 : decode cX1_nearest 14 = .ok (.istore_n 3, 1) := dk_62 (dk_at dksX1_nearest_0 14 rfl rfl)
theorem dX1_nearest_15 : decode cX1_nearest 15 = .ok (.iload_n 3, 1) := dk_29 (dk_at dksX1_nearest_0 15 rfl rfl)
theorem dX1_nearest_16 : decode cX1_nearest 16 = .ok (.aload_n 0, 1) := dk_42 (dk_at dksX1_nearest_0 16 rfl rfl)
theorem dX1_nearest_17 : decode cX1_nearest 17 = .ok (.invokevirtual 182, 3) := dk_182 0 182 (dk_at dksX1_nearest_0 17 rfl rfl)
theorem dX1_nearest_20 : decode cX1_nearest 20 = .ok (.if_icmp .ge 62, 3) := dk_162 0 62 (dk_at dksX1_nearest_0 20 rfl rfl)
theorem dX1_nearest_23 : decode cX1_nearest 23 = .ok (.iload_n 2, 1) := dk_28 (dk_at dksX1_nearest_0 23 rfl rfl)
theorem dX1_nearest_24 : decode cX1_nearest 24 = .ok (.bipush (-2), 2) := dk_16 254 (dk_at dksX1_nearest_1 0 rfl rfl)
theorem dX1_nearest_26 : decode cX1_nearest 26 = .ok (.if_icmp .eq 48, 3) := dk_159 0 48 (dk_at dksX1_nearest_1 2 rfl rfl)
theorem dX1_nearest_29 : decode cX1_nearest 29 = .ok (.aload_n 0, 1) := dk_42 (dk_at dksX1_nearest_1 5 rfl rfl)
theorem dX1_nearest_30 : decode cX1_nearest 30 = .ok (.iload_n 3, 1) := dk_29 (dk_at dksX1_nearest_1 6 rfl rfl)
theorem dX1_nearest_31 : decode cX1_nearest 31 = .ok (.invokevirtual 228, 3) := dk_182 0 228 (dk_at dksX1_nearest_1 7 rfl rfl)
theorem dX1_nearest_34 : decode cX1_nearest 34 = .ok (.getfield 232, 3) := dk_180 0 232 (dk_at dksX1_nearest_1 10 rfl rfl)
theorem dX1_nearest_37 : decode cX1_nearest 37 = .ok (.aload_n 0, 1) := dk_42 (dk_at dksX1_nearest_1 13 rfl rfl)
theorem dX1_nearest_38 : decode cX1_nearest 38 = .ok (.getfield 101, 3) := dk_180 0 101 (dk_at dksX1_nearest_1 14 rfl rfl)
theorem dX1_nearest_41 : decode cX1_nearest 41 = .ok (.getfield 200, 3) := dk_180 0 200 (dk_at dksX1_nearest_1 17 rfl rfl)
theorem dX1_nearest_44 : decode cX1_nearest 44 = .ok (.iload_n 1, 1) := dk_27 (dk_at dksX1_nearest_1 20 rfl rfl)
theorem dX1_nearest_45 : decode cX1_nearest 45 = .ok (.iaload, 1) := dk_46 (dk_at dksX1_nearest_1 21 rfl rfl)
theorem dX1_nearest_46 : decode cX1_nearest 46 = .ok (.isub, 1) := dk_100 (dk_at dksX1_nearest_1 22 rfl rfl)
theorem dX1_nearest_47 : decode cX1_nearest 47 = .ok (.invokestatic 261, 3) := dk_184 1 5 (dk_at dksX1_nearest_2 0 rfl rfl)
theorem dX1_nearest_50 : decode cX1_nearest 50 = .ok (.aload_n 0, 1) := dk_42 (dk_at dksX1_nearest_2 3 rfl rfl)
theorem dX1_nearest_51 : decode cX1_nearest 51 = .ok (.iload_n 2, 1) := dk_28 (dk_at dksX1_nearest_2 4 rfl rfl)
theorem dX1_nearest_52 : decode cX1_nearest 52 = .ok (.invokevirtual 228, 3) := dk_182 0 228 (dk_at dksX1_nearest_2 5 rfl rfl)
theorem dX1_nearest_55 : decode cX1_nearest 55 = .ok (.getfield 232, 3) := dk_180 0 232 (dk_at dksX1_nearest_2 8 rfl rfl)
theorem dX1_nearest_58 : decode cX1_nearest 58 = .ok (.aload_n 0, 1) := dk_42 (dk_at dksX1_nearest_2 11 rfl rfl)
theorem dX1_nearest_59 : decode cX1_nearest 59 = .ok (.getfield 101, 3) := dk_180 0 101 (dk_at dksX1_nearest_2 12 rfl rfl)
theorem dX1_nearest_62 : decode cX1_nearest 62 = .ok (.getfield 200, 3) := dk_180 0 200 (dk_at dksX1_nearest_2 15 rfl rfl)
theorem dX1_nearest_65 : decode cX1_nearest 65 = .ok (.iload_n 1, 1) := dk_27 (dk_at dksX1_nearest_2 18 rfl rfl)
theorem dX1_nearest_66 : decode cX1_nearest 66 = .ok (.iaload, 1) := dk_46 (dk_at dksX1_nearest_2 19 rfl rfl)
theorem dX1_nearest_67 : decode cX1_nearest 67 = .ok (.isub, 1) := dk_100 (dk_at dksX1_nearest_2 20 rfl rfl)
theorem dX1_nearest_68 : decode cX1_nearest 68 = .ok (.invokestatic 261, 3) := dk_184 1 5 (dk_at dksX1_nearest_2 21 rfl rfl)
theorem dX1_nearest_71 : decode cX1_nearest 71 = .ok (.if_icmp .ge 5, 3) := dk_162 0 5 (dk_at dksX1_nearest_3 0 rfl rfl)
theorem dX1_nearest_74 : decode cX1_nearest 74 = .ok (.iload_n 3, 1) := dk_29 (dk_at dksX1_nearest_3 3 rfl rfl)
theorem dX1_nearest_75 : decode cX1_nearest 75 = .ok (.istore_n 2, 1) := dk_61 (dk_at dksX1_nearest_3 4 rfl rfl)
theorem dX1_nearest_76 : decode cX1_nearest 76 = .ok (.iinc 3 1, 3) := dk_132 3 1 (dk_at dksX1_nearest_3 5 rfl rfl)
theorem dX1_nearest_79 : decode cX1_nearest 79 = .ok (.goto (-64), 3) := dk_167 255 192 (dk_at dksX1_nearest_3 8 rfl rfl)
theorem dX1_nearest_82 : decode cX1_nearest 82 = .ok (.iload_n 2, 1) := dk_28 (dk_at dksX1_nearest_3 11 rfl rfl)
theorem dX1_nearest_83 : decode cX1_nearest 83 = .ok (.ireturn, 1) := dk_172 (dk_at dksX1_nearest_3 12 rfl rfl)
abbrev cX1_see : ByteArray := prog_1_method_60_code
def yX1_see : MethodName := ⟨RX1, "see", "(IIIZ)I"⟩
def dkwX1_see_2 : List UInt8 := [187, 1, 114, 89, 27, 28, 29, 21, 4, 183, 1, 116, 182, 1, 119, 167, 0, 4, 2, 172]
abbrev dktX1_see_2 : List UInt8 := dkwX1_see_2 ++ []
def dkwX1_see_1 : List UInt8 := [20, 1, 8, 184, 0, 144, 153, 0, 34, 42, 180, 0, 125, 182, 0, 23, 16, 24, 162, 0, 22, 42]
abbrev dktX1_see_1 : List UInt8 := dkwX1_see_1 ++ dktX1_see_2
def dkwX1_see_0 : List UInt8 := [27, 133, 10, 20, 1, 51, 184, 0, 144, 153, 0, 54, 42, 28, 182, 0, 233, 153, 0, 46, 29, 133, 9]
abbrev dktX1_see_0 : List UInt8 := dkwX1_see_0 ++ dktX1_see_1
theorem dksX1_see_0 : cX1_see.data.toList.drop 0 = dktX1_see_0 := by decide +kernel
theorem dksX1_see_1 : cX1_see.data.toList.drop 23 = dktX1_see_1 := dk_seg dksX1_see_0 23 rfl rfl
theorem dksX1_see_2 : cX1_see.data.toList.drop 45 = dktX1_see_2 := dk_seg dksX1_see_1 22 rfl rfl
theorem dX1_see_0 : decode cX1_see 0 = .ok (.iload_n 1, 1) := dk_27 (dk_at dksX1_see_0 0 rfl rfl)
theorem dX1_see_1 : decode cX1_see 1 = .ok (.i2l, 1) := dk_133 (dk_at dksX1_see_0 1 rfl rfl)
theorem dX1_see_2 : decode cX1_see 2 = .ok (.lconst 1, 1) := dk_10 (dk_at dksX1_see_0 2 rfl rfl)
theorem dX1_see_3 : decode cX1_see 3 = .ok (.ldc2_w 307, 3) := dk_20 1 51 (dk_at dksX1_see_0 3 rfl rfl)
theorem dX1_see_6 : decode cX1_see 6 = .ok (.invokestatic 144, 3) := dk_184 0 144 (dk_at dksX1_see_0 6 rfl rfl)
theorem dX1_see_9 : decode cX1_see 9 = .ok (.ifCond .eq 54, 3) := dk_153 0 54 (dk_at dksX1_see_0 9 rfl rfl)
theorem dX1_see_12 : decode cX1_see 12 = .ok (.aload_n 0, 1) := dk_42 (dk_at dksX1_see_0 12 rfl rfl)
theorem dX1_see_13 : decode cX1_see 13 = .ok (.iload_n 2, 1) := dk_28 (dk_at dksX1_see_0 13 rfl rfl)
theorem dX1_see_14 : decode cX1_see 14 = .ok (.invokevirtual 233, 3) := dk_182 0 233 (dk_at dksX1_see_0 14 rfl rfl)
theorem dX1_see_17 : decode cX1_see 17 = .ok (.ifCond .eq 46, 3) := dk_153 0 46 (dk_at dksX1_see_0 17 rfl rfl)
theorem dX1_see_20 : decode cX1_see 20 = .ok (.iload_n 3, 1) := dk_29 (dk_at dksX1_see_0 20 rfl rfl)
theorem dX1_see_21 : decode cX1_see 21 = .ok (.i2l, 1) := dk_133 (dk_at dksX1_see_0 21 rfl rfl)
theorem dX1_see_22 : decode cX1_see 22 = .ok (.lconst 0, 1) := dk_9 (dk_at dksX1_see_0 22 rfl rfl)
theorem dX1_see_23 : decode cX1_see 23 = .ok (.ldc2_w 264, 3) := dk_20 1 8 (dk_at dksX1_see_1 0 rfl rfl)
theorem dX1_see_26 : decode cX1_see 26 = .ok (.invokestatic 144, 3) := dk_184 0 144 (dk_at dksX1_see_1 3 rfl rfl)
theorem dX1_see_29 : decode cX1_see 29 = .ok (.ifCond .eq 34, 3) := dk_153 0 34 (dk_at dksX1_see_1 6 rfl rfl)
theorem dX1_see_32 : decode cX1_see 32 = .ok (.aload_n 0, 1) := dk_42 (dk_at dksX1_see_1 9 rfl rfl)
theorem dX1_see_33 : decode cX1_see 33 = .ok (.getfield 125, 3) := dk_180 0 125 (dk_at dksX1_see_1 10 rfl rfl)
theorem dX1_see_36 : decode cX1_see 36 = .ok (.invokevirtual 23, 3) := dk_182 0 23 (dk_at dksX1_see_1 13 rfl rfl)
theorem dX1_see_39 : decode cX1_see 39 = .ok (.bipush 24, 2) := dk_16 24 (dk_at dksX1_see_1 16 rfl rfl)
theorem dX1_see_41 : decode cX1_see 41 = .ok (.if_icmp .ge 22, 3) := dk_162 0 22 (dk_at dksX1_see_1 18 rfl rfl)
theorem dX1_see_44 : decode cX1_see 44 = .ok (.aload_n 0, 1) := dk_42 (dk_at dksX1_see_1 21 rfl rfl)
theorem dX1_see_45 : decode cX1_see 45 = .ok (.new 370, 3) := dk_187 1 114 (dk_at dksX1_see_2 0 rfl rfl)
theorem dX1_see_48 : decode cX1_see 48 = .ok (.dup, 1) := dk_89 (dk_at dksX1_see_2 3 rfl rfl)
theorem dX1_see_49 : decode cX1_see 49 = .ok (.iload_n 1, 1) := dk_27 (dk_at dksX1_see_2 4 rfl rfl)
theorem dX1_see_50 : decode cX1_see 50 = .ok (.iload_n 2, 1) := dk_28 (dk_at dksX1_see_2 5 rfl rfl)
theorem dX1_see_51 : decode cX1_see 51 = .ok (.iload_n 3, 1) := dk_29 (dk_at dksX1_see_2 6 rfl rfl)
theorem dX1_see_52 : decode cX1_see 52 = .ok (.iload 4, 2) := dk_21 4 (dk_at dksX1_see_2 7 rfl rfl)
theorem dX1_see_54 : decode cX1_see 54 = .ok (.invokespecial 372, 3) := dk_183 1 116 (dk_at dksX1_see_2 9 rfl rfl)
theorem dX1_see_57 : decode cX1_see 57 = .ok (.invokevirtual 375, 3) := dk_182 1 119 (dk_at dksX1_see_2 12 rfl rfl)
theorem dX1_see_60 : decode cX1_see 60 = .ok (.goto 4, 3) := dk_167 0 4 (dk_at dksX1_see_2 15 rfl rfl)
theorem dX1_see_63 : decode cX1_see 63 = .ok (.iconst (-1), 1) := dk_2 (dk_at dksX1_see_2 18 rfl rfl)
theorem dX1_see_64 : decode cX1_see 64 = .ok (.ireturn, 1) := dk_172 (dk_at dksX1_see_2 19 rfl rfl)
abbrev cX1_add : ByteArray := prog_1_method_59_code
def yX1_add : MethodName := ⟨RX1, "add", "(LTroughTreaty$Leaf;)I"⟩
def dkwX1_add_0 : List UInt8 := [42, 180, 0, 125, 43, 182, 1, 110, 87, 42, 180, 0, 125, 182, 0, 23, 4, 100, 172]
abbrev dktX1_add_0 : List UInt8 := dkwX1_add_0 ++ []
theorem dksX1_add_0 : cX1_add.data.toList.drop 0 = dktX1_add_0 := by decide +kernel
theorem dX1_add_0 : decode cX1_add 0 = .ok (.aload_n 0, 1) := dk_42 (dk_at dksX1_add_0 0 rfl rfl)
theorem dX1_add_1 : decode cX1_add 1 = .ok (.getfield 125, 3) := dk_180 0 125 (dk_at dksX1_add_0 1 rfl rfl)
theorem dX1_add_4 : decode cX1_add 4 = .ok (.aload_n 1, 1) := dk_43 (dk_at dksX1_add_0 4 rfl rfl)
theorem dX1_add_5 : decode cX1_add 5 = .ok (.invokevirtual 366, 3) := dk_182 1 110 (dk_at dksX1_add_0 5 rfl rfl)
theorem dX1_add_8 : decode cX1_add 8 = .ok (.pop, 1) := dk_87 (dk_at dksX1_add_0 8 rfl rfl)
theorem dX1_add_9 : decode cX1_add 9 = .ok (.aload_n 0, 1) := dk_42 (dk_at dksX1_add_0 9 rfl rfl)
theorem dX1_add_10 : decode cX1_add 10 = .ok (.getfield 125, 3) := dk_180 0 125 (dk_at dksX1_add_0 10 rfl rfl)
theorem dX1_add_13 : decode cX1_add 13 = .ok (.invokevirtual 23, 3) := dk_182 0 23 (dk_at dksX1_add_0 13 rfl rfl)
theorem dX1_add_16 : decode cX1_add 16 = .ok (.iconst 1, 1) := dk_4 (dk_at dksX1_add_0 16 rfl rfl)
theorem dX1_add_17 : decode cX1_add 17 = .ok (.isub, 1) := dk_100 (dk_at dksX1_add_0 17 rfl rfl)
theorem dX1_add_18 : decode cX1_add 18 = .ok (.ireturn, 1) := dk_172 (dk_at dksX1_add_0 18 rfl rfl)
abbrev cX1_strike : ByteArray := prog_1_method_61_code
def yX1_strike : MethodName := ⟨RX1, "strike", "(I)I"⟩
def dkwX1_strike_2 : List UInt8 := [172]
abbrev dktX1_strike_2 : List UInt8 := dkwX1_strike_2 ++ []
def dkwX1_strike_1 : List UInt8 := [182, 0, 23, 16, 24, 162, 0, 18, 42, 187, 1, 122, 89, 27, 183, 1, 124, 182, 1, 119, 167, 0, 4, 2]
abbrev dktX1_strike_1 : List UInt8 := dkwX1_strike_1 ++ dktX1_strike_2
def dkwX1_strike_0 : List UInt8 := [27, 133, 9, 42, 180, 0, 125, 182, 0, 23, 4, 100, 133, 184, 0, 144, 153, 0, 30, 42, 180, 0, 125]
abbrev dktX1_strike_0 : List UInt8 := dkwX1_strike_0 ++ dktX1_strike_1
theorem dksX1_strike_0 : cX1_strike.data.toList.drop 0 = dktX1_strike_0 := by decide +kernel
theorem dksX1_strike_1 : cX1_strike.data.toList.drop 23 = dktX1_strike_1 := dk_seg dksX1_strike_0 23 rfl rfl
theorem dksX1_strike_2 : cX1_strike.data.toList.drop 47 = dktX1_strike_2 := dk_seg dksX1_strike_1 24 rfl rfl
theorem dX1_strike_0 : decode cX1_strike 0 = .ok (.iload_n 1, 1) := dk_27 (dk_at dksX1_strike_0 0 rfl rfl)
theorem dX1_strike_1 : decode cX1_strike 1 = .ok (.i2l, 1) := dk_133 (dk_at dksX1_strike_0 1 rfl rfl)
theorem dX1_strike_2 : decode cX1_strike 2 = .ok (.lconst 0, 1) := dk_9 (dk_at dksX1_strike_0 2 rfl rfl)
theorem dX1_strike_3 : decode cX1_strike 3 = .ok (.aload_n 0, 1) := dk_42 (dk_at dksX1_strike_0 3 rfl rfl)
theorem dX1_strike_4 : decode cX1_strike 4 = .ok (.getfield 125, 3) := dk_180 0 125 (dk_at dksX1_strike_0 4 rfl rfl)
theorem dX1_strike_7 : decode cX1_strike 7 = .ok (.invokevirtual 23, 3) := dk_182 0 23 (dk_at dksX1_strike_0 7 rfl rfl)
theorem dX1_strike_10 : decode cX1_strike 10 = .ok (.iconst 1, 1) := dk_4 (dk_at dksX1_strike_0 10 rfl rfl)
theorem dX1_strike_11 : decode cX1_strike 11 = .ok (.isub, 1) := dk_100 (dk_at dksX1_strike_0 11 rfl rfl)
theorem dX1_strike_12 : decode cX1_strike 12 = .ok (.i2l, 1) := dk_133 (dk_at dksX1_strike_0 12 rfl rfl)
theorem dX1_strike_13 : decode cX1_strike 13 = .ok (.invokestatic 144, 3) := dk_184 0 144 (dk_at dksX1_strike_0 13 rfl rfl)
theorem dX1_strike_16 : decode cX1_strike 16 = .ok (.ifCond .eq 30, 3) := dk_153 0 30 (dk_at dksX1_strike_0 16 rfl rfl)
theorem dX1_strike_19 : decode cX1_strike 19 = .ok (.aload_n 0, 1) := dk_42 (dk_at dksX1_strike_0 19 rfl rfl)
theorem dX1_strike_20 : decode cX1_strike 20 = .ok (.getfield 125, 3) := dk_180 0 125 (dk_at dksX1_strike_0 20 rfl rfl)
theorem dX1_strike_23 : decode cX1_strike 23 = .ok (.invokevirtual 23, 3) := dk_182 0 23 (dk_at dksX1_strike_1 0 rfl rfl)
theorem dX1_strike_26 : decode cX1_strike 26 = .ok (.bipush 24, 2) := dk_16 24 (dk_at dksX1_strike_1 3 rfl rfl)
theorem dX1_strike_28 : decode cX1_strike 28 = .ok (.if_icmp .ge 18, 3) := dk_162 0 18 (dk_at dksX1_strike_1 5 rfl rfl)
theorem dX1_strike_31 : decode cX1_strike 31 = .ok (.aload_n 0, 1) := dk_42 (dk_at dksX1_strike_1 8 rfl rfl)
theorem dX1_strike_32 : decode cX1_strike 32 = .ok (.new 378, 3) := dk_187 1 122 (dk_at dksX1_strike_1 9 rfl rfl)
theorem dX1_strike_35 : decode cX1_strike 35 = .ok (.dup, 1) := dk_89 (dk_at dksX1_strike_1 12 rfl rfl)
theorem dX1_strike_36 : decode cX1_strike 36 = .ok (.iload_n 1, 1) := dk_27 (dk_at dksX1_strike_1 13 rfl rfl)
theorem dX1_strike_37 : decode cX1_strike 37 = .ok (.invokespecial 380, 3) := dk_183 1 124 (dk_at dksX1_strike_1 14 rfl rfl)
theorem dX1_strike_40 : decode cX1_strike 40 = .ok (.invokevirtual 375, 3) := dk_182 1 119 (dk_at dksX1_strike_1 17 rfl rfl)
theorem dX1_strike_43 : decode cX1_strike 43 = .ok (.goto 4, 3) := dk_167 0 4 (dk_at dksX1_strike_1 20 rfl rfl)
theorem dX1_strike_46 : decode cX1_strike 46 = .ok (.iconst (-1), 1) := dk_2 (dk_at dksX1_strike_1 23 rfl rfl)
theorem dX1_strike_47 : decode cX1_strike 47 = .ok (.ireturn, 1) := dk_172 (dk_at dksX1_strike_2 0 rfl rfl)
abbrev cX1_known : ByteArray := prog_1_method_62_code
def yX1_known : MethodName := ⟨RX1, "known", "(I)Z"⟩
def dkwX1_known_1 : List UInt8 := [181, 0, 132, 4, 172]
abbrev dktX1_known_1 : List UInt8 := dkwX1_known_1 ++ []
def dkwX1_known_0 : List UInt8 := [27, 133, 20, 1, 95, 42, 180, 0, 125, 182, 0, 23, 133, 184, 0, 144, 154, 0, 5, 3, 172, 42, 27]
abbrev dktX1_known_0 : List UInt8 := dkwX1_known_0 ++ dktX1_known_1
theorem dksX1_known_0 : cX1_known.data.toList.drop 0 = dktX1_known_0 := by decide +kernel
theorem dksX1_known_1 : cX1_known.data.toList.drop 23 = dktX1_known_1 := dk_seg dksX1_known_0 23 rfl rfl
theorem dX1_known_0 : decode cX1_known 0 = .ok (.iload_n 1, 1) := dk_27 (dk_at dksX1_known_0 0 rfl rfl)
theorem dX1_known_1 : decode cX1_known 1 = .ok (.i2l, 1) := dk_133 (dk_at dksX1_known_0 1 rfl rfl)
theorem dX1_known_2 : decode cX1_known 2 = .ok (.ldc2_w 351, 3) := dk_20 1 95 (dk_at dksX1_known_0 2 rfl rfl)
theorem dX1_known_5 : decode cX1_known 5 = .ok (.aload_n 0, 1) := dk_42 (dk_at dksX1_known_0 5 rfl rfl)
theorem dX1_known_6 : decode cX1_known 6 = .ok (.getfield 125, 3) := dk_180 0 125 (dk_at dksX1_known_0 6 rfl rfl)
theorem dX1_known_9 : decode cX1_known 9 = .ok (.invokevirtual 23, 3) := dk_182 0 23 (dk_at dksX1_known_0 9 rfl rfl)
theorem dX1_known_12 : decode cX1_known 12 = .ok (.i2l, 1) := dk_133 (dk_at dksX1_known_0 12 rfl rfl)
theorem dX1_known_13 : decode cX1_known 13 = .ok (.invokestatic 144, 3) := dk_184 0 144 (dk_at dksX1_known_0 13 rfl rfl)
theorem dX1_known_16 : decode cX1_known 16 = .ok (.ifCond .ne 5, 3) := dk_154 0 5 (dk_at dksX1_known_0 16 rfl rfl)
theorem dX1_known_19 : decode cX1_known 19 = .ok (.iconst 0, 1) := dk_3 (dk_at dksX1_known_0 19 rfl rfl)
theorem dX1_known_20 : decode cX1_known 20 = .ok (.ireturn, 1) := dk_172 (dk_at dksX1_known_0 20 rfl rfl)
theorem dX1_known_21 : decode cX1_known 21 = .ok (.aload_n 0, 1) := dk_42 (dk_at dksX1_known_0 21 rfl rfl)
theorem dX1_known_22 : decode cX1_known 22 = .ok (.iload_n 1, 1) := dk_27 (dk_at dksX1_known_0 22 rfl rfl)
theorem dX1_known_23 : decode cX1_known 23 = .ok (.putfield 132, 3) := dk_181 0 132 (dk_at dksX1_known_1 0 rfl rfl)
theorem dX1_known_26 : decode cX1_known 26 = .ok (.iconst 1, 1) := dk_4 (dk_at dksX1_known_1 3 rfl rfl)
theorem dX1_known_27 : decode cX1_known 27 = .ok (.ireturn, 1) := dk_172 (dk_at dksX1_known_1 4 rfl rfl)
abbrev cX1_thirsts : ByteArray := prog_1_method_65_code
def yX1_thirsts : MethodName := ⟨RX1, "thirsts", "(I)I"⟩
def dkwX1_thirsts_8 : List UInt8 := [132, 4, 1, 167, 255, 221, 29, 172]
abbrev dktX1_thirsts_8 : List UInt8 := dkwX1_thirsts_8 ++ []
def dkwX1_thirsts_7 : List UInt8 := [16, 10, 21, 4, 104, 28, 182, 1, 140, 153, 0, 10, 4, 21, 4, 120, 167, 0, 4, 3, 128, 62]
abbrev dktX1_thirsts_7 : List UInt8 := dkwX1_thirsts_7 ++ dktX1_thirsts_8
def dkwX1_thirsts_6 : List UInt8 := [184, 1, 74, 61, 132, 4, 1, 167, 255, 214, 3, 54, 4, 21, 4, 16, 10, 162, 0, 34, 29, 42, 27]
abbrev dktX1_thirsts_6 : List UInt8 := dkwX1_thirsts_6 ++ dktX1_thirsts_7
def dkwX1_thirsts_5 : List UInt8 := [21, 4, 51, 154, 0, 23, 28, 42, 180, 0, 125, 21, 4, 182, 0, 29, 192, 1, 128, 182, 1, 130]
abbrev dktX1_thirsts_5 : List UInt8 := dkwX1_thirsts_5 ++ dktX1_thirsts_6
def dkwX1_thirsts_4 : List UInt8 := [167, 255, 202, 3, 61, 3, 62, 3, 54, 4, 21, 4, 42, 182, 1, 125, 162, 0, 39, 42, 180, 0, 128]
abbrev dktX1_thirsts_4 : List UInt8 := dkwX1_thirsts_4 ++ dktX1_thirsts_5
def dkwX1_thirsts_3 : List UInt8 := [180, 0, 128, 42, 180, 0, 125, 28, 182, 0, 29, 192, 1, 128, 182, 1, 137, 4, 84, 132, 2, 255]
abbrev dktX1_thirsts_3 : List UInt8 := dkwX1_thirsts_3 ++ dktX1_thirsts_4
def dkwX1_thirsts_2 : List UInt8 := [28, 51, 154, 0, 41, 42, 180, 0, 125, 28, 182, 0, 29, 192, 1, 128, 182, 1, 137, 2, 159, 0, 23, 42]
abbrev dktX1_thirsts_2 : List UInt8 := dkwX1_thirsts_2 ++ dktX1_thirsts_3
def dkwX1_thirsts_1 : List UInt8 := [28, 3, 84, 132, 2, 1, 167, 255, 238, 42, 182, 1, 125, 4, 100, 61, 28, 155, 0, 56, 42, 180, 0, 128]
abbrev dktX1_thirsts_1 : List UInt8 := dkwX1_thirsts_1 ++ dktX1_thirsts_2
def dkwX1_thirsts_0 : List UInt8 := [42, 27, 182, 0, 186, 154, 0, 5, 2, 172, 3, 61, 28, 42, 182, 1, 125, 162, 0, 16, 42, 180, 0, 128]
abbrev dktX1_thirsts_0 : List UInt8 := dkwX1_thirsts_0 ++ dktX1_thirsts_1
theorem dksX1_thirsts_0 : cX1_thirsts.data.toList.drop 0 = dktX1_thirsts_0 := by decide +kernel
theorem dksX1_thirsts_1 : cX1_thirsts.data.toList.drop 24 = dktX1_thirsts_1 := dk_seg dksX1_thirsts_0 24 rfl rfl
theorem dksX1_thirsts_2 : cX1_thirsts.data.toList.drop 48 = dktX1_thirsts_2 := dk_seg dksX1_thirsts_1 24 rfl rfl
theorem dksX1_thirsts_3 : cX1_thirsts.data.toList.drop 72 = dktX1_thirsts_3 := dk_seg dksX1_thirsts_2 24 rfl rfl
theorem dksX1_thirsts_4 : cX1_thirsts.data.toList.drop 94 = dktX1_thirsts_4 := dk_seg dksX1_thirsts_3 22 rfl rfl
theorem dksX1_thirsts_5 : cX1_thirsts.data.toList.drop 117 = dktX1_thirsts_5 := dk_seg dksX1_thirsts_4 23 rfl rfl
theorem dksX1_thirsts_6 : cX1_thirsts.data.toList.drop 139 = dktX1_thirsts_6 := dk_seg dksX1_thirsts_5 22 rfl rfl
theorem dksX1_thirsts_7 : cX1_thirsts.data.toList.drop 162 = dktX1_thirsts_7 := dk_seg dksX1_thirsts_6 23 rfl rfl
theorem dksX1_thirsts_8 : cX1_thirsts.data.toList.drop 184 = dktX1_thirsts_8 := dk_seg dksX1_thirsts_7 22 rfl rfl
theorem dX1_thirsts_0 : decode cX1_thirsts 0 = .ok (.aload_n 0, 1) := dk_42 (dk_at dksX1_thirsts_0 0 rfl rfl)
theorem dX1_thirsts_1 : decode cX1_thirsts 1 = .ok (.iload_n 1, 1) := dk_27 (dk_at dksX1_thirsts_0 1 rfl rfl)
theorem dX1_thirsts_2 : decode cX1_thirsts 2 = .ok (.invokevirtual 186, 3) := dk_182 0 186 (dk_at dksX1_thirsts_0 2 rfl rfl)
theorem dX1_thirsts_5 : decode cX1_thirsts 5 = .ok (.ifCond .ne 5, 3) := dk_154 0 5 (dk_at dksX1_thirsts_0 5 rfl rfl)
theorem dX1_thirsts_8 : decode cX1_thirsts 8 = .ok (.iconst (-1), 1) := dk_2 (dk_at dksX1_thirsts_0 8 rfl rfl)
theorem dX1_thirsts_9 : decode cX1_thirsts 9 = .ok (.ireturn, 1) := dk_172 (dk_at dksX1_thirsts_0 9 rfl rfl)
theorem dX1_thirsts_10 : decode cX1_thirsts 10 = .ok (.iconst 0, 1) := dk_3 (dk_at dksX1_thirsts_0 10 rfl rfl)
theorem dX1_thirsts_11 : decode cX1_thirsts 11 = .ok (.istore_n 2, 1) := dk_61 (dk_at dksX1_thirsts_0 11 rfl rfl)
theorem dX1_thirsts_12 : decode cX1_thirsts 12 = .ok (.iload_n 2, 1) := dk_28 (dk_at dksX1_thirsts_0 12 rfl rfl)
theorem dX1_thirsts_13 : decode cX1_thirsts 13 = .ok (.aload_n 0, 1) := dk_42 (dk_at dksX1_thirsts_0 13 rfl rfl)
theorem dX1_thirsts_14 : decode cX1_thirsts 14 = .ok (.invokevirtual 381, 3) := dk_182 1 125 (dk_at dksX1_thirsts_0 14 rfl rfl)
theorem dX1_thirsts_17 : decode cX1_thirsts 17 = .ok (.if_icmp .ge 16, 3) := dk_162 0 16 (dk_at dksX1_thirsts_0 17 rfl rfl)
theorem dX1_thirsts_20 : decode cX1_thirsts 20 = .ok (.aload_n 0, 1) := dk_42 (dk_at dksX1_thirsts_0 20 rfl rfl)
theorem dX1_thirsts_21 : decode cX1_thirsts 21 = .ok (.getfield 128, 3) := dk_180 0 128 (dk_at dksX1_thirsts_0 21 rfl rfl)
theorem dX1_thirsts_24 : decode cX1_thirsts 24 = .ok (.iload_n 2, 1) := dk_28 (dk_at dksX1_thirsts_1 0 rfl rfl)
theorem dX1_thirsts_25 : decode cX1_thirsts 25 = .ok (.iconst 0, 1) := dk_3 (dk_at dksX1_thirsts_1 1 rfl rfl)
theorem dX1_thirsts_26 : decode cX1_thirsts 26 = .ok (.bastore, 1) := dk_84 (dk_at dksX1_thirsts_1 2 rfl rfl)
theorem dX1_thirsts_27 : decode cX1_thirsts 27 = .ok (.iinc 2 1, 3) := dk_132 2 1 (dk_at dksX1_thirsts_1 3 rfl rfl)
theorem dX1_thirsts_30 : decode cX1_thirsts 30 = .ok (.goto (-18), 3) := dk_167 255 238 (dk_at dksX1_thirsts_1 6 rfl rfl)
theorem dX1_thirsts_33 : decode cX1_thirsts 33 = .ok (.aload_n 0, 1) := dk_42 (dk_at dksX1_thirsts_1 9 rfl rfl)
theorem dX1_thirsts_34 : decode cX1_thirsts 34 = .ok (.invokevirtual 381, 3) := dk_182 1 125 (dk_at dksX1_thirsts_1 10 rfl rfl)
theorem dX1_thirsts_37 : decode cX1_thirsts 37 = .ok (.iconst 1, 1) := dk_4 (dk_at dksX1_thirsts_1 13 rfl rfl)
theorem dX1_thirsts_38 : decode cX1_thirsts 38 = .ok (.isub, 1) := dk_100 (dk_at dksX1_thirsts_1 14 rfl rfl)
theorem dX1_thirsts_39 : decode cX1_thirsts 39 = .ok (.istore_n 2, 1) := dk_61 (dk_at dksX1_thirsts_1 15 rfl rfl)
theorem dX1_thirsts_40 : decode cX1_thirsts 40 = .ok (.iload_n 2, 1) := dk_28 (dk_at dksX1_thirsts_1 16 rfl rfl)
theorem dX1_thirsts_41 : decode cX1_thirsts 41 = .ok (.ifCond .lt 56, 3) := dk_155 0 56 (dk_at dksX1_thirsts_1 17 rfl rfl)
theorem dX1_thirsts_44 : decode cX1_thirsts 44 = .ok (.aload_n 0, 1) := dk_42 (dk_at dksX1_thirsts_1 20 rfl rfl)
theorem dX1_thirsts_45 : decode cX1_thirsts 45 = .ok (.getfield 128, 3) := dk_180 0 128 (dk_at dksX1_thirsts_1 21 rfl rfl)
theorem dX1_thirsts_48 : decode cX1_thirsts 48 = .ok (.iload_n 2, 1) := dk_28 (dk_at dksX1_thirsts_2 0 rfl rfl)
theorem dX1_thirsts_49 : decode cX1_thirsts 49 = .ok (.baload, 1) := dk_51 (dk_at dksX1_thirsts_2 1 rfl rfl)
theorem dX1_thirsts_50 : decode cX1_thirsts 50 = .ok (.ifCond .ne 41, 3) := dk_154 0 41 (dk_at dksX1_thirsts_2 2 rfl rfl)
theorem dX1_thirsts_53 : decode cX1_thirsts 53 = .ok (.aload_n 0, 1) := dk_42 (dk_at dksX1_thirsts_2 5 rfl rfl)
theorem dX1_thirsts_54 : decode cX1_thirsts 54 = .ok (.getfield 125, 3) := dk_180 0 125 (dk_at dksX1_thirsts_2 6 rfl rfl)
theorem dX1_thirsts_57 : decode cX1_thirsts 57 = .ok (.iload_n 2, 1) := dk_28 (dk_at dksX1_thirsts_2 9 rfl rfl)
theorem dX1_thirsts_58 : decode cX1_thirsts 58 = .ok (.invokevirtual 29, 3) := dk_182 0 29 (dk_at dksX1_thirsts_2 10 rfl rfl)
theorem dX1_thirsts_61 : decode cX1_thirsts 61 = .ok (.checkcast 384, 3) := dk_192 1 128 (dk_at dksX1_thirsts_2 13 rfl rfl)
theorem dX1_thirsts_64 : decode cX1_thirsts 64 = .ok (.invokevirtual 393, 3) := dk_182 1 137 (dk_at dksX1_thirsts_2 16 rfl rfl)
theorem dX1_thirsts_67 : decode cX1_thirsts 67 = .ok (.iconst (-1), 1) := dk_2 (dk_at dksX1_thirsts_2 19 rfl rfl)
theorem dX1_thirsts_68 : decode cX1_thirsts 68 = .ok (.if_icmp .eq 23, 3) := dk_159 0 23 (dk_at dksX1_thirsts_2 20 rfl rfl)
theorem dX1_thirsts_71 : decode cX1_thirsts 71 = .ok (.aload_n 0, 1) := dk_42 (dk_at dksX1_thirsts_2 23 rfl rfl)
theorem dX1_thirsts_72 : decode cX1_thirsts 72 = .ok (.getfield 128, 3) := dk_180 0 128 (dk_at dksX1_thirsts_3 0 rfl rfl)
theorem dX1_thirsts_75 : decode cX1_thirsts 75 = .ok (.aload_n 0, 1) := dk_42 (dk_at dksX1_thirsts_3 3 rfl rfl)
theorem dX1_thirsts_76 : decode cX1_thirsts 76 = .ok (.getfield 125, 3) := dk_180 0 125 (dk_at dksX1_thirsts_3 4 rfl rfl)
theorem dX1_thirsts_79 : decode cX1_thirsts 79 = .ok (.iload_n 2, 1) := dk_28 (dk_at dksX1_thirsts_3 7 rfl rfl)
theorem dX1_thirsts_80 : decode cX1_thirsts 80 = .ok (.invokevirtual 29, 3) := dk_182 0 29 (dk_at dksX1_thirsts_3 8 rfl rfl)
theorem dX1_thirsts_83 : decode cX1_thirsts 83 = .ok (.checkcast 384, 3) := dk_192 1 128 (dk_at dksX1_thirsts_3 11 rfl rfl)
theorem dX1_thirsts_86 : decode cX1_thirsts 86 = .ok (.invokevirtual 393, 3) := dk_182 1 137 (dk_at dksX1_thirsts_3 14 rfl rfl)
theorem dX1_thirsts_89 : decode cX1_thirsts 89 = .ok (.iconst 1, 1) := dk_4 (dk_at dksX1_thirsts_3 17 rfl rfl)
theorem dX1_thirsts_90 : decode cX1_thirsts 90 = .ok (.bastore, 1) := dk_84 (dk_at dksX1_thirsts_3 18 rfl rfl)
theorem dX1_thirsts_91 : decode cX1_thirsts 91 = .ok (.iinc 2 (-1), 3) := dk_132 2 255 (dk_at dksX1_thirsts_3 19 rfl rfl)
theorem dX1_thirsts_94 : decode cX1_thirsts 94 = .ok (.goto (-54), 3) := dk_167 255 202 (dk_at dksX1_thirsts_4 0 rfl rfl)
theorem dX1_thirsts_97 : decode cX1_thirsts 97 = .ok (.iconst 0, 1) := dk_3 (dk_at dksX1_thirsts_4 3 rfl rfl)
theorem dX1_thirsts_98 : decode cX1_thirsts 98 = .ok (.istore_n 2, 1) := dk_61 (dk_at dksX1_thirsts_4 4 rfl rfl)
theorem dX1_thirsts_99 : decode cX1_thirsts 99 = .ok (.iconst 0, 1) := dk_3 (dk_at dksX1_thirsts_4 5 rfl rfl)
theorem dX1_thirsts_100 : decode cX1_thirsts 100 = .ok (.istore_n 3, 1) := dk_62 (dk_at dksX1_thirsts_4 6 rfl rfl)
theorem dX1_thirsts_101 : decode cX1_thirsts 101 = .ok (.iconst 0, 1) := dk_3 (dk_at dksX1_thirsts_4 7 rfl rfl)
theorem dX1_thirsts_102 : decode cX1_thirsts 102 = .ok (.istore 4, 2) := dk_54 4 (dk_at dksX1_thirsts_4 8 rfl rfl)
theorem dX1_thirsts_104 : decode cX1_thirsts 104 = .ok (.iload 4, 2) := dk_21 4 (dk_at dksX1_thirsts_4 10 rfl rfl)
theorem dX1_thirsts_106 : decode cX1_thirsts 106 = .ok (.aload_n 0, 1) := dk_42 (dk_at dksX1_thirsts_4 12 rfl rfl)
theorem dX1_thirsts_107 : decode cX1_thirsts 107 = .ok (.invokevirtual 381, 3) := dk_182 1 125 (dk_at dksX1_thirsts_4 13 rfl rfl)
theorem dX1_thirsts_110 : decode cX1_thirsts 110 = .ok (.if_icmp .ge 39, 3) := dk_162 0 39 (dk_at dksX1_thirsts_4 16 rfl rfl)
theorem dX1_thirsts_113 : decode cX1_thirsts 113 = .ok (.aload_n 0, 1) := dk_42 (dk_at dksX1_thirsts_4 19 rfl rfl)
theorem dX1_thirsts_114 : decode cX1_thirsts 114 = .ok (.getfield 128, 3) := dk_180 0 128 (dk_at dksX1_thirsts_4 20 rfl rfl)
theorem dX1_thirsts_117 : decode cX1_thirsts 117 = .ok (.iload 4, 2) := dk_21 4 (dk_at dksX1_thirsts_5 0 rfl rfl)
theorem dX1_thirsts_119 : decode cX1_thirsts 119 = .ok (.baload, 1) := dk_51 (dk_at dksX1_thirsts_5 2 rfl rfl)
theorem dX1_thirsts_120 : decode cX1_thirsts 120 = .ok (.ifCond .ne 23, 3) := dk_154 0 23 (dk_at dksX1_thirsts_5 3 rfl rfl)
theorem dX1_thirsts_123 : decode cX1_thirsts 123 = .ok (.iload_n 2, 1) := dk_28 (dk_at dksX1_thirsts_5 6 rfl rfl)
theorem dX1_thirsts_124 : decode cX1_thirsts 124 = .ok (.aload_n 0, 1) := dk_42 (dk_at dksX1_thirsts_5 7 rfl rfl)
theorem dX1_thirsts_125 : decode cX1_thirsts 125 = .ok (.getfield 125, 3) := dk_180 0 125 (dk_at dksX1_thirsts_5 8 rfl rfl)
theorem dX1_thirsts_128 : decode cX1_thirsts 128 = .ok (.iload 4, 2) := dk_21 4 (dk_at dksX1_thirsts_5 11 rfl rfl)
theorem dX1_thirsts_130 : decode cX1_thirsts 130 = .ok (.invokevirtual 29, 3) := dk_182 0 29 (dk_at dksX1_thirsts_5 13 rfl rfl)
theorem dX1_thirsts_133 : decode cX1_thirsts 133 = .ok (.checkcast 384, 3) := dk_192 1 128 (dk_at dksX1_thirsts_5 16 rfl rfl)
theorem dX1_thirsts_136 : decode cX1_thirsts 136 = .ok (.invokevirtual 386, 3) := dk_182 1 130 (dk_at dksX1_thirsts_5 19 rfl rfl)
theorem dX1_thirsts_139 : decode cX1_thirsts 139 = .ok (.invokestatic 330, 3) := dk_184 1 74 (dk_at dksX1_thirsts_6 0 rfl rfl)
theorem dX1_thirsts_142 : decode cX1_thirsts 142 = .ok (.istore_n 2, 1) := dk_61 (dk_at dksX1_thirsts_6 3 rfl rfl)
theorem dX1_thirsts_143 : decode cX1_thirsts 143 = .ok (.iinc 4 1, 3) := dk_132 4 1 (dk_at dksX1_thirsts_6 4 rfl rfl)
theorem dX1_thirsts_146 : decode cX1_thirsts 146 = .ok (.goto (-42), 3) := dk_167 255 214 (dk_at dksX1_thirsts_6 7 rfl rfl)
theorem dX1_thirsts_149 : decode cX1_thirsts 149 = .ok (.iconst 0, 1) := dk_3 (dk_at dksX1_thirsts_6 10 rfl rfl)
theorem dX1_thirsts_150 : decode cX1_thirsts 150 = .ok (.istore 4, 2) := dk_54 4 (dk_at dksX1_thirsts_6 11 rfl rfl)
theorem dX1_thirsts_152 : decode cX1_thirsts 152 = .ok (.iload 4, 2) := dk_21 4 (dk_at dksX1_thirsts_6 13 rfl rfl)
theorem dX1_thirsts_154 : decode cX1_thirsts 154 = .ok (.bipush 10, 2) := dk_16 10 (dk_at dksX1_thirsts_6 15 rfl rfl)
theorem dX1_thirsts_156 : decode cX1_thirsts 156 = .ok (.if_icmp .ge 34, 3) := dk_162 0 34 (dk_at dksX1_thirsts_6 17 rfl rfl)
theorem dX1_thirsts_159 : decode cX1_thirsts 159 = .ok (.iload_n 3, 1) := dk_29 (dk_at dksX1_thirsts_6 20 rfl rfl)
theorem dX1_thirsts_160 : decode cX1_thirsts 160 = .ok (.aload_n 0, 1) := dk_42 (dk_at dksX1_thirsts_6 21 rfl rfl)
theorem dX1_thirsts_161 : decode cX1_thirsts 161 = .ok (.iload_n 1, 1) := dk_27 (dk_at dksX1_thirsts_6 22 rfl rfl)
theorem dX1_thirsts_162 : decode cX1_thirsts 162 = .ok (.bipush 10, 2) := dk_16 10 (dk_at dksX1_thirsts_7 0 rfl rfl)
theorem dX1_thirsts_164 : decode cX1_thirsts 164 = .ok (.iload 4, 2) := dk_21 4 (dk_at dksX1_thirsts_7 2 rfl rfl)
theorem dX1_thirsts_166 : decode cX1_thirsts 166 = .ok (.imul, 1) := dk_104 (dk_at dksX1_thirsts_7 4 rfl rfl)
theorem dX1_thirsts_167 : decode cX1_thirsts 167 = .ok (.iload_n 2, 1) := dk_28 (dk_at dksX1_thirsts_7 5 rfl rfl)
theorem dX1_thirsts_168 : decode cX1_thirsts 168 = .ok (.invokevirtual 396, 3) := dk_182 1 140 (dk_at dksX1_thirsts_7 6 rfl rfl)
theorem dX1_thirsts_171 : decode cX1_thirsts 171 = .ok (.ifCond .eq 10, 3) := dk_153 0 10 (dk_at dksX1_thirsts_7 9 rfl rfl)
theorem dX1_thirsts_174 : decode cX1_thirsts 174 = .ok (.iconst 1, 1) := dk_4 (dk_at dksX1_thirsts_7 12 rfl rfl)
theorem dX1_thirsts_175 : decode cX1_thirsts 175 = .ok (.iload 4, 2) := dk_21 4 (dk_at dksX1_thirsts_7 13 rfl rfl)
theorem dX1_thirsts_177 : decode cX1_thirsts 177 = .ok (.ishl, 1) := dk_120 (dk_at dksX1_thirsts_7 15 rfl rfl)
theorem dX1_thirsts_178 : decode cX1_thirsts 178 = .ok (.goto 4, 3) := dk_167 0 4 (dk_at dksX1_thirsts_7 16 rfl rfl)
theorem dX1_thirsts_181 : decode cX1_thirsts 181 = .ok (.iconst 0, 1) := dk_3 (dk_at dksX1_thirsts_7 19 rfl rfl)
theorem dX1_thirsts_182 : decode cX1_thirsts 182 = .ok (.ior, 1) := dk_128 (dk_at dksX1_thirsts_7 20 rfl rfl)
theorem dX1_thirsts_183 : decode cX1_thirsts 183 = .ok (.istore_n 3, 1) := dk_62 (dk_at dksX1_thirsts_7 21 rfl rfl)
theorem dX1_thirsts_184 : decode cX1_thirsts 184 = .ok (.iinc 4 1, 3) := dk_132 4 1 (dk_at dksX1_thirsts_8 0 rfl rfl)
theorem dX1_thirsts_187 : decode cX1_thirsts 187 = .ok (.goto (-35), 3) := dk_167 255 221 (dk_at dksX1_thirsts_8 3 rfl rfl)
theorem dX1_thirsts_190 : decode cX1_thirsts 190 = .ok (.iload_n 3, 1) := dk_29 (dk_at dksX1_thirsts_8 6 rfl rfl)
theorem dX1_thirsts_191 : decode cX1_thirsts 191 = .ok (.ireturn, 1) := dk_172 (dk_at dksX1_thirsts_8 7 rfl rfl)
abbrev cX1_knownMany : ByteArray := prog_1_method_63_code
def yX1_knownMany : MethodName := ⟨RX1, "knownMany", "()I"⟩
def dkwX1_knownMany_0 : List UInt8 := [42, 180, 0, 132, 2, 160, 0, 13, 42, 180, 0, 125, 182, 0, 23, 167, 0, 7, 42, 180, 0, 132, 172]
abbrev dktX1_knownMany_0 : List UInt8 := dkwX1_knownMany_0 ++ []
theorem dksX1_knownMany_0 : cX1_knownMany.data.toList.drop 0 = dktX1_knownMany_0 := by decide +kernel
theorem dX1_knownMany_0 : decode cX1_knownMany 0 = .ok (.aload_n 0, 1) := dk_42 (dk_at dksX1_knownMany_0 0 rfl rfl)
theorem dX1_knownMany_1 : decode cX1_knownMany 1 = .ok (.getfield 132, 3) := dk_180 0 132 (dk_at dksX1_knownMany_0 1 rfl rfl)
theorem dX1_knownMany_4 : decode cX1_knownMany 4 = .ok (.iconst (-1), 1) := dk_2 (dk_at dksX1_knownMany_0 4 rfl rfl)
theorem dX1_knownMany_5 : decode cX1_knownMany 5 = .ok (.if_icmp .ne 13, 3) := dk_160 0 13 (dk_at dksX1_knownMany_0 5 rfl rfl)
theorem dX1_knownMany_8 : decode cX1_knownMany 8 = .ok (.aload_n 0, 1) := dk_42 (dk_at dksX1_knownMany_0 8 rfl rfl)
theorem dX1_knownMany_9 : decode cX1_knownMany 9 = .ok (.getfield 125, 3) := dk_180 0 125 (dk_at dksX1_knownMany_0 9 rfl rfl)
theorem dX1_knownMany_12 : decode cX1_knownMany 12 = .ok (.invokevirtual 23, 3) := dk_182 0 23 (dk_at dksX1_knownMany_0 12 rfl rfl)
theorem dX1_knownMany_15 : decode cX1_knownMany 15 = .ok (.goto 7, 3) := dk_167 0 7 (dk_at dksX1_knownMany_0 15 rfl rfl)
theorem dX1_knownMany_18 : decode cX1_knownMany 18 = .ok (.aload_n 0, 1) := dk_42 (dk_at dksX1_knownMany_0 18 rfl rfl)
theorem dX1_knownMany_19 : decode cX1_knownMany 19 = .ok (.getfield 132, 3) := dk_180 0 132 (dk_at dksX1_knownMany_0 19 rfl rfl)
theorem dX1_knownMany_22 : decode cX1_knownMany 22 = .ok (.ireturn, 1) := dk_172 (dk_at dksX1_knownMany_0 22 rfl rfl)
abbrev cX1_isThirst : ByteArray := prog_1_method_64_code
def yX1_isThirst : MethodName := ⟨RX1, "isThirst", "(III)Z"⟩
def dkwX1_isThirst_4 : List UInt8 := [154, 0, 5, 3, 172, 132, 5, 1, 167, 255, 190, 132, 4, 1, 167, 255, 167, 4, 172]
abbrev dktX1_isThirst_4 : List UInt8 := dkwX1_isThirst_4 ++ []
def dkwX1_isThirst_3 : List UInt8 := [21, 4, 160, 0, 27, 42, 180, 0, 125, 21, 5, 182, 0, 29, 192, 1, 128, 42, 180, 0, 105, 182, 1, 133]
abbrev dktX1_isThirst_3 : List UInt8 := dkwX1_isThirst_3 ++ dktX1_isThirst_4
def dkwX1_isThirst_2 : List UInt8 := [180, 0, 128, 21, 5, 51, 154, 0, 47, 42, 180, 0, 125, 21, 5, 182, 0, 29, 192, 1, 128, 182, 1, 130]
abbrev dktX1_isThirst_2 : List UInt8 := dkwX1_isThirst_2 ++ dktX1_isThirst_3
def dkwX1_isThirst_1 : List UInt8 := [163, 0, 89, 42, 180, 0, 105, 3, 182, 1, 21, 3, 54, 5, 21, 5, 42, 182, 1, 125, 162, 0, 63, 42]
abbrev dktX1_isThirst_1 : List UInt8 := dkwX1_isThirst_1 ++ dktX1_isThirst_2
def dkwX1_isThirst_0 : List UInt8 := [42, 180, 0, 105, 182, 0, 135, 42, 180, 0, 105, 180, 0, 203, 27, 28, 79, 4, 54, 4, 21, 4, 29]
abbrev dktX1_isThirst_0 : List UInt8 := dkwX1_isThirst_0 ++ dktX1_isThirst_1
theorem dksX1_isThirst_0 : cX1_isThirst.data.toList.drop 0 = dktX1_isThirst_0 := by decide +kernel
theorem dksX1_isThirst_1 : cX1_isThirst.data.toList.drop 23 = dktX1_isThirst_1 := dk_seg dksX1_isThirst_0 23 rfl rfl
theorem dksX1_isThirst_2 : cX1_isThirst.data.toList.drop 47 = dktX1_isThirst_2 := dk_seg dksX1_isThirst_1 24 rfl rfl
theorem dksX1_isThirst_3 : cX1_isThirst.data.toList.drop 71 = dktX1_isThirst_3 := dk_seg dksX1_isThirst_2 24 rfl rfl
theorem dksX1_isThirst_4 : cX1_isThirst.data.toList.drop 95 = dktX1_isThirst_4 := dk_seg dksX1_isThirst_3 24 rfl rfl
theorem dX1_isThirst_0 : decode cX1_isThirst 0 = .ok (.aload_n 0, 1) := dk_42 (dk_at dksX1_isThirst_0 0 rfl rfl)
theorem dX1_isThirst_1 : decode cX1_isThirst 1 = .ok (.getfield 105, 3) := dk_180 0 105 (dk_at dksX1_isThirst_0 1 rfl rfl)
theorem dX1_isThirst_4 : decode cX1_isThirst 4 = .ok (.invokevirtual 135, 3) := dk_182 0 135 (dk_at dksX1_isThirst_0 4 rfl rfl)
theorem dX1_isThirst_7 : decode cX1_isThirst 7 = .ok (.aload_n 0, 1) := dk_42 (dk_at dksX1_isThirst_0 7 rfl rfl)
theorem dX1_isThirst_8 : decode cX1_isThirst 8 = .ok (.getfield 105, 3) := dk_180 0 105 (dk_at dksX1_isThirst_0 8 rfl rfl)
theorem dX1_isThirst_11 : decode cX1_isThirst 11 = .ok (.getfield 203, 3) := dk_180 0 203 (dk_at dksX1_isThirst_0 11 rfl rfl)
theorem dX1_isThirst_14 : decode cX1_isThirst 14 = .ok (.iload_n 1, 1) := dk_27 (dk_at dksX1_isThirst_0 14 rfl rfl)
theorem dX1_isThirst_15 : decode cX1_isThirst 15 = .ok (.iload_n 2, 1) := dk_28 (dk_at dksX1_isThirst_0 15 rfl rfl)
theorem dX1_isThirst_16 : decode cX1_isThirst 16 = .ok (.iastore, 1) := dk_79 (dk_at dksX1_isThirst_0 16 rfl rfl)
theorem dX1_isThirst_17 : decode cX1_isThirst 17 = .ok (.iconst 1, 1) := dk_4 (dk_at dksX1_isThirst_0 17 rfl rfl)
theorem dX1_isThirst_18 : decode cX1_isThirst 18 = .ok (.istore 4, 2) := dk_54 4 (dk_at dksX1_isThirst_0 18 rfl rfl)
theorem dX1_isThirst_20 : decode cX1_isThirst 20 = .ok (.iload 4, 2) := dk_21 4 (dk_at dksX1_isThirst_0 20 rfl rfl)
theorem dX1_isThirst_22 : decode cX1_isThirst 22 = .ok (.iload_n 3, 1) := dk_29 (dk_at dksX1_isThirst_0 22 rfl rfl)
theorem dX1_isThirst_23 : decode cX1_isThirst 23 = .ok (.if_icmp .gt 89, 3) := dk_163 0 89 (dk_at dksX1_isThirst_1 0 rfl rfl)
theorem dX1_isThirst_26 : decode cX1_isThirst 26 = .ok (.aload_n 0, 1) := dk_42 (dk_at dksX1_isThirst_1 3 rfl rfl)
theorem dX1_isThirst_27 : decode cX1_isThirst 27 = .ok (.getfield 105, 3) := dk_180 0 105 (dk_at dksX1_isThirst_1 4 rfl rfl)
theorem dX1_isThirst_30 : decode cX1_isThirst 30 = .ok (.iconst 0, 1) := dk_3 (dk_at dksX1_isThirst_1 7 rfl rfl)
theorem dX1_isThirst_31 : decode cX1_isThirst 31 = .ok (.invokevirtual 277, 3) := dk_182 1 21 (dk_at dksX1_isThirst_1 8 rfl rfl)
theorem dX1_isThirst_34 : decode cX1_isThirst 34 = .ok (.iconst 0, 1) := dk_3 (dk_at dksX1_isThirst_1 11 rfl rfl)
theorem dX1_isThirst_35 : decode cX1_isThirst 35 = .ok (.istore 5, 2) := dk_54 5 (dk_at dksX1_isThirst_1 12 rfl rfl)
theorem dX1_isThirst_37 : decode cX1_isThirst 37 = .ok (.iload 5, 2) := dk_21 5 (dk_at dksX1_isThirst_1 14 rfl rfl)
theorem dX1_isThirst_39 : decode cX1_isThirst 39 = .ok (.aload_n 0, 1) := dk_42 (dk_at dksX1_isThirst_1 16 rfl rfl)
theorem dX1_isThirst_40 : decode cX1_isThirst 40 = .ok (.invokevirtual 381, 3) := dk_182 1 125 (dk_at dksX1_isThirst_1 17 rfl rfl)
theorem dX1_isThirst_43 : decode cX1_isThirst 43 = .ok (.if_icmp .ge 63, 3) := dk_162 0 63 (dk_at dksX1_isThirst_1 20 rfl rfl)
theorem dX1_isThirst_46 : decode cX1_isThirst 46 = .ok (.aload_n 0, 1) := dk_42 (dk_at dksX1_isThirst_1 23 rfl rfl)
theorem dX1_isThirst_47 : decode cX1_isThirst 47 = .ok (.getfield 128, 3) := dk_180 0 128 (dk_at dksX1_isThirst_2 0 rfl rfl)
theorem dX1_isThirst_50 : decode cX1_isThirst 50 = .ok (.iload 5, 2) := dk_21 5 (dk_at dksX1_isThirst_2 3 rfl rfl)
theorem dX1_isThirst_52 : decode cX1_isThirst 52 = .ok (.baload, 1) := dk_51 (dk_at dksX1_isThirst_2 5 rfl rfl)
theorem dX1_isThirst_53 : decode cX1_isThirst 53 = .ok (.ifCond .ne 47, 3) := dk_154 0 47 (dk_at dksX1_isThirst_2 6 rfl rfl)
theorem dX1_isThirst_56 : decode cX1_isThirst 56 = .ok (.aload_n 0, 1) := dk_42 (dk_at dksX1_isThirst_2 9 rfl rfl)
theorem dX1_isThirst_57 : decode cX1_isThirst 57 = .ok (.getfield 125, 3) := dk_180 0 125 (dk_at dksX1_isThirst_2 10 rfl rfl)
theorem dX1_isThirst_60 : decode cX1_isThirst 60 = .ok (.iload 5, 2) := dk_21 5 (dk_at dksX1_isThirst_2 13 rfl rfl)
theorem dX1_isThirst_62 : decode cX1_isThirst 62 = .ok (.invokevirtual 29, 3) := dk_182 0 29 (dk_at dksX1_isThirst_2 15 rfl rfl)
theorem dX1_isThirst_65 : decode cX1_isThirst 65 = .ok (.checkcast 384, 3) := dk_192 1 128 (dk_at dksX1_isThirst_2 18 rfl rfl)
theorem dX1_isThirst_68 : decode cX1_isThirst 68 = .ok (.invokevirtual 386, 3) := dk_182 1 130 (dk_at dksX1_isThirst_2 21 rfl rfl)
theorem dX1_isThirst_71 : decode cX1_isThirst 71 = .ok (.iload 4, 2) := dk_21 4 (dk_at dksX1_isThirst_3 0 rfl rfl)
theorem dX1_isThirst_73 : decode cX1_isThirst 73 = .ok (.if_icmp .ne 27, 3) := dk_160 0 27 (dk_at dksX1_isThirst_3 2 rfl rfl)
theorem dX1_isThirst_76 : decode cX1_isThirst 76 = .ok (.aload_n 0, 1) := dk_42 (dk_at dksX1_isThirst_3 5 rfl rfl)
theorem dX1_isThirst_77 : decode cX1_isThirst 77 = .ok (.getfield 125, 3) := dk_180 0 125 (dk_at dksX1_isThirst_3 6 rfl rfl)
theorem dX1_isThirst_80 : decode cX1_isThirst 80 = .ok (.iload 5, 2) := dk_21 5 (dk_at dksX1_isThirst_3 9 rfl rfl)
theorem dX1_isThirst_82 : decode cX1_isThirst 82 = .ok (.invokevirtual 29, 3) := dk_182 0 29 (dk_at dksX1_isThirst_3 11 rfl rfl)
theorem dX1_isThirst_85 : decode cX1_isThirst 85 = .ok (.checkcast 384, 3) := dk_192 1 128 (dk_at dksX1_isThirst_3 14 rfl rfl)
theorem dX1_isThirst_88 : decode cX1_isThirst 88 = .ok (.aload_n 0, 1) := dk_42 (dk_at dksX1_isThirst_3 17 rfl rfl)
theorem dX1_isThirst_89 : decode cX1_isThirst 89 = .ok (.getfield 105, 3) := dk_180 0 105 (dk_at dksX1_isThirst_3 18 rfl rfl)
theorem dX1_isThirst_92 : decode cX1_isThirst 92 = .ok (.invokevirtual 389, 3) := dk_182 1 133 (dk_at dksX1_isThirst_3 21 rfl rfl)
theorem dX1_isThirst_95 : decode cX1_isThirst 95 = .ok (.ifCond .ne 5, 3) := dk_154 0 5 (dk_at dksX1_isThirst_4 0 rfl rfl)
theorem dX1_isThirst_98 : decode cX1_isThirst 98 = .ok (.iconst 0, 1) := dk_3 (dk_at dksX1_isThirst_4 3 rfl rfl)
theorem dX1_isThirst_99 : decode cX1_isThirst 99 = .ok (.ireturn, 1) := dk_172 (dk_at dksX1_isThirst_4 4 rfl rfl)
theorem dX1_isThirst_100 : decode cX1_isThirst 100 = .ok (.iinc 5 1, 3) := dk_132 5 1 (dk_at dksX1_isThirst_4 5 rfl rfl)
theorem dX1_isThirst_103 : decode cX1_isThirst 103 = .ok (.goto (-66), 3) := dk_167 255 190 (dk_at dksX1_isThirst_4 8 rfl rfl)
theorem dX1_isThirst_106 : decode cX1_isThirst 106 = .ok (.iinc 4 1, 3) := dk_132 4 1 (dk_at dksX1_isThirst_4 11 rfl rfl)
theorem dX1_isThirst_109 : decode cX1_isThirst 109 = .ok (.goto (-89), 3) := dk_167 255 167 (dk_at dksX1_isThirst_4 14 rfl rfl)
theorem dX1_isThirst_112 : decode cX1_isThirst 112 = .ok (.iconst 1, 1) := dk_4 (dk_at dksX1_isThirst_4 17 rfl rfl)
theorem dX1_isThirst_113 : decode cX1_isThirst 113 = .ok (.ireturn, 1) := dk_172 (dk_at dksX1_isThirst_4 18 rfl rfl)
abbrev cX1_chance : ByteArray := prog_1_method_66_code
def yX1_chance : MethodName := ⟨RX1, "chance", "(IIII)I"⟩
def dkwX1_chance_5 : List UInt8 := [21, 4, 161, 0, 7, 4, 167, 0, 4, 3, 96, 54, 5, 132, 7, 1, 167, 255, 170, 21, 5, 172]
abbrev dktX1_chance_5 : List UInt8 := dkwX1_chance_5 ++ []
def dkwX1_chance_4 : List UInt8 := [167, 255, 239, 42, 180, 0, 105, 180, 1, 144, 54, 6, 21, 5, 42, 180, 0, 105, 180, 0, 236, 29, 46]
abbrev dktX1_chance_4 : List UInt8 := dkwX1_chance_4 ++ dktX1_chance_5
def dkwX1_chance_3 : List UInt8 := [181, 1, 144, 3, 54, 8, 21, 8, 28, 162, 0, 17, 42, 180, 0, 105, 4, 182, 1, 21, 132, 8, 1]
abbrev dktX1_chance_3 : List UInt8 := dkwX1_chance_3 ++ dktX1_chance_4
def dkwX1_chance_2 : List UInt8 := [21, 7, 16, 10, 162, 0, 85, 42, 180, 0, 105, 42, 180, 0, 101, 182, 0, 254, 42, 180, 0, 105, 21, 6]
abbrev dktX1_chance_2 : List UInt8 := dkwX1_chance_2 ++ dktX1_chance_3
def dkwX1_chance_1 : List UInt8 := [21, 4, 133, 9, 20, 1, 8, 184, 0, 144, 154, 0, 5, 2, 172, 3, 54, 5, 27, 54, 6, 3, 54, 7]
abbrev dktX1_chance_1 : List UInt8 := dkwX1_chance_1 ++ dktX1_chance_2
def dkwX1_chance_0 : List UInt8 := [27, 155, 0, 36, 28, 133, 10, 20, 1, 8, 184, 0, 144, 153, 0, 24, 42, 29, 182, 0, 233, 153, 0, 16]
abbrev dktX1_chance_0 : List UInt8 := dkwX1_chance_0 ++ dktX1_chance_1
theorem dksX1_chance_0 : cX1_chance.data.toList.drop 0 = dktX1_chance_0 := by decide +kernel
theorem dksX1_chance_1 : cX1_chance.data.toList.drop 24 = dktX1_chance_1 := dk_seg dksX1_chance_0 24 rfl rfl
theorem dksX1_chance_2 : cX1_chance.data.toList.drop 48 = dktX1_chance_2 := dk_seg dksX1_chance_1 24 rfl rfl
theorem dksX1_chance_3 : cX1_chance.data.toList.drop 72 = dktX1_chance_3 := dk_seg dksX1_chance_2 24 rfl rfl
theorem dksX1_chance_4 : cX1_chance.data.toList.drop 95 = dktX1_chance_4 := dk_seg dksX1_chance_3 23 rfl rfl
theorem dksX1_chance_5 : cX1_chance.data.toList.drop 118 = dktX1_chance_5 := dk_seg dksX1_chance_4 23 rfl rfl
theorem dX1_chance_0 : decode cX1_chance 0 = .ok (.iload_n 1, 1) := dk_27 (dk_at dksX1_chance_0 0 rfl rfl)
theorem dX1_chance_1 : decode cX1_chance 1 = .ok (.ifCond .lt 36, 3) := dk_155 0 36 (dk_at dksX1_chance_0 1 rfl rfl)
theorem dX1_chance_4 : decode cX1_chance 4 = .ok (.iload_n 2, 1) := dk_28 (dk_at dksX1_chance_0 4 rfl rfl)
theorem dX1_chance_5 : decode cX1_chance 5 = .ok (.i2l, 1) := dk_133 (dk_at dksX1_chance_0 5 rfl rfl)
theorem dX1_chance_6 : decode cX1_chance 6 = .ok (.lconst 1, 1) := dk_10 (dk_at dksX1_chance_0 6 rfl rfl)
theorem dX1_chance_7 : decode cX1_chance 7 = .ok (.ldc2_w 264, 3) := dk_20 1 8 (dk_at dksX1_chance_0 7 rfl rfl)
theorem dX1_chance_10 : decode cX1_chance 10 = .ok (.invokestatic 144, 3) := dk_184 0 144 (dk_at dksX1_chance_0 10 rfl rfl)
theorem dX1_chance_13 : decode cX1_chance 13 = .ok (.ifCond .eq 24, 3) := dk_153 0 24 (dk_at dksX1_chance_0 13 rfl rfl)
theorem dX1_chance_16 : decode cX1_chance 16 = .ok (.aload_n 0, 1) := dk_42 (dk_at dksX1_chance_0 16 rfl rfl)
theorem dX1_chance_17 : decode cX1_chance 17 = .ok (.iload_n 3, 1) := dk_29 (dk_at dksX1_chance_0 17 rfl rfl)
theorem dX1_chance_18 : decode cX1_chance 18 = .ok (.invokevirtual 233, 3) := dk_182 0 233 (dk_at dksX1_chance_0 18 rfl rfl)
theorem dX1_chance_21 : decode cX1_chance 21 = .ok (.ifCond .eq 16, 3) := dk_153 0 16 (dk_at dksX1_chance_0 21 rfl rfl)
theorem dX1_chance_24 : decode cX1_chance 24 = .ok (.iload 4, 2) := dk_21 4 (dk_at dksX1_chance_1 0 rfl rfl)
theorem dX1_chance_26 : decode cX1_chance 26 = .ok (.i2l, 1) := dk_133 (dk_at dksX1_chance_1 2 rfl rfl)
theorem dX1_chance_27 : decode cX1_chance 27 = .ok (.lconst 0, 1) := dk_9 (dk_at dksX1_chance_1 3 rfl rfl)
theorem dX1_chance_28 : decode cX1_chance 28 = .ok (.ldc2_w 264, 3) := dk_20 1 8 (dk_at dksX1_chance_1 4 rfl rfl)
theorem dX1_chance_31 : decode cX1_chance 31 = .ok (.invokestatic 144, 3) := dk_184 0 144 (dk_at dksX1_chance_1 7 rfl rfl)
theorem dX1_chance_34 : decode cX1_chance 34 = .ok (.ifCond .ne 5, 3) := dk_154 0 5 (dk_at dksX1_chance_1 10 rfl rfl)
theorem dX1_chance_37 : decode cX1_chance 37 = .ok (.iconst (-1), 1) := dk_2 (dk_at dksX1_chance_1 13 rfl rfl)
theorem dX1_chance_38 : decode cX1_chance 38 = .ok (.ireturn, 1) := dk_172 (dk_at dksX1_chance_1 14 rfl rfl)
theorem dX1_chance_39 : decode cX1_chance 39 = .ok (.iconst 0, 1) := dk_3 (dk_at dksX1_chance_1 15 rfl rfl)
theorem dX1_chance_40 : decode cX1_chance 40 = .ok (.istore 5, 2) := dk_54 5 (dk_at dksX1_chance_1 16 rfl rfl)
theorem dX1_chance_42 : decode cX1_chance 42 = .ok (.iload_n 1, 1) := dk_27 (dk_at dksX1_chance_1 18 rfl rfl)
theorem dX1_chance_43 : decode cX1_chance 43 = .ok (.istore 6, 2) := dk_54 6 (dk_at dksX1_chance_1 19 rfl rfl)
theorem dX1_chance_45 : decode cX1_chance 45 = .ok (.iconst 0, 1) := dk_3 (dk_at dksX1_chance_1 21 rfl rfl)
theorem dX1_chance_46 : decode cX1_chance 46 = .ok (.istore 7, 2) := dk_54 7 (dk_at dksX1_chance_1 22 rfl rfl)
theorem dX1_chance_48 : decode cX1_chance 48 = .ok (.iload 7, 2) := dk_21 7 (dk_at dksX1_chance_2 0 rfl rfl)
theorem dX1_chance_50 : decode cX1_chance 50 = .ok (.bipush 10, 2) := dk_16 10 (dk_at dksX1_chance_2 2 rfl rfl)
theorem dX1_chance_52 : decode cX1_chance 52 = .ok (.if_icmp .ge 85, 3) := dk_162 0 85 (dk_at dksX1_chance_2 4 rfl rfl)
theorem dX1_chance_55 : decode cX1_chance 55 = .ok (.aload_n 0, 1) := dk_42 (dk_at dksX1_chance_2 7 rfl rfl)
theorem dX1_chance_56 : decode cX1_chance 56 = .ok (.getfield 105, 3) := dk_180 0 105 (dk_at dksX1_chance_2 8 rfl rfl)
theorem dX1_chance_59 : decode cX1_chance 59 = .ok (.aload_n 0, 1) := dk_42 (dk_at dksX1_chance_2 11 rfl rfl)
theorem dX1_chance_60 : decode cX1_chance 60 = .ok (.getfield 101, 3) := dk_180 0 101 (dk_at dksX1_chance_2 12 rfl rfl)
theorem dX1_chance_63 : decode cX1_chance 63 = .ok (.invokevirtual 254, 3) := dk_182 0 254 (dk_at dksX1_chance_2 15 rfl rfl)
theorem dX1_chance_66 : decode cX1_chance 66 = .ok (.aload_n 0, 1) := dk_42 (dk_at dksX1_chance_2 18 rfl rfl)
theorem dX1_chance_67 : decode cX1_chance 67 = .ok (.getfield 105, 3) := dk_180 0 105 (dk_at dksX1_chance_2 19 rfl rfl)
theorem dX1_chance_70 : decode cX1_chance 70 = .ok (.iload 6, 2) := dk_21 6 (dk_at dksX1_chance_2 22 rfl rfl)
theorem dX1_chance_72 : decode cX1_chance 72 = .ok (.putfield 400, 3) := dk_181 1 144 (dk_at dksX1_chance_3 0 rfl rfl)
theorem dX1_chance_75 : decode cX1_chance 75 = .ok (.iconst 0, 1) := dk_3 (dk_at dksX1_chance_3 3 rfl rfl)
theorem dX1_chance_76 : decode cX1_chance 76 = .ok (.istore 8, 2) := dk_54 8 (dk_at dksX1_chance_3 4 rfl rfl)
theorem dX1_chance_78 : decode cX1_chance 78 = .ok (.iload 8, 2) := dk_21 8 (dk_at dksX1_chance_3 6 rfl rfl)
theorem dX1_chance_80 : decode cX1_chance 80 = .ok (.iload_n 2, 1) := dk_28 (dk_at dksX1_chance_3 8 rfl rfl)
theorem dX1_chance_81 : decode cX1_chance 81 = .ok (.if_icmp .ge 17, 3) := dk_162 0 17 (dk_at dksX1_chance_3 9 rfl rfl)
theorem dX1_chance_84 : decode cX1_chance 84 = .ok (.aload_n 0, 1) := dk_42 (dk_at dksX1_chance_3 12 rfl rfl)
theorem dX1_chance_85 : decode cX1_chance 85 = .ok (.getfield 105, 3) := dk_180 0 105 (dk_at dksX1_chance_3 13 rfl rfl)
theorem dX1_chance_88 : decode cX1_chance 88 = .ok (.iconst 1, 1) := dk_4 (dk_at dksX1_chance_3 16 rfl rfl)
theorem dX1_chance_89 : decode cX1_chance 89 = .ok (.invokevirtual 277, 3) := dk_182 1 21 (dk_at dksX1_chance_3 17 rfl rfl)
theorem dX1_chance_92 : decode cX1_chance 92 = .ok (.iinc 8 1, 3) := dk_132 8 1 (dk_at dksX1_chance_3 20 rfl rfl)
theorem dX1_chance_95 : decode cX1_chance 95 = .ok (.goto (-17), 3) := dk_167 255 239 (dk_at dksX1_chance_4 0 rfl rfl)
theorem dX1_chance_98 : decode cX1_chance 98 = .ok (.aload_n 0, 1) := dk_42 (dk_at dksX1_chance_4 3 rfl rfl)
theorem dX1_chance_99 : decode cX1_chance 99 = .ok (.getfield 105, 3) := dk_180 0 105 (dk_at dksX1_chance_4 4 rfl rfl)
theorem dX1_chance_102 : decode cX1_chance 102 = .ok (.getfield 400, 3) := dk_180 1 144 (dk_at dksX1_chance_4 7 rfl rfl)
theorem dX1_chance_105 : decode cX1_chance 105 = .ok (.istore 6, 2) := dk_54 6 (dk_at dksX1_chance_4 10 rfl rfl)
theorem dX1_chance_107 : decode cX1_chance 107 = .ok (.iload 5, 2) := dk_21 5 (dk_at dksX1_chance_4 12 rfl rfl)
theorem dX1_chance_109 : decode cX1_chance 109 = .ok (.aload_n 0, 1) := dk_42 (dk_at dksX1_chance_4 14 rfl rfl)
theorem dX1_chance_110 : decode cX1_chance 110 = .ok (.getfield 105, 3) := dk_180 0 105 (dk_at dksX1_chance_4 15 rfl rfl)
theorem dX1_chance_113 : decode cX1_chance 113 = .ok (.getfield 236, 3) := dk_180 0 236 (dk_at dksX1_chance_4 18 rfl rfl)
theorem dX1_chance_116 : decode cX1_chance 116 = .ok (.iload_n 3, 1) := dk_29 (dk_at dksX1_chance_4 21 rfl rfl)
theorem dX1_chance_117 : decode cX1_chance 117 = .ok (.iaload, 1) := dk_46 (dk_at dksX1_chance_4 22 rfl rfl)
theorem dX1_chance_118 : decode cX1_chance 118 = .ok (.iload 4, 2) := dk_21 4 (dk_at dksX1_chance_5 0 rfl rfl)
theorem dX1_chance_120 : decode cX1_chance 120 = .ok (.if_icmp .lt 7, 3) := dk_161 0 7 (dk_at dksX1_chance_5 2 rfl rfl)
theorem dX1_chance_123 : decode cX1_chance 123 = .ok (.iconst 1, 1) := dk_4 (dk_at dksX1_chance_5 5 rfl rfl)
theorem dX1_chance_124 : decode cX1_chance 124 = .ok (.goto 4, 3) := dk_167 0 4 (dk_at dksX1_chance_5 6 rfl rfl)
theorem dX1_chance_127 : decode cX1_chance 127 = .ok (.iconst 0, 1) := dk_3 (dk_at dksX1_chance_5 9 rfl rfl)
theorem dX1_chance_128 : decode cX1_chance 128 = .ok (.iadd, 1) := dk_96 (dk_at dksX1_chance_5 10 rfl rfl)
theorem dX1_chance_129 : decode cX1_chance 129 = .ok (.istore 5, 2) := dk_54 5 (dk_at dksX1_chance_5 11 rfl rfl)
theorem dX1_chance_131 : decode cX1_chance 131 = .ok (.iinc 7 1, 3) := dk_132 7 1 (dk_at dksX1_chance_5 13 rfl rfl)
theorem dX1_chance_134 : decode cX1_chance 134 = .ok (.goto (-86), 3) := dk_167 255 170 (dk_at dksX1_chance_5 16 rfl rfl)
theorem dX1_chance_137 : decode cX1_chance 137 = .ok (.iload 5, 2) := dk_21 5 (dk_at dksX1_chance_5 19 rfl rfl)
theorem dX1_chance_139 : decode cX1_chance 139 = .ok (.ireturn, 1) := dk_172 (dk_at dksX1_chance_5 21 rfl rfl)
abbrev cX1_tried : ByteArray := prog_1_method_67_code
def yX1_tried : MethodName := ⟨RX1, "tried", "(III)I"⟩
def dkwX1_tried_6 : List UInt8 := [180, 1, 30, 100, 172]
abbrev dktX1_tried_6 : List UInt8 := dkwX1_tried_6 ++ []
def dkwX1_tried_5 : List UInt8 := [167, 255, 227, 42, 180, 0, 105, 29, 182, 1, 27, 42, 180, 0, 105, 180, 1, 30, 42, 180, 0, 101]
abbrev dktX1_tried_5 : List UInt8 := dkwX1_tried_5 ++ dktX1_tried_6
def dkwX1_tried_4 : List UInt8 := [162, 0, 26, 27, 6, 160, 0, 21, 42, 180, 0, 105, 180, 0, 236, 21, 5, 16, 99, 79, 132, 5, 1]
abbrev dktX1_tried_4 : List UInt8 := dkwX1_tried_4 ++ dktX1_tried_5
def dkwX1_tried_3 : List UInt8 := [180, 0, 105, 27, 181, 1, 147, 42, 180, 0, 105, 28, 181, 1, 150, 3, 54, 5, 21, 5, 42, 182, 0, 182]
abbrev dktX1_tried_3 : List UInt8 := dkwX1_tried_3 ++ dktX1_tried_4
def dkwX1_tried_2 : List UInt8 := [20, 1, 16, 184, 0, 144, 154, 0, 5, 2, 172, 42, 180, 0, 105, 42, 180, 0, 101, 182, 0, 254, 42]
abbrev dktX1_tried_2 : List UInt8 := dkwX1_tried_2 ++ dktX1_tried_3
def dkwX1_tried_1 : List UInt8 := [153, 0, 11, 28, 154, 0, 7, 4, 167, 0, 4, 3, 54, 4, 21, 4, 153, 0, 15, 29, 133, 9]
abbrev dktX1_tried_1 : List UInt8 := dkwX1_tried_1 ++ dktX1_tried_2
def dkwX1_tried_0 : List UInt8 := [27, 5, 160, 0, 11, 42, 28, 182, 0, 186, 167, 0, 24, 27, 133, 9, 20, 1, 25, 184, 0, 144]
abbrev dktX1_tried_0 : List UInt8 := dkwX1_tried_0 ++ dktX1_tried_1
theorem dksX1_tried_0 : cX1_tried.data.toList.drop 0 = dktX1_tried_0 := by decide +kernel
theorem dksX1_tried_1 : cX1_tried.data.toList.drop 22 = dktX1_tried_1 := dk_seg dksX1_tried_0 22 rfl rfl
theorem dksX1_tried_2 : cX1_tried.data.toList.drop 44 = dktX1_tried_2 := dk_seg dksX1_tried_1 22 rfl rfl
theorem dksX1_tried_3 : cX1_tried.data.toList.drop 67 = dktX1_tried_3 := dk_seg dksX1_tried_2 23 rfl rfl
theorem dksX1_tried_4 : cX1_tried.data.toList.drop 91 = dktX1_tried_4 := dk_seg dksX1_tried_3 24 rfl rfl
theorem dksX1_tried_5 : cX1_tried.data.toList.drop 114 = dktX1_tried_5 := dk_seg dksX1_tried_4 23 rfl rfl
theorem dksX1_tried_6 : cX1_tried.data.toList.drop 136 = dktX1_tried_6 := dk_seg dksX1_tried_5 22 rfl rfl
theorem dX1_tried_0 : decode cX1_tried 0 = .ok (.iload_n 1, 1) := dk_27 (dk_at dksX1_tried_0 0 rfl rfl)
theorem dX1_tried_1 : decode cX1_tried 1 = .ok (.iconst 2, 1) := dk_5 (dk_at dksX1_tried_0 1 rfl rfl)
theorem dX1_tried_2 : decode cX1_tried 2 = .ok (.if_icmp .ne 11, 3) := dk_160 0 11 (dk_at dksX1_tried_0 2 rfl rfl)
theorem dX1_tried_5 : decode cX1_tried 5 = .ok (.aload_n 0, 1) := dk_42 (dk_at dksX1_tried_0 5 rfl rfl)
theorem dX1_tried_6 : decode cX1_tried 6 = .ok (.iload_n 2, 1) := dk_28 (dk_at dksX1_tried_0 6 rfl rfl)
theorem dX1_tried_7 : decode cX1_tried 7 = .ok (.invokevirtual 186, 3) := dk_182 0 186 (dk_at dksX1_tried_0 7 rfl rfl)
theorem dX1_tried_10 : decode cX1_tried 10 = .ok (.goto 24, 3) := dk_167 0 24 (dk_at dksX1_tried_0 10 rfl rfl)
theorem dX1_tried_13 : decode cX1_tried 13 = .ok (.iload_n 1, 1) := dk_27 (dk_at dksX1_tried_0 13 rfl rfl)
theorem dX1_tried_14 : decode cX1_tried 14 = .ok (.i2l, 1) := dk_133 (dk_at dksX1_tried_0 14 rfl rfl)
theorem dX1_tried_15 : decode cX1_tried 15 = .ok (.lconst 0, 1) := dk_9 (dk_at dksX1_tried_0 15 rfl rfl)
theorem dX1_tried_16 : decode cX1_tried 16 = .ok (.ldc2_w 281, 3) := dk_20 1 25 (dk_at dksX1_tried_0 16 rfl rfl)
theorem dX1_tried_19 : decode cX1_tried 19 = .ok (.invokestatic 144, 3) := dk_184 0 144 (dk_at dksX1_tried_0 19 rfl rfl)
theorem dX1_tried_22 : decode cX1_tried 22 = .ok (.ifCond .eq 11, 3) := dk_153 0 11 (dk_at dksX1_tried_1 0 rfl rfl)
theorem dX1_tried_25 : decode cX1_tried 25 = .ok (.iload_n 2, 1) := dk_28 (dk_at dksX1_tried_1 3 rfl rfl)
theorem dX1_tried_26 : decode cX1_tried 26 = .ok (.ifCond .ne 7, 3) := dk_154 0 7 (dk_at dksX1_tried_1 4 rfl rfl)
theorem dX1_tried_29 : decode cX1_tried 29 = .ok (.iconst 1, 1) := dk_4 (dk_at dksX1_tried_1 7 rfl rfl)
theorem dX1_tried_30 : decode cX1_tried 30 = .ok (.goto 4, 3) := dk_167 0 4 (dk_at dksX1_tried_1 8 rfl rfl)
theorem dX1_tried_33 : decode cX1_tried 33 = .ok (.iconst 0, 1) := dk_3 (dk_at dksX1_tried_1 11 rfl rfl)
theorem dX1_tried_34 : decode cX1_tried 34 = .ok (.istore 4, 2) := dk_54 4 (dk_at dksX1_tried_1 12 rfl rfl)
theorem dX1_tried_36 : decode cX1_tried 36 = .ok (.iload 4, 2) := dk_21 4 (dk_at dksX1_tried_1 14 rfl rfl)
theorem dX1_tried_38 : decode cX1_tried 38 = .ok (.ifCond .eq 15, 3) := dk_153 0 15 (dk_at dksX1_tried_1 16 rfl rfl)
theorem dX1_tried_41 : decode cX1_tried 41 = .ok (.iload_n 3, 1) := dk_29 (dk_at dksX1_tried_1 19 rfl rfl)
theorem dX1_tried_42 : decode cX1_tried 42 = .ok (.i2l, 1) := dk_133 (dk_at dksX1_tried_1 20 rfl rfl)
theorem dX1_tried_43 : decode cX1_tried 43 = .ok (.lconst 0, 1) := dk_9 (dk_at dksX1_tried_1 21 rfl rfl)
theorem dX1_tried_44 : decode cX1_tried 44 = .ok (.ldc2_w 272, 3) := dk_20 1 16 (dk_at dksX1_tried_2 0 rfl rfl)
theorem dX1_tried_47 : decode cX1_tried 47 = .ok (.invokestatic 144, 3) := dk_184 0 144 (dk_at dksX1_tried_2 3 rfl rfl)
theorem dX1_tried_50 : decode cX1_tried 50 = .ok (.ifCond .ne 5, 3) := dk_154 0 5 (dk_at dksX1_tried_2 6 rfl rfl)
theorem dX1_tried_53 : decode cX1_tried 53 = .ok (.iconst (-1), 1) := dk_2 (dk_at dksX1_tried_2 9 rfl rfl)
theorem dX1_tried_54 : decode cX1_tried 54 = .ok (.ireturn, 1) := dk_172 (dk_at dksX1_tried_2 10 rfl rfl)
theorem dX1_tried_55 : decode cX1_tried 55 = .ok (.aload_n 0, 1) := dk_42 (dk_at dksX1_tried_2 11 rfl rfl)
theorem dX1_tried_56 : decode cX1_tried 56 = .ok (.getfield 105, 3) := dk_180 0 105 (dk_at dksX1_tried_2 12 rfl rfl)
theorem dX1_tried_59 : decode cX1_tried 59 = .ok (.aload_n 0, 1) := dk_42 (dk_at dksX1_tried_2 15 rfl rfl)
theorem dX1_tried_60 : decode cX1_tried 60 = .ok (.getfield 101, 3) := dk_180 0 101 (dk_at dksX1_tried_2 16 rfl rfl)
theorem dX1_tried_63 : decode cX1_tried 63 = .ok (.invokevirtual 254, 3) := dk_182 0 254 (dk_at dksX1_tried_2 19 rfl rfl)
theorem dX1_tried_66 : decode cX1_tried 66 = .ok (.aload_n 0, 1) := dk_42 (dk_at dksX1_tried_2 22 rfl rfl)
theorem dX1_tried_67 : decode cX1_tried 67 = .ok (.getfield 105, 3) := dk_180 0 105 (dk_at dksX1_tried_3 0 rfl rfl)
theorem dX1_tried_70 : decode cX1_tried 70 = .ok (.iload_n 1, 1) := dk_27 (dk_at dksX1_tried_3 3 rfl rfl)
theorem dX1_tried_71 : decode cX1_tried 71 = .ok (.putfield 403, 3) := dk_181 1 147 (dk_at dksX1_tried_3 4 rfl rfl)
theorem dX1_tried_74 : decode cX1_tried 74 = .ok (.aload_n 0, 1) := dk_42 (dk_at dksX1_tried_3 7 rfl rfl)
theorem dX1_tried_75 : decode cX1_tried 75 = .ok (.getfield 105, 3) := dk_180 0 105 (dk_at dksX1_tried_3 8 rfl rfl)
theorem dX1_tried_78 : decode cX1_tried 78 = .ok (.iload_n 2, 1) := dk_28 (dk_at dksX1_tried_3 11 rfl rfl)
theorem dX1_tried_79 : decode cX1_tried 79 = .ok (.putfield 406, 3) := dk_181 1 150 (dk_at dksX1_tried_3 12 rfl rfl)
theorem dX1_tried_82 : decode cX1_tried 82 = .ok (.iconst 0, 1) := dk_3 (dk_at dksX1_tried_3 15 rfl rfl)
theorem dX1_tried_83 : decode cX1_tried 83 = .ok (.istore 5, 2) := dk_54 5 (dk_at dksX1_tried_3 16 rfl rfl)
theorem dX1_tried_85 : decode cX1_tried 85 = .ok (.iload 5, 2) := dk_21 5 (dk_at dksX1_tried_3 18 rfl rfl)
theorem dX1_tried_87 : decode cX1_tried 87 = .ok (.aload_n 0, 1) := dk_42 (dk_at dksX1_tried_3 20 rfl rfl)
theorem dX1_tried_88 : decode cX1_tried 88 = .ok (.invokevirtual 182, 3) := dk_182 0 182 (dk_at dksX1_tried_3 21 rfl rfl)
theorem dX1_tried_91 : decode cX1_tried 91 = .ok (.if_icmp .ge 26, 3) := dk_162 0 26 (dk_at dksX1_tried_4 0 rfl rfl)
theorem dX1_tried_94 : decode cX1_tried 94 = .ok (.iload_n 1, 1) := dk_27 (dk_at dksX1_tried_4 3 rfl rfl)
theorem dX1_tried_95 : decode cX1_tried 95 = .ok (.iconst 3, 1) := dk_6 (dk_at dksX1_tried_4 4 rfl rfl)
theorem dX1_tried_96 : decode cX1_tried 96 = .ok (.if_icmp .ne 21, 3) := dk_160 0 21 (dk_at dksX1_tried_4 5 rfl rfl)
theorem dX1_tried_99 : decode cX1_tried 99 = .ok (.aload_n 0, 1) := dk_42 (dk_at dksX1_tried_4 8 rfl rfl)
theorem dX1_tried_100 : decode cX1_tried 100 = .ok (.getfield 105, 3) := dk_180 0 105 (dk_at dksX1_tried_4 9 rfl rfl)
theorem dX1_tried_103 : decode cX1_tried 103 = .ok (.getfield 236, 3) := dk_180 0 236 (dk_at dksX1_tried_4 12 rfl rfl)
theorem dX1_tried_106 : decode cX1_tried 106 = .ok (.iload 5, 2) := dk_21 5 (dk_at dksX1_tried_4 15 rfl rfl)
theorem dX1_tried_108 : decode cX1_tried 108 = .ok (.bipush 99, 2) := dk_16 99 (dk_at dksX1_tried_4 17 rfl rfl)
theorem dX1_tried_110 : decode cX1_tried 110 = .ok (.iastore, 1) := dk_79 (dk_at dksX1_tried_4 19 rfl rfl)
theorem dX1_tried_111 : decode cX1_tried 111 = .ok (.iinc 5 1, 3) := dk_132 5 1 (dk_at dksX1_tried_4 20 rfl rfl)
theorem dX1_tried_114 : decode cX1_tried 114 = .ok (.goto (-29), 3) := dk_167 255 227 (dk_at dksX1_tried_5 0 rfl rfl)
theorem dX1_tried_117 : decode cX1_tried 117 = .ok (.aload_n 0, 1) := dk_42 (dk_at dksX1_tried_5 3 rfl rfl)
theorem dX1_tried_118 : decode cX1_tried 118 = .ok (.getfield 105, 3) := dk_180 0 105 (dk_at dksX1_tried_5 4 rfl rfl)
theorem dX1_tried_121 : decode cX1_tried 121 = .ok (.iload_n 3, 1) := dk_29 (dk_at dksX1_tried_5 7 rfl rfl)
theorem dX1_tried_122 : decode cX1_tried 122 = .ok (.invokevirtual 283, 3) := dk_182 1 27 (dk_at dksX1_tried_5 8 rfl rfl)
theorem dX1_tried_125 : decode cX1_tried 125 = .ok (.aload_n 0, 1) := dk_42 (dk_at dksX1_tried_5 11 rfl rfl)
theorem dX1_tried_126 : decode cX1_tried 126 = .ok (.getfield 105, 3) := dk_180 0 105 (dk_at dksX1_tried_5 12 rfl rfl)
theorem dX1_tried_129 : decode cX1_tried 129 = .ok (.getfield 286, 3) := dk_180 1 30 (dk_at dksX1_tried_5 15 rfl rfl)
theorem dX1_tried_132 : decode cX1_tried 132 = .ok (.aload_n 0, 1) := dk_42 (dk_at dksX1_tried_5 18 rfl rfl)
theorem dX1_tried_133 : decode cX1_tried 133 = .ok (.getfield 101, 3) := dk_180 0 101 (dk_at dksX1_tried_5 19 rfl rfl)
theorem dX1_tried_136 : decode cX1_tried 136 = .ok (.getfield 286, 3) := dk_180 1 30 (dk_at dksX1_tried_6 0 rfl rfl)
theorem dX1_tried_139 : decode cX1_tried 139 = .ok (.isub, 1) := dk_100 (dk_at dksX1_tried_6 3 rfl rfl)
theorem dX1_tried_140 : decode cX1_tried 140 = .ok (.ireturn, 1) := dk_172 (dk_at dksX1_tried_6 4 rfl rfl)
abbrev cX1_undo : ByteArray := prog_1_method_68_code
def yX1_undo : MethodName := ⟨RX1, "undo", "()I"⟩
def dkwX1_undo_1 : List UInt8 := [180, 0, 111, 42, 180, 0, 163, 50, 182, 0, 254, 42, 180, 0, 163, 172]
abbrev dktX1_undo_1 : List UInt8 := dkwX1_undo_1 ++ []
def dkwX1_undo_0 : List UInt8 := [42, 180, 0, 163, 154, 0, 5, 2, 172, 42, 89, 180, 0, 163, 4, 100, 181, 0, 163, 42, 180, 0, 101, 42]
abbrev dktX1_undo_0 : List UInt8 := dkwX1_undo_0 ++ dktX1_undo_1
theorem dksX1_undo_0 : cX1_undo.data.toList.drop 0 = dktX1_undo_0 := by decide +kernel
theorem dksX1_undo_1 : cX1_undo.data.toList.drop 24 = dktX1_undo_1 := dk_seg dksX1_undo_0 24 rfl rfl
theorem dX1_undo_0 : decode cX1_undo 0 = .ok (.aload_n 0, 1) := dk_42 (dk_at dksX1_undo_0 0 rfl rfl)
theorem dX1_undo_1 : decode cX1_undo 1 = .ok (.getfield 163, 3) := dk_180 0 163 (dk_at dksX1_undo_0 1 rfl rfl)
theorem dX1_undo_4 : decode cX1_undo 4 = .ok (.ifCond .ne 5, 3) := dk_154 0 5 (dk_at dksX1_undo_0 4 rfl rfl)
theorem dX1_undo_7 : decode cX1_undo 7 = .ok (.iconst (-1), 1) := dk_2 (dk_at dksX1_undo_0 7 rfl rfl)
theorem dX1_undo_8 : decode cX1_undo 8 = .ok (.ireturn, 1) := dk_172 (dk_at dksX1_undo_0 8 rfl rfl)
theorem dX1_undo_9 : decode cX1_undo 9 = .ok (.aload_n 0, 1) := dk_42 (dk_at dksX1_undo_0 9 rfl rfl)
theorem dX1_undo_10 : decode cX1_undo 10 = .ok (.dup, 1) := dk_89 (dk_at dksX1_undo_0 10 rfl rfl)
theorem dX1_undo_11 : decode cX1_undo 11 = .ok (.getfield 163, 3) := dk_180 0 163 (dk_at dksX1_undo_0 11 rfl rfl)
theorem dX1_undo_14 : decode cX1_undo 14 = .ok (.iconst 1, 1) := dk_4 (dk_at dksX1_undo_0 14 rfl rfl)
theorem dX1_undo_15 : decode cX1_undo 15 = .ok (.isub, 1) := dk_100 (dk_at dksX1_undo_0 15 rfl rfl)
theorem dX1_undo_16 : decode cX1_undo 16 = .ok (.putfield 163, 3) := dk_181 0 163 (dk_at dksX1_undo_0 16 rfl rfl)
theorem dX1_undo_19 : decode cX1_undo 19 = .ok (.aload_n 0, 1) := dk_42 (dk_at dksX1_undo_0 19 rfl rfl)
theorem dX1_undo_20 : decode cX1_undo 20 = .ok (.getfield 101, 3) := dk_180 0 101 (dk_at dksX1_undo_0 20 rfl rfl)
theorem dX1_undo_23 : decode cX1_undo 23 = .ok (.aload_n 0, 1) := dk_42 (dk_at dksX1_undo_0 23 rfl rfl)
theorem dX1_undo_24 : decode cX1_undo 24 = .ok (.getfield 111, 3) := dk_180 0 111 (dk_at dksX1_undo_1 0 rfl rfl)
theorem dX1_undo_27 : decode cX1_undo 27 = .ok (.aload_n 0, 1) := dk_42 (dk_at dksX1_undo_1 3 rfl rfl)
theorem dX1_undo_28 : decode cX1_undo 28 = .ok (.getfield 163, 3) := dk_180 0 163 (dk_at dksX1_undo_1 4 rfl rfl)
theorem dX1_undo_31 : decode cX1_undo 31 = .ok (.aaload, 1) := dk_50 (dk_at dksX1_undo_1 7 rfl rfl)
theorem dX1_undo_32 : decode cX1_undo 32 = .ok (.invokevirtual 254, 3) := dk_182 0 254 (dk_at dksX1_undo_1 8 rfl rfl)
theorem dX1_undo_35 : decode cX1_undo 35 = .ok (.aload_n 0, 1) := dk_42 (dk_at dksX1_undo_1 11 rfl rfl)
theorem dX1_undo_36 : decode cX1_undo 36 = .ok (.getfield 163, 3) := dk_180 0 163 (dk_at dksX1_undo_1 12 rfl rfl)
theorem dX1_undo_39 : decode cX1_undo 39 = .ok (.ireturn, 1) := dk_172 (dk_at dksX1_undo_1 15 rfl rfl)
abbrev cX1_keep : ByteArray := prog_1_method_69_code
def yX1_keep : MethodName := ⟨RX1, "keep", "()I"⟩
def dkwX1_keep_0 : List UInt8 := [42, 180, 0, 108, 42, 180, 0, 101, 182, 0, 254, 42, 4, 181, 0, 166, 42, 180, 0, 101, 180, 1, 18, 172]
abbrev dktX1_keep_0 : List UInt8 := dkwX1_keep_0 ++ []
theorem dksX1_keep_0 : cX1_keep.data.toList.drop 0 = dktX1_keep_0 := by decide +kernel
theorem dX1_keep_0 : decode cX1_keep 0 = .ok (.aload_n 0, 1) := dk_42 (dk_at dksX1_keep_0 0 rfl rfl)
theorem dX1_keep_1 : decode cX1_keep 1 = .ok (.getfield 108, 3) := dk_180 0 108 (dk_at dksX1_keep_0 1 rfl rfl)
theorem dX1_keep_4 : decode cX1_keep 4 = .ok (.aload_n 0, 1) := dk_42 (dk_at dksX1_keep_0 4 rfl rfl)
theorem dX1_keep_5 : decode cX1_keep 5 = .ok (.getfield 101, 3) := dk_180 0 101 (dk_at dksX1_keep_0 5 rfl rfl)
theorem dX1_keep_8 : decode cX1_keep 8 = .ok (.invokevirtual 254, 3) := dk_182 0 254 (dk_at dksX1_keep_0 8 rfl rfl)
theorem dX1_keep_11 : decode cX1_keep 11 = .ok (.aload_n 0, 1) := dk_42 (dk_at dksX1_keep_0 11 rfl rfl)
theorem dX1_keep_12 : decode cX1_keep 12 = .ok (.iconst 1, 1) := dk_4 (dk_at dksX1_keep_0 12 rfl rfl)
theorem dX1_keep_13 : decode cX1_keep 13 = .ok (.putfield 166, 3) := dk_181 0 166 (dk_at dksX1_keep_0 13 rfl rfl)
theorem dX1_keep_16 : decode cX1_keep 16 = .ok (.aload_n 0, 1) := dk_42 (dk_at dksX1_keep_0 16 rfl rfl)
theorem dX1_keep_17 : decode cX1_keep 17 = .ok (.getfield 101, 3) := dk_180 0 101 (dk_at dksX1_keep_0 17 rfl rfl)
theorem dX1_keep_20 : decode cX1_keep 20 = .ok (.getfield 274, 3) := dk_180 1 18 (dk_at dksX1_keep_0 20 rfl rfl)
theorem dX1_keep_23 : decode cX1_keep 23 = .ok (.ireturn, 1) := dk_172 (dk_at dksX1_keep_0 23 rfl rfl)
abbrev cX1_back : ByteArray := prog_1_method_70_code
def yX1_back : MethodName := ⟨RX1, "back", "()I"⟩
def dkwX1_back_1 : List UInt8 := [181, 0, 163, 42, 180, 0, 101, 180, 1, 18, 172]
abbrev dktX1_back_1 : List UInt8 := dkwX1_back_1 ++ []
def dkwX1_back_0 : List UInt8 := [42, 180, 0, 166, 154, 0, 5, 2, 172, 42, 180, 0, 101, 42, 180, 0, 108, 182, 0, 254, 42, 3]
abbrev dktX1_back_0 : List UInt8 := dkwX1_back_0 ++ dktX1_back_1
theorem dksX1_back_0 : cX1_back.data.toList.drop 0 = dktX1_back_0 := by decide +kernel
theorem dksX1_back_1 : cX1_back.data.toList.drop 22 = dktX1_back_1 := dk_seg dksX1_back_0 22 rfl rfl
theorem dX1_back_0 : decode cX1_back 0 = .ok (.aload_n 0, 1) := dk_42 (dk_at dksX1_back_0 0 rfl rfl)
theorem dX1_back_1 : decode cX1_back 1 = .ok (.getfield 166, 3) := dk_180 0 166 (dk_at dksX1_back_0 1 rfl rfl)
theorem dX1_back_4 : decode cX1_back 4 = .ok (.ifCond .ne 5, 3) := dk_154 0 5 (dk_at dksX1_back_0 4 rfl rfl)
theorem dX1_back_7 : decode cX1_back 7 = .ok (.iconst (-1), 1) := dk_2 (dk_at dksX1_back_0 7 rfl rfl)
theorem dX1_back_8 : decode cX1_back 8 = .ok (.ireturn, 1) := dk_172 (dk_at dksX1_back_0 8 rfl rfl)
theorem dX1_back_9 : decode cX1_back 9 = .ok (.aload_n 0, 1) := dk_42 (dk_at dksX1_back_0 9 rfl rfl)
theorem dX1_back_10 : decode cX1_back 10 = .ok (.getfield 101, 3) := dk_180 0 101 (dk_at dksX1_back_0 10 rfl rfl)
theorem dX1_back_13 : decode cX1_back 13 = .ok (.aload_n 0, 1) := dk_42 (dk_at dksX1_back_0 13 rfl rfl)
theorem dX1_back_14 : decode cX1_back 14 = .ok (.getfield 108, 3) := dk_180 0 108 (dk_at dksX1_back_0 14 rfl rfl)
theorem dX1_back_17 : decode cX1_back 17 = .ok (.invokevirtual 254, 3) := dk_182 0 254 (dk_at dksX1_back_0 17 rfl rfl)
theorem dX1_back_20 : decode cX1_back 20 = .ok (.aload_n 0, 1) := dk_42 (dk_at dksX1_back_0 20 rfl rfl)
theorem dX1_back_21 : decode cX1_back 21 = .ok (.iconst 0, 1) := dk_3 (dk_at dksX1_back_0 21 rfl rfl)
theorem dX1_back_22 : decode cX1_back 22 = .ok (.putfield 163, 3) := dk_181 0 163 (dk_at dksX1_back_1 0 rfl rfl)
theorem dX1_back_25 : decode cX1_back 25 = .ok (.aload_n 0, 1) := dk_42 (dk_at dksX1_back_1 3 rfl rfl)
theorem dX1_back_26 : decode cX1_back 26 = .ok (.getfield 101, 3) := dk_180 0 101 (dk_at dksX1_back_1 4 rfl rfl)
theorem dX1_back_29 : decode cX1_back 29 = .ok (.getfield 274, 3) := dk_180 1 18 (dk_at dksX1_back_1 7 rfl rfl)
theorem dX1_back_32 : decode cX1_back 32 = .ok (.ireturn, 1) := dk_172 (dk_at dksX1_back_1 10 rfl rfl)
abbrev cX1_count : ByteArray := prog_1_method_71_code
def yX1_count : MethodName := ⟨RX1, "count", "(I)I"⟩
def dkwX1_count_7 : List UInt8 := [172, 2, 172]
abbrev dktX1_count_7 : List UInt8 := dkwX1_count_7 ++ []
def dkwX1_count_6 : List UInt8 := [180, 0, 101, 180, 1, 163, 172, 42, 180, 0, 125, 182, 0, 23, 172, 42, 182, 1, 125, 172, 42, 180, 0, 163]
abbrev dktX1_count_6 : List UInt8 := dkwX1_count_6 ++ dktX1_count_7
def dkwX1_count_5 : List UInt8 := [184, 1, 39, 172, 42, 180, 0, 101, 42, 180, 0, 101, 180, 0, 236, 42, 182, 0, 182, 182, 1, 159, 172, 42]
abbrev dktX1_count_5 : List UInt8 := dkwX1_count_5 ++ dktX1_count_6
def dkwX1_count_4 : List UInt8 := [180, 0, 101, 180, 1, 30, 172, 42, 180, 0, 101, 180, 1, 33, 172, 42, 180, 0, 101, 180, 1, 36]
abbrev dktX1_count_4 : List UInt8 := dkwX1_count_4 ++ dktX1_count_5
def dkwX1_count_3 : List UInt8 := [180, 0, 13, 180, 1, 13, 172, 42, 180, 0, 13, 180, 1, 156, 172, 42, 180, 0, 101, 180, 1, 18, 172, 42]
abbrev dktX1_count_3 : List UInt8 := dkwX1_count_3 ++ dktX1_count_4
def dkwX1_count_2 : List UInt8 := [42, 182, 0, 182, 172, 42, 182, 0, 184, 172, 42, 180, 0, 13, 180, 1, 153, 182, 0, 23, 172, 42]
abbrev dktX1_count_2 : List UInt8 := dkwX1_count_2 ++ dktX1_count_3
def dkwX1_count_1 : List UInt8 := [170, 0, 0, 0, 0, 0, 188, 0, 0, 0, 0, 0, 0, 0, 13, 0, 0, 0, 71, 0, 0, 0, 76, 0, 0, 0, 81, 0, 0, 0, 92, 0, 0, 0, 100, 0, 0, 0, 108, 0, 0, 0, 116, 0, 0, 0, 124, 0, 0, 0, 132, 0, 0, 0, 143, 0, 0, 0, 162, 0, 0, 0, 170, 0, 0, 0, 178, 0, 0, 0, 183]
abbrev dktX1_count_1 : List UInt8 := dkwX1_count_1 ++ dktX1_count_2
def dkwX1_count_0 : List UInt8 := [27]
abbrev dktX1_count_0 : List UInt8 := dkwX1_count_0 ++ dktX1_count_1
theorem dksX1_count_0 : cX1_count.data.toList.drop 0 = dktX1_count_0 := by decide +kernel
theorem dksX1_count_1 : cX1_count.data.toList.drop 1 = dktX1_count_1 := dk_seg dksX1_count_0 1 rfl rfl
theorem dksX1_count_2 : cX1_count.data.toList.drop 72 = dktX1_count_2 := dk_seg dksX1_count_1 71 rfl rfl
theorem dksX1_count_3 : cX1_count.data.toList.drop 94 = dktX1_count_3 := dk_seg dksX1_count_2 22 rfl rfl
theorem dksX1_count_4 : cX1_count.data.toList.drop 118 = dktX1_count_4 := dk_seg dksX1_count_3 24 rfl rfl
theorem dksX1_count_5 : cX1_count.data.toList.drop 140 = dktX1_count_5 := dk_seg dksX1_count_4 22 rfl rfl
theorem dksX1_count_6 : cX1_count.data.toList.drop 164 = dktX1_count_6 := dk_seg dksX1_count_5 24 rfl rfl
theorem dksX1_count_7 : cX1_count.data.toList.drop 188 = dktX1_count_7 := dk_seg dksX1_count_6 24 rfl rfl
theorem dX1_count_0 : decode cX1_count 0 = .ok (.iload_n 1, 1) := dk_27 (dk_at dksX1_count_0 0 rfl rfl)
theorem dX1_count_1 : decode cX1_count 1 = .ok (.tableswitch 188 0 13 #[71, 76, 81, 92, 100, 108, 116, 124, 132, 143, 162, 170, 178, 183], 71) := by decide +kernel
theorem dX1_count_72 : decode cX1_count 72 = .ok (.aload_n 0, 1) := dk_42 (dk_at dksX1_count_2 0 rfl rfl)
theorem dX1_count_73 : decode cX1_count 73 = .ok (.invokevirtual 182, 3) := dk_182 0 182 (dk_at dksX1_count_2 1 rfl rfl)
theorem dX1_count_76 : decode cX1_count 76 = .ok (.ireturn, 1) := dk_172 (dk_at dksX1_count_2 4 rfl rfl)
theorem dX1_count_77 : decode cX1_count 77 = .ok (.aload_n 0, 1) := dk_42 (dk_at dksX1_count_2 5 rfl rfl)
theorem dX1_count_78 : decode cX1_count 78 = .ok (.invokevirtual 184, 3) := dk_182 0 184 (dk_at dksX1_count_2 6 rfl rfl)
theorem dX1_count_81 : decode cX1_count 81 = .ok (.ireturn, 1) := dk_172 (dk_at dksX1_count_2 9 rfl rfl)
theorem dX1_count_82 : decode cX1_count 82 = .ok (.aload_n 0, 1) := dk_42 (dk_at dksX1_count_2 10 rfl rfl)
theorem dX1_count_83 : decode cX1_count 83 = .ok (.getfield 13, 3) := dk_180 0 13 (dk_at dksX1_count_2 11 rfl rfl)
theorem dX1_count_86 : decode cX1_count 86 = .ok (.getfield 409, 3) := dk_180 1 153 (dk_at dksX1_count_2 14 rfl rfl)
theorem dX1_count_89 : decode cX1_count 89 = .ok (.invokevirtual 23, 3) := dk_182 0 23 (dk_at dksX1_count_2 17 rfl rfl)
theorem dX1_count_92 : decode cX1_count 92 = .ok (.ireturn, 1) := dk_172 (dk_at dksX1_count_2 20 rfl rfl)
theorem dX1_count_93 : decode cX1_count 93 = .ok (.aload_n 0, 1) := dk_42 (dk_at dksX1_count_2 21 rfl rfl)
theorem dX1_count_94 : decode cX1_count 94 = .ok (.getfield 13, 3) := dk_180 0 13 (dk_at dksX1_count_3 0 rfl rfl)
theorem dX1_count_97 : decode cX1_count 97 = .ok (.getfield 269, 3) := dk_180 1 13 (dk_at dksX1_count_3 3 rfl rfl)
theorem dX1_count_100 : decode cX1_count 100 = .ok (.ireturn, 1) := dk_172 (dk_at dksX1_count_3 6 rfl rfl)
theorem dX1_count_101 : decode cX1_count 101 = .ok (.aload_n 0, 1) := dk_42 (dk_at dksX1_count_3 7 rfl rfl)
theorem dX1_count_102 : decode cX1_count 102 = .ok (.getfield 13, 3) := dk_180 0 13 (dk_at dksX1_count_3 8 rfl rfl)
theorem dX1_count_105 : decode cX1_count 105 = .ok (.getfield 412, 3) := dk_180 1 156 (dk_at dksX1_count_3 11 rfl rfl)
theorem dX1_count_108 : decode cX1_count 108 = .ok (.ireturn, 1) := dk_172 (dk_at dksX1_count_3 14 rfl rfl)
theorem dX1_count_109 : decode cX1_count 109 = .ok (.aload_n 0, 1) := dk_42 (dk_at dksX1_count_3 15 rfl rfl)
theorem dX1_count_110 : decode cX1_count 110 = .ok (.getfield 101, 3) := dk_180 0 101 (dk_at dksX1_count_3 16 rfl rfl)
theorem dX1_count_113 : decode cX1_count 113 = .ok (.getfield 274, 3) := dk_180 1 18 (dk_at dksX1_count_3 19 rfl rfl)
theorem dX1_count_116 : decode cX1_count 116 = .ok (.ireturn, 1) := dk_172 (dk_at dksX1_count_3 22 rfl rfl)
theorem dX1_count_117 : decode cX1_count 117 = .ok (.aload_n 0, 1) := dk_42 (dk_at dksX1_count_3 23 rfl rfl)
theorem dX1_count_118 : decode cX1_count 118 = .ok (.getfield 101, 3) := dk_180 0 101 (dk_at dksX1_count_4 0 rfl rfl)
theorem dX1_count_121 : decode cX1_count 121 = .ok (.getfield 286, 3) := dk_180 1 30 (dk_at dksX1_count_4 3 rfl rfl)
theorem dX1_count_124 : decode cX1_count 124 = .ok (.ireturn, 1) := dk_172 (dk_at dksX1_count_4 6 rfl rfl)
theorem dX1_count_125 : decode cX1_count 125 = .ok (.aload_n 0, 1) := dk_42 (dk_at dksX1_count_4 7 rfl rfl)
theorem dX1_count_126 : decode cX1_count 126 = .ok (.getfield 101, 3) := dk_180 0 101 (dk_at dksX1_count_4 8 rfl rfl)
theorem dX1_count_129 : decode cX1_count 129 = .ok (.getfield 289, 3) := dk_180 1 33 (dk_at dksX1_count_4 11 rfl rfl)
theorem dX1_count_132 : decode cX1_count 132 = .ok (.ireturn, 1) := dk_172 (dk_at dksX1_count_4 14 rfl rfl)
theorem dX1_count_133 : decode cX1_count 133 = .ok (.aload_n 0, 1) := dk_42 (dk_at dksX1_count_4 15 rfl rfl)
theorem dX1_count_134 : decode cX1_count 134 = .ok (.getfield 101, 3) := dk_180 0 101 (dk_at dksX1_count_4 16 rfl rfl)
theorem dX1_count_137 : decode cX1_count 137 = .ok (.getfield 292, 3) := dk_180 1 36 (dk_at dksX1_count_4 19 rfl rfl)
theorem dX1_count_140 : decode cX1_count 140 = .ok (.invokestatic 295, 3) := dk_184 1 39 (dk_at dksX1_count_5 0 rfl rfl)
theorem dX1_count_143 : decode cX1_count 143 = .ok (.ireturn, 1) := dk_172 (dk_at dksX1_count_5 3 rfl rfl)
theorem dX1_count_144 : decode cX1_count 144 = .ok (.aload_n 0, 1) := dk_42 (dk_at dksX1_count_5 4 rfl rfl)
theorem dX1_count_145 : decode cX1_count 145 = .ok (.getfield 101, 3) := dk_180 0 101 (dk_at dksX1_count_5 5 rfl rfl)
theorem dX1_count_148 : decode cX1_count 148 = .ok (.aload_n 0, 1) := dk_42 (dk_at dksX1_count_5 8 rfl rfl)
theorem dX1_count_149 : decode cX1_count 149 = .ok (.getfield 101, 3) := dk_180 0 101 (dk_at dksX1_count_5 9 rfl rfl)
theorem dX1_count_152 : decode cX1_count 152 = .ok (.getfield 236, 3) := dk_180 0 236 (dk_at dksX1_count_5 12 rfl rfl)
theorem dX1_count_155 : decode cX1_count 155 = .ok (.aload_n 0, 1) := dk_42 (dk_at dksX1_count_5 15 rfl rfl)
theorem dX1_count_156 : decode cX1_count 156 = .ok (.invokevirtual 182, 3) := dk_182 0 182 (dk_at dksX1_count_5 16 rfl rfl)
theorem dX1_count_159 : decode cX1_count 159 = .ok (.invokevirtual 415, 3) := dk_182 1 159 (dk_at dksX1_count_5 19 rfl rfl)
theorem dX1_count_162 : decode cX1_count 162 = .ok (.ireturn, 1) := dk_172 (dk_at dksX1_count_5 22 rfl rfl)
theorem dX1_count_163 : decode cX1_count 163 = .ok (.aload_n 0, 1) := dk_42 (dk_at dksX1_count_5 23 rfl rfl)
theorem dX1_count_164 : decode cX1_count 164 = .ok (.getfield 101, 3) := dk_180 0 101 (dk_at dksX1_count_6 0 rfl rfl)
theorem dX1_count_167 : decode cX1_count 167 = .ok (.getfield 419, 3) := dk_180 1 163 (dk_at dksX1_count_6 3 rfl rfl)
theorem dX1_count_170 : decode cX1_count 170 = .ok (.ireturn, 1) := dk_172 (dk_at dksX1_count_6 6 rfl rfl)
theorem dX1_count_171 : decode cX1_count 171 = .ok (.aload_n 0, 1) := dk_42 (dk_at dksX1_count_6 7 rfl rfl)
theorem dX1_count_172 : decode cX1_count 172 = .ok (.getfield 125, 3) := dk_180 0 125 (dk_at dksX1_count_6 8 rfl rfl)
theorem dX1_count_175 : decode cX1_count 175 = .ok (.invokevirtual 23, 3) := dk_182 0 23 (dk_at dksX1_count_6 11 rfl rfl)
theorem dX1_count_178 : decode cX1_count 178 = .ok (.ireturn, 1) := dk_172 (dk_at dksX1_count_6 14 rfl rfl)
theorem dX1_count_179 : decode cX1_count 179 = .ok (.aload_n 0, 1) := dk_42 (dk_at dksX1_count_6 15 rfl rfl)
theorem dX1_count_180 : decode cX1_count 180 = .ok (.invokevirtual 381, 3) := dk_182 1 125 (dk_at dksX1_count_6 16 rfl rfl)
theorem dX1_count_183 : decode cX1_count 183 = .ok (.ireturn, 1) := dk_172 (dk_at dksX1_count_6 19 rfl rfl)
theorem dX1_count_184 : decode cX1_count 184 = .ok (.aload_n 0, 1) := dk_42 (dk_at dksX1_count_6 20 rfl rfl)
theorem dX1_count_185 : decode cX1_count 185 = .ok (.getfield 163, 3) := dk_180 0 163 (dk_at dksX1_count_6 21 rfl rfl)
theorem dX1_count_188 : decode cX1_count 188 = .ok (.ireturn, 1) := dk_172 (dk_at dksX1_count_7 0 rfl rfl)
theorem dX1_count_189 : decode cX1_count 189 = .ok (.iconst (-1), 1) := dk_2 (dk_at dksX1_count_7 1 rfl rfl)
theorem dX1_count_190 : decode cX1_count 190 = .ok (.ireturn, 1) := dk_172 (dk_at dksX1_count_7 2 rfl rfl)
abbrev cX1_horse_2 : ByteArray := prog_1_method_19_code
def yX1_horse_2 : MethodName := ⟨RX1, "horse", "(II)I"⟩
def dkwX1_horse_2_6 : List UInt8 := [183, 0, 227, 191]
abbrev dktX1_horse_2_6 : List UInt8 := dkwX1_horse_2_6 ++ []
def dkwX1_horse_2_5 : List UInt8 := [153, 0, 7, 4, 167, 0, 4, 3, 172, 42, 180, 0, 101, 180, 0, 222, 27, 46, 172, 187, 0, 225, 89]
abbrev dktX1_horse_2_5 : List UInt8 := dkwX1_horse_2_5 ++ dktX1_horse_2_6
def dkwX1_horse_2_4 : List UInt8 := [184, 0, 212, 172, 42, 180, 0, 101, 180, 0, 216, 27, 46, 172, 42, 180, 0, 101, 27, 182, 0, 219]
abbrev dktX1_horse_2_4 : List UInt8 := dkwX1_horse_2_4 ++ dktX1_horse_2_5
def dkwX1_horse_2_3 : List UInt8 := [180, 0, 203, 27, 46, 172, 42, 27, 182, 0, 193, 180, 0, 206, 172, 42, 180, 0, 101, 180, 0, 209, 27, 46]
abbrev dktX1_horse_2_3 : List UInt8 := dkwX1_horse_2_3 ++ dktX1_horse_2_4
def dkwX1_horse_2_2 : List UInt8 := [42, 27, 182, 0, 193, 180, 0, 197, 172, 42, 180, 0, 101, 180, 0, 200, 27, 46, 172, 42, 180, 0, 101]
abbrev dktX1_horse_2_2 : List UInt8 := dkwX1_horse_2_2 ++ dktX1_horse_2_3
def dkwX1_horse_2_1 : List UInt8 := [170, 0, 0, 0, 0, 0, 135, 0, 0, 0, 0, 0, 0, 0, 7, 0, 0, 0, 47, 0, 0, 0, 56, 0, 0, 0, 66, 0, 0, 0, 76, 0, 0, 0, 85, 0, 0, 0, 98, 0, 0, 0, 108, 0, 0, 0, 125]
abbrev dktX1_horse_2_1 : List UInt8 := dkwX1_horse_2_1 ++ dktX1_horse_2_2
def dkwX1_horse_2_0 : List UInt8 := [42, 27, 182, 0, 186, 154, 0, 11, 187, 0, 190, 89, 183, 0, 192, 191, 28]
abbrev dktX1_horse_2_0 : List UInt8 := dkwX1_horse_2_0 ++ dktX1_horse_2_1
theorem dksX1_horse_2_0 : cX1_horse_2.data.toList.drop 0 = dktX1_horse_2_0 := by decide +kernel
theorem dksX1_horse_2_1 : cX1_horse_2.data.toList.drop 17 = dktX1_horse_2_1 := dk_seg dksX1_horse_2_0 17 rfl rfl
theorem dksX1_horse_2_2 : cX1_horse_2.data.toList.drop 64 = dktX1_horse_2_2 := dk_seg dksX1_horse_2_1 47 rfl rfl
theorem dksX1_horse_2_3 : cX1_horse_2.data.toList.drop 87 = dktX1_horse_2_3 := dk_seg dksX1_horse_2_2 23 rfl rfl
theorem dksX1_horse_2_4 : cX1_horse_2.data.toList.drop 111 = dktX1_horse_2_4 := dk_seg dksX1_horse_2_3 24 rfl rfl
theorem dksX1_horse_2_5 : cX1_horse_2.data.toList.drop 133 = dktX1_horse_2_5 := dk_seg dksX1_horse_2_4 22 rfl rfl
theorem dksX1_horse_2_6 : cX1_horse_2.data.toList.drop 156 = dktX1_horse_2_6 := dk_seg dksX1_horse_2_5 23 rfl rfl
theorem dX1_horse_2_0 : decode cX1_horse_2 0 = .ok (.aload_n 0, 1) := dk_42 (dk_at dksX1_horse_2_0 0 rfl rfl)
theorem dX1_horse_2_1 : decode cX1_horse_2 1 = .ok (.iload_n 1, 1) := dk_27 (dk_at dksX1_horse_2_0 1 rfl rfl)
theorem dX1_horse_2_2 : decode cX1_horse_2 2 = .ok (.invokevirtual 186, 3) := dk_182 0 186 (dk_at dksX1_horse_2_0 2 rfl rfl)
theorem dX1_horse_2_5 : decode cX1_horse_2 5 = .ok (.ifCond .ne 11, 3) := dk_154 0 11 (dk_at dksX1_horse_2_0 5 rfl rfl)
theorem dX1_horse_2_8 : decode cX1_horse_2 8 = .ok (.new 190, 3) := dk_187 0 190 (dk_at dksX1_horse_2_0 8 rfl rfl)
theorem dX1_horse_2_11 : decode cX1_horse_2 11 = .ok (.dup, 1) := dk_89 (dk_at dksX1_horse_2_0 11 rfl rfl)
theorem dX1_horse_2_12 : decode cX1_horse_2 12 = .ok (.invokespecial 192, 3) := dk_183 0 192 (dk_at dksX1_horse_2_0 12 rfl rfl)
theorem dX1_horse_2_15 : decode cX1_horse_2 15 = .ok (.athrow, 1) := dk_191 (dk_at dksX1_horse_2_0 15 rfl rfl)
theorem dX1_horse_2_16 : decode cX1_horse_2 16 = .ok (.iload_n 2, 1) := dk_28 (dk_at dksX1_horse_2_0 16 rfl rfl)
theorem dX1_horse_2_17 : decode cX1_horse_2 17 = .ok (.tableswitch 135 0 7 #[47, 56, 66, 76, 85, 98, 108, 125], 47) := by decide +kernel
theorem dX1_horse_2_64 : decode cX1_horse_2 64 = .ok (.aload_n 0, 1) := dk_42 (dk_at dksX1_horse_2_2 0 rfl rfl)
theorem dX1_horse_2_65 : decode cX1_horse_2 65 = .ok (.iload_n 1, 1) := dk_27 (dk_at dksX1_horse_2_2 1 rfl rfl)
theorem dX1_horse_2_66 : decode cX1_horse_2 66 = .ok (.invokevirtual 193, 3) := dk_182 0 193 (dk_at dksX1_horse_2_2 2 rfl rfl)
theorem dX1_horse_2_69 : decode cX1_horse_2 69 = .ok (.getfield 197, 3) := dk_180 0 197 (dk_at dksX1_horse_2_2 5 rfl rfl)
theorem dX1_horse_2_72 : decode cX1_horse_2 72 = .ok (.ireturn, 1) := dk_172 (dk_at dksX1_horse_2_2 8 rfl rfl)
theorem dX1_horse_2_73 : decode cX1_horse_2 73 = .ok (.aload_n 0, 1) := dk_42 (dk_at dksX1_horse_2_2 9 rfl rfl)
theorem dX1_horse_2_74 : decode cX1_horse_2 74 = .ok (.getfield 101, 3) := dk_180 0 101 (dk_at dksX1_horse_2_2 10 rfl rfl)
theorem dX1_horse_2_77 : decode cX1_horse_2 77 = .ok (.getfield 200, 3) := dk_180 0 200 (dk_at dksX1_horse_2_2 13 rfl rfl)
theorem dX1_horse_2_80 : decode cX1_horse_2 80 = .ok (.iload_n 1, 1) := dk_27 (dk_at dksX1_horse_2_2 16 rfl rfl)
theorem dX1_horse_2_81 : decode cX1_horse_2 81 = .ok (.iaload, 1) := dk_46 (dk_at dksX1_horse_2_2 17 rfl rfl)
theorem dX1_horse_2_82 : decode cX1_horse_2 82 = .ok (.ireturn, 1) := dk_172 (dk_at dksX1_horse_2_2 18 rfl rfl)
theorem dX1_horse_2_83 : decode cX1_horse_2 83 = .ok (.aload_n 0, 1) := dk_42 (dk_at dksX1_horse_2_2 19 rfl rfl)
theorem dX1_horse_2_84 : decode cX1_horse_2 84 = .ok (.getfield 101, 3) := dk_180 0 101 (dk_at dksX1_horse_2_2 20 rfl rfl)
theorem dX1_horse_2_87 : decode cX1_horse_2 87 = .ok (.getfield 203, 3) := dk_180 0 203 (dk_at dksX1_horse_2_3 0 rfl rfl)
theorem dX1_horse_2_90 : decode cX1_horse_2 90 = .ok (.iload_n 1, 1) := dk_27 (dk_at dksX1_horse_2_3 3 rfl rfl)
theorem dX1_horse_2_91 : decode cX1_horse_2 91 = .ok (.iaload, 1) := dk_46 (dk_at dksX1_horse_2_3 4 rfl rfl)
theorem dX1_horse_2_92 : decode cX1_horse_2 92 = .ok (.ireturn, 1) := dk_172 (dk_at dksX1_horse_2_3 5 rfl rfl)
theorem dX1_horse_2_93 : decode cX1_horse_2 93 = .ok (.aload_n 0, 1) := dk_42 (dk_at dksX1_horse_2_3 6 rfl rfl)
theorem dX1_horse_2_94 : decode cX1_horse_2 94 = .ok (.iload_n 1, 1) := dk_27 (dk_at dksX1_horse_2_3 7 rfl rfl)
theorem dX1_horse_2_95 : decode cX1_horse_2 95 = .ok (.invokevirtual 193, 3) := dk_182 0 193 (dk_at dksX1_horse_2_3 8 rfl rfl)
theorem dX1_horse_2_98 : decode cX1_horse_2 98 = .ok (.getfield 206, 3) := dk_180 0 206 (dk_at dksX1_horse_2_3 11 rfl rfl)
theorem dX1_horse_2_101 : decode cX1_horse_2 101 = .ok (.ireturn, 1) := dk_172 (dk_at dksX1_horse_2_3 14 rfl rfl)
theorem dX1_horse_2_102 : decode cX1_horse_2 102 = .ok (.aload_n 0, 1) := dk_42 (dk_at dksX1_horse_2_3 15 rfl rfl)
theorem dX1_horse_2_103 : decode cX1_horse_2 103 = .ok (.getfield 101, 3) := dk_180 0 101 (dk_at dksX1_horse_2_3 16 rfl rfl)
theorem dX1_horse_2_106 : decode cX1_horse_2 106 = .ok (.getfield 209, 3) := dk_180 0 209 (dk_at dksX1_horse_2_3 19 rfl rfl)
theorem dX1_horse_2_109 : decode cX1_horse_2 109 = .ok (.iload_n 1, 1) := dk_27 (dk_at dksX1_horse_2_3 22 rfl rfl)
theorem dX1_horse_2_110 : decode cX1_horse_2 110 = .ok (.iaload, 1) := dk_46 (dk_at dksX1_horse_2_3 23 rfl rfl)
theorem dX1_horse_2_111 : decode cX1_horse_2 111 = .ok (.invokestatic 212, 3) := dk_184 0 212 (dk_at dksX1_horse_2_4 0 rfl rfl)
theorem dX1_horse_2_114 : decode cX1_horse_2 114 = .ok (.ireturn, 1) := dk_172 (dk_at dksX1_horse_2_4 3 rfl rfl)
theorem dX1_horse_2_115 : decode cX1_horse_2 115 = .ok (.aload_n 0, 1) := dk_42 (dk_at dksX1_horse_2_4 4 rfl rfl)
theorem dX1_horse_2_116 : decode cX1_horse_2 116 = .ok (.getfield 101, 3) := dk_180 0 101 (dk_at dksX1_horse_2_4 5 rfl rfl)
theorem dX1_horse_2_119 : decode cX1_horse_2 119 = .ok (.getfield 216, 3) := dk_180 0 216 (dk_at dksX1_horse_2_4 8 rfl rfl)
theorem dX1_horse_2_122 : decode cX1_horse_2 122 = .ok (.iload_n 1, 1) := dk_27 (dk_at dksX1_horse_2_4 11 rfl rfl)
theorem dX1_horse_2_123 : decode cX1_horse_2 123 = .ok (.iaload, 1) := dk_46 (dk_at dksX1_horse_2_4 12 rfl rfl)
theorem dX1_horse_2_124 : decode cX1_horse_2 124 = .ok (.ireturn, 1) := dk_172 (dk_at dksX1_horse_2_4 13 rfl rfl)
theorem dX1_horse_2_125 : decode cX1_horse_2 125 = .ok (.aload_n 0, 1) := dk_42 (dk_at dksX1_horse_2_4 14 rfl rfl)
theorem dX1_horse_2_126 : decode cX1_horse_2 126 = .ok (.getfield 101, 3) := dk_180 0 101 (dk_at dksX1_horse_2_4 15 rfl rfl)
theorem dX1_horse_2_129 : decode cX1_horse_2 129 = .ok (.iload_n 1, 1) := dk_27 (dk_at dksX1_horse_2_4 18 rfl rfl)
theorem dX1_horse_2_130 : decode cX1_horse_2 130 = .ok (.invokevirtual 219, 3) := dk_182 0 219 (dk_at dksX1_horse_2_4 19 rfl rfl)
theorem dX1_horse_2_133 : decode cX1_horse_2 133 = .ok (.ifCond .eq 7, 3) := dk_153 0 7 (dk_at dksX1_horse_2_5 0 rfl rfl)
theorem dX1_horse_2_136 : decode cX1_horse_2 136 = .ok (.iconst 1, 1) := dk_4 (dk_at dksX1_horse_2_5 3 rfl rfl)
theorem dX1_horse_2_137 : decode cX1_horse_2 137 = .ok (.goto 4, 3) := dk_167 0 4 (dk_at dksX1_horse_2_5 4 rfl rfl)
theorem dX1_horse_2_140 : decode cX1_horse_2 140 = .ok (.iconst 0, 1) := dk_3 (dk_at dksX1_horse_2_5 7 rfl rfl)
theorem dX1_horse_2_141 : decode cX1_horse_2 141 = .ok (.ireturn, 1) := dk_172 (dk_at dksX1_horse_2_5 8 rfl rfl)
theorem dX1_horse_2_142 : decode cX1_horse_2 142 = .ok (.aload_n 0, 1) := dk_42 (dk_at dksX1_horse_2_5 9 rfl rfl)
theorem dX1_horse_2_143 : decode cX1_horse_2 143 = .ok (.getfield 101, 3) := dk_180 0 101 (dk_at dksX1_horse_2_5 10 rfl rfl)
theorem dX1_horse_2_146 : decode cX1_horse_2 146 = .ok (.getfield 222, 3) := dk_180 0 222 (dk_at dksX1_horse_2_5 13 rfl rfl)
theorem dX1_horse_2_149 : decode cX1_horse_2 149 = .ok (.iload_n 1, 1) := dk_27 (dk_at dksX1_horse_2_5 16 rfl rfl)
theorem dX1_horse_2_150 : decode cX1_horse_2 150 = .ok (.iaload, 1) := dk_46 (dk_at dksX1_horse_2_5 17 rfl rfl)
theorem dX1_horse_2_151 : decode cX1_horse_2 151 = .ok (.ireturn, 1) := dk_172 (dk_at dksX1_horse_2_5 18 rfl rfl)
theorem dX1_horse_2_152 : decode cX1_horse_2 152 = .ok (.new 225, 3) := dk_187 0 225 (dk_at dksX1_horse_2_5 19 rfl rfl)
theorem dX1_horse_2_155 : decode cX1_horse_2 155 = .ok (.dup, 1) := dk_89 (dk_at dksX1_horse_2_5 22 rfl rfl)
theorem dX1_horse_2_156 : decode cX1_horse_2 156 = .ok (.invokespecial 227, 3) := dk_183 0 227 (dk_at dksX1_horse_2_6 0 rfl rfl)
theorem dX1_horse_2_159 : decode cX1_horse_2 159 = .ok (.athrow, 1) := dk_191 (dk_at dksX1_horse_2_6 3 rfl rfl)
abbrev cX1_orNone : ByteArray := prog_1_method_18_code
def yX1_orNone : MethodName := ⟨RX1, "orNone", "(I)I"⟩
def dkwX1_orNone_0 : List UInt8 := [26, 2, 160, 0, 8, 16, 254, 167, 0, 4, 26, 172]
abbrev dktX1_orNone_0 : List UInt8 := dkwX1_orNone_0 ++ []
theorem dksX1_orNone_0 : cX1_orNone.data.toList.drop 0 = dktX1_orNone_0 := by decide +kernel
theorem dX1_orNone_0 : decode cX1_orNone 0 = .ok (.iload_n 0, 1) := dk_26 (dk_at dksX1_orNone_0 0 rfl rfl)
theorem dX1_orNone_1 : decode cX1_orNone 1 = .ok (.iconst (-1), 1) := dk_2 (dk_at dksX1_orNone_0 1 rfl rfl)
theorem dX1_orNone_2 : decode cX1_orNone 2 = .ok (.if_icmp .ne 8, 3) := dk_160 0 8 (dk_at dksX1_orNone_0 2 rfl rfl)
theorem dX1_orNone_5 : decode cX1_orNone 5 = .ok (.bipush (-2), 2) := dk_16 254 (dk_at dksX1_orNone_0 5 rfl rfl)
theorem dX1_orNone_7 : decode cX1_orNone 7 = .ok (.goto 4, 3) := dk_167 0 4 (dk_at dksX1_orNone_0 7 rfl rfl)
theorem dX1_orNone_10 : decode cX1_orNone 10 = .ok (.iload_n 0, 1) := dk_26 (dk_at dksX1_orNone_0 10 rfl rfl)
theorem dX1_orNone_11 : decode cX1_orNone 11 = .ok (.ireturn, 1) := dk_172 (dk_at dksX1_orNone_0 11 rfl rfl)
theorem q123 : (Jvm.Cond.initialized "TroughTreaty") ∈ lw_all := lw_g (lw_at lw_m1 1 rfl) rfl
theorem q165 : (Jvm.Cond.instantiable "TroughTreaty" (19 : Nat)) ∈ lw_all := lw_g (lw_at lw_m1 43 rfl) rfl
theorem q167 : (Jvm.Cond.instanceMethod ({ cls := "TroughTreaty", name := "<init>", desc := "()V" } : Jvm.MethodName)) ∈ lw_all := lw_g (lw_at lw_m1 45 rfl) rfl
theorem q168 : (Jvm.Cond.code ({ cls := "TroughTreaty", name := "<init>", desc := "()V" } : Jvm.MethodName) prog_1_method_9_code (1 : Nat) (Option.none : Option Jvm.ClassFile.FieldType)) ∈ lw_all := lw_g (lw_at lw_m1 46 rfl) rfl
theorem q169 : (Jvm.Cond.methodLink "TroughTreaty" (67 : Nat) ({ cls := "java/lang/Object", name := "<init>", desc := "()V" } : Jvm.MethodName)) ∈ lw_all := lw_g (lw_at lw_m1 47 rfl) rfl
theorem q172 : (Jvm.Cond.classLink "TroughTreaty" (81 : Nat) "TroughTreaty$Reader") ∈ lw_all := lw_g (lw_at lw_m1 50 rfl) rfl
theorem q174 : (Jvm.Cond.methodLinkNest "TroughTreaty" (83 : Nat) ({ cls := "TroughTreaty$Reader", name := "<init>", desc := "(LTroughTreaty;)V" } : Jvm.MethodName) "TroughTreaty") ∈ lw_tbl := lw_at lw_m1 52 rfl
theorem q207 : (Jvm.Cond.classLink "TroughTreaty" (18 : Nat) "TroughTreaty$Road") ∈ lw_all := lw_g (lw_at lw_m1 85 rfl) rfl
theorem q209 : (Jvm.Cond.methodLinkNest "TroughTreaty" (90 : Nat) ({ cls := "TroughTreaty$Road", name := "<init>", desc := "()V" } : Jvm.MethodName) "TroughTreaty") ∈ lw_tbl := lw_at lw_m1 87 rfl
theorem q244 : (Jvm.Cond.fieldLinkNest "TroughTreaty" (17 : Nat) "TroughTreaty$Road" "troughs" "Ljava/util/ArrayList;" "TroughTreaty") ∈ lw_tbl := lw_at lw_m1 122 rfl
theorem q248 : (Jvm.Cond.fieldLinkNest "TroughTreaty" (35 : Nat) "TroughTreaty$Road" "horses" "Ljava/util/ArrayList;" "TroughTreaty") ∈ lw_tbl := lw_at lw_m1 126 rfl
theorem q253 : (Jvm.Cond.fieldLinkNest "TroughTreaty" (409 : Nat) "TroughTreaty$Road" "laps" "Ljava/util/ArrayList;" "TroughTreaty") ∈ lw_tbl := lw_at lw_m1 131 rfl
theorem q255 : (Jvm.Cond.fieldLinkNest "TroughTreaty" (40 : Nat) "TroughTreaty$Road" "laws" "[LTroughTreaty$Part;" "TroughTreaty") ∈ lw_tbl := lw_at lw_m1 133 rfl
theorem q259 : (Jvm.Cond.fieldLinkNest "TroughTreaty" (269 : Nat) "TroughTreaty$Road" "length" "I" "TroughTreaty") ∈ lw_tbl := lw_at lw_m1 137 rfl
theorem q262 : (Jvm.Cond.fieldLinkNest "TroughTreaty" (353 : Nat) "TroughTreaty$Road" "rain" "I" "TroughTreaty") ∈ lw_tbl := lw_at lw_m1 140 rfl
theorem q266 : (Jvm.Cond.fieldLinkNest "TroughTreaty" (412 : Nat) "TroughTreaty$Road" "knots" "I" "TroughTreaty") ∈ lw_tbl := lw_at lw_m1 144 rfl
theorem q267 : (Jvm.Cond.fieldLinkNest "TroughTreaty" (173 : Nat) "TroughTreaty$Road" "lines" "I" "TroughTreaty") ∈ lw_tbl := lw_at lw_m1 145 rfl
theorem q288 : (Jvm.Cond.classLink "TroughTreaty" (91 : Nat) "TroughTreaty$Lawful") ∈ lw_all := lw_g (lw_at lw_m1 166 rfl) rfl
theorem q290 : (Jvm.Cond.methodLinkNest "TroughTreaty" (93 : Nat) ({ cls := "TroughTreaty$Lawful", name := "<init>", desc := "(LTroughTreaty;)V" } : Jvm.MethodName) "TroughTreaty") ∈ lw_tbl := lw_at lw_m1 168 rfl
theorem q305 : (Jvm.Cond.classLink "TroughTreaty" (98 : Nat) "TroughTreaty$State") ∈ lw_all := lw_g (lw_at lw_m1 183 rfl) rfl
theorem q307 : (Jvm.Cond.methodLinkNest "TroughTreaty" (100 : Nat) ({ cls := "TroughTreaty$State", name := "<init>", desc := "(LTroughTreaty;)V" } : Jvm.MethodName) "TroughTreaty") ∈ lw_tbl := lw_at lw_m1 185 rfl
theorem q312 : (Jvm.Cond.fieldLinkNest "TroughTreaty" (200 : Nat) "TroughTreaty$State" "at" "[I" "TroughTreaty") ∈ lw_tbl := lw_at lw_m1 190 rfl
theorem q314 : (Jvm.Cond.fieldLinkNest "TroughTreaty" (203 : Nat) "TroughTreaty$State" "thirst" "[I" "TroughTreaty") ∈ lw_tbl := lw_at lw_m1 192 rfl
theorem q316 : (Jvm.Cond.fieldLinkNest "TroughTreaty" (209 : Nat) "TroughTreaty$State" "goal" "[I" "TroughTreaty") ∈ lw_tbl := lw_at lw_m1 194 rfl
theorem q318 : (Jvm.Cond.fieldLinkNest "TroughTreaty" (216 : Nat) "TroughTreaty$State" "hurt" "[I" "TroughTreaty") ∈ lw_tbl := lw_at lw_m1 196 rfl
theorem q320 : (Jvm.Cond.fieldLinkNest "TroughTreaty" (222 : Nat) "TroughTreaty$State" "drank" "[I" "TroughTreaty") ∈ lw_tbl := lw_at lw_m1 198 rfl
theorem q323 : (Jvm.Cond.fieldLinkNest "TroughTreaty" (236 : Nat) "TroughTreaty$State" "water" "[I" "TroughTreaty") ∈ lw_tbl := lw_at lw_m1 201 rfl
theorem q325 : (Jvm.Cond.fieldLinkNest "TroughTreaty" (274 : Nat) "TroughTreaty$State" "hour" "I" "TroughTreaty") ∈ lw_tbl := lw_at lw_m1 203 rfl
theorem q327 : (Jvm.Cond.fieldLinkNest "TroughTreaty" (292 : Nat) "TroughTreaty$State" "on" "I" "TroughTreaty") ∈ lw_tbl := lw_at lw_m1 205 rfl
theorem q329 : (Jvm.Cond.fieldLinkNest "TroughTreaty" (286 : Nat) "TroughTreaty$State" "fights" "I" "TroughTreaty") ∈ lw_tbl := lw_at lw_m1 207 rfl
theorem q331 : (Jvm.Cond.fieldLinkNest "TroughTreaty" (289 : Nat) "TroughTreaty$State" "talks" "I" "TroughTreaty") ∈ lw_tbl := lw_at lw_m1 209 rfl
theorem q333 : (Jvm.Cond.fieldLinkNest "TroughTreaty" (419 : Nat) "TroughTreaty$State" "drunk" "I" "TroughTreaty") ∈ lw_tbl := lw_at lw_m1 211 rfl
theorem q335 : (Jvm.Cond.fieldLinkNest "TroughTreaty" (400 : Nat) "TroughTreaty$State" "number" "I" "TroughTreaty") ∈ lw_tbl := lw_at lw_m1 213 rfl
theorem q337 : (Jvm.Cond.fieldLinkNest "TroughTreaty" (403 : Nat) "TroughTreaty$State" "what" "I" "TroughTreaty") ∈ lw_tbl := lw_at lw_m1 215 rfl
theorem q339 : (Jvm.Cond.fieldLinkNest "TroughTreaty" (406 : Nat) "TroughTreaty$State" "which" "I" "TroughTreaty") ∈ lw_tbl := lw_at lw_m1 217 rfl
theorem q341 : (Jvm.Cond.fieldLinkNest "TroughTreaty" (300 : Nat) "TroughTreaty$State" "fightPlace" "I" "TroughTreaty") ∈ lw_tbl := lw_at lw_m1 219 rfl
theorem q343 : (Jvm.Cond.fieldLinkNest "TroughTreaty" (360 : Nat) "TroughTreaty$State" "talked" "I" "TroughTreaty") ∈ lw_tbl := lw_at lw_m1 221 rfl
theorem q345 : (Jvm.Cond.fieldLinkNest "TroughTreaty" (363 : Nat) "TroughTreaty$State" "fought" "I" "TroughTreaty") ∈ lw_tbl := lw_at lw_m1 223 rfl
theorem q386 : (Jvm.Cond.classLink "TroughTreaty" (24 : Nat) "java/util/ArrayList") ∈ lw_all := lw_g (lw_at lw_m2 24 rfl) rfl
theorem q387 : (Jvm.Cond.methodLink "TroughTreaty" (122 : Nat) ({ cls := "java/util/ArrayList", name := "<init>", desc := "(I)V" } : Jvm.MethodName)) ∈ lw_all := lw_g (lw_at lw_m2 25 rfl) rfl
theorem q388 : (Jvm.Cond.methodLink "TroughTreaty" (135 : Nat) ({ cls := "TroughTreaty$State", name := "begin", desc := "()V" } : Jvm.MethodName)) ∈ lw_all := lw_g (lw_at lw_m2 26 rfl) rfl
theorem q393 : (Jvm.Cond.privateMethod ({ cls := "TroughTreaty", name := "horses", desc := "()I" } : Jvm.MethodName)) ∈ lw_tbl := lw_at lw_m2 31 rfl
theorem q394 : (Jvm.Cond.instanceMethod ({ cls := "TroughTreaty", name := "horses", desc := "()I" } : Jvm.MethodName)) ∈ lw_all := lw_g (lw_at lw_m2 32 rfl) rfl
theorem q395 : (Jvm.Cond.code ({ cls := "TroughTreaty", name := "horses", desc := "()I" } : Jvm.MethodName) prog_1_method_5_code (1 : Nat) (Option.some Jvm.ClassFile.FieldType.int)) ∈ lw_all := lw_g (lw_at lw_m2 33 rfl) rfl
theorem q396 : (Jvm.Cond.methodLink "TroughTreaty" (23 : Nat) ({ cls := "java/util/ArrayList", name := "size", desc := "()I" } : Jvm.MethodName)) ∈ lw_all := lw_g (lw_at lw_m2 34 rfl) rfl
theorem q401 : (Jvm.Cond.privateMethod ({ cls := "TroughTreaty", name := "horse", desc := "(I)LTroughTreaty$Horse;" } : Jvm.MethodName)) ∈ lw_tbl := lw_at lw_m2 39 rfl
theorem q402 : (Jvm.Cond.instanceMethod ({ cls := "TroughTreaty", name := "horse", desc := "(I)LTroughTreaty$Horse;" } : Jvm.MethodName)) ∈ lw_all := lw_g (lw_at lw_m2 40 rfl) rfl
theorem q403 : (Jvm.Cond.code ({ cls := "TroughTreaty", name := "horse", desc := "(I)LTroughTreaty$Horse;" } : Jvm.MethodName) prog_1_method_6_code (2 : Nat) (Option.some (Jvm.ClassFile.FieldType.object "TroughTreaty$Horse"))) ∈ lw_all := lw_g (lw_at lw_m2 41 rfl) rfl
theorem q404 : (Jvm.Cond.methodLink "TroughTreaty" (29 : Nat) ({ cls := "java/util/ArrayList", name := "get", desc := "(I)Ljava/lang/Object;" } : Jvm.MethodName)) ∈ lw_all := lw_g (lw_at lw_m2 42 rfl) rfl
theorem q418 : (Jvm.Cond.classLink "TroughTreaty" (38 : Nat) "TroughTreaty$Horse") ∈ lw_all := lw_g (lw_at lw_m2 56 rfl) rfl
theorem q420 : (Jvm.Cond.privateMethod ({ cls := "TroughTreaty", name := "troughs", desc := "()I" } : Jvm.MethodName)) ∈ lw_tbl := lw_at lw_m2 58 rfl
theorem q421 : (Jvm.Cond.instanceMethod ({ cls := "TroughTreaty", name := "troughs", desc := "()I" } : Jvm.MethodName)) ∈ lw_all := lw_g (lw_at lw_m2 59 rfl) rfl
theorem q422 : (Jvm.Cond.code ({ cls := "TroughTreaty", name := "troughs", desc := "()I" } : Jvm.MethodName) prog_1_method_3_code (1 : Nat) (Option.some Jvm.ClassFile.FieldType.int)) ∈ lw_all := lw_g (lw_at lw_m2 60 rfl) rfl
theorem q424 : (Jvm.Cond.privateMethod ({ cls := "TroughTreaty", name := "trough", desc := "(I)LTroughTreaty$Trough;" } : Jvm.MethodName)) ∈ lw_tbl := lw_at lw_m2 62 rfl
theorem q425 : (Jvm.Cond.instanceMethod ({ cls := "TroughTreaty", name := "trough", desc := "(I)LTroughTreaty$Trough;" } : Jvm.MethodName)) ∈ lw_all := lw_g (lw_at lw_m2 63 rfl) rfl
theorem q426 : (Jvm.Cond.code ({ cls := "TroughTreaty", name := "trough", desc := "(I)LTroughTreaty$Trough;" } : Jvm.MethodName) prog_1_method_4_code (2 : Nat) (Option.some (Jvm.ClassFile.FieldType.object "TroughTreaty$Trough"))) ∈ lw_all := lw_g (lw_at lw_m2 64 rfl) rfl
theorem q427 : (Jvm.Cond.classLink "TroughTreaty" (33 : Nat) "TroughTreaty$Trough") ∈ lw_all := lw_g (lw_at lw_m2 65 rfl) rfl
theorem q429 : (Jvm.Cond.fieldLink "TroughTreaty" (73 : Nat) "TroughTreaty" "tape" "[B") ∈ lw_all := lw_g (lw_at lw_m2 67 rfl) rfl
theorem q430 : (Jvm.Cond.fieldLink "TroughTreaty" (138 : Nat) "TroughTreaty" "taped" "I") ∈ lw_all := lw_g (lw_at lw_m2 68 rfl) rfl
theorem q431 : (Jvm.Cond.fieldLink "TroughTreaty" (148 : Nat) "TroughTreaty" "faultKind" "I") ∈ lw_all := lw_g (lw_at lw_m2 69 rfl) rfl
theorem q432 : (Jvm.Cond.fieldLink "TroughTreaty" (77 : Nat) "TroughTreaty" "faultPlace" "I") ∈ lw_all := lw_g (lw_at lw_m2 70 rfl) rfl
theorem q433 : (Jvm.Cond.fieldLink "TroughTreaty" (163 : Nat) "TroughTreaty" "keptMany" "I") ∈ lw_all := lw_g (lw_at lw_m2 71 rfl) rfl
theorem q434 : (Jvm.Cond.fieldLink "TroughTreaty" (86 : Nat) "TroughTreaty" "reader" "LTroughTreaty$Reader;") ∈ lw_all := lw_g (lw_at lw_m2 72 rfl) rfl
theorem q436 : (Jvm.Cond.fieldLink "TroughTreaty" (13 : Nat) "TroughTreaty" "road" "LTroughTreaty$Road;") ∈ lw_all := lw_g (lw_at lw_m2 74 rfl) rfl
theorem q437 : (Jvm.Cond.fieldLink "TroughTreaty" (46 : Nat) "TroughTreaty" "names" "[J") ∈ lw_all := lw_g (lw_at lw_m2 75 rfl) rfl
theorem q439 : (Jvm.Cond.fieldLink "TroughTreaty" (94 : Nat) "TroughTreaty" "nature" "LTroughTreaty$Nature;") ∈ lw_all := lw_g (lw_at lw_m2 77 rfl) rfl
theorem q441 : (Jvm.Cond.fieldLink "TroughTreaty" (101 : Nat) "TroughTreaty" "now" "LTroughTreaty$State;") ∈ lw_all := lw_g (lw_at lw_m2 79 rfl) rfl
theorem q442 : (Jvm.Cond.fieldLink "TroughTreaty" (105 : Nat) "TroughTreaty" "other" "LTroughTreaty$State;") ∈ lw_all := lw_g (lw_at lw_m2 80 rfl) rfl
theorem q443 : (Jvm.Cond.fieldLink "TroughTreaty" (108 : Nat) "TroughTreaty" "image" "LTroughTreaty$State;") ∈ lw_all := lw_g (lw_at lw_m2 81 rfl) rfl
theorem q444 : (Jvm.Cond.fieldLink "TroughTreaty" (111 : Nat) "TroughTreaty" "kept" "[LTroughTreaty$State;") ∈ lw_all := lw_g (lw_at lw_m2 82 rfl) rfl
theorem q445 : (Jvm.Cond.fieldLink "TroughTreaty" (166 : Nat) "TroughTreaty" "hasImage" "Z") ∈ lw_all := lw_g (lw_at lw_m2 83 rfl) rfl
theorem q446 : (Jvm.Cond.fieldLink "TroughTreaty" (115 : Nat) "TroughTreaty" "leaves" "[I") ∈ lw_all := lw_g (lw_at lw_m2 84 rfl) rfl
theorem q447 : (Jvm.Cond.fieldLink "TroughTreaty" (119 : Nat) "TroughTreaty" "leavesNext" "[I") ∈ lw_all := lw_g (lw_at lw_m2 85 rfl) rfl
theorem q448 : (Jvm.Cond.fieldLink "TroughTreaty" (125 : Nat) "TroughTreaty" "seen" "Ljava/util/ArrayList;") ∈ lw_all := lw_g (lw_at lw_m2 86 rfl) rfl
theorem q449 : (Jvm.Cond.fieldLink "TroughTreaty" (128 : Nat) "TroughTreaty" "isStruck" "[Z") ∈ lw_all := lw_g (lw_at lw_m2 87 rfl) rfl
theorem q450 : (Jvm.Cond.fieldLink "TroughTreaty" (132 : Nat) "TroughTreaty" "known" "I") ∈ lw_all := lw_g (lw_at lw_m2 88 rfl) rfl
theorem q451 : (Jvm.Cond.laysFinal "TroughTreaty" "TroughTreaty" "tape" "[B") ∈ lw_all := lw_g (lw_at lw_m2 89 rfl) rfl
theorem q452 : (Jvm.Cond.soleField "TroughTreaty" "tape") ∈ lw_all := lw_g (lw_at lw_m2 90 rfl) rfl
theorem q453 : (Jvm.Cond.lays "TroughTreaty" "TroughTreaty" "taped" "I") ∈ lw_all := lw_g (lw_at lw_m2 91 rfl) rfl
theorem q454 : (Jvm.Cond.soleField "TroughTreaty" "taped") ∈ lw_all := lw_g (lw_at lw_m2 92 rfl) rfl
theorem q455 : (Jvm.Cond.lays "TroughTreaty" "TroughTreaty" "faultKind" "I") ∈ lw_all := lw_g (lw_at lw_m2 93 rfl) rfl
theorem q456 : (Jvm.Cond.soleField "TroughTreaty" "faultKind") ∈ lw_all := lw_g (lw_at lw_m2 94 rfl) rfl
theorem q457 : (Jvm.Cond.lays "TroughTreaty" "TroughTreaty" "faultPlace" "I") ∈ lw_all := lw_g (lw_at lw_m2 95 rfl) rfl
theorem q458 : (Jvm.Cond.soleField "TroughTreaty" "faultPlace") ∈ lw_all := lw_g (lw_at lw_m2 96 rfl) rfl
theorem q459 : (Jvm.Cond.lays "TroughTreaty" "TroughTreaty" "keptMany" "I") ∈ lw_all := lw_g (lw_at lw_m2 97 rfl) rfl
theorem q460 : (Jvm.Cond.soleField "TroughTreaty" "keptMany") ∈ lw_all := lw_g (lw_at lw_m2 98 rfl) rfl
theorem q461 : (Jvm.Cond.laysFinal "TroughTreaty" "TroughTreaty" "reader" "LTroughTreaty$Reader;") ∈ lw_all := lw_g (lw_at lw_m2 99 rfl) rfl
theorem q462 : (Jvm.Cond.soleField "TroughTreaty" "reader") ∈ lw_all := lw_g (lw_at lw_m2 100 rfl) rfl
theorem q463 : (Jvm.Cond.lays "TroughTreaty" "TroughTreaty" "road" "LTroughTreaty$Road;") ∈ lw_all := lw_g (lw_at lw_m2 101 rfl) rfl
theorem q464 : (Jvm.Cond.soleField "TroughTreaty" "road") ∈ lw_all := lw_g (lw_at lw_m2 102 rfl) rfl
theorem q465 : (Jvm.Cond.laysFinal "TroughTreaty" "TroughTreaty" "names" "[J") ∈ lw_all := lw_g (lw_at lw_m2 103 rfl) rfl
theorem q466 : (Jvm.Cond.soleField "TroughTreaty" "names") ∈ lw_all := lw_g (lw_at lw_m2 104 rfl) rfl
theorem q467 : (Jvm.Cond.laysFinal "TroughTreaty" "TroughTreaty" "nature" "LTroughTreaty$Nature;") ∈ lw_all := lw_g (lw_at lw_m2 105 rfl) rfl
theorem q468 : (Jvm.Cond.soleField "TroughTreaty" "nature") ∈ lw_all := lw_g (lw_at lw_m2 106 rfl) rfl
theorem q469 : (Jvm.Cond.laysFinal "TroughTreaty" "TroughTreaty" "now" "LTroughTreaty$State;") ∈ lw_all := lw_g (lw_at lw_m2 107 rfl) rfl
theorem q470 : (Jvm.Cond.soleField "TroughTreaty" "now") ∈ lw_all := lw_g (lw_at lw_m2 108 rfl) rfl
theorem q471 : (Jvm.Cond.laysFinal "TroughTreaty" "TroughTreaty" "other" "LTroughTreaty$State;") ∈ lw_all := lw_g (lw_at lw_m2 109 rfl) rfl
theorem q472 : (Jvm.Cond.soleField "TroughTreaty" "other") ∈ lw_all := lw_g (lw_at lw_m2 110 rfl) rfl
theorem q473 : (Jvm.Cond.laysFinal "TroughTreaty" "TroughTreaty" "image" "LTroughTreaty$State;") ∈ lw_all := lw_g (lw_at lw_m2 111 rfl) rfl
theorem q474 : (Jvm.Cond.soleField "TroughTreaty" "image") ∈ lw_all := lw_g (lw_at lw_m2 112 rfl) rfl
theorem q475 : (Jvm.Cond.laysFinal "TroughTreaty" "TroughTreaty" "kept" "[LTroughTreaty$State;") ∈ lw_all := lw_g (lw_at lw_m2 113 rfl) rfl
theorem q476 : (Jvm.Cond.soleField "TroughTreaty" "kept") ∈ lw_all := lw_g (lw_at lw_m2 114 rfl) rfl
theorem q477 : (Jvm.Cond.lays "TroughTreaty" "TroughTreaty" "hasImage" "Z") ∈ lw_all := lw_g (lw_at lw_m2 115 rfl) rfl
theorem q478 : (Jvm.Cond.soleField "TroughTreaty" "hasImage") ∈ lw_all := lw_g (lw_at lw_m2 116 rfl) rfl
theorem q479 : (Jvm.Cond.laysFinal "TroughTreaty" "TroughTreaty" "leaves" "[I") ∈ lw_all := lw_g (lw_at lw_m2 117 rfl) rfl
theorem q480 : (Jvm.Cond.soleField "TroughTreaty" "leaves") ∈ lw_all := lw_g (lw_at lw_m2 118 rfl) rfl
theorem q481 : (Jvm.Cond.laysFinal "TroughTreaty" "TroughTreaty" "leavesNext" "[I") ∈ lw_all := lw_g (lw_at lw_m2 119 rfl) rfl
theorem q482 : (Jvm.Cond.soleField "TroughTreaty" "leavesNext") ∈ lw_all := lw_g (lw_at lw_m2 120 rfl) rfl
theorem q483 : (Jvm.Cond.laysFinal "TroughTreaty" "TroughTreaty" "seen" "Ljava/util/ArrayList;") ∈ lw_all := lw_g (lw_at lw_m2 121 rfl) rfl
theorem q484 : (Jvm.Cond.soleField "TroughTreaty" "seen") ∈ lw_all := lw_g (lw_at lw_m2 122 rfl) rfl
theorem q485 : (Jvm.Cond.laysFinal "TroughTreaty" "TroughTreaty" "isStruck" "[Z") ∈ lw_all := lw_g (lw_at lw_m2 123 rfl) rfl
theorem q486 : (Jvm.Cond.soleField "TroughTreaty" "isStruck") ∈ lw_all := lw_g (lw_at lw_m2 124 rfl) rfl
theorem q487 : (Jvm.Cond.lays "TroughTreaty" "TroughTreaty" "known" "I") ∈ lw_all := lw_g (lw_at lw_m2 125 rfl) rfl
theorem q488 : (Jvm.Cond.soleField "TroughTreaty" "known") ∈ lw_all := lw_g (lw_at lw_m2 126 rfl) rfl
theorem q489 : (Jvm.Cond.superclass "TroughTreaty" "java/lang/Object") ∈ lw_all := lw_g (lw_at lw_m2 127 rfl) rfl
theorem q492 : (Jvm.Cond.instanceMethod ({ cls := "TroughTreaty", name := "feed", desc := "(IIIII)I" } : Jvm.MethodName)) ∈ lw_all := lw_g (lw_at lw_m2 130 rfl) rfl
theorem q493 : (Jvm.Cond.selects "TroughTreaty" ({ cls := "TroughTreaty", name := "feed", desc := "(IIIII)I" } : Jvm.MethodName) ({ cls := "TroughTreaty", name := "feed", desc := "(IIIII)I" } : Jvm.MethodName)) ∈ lw_all := lw_g (lw_at lw_m2 131 rfl) rfl
theorem q494 : (Jvm.Cond.code ({ cls := "TroughTreaty", name := "feed", desc := "(IIIII)I" } : Jvm.MethodName) prog_1_method_10_code (6 : Nat) (Option.some Jvm.ClassFile.FieldType.int)) ∈ lw_all := lw_g (lw_at lw_m2 132 rfl) rfl
theorem q495 : (Jvm.Cond.methodLink "TroughTreaty" (141 : Nat) ({ cls := "TroughTreaty", name := "put", desc := "(I)V" } : Jvm.MethodName)) ∈ lw_all := lw_g (lw_at lw_m2 133 rfl) rfl
theorem q496 : (Jvm.Cond.privateMethod ({ cls := "TroughTreaty", name := "put", desc := "(I)V" } : Jvm.MethodName)) ∈ lw_tbl := lw_at lw_m2 134 rfl
theorem q497 : (Jvm.Cond.instanceMethod ({ cls := "TroughTreaty", name := "put", desc := "(I)V" } : Jvm.MethodName)) ∈ lw_all := lw_g (lw_at lw_m2 135 rfl) rfl
theorem q498 : (Jvm.Cond.code ({ cls := "TroughTreaty", name := "put", desc := "(I)V" } : Jvm.MethodName) prog_1_method_11_code (3 : Nat) (Option.none : Option Jvm.ClassFile.FieldType)) ∈ lw_all := lw_g (lw_at lw_m2 136 rfl) rfl
theorem q500 : (Jvm.Cond.instanceMethod ({ cls := "TroughTreaty", name := "text", desc := "(I)I" } : Jvm.MethodName)) ∈ lw_all := lw_g (lw_at lw_m2 138 rfl) rfl
theorem q501 : (Jvm.Cond.selects "TroughTreaty" ({ cls := "TroughTreaty", name := "text", desc := "(I)I" } : Jvm.MethodName) ({ cls := "TroughTreaty", name := "text", desc := "(I)I" } : Jvm.MethodName)) ∈ lw_all := lw_g (lw_at lw_m2 139 rfl) rfl
theorem q502 : (Jvm.Cond.codeWith ({ cls := "TroughTreaty", name := "text", desc := "(I)I" } : Jvm.MethodName) prog_1_method_12_code (3 : Nat) (Option.some Jvm.ClassFile.FieldType.int) [((32 : Nat), (44 : Nat), (47 : Nat), (155 : Nat))]) ∈ lw_all := lw_g (lw_at lw_m2 140 rfl) rfl
theorem q503 : (Jvm.Cond.classLink "TroughTreaty" (155 : Nat) "TroughTreaty$Fault") ∈ lw_all := lw_g (lw_at lw_m2 141 rfl) rfl
theorem q504 : (Jvm.Cond.methodLink "TroughTreaty" (144 : Nat) ({ cls := "TroughTreaty", name := "in", desc := "(JJJ)Z" } : Jvm.MethodName)) ∈ lw_all := lw_g (lw_at lw_m2 142 rfl) rfl
theorem q505 : (Jvm.Cond.static ({ cls := "TroughTreaty", name := "in", desc := "(JJJ)Z" } : Jvm.MethodName)) ∈ lw_all := lw_g (lw_at lw_m2 143 rfl) rfl
theorem q506 : (Jvm.Cond.code ({ cls := "TroughTreaty", name := "in", desc := "(JJJ)Z" } : Jvm.MethodName) prog_1_method_1_code (6 : Nat) (Option.some Jvm.ClassFile.FieldType.boolean)) ∈ lw_all := lw_g (lw_at lw_m2 144 rfl) rfl
theorem q507 : (Jvm.Cond.methodLink "TroughTreaty" (151 : Nat) ({ cls := "TroughTreaty$Reader", name := "read", desc := "(I)LTroughTreaty$Road;" } : Jvm.MethodName)) ∈ lw_all := lw_g (lw_at lw_m2 145 rfl) rfl
theorem q529 : (Jvm.Cond.laysStatic "TroughTreaty" "NAMES" "[Ljava/lang/String;") ∈ lw_tbl := lw_at lw_m2 167 rfl
theorem q710 : (Jvm.Cond.fieldLinkNest "TroughTreaty" (157 : Nat) "TroughTreaty$Fault" "kind" "I" "TroughTreaty") ∈ lw_tbl := lw_at lw_m3 108 rfl
theorem q712 : (Jvm.Cond.fieldLinkNest "TroughTreaty" (160 : Nat) "TroughTreaty$Fault" "place" "I" "TroughTreaty") ∈ lw_tbl := lw_at lw_m3 110 rfl
theorem q773 : (Jvm.Cond.fieldLinkNest "TroughTreaty" (239 : Nat) "TroughTreaty$Trough" "fill" "I" "TroughTreaty") ∈ lw_tbl := lw_at lw_m3 171 rfl
theorem q781 : (Jvm.Cond.fieldLink "TroughTreaty" (232 : Nat) "TroughTreaty$Trough" "place" "I") ∈ lw_all := lw_g (lw_at lw_m3 179 rfl) rfl
theorem q830 : (Jvm.Cond.selects "TroughTreaty" ({ cls := "java/lang/Object", name := "getClass", desc := "()Ljava/lang/Class;" } : Jvm.MethodName) ({ cls := "java/lang/Object", name := "getClass", desc := "()Ljava/lang/Class;" } : Jvm.MethodName)) ∈ lw_all := lw_g (lw_at lw_m3 228 rfl) rfl
theorem q874 : (Jvm.Cond.fieldLinkNest "TroughTreaty" (197 : Nat) "TroughTreaty$Horse" "side" "I" "TroughTreaty") ∈ lw_tbl := lw_at lw_m4 32 rfl
theorem q879 : (Jvm.Cond.fieldLinkNest "TroughTreaty" (206 : Nat) "TroughTreaty$Horse" "pace" "I" "TroughTreaty") ∈ lw_tbl := lw_at lw_m4 37 rfl
theorem q997 : (Jvm.Cond.methodLink "TroughTreaty" (170 : Nat) ({ cls := "java/util/ArrayList", name := "clear", desc := "()V" } : Jvm.MethodName)) ∈ lw_all := lw_g (lw_at lw_m4 155 rfl) rfl
theorem q1002 : (Jvm.Cond.instanceMethod ({ cls := "TroughTreaty", name := "fault", desc := "(I)I" } : Jvm.MethodName)) ∈ lw_all := lw_g (lw_at lw_m4 160 rfl) rfl
theorem q1003 : (Jvm.Cond.selects "TroughTreaty" ({ cls := "TroughTreaty", name := "fault", desc := "(I)I" } : Jvm.MethodName) ({ cls := "TroughTreaty", name := "fault", desc := "(I)I" } : Jvm.MethodName)) ∈ lw_all := lw_g (lw_at lw_m4 161 rfl) rfl
theorem q1004 : (Jvm.Cond.code ({ cls := "TroughTreaty", name := "fault", desc := "(I)I" } : Jvm.MethodName) prog_1_method_13_code (2 : Nat) (Option.some Jvm.ClassFile.FieldType.int)) ∈ lw_all := lw_g (lw_at lw_m4 162 rfl) rfl
theorem q1006 : (Jvm.Cond.instanceMethod ({ cls := "TroughTreaty", name := "named", desc := "(II)I" } : Jvm.MethodName)) ∈ lw_all := lw_g (lw_at lw_m4 164 rfl) rfl
theorem q1007 : (Jvm.Cond.selects "TroughTreaty" ({ cls := "TroughTreaty", name := "named", desc := "(II)I" } : Jvm.MethodName) ({ cls := "TroughTreaty", name := "named", desc := "(II)I" } : Jvm.MethodName)) ∈ lw_all := lw_g (lw_at lw_m4 165 rfl) rfl
theorem q1008 : (Jvm.Cond.code ({ cls := "TroughTreaty", name := "named", desc := "(II)I" } : Jvm.MethodName) prog_1_method_14_code (3 : Nat) (Option.some Jvm.ClassFile.FieldType.int)) ∈ lw_all := lw_g (lw_at lw_m4 166 rfl) rfl
theorem q1009 : (Jvm.Cond.methodLink "TroughTreaty" (176 : Nat) ({ cls := "TroughTreaty$Named", name := "find", desc := "(Ljava/util/ArrayList;I)I" } : Jvm.MethodName)) ∈ lw_all := lw_g (lw_at lw_m4 167 rfl) rfl
theorem q1011 : (Jvm.Cond.instanceMethod ({ cls := "TroughTreaty", name := "trough", desc := "(II)I" } : Jvm.MethodName)) ∈ lw_all := lw_g (lw_at lw_m4 169 rfl) rfl
theorem q1012 : (Jvm.Cond.selects "TroughTreaty" ({ cls := "TroughTreaty", name := "trough", desc := "(II)I" } : Jvm.MethodName) ({ cls := "TroughTreaty", name := "trough", desc := "(II)I" } : Jvm.MethodName)) ∈ lw_all := lw_g (lw_at lw_m4 170 rfl) rfl
theorem q1013 : (Jvm.Cond.code ({ cls := "TroughTreaty", name := "trough", desc := "(II)I" } : Jvm.MethodName) prog_1_method_21_code (3 : Nat) (Option.some Jvm.ClassFile.FieldType.int)) ∈ lw_all := lw_g (lw_at lw_m4 171 rfl) rfl
theorem q1014 : (Jvm.Cond.methodLink "TroughTreaty" (233 : Nat) ({ cls := "TroughTreaty", name := "isTrough", desc := "(I)Z" } : Jvm.MethodName)) ∈ lw_all := lw_g (lw_at lw_m4 172 rfl) rfl
theorem q1015 : (Jvm.Cond.privateMethod ({ cls := "TroughTreaty", name := "isTrough", desc := "(I)Z" } : Jvm.MethodName)) ∈ lw_tbl := lw_at lw_m4 173 rfl
theorem q1016 : (Jvm.Cond.instanceMethod ({ cls := "TroughTreaty", name := "isTrough", desc := "(I)Z" } : Jvm.MethodName)) ∈ lw_all := lw_g (lw_at lw_m4 174 rfl) rfl
theorem q1017 : (Jvm.Cond.code ({ cls := "TroughTreaty", name := "isTrough", desc := "(I)Z" } : Jvm.MethodName) prog_1_method_15_code (2 : Nat) (Option.some Jvm.ClassFile.FieldType.boolean)) ∈ lw_all := lw_g (lw_at lw_m4 175 rfl) rfl
theorem q1018 : (Jvm.Cond.methodLink "TroughTreaty" (182 : Nat) ({ cls := "TroughTreaty", name := "troughs", desc := "()I" } : Jvm.MethodName)) ∈ lw_all := lw_g (lw_at lw_m4 176 rfl) rfl
theorem q1019 : (Jvm.Cond.methodLink "TroughTreaty" (228 : Nat) ({ cls := "TroughTreaty", name := "trough", desc := "(I)LTroughTreaty$Trough;" } : Jvm.MethodName)) ∈ lw_all := lw_g (lw_at lw_m4 177 rfl) rfl
theorem q1020 : (Jvm.Cond.methodLink "TroughTreaty" (242 : Nat) ({ cls := "TroughTreaty", name := "drinkers", desc := "(I)I" } : Jvm.MethodName)) ∈ lw_all := lw_g (lw_at lw_m4 178 rfl) rfl
theorem q1021 : (Jvm.Cond.privateMethod ({ cls := "TroughTreaty", name := "drinkers", desc := "(I)I" } : Jvm.MethodName)) ∈ lw_tbl := lw_at lw_m4 179 rfl
theorem q1022 : (Jvm.Cond.instanceMethod ({ cls := "TroughTreaty", name := "drinkers", desc := "(I)I" } : Jvm.MethodName)) ∈ lw_all := lw_g (lw_at lw_m4 180 rfl) rfl
theorem q1023 : (Jvm.Cond.code ({ cls := "TroughTreaty", name := "drinkers", desc := "(I)I" } : Jvm.MethodName) prog_1_method_20_code (4 : Nat) (Option.some Jvm.ClassFile.FieldType.int)) ∈ lw_all := lw_g (lw_at lw_m4 181 rfl) rfl
theorem q1024 : (Jvm.Cond.methodLink "TroughTreaty" (184 : Nat) ({ cls := "TroughTreaty", name := "horses", desc := "()I" } : Jvm.MethodName)) ∈ lw_all := lw_g (lw_at lw_m4 182 rfl) rfl
theorem q1025 : (Jvm.Cond.methodLink "TroughTreaty" (219 : Nat) ({ cls := "TroughTreaty$State", name := "isOn", desc := "(I)Z" } : Jvm.MethodName)) ∈ lw_all := lw_g (lw_at lw_m4 183 rfl) rfl
theorem q1030 : (Jvm.Cond.instanceMethod ({ cls := "TroughTreaty", name := "law", desc := "(II)J" } : Jvm.MethodName)) ∈ lw_all := lw_g (lw_at lw_m4 188 rfl) rfl
theorem q1031 : (Jvm.Cond.selects "TroughTreaty" ({ cls := "TroughTreaty", name := "law", desc := "(II)J" } : Jvm.MethodName) ({ cls := "TroughTreaty", name := "law", desc := "(II)J" } : Jvm.MethodName)) ∈ lw_all := lw_g (lw_at lw_m4 189 rfl) rfl
theorem q1032 : (Jvm.Cond.code ({ cls := "TroughTreaty", name := "law", desc := "(II)J" } : Jvm.MethodName) prog_1_method_22_code (3 : Nat) (Option.some Jvm.ClassFile.FieldType.long)) ∈ lw_all := lw_g (lw_at lw_m4 190 rfl) rfl
theorem q1033 : (Jvm.Cond.constantLong "TroughTreaty" (245 : Nat) (2 : Int64)) ∈ lw_all := lw_g (lw_at lw_m4 191 rfl) rfl
theorem q1034 : (Jvm.Cond.methodLink "TroughTreaty" (186 : Nat) ({ cls := "TroughTreaty", name := "isHorse", desc := "(I)Z" } : Jvm.MethodName)) ∈ lw_all := lw_g (lw_at lw_m4 192 rfl) rfl
theorem q1035 : (Jvm.Cond.privateMethod ({ cls := "TroughTreaty", name := "isHorse", desc := "(I)Z" } : Jvm.MethodName)) ∈ lw_tbl := lw_at lw_m4 193 rfl
theorem q1036 : (Jvm.Cond.instanceMethod ({ cls := "TroughTreaty", name := "isHorse", desc := "(I)Z" } : Jvm.MethodName)) ∈ lw_all := lw_g (lw_at lw_m4 194 rfl) rfl
theorem q1037 : (Jvm.Cond.code ({ cls := "TroughTreaty", name := "isHorse", desc := "(I)Z" } : Jvm.MethodName) prog_1_method_16_code (2 : Nat) (Option.some Jvm.ClassFile.FieldType.boolean)) ∈ lw_all := lw_g (lw_at lw_m4 195 rfl) rfl
theorem q1038 : (Jvm.Cond.constantLong "TroughTreaty" (44 : Nat) (-9223372036854775808 : Int64)) ∈ lw_all := lw_g (lw_at lw_m4 196 rfl) rfl
theorem q1039 : (Jvm.Cond.methodLink "TroughTreaty" (247 : Nat) ({ cls := "TroughTreaty$State", name := "name", desc := "(I)V" } : Jvm.MethodName)) ∈ lw_all := lw_g (lw_at lw_m4 197 rfl) rfl
theorem q1051 : (Jvm.Cond.methodLink "TroughTreaty" (250 : Nat) ({ cls := "TroughTreaty", name := "work", desc := "(I)J" } : Jvm.MethodName)) ∈ lw_all := lw_g (lw_at lw_m4 209 rfl) rfl
theorem q1052 : (Jvm.Cond.privateMethod ({ cls := "TroughTreaty", name := "work", desc := "(I)J" } : Jvm.MethodName)) ∈ lw_tbl := lw_at lw_m4 210 rfl
theorem q1053 : (Jvm.Cond.instanceMethod ({ cls := "TroughTreaty", name := "work", desc := "(I)J" } : Jvm.MethodName)) ∈ lw_all := lw_g (lw_at lw_m4 211 rfl) rfl
theorem q1054 : (Jvm.Cond.codeWith ({ cls := "TroughTreaty", name := "work", desc := "(I)J" } : Jvm.MethodName) prog_1_method_7_code (3 : Nat) (Option.some Jvm.ClassFile.FieldType.long) [((16 : Nat), (32 : Nat), (33 : Nat), (56 : Nat))]) ∈ lw_all := lw_g (lw_at lw_m4 212 rfl) rfl
theorem q1055 : (Jvm.Cond.classLink "TroughTreaty" (56 : Nat) "TroughTreaty$Trouble") ∈ lw_all := lw_g (lw_at lw_m4 213 rfl) rfl
theorem q1056 : (Jvm.Cond.methodLink "TroughTreaty" (50 : Nat) ({ cls := "TroughTreaty$Part", name := "of", desc := "([J)J" } : Jvm.MethodName)) ∈ lw_all := lw_g (lw_at lw_m4 214 rfl) rfl
theorem q1072 : (Jvm.Cond.static ({ cls := "TroughTreaty", name := "sure", desc := "(J)J" } : Jvm.MethodName)) ∈ lw_all := lw_g (lw_at lw_m4 230 rfl) rfl
theorem q1073 : (Jvm.Cond.code ({ cls := "TroughTreaty", name := "sure", desc := "(J)J" } : Jvm.MethodName) prog_1_method_2_code (2 : Nat) (Option.some Jvm.ClassFile.FieldType.long)) ∈ lw_all := lw_g (lw_at lw_m4 231 rfl) rfl
theorem q1074 : (Jvm.Cond.constantLong "TroughTreaty" (5 : Nat) (1000000000000 : Int64)) ∈ lw_all := lw_g (lw_at lw_m4 232 rfl) rfl
theorem q1075 : (Jvm.Cond.constantLong "TroughTreaty" (7 : Nat) (-1000000000000 : Int64)) ∈ lw_all := lw_g (lw_at lw_m4 233 rfl) rfl
theorem q1076 : (Jvm.Cond.fieldLink "TroughTreaty" (9 : Nat) "TroughTreaty" "TROUBLE" "LTroughTreaty$Trouble;") ∈ lw_all := lw_g (lw_at lw_m4 234 rfl) rfl
theorem q1077 : (Jvm.Cond.laysStatic "TroughTreaty" "TROUBLE" "LTroughTreaty$Trouble;") ∈ lw_tbl := lw_at lw_m4 235 rfl
theorem q1092 : (Jvm.Cond.instanceMethod ({ cls := "TroughTreaty", name := "send", desc := "(II)I" } : Jvm.MethodName)) ∈ lw_all := lw_g (lw_at lw_m5 10 rfl) rfl
theorem q1093 : (Jvm.Cond.selects "TroughTreaty" ({ cls := "TroughTreaty", name := "send", desc := "(II)I" } : Jvm.MethodName) ({ cls := "TroughTreaty", name := "send", desc := "(II)I" } : Jvm.MethodName)) ∈ lw_all := lw_g (lw_at lw_m5 11 rfl) rfl
theorem q1094 : (Jvm.Cond.code ({ cls := "TroughTreaty", name := "send", desc := "(II)I" } : Jvm.MethodName) prog_1_method_24_code (3 : Nat) (Option.some Jvm.ClassFile.FieldType.int)) ∈ lw_all := lw_g (lw_at lw_m5 12 rfl) rfl
theorem q1095 : (Jvm.Cond.methodLink "TroughTreaty" (258 : Nat) ({ cls := "TroughTreaty", name := "keepNow", desc := "()V" } : Jvm.MethodName)) ∈ lw_all := lw_g (lw_at lw_m5 13 rfl) rfl
theorem q1096 : (Jvm.Cond.privateMethod ({ cls := "TroughTreaty", name := "keepNow", desc := "()V" } : Jvm.MethodName)) ∈ lw_tbl := lw_at lw_m5 14 rfl
theorem q1097 : (Jvm.Cond.instanceMethod ({ cls := "TroughTreaty", name := "keepNow", desc := "()V" } : Jvm.MethodName)) ∈ lw_all := lw_g (lw_at lw_m5 15 rfl) rfl
theorem q1098 : (Jvm.Cond.code ({ cls := "TroughTreaty", name := "keepNow", desc := "()V" } : Jvm.MethodName) prog_1_method_23_code (3 : Nat) (Option.none : Option Jvm.ClassFile.FieldType)) ∈ lw_all := lw_g (lw_at lw_m5 16 rfl) rfl
theorem q1099 : (Jvm.Cond.methodLink "TroughTreaty" (254 : Nat) ({ cls := "TroughTreaty$State", name := "become", desc := "(LTroughTreaty$State;)V" } : Jvm.MethodName)) ∈ lw_all := lw_g (lw_at lw_m5 17 rfl) rfl
theorem q1103 : (Jvm.Cond.methodLink "TroughTreaty" (261 : Nat) ({ cls := "java/lang/Math", name := "abs", desc := "(I)I" } : Jvm.MethodName)) ∈ lw_all := lw_g (lw_at lw_m5 21 rfl) rfl
theorem q1105 : (Jvm.Cond.instanceMethod ({ cls := "TroughTreaty", name := "fill", desc := "(II)I" } : Jvm.MethodName)) ∈ lw_all := lw_g (lw_at lw_m5 23 rfl) rfl
theorem q1106 : (Jvm.Cond.selects "TroughTreaty" ({ cls := "TroughTreaty", name := "fill", desc := "(II)I" } : Jvm.MethodName) ({ cls := "TroughTreaty", name := "fill", desc := "(II)I" } : Jvm.MethodName)) ∈ lw_all := lw_g (lw_at lw_m5 24 rfl) rfl
theorem q1107 : (Jvm.Cond.code ({ cls := "TroughTreaty", name := "fill", desc := "(II)I" } : Jvm.MethodName) prog_1_method_25_code (3 : Nat) (Option.some Jvm.ClassFile.FieldType.int)) ∈ lw_all := lw_g (lw_at lw_m5 25 rfl) rfl
theorem q1108 : (Jvm.Cond.constantLong "TroughTreaty" (264 : Nat) (99 : Int64)) ∈ lw_all := lw_g (lw_at lw_m5 26 rfl) rfl
theorem q1109 : (Jvm.Cond.methodLink "TroughTreaty" (266 : Nat) ({ cls := "java/lang/Math", name := "min", desc := "(II)I" } : Jvm.MethodName)) ∈ lw_all := lw_g (lw_at lw_m5 27 rfl) rfl
theorem q1111 : (Jvm.Cond.instanceMethod ({ cls := "TroughTreaty", name := "lead", desc := "(II)Z" } : Jvm.MethodName)) ∈ lw_all := lw_g (lw_at lw_m5 29 rfl) rfl
theorem q1112 : (Jvm.Cond.selects "TroughTreaty" ({ cls := "TroughTreaty", name := "lead", desc := "(II)Z" } : Jvm.MethodName) ({ cls := "TroughTreaty", name := "lead", desc := "(II)Z" } : Jvm.MethodName)) ∈ lw_all := lw_g (lw_at lw_m5 30 rfl) rfl
theorem q1113 : (Jvm.Cond.code ({ cls := "TroughTreaty", name := "lead", desc := "(II)Z" } : Jvm.MethodName) prog_1_method_26_code (3 : Nat) (Option.some Jvm.ClassFile.FieldType.boolean)) ∈ lw_all := lw_g (lw_at lw_m5 31 rfl) rfl
theorem q1115 : (Jvm.Cond.instanceMethod ({ cls := "TroughTreaty", name := "go", desc := "(I)I" } : Jvm.MethodName)) ∈ lw_all := lw_g (lw_at lw_m5 33 rfl) rfl
theorem q1116 : (Jvm.Cond.selects "TroughTreaty" ({ cls := "TroughTreaty", name := "go", desc := "(I)I" } : Jvm.MethodName) ({ cls := "TroughTreaty", name := "go", desc := "(I)I" } : Jvm.MethodName)) ∈ lw_all := lw_g (lw_at lw_m5 34 rfl) rfl
theorem q1117 : (Jvm.Cond.code ({ cls := "TroughTreaty", name := "go", desc := "(I)I" } : Jvm.MethodName) prog_1_method_27_code (3 : Nat) (Option.some Jvm.ClassFile.FieldType.int)) ∈ lw_all := lw_g (lw_at lw_m5 35 rfl) rfl
theorem q1118 : (Jvm.Cond.constantLong "TroughTreaty" (272 : Nat) (200 : Int64)) ∈ lw_all := lw_g (lw_at lw_m5 36 rfl) rfl
theorem q1119 : (Jvm.Cond.methodLink "TroughTreaty" (277 : Nat) ({ cls := "TroughTreaty$State", name := "pass", desc := "(Z)V" } : Jvm.MethodName)) ∈ lw_all := lw_g (lw_at lw_m5 37 rfl) rfl
theorem q1147 : (Jvm.Cond.static ({ cls := "TroughTreaty", name := "within", desc := "(JIII)I" } : Jvm.MethodName)) ∈ lw_all := lw_g (lw_at lw_m5 65 rfl) rfl
theorem q1148 : (Jvm.Cond.code ({ cls := "TroughTreaty", name := "within", desc := "(JIII)I" } : Jvm.MethodName) prog_1_method_8_code (5 : Nat) (Option.some Jvm.ClassFile.FieldType.int)) ∈ lw_all := lw_g (lw_at lw_m5 66 rfl) rfl
theorem q1149 : (Jvm.Cond.methodLink "TroughTreaty" (58 : Nat) ({ cls := "java/lang/Math", name := "min", desc := "(JJ)J" } : Jvm.MethodName)) ∈ lw_all := lw_g (lw_at lw_m5 67 rfl) rfl
theorem q1152 : (Jvm.Cond.methodLink "TroughTreaty" (64 : Nat) ({ cls := "java/lang/Math", name := "max", desc := "(JJ)J" } : Jvm.MethodName)) ∈ lw_all := lw_g (lw_at lw_m5 70 rfl) rfl
theorem q1191 : (Jvm.Cond.instanceMethod ({ cls := "TroughTreaty", name := "ahead", desc := "(III)I" } : Jvm.MethodName)) ∈ lw_all := lw_g (lw_at lw_m5 109 rfl) rfl
theorem q1192 : (Jvm.Cond.selects "TroughTreaty" ({ cls := "TroughTreaty", name := "ahead", desc := "(III)I" } : Jvm.MethodName) ({ cls := "TroughTreaty", name := "ahead", desc := "(III)I" } : Jvm.MethodName)) ∈ lw_all := lw_g (lw_at lw_m5 110 rfl) rfl
theorem q1193 : (Jvm.Cond.code ({ cls := "TroughTreaty", name := "ahead", desc := "(III)I" } : Jvm.MethodName) prog_1_method_28_code (4 : Nat) (Option.some Jvm.ClassFile.FieldType.int)) ∈ lw_all := lw_g (lw_at lw_m5 111 rfl) rfl
theorem q1194 : (Jvm.Cond.constantLong "TroughTreaty" (281 : Nat) (4 : Int64)) ∈ lw_all := lw_g (lw_at lw_m5 112 rfl) rfl
theorem q1195 : (Jvm.Cond.methodLink "TroughTreaty" (283 : Nat) ({ cls := "TroughTreaty$State", name := "goesOn", desc := "(I)V" } : Jvm.MethodName)) ∈ lw_all := lw_g (lw_at lw_m5 113 rfl) rfl
theorem q1200 : (Jvm.Cond.methodLink "TroughTreaty" (295 : Nat) ({ cls := "java/lang/Integer", name := "bitCount", desc := "(I)I" } : Jvm.MethodName)) ∈ lw_all := lw_g (lw_at lw_m5 118 rfl) rfl
theorem q1207 : (Jvm.Cond.instanceMethod ({ cls := "TroughTreaty", name := "falls", desc := "(I)I" } : Jvm.MethodName)) ∈ lw_all := lw_g (lw_at lw_m5 125 rfl) rfl
theorem q1208 : (Jvm.Cond.selects "TroughTreaty" ({ cls := "TroughTreaty", name := "falls", desc := "(I)I" } : Jvm.MethodName) ({ cls := "TroughTreaty", name := "falls", desc := "(I)I" } : Jvm.MethodName)) ∈ lw_all := lw_g (lw_at lw_m5 126 rfl) rfl
theorem q1209 : (Jvm.Cond.code ({ cls := "TroughTreaty", name := "falls", desc := "(I)I" } : Jvm.MethodName) prog_1_method_29_code (3 : Nat) (Option.some Jvm.ClassFile.FieldType.int)) ∈ lw_all := lw_g (lw_at lw_m5 127 rfl) rfl
theorem q1211 : (Jvm.Cond.instanceMethod ({ cls := "TroughTreaty", name := "nextFight", desc := "(I)I" } : Jvm.MethodName)) ∈ lw_all := lw_g (lw_at lw_m5 129 rfl) rfl
theorem q1212 : (Jvm.Cond.selects "TroughTreaty" ({ cls := "TroughTreaty", name := "nextFight", desc := "(I)I" } : Jvm.MethodName) ({ cls := "TroughTreaty", name := "nextFight", desc := "(I)I" } : Jvm.MethodName)) ∈ lw_all := lw_g (lw_at lw_m5 130 rfl) rfl
theorem q1213 : (Jvm.Cond.code ({ cls := "TroughTreaty", name := "nextFight", desc := "(I)I" } : Jvm.MethodName) prog_1_method_30_code (3 : Nat) (Option.some Jvm.ClassFile.FieldType.int)) ∈ lw_all := lw_g (lw_at lw_m5 131 rfl) rfl
theorem q1215 : (Jvm.Cond.instanceMethod ({ cls := "TroughTreaty", name := "meet", desc := "(II)I" } : Jvm.MethodName)) ∈ lw_all := lw_g (lw_at lw_m5 133 rfl) rfl
theorem q1216 : (Jvm.Cond.selects "TroughTreaty" ({ cls := "TroughTreaty", name := "meet", desc := "(II)I" } : Jvm.MethodName) ({ cls := "TroughTreaty", name := "meet", desc := "(II)I" } : Jvm.MethodName)) ∈ lw_all := lw_g (lw_at lw_m5 134 rfl) rfl
theorem q1217 : (Jvm.Cond.code ({ cls := "TroughTreaty", name := "meet", desc := "(II)I" } : Jvm.MethodName) prog_1_method_31_code (4 : Nat) (Option.some Jvm.ClassFile.FieldType.int)) ∈ lw_all := lw_g (lw_at lw_m5 135 rfl) rfl
theorem q1218 : (Jvm.Cond.methodLink "TroughTreaty" (303 : Nat) ({ cls := "TroughTreaty", name := "areTwo", desc := "(II)Z" } : Jvm.MethodName)) ∈ lw_all := lw_g (lw_at lw_m5 136 rfl) rfl
theorem q1219 : (Jvm.Cond.privateMethod ({ cls := "TroughTreaty", name := "areTwo", desc := "(II)Z" } : Jvm.MethodName)) ∈ lw_tbl := lw_at lw_m5 137 rfl
theorem q1220 : (Jvm.Cond.instanceMethod ({ cls := "TroughTreaty", name := "areTwo", desc := "(II)Z" } : Jvm.MethodName)) ∈ lw_all := lw_g (lw_at lw_m5 138 rfl) rfl
theorem q1221 : (Jvm.Cond.code ({ cls := "TroughTreaty", name := "areTwo", desc := "(II)Z" } : Jvm.MethodName) prog_1_method_17_code (3 : Nat) (Option.some Jvm.ClassFile.FieldType.boolean)) ∈ lw_all := lw_g (lw_at lw_m5 139 rfl) rfl
theorem q1223 : (Jvm.Cond.instanceMethod ({ cls := "TroughTreaty", name := "sendIn", desc := "(III)I" } : Jvm.MethodName)) ∈ lw_all := lw_g (lw_at lw_m5 141 rfl) rfl
theorem q1224 : (Jvm.Cond.selects "TroughTreaty" ({ cls := "TroughTreaty", name := "sendIn", desc := "(III)I" } : Jvm.MethodName) ({ cls := "TroughTreaty", name := "sendIn", desc := "(III)I" } : Jvm.MethodName)) ∈ lw_all := lw_g (lw_at lw_m5 142 rfl) rfl
theorem q1225 : (Jvm.Cond.code ({ cls := "TroughTreaty", name := "sendIn", desc := "(III)I" } : Jvm.MethodName) prog_1_method_32_code (8 : Nat) (Option.some Jvm.ClassFile.FieldType.int)) ∈ lw_all := lw_g (lw_at lw_m5 143 rfl) rfl
theorem q1227 : (Jvm.Cond.instanceMethod ({ cls := "TroughTreaty", name := "pump", desc := "(I)I" } : Jvm.MethodName)) ∈ lw_all := lw_g (lw_at lw_m5 145 rfl) rfl
theorem q1228 : (Jvm.Cond.selects "TroughTreaty" ({ cls := "TroughTreaty", name := "pump", desc := "(I)I" } : Jvm.MethodName) ({ cls := "TroughTreaty", name := "pump", desc := "(I)I" } : Jvm.MethodName)) ∈ lw_all := lw_g (lw_at lw_m5 146 rfl) rfl
theorem q1229 : (Jvm.Cond.code ({ cls := "TroughTreaty", name := "pump", desc := "(I)I" } : Jvm.MethodName) prog_1_method_34_code (4 : Nat) (Option.some Jvm.ClassFile.FieldType.int)) ∈ lw_all := lw_g (lw_at lw_m5 147 rfl) rfl
theorem q1230 : (Jvm.Cond.constantLong "TroughTreaty" (307 : Nat) (60 : Int64)) ∈ lw_all := lw_g (lw_at lw_m5 148 rfl) rfl
theorem q1231 : (Jvm.Cond.methodLink "TroughTreaty" (309 : Nat) ({ cls := "TroughTreaty", name := "isPumped", desc := "(II)Z" } : Jvm.MethodName)) ∈ lw_all := lw_g (lw_at lw_m5 149 rfl) rfl
theorem q1232 : (Jvm.Cond.privateMethod ({ cls := "TroughTreaty", name := "isPumped", desc := "(II)Z" } : Jvm.MethodName)) ∈ lw_tbl := lw_at lw_m5 150 rfl
theorem q1233 : (Jvm.Cond.instanceMethod ({ cls := "TroughTreaty", name := "isPumped", desc := "(II)Z" } : Jvm.MethodName)) ∈ lw_all := lw_g (lw_at lw_m5 151 rfl) rfl
theorem q1234 : (Jvm.Cond.code ({ cls := "TroughTreaty", name := "isPumped", desc := "(II)Z" } : Jvm.MethodName) prog_1_method_33_code (4 : Nat) (Option.some Jvm.ClassFile.FieldType.boolean)) ∈ lw_all := lw_g (lw_at lw_m5 152 rfl) rfl
theorem q1236 : (Jvm.Cond.instanceMethod ({ cls := "TroughTreaty", name := "stops", desc := "(II)I" } : Jvm.MethodName)) ∈ lw_all := lw_g (lw_at lw_m5 154 rfl) rfl
theorem q1237 : (Jvm.Cond.selects "TroughTreaty" ({ cls := "TroughTreaty", name := "stops", desc := "(II)I" } : Jvm.MethodName) ({ cls := "TroughTreaty", name := "stops", desc := "(II)I" } : Jvm.MethodName)) ∈ lw_all := lw_g (lw_at lw_m5 155 rfl) rfl
theorem q1238 : (Jvm.Cond.code ({ cls := "TroughTreaty", name := "stops", desc := "(II)I" } : Jvm.MethodName) prog_1_method_38_code (5 : Nat) (Option.some Jvm.ClassFile.FieldType.int)) ∈ lw_all := lw_g (lw_at lw_m5 156 rfl) rfl
theorem q1239 : (Jvm.Cond.methodLink "TroughTreaty" (316 : Nat) ({ cls := "TroughTreaty", name := "clear", desc := "([I)V" } : Jvm.MethodName)) ∈ lw_all := lw_g (lw_at lw_m5 157 rfl) rfl
theorem q1240 : (Jvm.Cond.privateMethod ({ cls := "TroughTreaty", name := "clear", desc := "([I)V" } : Jvm.MethodName)) ∈ lw_tbl := lw_at lw_m5 158 rfl
theorem q1241 : (Jvm.Cond.instanceMethod ({ cls := "TroughTreaty", name := "clear", desc := "([I)V" } : Jvm.MethodName)) ∈ lw_all := lw_g (lw_at lw_m5 159 rfl) rfl
theorem q1242 : (Jvm.Cond.code ({ cls := "TroughTreaty", name := "clear", desc := "([I)V" } : Jvm.MethodName) prog_1_method_37_code (3 : Nat) (Option.none : Option Jvm.ClassFile.FieldType)) ∈ lw_all := lw_g (lw_at lw_m5 160 rfl) rfl
theorem q1243 : (Jvm.Cond.methodLink "TroughTreaty" (319 : Nat) ({ cls := "TroughTreaty", name := "leg", desc := "(III)V" } : Jvm.MethodName)) ∈ lw_all := lw_g (lw_at lw_m5 161 rfl) rfl
theorem q1244 : (Jvm.Cond.privateMethod ({ cls := "TroughTreaty", name := "leg", desc := "(III)V" } : Jvm.MethodName)) ∈ lw_tbl := lw_at lw_m5 162 rfl
theorem q1245 : (Jvm.Cond.instanceMethod ({ cls := "TroughTreaty", name := "leg", desc := "(III)V" } : Jvm.MethodName)) ∈ lw_all := lw_g (lw_at lw_m5 163 rfl) rfl
theorem q1246 : (Jvm.Cond.code ({ cls := "TroughTreaty", name := "leg", desc := "(III)V" } : Jvm.MethodName) prog_1_method_36_code (6 : Nat) (Option.none : Option Jvm.ClassFile.FieldType)) ∈ lw_all := lw_g (lw_at lw_m5 164 rfl) rfl
theorem q1247 : (Jvm.Cond.methodLink "TroughTreaty" (312 : Nat) ({ cls := "TroughTreaty", name := "legHours", desc := "(III)I" } : Jvm.MethodName)) ∈ lw_all := lw_g (lw_at lw_m5 165 rfl) rfl
theorem q1248 : (Jvm.Cond.privateMethod ({ cls := "TroughTreaty", name := "legHours", desc := "(III)I" } : Jvm.MethodName)) ∈ lw_tbl := lw_at lw_m5 166 rfl
theorem q1249 : (Jvm.Cond.instanceMethod ({ cls := "TroughTreaty", name := "legHours", desc := "(III)I" } : Jvm.MethodName)) ∈ lw_all := lw_g (lw_at lw_m5 167 rfl) rfl
theorem q1250 : (Jvm.Cond.code ({ cls := "TroughTreaty", name := "legHours", desc := "(III)I" } : Jvm.MethodName) prog_1_method_35_code (4 : Nat) (Option.some Jvm.ClassFile.FieldType.int)) ∈ lw_all := lw_g (lw_at lw_m5 168 rfl) rfl
theorem q1251 : (Jvm.Cond.methodLink "TroughTreaty" (193 : Nat) ({ cls := "TroughTreaty", name := "horse", desc := "(I)LTroughTreaty$Horse;" } : Jvm.MethodName)) ∈ lw_all := lw_g (lw_at lw_m5 169 rfl) rfl
theorem q1253 : (Jvm.Cond.instanceMethod ({ cls := "TroughTreaty", name := "reach", desc := "(I)I" } : Jvm.MethodName)) ∈ lw_all := lw_g (lw_at lw_m5 171 rfl) rfl
theorem q1254 : (Jvm.Cond.selects "TroughTreaty" ({ cls := "TroughTreaty", name := "reach", desc := "(I)I" } : Jvm.MethodName) ({ cls := "TroughTreaty", name := "reach", desc := "(I)I" } : Jvm.MethodName)) ∈ lw_all := lw_g (lw_at lw_m5 172 rfl) rfl
theorem q1255 : (Jvm.Cond.code ({ cls := "TroughTreaty", name := "reach", desc := "(I)I" } : Jvm.MethodName) prog_1_method_39_code (4 : Nat) (Option.some Jvm.ClassFile.FieldType.int)) ∈ lw_all := lw_g (lw_at lw_m5 173 rfl) rfl
theorem q1257 : (Jvm.Cond.instanceMethod ({ cls := "TroughTreaty", name := "cover", desc := "(I)I" } : Jvm.MethodName)) ∈ lw_all := lw_g (lw_at lw_m5 175 rfl) rfl
theorem q1258 : (Jvm.Cond.selects "TroughTreaty" ({ cls := "TroughTreaty", name := "cover", desc := "(I)I" } : Jvm.MethodName) ({ cls := "TroughTreaty", name := "cover", desc := "(I)I" } : Jvm.MethodName)) ∈ lw_all := lw_g (lw_at lw_m5 176 rfl) rfl
theorem q1259 : (Jvm.Cond.code ({ cls := "TroughTreaty", name := "cover", desc := "(I)I" } : Jvm.MethodName) prog_1_method_41_code (4 : Nat) (Option.some Jvm.ClassFile.FieldType.int)) ∈ lw_all := lw_g (lw_at lw_m5 177 rfl) rfl
theorem q1260 : (Jvm.Cond.methodLink "TroughTreaty" (327 : Nat) ({ cls := "TroughTreaty", name := "doCover", desc := "(II)Z" } : Jvm.MethodName)) ∈ lw_all := lw_g (lw_at lw_m5 178 rfl) rfl
theorem q1261 : (Jvm.Cond.privateMethod ({ cls := "TroughTreaty", name := "doCover", desc := "(II)Z" } : Jvm.MethodName)) ∈ lw_tbl := lw_at lw_m5 179 rfl
theorem q1262 : (Jvm.Cond.instanceMethod ({ cls := "TroughTreaty", name := "doCover", desc := "(II)Z" } : Jvm.MethodName)) ∈ lw_all := lw_g (lw_at lw_m5 180 rfl) rfl
theorem q1263 : (Jvm.Cond.code ({ cls := "TroughTreaty", name := "doCover", desc := "(II)Z" } : Jvm.MethodName) prog_1_method_40_code (6 : Nat) (Option.some Jvm.ClassFile.FieldType.boolean)) ∈ lw_all := lw_g (lw_at lw_m5 181 rfl) rfl
theorem q1264 : (Jvm.Cond.methodLink "TroughTreaty" (323 : Nat) ({ cls := "TroughTreaty$Placed", name := "at", desc := "(Ljava/util/ArrayList;I)I" } : Jvm.MethodName)) ∈ lw_all := lw_g (lw_at lw_m5 182 rfl) rfl
theorem q1266 : (Jvm.Cond.instanceMethod ({ cls := "TroughTreaty", name := "round", desc := "(I)I" } : Jvm.MethodName)) ∈ lw_all := lw_g (lw_at lw_m5 184 rfl) rfl
theorem q1267 : (Jvm.Cond.selects "TroughTreaty" ({ cls := "TroughTreaty", name := "round", desc := "(I)I" } : Jvm.MethodName) ({ cls := "TroughTreaty", name := "round", desc := "(I)I" } : Jvm.MethodName)) ∈ lw_all := lw_g (lw_at lw_m5 185 rfl) rfl
theorem q1268 : (Jvm.Cond.code ({ cls := "TroughTreaty", name := "round", desc := "(I)I" } : Jvm.MethodName) prog_1_method_42_code (6 : Nat) (Option.some Jvm.ClassFile.FieldType.int)) ∈ lw_all := lw_g (lw_at lw_m5 186 rfl) rfl
theorem q1269 : (Jvm.Cond.methodLink "TroughTreaty" (330 : Nat) ({ cls := "java/lang/Math", name := "max", desc := "(II)I" } : Jvm.MethodName)) ∈ lw_all := lw_g (lw_at lw_m5 187 rfl) rfl
theorem q1271 : (Jvm.Cond.instanceMethod ({ cls := "TroughTreaty", name := "gather", desc := "(I)I" } : Jvm.MethodName)) ∈ lw_all := lw_g (lw_at lw_m5 189 rfl) rfl
theorem q1272 : (Jvm.Cond.selects "TroughTreaty" ({ cls := "TroughTreaty", name := "gather", desc := "(I)I" } : Jvm.MethodName) ({ cls := "TroughTreaty", name := "gather", desc := "(I)I" } : Jvm.MethodName)) ∈ lw_all := lw_g (lw_at lw_m5 190 rfl) rfl
theorem q1273 : (Jvm.Cond.code ({ cls := "TroughTreaty", name := "gather", desc := "(I)I" } : Jvm.MethodName) prog_1_method_44_code (4 : Nat) (Option.some Jvm.ClassFile.FieldType.int)) ∈ lw_all := lw_g (lw_at lw_m5 191 rfl) rfl
theorem q1274 : (Jvm.Cond.methodLink "TroughTreaty" (332 : Nat) ({ cls := "TroughTreaty", name := "hoursTo", desc := "(I)I" } : Jvm.MethodName)) ∈ lw_all := lw_g (lw_at lw_m5 192 rfl) rfl
theorem q1275 : (Jvm.Cond.privateMethod ({ cls := "TroughTreaty", name := "hoursTo", desc := "(I)I" } : Jvm.MethodName)) ∈ lw_tbl := lw_at lw_m5 193 rfl
theorem q1276 : (Jvm.Cond.instanceMethod ({ cls := "TroughTreaty", name := "hoursTo", desc := "(I)I" } : Jvm.MethodName)) ∈ lw_all := lw_g (lw_at lw_m5 194 rfl) rfl
theorem q1277 : (Jvm.Cond.code ({ cls := "TroughTreaty", name := "hoursTo", desc := "(I)I" } : Jvm.MethodName) prog_1_method_43_code (4 : Nat) (Option.some Jvm.ClassFile.FieldType.int)) ∈ lw_all := lw_g (lw_at lw_m5 195 rfl) rfl
theorem q1279 : (Jvm.Cond.instanceMethod ({ cls := "TroughTreaty", name := "sides", desc := "()I" } : Jvm.MethodName)) ∈ lw_all := lw_g (lw_at lw_m5 197 rfl) rfl
theorem q1280 : (Jvm.Cond.selects "TroughTreaty" ({ cls := "TroughTreaty", name := "sides", desc := "()I" } : Jvm.MethodName) ({ cls := "TroughTreaty", name := "sides", desc := "()I" } : Jvm.MethodName)) ∈ lw_all := lw_g (lw_at lw_m5 198 rfl) rfl
theorem q1281 : (Jvm.Cond.code ({ cls := "TroughTreaty", name := "sides", desc := "()I" } : Jvm.MethodName) prog_1_method_45_code (3 : Nat) (Option.some Jvm.ClassFile.FieldType.int)) ∈ lw_all := lw_g (lw_at lw_m5 199 rfl) rfl
theorem q1283 : (Jvm.Cond.instanceMethod ({ cls := "TroughTreaty", name := "enemies", desc := "(I)I" } : Jvm.MethodName)) ∈ lw_all := lw_g (lw_at lw_m5 201 rfl) rfl
theorem q1284 : (Jvm.Cond.selects "TroughTreaty" ({ cls := "TroughTreaty", name := "enemies", desc := "(I)I" } : Jvm.MethodName) ({ cls := "TroughTreaty", name := "enemies", desc := "(I)I" } : Jvm.MethodName)) ∈ lw_all := lw_g (lw_at lw_m5 202 rfl) rfl
theorem q1285 : (Jvm.Cond.code ({ cls := "TroughTreaty", name := "enemies", desc := "(I)I" } : Jvm.MethodName) prog_1_method_46_code (4 : Nat) (Option.some Jvm.ClassFile.FieldType.int)) ∈ lw_all := lw_g (lw_at lw_m5 203 rfl) rfl
theorem q1287 : (Jvm.Cond.instanceMethod ({ cls := "TroughTreaty", name := "runsDry", desc := "(I)I" } : Jvm.MethodName)) ∈ lw_all := lw_g (lw_at lw_m5 205 rfl) rfl
theorem q1288 : (Jvm.Cond.selects "TroughTreaty" ({ cls := "TroughTreaty", name := "runsDry", desc := "(I)I" } : Jvm.MethodName) ({ cls := "TroughTreaty", name := "runsDry", desc := "(I)I" } : Jvm.MethodName)) ∈ lw_all := lw_g (lw_at lw_m5 206 rfl) rfl
theorem q1289 : (Jvm.Cond.code ({ cls := "TroughTreaty", name := "runsDry", desc := "(I)I" } : Jvm.MethodName) prog_1_method_47_code (3 : Nat) (Option.some Jvm.ClassFile.FieldType.int)) ∈ lw_all := lw_g (lw_at lw_m5 207 rfl) rfl
theorem q1291 : (Jvm.Cond.instanceMethod ({ cls := "TroughTreaty", name := "rests", desc := "(II)I" } : Jvm.MethodName)) ∈ lw_all := lw_g (lw_at lw_m5 209 rfl) rfl
theorem q1292 : (Jvm.Cond.selects "TroughTreaty" ({ cls := "TroughTreaty", name := "rests", desc := "(II)I" } : Jvm.MethodName) ({ cls := "TroughTreaty", name := "rests", desc := "(II)I" } : Jvm.MethodName)) ∈ lw_all := lw_g (lw_at lw_m5 210 rfl) rfl
theorem q1293 : (Jvm.Cond.code ({ cls := "TroughTreaty", name := "rests", desc := "(II)I" } : Jvm.MethodName) prog_1_method_51_code (3 : Nat) (Option.some Jvm.ClassFile.FieldType.int)) ∈ lw_all := lw_g (lw_at lw_m5 211 rfl) rfl
theorem q1294 : (Jvm.Cond.methodLink "TroughTreaty" (343 : Nat) ({ cls := "TroughTreaty", name := "restOf", desc := "(III)I" } : Jvm.MethodName)) ∈ lw_all := lw_g (lw_at lw_m5 212 rfl) rfl
theorem q1295 : (Jvm.Cond.privateMethod ({ cls := "TroughTreaty", name := "restOf", desc := "(III)I" } : Jvm.MethodName)) ∈ lw_tbl := lw_at lw_m5 213 rfl
theorem q1296 : (Jvm.Cond.instanceMethod ({ cls := "TroughTreaty", name := "restOf", desc := "(III)I" } : Jvm.MethodName)) ∈ lw_all := lw_g (lw_at lw_m5 214 rfl) rfl
theorem q1297 : (Jvm.Cond.code ({ cls := "TroughTreaty", name := "restOf", desc := "(III)I" } : Jvm.MethodName) prog_1_method_50_code (6 : Nat) (Option.some Jvm.ClassFile.FieldType.int)) ∈ lw_all := lw_g (lw_at lw_m5 215 rfl) rfl
theorem q1298 : (Jvm.Cond.methodLink "TroughTreaty" (339 : Nat) ({ cls := "TroughTreaty", name := "isRest", desc := "(IIII)Z" } : Jvm.MethodName)) ∈ lw_all := lw_g (lw_at lw_m5 216 rfl) rfl
theorem q1299 : (Jvm.Cond.privateMethod ({ cls := "TroughTreaty", name := "isRest", desc := "(IIII)Z" } : Jvm.MethodName)) ∈ lw_tbl := lw_at lw_m5 217 rfl
theorem q1300 : (Jvm.Cond.instanceMethod ({ cls := "TroughTreaty", name := "isRest", desc := "(IIII)Z" } : Jvm.MethodName)) ∈ lw_all := lw_g (lw_at lw_m5 218 rfl) rfl
theorem q1301 : (Jvm.Cond.code ({ cls := "TroughTreaty", name := "isRest", desc := "(IIII)Z" } : Jvm.MethodName) prog_1_method_49_code (5 : Nat) (Option.some Jvm.ClassFile.FieldType.boolean)) ∈ lw_all := lw_g (lw_at lw_m5 219 rfl) rfl
theorem q1302 : (Jvm.Cond.methodLink "TroughTreaty" (335 : Nat) ({ cls := "TroughTreaty", name := "has", desc := "(IIII)I" } : Jvm.MethodName)) ∈ lw_all := lw_g (lw_at lw_m5 220 rfl) rfl
theorem q1303 : (Jvm.Cond.privateMethod ({ cls := "TroughTreaty", name := "has", desc := "(IIII)I" } : Jvm.MethodName)) ∈ lw_tbl := lw_at lw_m5 221 rfl
theorem q1304 : (Jvm.Cond.instanceMethod ({ cls := "TroughTreaty", name := "has", desc := "(IIII)I" } : Jvm.MethodName)) ∈ lw_all := lw_g (lw_at lw_m5 222 rfl) rfl
theorem q1305 : (Jvm.Cond.code ({ cls := "TroughTreaty", name := "has", desc := "(IIII)I" } : Jvm.MethodName) prog_1_method_48_code (5 : Nat) (Option.some Jvm.ClassFile.FieldType.int)) ∈ lw_all := lw_g (lw_at lw_m5 223 rfl) rfl
theorem q1307 : (Jvm.Cond.instanceMethod ({ cls := "TroughTreaty", name := "rest", desc := "(III)I" } : Jvm.MethodName)) ∈ lw_all := lw_g (lw_at lw_m5 225 rfl) rfl
theorem q1308 : (Jvm.Cond.selects "TroughTreaty" ({ cls := "TroughTreaty", name := "rest", desc := "(III)I" } : Jvm.MethodName) ({ cls := "TroughTreaty", name := "rest", desc := "(III)I" } : Jvm.MethodName)) ∈ lw_all := lw_g (lw_at lw_m5 226 rfl) rfl
theorem q1309 : (Jvm.Cond.code ({ cls := "TroughTreaty", name := "rest", desc := "(III)I" } : Jvm.MethodName) prog_1_method_52_code (4 : Nat) (Option.some Jvm.ClassFile.FieldType.int)) ∈ lw_all := lw_g (lw_at lw_m5 227 rfl) rfl
theorem q1311 : (Jvm.Cond.instanceMethod ({ cls := "TroughTreaty", name := "staysDry", desc := "(II)J" } : Jvm.MethodName)) ∈ lw_all := lw_g (lw_at lw_m5 229 rfl) rfl
theorem q1312 : (Jvm.Cond.selects "TroughTreaty" ({ cls := "TroughTreaty", name := "staysDry", desc := "(II)J" } : Jvm.MethodName) ({ cls := "TroughTreaty", name := "staysDry", desc := "(II)J" } : Jvm.MethodName)) ∈ lw_all := lw_g (lw_at lw_m5 230 rfl) rfl
theorem q1313 : (Jvm.Cond.code ({ cls := "TroughTreaty", name := "staysDry", desc := "(II)J" } : Jvm.MethodName) prog_1_method_54_code (9 : Nat) (Option.some Jvm.ClassFile.FieldType.long)) ∈ lw_all := lw_g (lw_at lw_m5 231 rfl) rfl
theorem q1314 : (Jvm.Cond.constantLong "TroughTreaty" (349 : Nat) (6 : Int64)) ∈ lw_all := lw_g (lw_at lw_m5 232 rfl) rfl
theorem q1315 : (Jvm.Cond.constantLong "TroughTreaty" (351 : Nat) (-1 : Int64)) ∈ lw_all := lw_g (lw_at lw_m5 233 rfl) rfl
theorem q1316 : (Jvm.Cond.constantLong "TroughTreaty" (356 : Nat) (100 : Int64)) ∈ lw_all := lw_g (lw_at lw_m5 234 rfl) rfl
theorem q1317 : (Jvm.Cond.methodLink "TroughTreaty" (346 : Nat) ({ cls := "TroughTreaty", name := "common", desc := "(JJ)J" } : Jvm.MethodName)) ∈ lw_all := lw_g (lw_at lw_m5 235 rfl) rfl
theorem q1318 : (Jvm.Cond.static ({ cls := "TroughTreaty", name := "common", desc := "(JJ)J" } : Jvm.MethodName)) ∈ lw_all := lw_g (lw_at lw_m5 236 rfl) rfl
theorem q1319 : (Jvm.Cond.code ({ cls := "TroughTreaty", name := "common", desc := "(JJ)J" } : Jvm.MethodName) prog_1_method_53_code (4 : Nat) (Option.some Jvm.ClassFile.FieldType.long)) ∈ lw_all := lw_g (lw_at lw_m5 237 rfl) rfl
theorem q1321 : (Jvm.Cond.instanceMethod ({ cls := "TroughTreaty", name := "peace", desc := "(II)I" } : Jvm.MethodName)) ∈ lw_all := lw_g (lw_at lw_m5 239 rfl) rfl
theorem q1322 : (Jvm.Cond.selects "TroughTreaty" ({ cls := "TroughTreaty", name := "peace", desc := "(II)I" } : Jvm.MethodName) ({ cls := "TroughTreaty", name := "peace", desc := "(II)I" } : Jvm.MethodName)) ∈ lw_all := lw_g (lw_at lw_m6 0 rfl) rfl
theorem q1323 : (Jvm.Cond.code ({ cls := "TroughTreaty", name := "peace", desc := "(II)I" } : Jvm.MethodName) prog_1_method_55_code (4 : Nat) (Option.some Jvm.ClassFile.FieldType.int)) ∈ lw_all := lw_g (lw_at lw_m6 1 rfl) rfl
theorem q1324 : (Jvm.Cond.constantLong "TroughTreaty" (358 : Nat) (3 : Int64)) ∈ lw_all := lw_g (lw_at lw_m6 2 rfl) rfl
theorem q1326 : (Jvm.Cond.instanceMethod ({ cls := "TroughTreaty", name := "thirstiest", desc := "()I" } : Jvm.MethodName)) ∈ lw_all := lw_g (lw_at lw_m6 4 rfl) rfl
theorem q1327 : (Jvm.Cond.selects "TroughTreaty" ({ cls := "TroughTreaty", name := "thirstiest", desc := "()I" } : Jvm.MethodName) ({ cls := "TroughTreaty", name := "thirstiest", desc := "()I" } : Jvm.MethodName)) ∈ lw_all := lw_g (lw_at lw_m6 5 rfl) rfl
theorem q1328 : (Jvm.Cond.code ({ cls := "TroughTreaty", name := "thirstiest", desc := "()I" } : Jvm.MethodName) prog_1_method_56_code (3 : Nat) (Option.some Jvm.ClassFile.FieldType.int)) ∈ lw_all := lw_g (lw_at lw_m6 6 rfl) rfl
theorem q1330 : (Jvm.Cond.instanceMethod ({ cls := "TroughTreaty", name := "driest", desc := "()I" } : Jvm.MethodName)) ∈ lw_all := lw_g (lw_at lw_m6 8 rfl) rfl
theorem q1331 : (Jvm.Cond.selects "TroughTreaty" ({ cls := "TroughTreaty", name := "driest", desc := "()I" } : Jvm.MethodName) ({ cls := "TroughTreaty", name := "driest", desc := "()I" } : Jvm.MethodName)) ∈ lw_all := lw_g (lw_at lw_m6 9 rfl) rfl
theorem q1332 : (Jvm.Cond.code ({ cls := "TroughTreaty", name := "driest", desc := "()I" } : Jvm.MethodName) prog_1_method_57_code (3 : Nat) (Option.some Jvm.ClassFile.FieldType.int)) ∈ lw_all := lw_g (lw_at lw_m6 10 rfl) rfl
theorem q1334 : (Jvm.Cond.instanceMethod ({ cls := "TroughTreaty", name := "nearest", desc := "(I)I" } : Jvm.MethodName)) ∈ lw_all := lw_g (lw_at lw_m6 12 rfl) rfl
theorem q1335 : (Jvm.Cond.selects "TroughTreaty" ({ cls := "TroughTreaty", name := "nearest", desc := "(I)I" } : Jvm.MethodName) ({ cls := "TroughTreaty", name := "nearest", desc := "(I)I" } : Jvm.MethodName)) ∈ lw_all := lw_g (lw_at lw_m6 13 rfl) rfl
theorem q1336 : (Jvm.Cond.code ({ cls := "TroughTreaty", name := "nearest", desc := "(I)I" } : Jvm.MethodName) prog_1_method_58_code (4 : Nat) (Option.some Jvm.ClassFile.FieldType.int)) ∈ lw_all := lw_g (lw_at lw_m6 14 rfl) rfl
theorem q1338 : (Jvm.Cond.instanceMethod ({ cls := "TroughTreaty", name := "see", desc := "(IIIZ)I" } : Jvm.MethodName)) ∈ lw_all := lw_g (lw_at lw_m6 16 rfl) rfl
theorem q1339 : (Jvm.Cond.selects "TroughTreaty" ({ cls := "TroughTreaty", name := "see", desc := "(IIIZ)I" } : Jvm.MethodName) ({ cls := "TroughTreaty", name := "see", desc := "(IIIZ)I" } : Jvm.MethodName)) ∈ lw_all := lw_g (lw_at lw_m6 17 rfl) rfl
theorem q1340 : (Jvm.Cond.code ({ cls := "TroughTreaty", name := "see", desc := "(IIIZ)I" } : Jvm.MethodName) prog_1_method_60_code (5 : Nat) (Option.some Jvm.ClassFile.FieldType.int)) ∈ lw_all := lw_g (lw_at lw_m6 18 rfl) rfl
theorem q1341 : (Jvm.Cond.classLink "TroughTreaty" (370 : Nat) "TroughTreaty$Sight") ∈ lw_all := lw_g (lw_at lw_m6 19 rfl) rfl
theorem q1343 : (Jvm.Cond.methodLink "TroughTreaty" (372 : Nat) ({ cls := "TroughTreaty$Sight", name := "<init>", desc := "(IIIZ)V" } : Jvm.MethodName)) ∈ lw_all := lw_g (lw_at lw_m6 21 rfl) rfl
theorem q1363 : (Jvm.Cond.methodLink "TroughTreaty" (375 : Nat) ({ cls := "TroughTreaty", name := "add", desc := "(LTroughTreaty$Leaf;)I" } : Jvm.MethodName)) ∈ lw_all := lw_g (lw_at lw_m6 41 rfl) rfl
theorem q1364 : (Jvm.Cond.privateMethod ({ cls := "TroughTreaty", name := "add", desc := "(LTroughTreaty$Leaf;)I" } : Jvm.MethodName)) ∈ lw_tbl := lw_at lw_m6 42 rfl
theorem q1365 : (Jvm.Cond.instanceMethod ({ cls := "TroughTreaty", name := "add", desc := "(LTroughTreaty$Leaf;)I" } : Jvm.MethodName)) ∈ lw_all := lw_g (lw_at lw_m6 43 rfl) rfl
theorem q1366 : (Jvm.Cond.code ({ cls := "TroughTreaty", name := "add", desc := "(LTroughTreaty$Leaf;)I" } : Jvm.MethodName) prog_1_method_59_code (2 : Nat) (Option.some Jvm.ClassFile.FieldType.int)) ∈ lw_all := lw_g (lw_at lw_m6 44 rfl) rfl
theorem q1367 : (Jvm.Cond.methodLink "TroughTreaty" (366 : Nat) ({ cls := "java/util/ArrayList", name := "add", desc := "(Ljava/lang/Object;)Z" } : Jvm.MethodName)) ∈ lw_all := lw_g (lw_at lw_m6 45 rfl) rfl
theorem q1369 : (Jvm.Cond.instanceMethod ({ cls := "TroughTreaty", name := "strike", desc := "(I)I" } : Jvm.MethodName)) ∈ lw_all := lw_g (lw_at lw_m6 47 rfl) rfl
theorem q1370 : (Jvm.Cond.selects "TroughTreaty" ({ cls := "TroughTreaty", name := "strike", desc := "(I)I" } : Jvm.MethodName) ({ cls := "TroughTreaty", name := "strike", desc := "(I)I" } : Jvm.MethodName)) ∈ lw_all := lw_g (lw_at lw_m6 48 rfl) rfl
theorem q1371 : (Jvm.Cond.code ({ cls := "TroughTreaty", name := "strike", desc := "(I)I" } : Jvm.MethodName) prog_1_method_61_code (2 : Nat) (Option.some Jvm.ClassFile.FieldType.int)) ∈ lw_all := lw_g (lw_at lw_m6 49 rfl) rfl
theorem q1372 : (Jvm.Cond.classLink "TroughTreaty" (378 : Nat) "TroughTreaty$Strike") ∈ lw_all := lw_g (lw_at lw_m6 50 rfl) rfl
theorem q1374 : (Jvm.Cond.methodLink "TroughTreaty" (380 : Nat) ({ cls := "TroughTreaty$Strike", name := "<init>", desc := "(I)V" } : Jvm.MethodName)) ∈ lw_all := lw_g (lw_at lw_m6 52 rfl) rfl
theorem q1383 : (Jvm.Cond.instanceMethod ({ cls := "TroughTreaty", name := "known", desc := "(I)Z" } : Jvm.MethodName)) ∈ lw_all := lw_g (lw_at lw_m6 61 rfl) rfl
theorem q1384 : (Jvm.Cond.selects "TroughTreaty" ({ cls := "TroughTreaty", name := "known", desc := "(I)Z" } : Jvm.MethodName) ({ cls := "TroughTreaty", name := "known", desc := "(I)Z" } : Jvm.MethodName)) ∈ lw_all := lw_g (lw_at lw_m6 62 rfl) rfl
theorem q1385 : (Jvm.Cond.code ({ cls := "TroughTreaty", name := "known", desc := "(I)Z" } : Jvm.MethodName) prog_1_method_62_code (2 : Nat) (Option.some Jvm.ClassFile.FieldType.boolean)) ∈ lw_all := lw_g (lw_at lw_m6 63 rfl) rfl
theorem q1387 : (Jvm.Cond.instanceMethod ({ cls := "TroughTreaty", name := "thirsts", desc := "(I)I" } : Jvm.MethodName)) ∈ lw_all := lw_g (lw_at lw_m6 65 rfl) rfl
theorem q1388 : (Jvm.Cond.selects "TroughTreaty" ({ cls := "TroughTreaty", name := "thirsts", desc := "(I)I" } : Jvm.MethodName) ({ cls := "TroughTreaty", name := "thirsts", desc := "(I)I" } : Jvm.MethodName)) ∈ lw_all := lw_g (lw_at lw_m6 66 rfl) rfl
theorem q1389 : (Jvm.Cond.code ({ cls := "TroughTreaty", name := "thirsts", desc := "(I)I" } : Jvm.MethodName) prog_1_method_65_code (5 : Nat) (Option.some Jvm.ClassFile.FieldType.int)) ∈ lw_all := lw_g (lw_at lw_m6 67 rfl) rfl
theorem q1390 : (Jvm.Cond.methodLink "TroughTreaty" (381 : Nat) ({ cls := "TroughTreaty", name := "knownMany", desc := "()I" } : Jvm.MethodName)) ∈ lw_all := lw_g (lw_at lw_m6 68 rfl) rfl
theorem q1391 : (Jvm.Cond.privateMethod ({ cls := "TroughTreaty", name := "knownMany", desc := "()I" } : Jvm.MethodName)) ∈ lw_tbl := lw_at lw_m6 69 rfl
theorem q1392 : (Jvm.Cond.instanceMethod ({ cls := "TroughTreaty", name := "knownMany", desc := "()I" } : Jvm.MethodName)) ∈ lw_all := lw_g (lw_at lw_m6 70 rfl) rfl
theorem q1393 : (Jvm.Cond.code ({ cls := "TroughTreaty", name := "knownMany", desc := "()I" } : Jvm.MethodName) prog_1_method_63_code (1 : Nat) (Option.some Jvm.ClassFile.FieldType.int)) ∈ lw_all := lw_g (lw_at lw_m6 71 rfl) rfl
theorem q1394 : (Jvm.Cond.classLink "TroughTreaty" (384 : Nat) "TroughTreaty$Leaf") ∈ lw_all := lw_g (lw_at lw_m6 72 rfl) rfl
theorem q1395 : (Jvm.Cond.methodLink "TroughTreaty" (393 : Nat) ({ cls := "TroughTreaty$Leaf", name := "struck", desc := "()I" } : Jvm.MethodName)) ∈ lw_all := lw_g (lw_at lw_m6 73 rfl) rfl
theorem q1403 : (Jvm.Cond.methodLink "TroughTreaty" (386 : Nat) ({ cls := "TroughTreaty$Leaf", name := "hours", desc := "()I" } : Jvm.MethodName)) ∈ lw_all := lw_g (lw_at lw_m6 81 rfl) rfl
theorem q1411 : (Jvm.Cond.methodLink "TroughTreaty" (396 : Nat) ({ cls := "TroughTreaty", name := "isThirst", desc := "(III)Z" } : Jvm.MethodName)) ∈ lw_all := lw_g (lw_at lw_m6 89 rfl) rfl
theorem q1412 : (Jvm.Cond.privateMethod ({ cls := "TroughTreaty", name := "isThirst", desc := "(III)Z" } : Jvm.MethodName)) ∈ lw_tbl := lw_at lw_m6 90 rfl
theorem q1413 : (Jvm.Cond.instanceMethod ({ cls := "TroughTreaty", name := "isThirst", desc := "(III)Z" } : Jvm.MethodName)) ∈ lw_all := lw_g (lw_at lw_m6 91 rfl) rfl
theorem q1414 : (Jvm.Cond.code ({ cls := "TroughTreaty", name := "isThirst", desc := "(III)Z" } : Jvm.MethodName) prog_1_method_64_code (6 : Nat) (Option.some Jvm.ClassFile.FieldType.boolean)) ∈ lw_all := lw_g (lw_at lw_m6 92 rfl) rfl
theorem q1415 : (Jvm.Cond.methodLink "TroughTreaty" (389 : Nat) ({ cls := "TroughTreaty$Leaf", name := "isSo", desc := "(LTroughTreaty$State;)Z" } : Jvm.MethodName)) ∈ lw_all := lw_g (lw_at lw_m6 93 rfl) rfl
theorem q1424 : (Jvm.Cond.instanceMethod ({ cls := "TroughTreaty", name := "chance", desc := "(IIII)I" } : Jvm.MethodName)) ∈ lw_all := lw_g (lw_at lw_m6 102 rfl) rfl
theorem q1425 : (Jvm.Cond.selects "TroughTreaty" ({ cls := "TroughTreaty", name := "chance", desc := "(IIII)I" } : Jvm.MethodName) ({ cls := "TroughTreaty", name := "chance", desc := "(IIII)I" } : Jvm.MethodName)) ∈ lw_all := lw_g (lw_at lw_m6 103 rfl) rfl
theorem q1426 : (Jvm.Cond.code ({ cls := "TroughTreaty", name := "chance", desc := "(IIII)I" } : Jvm.MethodName) prog_1_method_66_code (9 : Nat) (Option.some Jvm.ClassFile.FieldType.int)) ∈ lw_all := lw_g (lw_at lw_m6 104 rfl) rfl
theorem q1428 : (Jvm.Cond.instanceMethod ({ cls := "TroughTreaty", name := "tried", desc := "(III)I" } : Jvm.MethodName)) ∈ lw_all := lw_g (lw_at lw_m6 106 rfl) rfl
theorem q1429 : (Jvm.Cond.selects "TroughTreaty" ({ cls := "TroughTreaty", name := "tried", desc := "(III)I" } : Jvm.MethodName) ({ cls := "TroughTreaty", name := "tried", desc := "(III)I" } : Jvm.MethodName)) ∈ lw_all := lw_g (lw_at lw_m6 107 rfl) rfl
theorem q1430 : (Jvm.Cond.code ({ cls := "TroughTreaty", name := "tried", desc := "(III)I" } : Jvm.MethodName) prog_1_method_67_code (6 : Nat) (Option.some Jvm.ClassFile.FieldType.int)) ∈ lw_all := lw_g (lw_at lw_m6 108 rfl) rfl
theorem q1432 : (Jvm.Cond.instanceMethod ({ cls := "TroughTreaty", name := "undo", desc := "()I" } : Jvm.MethodName)) ∈ lw_all := lw_g (lw_at lw_m6 110 rfl) rfl
theorem q1433 : (Jvm.Cond.selects "TroughTreaty" ({ cls := "TroughTreaty", name := "undo", desc := "()I" } : Jvm.MethodName) ({ cls := "TroughTreaty", name := "undo", desc := "()I" } : Jvm.MethodName)) ∈ lw_all := lw_g (lw_at lw_m6 111 rfl) rfl
theorem q1434 : (Jvm.Cond.code ({ cls := "TroughTreaty", name := "undo", desc := "()I" } : Jvm.MethodName) prog_1_method_68_code (1 : Nat) (Option.some Jvm.ClassFile.FieldType.int)) ∈ lw_all := lw_g (lw_at lw_m6 112 rfl) rfl
theorem q1436 : (Jvm.Cond.instanceMethod ({ cls := "TroughTreaty", name := "keep", desc := "()I" } : Jvm.MethodName)) ∈ lw_all := lw_g (lw_at lw_m6 114 rfl) rfl
theorem q1437 : (Jvm.Cond.selects "TroughTreaty" ({ cls := "TroughTreaty", name := "keep", desc := "()I" } : Jvm.MethodName) ({ cls := "TroughTreaty", name := "keep", desc := "()I" } : Jvm.MethodName)) ∈ lw_all := lw_g (lw_at lw_m6 115 rfl) rfl
theorem q1438 : (Jvm.Cond.code ({ cls := "TroughTreaty", name := "keep", desc := "()I" } : Jvm.MethodName) prog_1_method_69_code (1 : Nat) (Option.some Jvm.ClassFile.FieldType.int)) ∈ lw_all := lw_g (lw_at lw_m6 116 rfl) rfl
theorem q1440 : (Jvm.Cond.instanceMethod ({ cls := "TroughTreaty", name := "back", desc := "()I" } : Jvm.MethodName)) ∈ lw_all := lw_g (lw_at lw_m6 118 rfl) rfl
theorem q1441 : (Jvm.Cond.selects "TroughTreaty" ({ cls := "TroughTreaty", name := "back", desc := "()I" } : Jvm.MethodName) ({ cls := "TroughTreaty", name := "back", desc := "()I" } : Jvm.MethodName)) ∈ lw_all := lw_g (lw_at lw_m6 119 rfl) rfl
theorem q1442 : (Jvm.Cond.code ({ cls := "TroughTreaty", name := "back", desc := "()I" } : Jvm.MethodName) prog_1_method_70_code (1 : Nat) (Option.some Jvm.ClassFile.FieldType.int)) ∈ lw_all := lw_g (lw_at lw_m6 120 rfl) rfl
theorem q1444 : (Jvm.Cond.instanceMethod ({ cls := "TroughTreaty", name := "count", desc := "(I)I" } : Jvm.MethodName)) ∈ lw_all := lw_g (lw_at lw_m6 122 rfl) rfl
theorem q1445 : (Jvm.Cond.selects "TroughTreaty" ({ cls := "TroughTreaty", name := "count", desc := "(I)I" } : Jvm.MethodName) ({ cls := "TroughTreaty", name := "count", desc := "(I)I" } : Jvm.MethodName)) ∈ lw_all := lw_g (lw_at lw_m6 123 rfl) rfl
theorem q1446 : (Jvm.Cond.code ({ cls := "TroughTreaty", name := "count", desc := "(I)I" } : Jvm.MethodName) prog_1_method_71_code (2 : Nat) (Option.some Jvm.ClassFile.FieldType.int)) ∈ lw_all := lw_g (lw_at lw_m6 124 rfl) rfl
theorem q1447 : (Jvm.Cond.methodLink "TroughTreaty" (415 : Nat) ({ cls := "TroughTreaty$State", name := "sum", desc := "([II)I" } : Jvm.MethodName)) ∈ lw_all := lw_g (lw_at lw_m6 125 rfl) rfl
theorem q1490 : (Jvm.Cond.instanceMethod ({ cls := "TroughTreaty", name := "horse", desc := "(II)I" } : Jvm.MethodName)) ∈ lw_all := lw_g (lw_at lw_m6 168 rfl) rfl
theorem q1491 : (Jvm.Cond.selects "TroughTreaty" ({ cls := "TroughTreaty", name := "horse", desc := "(II)I" } : Jvm.MethodName) ({ cls := "TroughTreaty", name := "horse", desc := "(II)I" } : Jvm.MethodName)) ∈ lw_all := lw_g (lw_at lw_m6 169 rfl) rfl
theorem q1492 : (Jvm.Cond.code ({ cls := "TroughTreaty", name := "horse", desc := "(II)I" } : Jvm.MethodName) prog_1_method_19_code (3 : Nat) (Option.some Jvm.ClassFile.FieldType.int)) ∈ lw_all := lw_g (lw_at lw_m6 170 rfl) rfl
theorem q1493 : (Jvm.Cond.classLink "TroughTreaty" (190 : Nat) "java/lang/IndexOutOfBoundsException") ∈ lw_all := lw_g (lw_at lw_m6 171 rfl) rfl
theorem q1502 : (Jvm.Cond.methodLink "TroughTreaty" (192 : Nat) ({ cls := "java/lang/IndexOutOfBoundsException", name := "<init>", desc := "()V" } : Jvm.MethodName)) ∈ lw_all := lw_g (lw_at lw_m6 180 rfl) rfl
theorem q1514 : (Jvm.Cond.methodLink "TroughTreaty" (212 : Nat) ({ cls := "TroughTreaty", name := "orNone", desc := "(I)I" } : Jvm.MethodName)) ∈ lw_all := lw_g (lw_at lw_m6 192 rfl) rfl
theorem q1515 : (Jvm.Cond.static ({ cls := "TroughTreaty", name := "orNone", desc := "(I)I" } : Jvm.MethodName)) ∈ lw_all := lw_g (lw_at lw_m6 193 rfl) rfl
theorem q1516 : (Jvm.Cond.code ({ cls := "TroughTreaty", name := "orNone", desc := "(I)I" } : Jvm.MethodName) prog_1_method_18_code (1 : Nat) (Option.some Jvm.ClassFile.FieldType.int)) ∈ lw_all := lw_g (lw_at lw_m6 194 rfl) rfl
theorem q1517 : (Jvm.Cond.classLink "TroughTreaty" (225 : Nat) "java/util/NoSuchElementException") ∈ lw_all := lw_g (lw_at lw_m6 195 rfl) rfl
theorem q1526 : (Jvm.Cond.methodLink "TroughTreaty" (227 : Nat) ({ cls := "java/util/NoSuchElementException", name := "<init>", desc := "()V" } : Jvm.MethodName)) ∈ lw_all := lw_g (lw_at lw_m6 204 rfl) rfl
theorem q2274 : (Jvm.Cond.castable "TroughTreaty" "java/lang/Object") ∈ lw_tbl := lw_at lw_m9 232 rfl
theorem q2312 : (Jvm.Cond.stringRef "TroughTreaty" (425 : Nat) "road") ∈ lw_tbl := lw_at lw_m10 30 rfl
theorem q2313 : (Jvm.Cond.stringRef "TroughTreaty" (426 : Nat) "trough") ∈ lw_tbl := lw_at lw_m10 31 rfl
theorem q2314 : (Jvm.Cond.stringRef "TroughTreaty" (427 : Nat) "horse") ∈ lw_tbl := lw_at lw_m10 32 rfl
theorem q2315 : (Jvm.Cond.stringRef "TroughTreaty" (428 : Nat) "lap") ∈ lw_tbl := lw_at lw_m10 33 rfl
theorem q2316 : (Jvm.Cond.stringRef "TroughTreaty" (430 : Nat) "rain") ∈ lw_tbl := lw_at lw_m10 34 rfl
theorem q2317 : (Jvm.Cond.stringRef "TroughTreaty" (431 : Nat) "seed") ∈ lw_tbl := lw_at lw_m10 35 rfl
theorem q2318 : (Jvm.Cond.stringRef "TroughTreaty" (433 : Nat) "law") ∈ lw_tbl := lw_at lw_m10 36 rfl
theorem q2319 : (Jvm.Cond.stringRef "TroughTreaty" (435 : Nat) "dry") ∈ lw_tbl := lw_at lw_m10 37 rfl
theorem q2320 : (Jvm.Cond.stringRef "TroughTreaty" (437 : Nat) "gulp") ∈ lw_tbl := lw_at lw_m10 38 rfl
theorem q2321 : (Jvm.Cond.stringRef "TroughTreaty" (439 : Nat) "fight") ∈ lw_tbl := lw_at lw_m10 39 rfl
theorem q2322 : (Jvm.Cond.stringRef "TroughTreaty" (441 : Nat) "or") ∈ lw_tbl := lw_at lw_m10 40 rfl
theorem q2323 : (Jvm.Cond.stringRef "TroughTreaty" (443 : Nat) "and") ∈ lw_tbl := lw_at lw_m10 41 rfl
theorem q2324 : (Jvm.Cond.stringRef "TroughTreaty" (445 : Nat) "not") ∈ lw_tbl := lw_at lw_m10 42 rfl
theorem q2325 : (Jvm.Cond.stringRef "TroughTreaty" (447 : Nat) "thirst") ∈ lw_tbl := lw_at lw_m10 43 rfl
theorem q2326 : (Jvm.Cond.stringRef "TroughTreaty" (448 : Nat) "pace") ∈ lw_tbl := lw_at lw_m10 44 rfl
theorem q2327 : (Jvm.Cond.stringRef "TroughTreaty" (449 : Nat) "side") ∈ lw_tbl := lw_at lw_m10 45 rfl
theorem q2328 : (Jvm.Cond.stringRef "TroughTreaty" (450 : Nat) "water") ∈ lw_tbl := lw_at lw_m10 46 rfl
theorem q2329 : (Jvm.Cond.stringRef "TroughTreaty" (451 : Nat) "far") ∈ lw_tbl := lw_at lw_m10 47 rfl
theorem q2330 : (Jvm.Cond.stringRef "TroughTreaty" (453 : Nat) "hurt") ∈ lw_tbl := lw_at lw_m10 48 rfl
theorem q2331 : (Jvm.Cond.stringRef "TroughTreaty" (454 : Nat) "hour") ∈ lw_tbl := lw_at lw_m10 49 rfl
theorem in_X1 : ∀ w ∈ wsX10, w ∈ lw_all := lw_in wsX10 [451, 453, 455, 457, 459, 461, 463, 465, 467, 469, 471, 473, 475, 477, 479, 481, 483, 485, 487] (by decide +kernel) (by decide +kernel)
