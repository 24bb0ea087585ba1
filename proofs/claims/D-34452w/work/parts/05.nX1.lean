/-! Hexstead -/
set_option maxRecDepth 100000
def RX1 : String := "Hexstead"
def TX1 : u_T := fun k => match k with
  | 0 => ("Hexstead", "hexes", "[LHexstead$Hex;", true)
  | 1 => ("Hexstead", "buildings", "[LHexstead$Building;", true)
  | 2 => ("Hexstead", "roads", "[I", true)
  | 3 => ("Hexstead", "hands", "[[I", true)
  | 4 => ("Hexstead", "due", "[I", true)
  | 5 => ("Hexstead", "knights", "[I", true)
  | 6 => ("Hexstead", "cards", "Ljava/util/List;", true)
  | 7 => ("Hexstead", "moves", "Ljava/util/List;", true)
  | 8 => ("Hexstead", "counters", "[LHexstead$Offer;", true)
  | 9 => ("Hexstead", "offer", "LHexstead$Offer;", false)
  | 10 => ("Hexstead", "robber", "I", false)
  | 11 => ("Hexstead", "phase", "I", false)
  | 12 => ("Hexstead", "placed", "I", false)
  | 13 => ("Hexstead", "turns", "I", false)
  | 14 => ("Hexstead", "turn", "I", false)
  | 15 => ("Hexstead", "hasRolled", "Z", false)
  | 16 => ("Hexstead", "hasUsed", "Z", false)
  | 17 => ("Hexstead", "trailHolder", "I", false)
  | _ => ("Hexstead", "armyHolder", "I", false)
def tyX1 : Nat → FieldType := fun k => match k with
  | 0 => .array (.object "Hexstead$Hex")
  | 1 => .array (.object "Hexstead$Building")
  | 2 => .array .int
  | 3 => .array (.array .int)
  | 4 => .array .int
  | 5 => .array .int
  | 6 => .object "java/util/List"
  | 7 => .object "java/util/List"
  | 8 => .array (.object "Hexstead$Offer")
  | 9 => .object "Hexstead$Offer"
  | 10 => .int
  | 11 => .int
  | 12 => .int
  | 13 => .int
  | 14 => .int
  | 15 => .boolean
  | 16 => .boolean
  | 17 => .int
  | _ => .int
abbrev wsX10 : List Cond := u_ws RX1 TX1 19
set_option maxRecDepth 100000 in
theorem nmX1 : ∀ a, a < 19 → ∀ b, b < 19 → a ≠ b → (TX1 a).2.1 ≠ (TX1 b).2.1 := by decide +kernel
set_option maxRecDepth 100000 in
theorem tyX1_ok : ∀ k, k < 19 → parseFieldDescriptor (TX1 k).2.2.1 = some (tyX1 k) := by decide +kernel
abbrev cX1_init : ByteArray := prog_1_method_1_code
def yX1_init : MethodName := ⟨RX1, "<init>", "()V"⟩
def dkwX1_init_10 : List UInt8 := [167, 255, 238, 177]
abbrev dktX1_init_10 : List UInt8 := dkwX1_init_10 ++ []
def dkwX1_init_9 : List UInt8 := [167, 255, 240, 3, 61, 28, 8, 162, 0, 19, 42, 180, 0, 27, 6, 50, 28, 16, 12, 79, 132, 2, 1]
abbrev dktX1_init_9 : List UInt8 := dkwX1_init_9 ++ dktX1_init_10
def dkwX1_init_8 : List UInt8 := [4, 181, 0, 65, 3, 61, 28, 16, 30, 162, 0, 16, 42, 180, 0, 21, 28, 2, 79, 132, 2, 1]
abbrev dktX1_init_8 : List UInt8 := dkwX1_init_8 ++ dktX1_init_9
def dkwX1_init_7 : List UInt8 := [4, 100, 8, 112, 43, 28, 46, 183, 0, 62, 83, 132, 2, 1, 167, 255, 217, 42, 180, 0, 11, 16, 6, 50]
abbrev dktX1_init_7 : List UInt8 := dkwX1_init_7 ++ dktX1_init_8
def dkwX1_init_6 : List UInt8 := [16, 7, 162, 0, 39, 42, 180, 0, 11, 28, 187, 0, 9, 89, 28, 28, 154, 0, 7, 8, 167, 0, 8, 28]
abbrev dktX1_init_6 : List UInt8 := dkwX1_init_6 ++ dktX1_init_7
def dkwX1_init_5 : List UInt8 := [6, 16, 9, 79, 89, 7, 7, 79, 89, 8, 16, 10, 79, 89, 16, 6, 16, 8, 79, 76, 3, 61, 28]
abbrev dktX1_init_5 : List UInt8 := dkwX1_init_5 ++ dktX1_init_6
def dkwX1_init_4 : List UInt8 := [42, 2, 181, 0, 59, 16, 7, 188, 10, 89, 3, 16, 7, 79, 89, 4, 16, 6, 79, 89, 5, 8, 79, 89]
abbrev dktX1_init_4 : List UInt8 := dkwX1_init_4 ++ dktX1_init_5
def dkwX1_init_3 : List UInt8 := [183, 0, 38, 181, 0, 43, 42, 6, 189, 0, 46, 181, 0, 48, 42, 3, 181, 0, 52, 42, 2, 181, 0, 56]
abbrev dktX1_init_3 : List UInt8 := dkwX1_init_3 ++ dktX1_init_4
def dkwX1_init_2 : List UInt8 := [42, 6, 188, 10, 181, 0, 33, 42, 187, 0, 36, 89, 183, 0, 38, 181, 0, 39, 42, 187, 0, 36, 89]
abbrev dktX1_init_2 : List UInt8 := dkwX1_init_2 ++ dktX1_init_3
def dkwX1_init_1 : List UInt8 := [16, 30, 188, 10, 181, 0, 21, 42, 7, 8, 197, 0, 25, 2, 181, 0, 27, 42, 6, 188, 10, 181, 0, 30]
abbrev dktX1_init_1 : List UInt8 := dkwX1_init_1 ++ dktX1_init_2
def dkwX1_init_0 : List UInt8 := [42, 183, 0, 1, 42, 16, 7, 189, 0, 9, 181, 0, 11, 42, 16, 24, 189, 0, 15, 181, 0, 17, 42]
abbrev dktX1_init_0 : List UInt8 := dkwX1_init_0 ++ dktX1_init_1
theorem dksX1_init_0 : cX1_init.data.toList.drop 0 = dktX1_init_0 := by decide +kernel
theorem dksX1_init_1 : cX1_init.data.toList.drop 23 = dktX1_init_1 := dk_seg dksX1_init_0 23 rfl rfl
theorem dksX1_init_2 : cX1_init.data.toList.drop 47 = dktX1_init_2 := dk_seg dksX1_init_1 24 rfl rfl
theorem dksX1_init_3 : cX1_init.data.toList.drop 70 = dktX1_init_3 := dk_seg dksX1_init_2 23 rfl rfl
theorem dksX1_init_4 : cX1_init.data.toList.drop 94 = dktX1_init_4 := dk_seg dksX1_init_3 24 rfl rfl
theorem dksX1_init_5 : cX1_init.data.toList.drop 118 = dktX1_init_5 := dk_seg dksX1_init_4 24 rfl rfl
theorem dksX1_init_6 : cX1_init.data.toList.drop 141 = dktX1_init_6 := dk_seg dksX1_init_5 23 rfl rfl
theorem dksX1_init_7 : cX1_init.data.toList.drop 165 = dktX1_init_7 := dk_seg dksX1_init_6 24 rfl rfl
theorem dksX1_init_8 : cX1_init.data.toList.drop 189 = dktX1_init_8 := dk_seg dksX1_init_7 24 rfl rfl
theorem dksX1_init_9 : cX1_init.data.toList.drop 211 = dktX1_init_9 := dk_seg dksX1_init_8 22 rfl rfl
theorem dksX1_init_10 : cX1_init.data.toList.drop 234 = dktX1_init_10 := dk_seg dksX1_init_9 23 rfl rfl
theorem dX1_init_0 : decode cX1_init 0 = .ok (.aload_n 0, 1) := dk_42 (dk_at dksX1_init_0 0 rfl rfl)
theorem dX1_init_1 : decode cX1_init 1 = .ok (.invokespecial 1, 3) := dk_183 0 1 (dk_at dksX1_init_0 1 rfl rfl)
theorem dX1_init_4 : decode cX1_init 4 = .ok (.aload_n 0, 1) := dk_42 (dk_at dksX1_init_0 4 rfl rfl)
theorem dX1_init_5 : decode cX1_init 5 = .ok (.bipush 7, 2) := dk_16 7 (dk_at dksX1_init_0 5 rfl rfl)
theorem dX1_init_7 : decode cX1_init 7 = .ok (.anewarray 9, 3) := dk_189 0 9 (dk_at dksX1_init_0 7 rfl rfl)
theorem dX1_init_10 : decode cX1_init 10 = .ok (.putfield 11, 3) := dk_181 0 11 (dk_at dksX1_init_0 10 rfl rfl)
theorem dX1_init_13 : decode cX1_init 13 = .ok (.aload_n 0, 1) := dk_42 (dk_at dksX1_init_0 13 rfl rfl)
theorem dX1_init_14 : decode cX1_init 14 = .ok (.bipush 24, 2) := dk_16 24 (dk_at dksX1_init_0 14 rfl rfl)
theorem dX1_init_16 : decode cX1_init 16 = .ok (.anewarray 15, 3) := dk_189 0 15 (dk_at dksX1_init_0 16 rfl rfl)
theorem dX1_init_19 : decode cX1_init 19 = .ok (.putfield 17, 3) := dk_181 0 17 (dk_at dksX1_init_0 19 rfl rfl)
theorem dX1_init_22 : decode cX1_init 22 = .ok (.aload_n 0, 1) := dk_42 (dk_at dksX1_init_0 22 rfl rfl)
theorem dX1_init_23 : decode cX1_init 23 = .ok (.bipush 30, 2) := dk_16 30 (dk_at dksX1_init_1 0 rfl rfl)
theorem dX1_init_25 : decode cX1_init 25 = .ok (.newarray .int, 2) := dk_188_10 (dk_at dksX1_init_1 2 rfl rfl)
theorem dX1_init_27 : decode cX1_init 27 = .ok (.putfield 21, 3) := dk_181 0 21 (dk_at dksX1_init_1 4 rfl rfl)
theorem dX1_init_30 : decode cX1_init 30 = .ok (.aload_n 0, 1) := dk_42 (dk_at dksX1_init_1 7 rfl rfl)
theorem dX1_init_31 : decode cX1_init 31 = .ok (.iconst 4, 1) := dk_7 (dk_at dksX1_init_1 8 rfl rfl)
theorem dX1_init_32 : decode cX1_init 32 = .ok (.iconst 5, 1) := dk_8 (dk_at dksX1_init_1 9 rfl rfl)
theorem dX1_init_33 : decode cX1_init 33 = .ok (.multianewarray 25 2, 4) := by decide +kernel
theorem dX1_init_37 : decode cX1_init 37 = .ok (.putfield 27, 3) := dk_181 0 27 (dk_at dksX1_init_1 14 rfl rfl)
theorem dX1_init_40 : decode cX1_init 40 = .ok (.aload_n 0, 1) := dk_42 (dk_at dksX1_init_1 17 rfl rfl)
theorem dX1_init_41 : decode cX1_init 41 = .ok (.iconst 3, 1) := dk_6 (dk_at dksX1_init_1 18 rfl rfl)
theorem dX1_init_42 : decode cX1_init 42 = .ok (.newarray .int, 2) := dk_188_10 (dk_at dksX1_init_1 19 rfl rfl)
theorem dX1_init_44 : decode cX1_init 44 = .ok (.putfield 30, 3) := dk_181 0 30 (dk_at dksX1_init_1 21 rfl rfl)
theorem dX1_init_47 : decode cX1_init 47 = .ok (.aload_n 0, 1) := dk_42 (dk_at dksX1_init_2 0 rfl rfl)
theorem dX1_init_48 : decode cX1_init 48 = .ok (.iconst 3, 1) := dk_6 (dk_at dksX1_init_2 1 rfl rfl)
theorem dX1_init_49 : decode cX1_init 49 = .ok (.newarray .int, 2) := dk_188_10 (dk_at dksX1_init_2 2 rfl rfl)
theorem dX1_init_51 : decode cX1_init 51 = .ok (.putfield 33, 3) := dk_181 0 33 (dk_at dksX1_init_2 4 rfl rfl)
theorem dX1_init_54 : decode cX1_init 54 = .ok (.aload_n 0, 1) := dk_42 (dk_at dksX1_init_2 7 rfl rfl)
theorem dX1_init_55 : decode cX1_init 55 = .ok (.new 36, 3) := dk_187 0 36 (dk_at dksX1_init_2 8 rfl rfl)
theorem dX1_init_58 : decode cX1_init 58 = .ok (.dup, 1) := dk_89 (dk_at dksX1_init_2 11 rfl rfl)
theorem dX1_init_59 : decode cX1_init 59 = .ok (.invokespecial 38, 3) := dk_183 0 38 (dk_at dksX1_init_2 12 rfl rfl)
theorem dX1_init_62 : decode cX1_init 62 = .ok (.putfield 39, 3) := dk_181 0 39 (dk_at dksX1_init_2 15 rfl rfl)
theorem dX1_init_65 : decode cX1_init 65 = .ok (.aload_n 0, 1) := dk_42 (dk_at dksX1_init_2 18 rfl rfl)
theorem dX1_init_66 : decode cX1_init 66 = .ok (.new 36, 3) := dk_187 0 36 (dk_at dksX1_init_2 19 rfl rfl)
theorem dX1_init_69 : decode cX1_init 69 = .ok (.dup, 1) := dk_89 (dk_at dksX1_init_2 22 rfl rfl)
theorem dX1_init_70 : decode cX1_init 70 = .ok (.invokespecial 38, 3) := dk_183 0 38 (dk_at dksX1_init_3 0 rfl rfl)
theorem dX1_init_73 : decode cX1_init 73 = .ok (.putfield 43, 3) := dk_181 0 43 (dk_at dksX1_init_3 3 rfl rfl)
theorem dX1_init_76 : decode cX1_init 76 = .ok (.aload_n 0, 1) := dk_42 (dk_at dksX1_init_3 6 rfl rfl)
theorem dX1_init_77 : decode cX1_init 77 = .ok (.iconst 3, 1) := dk_6 (dk_at dksX1_init_3 7 rfl rfl)
theorem dX1_init_78 : decode cX1_init 78 = .ok (.anewarray 46, 3) := dk_189 0 46 (dk_at dksX1_init_3 8 rfl rfl)
theorem dX1_init_81 : decode cX1_init 81 = .ok (.putfield 48, 3) := dk_181 0 48 (dk_at dksX1_init_3 11 rfl rfl)
theorem dX1_init_84 : decode cX1_init 84 = .ok (.aload_n 0, 1) := dk_42 (dk_at dksX1_init_3 14 rfl rfl)
theorem dX1_init_85 : decode cX1_init 85 = .ok (.iconst 0, 1) := dk_3 (dk_at dksX1_init_3 15 rfl rfl)
theorem dX1_init_86 : decode cX1_init 86 = .ok (.putfield 52, 3) := dk_181 0 52 (dk_at dksX1_init_3 16 rfl rfl)
theorem dX1_init_89 : decode cX1_init 89 = .ok (.aload_n 0, 1) := dk_42 (dk_at dksX1_init_3 19 rfl rfl)
theorem dX1_init_90 : decode cX1_init 90 = .ok (.iconst (-1), 1) := dk_2 (dk_at dksX1_init_3 20 rfl rfl)
theorem dX1_init_91 : decode cX1_init 91 = .ok (.putfield 56, 3) := dk_181 0 56 (dk_at dksX1_init_3 21 rfl rfl)
theorem dX1_init_94 : decode cX1_init 94 = .ok (.aload_n 0, 1) := dk_42 (dk_at dksX1_init_4 0 rfl rfl)
theorem dX1_init_95 : decode cX1_init 95 = .ok (.iconst (-1), 1) := dk_2 (dk_at dksX1_init_4 1 rfl rfl)
theorem dX1_init_96 : decode cX1_init 96 = .ok (.putfield 59, 3) := dk_181 0 59 (dk_at dksX1_init_4 2 rfl rfl)
theorem dX1_init_99 : decode cX1_init 99 = .ok (.bipush 7, 2) := dk_16 7 (dk_at dksX1_init_4 5 rfl rfl)
theorem dX1_init_101 : decode cX1_init 101 = .ok (.newarray .int, 2) := dk_188_10 (dk_at dksX1_init_4 7 rfl rfl)
theorem dX1_init_103 : decode cX1_init 103 = .ok (.dup, 1) := dk_89 (dk_at dksX1_init_4 9 rfl rfl)
theorem dX1_init_104 : decode cX1_init 104 = .ok (.iconst 0, 1) := dk_3 (dk_at dksX1_init_4 10 rfl rfl)
theorem dX1_init_105 : decode cX1_init 105 = .ok (.bipush 7, 2) := dk_16 7 (dk_at dksX1_init_4 11 rfl rfl)
theorem dX1_init_107 : decode cX1_init 107 = .ok (.iastore, 1) := dk_79 (dk_at dksX1_init_4 13 rfl rfl)
theorem dX1_init_108 : decode cX1_init 108 = .ok (.dup, 1) := dk_89 (dk_at dksX1_init_4 14 rfl rfl)
theorem dX1_init_109 : decode cX1_init 109 = .ok (.iconst 1, 1) := dk_4 (dk_at dksX1_init_4 15 rfl rfl)
theorem dX1_init_110 : decode cX1_init 110 = .ok (.bipush 6, 2) := dk_16 6 (dk_at dksX1_init_4 16 rfl rfl)
theorem dX1_init_112 : decode cX1_init 112 = .ok (.iastore, 1) := dk_79 (dk_at dksX1_init_4 18 rfl rfl)
theorem dX1_init_113 : decode cX1_init 113 = .ok (.dup, 1) := dk_89 (dk_at dksX1_init_4 19 rfl rfl)
theorem dX1_init_114 : decode cX1_init 114 = .ok (.iconst 2, 1) := dk_5 (dk_at dksX1_init_4 20 rfl rfl)
theorem dX1_init_115 : decode cX1_init 115 = .ok (.iconst 5, 1) := dk_8 (dk_at dksX1_init_4 21 rfl rfl)
theorem dX1_init_116 : decode cX1_init 116 = .ok (.iastore, 1) := dk_79 (dk_at dksX1_init_4 22 rfl rfl)
theorem dX1_init_117 : decode cX1_init 117 = .ok (.dup, 1) := dk_89 (dk_at dksX1_init_4 23 rfl rfl)
theorem dX1_init_118 : decode cX1_init 118 = .ok (.iconst 3, 1) := dk_6 (dk_at dksX1_init_5 0 rfl rfl)
theorem dX1_init_119 : decode cX1_init 119 = .ok (.bipush 9, 2) := dk_16 9 (dk_at dksX1_init_5 1 rfl rfl)
theorem dX1_init_121 : decode cX1_init 121 = .ok (.iastore, 1) := dk_79 (dk_at dksX1_init_5 3 rfl rfl)
theorem dX1_init_122 : decode cX1_init 122 = .ok (.dup, 1) := dk_89 (dk_at dksX1_init_5 4 rfl rfl)
theorem dX1_init_123 : decode cX1_init 123 = .ok (.iconst 4, 1) := dk_7 (dk_at dksX1_init_5 5 rfl rfl)
theorem dX1_init_124 : decode cX1_init 124 = .ok (.iconst 4, 1) := dk_7 (dk_at dksX1_init_5 6 rfl rfl)
theorem dX1_init_125 : decode cX1_init 125 = .ok (.iastore, 1) := dk_79 (dk_at dksX1_init_5 7 rfl rfl)
theorem dX1_init_126 : decode cX1_init 126 = .ok (.dup, 1) := dk_89 (dk_at dksX1_init_5 8 rfl rfl)
theorem dX1_init_127 : decode cX1_init 127 = .ok (.iconst 5, 1) := dk_8 (dk_at dksX1_init_5 9 rfl rfl)
theorem dX1_init_128 : decode cX1_init 128 = .ok (.bipush 10, 2) := dk_16 10 (dk_at dksX1_init_5 10 rfl rfl)
theorem dX1_init_130 : decode cX1_init 130 = .ok (.iastore, 1) := dk_79 (dk_at dksX1_init_5 12 rfl rfl)
theorem dX1_init_131 : decode cX1_init 131 = .ok (.dup, 1) := dk_89 (dk_at dksX1_init_5 13 rfl rfl)
theorem dX1_init_132 : decode cX1_init 132 = .ok (.bipush 6, 2) := dk_16 6 (dk_at dksX1_init_5 14 rfl rfl)
theorem dX1_init_134 : decode cX1_init 134 = .ok (.bipush 8, 2) := dk_16 8 (dk_at dksX1_init_5 16 rfl rfl)
theorem dX1_init_136 : decode cX1_init 136 = .ok (.iastore, 1) := dk_79 (dk_at dksX1_init_5 18 rfl rfl)
theorem dX1_init_137 : decode cX1_init 137 = .ok (.astore_n 1, 1) := dk_76 (dk_at dksX1_init_5 19 rfl rfl)
theorem dX1_init_138 : decode cX1_init 138 = .ok (.iconst 0, 1) := dk_3 (dk_at dksX1_init_5 20 rfl rfl)
theorem dX1_init_139 : decode cX1_init 139 = .ok (.istore_n 2, 1) := dk_61 (dk_at dksX1_init_5 21 rfl rfl)
theorem dX1_init_140 : decode cX1_init 140 = .ok (.iload_n 2, 1) := dk_28 (dk_at dksX1_init_5 22 rfl rfl)
theorem dX1_init_141 : decode cX1_init 141 = .ok (.bipush 7, 2) := dk_16 7 (dk_at dksX1_init_6 0 rfl rfl)
theorem dX1_init_143 : decode cX1_init 143 = .ok (.if_icmp .ge 39, 3) := dk_162 0 39 (dk_at dksX1_init_6 2 rfl rfl)
theorem dX1_init_146 : decode cX1_init 146 = .ok (.aload_n 0, 1) := dk_42 (dk_at dksX1_init_6 5 rfl rfl)
theorem dX1_init_147 : decode cX1_init 147 = .ok (.getfield 11, 3) := dk_180 0 11 (dk_at dksX1_init_6 6 rfl rfl)
theorem dX1_init_150 : decode cX1_init 150 = .ok (.iload_n 2, 1) := dk_28 (dk_at dksX1_init_6 9 rfl rfl)
theorem dX1_init_151 : decode cX1_init 151 = .ok (.new 9, 3) := dk_187 0 9 (dk_at dksX1_init_6 10 rfl rfl)
theorem dX1_init_154 : decode cX1_init 154 = .ok (.dup, 1) := dk_89 (dk_at dksX1_init_6 13 rfl rfl)
theorem dX1_init_155 : decode cX1_init 155 = .ok (.iload_n 2, 1) := dk_28 (dk_at dksX1_init_6 14 rfl rfl)
theorem dX1_init_156 : decode cX1_init 156 = .ok (.iload_n 2, 1) := dk_28 (dk_at dksX1_init_6 15 rfl rfl)
theorem dX1_init_157 : decode cX1_init 157 = .ok (.ifCond .ne 7, 3) := dk_154 0 7 (dk_at dksX1_init_6 16 rfl rfl)
theorem dX1_init_160 : decode cX1_init 160 = .ok (.iconst 5, 1) := dk_8 (dk_at dksX1_init_6 19 rfl rfl)
theorem dX1_init_161 : decode cX1_init 161 = .ok (.goto 8, 3) := dk_167 0 8 (dk_at dksX1_init_6 20 rfl rfl)
theorem dX1_init_164 : decode cX1_init 164 = .ok (.iload_n 2, 1) := dk_28 (dk_at dksX1_init_6 23 rfl rfl)
theorem dX1_init_165 : decode cX1_init 165 = .ok (.iconst 1, 1) := dk_4 (dk_at dksX1_init_7 0 rfl rfl)
theorem dX1_init_166 : decode cX1_init 166 = .ok (.isub, 1) := dk_100 (dk_at dksX1_init_7 1 rfl rfl)
theorem dX1_init_167 : decode cX1_init 167 = .ok (.iconst 5, 1) := dk_8 (dk_at dksX1_init_7 2 rfl rfl)
theorem dX1_init_168 : decode cX1_init 168 = .ok (.irem, 1) := dk_112 (dk_at dksX1_init_7 3 rfl rfl)
theorem dX1_init_169 : decode cX1_init 169 = .ok (.aload_n 1, 1) := dk_43 (dk_at dksX1_init_7 4 rfl rfl)
theorem dX1_init_170 : decode cX1_init 170 = .ok (.iload_n 2, 1) := dk_28 (dk_at dksX1_init_7 5 rfl rfl)
theorem dX1_init_171 : decode cX1_init 171 = .ok (.iaload, 1) := dk_46 (dk_at dksX1_init_7 6 rfl rfl)
theorem dX1_init_172 : decode cX1_init 172 = .ok (.invokespecial 62, 3) := dk_183 0 62 (dk_at dksX1_init_7 7 rfl rfl)
theorem dX1_init_175 : decode cX1_init 175 = .ok (.aastore, 1) := dk_83 (dk_at dksX1_init_7 10 rfl rfl)
theorem dX1_init_176 : decode cX1_init 176 = .ok (.iinc 2 1, 3) := dk_132 2 1 (dk_at dksX1_init_7 11 rfl rfl)
theorem dX1_init_179 : decode cX1_init 179 = .ok (.goto (-39), 3) := dk_167 255 217 (dk_at dksX1_init_7 14 rfl rfl)
theorem dX1_init_182 : decode cX1_init 182 = .ok (.aload_n 0, 1) := dk_42 (dk_at dksX1_init_7 17 rfl rfl)
theorem dX1_init_183 : decode cX1_init 183 = .ok (.getfield 11, 3) := dk_180 0 11 (dk_at dksX1_init_7 18 rfl rfl)
theorem dX1_init_186 : decode cX1_init 186 = .ok (.bipush 6, 2) := dk_16 6 (dk_at dksX1_init_7 21 rfl rfl)
theorem dX1_init_188 : decode cX1_init 188 = .ok (.aaload, 1) := dk_50 (dk_at dksX1_init_7 23 rfl rfl)
theorem dX1_init_189 : decode cX1_init 189 = .ok (.iconst 1, 1) := dk_4 (dk_at dksX1_init_8 0 rfl rfl)
theorem dX1_init_190 : decode cX1_init 190 = .ok (.putfield 65, 3) := dk_181 0 65 (dk_at dksX1_init_8 1 rfl rfl)
theorem dX1_init_193 : decode cX1_init 193 = .ok (.iconst 0, 1) := dk_3 (dk_at dksX1_init_8 4 rfl rfl)
theorem dX1_init_194 : decode cX1_init 194 = .ok (.istore_n 2, 1) := dk_61 (dk_at dksX1_init_8 5 rfl rfl)
theorem dX1_init_195 : decode cX1_init 195 = .ok (.iload_n 2, 1) := dk_28 (dk_at dksX1_init_8 6 rfl rfl)
theorem dX1_init_196 : decode cX1_init 196 = .ok (.bipush 30, 2) := dk_16 30 (dk_at dksX1_init_8 7 rfl rfl)
theorem dX1_init_198 : decode cX1_init 198 = .ok (.if_icmp .ge 16, 3) := dk_162 0 16 (dk_at dksX1_init_8 9 rfl rfl)
theorem dX1_init_201 : decode cX1_init 201 = .ok (.aload_n 0, 1) := dk_42 (dk_at dksX1_init_8 12 rfl rfl)
theorem dX1_init_202 : decode cX1_init 202 = .ok (.getfield 21, 3) := dk_180 0 21 (dk_at dksX1_init_8 13 rfl rfl)
theorem dX1_init_205 : decode cX1_init 205 = .ok (.iload_n 2, 1) := dk_28 (dk_at dksX1_init_8 16 rfl rfl)
theorem dX1_init_206 : decode cX1_init 206 = .ok (.iconst (-1), 1) := dk_2 (dk_at dksX1_init_8 17 rfl rfl)
theorem dX1_init_207 : decode cX1_init 207 = .ok (.iastore, 1) := dk_79 (dk_at dksX1_init_8 18 rfl rfl)
theorem dX1_init_208 : decode cX1_init 208 = .ok (.iinc 2 1, 3) := dk_132 2 1 (dk_at dksX1_init_8 19 rfl rfl)
theorem dX1_init_211 : decode cX1_init 211 = .ok (.goto (-16), 3) := dk_167 255 240 (dk_at dksX1_init_9 0 rfl rfl)
theorem dX1_init_214 : decode cX1_init 214 = .ok (.iconst 0, 1) := dk_3 (dk_at dksX1_init_9 3 rfl rfl)
theorem dX1_init_215 : decode cX1_init 215 = .ok (.istore_n 2, 1) := dk_61 (dk_at dksX1_init_9 4 rfl rfl)
theorem dX1_init_216 : decode cX1_init 216 = .ok (.iload_n 2, 1) := dk_28 (dk_at dksX1_init_9 5 rfl rfl)
theorem dX1_init_217 : decode cX1_init 217 = .ok (.iconst 5, 1) := dk_8 (dk_at dksX1_init_9 6 rfl rfl)
theorem dX1_init_218 : decode cX1_init 218 = .ok (.if_icmp .ge 19, 3) := dk_162 0 19 (dk_at dksX1_init_9 7 rfl rfl)
theorem dX1_init_221 : decode cX1_init 221 = .ok (.aload_n 0, 1) := dk_42 (dk_at dksX1_init_9 10 rfl rfl)
theorem dX1_init_222 : decode cX1_init 222 = .ok (.getfield 27, 3) := dk_180 0 27 (dk_at dksX1_init_9 11 rfl rfl)
theorem dX1_init_225 : decode cX1_init 225 = .ok (.iconst 3, 1) := dk_6 (dk_at dksX1_init_9 14 rfl rfl)
theorem dX1_init_226 : decode cX1_init 226 = .ok (.aaload, 1) := dk_50 (dk_at dksX1_init_9 15 rfl rfl)
theorem dX1_init_227 : decode cX1_init 227 = .ok (.iload_n 2, 1) := dk_28 (dk_at dksX1_init_9 16 rfl rfl)
theorem dX1_init_228 : decode cX1_init 228 = .ok (.bipush 12, 2) := dk_16 12 (dk_at dksX1_init_9 17 rfl rfl)
theorem dX1_init_230 : decode cX1_init 230 = .ok (.iastore, 1) := dk_79 (dk_at dksX1_init_9 19 rfl rfl)
theorem dX1_init_231 : decode cX1_init 231 = .ok (.iinc 2 1, 3) := dk_132 2 1 (dk_at dksX1_init_9 20 rfl rfl)
theorem dX1_init_234 : decode cX1_init 234 = .ok (.goto (-18), 3) := dk_167 255 238 (dk_at dksX1_init_10 0 rfl rfl)
theorem dX1_init_237 : decode cX1_init 237 = .ok (.return_, 1) := dk_177 (dk_at dksX1_init_10 3 rfl rfl)
abbrev cX1_phase : ByteArray := prog_1_method_66_code
def yX1_phase : MethodName := ⟨RX1, "phase", "()I"⟩
theorem dX1_phase_0 : decode cX1_phase 0 = .ok (.aload_n 0, 1) := by decide +kernel
theorem dX1_phase_1 : decode cX1_phase 1 = .ok (.getfield 52, 3) := by decide +kernel
theorem dX1_phase_4 : decode cX1_phase 4 = .ok (.ireturn, 1) := by decide +kernel
abbrev cX1_turn : ByteArray := prog_1_method_67_code
def yX1_turn : MethodName := ⟨RX1, "turn", "()I"⟩
theorem dX1_turn_0 : decode cX1_turn 0 = .ok (.aload_n 0, 1) := by decide +kernel
theorem dX1_turn_1 : decode cX1_turn 1 = .ok (.getfield 176, 3) := by decide +kernel
theorem dX1_turn_4 : decode cX1_turn 4 = .ok (.ireturn, 1) := by decide +kernel
abbrev cX1_holder : ByteArray := prog_1_method_74_code
def yX1_holder : MethodName := ⟨RX1, "holder", "(Z)I"⟩
def dkwX1_holder_0 : List UInt8 := [27, 153, 0, 10, 42, 180, 0, 59, 167, 0, 7, 42, 180, 0, 56, 172]
abbrev dktX1_holder_0 : List UInt8 := dkwX1_holder_0 ++ []
theorem dksX1_holder_0 : cX1_holder.data.toList.drop 0 = dktX1_holder_0 := by decide +kernel
theorem dX1_holder_0 : decode cX1_holder 0 = .ok (.iload_n 1, 1) := dk_27 (dk_at dksX1_holder_0 0 rfl rfl)
theorem dX1_holder_1 : decode cX1_holder 1 = .ok (.ifCond .eq 10, 3) := dk_153 0 10 (dk_at dksX1_holder_0 1 rfl rfl)
theorem dX1_holder_4 : decode cX1_holder 4 = .ok (.aload_n 0, 1) := dk_42 (dk_at dksX1_holder_0 4 rfl rfl)
theorem dX1_holder_5 : decode cX1_holder 5 = .ok (.getfield 59, 3) := dk_180 0 59 (dk_at dksX1_holder_0 5 rfl rfl)
theorem dX1_holder_8 : decode cX1_holder 8 = .ok (.goto 7, 3) := dk_167 0 7 (dk_at dksX1_holder_0 8 rfl rfl)
theorem dX1_holder_11 : decode cX1_holder 11 = .ok (.aload_n 0, 1) := dk_42 (dk_at dksX1_holder_0 11 rfl rfl)
theorem dX1_holder_12 : decode cX1_holder 12 = .ok (.getfield 56, 3) := dk_180 0 56 (dk_at dksX1_holder_0 12 rfl rfl)
theorem dX1_holder_15 : decode cX1_holder 15 = .ok (.ireturn, 1) := dk_172 (dk_at dksX1_holder_0 15 rfl rfl)
abbrev cX1_robber : ByteArray := prog_1_method_79_code
def yX1_robber : MethodName := ⟨RX1, "robber", "()I"⟩
theorem dX1_robber_0 : decode cX1_robber 0 = .ok (.aload_n 0, 1) := by decide +kernel
theorem dX1_robber_1 : decode cX1_robber 1 = .ok (.getfield 121, 3) := by decide +kernel
theorem dX1_robber_4 : decode cX1_robber 4 = .ok (.ireturn, 1) := by decide +kernel
abbrev cX1_layHex : ByteArray := prog_1_method_40_code
def yX1_layHex : MethodName := ⟨RX1, "layHex", "(III)V"⟩
def dkwX1_layHex_3 : List UInt8 := [42, 180, 0, 11, 27, 50, 28, 181, 0, 65, 42, 180, 0, 11, 27, 50, 29, 181, 0, 118, 177]
abbrev dktX1_layHex_3 : List UInt8 := dkwX1_layHex_3 ++ []
def dkwX1_layHex_2 : List UInt8 := [167, 0, 4, 4, 3, 3, 184, 0, 215, 42, 180, 0, 227, 154, 0, 7, 4, 167, 0, 4, 3, 184, 0, 230]
abbrev dktX1_layHex_2 : List UInt8 := dkwX1_layHex_2 ++ dktX1_layHex_3
def dkwX1_layHex_1 : List UInt8 := [160, 0, 7, 4, 167, 0, 4, 3, 28, 8, 160, 0, 7, 4, 167, 0, 4, 3, 160, 0, 7, 3]
abbrev dktX1_layHex_1 : List UInt8 := dkwX1_layHex_1 ++ dktX1_layHex_2
def dkwX1_layHex_0 : List UInt8 := [27, 16, 7, 184, 0, 204, 28, 3, 8, 184, 0, 215, 29, 5, 16, 12, 184, 0, 215, 29, 16, 7]
abbrev dktX1_layHex_0 : List UInt8 := dkwX1_layHex_0 ++ dktX1_layHex_1
theorem dksX1_layHex_0 : cX1_layHex.data.toList.drop 0 = dktX1_layHex_0 := by decide +kernel
theorem dksX1_layHex_1 : cX1_layHex.data.toList.drop 22 = dktX1_layHex_1 := dk_seg dksX1_layHex_0 22 rfl rfl
theorem dksX1_layHex_2 : cX1_layHex.data.toList.drop 44 = dktX1_layHex_2 := dk_seg dksX1_layHex_1 22 rfl rfl
theorem dksX1_layHex_3 : cX1_layHex.data.toList.drop 68 = dktX1_layHex_3 := dk_seg dksX1_layHex_2 24 rfl rfl
theorem dX1_layHex_0 : decode cX1_layHex 0 = .ok (.iload_n 1, 1) := dk_27 (dk_at dksX1_layHex_0 0 rfl rfl)
theorem dX1_layHex_1 : decode cX1_layHex 1 = .ok (.bipush 7, 2) := dk_16 7 (dk_at dksX1_layHex_0 1 rfl rfl)
theorem dX1_layHex_3 : decode cX1_layHex 3 = .ok (.invokestatic 204, 3) := dk_184 0 204 (dk_at dksX1_layHex_0 3 rfl rfl)
theorem dX1_layHex_6 : decode cX1_layHex 6 = .ok (.iload_n 2, 1) := dk_28 (dk_at dksX1_layHex_0 6 rfl rfl)
theorem dX1_layHex_7 : decode cX1_layHex 7 = .ok (.iconst 0, 1) := dk_3 (dk_at dksX1_layHex_0 7 rfl rfl)
theorem dX1_layHex_8 : decode cX1_layHex 8 = .ok (.iconst 5, 1) := dk_8 (dk_at dksX1_layHex_0 8 rfl rfl)
theorem dX1_layHex_9 : decode cX1_layHex 9 = .ok (.invokestatic 215, 3) := dk_184 0 215 (dk_at dksX1_layHex_0 9 rfl rfl)
theorem dX1_layHex_12 : decode cX1_layHex 12 = .ok (.iload_n 3, 1) := dk_29 (dk_at dksX1_layHex_0 12 rfl rfl)
theorem dX1_layHex_13 : decode cX1_layHex 13 = .ok (.iconst 2, 1) := dk_5 (dk_at dksX1_layHex_0 13 rfl rfl)
theorem dX1_layHex_14 : decode cX1_layHex 14 = .ok (.bipush 12, 2) := dk_16 12 (dk_at dksX1_layHex_0 14 rfl rfl)
theorem dX1_layHex_16 : decode cX1_layHex 16 = .ok (.invokestatic 215, 3) := dk_184 0 215 (dk_at dksX1_layHex_0 16 rfl rfl)
theorem dX1_layHex_19 : decode cX1_layHex 19 = .ok (.iload_n 3, 1) := dk_29 (dk_at dksX1_layHex_0 19 rfl rfl)
theorem dX1_layHex_20 : decode cX1_layHex 20 = .ok (.bipush 7, 2) := dk_16 7 (dk_at dksX1_layHex_0 20 rfl rfl)
theorem dX1_layHex_22 : decode cX1_layHex 22 = .ok (.if_icmp .ne 7, 3) := dk_160 0 7 (dk_at dksX1_layHex_1 0 rfl rfl)
theorem dX1_layHex_25 : decode cX1_layHex 25 = .ok (.iconst 1, 1) := dk_4 (dk_at dksX1_layHex_1 3 rfl rfl)
theorem dX1_layHex_26 : decode cX1_layHex 26 = .ok (.goto 4, 3) := dk_167 0 4 (dk_at dksX1_layHex_1 4 rfl rfl)
theorem dX1_layHex_29 : decode cX1_layHex 29 = .ok (.iconst 0, 1) := dk_3 (dk_at dksX1_layHex_1 7 rfl rfl)
theorem dX1_layHex_30 : decode cX1_layHex 30 = .ok (.iload_n 2, 1) := dk_28 (dk_at dksX1_layHex_1 8 rfl rfl)
theorem dX1_layHex_31 : decode cX1_layHex 31 = .ok (.iconst 5, 1) := dk_8 (dk_at dksX1_layHex_1 9 rfl rfl)
theorem dX1_layHex_32 : decode cX1_layHex 32 = .ok (.if_icmp .ne 7, 3) := dk_160 0 7 (dk_at dksX1_layHex_1 10 rfl rfl)
theorem dX1_layHex_35 : decode cX1_layHex 35 = .ok (.iconst 1, 1) := dk_4 (dk_at dksX1_layHex_1 13 rfl rfl)
theorem dX1_layHex_36 : decode cX1_layHex 36 = .ok (.goto 4, 3) := dk_167 0 4 (dk_at dksX1_layHex_1 14 rfl rfl)
theorem dX1_layHex_39 : decode cX1_layHex 39 = .ok (.iconst 0, 1) := dk_3 (dk_at dksX1_layHex_1 17 rfl rfl)
theorem dX1_layHex_40 : decode cX1_layHex 40 = .ok (.if_icmp .ne 7, 3) := dk_160 0 7 (dk_at dksX1_layHex_1 18 rfl rfl)
theorem dX1_layHex_43 : decode cX1_layHex 43 = .ok (.iconst 0, 1) := dk_3 (dk_at dksX1_layHex_1 21 rfl rfl)
theorem dX1_layHex_44 : decode cX1_layHex 44 = .ok (.goto 4, 3) := dk_167 0 4 (dk_at dksX1_layHex_2 0 rfl rfl)
theorem dX1_layHex_47 : decode cX1_layHex 47 = .ok (.iconst 1, 1) := dk_4 (dk_at dksX1_layHex_2 3 rfl rfl)
theorem dX1_layHex_48 : decode cX1_layHex 48 = .ok (.iconst 0, 1) := dk_3 (dk_at dksX1_layHex_2 4 rfl rfl)
theorem dX1_layHex_49 : decode cX1_layHex 49 = .ok (.iconst 0, 1) := dk_3 (dk_at dksX1_layHex_2 5 rfl rfl)
theorem dX1_layHex_50 : decode cX1_layHex 50 = .ok (.invokestatic 215, 3) := dk_184 0 215 (dk_at dksX1_layHex_2 6 rfl rfl)
theorem dX1_layHex_53 : decode cX1_layHex 53 = .ok (.aload_n 0, 1) := dk_42 (dk_at dksX1_layHex_2 9 rfl rfl)
theorem dX1_layHex_54 : decode cX1_layHex 54 = .ok (.getfield 227, 3) := dk_180 0 227 (dk_at dksX1_layHex_2 10 rfl rfl)
theorem dX1_layHex_57 : decode cX1_layHex 57 = .ok (.ifCond .ne 7, 3) := dk_154 0 7 (dk_at dksX1_layHex_2 13 rfl rfl)
theorem dX1_layHex_60 : decode cX1_layHex 60 = .ok (.iconst 1, 1) := dk_4 (dk_at dksX1_layHex_2 16 rfl rfl)
theorem dX1_layHex_61 : decode cX1_layHex 61 = .ok (.goto 4, 3) := dk_167 0 4 (dk_at dksX1_layHex_2 17 rfl rfl)
theorem dX1_layHex_64 : decode cX1_layHex 64 = .ok (.iconst 0, 1) := dk_3 (dk_at dksX1_layHex_2 20 rfl rfl)
theorem dX1_layHex_65 : decode cX1_layHex 65 = .ok (.invokestatic 230, 3) := dk_184 0 230 (dk_at dksX1_layHex_2 21 rfl rfl)
theorem dX1_layHex_68 : decode cX1_layHex 68 = .ok (.aload_n 0, 1) := dk_42 (dk_at dksX1_layHex_3 0 rfl rfl)
theorem dX1_layHex_69 : decode cX1_layHex 69 = .ok (.getfield 11, 3) := dk_180 0 11 (dk_at dksX1_layHex_3 1 rfl rfl)
theorem dX1_layHex_72 : decode cX1_layHex 72 = .ok (.iload_n 1, 1) := dk_27 (dk_at dksX1_layHex_3 4 rfl rfl)
theorem dX1_layHex_73 : decode cX1_layHex 73 = .ok (.aaload, 1) := dk_50 (dk_at dksX1_layHex_3 5 rfl rfl)
theorem dX1_layHex_74 : decode cX1_layHex 74 = .ok (.iload_n 2, 1) := dk_28 (dk_at dksX1_layHex_3 6 rfl rfl)
theorem dX1_layHex_75 : decode cX1_layHex 75 = .ok (.putfield 65, 3) := dk_181 0 65 (dk_at dksX1_layHex_3 7 rfl rfl)
theorem dX1_layHex_78 : decode cX1_layHex 78 = .ok (.aload_n 0, 1) := dk_42 (dk_at dksX1_layHex_3 10 rfl rfl)
theorem dX1_layHex_79 : decode cX1_layHex 79 = .ok (.getfield 11, 3) := dk_180 0 11 (dk_at dksX1_layHex_3 11 rfl rfl)
theorem dX1_layHex_82 : decode cX1_layHex 82 = .ok (.iload_n 1, 1) := dk_27 (dk_at dksX1_layHex_3 14 rfl rfl)
theorem dX1_layHex_83 : decode cX1_layHex 83 = .ok (.aaload, 1) := dk_50 (dk_at dksX1_layHex_3 15 rfl rfl)
theorem dX1_layHex_84 : decode cX1_layHex 84 = .ok (.iload_n 3, 1) := dk_29 (dk_at dksX1_layHex_3 16 rfl rfl)
theorem dX1_layHex_85 : decode cX1_layHex 85 = .ok (.putfield 118, 3) := dk_181 0 118 (dk_at dksX1_layHex_3 17 rfl rfl)
theorem dX1_layHex_88 : decode cX1_layHex 88 = .ok (.return_, 1) := dk_177 (dk_at dksX1_layHex_3 20 rfl rfl)
abbrev cX1_check : ByteArray := prog_1_method_32_code
def yX1_check : MethodName := ⟨RX1, "check", "(II)V"⟩
def dkwX1_check_0 : List UInt8 := [26, 155, 0, 8, 26, 27, 161, 0, 11, 187, 0, 201, 89, 183, 0, 203, 191, 177]
abbrev dktX1_check_0 : List UInt8 := dkwX1_check_0 ++ []
theorem dksX1_check_0 : cX1_check.data.toList.drop 0 = dktX1_check_0 := by decide +kernel
theorem dX1_check_0 : decode cX1_check 0 = .ok (.iload_n 0, 1) := dk_26 (dk_at dksX1_check_0 0 rfl rfl)
theorem dX1_check_1 : decode cX1_check 1 = .ok (.ifCond .lt 8, 3) := dk_155 0 8 (dk_at dksX1_check_0 1 rfl rfl)
theorem dX1_check_4 : decode cX1_check 4 = .ok (.iload_n 0, 1) := dk_26 (dk_at dksX1_check_0 4 rfl rfl)
theorem dX1_check_5 : decode cX1_check 5 = .ok (.iload_n 1, 1) := dk_27 (dk_at dksX1_check_0 5 rfl rfl)
theorem dX1_check_6 : decode cX1_check 6 = .ok (.if_icmp .lt 11, 3) := dk_161 0 11 (dk_at dksX1_check_0 6 rfl rfl)
theorem dX1_check_9 : decode cX1_check 9 = .ok (.new 201, 3) := dk_187 0 201 (dk_at dksX1_check_0 9 rfl rfl)
theorem dX1_check_12 : decode cX1_check 12 = .ok (.dup, 1) := dk_89 (dk_at dksX1_check_0 12 rfl rfl)
theorem dX1_check_13 : decode cX1_check 13 = .ok (.invokespecial 203, 3) := dk_183 0 203 (dk_at dksX1_check_0 13 rfl rfl)
theorem dX1_check_16 : decode cX1_check 16 = .ok (.athrow, 1) := dk_191 (dk_at dksX1_check_0 16 rfl rfl)
theorem dX1_check_17 : decode cX1_check 17 = .ok (.return_, 1) := dk_177 (dk_at dksX1_check_0 17 rfl rfl)
abbrev cX1_checkRange : ByteArray := prog_1_method_34_code
def yX1_checkRange : MethodName := ⟨RX1, "checkRange", "(III)V"⟩
def dkwX1_checkRange_0 : List UInt8 := [26, 27, 161, 0, 8, 26, 28, 164, 0, 11, 187, 0, 208, 89, 183, 0, 210, 191, 177]
abbrev dktX1_checkRange_0 : List UInt8 := dkwX1_checkRange_0 ++ []
theorem dksX1_checkRange_0 : cX1_checkRange.data.toList.drop 0 = dktX1_checkRange_0 := by decide +kernel
theorem dX1_checkRange_0 : decode cX1_checkRange 0 = .ok (.iload_n 0, 1) := dk_26 (dk_at dksX1_checkRange_0 0 rfl rfl)
theorem dX1_checkRange_1 : decode cX1_checkRange 1 = .ok (.iload_n 1, 1) := dk_27 (dk_at dksX1_checkRange_0 1 rfl rfl)
theorem dX1_checkRange_2 : decode cX1_checkRange 2 = .ok (.if_icmp .lt 8, 3) := dk_161 0 8 (dk_at dksX1_checkRange_0 2 rfl rfl)
theorem dX1_checkRange_5 : decode cX1_checkRange 5 = .ok (.iload_n 0, 1) := dk_26 (dk_at dksX1_checkRange_0 5 rfl rfl)
theorem dX1_checkRange_6 : decode cX1_checkRange 6 = .ok (.iload_n 2, 1) := dk_28 (dk_at dksX1_checkRange_0 6 rfl rfl)
theorem dX1_checkRange_7 : decode cX1_checkRange 7 = .ok (.if_icmp .le 11, 3) := dk_164 0 11 (dk_at dksX1_checkRange_0 7 rfl rfl)
theorem dX1_checkRange_10 : decode cX1_checkRange 10 = .ok (.new 208, 3) := dk_187 0 208 (dk_at dksX1_checkRange_0 10 rfl rfl)
theorem dX1_checkRange_13 : decode cX1_checkRange 13 = .ok (.dup, 1) := dk_89 (dk_at dksX1_checkRange_0 13 rfl rfl)
theorem dX1_checkRange_14 : decode cX1_checkRange 14 = .ok (.invokespecial 210, 3) := dk_183 0 210 (dk_at dksX1_checkRange_0 14 rfl rfl)
theorem dX1_checkRange_17 : decode cX1_checkRange 17 = .ok (.athrow, 1) := dk_191 (dk_at dksX1_checkRange_0 17 rfl rfl)
theorem dX1_checkRange_18 : decode cX1_checkRange 18 = .ok (.return_, 1) := dk_177 (dk_at dksX1_checkRange_0 18 rfl rfl)
abbrev cX1_checkState : ByteArray := prog_1_method_35_code
def yX1_checkState : MethodName := ⟨RX1, "checkState", "(Z)V"⟩
def dkwX1_checkState_0 : List UInt8 := [26, 154, 0, 11, 187, 0, 211, 89, 183, 0, 213, 191, 177]
abbrev dktX1_checkState_0 : List UInt8 := dkwX1_checkState_0 ++ []
theorem dksX1_checkState_0 : cX1_checkState.data.toList.drop 0 = dktX1_checkState_0 := by decide +kernel
theorem dX1_checkState_0 : decode cX1_checkState 0 = .ok (.iload_n 0, 1) := dk_26 (dk_at dksX1_checkState_0 0 rfl rfl)
theorem dX1_checkState_1 : decode cX1_checkState 1 = .ok (.ifCond .ne 11, 3) := dk_154 0 11 (dk_at dksX1_checkState_0 1 rfl rfl)
theorem dX1_checkState_4 : decode cX1_checkState 4 = .ok (.new 211, 3) := dk_187 0 211 (dk_at dksX1_checkState_0 4 rfl rfl)
theorem dX1_checkState_7 : decode cX1_checkState 7 = .ok (.dup, 1) := dk_89 (dk_at dksX1_checkState_0 7 rfl rfl)
theorem dX1_checkState_8 : decode cX1_checkState 8 = .ok (.invokespecial 213, 3) := dk_183 0 213 (dk_at dksX1_checkState_0 8 rfl rfl)
theorem dX1_checkState_11 : decode cX1_checkState 11 = .ok (.athrow, 1) := dk_191 (dk_at dksX1_checkState_0 11 rfl rfl)
theorem dX1_checkState_12 : decode cX1_checkState 12 = .ok (.return_, 1) := dk_177 (dk_at dksX1_checkState_0 12 rfl rfl)
abbrev cX1_place : ByteArray := prog_1_method_41_code
def yX1_place : MethodName := ⟨RX1, "place", "(II)I"⟩
def dkwX1_place_10 : List UInt8 := [172]
abbrev dktX1_place_10 : List UInt8 := dkwX1_place_10 ++ []
def dkwX1_place_9 : List UInt8 := [16, 6, 160, 0, 13, 42, 4, 181, 0, 52, 42, 4, 181, 0, 185, 42, 4, 182, 0, 246, 42, 180, 0, 176]
abbrev dktX1_place_9 : List UInt8 := dkwX1_place_9 ++ dktX1_place_10
def dkwX1_place_8 : List UInt8 := [180, 0, 227, 167, 0, 13, 3, 8, 42, 180, 0, 227, 100, 184, 0, 136, 181, 0, 176, 42, 180, 0, 227]
abbrev dktX1_place_8 : List UInt8 := dkwX1_place_8 ++ dktX1_place_9
def dkwX1_place_7 : List UInt8 := [167, 255, 175, 42, 89, 180, 0, 227, 4, 96, 181, 0, 227, 42, 42, 180, 0, 227, 6, 162, 0, 10, 42]
abbrev dktX1_place_7 : List UInt8 := dkwX1_place_7 ++ dktX1_place_8
def dkwX1_place_6 : List UInt8 := [180, 0, 27, 6, 50, 42, 180, 0, 11, 29, 50, 180, 0, 65, 46, 184, 0, 127, 182, 0, 112, 132, 3, 1]
abbrev dktX1_place_6 : List UInt8 := dkwX1_place_6 ++ dktX1_place_7
def dkwX1_place_5 : List UInt8 := [180, 0, 65, 8, 159, 0, 41, 42, 6, 42, 180, 0, 176, 42, 180, 0, 11, 29, 50, 180, 0, 65, 4, 42]
abbrev dktX1_place_5 : List UInt8 := dkwX1_place_5 ++ dktX1_place_6
def dkwX1_place_4 : List UInt8 := [161, 0, 73, 42, 180, 0, 11, 29, 50, 27, 182, 0, 243, 153, 0, 54, 42, 180, 0, 11, 29, 50]
abbrev dktX1_place_4 : List UInt8 := dkwX1_place_4 ++ dktX1_place_5
def dkwX1_place_3 : List UInt8 := [42, 180, 0, 21, 28, 42, 180, 0, 176, 79, 3, 62, 29, 16, 7, 162, 0, 81, 42, 180, 0, 227, 6]
abbrev dktX1_place_3 : List UInt8 := dkwX1_place_3 ++ dktX1_place_4
def dkwX1_place_2 : List UInt8 := [167, 0, 4, 3, 184, 0, 230, 42, 180, 0, 17, 27, 187, 0, 238, 89, 42, 180, 0, 176, 183, 0, 240, 83]
abbrev dktX1_place_2 : List UInt8 := dkwX1_place_2 ++ dktX1_place_3
def dkwX1_place_1 : List UInt8 := [153, 0, 25, 28, 27, 184, 0, 76, 153, 0, 17, 42, 180, 0, 21, 28, 46, 2, 160, 0, 7, 4]
abbrev dktX1_place_1 : List UInt8 := dkwX1_place_1 ++ dktX1_place_2
def dkwX1_place_0 : List UInt8 := [27, 16, 24, 184, 0, 204, 28, 16, 30, 184, 0, 204, 42, 180, 0, 52, 154, 0, 33, 42, 27, 182, 0, 234]
abbrev dktX1_place_0 : List UInt8 := dkwX1_place_0 ++ dktX1_place_1
theorem dksX1_place_0 : cX1_place.data.toList.drop 0 = dktX1_place_0 := by decide +kernel
theorem dksX1_place_1 : cX1_place.data.toList.drop 24 = dktX1_place_1 := dk_seg dksX1_place_0 24 rfl rfl
theorem dksX1_place_2 : cX1_place.data.toList.drop 46 = dktX1_place_2 := dk_seg dksX1_place_1 22 rfl rfl
theorem dksX1_place_3 : cX1_place.data.toList.drop 70 = dktX1_place_3 := dk_seg dksX1_place_2 24 rfl rfl
theorem dksX1_place_4 : cX1_place.data.toList.drop 93 = dktX1_place_4 := dk_seg dksX1_place_3 23 rfl rfl
theorem dksX1_place_5 : cX1_place.data.toList.drop 115 = dktX1_place_5 := dk_seg dksX1_place_4 22 rfl rfl
theorem dksX1_place_6 : cX1_place.data.toList.drop 139 = dktX1_place_6 := dk_seg dksX1_place_5 24 rfl rfl
theorem dksX1_place_7 : cX1_place.data.toList.drop 163 = dktX1_place_7 := dk_seg dksX1_place_6 24 rfl rfl
theorem dksX1_place_8 : cX1_place.data.toList.drop 186 = dktX1_place_8 := dk_seg dksX1_place_7 23 rfl rfl
theorem dksX1_place_9 : cX1_place.data.toList.drop 209 = dktX1_place_9 := dk_seg dksX1_place_8 23 rfl rfl
theorem dksX1_place_10 : cX1_place.data.toList.drop 233 = dktX1_place_10 := dk_seg dksX1_place_9 24 rfl rfl
theorem dX1_place_0 : decode cX1_place 0 = .ok (.iload_n 1, 1) := dk_27 (dk_at dksX1_place_0 0 rfl rfl)
theorem dX1_place_1 : decode cX1_place 1 = .ok (.bipush 24, 2) := dk_16 24 (dk_at dksX1_place_0 1 rfl rfl)
theorem dX1_place_3 : decode cX1_place 3 = .ok (.invokestatic 204, 3) := dk_184 0 204 (dk_at dksX1_place_0 3 rfl rfl)
theorem dX1_place_6 : decode cX1_place 6 = .ok (.iload_n 2, 1) := dk_28 (dk_at dksX1_place_0 6 rfl rfl)
theorem dX1_place_7 : decode cX1_place 7 = .ok (.bipush 30, 2) := dk_16 30 (dk_at dksX1_place_0 7 rfl rfl)
theorem dX1_place_9 : decode cX1_place 9 = .ok (.invokestatic 204, 3) := dk_184 0 204 (dk_at dksX1_place_0 9 rfl rfl)
theorem dX1_place_12 : decode cX1_place 12 = .ok (.aload_n 0, 1) := dk_42 (dk_at dksX1_place_0 12 rfl rfl)
theorem dX1_place_13 : decode cX1_place 13 = .ok (.getfield 52, 3) := dk_180 0 52 (dk_at dksX1_place_0 13 rfl rfl)
theorem dX1_place_16 : decode cX1_place 16 = .ok (.ifCond .ne 33, 3) := dk_154 0 33 (dk_at dksX1_place_0 16 rfl rfl)
theorem dX1_place_19 : decode cX1_place 19 = .ok (.aload_n 0, 1) := dk_42 (dk_at dksX1_place_0 19 rfl rfl)
theorem dX1_place_20 : decode cX1_place 20 = .ok (.iload_n 1, 1) := dk_27 (dk_at dksX1_place_0 20 rfl rfl)
theorem dX1_place_21 : decode cX1_place 21 = .ok (.invokevirtual 234, 3) := dk_182 0 234 (dk_at dksX1_place_0 21 rfl rfl)
theorem dX1_place_24 : decode cX1_place 24 = .ok (.ifCond .eq 25, 3) := dk_153 0 25 (dk_at dksX1_place_1 0 rfl rfl)
theorem dX1_place_27 : decode cX1_place 27 = .ok (.iload_n 2, 1) := dk_28 (dk_at dksX1_place_1 3 rfl rfl)
theorem dX1_place_28 : decode cX1_place 28 = .ok (.iload_n 1, 1) := dk_27 (dk_at dksX1_place_1 4 rfl rfl)
theorem dX1_place_29 : decode cX1_place 29 = .ok (.invokestatic 76, 3) := dk_184 0 76 (dk_at dksX1_place_1 5 rfl rfl)
theorem dX1_place_32 : decode cX1_place 32 = .ok (.ifCond .eq 17, 3) := dk_153 0 17 (dk_at dksX1_place_1 8 rfl rfl)
theorem dX1_place_35 : decode cX1_place 35 = .ok (.aload_n 0, 1) := dk_42 (dk_at dksX1_place_1 11 rfl rfl)
theorem dX1_place_36 : decode cX1_place 36 = .ok (.getfield 21, 3) := dk_180 0 21 (dk_at dksX1_place_1 12 rfl rfl)
theorem dX1_place_39 : decode cX1_place 39 = .ok (.iload_n 2, 1) := dk_28 (dk_at dksX1_place_1 15 rfl rfl)
theorem dX1_place_40 : decode cX1_place 40 = .ok (.iaload, 1) := dk_46 (dk_at dksX1_place_1 16 rfl rfl)
theorem dX1_place_41 : decode cX1_place 41 = .ok (.iconst (-1), 1) := dk_2 (dk_at dksX1_place_1 17 rfl rfl)
theorem dX1_place_42 : decode cX1_place 42 = .ok (.if_icmp .ne 7, 3) := dk_160 0 7 (dk_at dksX1_place_1 18 rfl rfl)
theorem dX1_place_45 : decode cX1_place 45 = .ok (.iconst 1, 1) := dk_4 (dk_at dksX1_place_1 21 rfl rfl)
theorem dX1_place_46 : decode cX1_place 46 = .ok (.goto 4, 3) := dk_167 0 4 (dk_at dksX1_place_2 0 rfl rfl)
theorem dX1_place_49 : decode cX1_place 49 = .ok (.iconst 0, 1) := dk_3 (dk_at dksX1_place_2 3 rfl rfl)
theorem dX1_place_50 : decode cX1_place 50 = .ok (.invokestatic 230, 3) := dk_184 0 230 (dk_at dksX1_place_2 4 rfl rfl)
theorem dX1_place_53 : decode cX1_place 53 = .ok (.aload_n 0, 1) := dk_42 (dk_at dksX1_place_2 7 rfl rfl)
theorem dX1_place_54 : decode cX1_place 54 = .ok (.getfield 17, 3) := dk_180 0 17 (dk_at dksX1_place_2 8 rfl rfl)
theorem dX1_place_57 : decode cX1_place 57 = .ok (.iload_n 1, 1) := dk_27 (dk_at dksX1_place_2 11 rfl rfl)
theorem dX1_place_58 : decode cX1_place 58 = .ok (.new 238, 3) := dk_187 0 238 (dk_at dksX1_place_2 12 rfl rfl)
theorem dX1_place_61 : decode cX1_place 61 = .ok (.dup, 1) := dk_89 (dk_at dksX1_place_2 15 rfl rfl)
theorem dX1_place_62 : decode cX1_place 62 = .ok (.aload_n 0, 1) := dk_42 (dk_at dksX1_place_2 16 rfl rfl)
theorem dX1_place_63 : decode cX1_place 63 = .ok (.getfield 176, 3) := dk_180 0 176 (dk_at dksX1_place_2 17 rfl rfl)
theorem dX1_place_66 : decode cX1_place 66 = .ok (.invokespecial 240, 3) := dk_183 0 240 (dk_at dksX1_place_2 20 rfl rfl)
theorem dX1_place_69 : decode cX1_place 69 = .ok (.aastore, 1) := dk_83 (dk_at dksX1_place_2 23 rfl rfl)
theorem dX1_place_70 : decode cX1_place 70 = .ok (.aload_n 0, 1) := dk_42 (dk_at dksX1_place_3 0 rfl rfl)
theorem dX1_place_71 : decode cX1_place 71 = .ok (.getfield 21, 3) := dk_180 0 21 (dk_at dksX1_place_3 1 rfl rfl)
theorem dX1_place_74 : decode cX1_place 74 = .ok (.iload_n 2, 1) := dk_28 (dk_at dksX1_place_3 4 rfl rfl)
theorem dX1_place_75 : decode cX1_place 75 = .ok (.aload_n 0, 1) := dk_42 (dk_at dksX1_place_3 5 rfl rfl)
theorem dX1_place_76 : decode cX1_place 76 = .ok (.getfield 176, 3) := dk_180 0 176 (dk_at dksX1_place_3 6 rfl rfl)
theorem dX1_place_79 : decode cX1_place 79 = .ok (.iastore, 1) := dk_79 (dk_at dksX1_place_3 9 rfl rfl)
theorem dX1_place_80 : decode cX1_place 80 = .ok (.iconst 0, 1) := dk_3 (dk_at dksX1_place_3 10 rfl rfl)
theorem dX1_place_81 : decode cX1_place 81 = .ok (.istore_n 3, 1) := dk_62 (dk_at dksX1_place_3 11 rfl rfl)
theorem dX1_place_82 : decode cX1_place 82 = .ok (.iload_n 3, 1) := dk_29 (dk_at dksX1_place_3 12 rfl rfl)
theorem dX1_place_83 : decode cX1_place 83 = .ok (.bipush 7, 2) := dk_16 7 (dk_at dksX1_place_3 13 rfl rfl)
theorem dX1_place_85 : decode cX1_place 85 = .ok (.if_icmp .ge 81, 3) := dk_162 0 81 (dk_at dksX1_place_3 15 rfl rfl)
theorem dX1_place_88 : decode cX1_place 88 = .ok (.aload_n 0, 1) := dk_42 (dk_at dksX1_place_3 18 rfl rfl)
theorem dX1_place_89 : decode cX1_place 89 = .ok (.getfield 227, 3) := dk_180 0 227 (dk_at dksX1_place_3 19 rfl rfl)
theorem dX1_place_92 : decode cX1_place 92 = .ok (.iconst 3, 1) := dk_6 (dk_at dksX1_place_3 22 rfl rfl)
theorem dX1_place_93 : decode cX1_place 93 = .ok (.if_icmp .lt 73, 3) := dk_161 0 73 (dk_at dksX1_place_4 0 rfl rfl)
theorem dX1_place_96 : decode cX1_place 96 = .ok (.aload_n 0, 1) := dk_42 (dk_at dksX1_place_4 3 rfl rfl)
theorem dX1_place_97 : decode cX1_place 97 = .ok (.getfield 11, 3) := dk_180 0 11 (dk_at dksX1_place_4 4 rfl rfl)
theorem dX1_place_100 : decode cX1_place 100 = .ok (.iload_n 3, 1) := dk_29 (dk_at dksX1_place_4 7 rfl rfl)
theorem dX1_place_101 : decode cX1_place 101 = .ok (.aaload, 1) := dk_50 (dk_at dksX1_place_4 8 rfl rfl)
theorem dX1_place_102 : decode cX1_place 102 = .ok (.iload_n 1, 1) := dk_27 (dk_at dksX1_place_4 9 rfl rfl)
theorem dX1_place_103 : decode cX1_place 103 = .ok (.invokevirtual 243, 3) := dk_182 0 243 (dk_at dksX1_place_4 10 rfl rfl)
theorem dX1_place_106 : decode cX1_place 106 = .ok (.ifCond .eq 54, 3) := dk_153 0 54 (dk_at dksX1_place_4 13 rfl rfl)
theorem dX1_place_109 : decode cX1_place 109 = .ok (.aload_n 0, 1) := dk_42 (dk_at dksX1_place_4 16 rfl rfl)
theorem dX1_place_110 : decode cX1_place 110 = .ok (.getfield 11, 3) := dk_180 0 11 (dk_at dksX1_place_4 17 rfl rfl)
theorem dX1_place_113 : decode cX1_place 113 = .ok (.iload_n 3, 1) := dk_29 (dk_at dksX1_place_4 20 rfl rfl)
theorem dX1_place_114 : decode cX1_place 114 = .ok (.aaload, 1) := dk_50 (dk_at dksX1_place_4 21 rfl rfl)
theorem dX1_place_115 : decode cX1_place 115 = .ok (.getfield 65, 3) := dk_180 0 65 (dk_at dksX1_place_5 0 rfl rfl)
theorem dX1_place_118 : decode cX1_place 118 = .ok (.iconst 5, 1) := dk_8 (dk_at dksX1_place_5 3 rfl rfl)
theorem dX1_place_119 : decode cX1_place 119 = .ok (.if_icmp .eq 41, 3) := dk_159 0 41 (dk_at dksX1_place_5 4 rfl rfl)
theorem dX1_place_122 : decode cX1_place 122 = .ok (.aload_n 0, 1) := dk_42 (dk_at dksX1_place_5 7 rfl rfl)
theorem dX1_place_123 : decode cX1_place 123 = .ok (.iconst 3, 1) := dk_6 (dk_at dksX1_place_5 8 rfl rfl)
theorem dX1_place_124 : decode cX1_place 124 = .ok (.aload_n 0, 1) := dk_42 (dk_at dksX1_place_5 9 rfl rfl)
theorem dX1_place_125 : decode cX1_place 125 = .ok (.getfield 176, 3) := dk_180 0 176 (dk_at dksX1_place_5 10 rfl rfl)
theorem dX1_place_128 : decode cX1_place 128 = .ok (.aload_n 0, 1) := dk_42 (dk_at dksX1_place_5 13 rfl rfl)
theorem dX1_place_129 : decode cX1_place 129 = .ok (.getfield 11, 3) := dk_180 0 11 (dk_at dksX1_place_5 14 rfl rfl)
theorem dX1_place_132 : decode cX1_place 132 = .ok (.iload_n 3, 1) := dk_29 (dk_at dksX1_place_5 17 rfl rfl)
theorem dX1_place_133 : decode cX1_place 133 = .ok (.aaload, 1) := dk_50 (dk_at dksX1_place_5 18 rfl rfl)
theorem dX1_place_134 : decode cX1_place 134 = .ok (.getfield 65, 3) := dk_180 0 65 (dk_at dksX1_place_5 19 rfl rfl)
theorem dX1_place_137 : decode cX1_place 137 = .ok (.iconst 1, 1) := dk_4 (dk_at dksX1_place_5 22 rfl rfl)
theorem dX1_place_138 : decode cX1_place 138 = .ok (.aload_n 0, 1) := dk_42 (dk_at dksX1_place_5 23 rfl rfl)
theorem dX1_place_139 : decode cX1_place 139 = .ok (.getfield 27, 3) := dk_180 0 27 (dk_at dksX1_place_6 0 rfl rfl)
theorem dX1_place_142 : decode cX1_place 142 = .ok (.iconst 3, 1) := dk_6 (dk_at dksX1_place_6 3 rfl rfl)
theorem dX1_place_143 : decode cX1_place 143 = .ok (.aaload, 1) := dk_50 (dk_at dksX1_place_6 4 rfl rfl)
theorem dX1_place_144 : decode cX1_place 144 = .ok (.aload_n 0, 1) := dk_42 (dk_at dksX1_place_6 5 rfl rfl)
theorem dX1_place_145 : decode cX1_place 145 = .ok (.getfield 11, 3) := dk_180 0 11 (dk_at dksX1_place_6 6 rfl rfl)
theorem dX1_place_148 : decode cX1_place 148 = .ok (.iload_n 3, 1) := dk_29 (dk_at dksX1_place_6 9 rfl rfl)
theorem dX1_place_149 : decode cX1_place 149 = .ok (.aaload, 1) := dk_50 (dk_at dksX1_place_6 10 rfl rfl)
theorem dX1_place_150 : decode cX1_place 150 = .ok (.getfield 65, 3) := dk_180 0 65 (dk_at dksX1_place_6 11 rfl rfl)
theorem dX1_place_153 : decode cX1_place 153 = .ok (.iaload, 1) := dk_46 (dk_at dksX1_place_6 14 rfl rfl)
theorem dX1_place_154 : decode cX1_place 154 = .ok (.invokestatic 127, 3) := dk_184 0 127 (dk_at dksX1_place_6 15 rfl rfl)
theorem dX1_place_157 : decode cX1_place 157 = .ok (.invokevirtual 112, 3) := dk_182 0 112 (dk_at dksX1_place_6 18 rfl rfl)
theorem dX1_place_160 : decode cX1_place 160 = .ok (.iinc 3 1, 3) := dk_132 3 1 (dk_at dksX1_place_6 21 rfl rfl)
theorem dX1_place_163 : decode cX1_place 163 = .ok (.goto (-81), 3) := dk_167 255 175 (dk_at dksX1_place_7 0 rfl rfl)
theorem dX1_place_166 : decode cX1_place 166 = .ok (.aload_n 0, 1) := dk_42 (dk_at dksX1_place_7 3 rfl rfl)
theorem dX1_place_167 : decode cX1_place 167 = .ok (.dup, 1) := dk_89 (dk_at dksX1_place_7 4 rfl rfl)
theorem dX1_place_168 : decode cX1_place 168 = .ok (.getfield 227, 3) := dk_180 0 227 (dk_at dksX1_place_7 5 rfl rfl)
theorem dX1_place_171 : decode cX1_place 171 = .ok (.iconst 1, 1) := dk_4 (dk_at dksX1_place_7 8 rfl rfl)
theorem dX1_place_172 : decode cX1_place 172 = .ok (.iadd, 1) := dk_96 (dk_at dksX1_place_7 9 rfl rfl)
theorem dX1_place_173 : decode cX1_place 173 = .ok (.putfield 227, 3) := dk_181 0 227 (dk_at dksX1_place_7 10 rfl rfl)
theorem dX1_place_176 : decode cX1_place 176 = .ok (.aload_n 0, 1) := dk_42 (dk_at dksX1_place_7 13 rfl rfl)
theorem dX1_place_177 : decode cX1_place 177 = .ok (.aload_n 0, 1) := dk_42 (dk_at dksX1_place_7 14 rfl rfl)
theorem dX1_place_178 : decode cX1_place 178 = .ok (.getfield 227, 3) := dk_180 0 227 (dk_at dksX1_place_7 15 rfl rfl)
theorem dX1_place_181 : decode cX1_place 181 = .ok (.iconst 3, 1) := dk_6 (dk_at dksX1_place_7 18 rfl rfl)
theorem dX1_place_182 : decode cX1_place 182 = .ok (.if_icmp .ge 10, 3) := dk_162 0 10 (dk_at dksX1_place_7 19 rfl rfl)
theorem dX1_place_185 : decode cX1_place 185 = .ok (.aload_n 0, 1) := dk_42 (dk_at dksX1_place_7 22 rfl rfl)
theorem dX1_place_186 : decode cX1_place 186 = .ok (.getfield 227, 3) := dk_180 0 227 (dk_at dksX1_place_8 0 rfl rfl)
theorem dX1_place_189 : decode cX1_place 189 = .ok (.goto 13, 3) := dk_167 0 13 (dk_at dksX1_place_8 3 rfl rfl)
theorem dX1_place_192 : decode cX1_place 192 = .ok (.iconst 0, 1) := dk_3 (dk_at dksX1_place_8 6 rfl rfl)
theorem dX1_place_193 : decode cX1_place 193 = .ok (.iconst 5, 1) := dk_8 (dk_at dksX1_place_8 7 rfl rfl)
theorem dX1_place_194 : decode cX1_place 194 = .ok (.aload_n 0, 1) := dk_42 (dk_at dksX1_place_8 8 rfl rfl)
theorem dX1_place_195 : decode cX1_place 195 = .ok (.getfield 227, 3) := dk_180 0 227 (dk_at dksX1_place_8 9 rfl rfl)
theorem dX1_place_198 : decode cX1_place 198 = .ok (.isub, 1) := dk_100 (dk_at dksX1_place_8 12 rfl rfl)
theorem dX1_place_199 : decode cX1_place 199 = .ok (.invokestatic 136, 3) := dk_184 0 136 (dk_at dksX1_place_8 13 rfl rfl)
theorem dX1_place_202 : decode cX1_place 202 = .ok (.putfield 176, 3) := dk_181 0 176 (dk_at dksX1_place_8 16 rfl rfl)
theorem dX1_place_205 : decode cX1_place 205 = .ok (.aload_n 0, 1) := dk_42 (dk_at dksX1_place_8 19 rfl rfl)
theorem dX1_place_206 : decode cX1_place 206 = .ok (.getfield 227, 3) := dk_180 0 227 (dk_at dksX1_place_8 20 rfl rfl)
theorem dX1_place_209 : decode cX1_place 209 = .ok (.bipush 6, 2) := dk_16 6 (dk_at dksX1_place_9 0 rfl rfl)
theorem dX1_place_211 : decode cX1_place 211 = .ok (.if_icmp .ne 13, 3) := dk_160 0 13 (dk_at dksX1_place_9 2 rfl rfl)
theorem dX1_place_214 : decode cX1_place 214 = .ok (.aload_n 0, 1) := dk_42 (dk_at dksX1_place_9 5 rfl rfl)
theorem dX1_place_215 : decode cX1_place 215 = .ok (.iconst 1, 1) := dk_4 (dk_at dksX1_place_9 6 rfl rfl)
theorem dX1_place_216 : decode cX1_place 216 = .ok (.putfield 52, 3) := dk_181 0 52 (dk_at dksX1_place_9 7 rfl rfl)
theorem dX1_place_219 : decode cX1_place 219 = .ok (.aload_n 0, 1) := dk_42 (dk_at dksX1_place_9 10 rfl rfl)
theorem dX1_place_220 : decode cX1_place 220 = .ok (.iconst 1, 1) := dk_4 (dk_at dksX1_place_9 11 rfl rfl)
theorem dX1_place_221 : decode cX1_place 221 = .ok (.putfield 185, 3) := dk_181 0 185 (dk_at dksX1_place_9 12 rfl rfl)
theorem dX1_place_224 : decode cX1_place 224 = .ok (.aload_n 0, 1) := dk_42 (dk_at dksX1_place_9 15 rfl rfl)
theorem dX1_place_225 : decode cX1_place 225 = .ok (.iconst 1, 1) := dk_4 (dk_at dksX1_place_9 16 rfl rfl)
theorem dX1_place_226 : decode cX1_place 226 = .ok (.invokevirtual 246, 3) := dk_182 0 246 (dk_at dksX1_place_9 17 rfl rfl)
theorem dX1_place_229 : decode cX1_place 229 = .ok (.aload_n 0, 1) := dk_42 (dk_at dksX1_place_9 20 rfl rfl)
theorem dX1_place_230 : decode cX1_place 230 = .ok (.getfield 176, 3) := dk_180 0 176 (dk_at dksX1_place_9 21 rfl rfl)
theorem dX1_place_233 : decode cX1_place 233 = .ok (.ireturn, 1) := dk_172 (dk_at dksX1_place_10 0 rfl rfl)
abbrev cX1_isFree : ByteArray := prog_1_method_7_code
def yX1_isFree : MethodName := ⟨RX1, "isFree", "(I)Z"⟩
def dkwX1_isFree_2 : List UInt8 := [167, 0, 4, 3, 126, 61, 132, 3, 1, 167, 255, 218, 28, 172]
abbrev dktX1_isFree_2 : List UInt8 := dkwX1_isFree_2 ++ []
def dkwX1_isFree_1 : List UInt8 := [29, 27, 184, 0, 76, 153, 0, 16, 42, 180, 0, 17, 29, 27, 184, 0, 80, 50, 199, 0, 7, 4]
abbrev dktX1_isFree_1 : List UInt8 := dkwX1_isFree_1 ++ dktX1_isFree_2
def dkwX1_isFree_0 : List UInt8 := [42, 180, 0, 17, 27, 50, 199, 0, 7, 4, 167, 0, 4, 3, 61, 3, 62, 29, 16, 30, 162, 0, 38, 28]
abbrev dktX1_isFree_0 : List UInt8 := dkwX1_isFree_0 ++ dktX1_isFree_1
theorem dksX1_isFree_0 : cX1_isFree.data.toList.drop 0 = dktX1_isFree_0 := by decide +kernel
theorem dksX1_isFree_1 : cX1_isFree.data.toList.drop 24 = dktX1_isFree_1 := dk_seg dksX1_isFree_0 24 rfl rfl
theorem dksX1_isFree_2 : cX1_isFree.data.toList.drop 46 = dktX1_isFree_2 := dk_seg dksX1_isFree_1 22 rfl rfl
theorem dX1_isFree_0 : decode cX1_isFree 0 = .ok (.aload_n 0, 1) := dk_42 (dk_at dksX1_isFree_0 0 rfl rfl)
theorem dX1_isFree_1 : decode cX1_isFree 1 = .ok (.getfield 17, 3) := dk_180 0 17 (dk_at dksX1_isFree_0 1 rfl rfl)
theorem dX1_isFree_4 : decode cX1_isFree 4 = .ok (.iload_n 1, 1) := dk_27 (dk_at dksX1_isFree_0 4 rfl rfl)
theorem dX1_isFree_5 : decode cX1_isFree 5 = .ok (.aaload, 1) := dk_50 (dk_at dksX1_isFree_0 5 rfl rfl)
theorem dX1_isFree_6 : decode cX1_isFree 6 = .ok (.ifnonnull 7, 3) := dk_199 0 7 (dk_at dksX1_isFree_0 6 rfl rfl)
theorem dX1_isFree_9 : decode cX1_isFree 9 = .ok (.iconst 1, 1) := dk_4 (dk_at dksX1_isFree_0 9 rfl rfl)
theorem dX1_isFree_10 : decode cX1_isFree 10 = .ok (.goto 4, 3) := dk_167 0 4 (dk_at dksX1_isFree_0 10 rfl rfl)
theorem dX1_isFree_13 : decode cX1_isFree 13 = .ok (.iconst 0, 1) := dk_3 (dk_at dksX1_isFree_0 13 rfl rfl)
theorem dX1_isFree_14 : decode cX1_isFree 14 = .ok (.istore_n 2, 1) := dk_61 (dk_at dksX1_isFree_0 14 rfl rfl)
theorem dX1_isFree_15 : decode cX1_isFree 15 = .ok (.iconst 0, 1) := dk_3 (dk_at dksX1_isFree_0 15 rfl rfl)
theorem dX1_isFree_16 : decode cX1_isFree 16 = .ok (.istore_n 3, 1) := dk_62 (dk_at dksX1_isFree_0 16 rfl rfl)
theorem dX1_isFree_17 : decode cX1_isFree 17 = .ok (.iload_n 3, 1) := dk_29 (dk_at dksX1_isFree_0 17 rfl rfl)
theorem dX1_isFree_18 : decode cX1_isFree 18 = .ok (.bipush 30, 2) := dk_16 30 (dk_at dksX1_isFree_0 18 rfl rfl)
theorem dX1_isFree_20 : decode cX1_isFree 20 = .ok (.if_icmp .ge 38, 3) := dk_162 0 38 (dk_at dksX1_isFree_0 20 rfl rfl)
theorem dX1_isFree_23 : decode cX1_isFree 23 = .ok (.iload_n 2, 1) := dk_28 (dk_at dksX1_isFree_0 23 rfl rfl)
theorem dX1_isFree_24 : decode cX1_isFree 24 = .ok (.iload_n 3, 1) := dk_29 (dk_at dksX1_isFree_1 0 rfl rfl)
theorem dX1_isFree_25 : decode cX1_isFree 25 = .ok (.iload_n 1, 1) := dk_27 (dk_at dksX1_isFree_1 1 rfl rfl)
theorem dX1_isFree_26 : decode cX1_isFree 26 = .ok (.invokestatic 76, 3) := dk_184 0 76 (dk_at dksX1_isFree_1 2 rfl rfl)
theorem dX1_isFree_29 : decode cX1_isFree 29 = .ok (.ifCond .eq 16, 3) := dk_153 0 16 (dk_at dksX1_isFree_1 5 rfl rfl)
theorem dX1_isFree_32 : decode cX1_isFree 32 = .ok (.aload_n 0, 1) := dk_42 (dk_at dksX1_isFree_1 8 rfl rfl)
theorem dX1_isFree_33 : decode cX1_isFree 33 = .ok (.getfield 17, 3) := dk_180 0 17 (dk_at dksX1_isFree_1 9 rfl rfl)
theorem dX1_isFree_36 : decode cX1_isFree 36 = .ok (.iload_n 3, 1) := dk_29 (dk_at dksX1_isFree_1 12 rfl rfl)
theorem dX1_isFree_37 : decode cX1_isFree 37 = .ok (.iload_n 1, 1) := dk_27 (dk_at dksX1_isFree_1 13 rfl rfl)
theorem dX1_isFree_38 : decode cX1_isFree 38 = .ok (.invokestatic 80, 3) := dk_184 0 80 (dk_at dksX1_isFree_1 14 rfl rfl)
theorem dX1_isFree_41 : decode cX1_isFree 41 = .ok (.aaload, 1) := dk_50 (dk_at dksX1_isFree_1 17 rfl rfl)
theorem dX1_isFree_42 : decode cX1_isFree 42 = .ok (.ifnonnull 7, 3) := dk_199 0 7 (dk_at dksX1_isFree_1 18 rfl rfl)
theorem dX1_isFree_45 : decode cX1_isFree 45 = .ok (.iconst 1, 1) := dk_4 (dk_at dksX1_isFree_1 21 rfl rfl)
theorem dX1_isFree_46 : decode cX1_isFree 46 = .ok (.goto 4, 3) := dk_167 0 4 (dk_at dksX1_isFree_2 0 rfl rfl)
theorem dX1_isFree_49 : decode cX1_isFree 49 = .ok (.iconst 0, 1) := dk_3 (dk_at dksX1_isFree_2 3 rfl rfl)
theorem dX1_isFree_50 : decode cX1_isFree 50 = .ok (.iand, 1) := dk_126 (dk_at dksX1_isFree_2 4 rfl rfl)
theorem dX1_isFree_51 : decode cX1_isFree 51 = .ok (.istore_n 2, 1) := dk_61 (dk_at dksX1_isFree_2 5 rfl rfl)
theorem dX1_isFree_52 : decode cX1_isFree 52 = .ok (.iinc 3 1, 3) := dk_132 3 1 (dk_at dksX1_isFree_2 6 rfl rfl)
theorem dX1_isFree_55 : decode cX1_isFree 55 = .ok (.goto (-38), 3) := dk_167 255 218 (dk_at dksX1_isFree_2 9 rfl rfl)
theorem dX1_isFree_58 : decode cX1_isFree 58 = .ok (.iload_n 2, 1) := dk_28 (dk_at dksX1_isFree_2 12 rfl rfl)
theorem dX1_isFree_59 : decode cX1_isFree 59 = .ok (.ireturn, 1) := dk_172 (dk_at dksX1_isFree_2 13 rfl rfl)
abbrev cX1_isAt : ByteArray := prog_1_method_3_code
def yX1_isAt : MethodName := ⟨RX1, "isAt", "(II)Z"⟩
def dkwX1_isAt_0 : List UInt8 := [26, 3, 184, 0, 68, 27, 159, 0, 12, 26, 4, 184, 0, 68, 27, 160, 0, 7, 4, 167, 0, 4, 3, 172]
abbrev dktX1_isAt_0 : List UInt8 := dkwX1_isAt_0 ++ []
theorem dksX1_isAt_0 : cX1_isAt.data.toList.drop 0 = dktX1_isAt_0 := by decide +kernel
theorem dX1_isAt_0 : decode cX1_isAt 0 = .ok (.iload_n 0, 1) := dk_26 (dk_at dksX1_isAt_0 0 rfl rfl)
theorem dX1_isAt_1 : decode cX1_isAt 1 = .ok (.iconst 0, 1) := dk_3 (dk_at dksX1_isAt_0 1 rfl rfl)
theorem dX1_isAt_2 : decode cX1_isAt 2 = .ok (.invokestatic 68, 3) := dk_184 0 68 (dk_at dksX1_isAt_0 2 rfl rfl)
theorem dX1_isAt_5 : decode cX1_isAt 5 = .ok (.iload_n 1, 1) := dk_27 (dk_at dksX1_isAt_0 5 rfl rfl)
theorem dX1_isAt_6 : decode cX1_isAt 6 = .ok (.if_icmp .eq 12, 3) := dk_159 0 12 (dk_at dksX1_isAt_0 6 rfl rfl)
theorem dX1_isAt_9 : decode cX1_isAt 9 = .ok (.iload_n 0, 1) := dk_26 (dk_at dksX1_isAt_0 9 rfl rfl)
theorem dX1_isAt_10 : decode cX1_isAt 10 = .ok (.iconst 1, 1) := dk_4 (dk_at dksX1_isAt_0 10 rfl rfl)
theorem dX1_isAt_11 : decode cX1_isAt 11 = .ok (.invokestatic 68, 3) := dk_184 0 68 (dk_at dksX1_isAt_0 11 rfl rfl)
theorem dX1_isAt_14 : decode cX1_isAt 14 = .ok (.iload_n 1, 1) := dk_27 (dk_at dksX1_isAt_0 14 rfl rfl)
theorem dX1_isAt_15 : decode cX1_isAt 15 = .ok (.if_icmp .ne 7, 3) := dk_160 0 7 (dk_at dksX1_isAt_0 15 rfl rfl)
theorem dX1_isAt_18 : decode cX1_isAt 18 = .ok (.iconst 1, 1) := dk_4 (dk_at dksX1_isAt_0 18 rfl rfl)
theorem dX1_isAt_19 : decode cX1_isAt 19 = .ok (.goto 4, 3) := dk_167 0 4 (dk_at dksX1_isAt_0 19 rfl rfl)
theorem dX1_isAt_22 : decode cX1_isAt 22 = .ok (.iconst 0, 1) := dk_3 (dk_at dksX1_isAt_0 22 rfl rfl)
theorem dX1_isAt_23 : decode cX1_isAt 23 = .ok (.ireturn, 1) := dk_172 (dk_at dksX1_isAt_0 23 rfl rfl)
abbrev cX1_end : ByteArray := prog_1_method_2_code
def yX1_end : MethodName := ⟨RX1, "end", "(II)I"⟩
def dkwX1_end_2 : List UInt8 := [16, 6, 26, 16, 12, 100, 27, 96, 16, 18, 112, 96, 172]
abbrev dktX1_end_2 : List UInt8 := dkwX1_end_2 ++ []
def dkwX1_end_1 : List UInt8 := [162, 0, 24, 27, 154, 0, 10, 26, 16, 6, 100, 167, 0, 12, 16, 6, 6, 26, 16, 6, 100, 104, 96, 172]
abbrev dktX1_end_1 : List UInt8 := dkwX1_end_1 ++ dktX1_end_2
def dkwX1_end_0 : List UInt8 := [26, 16, 6, 162, 0, 18, 27, 154, 0, 7, 26, 167, 0, 9, 26, 4, 96, 16, 6, 112, 172, 26, 16, 12]
abbrev dktX1_end_0 : List UInt8 := dkwX1_end_0 ++ dktX1_end_1
theorem dksX1_end_0 : cX1_end.data.toList.drop 0 = dktX1_end_0 := by decide +kernel
theorem dksX1_end_1 : cX1_end.data.toList.drop 24 = dktX1_end_1 := dk_seg dksX1_end_0 24 rfl rfl
theorem dksX1_end_2 : cX1_end.data.toList.drop 48 = dktX1_end_2 := dk_seg dksX1_end_1 24 rfl rfl
theorem dX1_end_0 : decode cX1_end 0 = .ok (.iload_n 0, 1) := dk_26 (dk_at dksX1_end_0 0 rfl rfl)
theorem dX1_end_1 : decode cX1_end 1 = .ok (.bipush 6, 2) := dk_16 6 (dk_at dksX1_end_0 1 rfl rfl)
theorem dX1_end_3 : decode cX1_end 3 = .ok (.if_icmp .ge 18, 3) := dk_162 0 18 (dk_at dksX1_end_0 3 rfl rfl)
theorem dX1_end_6 : decode cX1_end 6 = .ok (.iload_n 1, 1) := dk_27 (dk_at dksX1_end_0 6 rfl rfl)
theorem dX1_end_7 : decode cX1_end 7 = .ok (.ifCond .ne 7, 3) := dk_154 0 7 (dk_at dksX1_end_0 7 rfl rfl)
theorem dX1_end_10 : decode cX1_end 10 = .ok (.iload_n 0, 1) := dk_26 (dk_at dksX1_end_0 10 rfl rfl)
theorem dX1_end_11 : decode cX1_end 11 = .ok (.goto 9, 3) := dk_167 0 9 (dk_at dksX1_end_0 11 rfl rfl)
theorem dX1_end_14 : decode cX1_end 14 = .ok (.iload_n 0, 1) := dk_26 (dk_at dksX1_end_0 14 rfl rfl)
theorem dX1_end_15 : decode cX1_end 15 = .ok (.iconst 1, 1) := dk_4 (dk_at dksX1_end_0 15 rfl rfl)
theorem dX1_end_16 : decode cX1_end 16 = .ok (.iadd, 1) := dk_96 (dk_at dksX1_end_0 16 rfl rfl)
theorem dX1_end_17 : decode cX1_end 17 = .ok (.bipush 6, 2) := dk_16 6 (dk_at dksX1_end_0 17 rfl rfl)
theorem dX1_end_19 : decode cX1_end 19 = .ok (.irem, 1) := dk_112 (dk_at dksX1_end_0 19 rfl rfl)
theorem dX1_end_20 : decode cX1_end 20 = .ok (.ireturn, 1) := dk_172 (dk_at dksX1_end_0 20 rfl rfl)
theorem dX1_end_21 : decode cX1_end 21 = .ok (.iload_n 0, 1) := dk_26 (dk_at dksX1_end_0 21 rfl rfl)
theorem dX1_end_22 : decode cX1_end 22 = .ok (.bipush 12, 2) := dk_16 12 (dk_at dksX1_end_0 22 rfl rfl)
theorem dX1_end_24 : decode cX1_end 24 = .ok (.if_icmp .ge 24, 3) := dk_162 0 24 (dk_at dksX1_end_1 0 rfl rfl)
theorem dX1_end_27 : decode cX1_end 27 = .ok (.iload_n 1, 1) := dk_27 (dk_at dksX1_end_1 3 rfl rfl)
theorem dX1_end_28 : decode cX1_end 28 = .ok (.ifCond .ne 10, 3) := dk_154 0 10 (dk_at dksX1_end_1 4 rfl rfl)
theorem dX1_end_31 : decode cX1_end 31 = .ok (.iload_n 0, 1) := dk_26 (dk_at dksX1_end_1 7 rfl rfl)
theorem dX1_end_32 : decode cX1_end 32 = .ok (.bipush 6, 2) := dk_16 6 (dk_at dksX1_end_1 8 rfl rfl)
theorem dX1_end_34 : decode cX1_end 34 = .ok (.isub, 1) := dk_100 (dk_at dksX1_end_1 10 rfl rfl)
theorem dX1_end_35 : decode cX1_end 35 = .ok (.goto 12, 3) := dk_167 0 12 (dk_at dksX1_end_1 11 rfl rfl)
theorem dX1_end_38 : decode cX1_end 38 = .ok (.bipush 6, 2) := dk_16 6 (dk_at dksX1_end_1 14 rfl rfl)
theorem dX1_end_40 : decode cX1_end 40 = .ok (.iconst 3, 1) := dk_6 (dk_at dksX1_end_1 16 rfl rfl)
theorem dX1_end_41 : decode cX1_end 41 = .ok (.iload_n 0, 1) := dk_26 (dk_at dksX1_end_1 17 rfl rfl)
theorem dX1_end_42 : decode cX1_end 42 = .ok (.bipush 6, 2) := dk_16 6 (dk_at dksX1_end_1 18 rfl rfl)
theorem dX1_end_44 : decode cX1_end 44 = .ok (.isub, 1) := dk_100 (dk_at dksX1_end_1 20 rfl rfl)
theorem dX1_end_45 : decode cX1_end 45 = .ok (.imul, 1) := dk_104 (dk_at dksX1_end_1 21 rfl rfl)
theorem dX1_end_46 : decode cX1_end 46 = .ok (.iadd, 1) := dk_96 (dk_at dksX1_end_1 22 rfl rfl)
theorem dX1_end_47 : decode cX1_end 47 = .ok (.ireturn, 1) := dk_172 (dk_at dksX1_end_1 23 rfl rfl)
theorem dX1_end_48 : decode cX1_end 48 = .ok (.bipush 6, 2) := dk_16 6 (dk_at dksX1_end_2 0 rfl rfl)
theorem dX1_end_50 : decode cX1_end 50 = .ok (.iload_n 0, 1) := dk_26 (dk_at dksX1_end_2 2 rfl rfl)
theorem dX1_end_51 : decode cX1_end 51 = .ok (.bipush 12, 2) := dk_16 12 (dk_at dksX1_end_2 3 rfl rfl)
theorem dX1_end_53 : decode cX1_end 53 = .ok (.isub, 1) := dk_100 (dk_at dksX1_end_2 5 rfl rfl)
theorem dX1_end_54 : decode cX1_end 54 = .ok (.iload_n 1, 1) := dk_27 (dk_at dksX1_end_2 6 rfl rfl)
theorem dX1_end_55 : decode cX1_end 55 = .ok (.iadd, 1) := dk_96 (dk_at dksX1_end_2 7 rfl rfl)
theorem dX1_end_56 : decode cX1_end 56 = .ok (.bipush 18, 2) := dk_16 18 (dk_at dksX1_end_2 8 rfl rfl)
theorem dX1_end_58 : decode cX1_end 58 = .ok (.irem, 1) := dk_112 (dk_at dksX1_end_2 10 rfl rfl)
theorem dX1_end_59 : decode cX1_end 59 = .ok (.iadd, 1) := dk_96 (dk_at dksX1_end_2 11 rfl rfl)
theorem dX1_end_60 : decode cX1_end 60 = .ok (.ireturn, 1) := dk_172 (dk_at dksX1_end_2 12 rfl rfl)
abbrev cX1_otherEnd : ByteArray := prog_1_method_4_code
def yX1_otherEnd : MethodName := ⟨RX1, "otherEnd", "(II)I"⟩
def dkwX1_otherEnd_0 : List UInt8 := [26, 3, 184, 0, 68, 27, 160, 0, 11, 26, 4, 184, 0, 68, 167, 0, 8, 26, 3, 184, 0, 68, 172]
abbrev dktX1_otherEnd_0 : List UInt8 := dkwX1_otherEnd_0 ++ []
theorem dksX1_otherEnd_0 : cX1_otherEnd.data.toList.drop 0 = dktX1_otherEnd_0 := by decide +kernel
theorem dX1_otherEnd_0 : decode cX1_otherEnd 0 = .ok (.iload_n 0, 1) := dk_26 (dk_at dksX1_otherEnd_0 0 rfl rfl)
theorem dX1_otherEnd_1 : decode cX1_otherEnd 1 = .ok (.iconst 0, 1) := dk_3 (dk_at dksX1_otherEnd_0 1 rfl rfl)
theorem dX1_otherEnd_2 : decode cX1_otherEnd 2 = .ok (.invokestatic 68, 3) := dk_184 0 68 (dk_at dksX1_otherEnd_0 2 rfl rfl)
theorem dX1_otherEnd_5 : decode cX1_otherEnd 5 = .ok (.iload_n 1, 1) := dk_27 (dk_at dksX1_otherEnd_0 5 rfl rfl)
theorem dX1_otherEnd_6 : decode cX1_otherEnd 6 = .ok (.if_icmp .ne 11, 3) := dk_160 0 11 (dk_at dksX1_otherEnd_0 6 rfl rfl)
theorem dX1_otherEnd_9 : decode cX1_otherEnd 9 = .ok (.iload_n 0, 1) := dk_26 (dk_at dksX1_otherEnd_0 9 rfl rfl)
theorem dX1_otherEnd_10 : decode cX1_otherEnd 10 = .ok (.iconst 1, 1) := dk_4 (dk_at dksX1_otherEnd_0 10 rfl rfl)
theorem dX1_otherEnd_11 : decode cX1_otherEnd 11 = .ok (.invokestatic 68, 3) := dk_184 0 68 (dk_at dksX1_otherEnd_0 11 rfl rfl)
theorem dX1_otherEnd_14 : decode cX1_otherEnd 14 = .ok (.goto 8, 3) := dk_167 0 8 (dk_at dksX1_otherEnd_0 14 rfl rfl)
theorem dX1_otherEnd_17 : decode cX1_otherEnd 17 = .ok (.iload_n 0, 1) := dk_26 (dk_at dksX1_otherEnd_0 17 rfl rfl)
theorem dX1_otherEnd_18 : decode cX1_otherEnd 18 = .ok (.iconst 0, 1) := dk_3 (dk_at dksX1_otherEnd_0 18 rfl rfl)
theorem dX1_otherEnd_19 : decode cX1_otherEnd 19 = .ok (.invokestatic 68, 3) := dk_184 0 68 (dk_at dksX1_otherEnd_0 19 rfl rfl)
theorem dX1_otherEnd_22 : decode cX1_otherEnd 22 = .ok (.ireturn, 1) := dk_172 (dk_at dksX1_otherEnd_0 22 rfl rfl)
abbrev cX1_move : ByteArray := prog_1_method_16_code
def yX1_move : MethodName := ⟨RX1, "move", "(IIII)V"⟩
def dkwX1_move_2 : List UInt8 := [185, 0, 106, 2, 0, 87, 177]
abbrev dktX1_move_2 : List UInt8 := dkwX1_move_2 ++ []
def dkwX1_move_1 : List UInt8 := [29, 92, 46, 21, 4, 96, 79, 42, 180, 0, 43, 187, 0, 101, 89, 27, 28, 29, 21, 4, 183, 0, 103]
abbrev dktX1_move_1 : List UInt8 := dkwX1_move_1 ++ dktX1_move_2
def dkwX1_move_0 : List UInt8 := [21, 4, 158, 0, 51, 42, 180, 0, 27, 27, 50, 29, 92, 46, 21, 4, 100, 79, 42, 180, 0, 27, 28, 50]
abbrev dktX1_move_0 : List UInt8 := dkwX1_move_0 ++ dktX1_move_1
theorem dksX1_move_0 : cX1_move.data.toList.drop 0 = dktX1_move_0 := by decide +kernel
theorem dksX1_move_1 : cX1_move.data.toList.drop 24 = dktX1_move_1 := dk_seg dksX1_move_0 24 rfl rfl
theorem dksX1_move_2 : cX1_move.data.toList.drop 47 = dktX1_move_2 := dk_seg dksX1_move_1 23 rfl rfl
theorem dX1_move_0 : decode cX1_move 0 = .ok (.iload 4, 2) := dk_21 4 (dk_at dksX1_move_0 0 rfl rfl)
theorem dX1_move_2 : decode cX1_move 2 = .ok (.ifCond .le 51, 3) := dk_158 0 51 (dk_at dksX1_move_0 2 rfl rfl)
theorem dX1_move_5 : decode cX1_move 5 = .ok (.aload_n 0, 1) := dk_42 (dk_at dksX1_move_0 5 rfl rfl)
theorem dX1_move_6 : decode cX1_move 6 = .ok (.getfield 27, 3) := dk_180 0 27 (dk_at dksX1_move_0 6 rfl rfl)
theorem dX1_move_9 : decode cX1_move 9 = .ok (.iload_n 1, 1) := dk_27 (dk_at dksX1_move_0 9 rfl rfl)
theorem dX1_move_10 : decode cX1_move 10 = .ok (.aaload, 1) := dk_50 (dk_at dksX1_move_0 10 rfl rfl)
theorem dX1_move_11 : decode cX1_move 11 = .ok (.iload_n 3, 1) := dk_29 (dk_at dksX1_move_0 11 rfl rfl)
theorem dX1_move_12 : decode cX1_move 12 = .ok (.dup2, 1) := dk_92 (dk_at dksX1_move_0 12 rfl rfl)
theorem dX1_move_13 : decode cX1_move 13 = .ok (.iaload, 1) := dk_46 (dk_at dksX1_move_0 13 rfl rfl)
theorem dX1_move_14 : decode cX1_move 14 = .ok (.iload 4, 2) := dk_21 4 (dk_at dksX1_move_0 14 rfl rfl)
theorem dX1_move_16 : decode cX1_move 16 = .ok (.isub, 1) := dk_100 (dk_at dksX1_move_0 16 rfl rfl)
theorem dX1_move_17 : decode cX1_move 17 = .ok (.iastore, 1) := dk_79 (dk_at dksX1_move_0 17 rfl rfl)
theorem dX1_move_18 : decode cX1_move 18 = .ok (.aload_n 0, 1) := dk_42 (dk_at dksX1_move_0 18 rfl rfl)
theorem dX1_move_19 : decode cX1_move 19 = .ok (.getfield 27, 3) := dk_180 0 27 (dk_at dksX1_move_0 19 rfl rfl)
theorem dX1_move_22 : decode cX1_move 22 = .ok (.iload_n 2, 1) := dk_28 (dk_at dksX1_move_0 22 rfl rfl)
theorem dX1_move_23 : decode cX1_move 23 = .ok (.aaload, 1) := dk_50 (dk_at dksX1_move_0 23 rfl rfl)
theorem dX1_move_24 : decode cX1_move 24 = .ok (.iload_n 3, 1) := dk_29 (dk_at dksX1_move_1 0 rfl rfl)
theorem dX1_move_25 : decode cX1_move 25 = .ok (.dup2, 1) := dk_92 (dk_at dksX1_move_1 1 rfl rfl)
theorem dX1_move_26 : decode cX1_move 26 = .ok (.iaload, 1) := dk_46 (dk_at dksX1_move_1 2 rfl rfl)
theorem dX1_move_27 : decode cX1_move 27 = .ok (.iload 4, 2) := dk_21 4 (dk_at dksX1_move_1 3 rfl rfl)
theorem dX1_move_29 : decode cX1_move 29 = .ok (.iadd, 1) := dk_96 (dk_at dksX1_move_1 5 rfl rfl)
theorem dX1_move_30 : decode cX1_move 30 = .ok (.iastore, 1) := dk_79 (dk_at dksX1_move_1 6 rfl rfl)
theorem dX1_move_31 : decode cX1_move 31 = .ok (.aload_n 0, 1) := dk_42 (dk_at dksX1_move_1 7 rfl rfl)
theorem dX1_move_32 : decode cX1_move 32 = .ok (.getfield 43, 3) := dk_180 0 43 (dk_at dksX1_move_1 8 rfl rfl)
theorem dX1_move_35 : decode cX1_move 35 = .ok (.new 101, 3) := dk_187 0 101 (dk_at dksX1_move_1 11 rfl rfl)
theorem dX1_move_38 : decode cX1_move 38 = .ok (.dup, 1) := dk_89 (dk_at dksX1_move_1 14 rfl rfl)
theorem dX1_move_39 : decode cX1_move 39 = .ok (.iload_n 1, 1) := dk_27 (dk_at dksX1_move_1 15 rfl rfl)
theorem dX1_move_40 : decode cX1_move 40 = .ok (.iload_n 2, 1) := dk_28 (dk_at dksX1_move_1 16 rfl rfl)
theorem dX1_move_41 : decode cX1_move 41 = .ok (.iload_n 3, 1) := dk_29 (dk_at dksX1_move_1 17 rfl rfl)
theorem dX1_move_42 : decode cX1_move 42 = .ok (.iload 4, 2) := dk_21 4 (dk_at dksX1_move_1 18 rfl rfl)
theorem dX1_move_44 : decode cX1_move 44 = .ok (.invokespecial 103, 3) := dk_183 0 103 (dk_at dksX1_move_1 20 rfl rfl)
theorem dX1_move_47 : decode cX1_move 47 = .ok (.invokeinterface 106 2, 5) := by decide +kernel
theorem dX1_move_52 : decode cX1_move 52 = .ok (.pop, 1) := dk_87 (dk_at dksX1_move_2 5 rfl rfl)
theorem dX1_move_53 : decode cX1_move 53 = .ok (.return_, 1) := dk_177 (dk_at dksX1_move_2 6 rfl rfl)
abbrev cX1_done : ByteArray := prog_1_method_38_code
def yX1_done : MethodName := ⟨RX1, "done", "(Z)V"⟩
def dkwX1_done_0 : List UInt8 := [27, 153, 0, 7, 42, 182, 0, 218, 42, 182, 0, 221, 177]
abbrev dktX1_done_0 : List UInt8 := dkwX1_done_0 ++ []
theorem dksX1_done_0 : cX1_done.data.toList.drop 0 = dktX1_done_0 := by decide +kernel
theorem dX1_done_0 : decode cX1_done 0 = .ok (.iload_n 1, 1) := dk_27 (dk_at dksX1_done_0 0 rfl rfl)
theorem dX1_done_1 : decode cX1_done 1 = .ok (.ifCond .eq 7, 3) := dk_153 0 7 (dk_at dksX1_done_0 1 rfl rfl)
theorem dX1_done_4 : decode cX1_done 4 = .ok (.aload_n 0, 1) := dk_42 (dk_at dksX1_done_0 4 rfl rfl)
theorem dX1_done_5 : decode cX1_done 5 = .ok (.invokevirtual 218, 3) := dk_182 0 218 (dk_at dksX1_done_0 5 rfl rfl)
theorem dX1_done_8 : decode cX1_done 8 = .ok (.aload_n 0, 1) := dk_42 (dk_at dksX1_done_0 8 rfl rfl)
theorem dX1_done_9 : decode cX1_done 9 = .ok (.invokevirtual 221, 3) := dk_182 0 221 (dk_at dksX1_done_0 9 rfl rfl)
theorem dX1_done_12 : decode cX1_done 12 = .ok (.return_, 1) := dk_177 (dk_at dksX1_done_0 12 rfl rfl)
abbrev cX1_lookAtTrails : ByteArray := prog_1_method_24_code
def yX1_lookAtTrails : MethodName := ⟨RX1, "lookAtTrails", "()V"⟩
def dkwX1_lookAtTrails_5 : List UInt8 := [180, 0, 56, 167, 0, 13, 28, 4, 160, 0, 7, 29, 167, 0, 4, 2, 181, 0, 56, 177]
abbrev dktX1_lookAtTrails_5 : List UInt8 := dkwX1_lookAtTrails_5 ++ []
def dkwX1_lookAtTrails_4 : List UInt8 := [167, 0, 4, 3, 54, 4, 42, 27, 8, 162, 0, 7, 2, 167, 0, 25, 21, 4, 153, 0, 10, 42]
abbrev dktX1_lookAtTrails_4 : List UInt8 := dkwX1_lookAtTrails_4 ++ dktX1_lookAtTrails_5
def dkwX1_lookAtTrails_3 : List UInt8 := [167, 255, 195, 42, 180, 0, 56, 2, 159, 0, 19, 42, 42, 180, 0, 56, 182, 0, 145, 27, 160, 0, 7, 4]
abbrev dktX1_lookAtTrails_3 : List UInt8 := dkwX1_lookAtTrails_3 ++ dktX1_lookAtTrails_4
def dkwX1_lookAtTrails_2 : List UInt8 := [21, 5, 27, 164, 0, 8, 21, 4, 167, 0, 4, 29, 62, 27, 21, 5, 184, 0, 136, 60, 132, 4, 1]
abbrev dktX1_lookAtTrails_2 : List UInt8 := dkwX1_lookAtTrails_2 ++ dktX1_lookAtTrails_3
def dkwX1_lookAtTrails_1 : List UInt8 := [21, 5, 27, 164, 0, 7, 4, 167, 0, 16, 21, 5, 27, 160, 0, 9, 28, 4, 96, 167, 0, 4, 28, 61]
abbrev dktX1_lookAtTrails_1 : List UInt8 := dkwX1_lookAtTrails_1 ++ dktX1_lookAtTrails_2
def dkwX1_lookAtTrails_0 : List UInt8 := [3, 60, 3, 61, 2, 62, 3, 54, 4, 21, 4, 6, 162, 0, 61, 42, 21, 4, 182, 0, 145, 54, 5]
abbrev dktX1_lookAtTrails_0 : List UInt8 := dkwX1_lookAtTrails_0 ++ dktX1_lookAtTrails_1
theorem dksX1_lookAtTrails_0 : cX1_lookAtTrails.data.toList.drop 0 = dktX1_lookAtTrails_0 := by decide +kernel
theorem dksX1_lookAtTrails_1 : cX1_lookAtTrails.data.toList.drop 23 = dktX1_lookAtTrails_1 := dk_seg dksX1_lookAtTrails_0 23 rfl rfl
theorem dksX1_lookAtTrails_2 : cX1_lookAtTrails.data.toList.drop 47 = dktX1_lookAtTrails_2 := dk_seg dksX1_lookAtTrails_1 24 rfl rfl
theorem dksX1_lookAtTrails_3 : cX1_lookAtTrails.data.toList.drop 70 = dktX1_lookAtTrails_3 := dk_seg dksX1_lookAtTrails_2 23 rfl rfl
theorem dksX1_lookAtTrails_4 : cX1_lookAtTrails.data.toList.drop 94 = dktX1_lookAtTrails_4 := dk_seg dksX1_lookAtTrails_3 24 rfl rfl
theorem dksX1_lookAtTrails_5 : cX1_lookAtTrails.data.toList.drop 116 = dktX1_lookAtTrails_5 := dk_seg dksX1_lookAtTrails_4 22 rfl rfl
theorem dX1_lookAtTrails_0 : decode cX1_lookAtTrails 0 = .ok (.iconst 0, 1) := dk_3 (dk_at dksX1_lookAtTrails_0 0 rfl rfl)
theorem dX1_lookAtTrails_1 : decode cX1_lookAtTrails 1 = .ok (.istore_n 1, 1) := dk_60 (dk_at dksX1_lookAtTrails_0 1 rfl rfl)
theorem dX1_lookAtTrails_2 : decode cX1_lookAtTrails 2 = .ok (.iconst 0, 1) := dk_3 (dk_at dksX1_lookAtTrails_0 2 rfl rfl)
theorem dX1_lookAtTrails_3 : decode cX1_lookAtTrails 3 = .ok (.istore_n 2, 1) := dk_61 (dk_at dksX1_lookAtTrails_0 3 rfl rfl)
theorem dX1_lookAtTrails_4 : decode cX1_lookAtTrails 4 = .ok (.iconst (-1), 1) := dk_2 (dk_at dksX1_lookAtTrails_0 4 rfl rfl)
theorem dX1_lookAtTrails_5 : decode cX1_lookAtTrails 5 = .ok (.istore_n 3, 1) := dk_62 (dk_at dksX1_lookAtTrails_0 5 rfl rfl)
theorem dX1_lookAtTrails_6 : decode cX1_lookAtTrails 6 = .ok (.iconst 0, 1) := dk_3 (dk_at dksX1_lookAtTrails_0 6 rfl rfl)
theorem dX1_lookAtTrails_7 : decode cX1_lookAtTrails 7 = .ok (.istore 4, 2) := dk_54 4 (dk_at dksX1_lookAtTrails_0 7 rfl rfl)
theorem dX1_lookAtTrails_9 : decode cX1_lookAtTrails 9 = .ok (.iload 4, 2) := dk_21 4 (dk_at dksX1_lookAtTrails_0 9 rfl rfl)
theorem dX1_lookAtTrails_11 : decode cX1_lookAtTrails 11 = .ok (.iconst 3, 1) := dk_6 (dk_at dksX1_lookAtTrails_0 11 rfl rfl)
theorem dX1_lookAtTrails_12 : decode cX1_lookAtTrails 12 = .ok (.if_icmp .ge 61, 3) := dk_162 0 61 (dk_at dksX1_lookAtTrails_0 12 rfl rfl)
theorem dX1_lookAtTrails_15 : decode cX1_lookAtTrails 15 = .ok (.aload_n 0, 1) := dk_42 (dk_at dksX1_lookAtTrails_0 15 rfl rfl)
theorem dX1_lookAtTrails_16 : decode cX1_lookAtTrails 16 = .ok (.iload 4, 2) := dk_21 4 (dk_at dksX1_lookAtTrails_0 16 rfl rfl)
theorem dX1_lookAtTrails_18 : decode cX1_lookAtTrails 18 = .ok (.invokevirtual 145, 3) := dk_182 0 145 (dk_at dksX1_lookAtTrails_0 18 rfl rfl)
theorem dX1_lookAtTrails_21 : decode cX1_lookAtTrails 21 = .ok (.istore 5, 2) := dk_54 5 (dk_at dksX1_lookAtTrails_0 21 rfl rfl)
theorem dX1_lookAtTrails_23 : decode cX1_lookAtTrails 23 = .ok (.iload 5, 2) := dk_21 5 (dk_at dksX1_lookAtTrails_1 0 rfl rfl)
theorem dX1_lookAtTrails_25 : decode cX1_lookAtTrails 25 = .ok (.iload_n 1, 1) := dk_27 (dk_at dksX1_lookAtTrails_1 2 rfl rfl)
theorem dX1_lookAtTrails_26 : decode cX1_lookAtTrails 26 = .ok (.if_icmp .le 7, 3) := dk_164 0 7 (dk_at dksX1_lookAtTrails_1 3 rfl rfl)
theorem dX1_lookAtTrails_29 : decode cX1_lookAtTrails 29 = .ok (.iconst 1, 1) := dk_4 (dk_at dksX1_lookAtTrails_1 6 rfl rfl)
theorem dX1_lookAtTrails_30 : decode cX1_lookAtTrails 30 = .ok (.goto 16, 3) := dk_167 0 16 (dk_at dksX1_lookAtTrails_1 7 rfl rfl)
theorem dX1_lookAtTrails_33 : decode cX1_lookAtTrails 33 = .ok (.iload 5, 2) := dk_21 5 (dk_at dksX1_lookAtTrails_1 10 rfl rfl)
theorem dX1_lookAtTrails_35 : decode cX1_lookAtTrails 35 = .ok (.iload_n 1, 1) := dk_27 (dk_at dksX1_lookAtTrails_1 12 rfl rfl)
theorem dX1_lookAtTrails_36 : decode cX1_lookAtTrails 36 = .ok (.if_icmp .ne 9, 3) := dk_160 0 9 (dk_at dksX1_lookAtTrails_1 13 rfl rfl)
theorem dX1_lookAtTrails_39 : decode cX1_lookAtTrails 39 = .ok (.iload_n 2, 1) := dk_28 (dk_at dksX1_lookAtTrails_1 16 rfl rfl)
theorem dX1_lookAtTrails_40 : decode cX1_lookAtTrails 40 = .ok (.iconst 1, 1) := dk_4 (dk_at dksX1_lookAtTrails_1 17 rfl rfl)
theorem dX1_lookAtTrails_41 : decode cX1_lookAtTrails 41 = .ok (.iadd, 1) := dk_96 (dk_at dksX1_lookAtTrails_1 18 rfl rfl)
theorem dX1_lookAtTrails_42 : decode cX1_lookAtTrails 42 = .ok (.goto 4, 3) := dk_167 0 4 (dk_at dksX1_lookAtTrails_1 19 rfl rfl)
theorem dX1_lookAtTrails_45 : decode cX1_lookAtTrails 45 = .ok (.iload_n 2, 1) := dk_28 (dk_at dksX1_lookAtTrails_1 22 rfl rfl)
theorem dX1_lookAtTrails_46 : decode cX1_lookAtTrails 46 = .ok (.istore_n 2, 1) := dk_61 (dk_at dksX1_lookAtTrails_1 23 rfl rfl)
theorem dX1_lookAtTrails_47 : decode cX1_lookAtTrails 47 = .ok (.iload 5, 2) := dk_21 5 (dk_at dksX1_lookAtTrails_2 0 rfl rfl)
theorem dX1_lookAtTrails_49 : decode cX1_lookAtTrails 49 = .ok (.iload_n 1, 1) := dk_27 (dk_at dksX1_lookAtTrails_2 2 rfl rfl)
theorem dX1_lookAtTrails_50 : decode cX1_lookAtTrails 50 = .ok (.if_icmp .le 8, 3) := dk_164 0 8 (dk_at dksX1_lookAtTrails_2 3 rfl rfl)
theorem dX1_lookAtTrails_53 : decode cX1_lookAtTrails 53 = .ok (.iload 4, 2) := dk_21 4 (dk_at dksX1_lookAtTrails_2 6 rfl rfl)
theorem dX1_lookAtTrails_55 : decode cX1_lookAtTrails 55 = .ok (.goto 4, 3) := dk_167 0 4 (dk_at dksX1_lookAtTrails_2 8 rfl rfl)
theorem dX1_lookAtTrails_58 : decode cX1_lookAtTrails 58 = .ok (.iload_n 3, 1) := dk_29 (dk_at dksX1_lookAtTrails_2 11 rfl rfl)
theorem dX1_lookAtTrails_59 : decode cX1_lookAtTrails 59 = .ok (.istore_n 3, 1) := dk_62 (dk_at dksX1_lookAtTrails_2 12 rfl rfl)
theorem dX1_lookAtTrails_60 : decode cX1_lookAtTrails 60 = .ok (.iload_n 1, 1) := dk_27 (dk_at dksX1_lookAtTrails_2 13 rfl rfl)
theorem dX1_lookAtTrails_61 : decode cX1_lookAtTrails 61 = .ok (.iload 5, 2) := dk_21 5 (dk_at dksX1_lookAtTrails_2 14 rfl rfl)
theorem dX1_lookAtTrails_63 : decode cX1_lookAtTrails 63 = .ok (.invokestatic 136, 3) := dk_184 0 136 (dk_at dksX1_lookAtTrails_2 16 rfl rfl)
theorem dX1_lookAtTrails_66 : decode cX1_lookAtTrails 66 = .ok (.istore_n 1, 1) := dk_60 (dk_at dksX1_lookAtTrails_2 19 rfl rfl)
theorem dX1_lookAtTrails_67 : decode cX1_lookAtTrails 67 = .ok (.iinc 4 1, 3) := dk_132 4 1 (dk_at dksX1_lookAtTrails_2 20 rfl rfl)
theorem dX1_lookAtTrails_70 : decode cX1_lookAtTrails 70 = .ok (.goto (-61), 3) := dk_167 255 195 (dk_at dksX1_lookAtTrails_3 0 rfl rfl)
theorem dX1_lookAtTrails_73 : decode cX1_lookAtTrails 73 = .ok (.aload_n 0, 1) := dk_42 (dk_at dksX1_lookAtTrails_3 3 rfl rfl)
theorem dX1_lookAtTrails_74 : decode cX1_lookAtTrails 74 = .ok (.getfield 56, 3) := dk_180 0 56 (dk_at dksX1_lookAtTrails_3 4 rfl rfl)
theorem dX1_lookAtTrails_77 : decode cX1_lookAtTrails 77 = .ok (.iconst (-1), 1) := dk_2 (dk_at dksX1_lookAtTrails_3 7 rfl rfl)
theorem dX1_lookAtTrails_78 : decode cX1_lookAtTrails 78 = .ok (.if_icmp .eq 19, 3) := dk_159 0 19 (dk_at dksX1_lookAtTrails_3 8 rfl rfl)
theorem dX1_lookAtTrails_81 : decode cX1_lookAtTrails 81 = .ok (.aload_n 0, 1) := dk_42 (dk_at dksX1_lookAtTrails_3 11 rfl rfl)
theorem dX1_lookAtTrails_82 : decode cX1_lookAtTrails 82 = .ok (.aload_n 0, 1) := dk_42 (dk_at dksX1_lookAtTrails_3 12 rfl rfl)
theorem dX1_lookAtTrails_83 : decode cX1_lookAtTrails 83 = .ok (.getfield 56, 3) := dk_180 0 56 (dk_at dksX1_lookAtTrails_3 13 rfl rfl)
theorem dX1_lookAtTrails_86 : decode cX1_lookAtTrails 86 = .ok (.invokevirtual 145, 3) := dk_182 0 145 (dk_at dksX1_lookAtTrails_3 16 rfl rfl)
theorem dX1_lookAtTrails_89 : decode cX1_lookAtTrails 89 = .ok (.iload_n 1, 1) := dk_27 (dk_at dksX1_lookAtTrails_3 19 rfl rfl)
theorem dX1_lookAtTrails_90 : decode cX1_lookAtTrails 90 = .ok (.if_icmp .ne 7, 3) := dk_160 0 7 (dk_at dksX1_lookAtTrails_3 20 rfl rfl)
theorem dX1_lookAtTrails_93 : decode cX1_lookAtTrails 93 = .ok (.iconst 1, 1) := dk_4 (dk_at dksX1_lookAtTrails_3 23 rfl rfl)
theorem dX1_lookAtTrails_94 : decode cX1_lookAtTrails 94 = .ok (.goto 4, 3) := dk_167 0 4 (dk_at dksX1_lookAtTrails_4 0 rfl rfl)
theorem dX1_lookAtTrails_97 : decode cX1_lookAtTrails 97 = .ok (.iconst 0, 1) := dk_3 (dk_at dksX1_lookAtTrails_4 3 rfl rfl)
theorem dX1_lookAtTrails_98 : decode cX1_lookAtTrails 98 = .ok (.istore 4, 2) := dk_54 4 (dk_at dksX1_lookAtTrails_4 4 rfl rfl)
theorem dX1_lookAtTrails_100 : decode cX1_lookAtTrails 100 = .ok (.aload_n 0, 1) := dk_42 (dk_at dksX1_lookAtTrails_4 6 rfl rfl)
theorem dX1_lookAtTrails_101 : decode cX1_lookAtTrails 101 = .ok (.iload_n 1, 1) := dk_27 (dk_at dksX1_lookAtTrails_4 7 rfl rfl)
theorem dX1_lookAtTrails_102 : decode cX1_lookAtTrails 102 = .ok (.iconst 5, 1) := dk_8 (dk_at dksX1_lookAtTrails_4 8 rfl rfl)
theorem dX1_lookAtTrails_103 : decode cX1_lookAtTrails 103 = .ok (.if_icmp .ge 7, 3) := dk_162 0 7 (dk_at dksX1_lookAtTrails_4 9 rfl rfl)
theorem dX1_lookAtTrails_106 : decode cX1_lookAtTrails 106 = .ok (.iconst (-1), 1) := dk_2 (dk_at dksX1_lookAtTrails_4 12 rfl rfl)
theorem dX1_lookAtTrails_107 : decode cX1_lookAtTrails 107 = .ok (.goto 25, 3) := dk_167 0 25 (dk_at dksX1_lookAtTrails_4 13 rfl rfl)
theorem dX1_lookAtTrails_110 : decode cX1_lookAtTrails 110 = .ok (.iload 4, 2) := dk_21 4 (dk_at dksX1_lookAtTrails_4 16 rfl rfl)
theorem dX1_lookAtTrails_112 : decode cX1_lookAtTrails 112 = .ok (.ifCond .eq 10, 3) := dk_153 0 10 (dk_at dksX1_lookAtTrails_4 18 rfl rfl)
theorem dX1_lookAtTrails_115 : decode cX1_lookAtTrails 115 = .ok (.aload_n 0, 1) := dk_42 (dk_at dksX1_lookAtTrails_4 21 rfl rfl)
theorem dX1_lookAtTrails_116 : decode cX1_lookAtTrails 116 = .ok (.getfield 56, 3) := dk_180 0 56 (dk_at dksX1_lookAtTrails_5 0 rfl rfl)
theorem dX1_lookAtTrails_119 : decode cX1_lookAtTrails 119 = .ok (.goto 13, 3) := dk_167 0 13 (dk_at dksX1_lookAtTrails_5 3 rfl rfl)
theorem dX1_lookAtTrails_122 : decode cX1_lookAtTrails 122 = .ok (.iload_n 2, 1) := dk_28 (dk_at dksX1_lookAtTrails_5 6 rfl rfl)
theorem dX1_lookAtTrails_123 : decode cX1_lookAtTrails 123 = .ok (.iconst 1, 1) := dk_4 (dk_at dksX1_lookAtTrails_5 7 rfl rfl)
theorem dX1_lookAtTrails_124 : decode cX1_lookAtTrails 124 = .ok (.if_icmp .ne 7, 3) := dk_160 0 7 (dk_at dksX1_lookAtTrails_5 8 rfl rfl)
theorem dX1_lookAtTrails_127 : decode cX1_lookAtTrails 127 = .ok (.iload_n 3, 1) := dk_29 (dk_at dksX1_lookAtTrails_5 11 rfl rfl)
theorem dX1_lookAtTrails_128 : decode cX1_lookAtTrails 128 = .ok (.goto 4, 3) := dk_167 0 4 (dk_at dksX1_lookAtTrails_5 12 rfl rfl)
theorem dX1_lookAtTrails_131 : decode cX1_lookAtTrails 131 = .ok (.iconst (-1), 1) := dk_2 (dk_at dksX1_lookAtTrails_5 15 rfl rfl)
theorem dX1_lookAtTrails_132 : decode cX1_lookAtTrails 132 = .ok (.putfield 56, 3) := dk_181 0 56 (dk_at dksX1_lookAtTrails_5 16 rfl rfl)
theorem dX1_lookAtTrails_135 : decode cX1_lookAtTrails 135 = .ok (.return_, 1) := dk_177 (dk_at dksX1_lookAtTrails_5 19 rfl rfl)
abbrev cX1_longest : ByteArray := prog_1_method_20_code
def yX1_longest : MethodName := ⟨RX1, "longest", "(I)I"⟩
def dkwX1_longest_1 : List UInt8 := [132, 3, 1, 167, 255, 235, 28, 172]
abbrev dktX1_longest_1 : List UInt8 := dkwX1_longest_1 ++ []
def dkwX1_longest_0 : List UInt8 := [3, 61, 3, 62, 29, 16, 24, 162, 0, 21, 28, 42, 27, 29, 3, 182, 0, 132, 184, 0, 136, 61]
abbrev dktX1_longest_0 : List UInt8 := dkwX1_longest_0 ++ dktX1_longest_1
theorem dksX1_longest_0 : cX1_longest.data.toList.drop 0 = dktX1_longest_0 := by decide +kernel
theorem dksX1_longest_1 : cX1_longest.data.toList.drop 22 = dktX1_longest_1 := dk_seg dksX1_longest_0 22 rfl rfl
theorem dX1_longest_0 : decode cX1_longest 0 = .ok (.iconst 0, 1) := dk_3 (dk_at dksX1_longest_0 0 rfl rfl)
theorem dX1_longest_1 : decode cX1_longest 1 = .ok (.istore_n 2, 1) := dk_61 (dk_at dksX1_longest_0 1 rfl rfl)
theorem dX1_longest_2 : decode cX1_longest 2 = .ok (.iconst 0, 1) := dk_3 (dk_at dksX1_longest_0 2 rfl rfl)
theorem dX1_longest_3 : decode cX1_longest 3 = .ok (.istore_n 3, 1) := dk_62 (dk_at dksX1_longest_0 3 rfl rfl)
theorem dX1_longest_4 : decode cX1_longest 4 = .ok (.iload_n 3, 1) := dk_29 (dk_at dksX1_longest_0 4 rfl rfl)
theorem dX1_longest_5 : decode cX1_longest 5 = .ok (.bipush 24, 2) := dk_16 24 (dk_at dksX1_longest_0 5 rfl rfl)
theorem dX1_longest_7 : decode cX1_longest 7 = .ok (.if_icmp .ge 21, 3) := dk_162 0 21 (dk_at dksX1_longest_0 7 rfl rfl)
theorem dX1_longest_10 : decode cX1_longest 10 = .ok (.iload_n 2, 1) := dk_28 (dk_at dksX1_longest_0 10 rfl rfl)
theorem dX1_longest_11 : decode cX1_longest 11 = .ok (.aload_n 0, 1) := dk_42 (dk_at dksX1_longest_0 11 rfl rfl)
theorem dX1_longest_12 : decode cX1_longest 12 = .ok (.iload_n 1, 1) := dk_27 (dk_at dksX1_longest_0 12 rfl rfl)
theorem dX1_longest_13 : decode cX1_longest 13 = .ok (.iload_n 3, 1) := dk_29 (dk_at dksX1_longest_0 13 rfl rfl)
theorem dX1_longest_14 : decode cX1_longest 14 = .ok (.iconst 0, 1) := dk_3 (dk_at dksX1_longest_0 14 rfl rfl)
theorem dX1_longest_15 : decode cX1_longest 15 = .ok (.invokevirtual 132, 3) := dk_182 0 132 (dk_at dksX1_longest_0 15 rfl rfl)
theorem dX1_longest_18 : decode cX1_longest 18 = .ok (.invokestatic 136, 3) := dk_184 0 136 (dk_at dksX1_longest_0 18 rfl rfl)
theorem dX1_longest_21 : decode cX1_longest 21 = .ok (.istore_n 2, 1) := dk_61 (dk_at dksX1_longest_0 21 rfl rfl)
theorem dX1_longest_22 : decode cX1_longest 22 = .ok (.iinc 3 1, 3) := dk_132 3 1 (dk_at dksX1_longest_1 0 rfl rfl)
theorem dX1_longest_25 : decode cX1_longest 25 = .ok (.goto (-21), 3) := dk_167 255 235 (dk_at dksX1_longest_1 3 rfl rfl)
theorem dX1_longest_28 : decode cX1_longest 28 = .ok (.iload_n 2, 1) := dk_28 (dk_at dksX1_longest_1 6 rfl rfl)
theorem dX1_longest_29 : decode cX1_longest 29 = .ok (.ireturn, 1) := dk_172 (dk_at dksX1_longest_1 7 rfl rfl)
abbrev cX1_goOn : ByteArray := prog_1_method_19_code
def yX1_goOn : MethodName := ⟨RX1, "goOn", "(III)I"⟩
def dkwX1_goOn_3 : List UInt8 := [128, 182, 0, 132, 96, 184, 0, 136, 54, 4, 132, 5, 1, 167, 255, 178, 21, 4, 172]
abbrev dktX1_goOn_3 : List UInt8 := dkwX1_goOn_3 ++ []
def dkwX1_goOn_2 : List UInt8 := [21, 5, 122, 4, 126, 154, 0, 29, 21, 4, 4, 42, 27, 21, 5, 28, 184, 0, 80, 29, 4, 21, 5, 120]
abbrev dktX1_goOn_2 : List UInt8 := dkwX1_goOn_2 ++ dktX1_goOn_3
def dkwX1_goOn_1 : List UInt8 := [154, 0, 64, 42, 180, 0, 21, 21, 5, 46, 27, 160, 0, 47, 21, 5, 28, 184, 0, 76, 153, 0, 38, 29]
abbrev dktX1_goOn_1 : List UInt8 := dkwX1_goOn_1 ++ dktX1_goOn_2
def dkwX1_goOn_0 : List UInt8 := [3, 54, 4, 3, 54, 5, 21, 5, 16, 30, 162, 0, 77, 29, 153, 0, 12, 42, 28, 27, 182, 0, 91]
abbrev dktX1_goOn_0 : List UInt8 := dkwX1_goOn_0 ++ dktX1_goOn_1
theorem dksX1_goOn_0 : cX1_goOn.data.toList.drop 0 = dktX1_goOn_0 := by decide +kernel
theorem dksX1_goOn_1 : cX1_goOn.data.toList.drop 23 = dktX1_goOn_1 := dk_seg dksX1_goOn_0 23 rfl rfl
theorem dksX1_goOn_2 : cX1_goOn.data.toList.drop 47 = dktX1_goOn_2 := dk_seg dksX1_goOn_1 24 rfl rfl
theorem dksX1_goOn_3 : cX1_goOn.data.toList.drop 71 = dktX1_goOn_3 := dk_seg dksX1_goOn_2 24 rfl rfl
theorem dX1_goOn_0 : decode cX1_goOn 0 = .ok (.iconst 0, 1) := dk_3 (dk_at dksX1_goOn_0 0 rfl rfl)
theorem dX1_goOn_1 : decode cX1_goOn 1 = .ok (.istore 4, 2) := dk_54 4 (dk_at dksX1_goOn_0 1 rfl rfl)
theorem dX1_goOn_3 : decode cX1_goOn 3 = .ok (.iconst 0, 1) := dk_3 (dk_at dksX1_goOn_0 3 rfl rfl)
theorem dX1_goOn_4 : decode cX1_goOn 4 = .ok (.istore 5, 2) := dk_54 5 (dk_at dksX1_goOn_0 4 rfl rfl)
theorem dX1_goOn_6 : decode cX1_goOn 6 = .ok (.iload 5, 2) := dk_21 5 (dk_at dksX1_goOn_0 6 rfl rfl)
theorem dX1_goOn_8 : decode cX1_goOn 8 = .ok (.bipush 30, 2) := dk_16 30 (dk_at dksX1_goOn_0 8 rfl rfl)
theorem dX1_goOn_10 : decode cX1_goOn 10 = .ok (.if_icmp .ge 77, 3) := dk_162 0 77 (dk_at dksX1_goOn_0 10 rfl rfl)
theorem dX1_goOn_13 : decode cX1_goOn 13 = .ok (.iload_n 3, 1) := dk_29 (dk_at dksX1_goOn_0 13 rfl rfl)
theorem dX1_goOn_14 : decode cX1_goOn 14 = .ok (.ifCond .eq 12, 3) := dk_153 0 12 (dk_at dksX1_goOn_0 14 rfl rfl)
theorem dX1_goOn_17 : decode cX1_goOn 17 = .ok (.aload_n 0, 1) := dk_42 (dk_at dksX1_goOn_0 17 rfl rfl)
theorem dX1_goOn_18 : decode cX1_goOn 18 = .ok (.iload_n 2, 1) := dk_28 (dk_at dksX1_goOn_0 18 rfl rfl)
theorem dX1_goOn_19 : decode cX1_goOn 19 = .ok (.iload_n 1, 1) := dk_27 (dk_at dksX1_goOn_0 19 rfl rfl)
theorem dX1_goOn_20 : decode cX1_goOn 20 = .ok (.invokevirtual 91, 3) := dk_182 0 91 (dk_at dksX1_goOn_0 20 rfl rfl)
theorem dX1_goOn_23 : decode cX1_goOn 23 = .ok (.ifCond .ne 64, 3) := dk_154 0 64 (dk_at dksX1_goOn_1 0 rfl rfl)
theorem dX1_goOn_26 : decode cX1_goOn 26 = .ok (.aload_n 0, 1) := dk_42 (dk_at dksX1_goOn_1 3 rfl rfl)
theorem dX1_goOn_27 : decode cX1_goOn 27 = .ok (.getfield 21, 3) := dk_180 0 21 (dk_at dksX1_goOn_1 4 rfl rfl)
theorem dX1_goOn_30 : decode cX1_goOn 30 = .ok (.iload 5, 2) := dk_21 5 (dk_at dksX1_goOn_1 7 rfl rfl)
theorem dX1_goOn_32 : decode cX1_goOn 32 = .ok (.iaload, 1) := dk_46 (dk_at dksX1_goOn_1 9 rfl rfl)
theorem dX1_goOn_33 : decode cX1_goOn 33 = .ok (.iload_n 1, 1) := dk_27 (dk_at dksX1_goOn_1 10 rfl rfl)
theorem dX1_goOn_34 : decode cX1_goOn 34 = .ok (.if_icmp .ne 47, 3) := dk_160 0 47 (dk_at dksX1_goOn_1 11 rfl rfl)
theorem dX1_goOn_37 : decode cX1_goOn 37 = .ok (.iload 5, 2) := dk_21 5 (dk_at dksX1_goOn_1 14 rfl rfl)
theorem dX1_goOn_39 : decode cX1_goOn 39 = .ok (.iload_n 2, 1) := dk_28 (dk_at dksX1_goOn_1 16 rfl rfl)
theorem dX1_goOn_40 : decode cX1_goOn 40 = .ok (.invokestatic 76, 3) := dk_184 0 76 (dk_at dksX1_goOn_1 17 rfl rfl)
theorem dX1_goOn_43 : decode cX1_goOn 43 = .ok (.ifCond .eq 38, 3) := dk_153 0 38 (dk_at dksX1_goOn_1 20 rfl rfl)
theorem dX1_goOn_46 : decode cX1_goOn 46 = .ok (.iload_n 3, 1) := dk_29 (dk_at dksX1_goOn_1 23 rfl rfl)
theorem dX1_goOn_47 : decode cX1_goOn 47 = .ok (.iload 5, 2) := dk_21 5 (dk_at dksX1_goOn_2 0 rfl rfl)
theorem dX1_goOn_49 : decode cX1_goOn 49 = .ok (.ishr, 1) := dk_122 (dk_at dksX1_goOn_2 2 rfl rfl)
theorem dX1_goOn_50 : decode cX1_goOn 50 = .ok (.iconst 1, 1) := dk_4 (dk_at dksX1_goOn_2 3 rfl rfl)
theorem dX1_goOn_51 : decode cX1_goOn 51 = .ok (.iand, 1) := dk_126 (dk_at dksX1_goOn_2 4 rfl rfl)
theorem dX1_goOn_52 : decode cX1_goOn 52 = .ok (.ifCond .ne 29, 3) := dk_154 0 29 (dk_at dksX1_goOn_2 5 rfl rfl)
theorem dX1_goOn_55 : decode cX1_goOn 55 = .ok (.iload 4, 2) := dk_21 4 (dk_at dksX1_goOn_2 8 rfl rfl)
theorem dX1_goOn_57 : decode cX1_goOn 57 = .ok (.iconst 1, 1) := dk_4 (dk_at dksX1_goOn_2 10 rfl rfl)
theorem dX1_goOn_58 : decode cX1_goOn 58 = .ok (.aload_n 0, 1) := dk_42 (dk_at dksX1_goOn_2 11 rfl rfl)
theorem dX1_goOn_59 : decode cX1_goOn 59 = .ok (.iload_n 1, 1) := dk_27 (dk_at dksX1_goOn_2 12 rfl rfl)
theorem dX1_goOn_60 : decode cX1_goOn 60 = .ok (.iload 5, 2) := dk_21 5 (dk_at dksX1_goOn_2 13 rfl rfl)
theorem dX1_goOn_62 : decode cX1_goOn 62 = .ok (.iload_n 2, 1) := dk_28 (dk_at dksX1_goOn_2 15 rfl rfl)
theorem dX1_goOn_63 : decode cX1_goOn 63 = .ok (.invokestatic 80, 3) := dk_184 0 80 (dk_at dksX1_goOn_2 16 rfl rfl)
theorem dX1_goOn_66 : decode cX1_goOn 66 = .ok (.iload_n 3, 1) := dk_29 (dk_at dksX1_goOn_2 19 rfl rfl)
theorem dX1_goOn_67 : decode cX1_goOn 67 = .ok (.iconst 1, 1) := dk_4 (dk_at dksX1_goOn_2 20 rfl rfl)
theorem dX1_goOn_68 : decode cX1_goOn 68 = .ok (.iload 5, 2) := dk_21 5 (dk_at dksX1_goOn_2 21 rfl rfl)
theorem dX1_goOn_70 : decode cX1_goOn 70 = .ok (.ishl, 1) := dk_120 (dk_at dksX1_goOn_2 23 rfl rfl)
theorem dX1_goOn_71 : decode cX1_goOn 71 = .ok (.ior, 1) := dk_128 (dk_at dksX1_goOn_3 0 rfl rfl)
theorem dX1_goOn_72 : decode cX1_goOn 72 = .ok (.invokevirtual 132, 3) := dk_182 0 132 (dk_at dksX1_goOn_3 1 rfl rfl)
theorem dX1_goOn_75 : decode cX1_goOn 75 = .ok (.iadd, 1) := dk_96 (dk_at dksX1_goOn_3 4 rfl rfl)
theorem dX1_goOn_76 : decode cX1_goOn 76 = .ok (.invokestatic 136, 3) := dk_184 0 136 (dk_at dksX1_goOn_3 5 rfl rfl)
theorem dX1_goOn_79 : decode cX1_goOn 79 = .ok (.istore 4, 2) := dk_54 4 (dk_at dksX1_goOn_3 8 rfl rfl)
theorem dX1_goOn_81 : decode cX1_goOn 81 = .ok (.iinc 5 1, 3) := dk_132 5 1 (dk_at dksX1_goOn_3 10 rfl rfl)
theorem dX1_goOn_84 : decode cX1_goOn 84 = .ok (.goto (-78), 3) := dk_167 255 178 (dk_at dksX1_goOn_3 13 rfl rfl)
theorem dX1_goOn_87 : decode cX1_goOn 87 = .ok (.iload 4, 2) := dk_21 4 (dk_at dksX1_goOn_3 16 rfl rfl)
theorem dX1_goOn_89 : decode cX1_goOn 89 = .ok (.ireturn, 1) := dk_172 (dk_at dksX1_goOn_3 18 rfl rfl)
abbrev cX1_isShut : ByteArray := prog_1_method_6_code
def yX1_isShut : MethodName := ⟨RX1, "isShut", "(II)Z"⟩
def dkwX1_isShut_1 : List UInt8 := [4, 167, 0, 4, 3, 172]
abbrev dktX1_isShut_1 : List UInt8 := dkwX1_isShut_1 ++ []
def dkwX1_isShut_0 : List UInt8 := [42, 180, 0, 17, 27, 50, 198, 0, 22, 42, 180, 0, 17, 27, 50, 185, 0, 72, 1, 0, 28, 159, 0, 7]
abbrev dktX1_isShut_0 : List UInt8 := dkwX1_isShut_0 ++ dktX1_isShut_1
theorem dksX1_isShut_0 : cX1_isShut.data.toList.drop 0 = dktX1_isShut_0 := by decide +kernel
theorem dksX1_isShut_1 : cX1_isShut.data.toList.drop 24 = dktX1_isShut_1 := dk_seg dksX1_isShut_0 24 rfl rfl
theorem dX1_isShut_0 : decode cX1_isShut 0 = .ok (.aload_n 0, 1) := dk_42 (dk_at dksX1_isShut_0 0 rfl rfl)
theorem dX1_isShut_1 : decode cX1_isShut 1 = .ok (.getfield 17, 3) := dk_180 0 17 (dk_at dksX1_isShut_0 1 rfl rfl)
theorem dX1_isShut_4 : decode cX1_isShut 4 = .ok (.iload_n 1, 1) := dk_27 (dk_at dksX1_isShut_0 4 rfl rfl)
theorem dX1_isShut_5 : decode cX1_isShut 5 = .ok (.aaload, 1) := dk_50 (dk_at dksX1_isShut_0 5 rfl rfl)
theorem dX1_isShut_6 : decode cX1_isShut 6 = .ok (.ifnull 22, 3) := dk_198 0 22 (dk_at dksX1_isShut_0 6 rfl rfl)
theorem dX1_isShut_9 : decode cX1_isShut 9 = .ok (.aload_n 0, 1) := dk_42 (dk_at dksX1_isShut_0 9 rfl rfl)
theorem dX1_isShut_10 : decode cX1_isShut 10 = .ok (.getfield 17, 3) := dk_180 0 17 (dk_at dksX1_isShut_0 10 rfl rfl)
theorem dX1_isShut_13 : decode cX1_isShut 13 = .ok (.iload_n 1, 1) := dk_27 (dk_at dksX1_isShut_0 13 rfl rfl)
theorem dX1_isShut_14 : decode cX1_isShut 14 = .ok (.aaload, 1) := dk_50 (dk_at dksX1_isShut_0 14 rfl rfl)
theorem dX1_isShut_15 : decode cX1_isShut 15 = .ok (.invokeinterface 72 1, 5) := by decide +kernel
theorem dX1_isShut_20 : decode cX1_isShut 20 = .ok (.iload_n 2, 1) := dk_28 (dk_at dksX1_isShut_0 20 rfl rfl)
theorem dX1_isShut_21 : decode cX1_isShut 21 = .ok (.if_icmp .eq 7, 3) := dk_159 0 7 (dk_at dksX1_isShut_0 21 rfl rfl)
theorem dX1_isShut_24 : decode cX1_isShut 24 = .ok (.iconst 1, 1) := dk_4 (dk_at dksX1_isShut_1 0 rfl rfl)
theorem dX1_isShut_25 : decode cX1_isShut 25 = .ok (.goto 4, 3) := dk_167 0 4 (dk_at dksX1_isShut_1 1 rfl rfl)
theorem dX1_isShut_28 : decode cX1_isShut 28 = .ok (.iconst 0, 1) := dk_3 (dk_at dksX1_isShut_1 4 rfl rfl)
theorem dX1_isShut_29 : decode cX1_isShut 29 = .ok (.ireturn, 1) := dk_172 (dk_at dksX1_isShut_1 5 rfl rfl)
abbrev cX1_lookForWinner : ByteArray := prog_1_method_26_code
def yX1_lookForWinner : MethodName := ⟨RX1, "lookForWinner", "()V"⟩
def dkwX1_lookForWinner_1 : List UInt8 := [167, 0, 7, 42, 180, 0, 52, 181, 0, 52, 177]
abbrev dktX1_lookForWinner_1 : List UInt8 := dkwX1_lookForWinner_1 ++ []
def dkwX1_lookForWinner_0 : List UInt8 := [42, 42, 180, 0, 52, 153, 0, 20, 42, 42, 180, 0, 176, 182, 0, 179, 16, 8, 161, 0, 7, 8]
abbrev dktX1_lookForWinner_0 : List UInt8 := dkwX1_lookForWinner_0 ++ dktX1_lookForWinner_1
theorem dksX1_lookForWinner_0 : cX1_lookForWinner.data.toList.drop 0 = dktX1_lookForWinner_0 := by decide +kernel
theorem dksX1_lookForWinner_1 : cX1_lookForWinner.data.toList.drop 22 = dktX1_lookForWinner_1 := dk_seg dksX1_lookForWinner_0 22 rfl rfl
theorem dX1_lookForWinner_0 : decode cX1_lookForWinner 0 = .ok (.aload_n 0, 1) := dk_42 (dk_at dksX1_lookForWinner_0 0 rfl rfl)
theorem dX1_lookForWinner_1 : decode cX1_lookForWinner 1 = .ok (.aload_n 0, 1) := dk_42 (dk_at dksX1_lookForWinner_0 1 rfl rfl)
theorem dX1_lookForWinner_2 : decode cX1_lookForWinner 2 = .ok (.getfield 52, 3) := dk_180 0 52 (dk_at dksX1_lookForWinner_0 2 rfl rfl)
theorem dX1_lookForWinner_5 : decode cX1_lookForWinner 5 = .ok (.ifCond .eq 20, 3) := dk_153 0 20 (dk_at dksX1_lookForWinner_0 5 rfl rfl)
theorem dX1_lookForWinner_8 : decode cX1_lookForWinner 8 = .ok (.aload_n 0, 1) := dk_42 (dk_at dksX1_lookForWinner_0 8 rfl rfl)
theorem dX1_lookForWinner_9 : decode cX1_lookForWinner 9 = .ok (.aload_n 0, 1) := dk_42 (dk_at dksX1_lookForWinner_0 9 rfl rfl)
theorem dX1_lookForWinner_10 : decode cX1_lookForWinner 10 = .ok (.getfield 176, 3) := dk_180 0 176 (dk_at dksX1_lookForWinner_0 10 rfl rfl)
theorem dX1_lookForWinner_13 : decode cX1_lookForWinner 13 = .ok (.invokevirtual 179, 3) := dk_182 0 179 (dk_at dksX1_lookForWinner_0 13 rfl rfl)
theorem dX1_lookForWinner_16 : decode cX1_lookForWinner 16 = .ok (.bipush 8, 2) := dk_16 8 (dk_at dksX1_lookForWinner_0 16 rfl rfl)
theorem dX1_lookForWinner_18 : decode cX1_lookForWinner 18 = .ok (.if_icmp .lt 7, 3) := dk_161 0 7 (dk_at dksX1_lookForWinner_0 18 rfl rfl)
theorem dX1_lookForWinner_21 : decode cX1_lookForWinner 21 = .ok (.iconst 5, 1) := dk_8 (dk_at dksX1_lookForWinner_0 21 rfl rfl)
theorem dX1_lookForWinner_22 : decode cX1_lookForWinner 22 = .ok (.goto 7, 3) := dk_167 0 7 (dk_at dksX1_lookForWinner_1 0 rfl rfl)
theorem dX1_lookForWinner_25 : decode cX1_lookForWinner 25 = .ok (.aload_n 0, 1) := dk_42 (dk_at dksX1_lookForWinner_1 3 rfl rfl)
theorem dX1_lookForWinner_26 : decode cX1_lookForWinner 26 = .ok (.getfield 52, 3) := dk_180 0 52 (dk_at dksX1_lookForWinner_1 4 rfl rfl)
theorem dX1_lookForWinner_29 : decode cX1_lookForWinner 29 = .ok (.putfield 52, 3) := dk_181 0 52 (dk_at dksX1_lookForWinner_1 7 rfl rfl)
theorem dX1_lookForWinner_32 : decode cX1_lookForWinner 32 = .ok (.return_, 1) := dk_177 (dk_at dksX1_lookForWinner_1 10 rfl rfl)
abbrev cX1_pointsOf : ByteArray := prog_1_method_25_code
def yX1_pointsOf : MethodName := ⟨RX1, "pointsOf", "(I)I"⟩
def dkwX1_pointsOf_6 : List UInt8 := [27, 160, 0, 7, 5, 167, 0, 4, 3, 96, 172]
abbrev dktX1_pointsOf_6 : List UInt8 := dkwX1_pointsOf_6 ++ []
def dkwX1_pointsOf_5 : List UInt8 := [96, 61, 167, 255, 212, 28, 42, 180, 0, 56, 27, 160, 0, 7, 5, 167, 0, 4, 3, 96, 42, 180, 0, 59]
abbrev dktX1_pointsOf_5 : List UInt8 := dkwX1_pointsOf_5 ++ dktX1_pointsOf_6
def dkwX1_pointsOf_4 : List UInt8 := [58, 4, 28, 25, 4, 180, 0, 167, 27, 160, 0, 14, 25, 4, 180, 0, 169, 182, 0, 173, 167, 0, 4, 3]
abbrev dktX1_pointsOf_4 : List UInt8 := dkwX1_pointsOf_4 ++ dktX1_pointsOf_5
def dkwX1_pointsOf_3 : List UInt8 := [185, 0, 151, 1, 0, 78, 45, 185, 0, 155, 1, 0, 153, 0, 41, 45, 185, 0, 161, 1, 0, 192, 0, 165]
abbrev dktX1_pointsOf_3 : List UInt8 := dkwX1_pointsOf_3 ++ dktX1_pointsOf_4
def dkwX1_pointsOf_2 : List UInt8 := [185, 0, 148, 1, 0, 167, 0, 4, 3, 96, 61, 132, 5, 1, 167, 255, 210, 42, 180, 0, 39]
abbrev dktX1_pointsOf_2 : List UInt8 := dkwX1_pointsOf_2 ++ dktX1_pointsOf_3
def dkwX1_pointsOf_1 : List UInt8 := [50, 58, 6, 28, 25, 6, 198, 0, 24, 25, 6, 185, 0, 72, 1, 0, 27, 160, 0, 13, 25, 6]
abbrev dktX1_pointsOf_1 : List UInt8 := dkwX1_pointsOf_1 ++ dktX1_pointsOf_2
def dkwX1_pointsOf_0 : List UInt8 := [3, 61, 42, 180, 0, 17, 78, 45, 190, 54, 4, 3, 54, 5, 21, 5, 21, 4, 162, 0, 45, 45, 21, 5]
abbrev dktX1_pointsOf_0 : List UInt8 := dkwX1_pointsOf_0 ++ dktX1_pointsOf_1
theorem dksX1_pointsOf_0 : cX1_pointsOf.data.toList.drop 0 = dktX1_pointsOf_0 := by decide +kernel
theorem dksX1_pointsOf_1 : cX1_pointsOf.data.toList.drop 24 = dktX1_pointsOf_1 := dk_seg dksX1_pointsOf_0 24 rfl rfl
theorem dksX1_pointsOf_2 : cX1_pointsOf.data.toList.drop 46 = dktX1_pointsOf_2 := dk_seg dksX1_pointsOf_1 22 rfl rfl
theorem dksX1_pointsOf_3 : cX1_pointsOf.data.toList.drop 67 = dktX1_pointsOf_3 := dk_seg dksX1_pointsOf_2 21 rfl rfl
theorem dksX1_pointsOf_4 : cX1_pointsOf.data.toList.drop 91 = dktX1_pointsOf_4 := dk_seg dksX1_pointsOf_3 24 rfl rfl
theorem dksX1_pointsOf_5 : cX1_pointsOf.data.toList.drop 115 = dktX1_pointsOf_5 := dk_seg dksX1_pointsOf_4 24 rfl rfl
theorem dksX1_pointsOf_6 : cX1_pointsOf.data.toList.drop 139 = dktX1_pointsOf_6 := dk_seg dksX1_pointsOf_5 24 rfl rfl
theorem dX1_pointsOf_0 : decode cX1_pointsOf 0 = .ok (.iconst 0, 1) := dk_3 (dk_at dksX1_pointsOf_0 0 rfl rfl)
theorem dX1_pointsOf_1 : decode cX1_pointsOf 1 = .ok (.istore_n 2, 1) := dk_61 (dk_at dksX1_pointsOf_0 1 rfl rfl)
theorem dX1_pointsOf_2 : decode cX1_pointsOf 2 = .ok (.aload_n 0, 1) := dk_42 (dk_at dksX1_pointsOf_0 2 rfl rfl)
theorem dX1_pointsOf_3 : decode cX1_pointsOf 3 = .ok (.getfield 17, 3) := dk_180 0 17 (dk_at dksX1_pointsOf_0 3 rfl rfl)
theorem dX1_pointsOf_6 : decode cX1_pointsOf 6 = .ok (.astore_n 3, 1) := dk_78 (dk_at dksX1_pointsOf_0 6 rfl rfl)
theorem dX1_pointsOf_7 : decode cX1_pointsOf 7 = .ok (.aload_n 3, 1) := dk_45 (dk_at dksX1_pointsOf_0 7 rfl rfl)
theorem dX1_pointsOf_8 : decode cX1_pointsOf 8 = .ok (.arraylength, 1) := dk_190 (dk_at dksX1_pointsOf_0 8 rfl rfl)
theorem dX1_pointsOf_9 : decode cX1_pointsOf 9 = .ok (.istore 4, 2) := dk_54 4 (dk_at dksX1_pointsOf_0 9 rfl rfl)
theorem dX1_pointsOf_11 : decode cX1_pointsOf 11 = .ok (.iconst 0, 1) := dk_3 (dk_at dksX1_pointsOf_0 11 rfl rfl)
theorem dX1_pointsOf_12 : decode cX1_pointsOf 12 = .ok (.istore 5, 2) := dk_54 5 (dk_at dksX1_pointsOf_0 12 rfl rfl)
theorem dX1_pointsOf_14 : decode cX1_pointsOf 14 = .ok (.iload 5, 2) := dk_21 5 (dk_at dksX1_pointsOf_0 14 rfl rfl)
theorem dX1_pointsOf_16 : decode cX1_pointsOf 16 = .ok (.iload 4, 2) := dk_21 4 (dk_at dksX1_pointsOf_0 16 rfl rfl)
theorem dX1_pointsOf_18 : decode cX1_pointsOf 18 = .ok (.if_icmp .ge 45, 3) := dk_162 0 45 (dk_at dksX1_pointsOf_0 18 rfl rfl)
theorem dX1_pointsOf_21 : decode cX1_pointsOf 21 = .ok (.aload_n 3, 1) := dk_45 (dk_at dksX1_pointsOf_0 21 rfl rfl)
theorem dX1_pointsOf_22 : decode cX1_pointsOf 22 = .ok (.iload 5, 2) := dk_21 5 (dk_at dksX1_pointsOf_0 22 rfl rfl)
theorem dX1_pointsOf_24 : decode cX1_pointsOf 24 = .ok (.aaload, 1) := dk_50 (dk_at dksX1_pointsOf_1 0 rfl rfl)
theorem dX1_pointsOf_25 : decode cX1_pointsOf 25 = .ok (.astore 6, 2) := dk_58 6 (dk_at dksX1_pointsOf_1 1 rfl rfl)
theorem dX1_pointsOf_27 : decode cX1_pointsOf 27 = .ok (.iload_n 2, 1) := dk_28 (dk_at dksX1_pointsOf_1 3 rfl rfl)
theorem dX1_pointsOf_28 : decode cX1_pointsOf 28 = .ok (.aload 6, 2) := dk_25 6 (dk_at dksX1_pointsOf_1 4 rfl rfl)
theorem dX1_pointsOf_30 : decode cX1_pointsOf 30 = .ok (.ifnull 24, 3) := dk_198 0 24 (dk_at dksX1_pointsOf_1 6 rfl rfl)
theorem dX1_pointsOf_33 : decode cX1_pointsOf 33 = .ok (.aload 6, 2) := dk_25 6 (dk_at dksX1_pointsOf_1 9 rfl rfl)
theorem dX1_pointsOf_35 : decode cX1_pointsOf 35 = .ok (.invokeinterface 72 1, 5) := by decide +kernel
theorem dX1_pointsOf_40 : decode cX1_pointsOf 40 = .ok (.iload_n 1, 1) := dk_27 (dk_at dksX1_pointsOf_1 16 rfl rfl)
theorem dX1_pointsOf_41 : decode cX1_pointsOf 41 = .ok (.if_icmp .ne 13, 3) := dk_160 0 13 (dk_at dksX1_pointsOf_1 17 rfl rfl)
theorem dX1_pointsOf_44 : decode cX1_pointsOf 44 = .ok (.aload 6, 2) := dk_25 6 (dk_at dksX1_pointsOf_1 20 rfl rfl)
theorem dX1_pointsOf_46 : decode cX1_pointsOf 46 = .ok (.invokeinterface 148 1, 5) := by decide +kernel
theorem dX1_pointsOf_51 : decode cX1_pointsOf 51 = .ok (.goto 4, 3) := dk_167 0 4 (dk_at dksX1_pointsOf_2 5 rfl rfl)
theorem dX1_pointsOf_54 : decode cX1_pointsOf 54 = .ok (.iconst 0, 1) := dk_3 (dk_at dksX1_pointsOf_2 8 rfl rfl)
theorem dX1_pointsOf_55 : decode cX1_pointsOf 55 = .ok (.iadd, 1) := dk_96 (dk_at dksX1_pointsOf_2 9 rfl rfl)
theorem dX1_pointsOf_56 : decode cX1_pointsOf 56 = .ok (.istore_n 2, 1) := dk_61 (dk_at dksX1_pointsOf_2 10 rfl rfl)
theorem dX1_pointsOf_57 : decode cX1_pointsOf 57 = .ok (.iinc 5 1, 3) := dk_132 5 1 (dk_at dksX1_pointsOf_2 11 rfl rfl)
theorem dX1_pointsOf_60 : decode cX1_pointsOf 60 = .ok (.goto (-46), 3) := dk_167 255 210 (dk_at dksX1_pointsOf_2 14 rfl rfl)
theorem dX1_pointsOf_63 : decode cX1_pointsOf 63 = .ok (.aload_n 0, 1) := dk_42 (dk_at dksX1_pointsOf_2 17 rfl rfl)
theorem dX1_pointsOf_64 : decode cX1_pointsOf 64 = .ok (.getfield 39, 3) := dk_180 0 39 (dk_at dksX1_pointsOf_2 18 rfl rfl)
theorem dX1_pointsOf_67 : decode cX1_pointsOf 67 = .ok (.invokeinterface 151 1, 5) := by decide +kernel
theorem dX1_pointsOf_72 : decode cX1_pointsOf 72 = .ok (.astore_n 3, 1) := dk_78 (dk_at dksX1_pointsOf_3 5 rfl rfl)
theorem dX1_pointsOf_73 : decode cX1_pointsOf 73 = .ok (.aload_n 3, 1) := dk_45 (dk_at dksX1_pointsOf_3 6 rfl rfl)
theorem dX1_pointsOf_74 : decode cX1_pointsOf 74 = .ok (.invokeinterface 155 1, 5) := by decide +kernel
theorem dX1_pointsOf_79 : decode cX1_pointsOf 79 = .ok (.ifCond .eq 41, 3) := dk_153 0 41 (dk_at dksX1_pointsOf_3 12 rfl rfl)
theorem dX1_pointsOf_82 : decode cX1_pointsOf 82 = .ok (.aload_n 3, 1) := dk_45 (dk_at dksX1_pointsOf_3 15 rfl rfl)
theorem dX1_pointsOf_83 : decode cX1_pointsOf 83 = .ok (.invokeinterface 161 1, 5) := by decide +kernel
theorem dX1_pointsOf_88 : decode cX1_pointsOf 88 = .ok (.checkcast 165, 3) := dk_192 0 165 (dk_at dksX1_pointsOf_3 21 rfl rfl)
theorem dX1_pointsOf_91 : decode cX1_pointsOf 91 = .ok (.astore 4, 2) := dk_58 4 (dk_at dksX1_pointsOf_4 0 rfl rfl)
theorem dX1_pointsOf_93 : decode cX1_pointsOf 93 = .ok (.iload_n 2, 1) := dk_28 (dk_at dksX1_pointsOf_4 2 rfl rfl)
theorem dX1_pointsOf_94 : decode cX1_pointsOf 94 = .ok (.aload 4, 2) := dk_25 4 (dk_at dksX1_pointsOf_4 3 rfl rfl)
theorem dX1_pointsOf_96 : decode cX1_pointsOf 96 = .ok (.getfield 167, 3) := dk_180 0 167 (dk_at dksX1_pointsOf_4 5 rfl rfl)
theorem dX1_pointsOf_99 : decode cX1_pointsOf 99 = .ok (.iload_n 1, 1) := dk_27 (dk_at dksX1_pointsOf_4 8 rfl rfl)
theorem dX1_pointsOf_100 : decode cX1_pointsOf 100 = .ok (.if_icmp .ne 14, 3) := dk_160 0 14 (dk_at dksX1_pointsOf_4 9 rfl rfl)
theorem dX1_pointsOf_103 : decode cX1_pointsOf 103 = .ok (.aload 4, 2) := dk_25 4 (dk_at dksX1_pointsOf_4 12 rfl rfl)
theorem dX1_pointsOf_105 : decode cX1_pointsOf 105 = .ok (.getfield 169, 3) := dk_180 0 169 (dk_at dksX1_pointsOf_4 14 rfl rfl)
theorem dX1_pointsOf_108 : decode cX1_pointsOf 108 = .ok (.invokevirtual 173, 3) := dk_182 0 173 (dk_at dksX1_pointsOf_4 17 rfl rfl)
theorem dX1_pointsOf_111 : decode cX1_pointsOf 111 = .ok (.goto 4, 3) := dk_167 0 4 (dk_at dksX1_pointsOf_4 20 rfl rfl)
theorem dX1_pointsOf_114 : decode cX1_pointsOf 114 = .ok (.iconst 0, 1) := dk_3 (dk_at dksX1_pointsOf_4 23 rfl rfl)
theorem dX1_pointsOf_115 : decode cX1_pointsOf 115 = .ok (.iadd, 1) := dk_96 (dk_at dksX1_pointsOf_5 0 rfl rfl)
theorem dX1_pointsOf_116 : decode cX1_pointsOf 116 = .ok (.istore_n 2, 1) := dk_61 (dk_at dksX1_pointsOf_5 1 rfl rfl)
theorem dX1_pointsOf_117 : decode cX1_pointsOf 117 = .ok (.goto (-44), 3) := dk_167 255 212 (dk_at dksX1_pointsOf_5 2 rfl rfl)
theorem dX1_pointsOf_120 : decode cX1_pointsOf 120 = .ok (.iload_n 2, 1) := dk_28 (dk_at dksX1_pointsOf_5 5 rfl rfl)
theorem dX1_pointsOf_121 : decode cX1_pointsOf 121 = .ok (.aload_n 0, 1) := dk_42 (dk_at dksX1_pointsOf_5 6 rfl rfl)
theorem dX1_pointsOf_122 : decode cX1_pointsOf 122 = .ok (.getfield 56, 3) := dk_180 0 56 (dk_at dksX1_pointsOf_5 7 rfl rfl)
theorem dX1_pointsOf_125 : decode cX1_pointsOf 125 = .ok (.iload_n 1, 1) := dk_27 (dk_at dksX1_pointsOf_5 10 rfl rfl)
theorem dX1_pointsOf_126 : decode cX1_pointsOf 126 = .ok (.if_icmp .ne 7, 3) := dk_160 0 7 (dk_at dksX1_pointsOf_5 11 rfl rfl)
theorem dX1_pointsOf_129 : decode cX1_pointsOf 129 = .ok (.iconst 2, 1) := dk_5 (dk_at dksX1_pointsOf_5 14 rfl rfl)
theorem dX1_pointsOf_130 : decode cX1_pointsOf 130 = .ok (.goto 4, 3) := dk_167 0 4 (dk_at dksX1_pointsOf_5 15 rfl rfl)
theorem dX1_pointsOf_133 : decode cX1_pointsOf 133 = .ok (.iconst 0, 1) := dk_3 (dk_at dksX1_pointsOf_5 18 rfl rfl)
theorem dX1_pointsOf_134 : decode cX1_pointsOf 134 = .ok (.iadd, 1) := dk_96 (dk_at dksX1_pointsOf_5 19 rfl rfl)
theorem dX1_pointsOf_135 : decode cX1_pointsOf 135 = .ok (.aload_n 0, 1) := dk_42 (dk_at dksX1_pointsOf_5 20 rfl rfl)
theorem dX1_pointsOf_136 : decode cX1_pointsOf 136 = .ok (.getfield 59, 3) := dk_180 0 59 (dk_at dksX1_pointsOf_5 21 rfl rfl)
theorem dX1_pointsOf_139 : decode cX1_pointsOf 139 = .ok (.iload_n 1, 1) := dk_27 (dk_at dksX1_pointsOf_6 0 rfl rfl)
theorem dX1_pointsOf_140 : decode cX1_pointsOf 140 = .ok (.if_icmp .ne 7, 3) := dk_160 0 7 (dk_at dksX1_pointsOf_6 1 rfl rfl)
theorem dX1_pointsOf_143 : decode cX1_pointsOf 143 = .ok (.iconst 2, 1) := dk_5 (dk_at dksX1_pointsOf_6 4 rfl rfl)
theorem dX1_pointsOf_144 : decode cX1_pointsOf 144 = .ok (.goto 4, 3) := dk_167 0 4 (dk_at dksX1_pointsOf_6 5 rfl rfl)
theorem dX1_pointsOf_147 : decode cX1_pointsOf 147 = .ok (.iconst 0, 1) := dk_3 (dk_at dksX1_pointsOf_6 8 rfl rfl)
theorem dX1_pointsOf_148 : decode cX1_pointsOf 148 = .ok (.iadd, 1) := dk_96 (dk_at dksX1_pointsOf_6 9 rfl rfl)
theorem dX1_pointsOf_149 : decode cX1_pointsOf 149 = .ok (.ireturn, 1) := dk_172 (dk_at dksX1_pointsOf_6 10 rfl rfl)
abbrev cX1_deal : ByteArray := prog_1_method_42_code
def yX1_deal : MethodName := ⟨RX1, "deal", "(II)I"⟩
def dkwX1_deal_2 : List UInt8 := [27, 182, 0, 195, 172]
abbrev dktX1_deal_2 : List UInt8 := dkwX1_deal_2 ++ []
def dkwX1_deal_1 : List UInt8 := [6, 28, 182, 1, 0, 153, 0, 7, 4, 167, 0, 4, 3, 184, 0, 230, 42, 6, 27, 28, 182, 0, 224, 42]
abbrev dktX1_deal_1 : List UInt8 := dkwX1_deal_1 ++ dktX1_deal_2
def dkwX1_deal_0 : List UInt8 := [27, 6, 184, 0, 204, 3, 4, 188, 10, 89, 3, 28, 79, 184, 0, 249, 42, 180, 0, 253, 154, 0, 16, 42]
abbrev dktX1_deal_0 : List UInt8 := dkwX1_deal_0 ++ dktX1_deal_1
theorem dksX1_deal_0 : cX1_deal.data.toList.drop 0 = dktX1_deal_0 := by decide +kernel
theorem dksX1_deal_1 : cX1_deal.data.toList.drop 24 = dktX1_deal_1 := dk_seg dksX1_deal_0 24 rfl rfl
theorem dksX1_deal_2 : cX1_deal.data.toList.drop 48 = dktX1_deal_2 := dk_seg dksX1_deal_1 24 rfl rfl
theorem dX1_deal_0 : decode cX1_deal 0 = .ok (.iload_n 1, 1) := dk_27 (dk_at dksX1_deal_0 0 rfl rfl)
theorem dX1_deal_1 : decode cX1_deal 1 = .ok (.iconst 3, 1) := dk_6 (dk_at dksX1_deal_0 1 rfl rfl)
theorem dX1_deal_2 : decode cX1_deal 2 = .ok (.invokestatic 204, 3) := dk_184 0 204 (dk_at dksX1_deal_0 2 rfl rfl)
theorem dX1_deal_5 : decode cX1_deal 5 = .ok (.iconst 0, 1) := dk_3 (dk_at dksX1_deal_0 5 rfl rfl)
theorem dX1_deal_6 : decode cX1_deal 6 = .ok (.iconst 1, 1) := dk_4 (dk_at dksX1_deal_0 6 rfl rfl)
theorem dX1_deal_7 : decode cX1_deal 7 = .ok (.newarray .int, 2) := dk_188_10 (dk_at dksX1_deal_0 7 rfl rfl)
theorem dX1_deal_9 : decode cX1_deal 9 = .ok (.dup, 1) := dk_89 (dk_at dksX1_deal_0 9 rfl rfl)
theorem dX1_deal_10 : decode cX1_deal 10 = .ok (.iconst 0, 1) := dk_3 (dk_at dksX1_deal_0 10 rfl rfl)
theorem dX1_deal_11 : decode cX1_deal 11 = .ok (.iload_n 2, 1) := dk_28 (dk_at dksX1_deal_0 11 rfl rfl)
theorem dX1_deal_12 : decode cX1_deal 12 = .ok (.iastore, 1) := dk_79 (dk_at dksX1_deal_0 12 rfl rfl)
theorem dX1_deal_13 : decode cX1_deal 13 = .ok (.invokestatic 249, 3) := dk_184 0 249 (dk_at dksX1_deal_0 13 rfl rfl)
theorem dX1_deal_16 : decode cX1_deal 16 = .ok (.aload_n 0, 1) := dk_42 (dk_at dksX1_deal_0 16 rfl rfl)
theorem dX1_deal_17 : decode cX1_deal 17 = .ok (.getfield 253, 3) := dk_180 0 253 (dk_at dksX1_deal_0 17 rfl rfl)
theorem dX1_deal_20 : decode cX1_deal 20 = .ok (.ifCond .ne 16, 3) := dk_154 0 16 (dk_at dksX1_deal_0 20 rfl rfl)
theorem dX1_deal_23 : decode cX1_deal 23 = .ok (.aload_n 0, 1) := dk_42 (dk_at dksX1_deal_0 23 rfl rfl)
theorem dX1_deal_24 : decode cX1_deal 24 = .ok (.iconst 3, 1) := dk_6 (dk_at dksX1_deal_1 0 rfl rfl)
theorem dX1_deal_25 : decode cX1_deal 25 = .ok (.iload_n 2, 1) := dk_28 (dk_at dksX1_deal_1 1 rfl rfl)
theorem dX1_deal_26 : decode cX1_deal 26 = .ok (.invokevirtual 256, 3) := dk_182 1 0 (dk_at dksX1_deal_1 2 rfl rfl)
theorem dX1_deal_29 : decode cX1_deal 29 = .ok (.ifCond .eq 7, 3) := dk_153 0 7 (dk_at dksX1_deal_1 5 rfl rfl)
theorem dX1_deal_32 : decode cX1_deal 32 = .ok (.iconst 1, 1) := dk_4 (dk_at dksX1_deal_1 8 rfl rfl)
theorem dX1_deal_33 : decode cX1_deal 33 = .ok (.goto 4, 3) := dk_167 0 4 (dk_at dksX1_deal_1 9 rfl rfl)
theorem dX1_deal_36 : decode cX1_deal 36 = .ok (.iconst 0, 1) := dk_3 (dk_at dksX1_deal_1 12 rfl rfl)
theorem dX1_deal_37 : decode cX1_deal 37 = .ok (.invokestatic 230, 3) := dk_184 0 230 (dk_at dksX1_deal_1 13 rfl rfl)
theorem dX1_deal_40 : decode cX1_deal 40 = .ok (.aload_n 0, 1) := dk_42 (dk_at dksX1_deal_1 16 rfl rfl)
theorem dX1_deal_41 : decode cX1_deal 41 = .ok (.iconst 3, 1) := dk_6 (dk_at dksX1_deal_1 17 rfl rfl)
theorem dX1_deal_42 : decode cX1_deal 42 = .ok (.iload_n 1, 1) := dk_27 (dk_at dksX1_deal_1 18 rfl rfl)
theorem dX1_deal_43 : decode cX1_deal 43 = .ok (.iload_n 2, 1) := dk_28 (dk_at dksX1_deal_1 19 rfl rfl)
theorem dX1_deal_44 : decode cX1_deal 44 = .ok (.invokevirtual 224, 3) := dk_182 0 224 (dk_at dksX1_deal_1 20 rfl rfl)
theorem dX1_deal_47 : decode cX1_deal 47 = .ok (.aload_n 0, 1) := dk_42 (dk_at dksX1_deal_1 23 rfl rfl)
theorem dX1_deal_48 : decode cX1_deal 48 = .ok (.iload_n 1, 1) := dk_27 (dk_at dksX1_deal_2 0 rfl rfl)
theorem dX1_deal_49 : decode cX1_deal 49 = .ok (.invokevirtual 195, 3) := dk_182 0 195 (dk_at dksX1_deal_2 1 rfl rfl)
theorem dX1_deal_52 : decode cX1_deal 52 = .ok (.ireturn, 1) := dk_172 (dk_at dksX1_deal_2 4 rfl rfl)
abbrev cX1_checkGoods : ByteArray := prog_1_method_36_code
def yX1_checkGoods : MethodName := ⟨RX1, "checkGoods", "(I[I)V"⟩
def dkwX1_checkGoods_1 : List UInt8 := [18, 214, 184, 0, 215, 132, 4, 1, 167, 255, 233, 177]
abbrev dktX1_checkGoods_1 : List UInt8 := dkwX1_checkGoods_1 ++ []
def dkwX1_checkGoods_0 : List UInt8 := [43, 77, 44, 190, 62, 3, 54, 4, 21, 4, 29, 162, 0, 23, 44, 21, 4, 46, 54, 5, 21, 5, 26]
abbrev dktX1_checkGoods_0 : List UInt8 := dkwX1_checkGoods_0 ++ dktX1_checkGoods_1
theorem dksX1_checkGoods_0 : cX1_checkGoods.data.toList.drop 0 = dktX1_checkGoods_0 := by decide +kernel
theorem dksX1_checkGoods_1 : cX1_checkGoods.data.toList.drop 23 = dktX1_checkGoods_1 := dk_seg dksX1_checkGoods_0 23 rfl rfl
theorem dX1_checkGoods_0 : decode cX1_checkGoods 0 = .ok (.aload_n 1, 1) := dk_43 (dk_at dksX1_checkGoods_0 0 rfl rfl)
theorem dX1_checkGoods_1 : decode cX1_checkGoods 1 = .ok (.astore_n 2, 1) := dk_77 (dk_at dksX1_checkGoods_0 1 rfl rfl)
theorem dX1_checkGoods_2 : decode cX1_checkGoods 2 = .ok (.aload_n 2, 1) := dk_44 (dk_at dksX1_checkGoods_0 2 rfl rfl)
theorem dX1_checkGoods_3 : decode cX1_checkGoods 3 = .ok (.arraylength, 1) := dk_190 (dk_at dksX1_checkGoods_0 3 rfl rfl)
theorem dX1_checkGoods_4 : decode cX1_checkGoods 4 = .ok (.istore_n 3, 1) := dk_62 (dk_at dksX1_checkGoods_0 4 rfl rfl)
theorem dX1_checkGoods_5 : decode cX1_checkGoods 5 = .ok (.iconst 0, 1) := dk_3 (dk_at dksX1_checkGoods_0 5 rfl rfl)
theorem dX1_checkGoods_6 : decode cX1_checkGoods 6 = .ok (.istore 4, 2) := dk_54 4 (dk_at dksX1_checkGoods_0 6 rfl rfl)
theorem dX1_checkGoods_8 : decode cX1_checkGoods 8 = .ok (.iload 4, 2) := dk_21 4 (dk_at dksX1_checkGoods_0 8 rfl rfl)
theorem dX1_checkGoods_10 : decode cX1_checkGoods 10 = .ok (.iload_n 3, 1) := dk_29 (dk_at dksX1_checkGoods_0 10 rfl rfl)
theorem dX1_checkGoods_11 : decode cX1_checkGoods 11 = .ok (.if_icmp .ge 23, 3) := dk_162 0 23 (dk_at dksX1_checkGoods_0 11 rfl rfl)
theorem dX1_checkGoods_14 : decode cX1_checkGoods 14 = .ok (.aload_n 2, 1) := dk_44 (dk_at dksX1_checkGoods_0 14 rfl rfl)
theorem dX1_checkGoods_15 : decode cX1_checkGoods 15 = .ok (.iload 4, 2) := dk_21 4 (dk_at dksX1_checkGoods_0 15 rfl rfl)
theorem dX1_checkGoods_17 : decode cX1_checkGoods 17 = .ok (.iaload, 1) := dk_46 (dk_at dksX1_checkGoods_0 17 rfl rfl)
theorem dX1_checkGoods_18 : decode cX1_checkGoods 18 = .ok (.istore 5, 2) := dk_54 5 (dk_at dksX1_checkGoods_0 18 rfl rfl)
theorem dX1_checkGoods_20 : decode cX1_checkGoods 20 = .ok (.iload 5, 2) := dk_21 5 (dk_at dksX1_checkGoods_0 20 rfl rfl)
theorem dX1_checkGoods_22 : decode cX1_checkGoods 22 = .ok (.iload_n 0, 1) := dk_26 (dk_at dksX1_checkGoods_0 22 rfl rfl)
theorem dX1_checkGoods_23 : decode cX1_checkGoods 23 = .ok (.ldc 214, 2) := dk_18 214 (dk_at dksX1_checkGoods_1 0 rfl rfl)
theorem dX1_checkGoods_25 : decode cX1_checkGoods 25 = .ok (.invokestatic 215, 3) := dk_184 0 215 (dk_at dksX1_checkGoods_1 2 rfl rfl)
theorem dX1_checkGoods_28 : decode cX1_checkGoods 28 = .ok (.iinc 4 1, 3) := dk_132 4 1 (dk_at dksX1_checkGoods_1 5 rfl rfl)
theorem dX1_checkGoods_31 : decode cX1_checkGoods 31 = .ok (.goto (-23), 3) := dk_167 255 233 (dk_at dksX1_checkGoods_1 8 rfl rfl)
theorem dX1_checkGoods_34 : decode cX1_checkGoods 34 = .ok (.return_, 1) := dk_177 (dk_at dksX1_checkGoods_1 11 rfl rfl)
abbrev cX1_hasGoods : ByteArray := prog_1_method_15_code
def yX1_hasGoods : MethodName := ⟨RX1, "hasGoods", "(II)Z"⟩
def dkwX1_hasGoods_1 : List UInt8 := [184, 0, 98, 161, 0, 7, 4, 167, 0, 4, 3, 126, 62, 132, 4, 1, 167, 255, 221, 29, 172]
abbrev dktX1_hasGoods_1 : List UInt8 := dkwX1_hasGoods_1 ++ []
def dkwX1_hasGoods_0 : List UInt8 := [4, 62, 3, 54, 4, 21, 4, 8, 162, 0, 35, 29, 42, 180, 0, 27, 27, 50, 21, 4, 46, 28, 21, 4]
abbrev dktX1_hasGoods_0 : List UInt8 := dkwX1_hasGoods_0 ++ dktX1_hasGoods_1
theorem dksX1_hasGoods_0 : cX1_hasGoods.data.toList.drop 0 = dktX1_hasGoods_0 := by decide +kernel
theorem dksX1_hasGoods_1 : cX1_hasGoods.data.toList.drop 24 = dktX1_hasGoods_1 := dk_seg dksX1_hasGoods_0 24 rfl rfl
theorem dX1_hasGoods_0 : decode cX1_hasGoods 0 = .ok (.iconst 1, 1) := dk_4 (dk_at dksX1_hasGoods_0 0 rfl rfl)
theorem dX1_hasGoods_1 : decode cX1_hasGoods 1 = .ok (.istore_n 3, 1) := dk_62 (dk_at dksX1_hasGoods_0 1 rfl rfl)
theorem dX1_hasGoods_2 : decode cX1_hasGoods 2 = .ok (.iconst 0, 1) := dk_3 (dk_at dksX1_hasGoods_0 2 rfl rfl)
theorem dX1_hasGoods_3 : decode cX1_hasGoods 3 = .ok (.istore 4, 2) := dk_54 4 (dk_at dksX1_hasGoods_0 3 rfl rfl)
theorem dX1_hasGoods_5 : decode cX1_hasGoods 5 = .ok (.iload 4, 2) := dk_21 4 (dk_at dksX1_hasGoods_0 5 rfl rfl)
theorem dX1_hasGoods_7 : decode cX1_hasGoods 7 = .ok (.iconst 5, 1) := dk_8 (dk_at dksX1_hasGoods_0 7 rfl rfl)
theorem dX1_hasGoods_8 : decode cX1_hasGoods 8 = .ok (.if_icmp .ge 35, 3) := dk_162 0 35 (dk_at dksX1_hasGoods_0 8 rfl rfl)
theorem dX1_hasGoods_11 : decode cX1_hasGoods 11 = .ok (.iload_n 3, 1) := dk_29 (dk_at dksX1_hasGoods_0 11 rfl rfl)
theorem dX1_hasGoods_12 : decode cX1_hasGoods 12 = .ok (.aload_n 0, 1) := dk_42 (dk_at dksX1_hasGoods_0 12 rfl rfl)
theorem dX1_hasGoods_13 : decode cX1_hasGoods 13 = .ok (.getfield 27, 3) := dk_180 0 27 (dk_at dksX1_hasGoods_0 13 rfl rfl)
theorem dX1_hasGoods_16 : decode cX1_hasGoods 16 = .ok (.iload_n 1, 1) := dk_27 (dk_at dksX1_hasGoods_0 16 rfl rfl)
theorem dX1_hasGoods_17 : decode cX1_hasGoods 17 = .ok (.aaload, 1) := dk_50 (dk_at dksX1_hasGoods_0 17 rfl rfl)
theorem dX1_hasGoods_18 : decode cX1_hasGoods 18 = .ok (.iload 4, 2) := dk_21 4 (dk_at dksX1_hasGoods_0 18 rfl rfl)
theorem dX1_hasGoods_20 : decode cX1_hasGoods 20 = .ok (.iaload, 1) := dk_46 (dk_at dksX1_hasGoods_0 20 rfl rfl)
theorem dX1_hasGoods_21 : decode cX1_hasGoods 21 = .ok (.iload_n 2, 1) := dk_28 (dk_at dksX1_hasGoods_0 21 rfl rfl)
theorem dX1_hasGoods_22 : decode cX1_hasGoods 22 = .ok (.iload 4, 2) := dk_21 4 (dk_at dksX1_hasGoods_0 22 rfl rfl)
theorem dX1_hasGoods_24 : decode cX1_hasGoods 24 = .ok (.invokestatic 98, 3) := dk_184 0 98 (dk_at dksX1_hasGoods_1 0 rfl rfl)
theorem dX1_hasGoods_27 : decode cX1_hasGoods 27 = .ok (.if_icmp .lt 7, 3) := dk_161 0 7 (dk_at dksX1_hasGoods_1 3 rfl rfl)
theorem dX1_hasGoods_30 : decode cX1_hasGoods 30 = .ok (.iconst 1, 1) := dk_4 (dk_at dksX1_hasGoods_1 6 rfl rfl)
theorem dX1_hasGoods_31 : decode cX1_hasGoods 31 = .ok (.goto 4, 3) := dk_167 0 4 (dk_at dksX1_hasGoods_1 7 rfl rfl)
theorem dX1_hasGoods_34 : decode cX1_hasGoods 34 = .ok (.iconst 0, 1) := dk_3 (dk_at dksX1_hasGoods_1 10 rfl rfl)
theorem dX1_hasGoods_35 : decode cX1_hasGoods 35 = .ok (.iand, 1) := dk_126 (dk_at dksX1_hasGoods_1 11 rfl rfl)
theorem dX1_hasGoods_36 : decode cX1_hasGoods 36 = .ok (.istore_n 3, 1) := dk_62 (dk_at dksX1_hasGoods_1 12 rfl rfl)
theorem dX1_hasGoods_37 : decode cX1_hasGoods 37 = .ok (.iinc 4 1, 3) := dk_132 4 1 (dk_at dksX1_hasGoods_1 13 rfl rfl)
theorem dX1_hasGoods_40 : decode cX1_hasGoods 40 = .ok (.goto (-35), 3) := dk_167 255 221 (dk_at dksX1_hasGoods_1 16 rfl rfl)
theorem dX1_hasGoods_43 : decode cX1_hasGoods 43 = .ok (.iload_n 3, 1) := dk_29 (dk_at dksX1_hasGoods_1 19 rfl rfl)
theorem dX1_hasGoods_44 : decode cX1_hasGoods 44 = .ok (.ireturn, 1) := dk_172 (dk_at dksX1_hasGoods_1 20 rfl rfl)
abbrev cX1_digit : ByteArray := prog_1_method_12_code
def yX1_digit : MethodName := ⟨RX1, "digit", "(II)I"⟩
def dkwX1_digit_1 : List UInt8 := [172]
abbrev dktX1_digit_1 : List UInt8 := dkwX1_digit_1 ++ []
def dkwX1_digit_0 : List UInt8 := [26, 61, 3, 62, 29, 27, 162, 0, 14, 28, 16, 10, 108, 61, 132, 3, 1, 167, 255, 243, 28, 16, 10, 112]
abbrev dktX1_digit_0 : List UInt8 := dkwX1_digit_0 ++ dktX1_digit_1
theorem dksX1_digit_0 : cX1_digit.data.toList.drop 0 = dktX1_digit_0 := by decide +kernel
theorem dksX1_digit_1 : cX1_digit.data.toList.drop 24 = dktX1_digit_1 := dk_seg dksX1_digit_0 24 rfl rfl
theorem dX1_digit_0 : decode cX1_digit 0 = .ok (.iload_n 0, 1) := dk_26 (dk_at dksX1_digit_0 0 rfl rfl)
theorem dX1_digit_1 : decode cX1_digit 1 = .ok (.istore_n 2, 1) := dk_61 (dk_at dksX1_digit_0 1 rfl rfl)
theorem dX1_digit_2 : decode cX1_digit 2 = .ok (.iconst 0, 1) := dk_3 (dk_at dksX1_digit_0 2 rfl rfl)
theorem dX1_digit_3 : decode cX1_digit 3 = .ok (.istore_n 3, 1) := dk_62 (dk_at dksX1_digit_0 3 rfl rfl)
theorem dX1_digit_4 : decode cX1_digit 4 = .ok (.iload_n 3, 1) := dk_29 (dk_at dksX1_digit_0 4 rfl rfl)
theorem dX1_digit_5 : decode cX1_digit 5 = .ok (.iload_n 1, 1) := dk_27 (dk_at dksX1_digit_0 5 rfl rfl)
theorem dX1_digit_6 : decode cX1_digit 6 = .ok (.if_icmp .ge 14, 3) := dk_162 0 14 (dk_at dksX1_digit_0 6 rfl rfl)
theorem dX1_digit_9 : decode cX1_digit 9 = .ok (.iload_n 2, 1) := dk_28 (dk_at dksX1_digit_0 9 rfl rfl)
theorem dX1_digit_10 : decode cX1_digit 10 = .ok (.bipush 10, 2) := dk_16 10 (dk_at dksX1_digit_0 10 rfl rfl)
theorem dX1_digit_12 : decode cX1_digit 12 = .ok (.idiv, 1) := dk_108 (dk_at dksX1_digit_0 12 rfl rfl)
theorem dX1_digit_13 : decode cX1_digit 13 = .ok (.istore_n 2, 1) := dk_61 (dk_at dksX1_digit_0 13 rfl rfl)
theorem dX1_digit_14 : decode cX1_digit 14 = .ok (.iinc 3 1, 3) := dk_132 3 1 (dk_at dksX1_digit_0 14 rfl rfl)
theorem dX1_digit_17 : decode cX1_digit 17 = .ok (.goto (-13), 3) := dk_167 255 243 (dk_at dksX1_digit_0 17 rfl rfl)
theorem dX1_digit_20 : decode cX1_digit 20 = .ok (.iload_n 2, 1) := dk_28 (dk_at dksX1_digit_0 20 rfl rfl)
theorem dX1_digit_21 : decode cX1_digit 21 = .ok (.bipush 10, 2) := dk_16 10 (dk_at dksX1_digit_0 21 rfl rfl)
theorem dX1_digit_23 : decode cX1_digit 23 = .ok (.irem, 1) := dk_112 (dk_at dksX1_digit_0 23 rfl rfl)
theorem dX1_digit_24 : decode cX1_digit 24 = .ok (.ireturn, 1) := dk_172 (dk_at dksX1_digit_1 0 rfl rfl)
abbrev cX1_give : ByteArray := prog_1_method_17_code
def yX1_give : MethodName := ⟨RX1, "give", "(III)V"⟩
def dkwX1_give_1 : List UInt8 := [132, 4, 1, 167, 255, 233, 177]
abbrev dktX1_give_1 : List UInt8 := dkwX1_give_1 ++ []
def dkwX1_give_0 : List UInt8 := [3, 54, 4, 21, 4, 8, 162, 0, 23, 42, 27, 28, 21, 4, 29, 21, 4, 184, 0, 98, 182, 0, 112]
abbrev dktX1_give_0 : List UInt8 := dkwX1_give_0 ++ dktX1_give_1
theorem dksX1_give_0 : cX1_give.data.toList.drop 0 = dktX1_give_0 := by decide +kernel
theorem dksX1_give_1 : cX1_give.data.toList.drop 23 = dktX1_give_1 := dk_seg dksX1_give_0 23 rfl rfl
theorem dX1_give_0 : decode cX1_give 0 = .ok (.iconst 0, 1) := dk_3 (dk_at dksX1_give_0 0 rfl rfl)
theorem dX1_give_1 : decode cX1_give 1 = .ok (.istore 4, 2) := dk_54 4 (dk_at dksX1_give_0 1 rfl rfl)
theorem dX1_give_3 : decode cX1_give 3 = .ok (.iload 4, 2) := dk_21 4 (dk_at dksX1_give_0 3 rfl rfl)
theorem dX1_give_5 : decode cX1_give 5 = .ok (.iconst 5, 1) := dk_8 (dk_at dksX1_give_0 5 rfl rfl)
theorem dX1_give_6 : decode cX1_give 6 = .ok (.if_icmp .ge 23, 3) := dk_162 0 23 (dk_at dksX1_give_0 6 rfl rfl)
theorem dX1_give_9 : decode cX1_give 9 = .ok (.aload_n 0, 1) := dk_42 (dk_at dksX1_give_0 9 rfl rfl)
theorem dX1_give_10 : decode cX1_give 10 = .ok (.iload_n 1, 1) := dk_27 (dk_at dksX1_give_0 10 rfl rfl)
theorem dX1_give_11 : decode cX1_give 11 = .ok (.iload_n 2, 1) := dk_28 (dk_at dksX1_give_0 11 rfl rfl)
theorem dX1_give_12 : decode cX1_give 12 = .ok (.iload 4, 2) := dk_21 4 (dk_at dksX1_give_0 12 rfl rfl)
theorem dX1_give_14 : decode cX1_give 14 = .ok (.iload_n 3, 1) := dk_29 (dk_at dksX1_give_0 14 rfl rfl)
theorem dX1_give_15 : decode cX1_give 15 = .ok (.iload 4, 2) := dk_21 4 (dk_at dksX1_give_0 15 rfl rfl)
theorem dX1_give_17 : decode cX1_give 17 = .ok (.invokestatic 98, 3) := dk_184 0 98 (dk_at dksX1_give_0 17 rfl rfl)
theorem dX1_give_20 : decode cX1_give 20 = .ok (.invokevirtual 112, 3) := dk_182 0 112 (dk_at dksX1_give_0 20 rfl rfl)
theorem dX1_give_23 : decode cX1_give 23 = .ok (.iinc 4 1, 3) := dk_132 4 1 (dk_at dksX1_give_1 0 rfl rfl)
theorem dX1_give_26 : decode cX1_give 26 = .ok (.goto (-23), 3) := dk_167 255 233 (dk_at dksX1_give_1 3 rfl rfl)
theorem dX1_give_29 : decode cX1_give 29 = .ok (.return_, 1) := dk_177 (dk_at dksX1_give_1 6 rfl rfl)
abbrev cX1_total : ByteArray := prog_1_method_14_code
def yX1_total : MethodName := ⟨RX1, "total", "(I)I"⟩
def dkwX1_total_1 : List UInt8 := [21, 5, 46, 54, 6, 28, 21, 6, 96, 61, 132, 5, 1, 167, 255, 235, 28, 172]
abbrev dktX1_total_1 : List UInt8 := dkwX1_total_1 ++ []
def dkwX1_total_0 : List UInt8 := [3, 61, 42, 180, 0, 27, 27, 50, 78, 45, 190, 54, 4, 3, 54, 5, 21, 5, 21, 4, 162, 0, 20, 45]
abbrev dktX1_total_0 : List UInt8 := dkwX1_total_0 ++ dktX1_total_1
theorem dksX1_total_0 : cX1_total.data.toList.drop 0 = dktX1_total_0 := by decide +kernel
theorem dksX1_total_1 : cX1_total.data.toList.drop 24 = dktX1_total_1 := dk_seg dksX1_total_0 24 rfl rfl
theorem dX1_total_0 : decode cX1_total 0 = .ok (.iconst 0, 1) := dk_3 (dk_at dksX1_total_0 0 rfl rfl)
theorem dX1_total_1 : decode cX1_total 1 = .ok (.istore_n 2, 1) := dk_61 (dk_at dksX1_total_0 1 rfl rfl)
theorem dX1_total_2 : decode cX1_total 2 = .ok (.aload_n 0, 1) := dk_42 (dk_at dksX1_total_0 2 rfl rfl)
theorem dX1_total_3 : decode cX1_total 3 = .ok (.getfield 27, 3) := dk_180 0 27 (dk_at dksX1_total_0 3 rfl rfl)
theorem dX1_total_6 : decode cX1_total 6 = .ok (.iload_n 1, 1) := dk_27 (dk_at dksX1_total_0 6 rfl rfl)
theorem dX1_total_7 : decode cX1_total 7 = .ok (.aaload, 1) := dk_50 (dk_at dksX1_total_0 7 rfl rfl)
theorem dX1_total_8 : decode cX1_total 8 = .ok (.astore_n 3, 1) := dk_78 (dk_at dksX1_total_0 8 rfl rfl)
theorem dX1_total_9 : decode cX1_total 9 = .ok (.aload_n 3, 1) := dk_45 (dk_at dksX1_total_0 9 rfl rfl)
theorem dX1_total_10 : decode cX1_total 10 = .ok (.arraylength, 1) := dk_190 (dk_at dksX1_total_0 10 rfl rfl)
theorem dX1_total_11 : decode cX1_total 11 = .ok (.istore 4, 2) := dk_54 4 (dk_at dksX1_total_0 11 rfl rfl)
theorem dX1_total_13 : decode cX1_total 13 = .ok (.iconst 0, 1) := dk_3 (dk_at dksX1_total_0 13 rfl rfl)
theorem dX1_total_14 : decode cX1_total 14 = .ok (.istore 5, 2) := dk_54 5 (dk_at dksX1_total_0 14 rfl rfl)
theorem dX1_total_16 : decode cX1_total 16 = .ok (.iload 5, 2) := dk_21 5 (dk_at dksX1_total_0 16 rfl rfl)
theorem dX1_total_18 : decode cX1_total 18 = .ok (.iload 4, 2) := dk_21 4 (dk_at dksX1_total_0 18 rfl rfl)
theorem dX1_total_20 : decode cX1_total 20 = .ok (.if_icmp .ge 20, 3) := dk_162 0 20 (dk_at dksX1_total_0 20 rfl rfl)
theorem dX1_total_23 : decode cX1_total 23 = .ok (.aload_n 3, 1) := dk_45 (dk_at dksX1_total_0 23 rfl rfl)
theorem dX1_total_24 : decode cX1_total 24 = .ok (.iload 5, 2) := dk_21 5 (dk_at dksX1_total_1 0 rfl rfl)
theorem dX1_total_26 : decode cX1_total 26 = .ok (.iaload, 1) := dk_46 (dk_at dksX1_total_1 2 rfl rfl)
theorem dX1_total_27 : decode cX1_total 27 = .ok (.istore 6, 2) := dk_54 6 (dk_at dksX1_total_1 3 rfl rfl)
theorem dX1_total_29 : decode cX1_total 29 = .ok (.iload_n 2, 1) := dk_28 (dk_at dksX1_total_1 5 rfl rfl)
theorem dX1_total_30 : decode cX1_total 30 = .ok (.iload 6, 2) := dk_21 6 (dk_at dksX1_total_1 6 rfl rfl)
theorem dX1_total_32 : decode cX1_total 32 = .ok (.iadd, 1) := dk_96 (dk_at dksX1_total_1 8 rfl rfl)
theorem dX1_total_33 : decode cX1_total 33 = .ok (.istore_n 2, 1) := dk_61 (dk_at dksX1_total_1 9 rfl rfl)
theorem dX1_total_34 : decode cX1_total 34 = .ok (.iinc 5 1, 3) := dk_132 5 1 (dk_at dksX1_total_1 10 rfl rfl)
theorem dX1_total_37 : decode cX1_total 37 = .ok (.goto (-21), 3) := dk_167 255 235 (dk_at dksX1_total_1 13 rfl rfl)
theorem dX1_total_40 : decode cX1_total 40 = .ok (.iload_n 2, 1) := dk_28 (dk_at dksX1_total_1 16 rfl rfl)
theorem dX1_total_41 : decode cX1_total 41 = .ok (.ireturn, 1) := dk_172 (dk_at dksX1_total_1 17 rfl rfl)
abbrev cX1_roll : ByteArray := prog_1_method_43_code
def yX1_roll : MethodName := ⟨RX1, "roll", "(II)I"⟩
def dkwX1_roll_6 : List UInt8 := [42, 5, 181, 0, 52, 42, 180, 0, 52, 172]
abbrev dktX1_roll_6 : List UInt8 := dkwX1_roll_6 ++ []
def dkwX1_roll_5 : List UInt8 := [6, 21, 5, 29, 25, 4, 21, 5, 46, 182, 0, 112, 132, 5, 1, 167, 255, 234, 132, 3, 1, 167, 255, 210]
abbrev dktX1_roll_5 : List UInt8 := dkwX1_roll_5 ++ dktX1_roll_6
def dkwX1_roll_4 : List UInt8 := [8, 162, 0, 47, 42, 29, 27, 28, 96, 182, 1, 6, 58, 4, 3, 54, 5, 21, 5, 6, 162, 0, 22, 42]
abbrev dktX1_roll_4 : List UInt8 := dkwX1_roll_4 ++ dktX1_roll_5
def dkwX1_roll_3 : List UInt8 := [108, 167, 0, 4, 3, 79, 132, 3, 1, 167, 255, 221, 42, 182, 1, 3, 42, 180, 0, 52, 172, 3, 62, 29]
abbrev dktX1_roll_3 : List UInt8 := dkwX1_roll_3 ++ dktX1_roll_4
def dkwX1_roll_2 : List UInt8 := [162, 0, 36, 42, 180, 0, 30, 29, 42, 29, 182, 0, 195, 16, 7, 164, 0, 13, 42, 29, 182, 0, 195, 5]
abbrev dktX1_roll_2 : List UInt8 := dkwX1_roll_2 ++ dktX1_roll_3
def dkwX1_roll_1 : List UInt8 := [167, 0, 4, 3, 184, 0, 230, 42, 4, 181, 0, 253, 27, 28, 96, 16, 7, 160, 0, 52, 3, 62, 29, 6]
abbrev dktX1_roll_1 : List UInt8 := dkwX1_roll_1 ++ dktX1_roll_2
def dkwX1_roll_0 : List UInt8 := [27, 4, 16, 6, 184, 0, 215, 28, 4, 16, 6, 184, 0, 215, 42, 180, 0, 52, 4, 160, 0, 7, 4]
abbrev dktX1_roll_0 : List UInt8 := dkwX1_roll_0 ++ dktX1_roll_1
theorem dksX1_roll_0 : cX1_roll.data.toList.drop 0 = dktX1_roll_0 := by decide +kernel
theorem dksX1_roll_1 : cX1_roll.data.toList.drop 23 = dktX1_roll_1 := dk_seg dksX1_roll_0 23 rfl rfl
theorem dksX1_roll_2 : cX1_roll.data.toList.drop 47 = dktX1_roll_2 := dk_seg dksX1_roll_1 24 rfl rfl
theorem dksX1_roll_3 : cX1_roll.data.toList.drop 71 = dktX1_roll_3 := dk_seg dksX1_roll_2 24 rfl rfl
theorem dksX1_roll_4 : cX1_roll.data.toList.drop 95 = dktX1_roll_4 := dk_seg dksX1_roll_3 24 rfl rfl
theorem dksX1_roll_5 : cX1_roll.data.toList.drop 119 = dktX1_roll_5 := dk_seg dksX1_roll_4 24 rfl rfl
theorem dksX1_roll_6 : cX1_roll.data.toList.drop 143 = dktX1_roll_6 := dk_seg dksX1_roll_5 24 rfl rfl
theorem dX1_roll_0 : decode cX1_roll 0 = .ok (.iload_n 1, 1) := dk_27 (dk_at dksX1_roll_0 0 rfl rfl)
theorem dX1_roll_1 : decode cX1_roll 1 = .ok (.iconst 1, 1) := dk_4 (dk_at dksX1_roll_0 1 rfl rfl)
theorem dX1_roll_2 : decode cX1_roll 2 = .ok (.bipush 6, 2) := dk_16 6 (dk_at dksX1_roll_0 2 rfl rfl)
theorem dX1_roll_4 : decode cX1_roll 4 = .ok (.invokestatic 215, 3) := dk_184 0 215 (dk_at dksX1_roll_0 4 rfl rfl)
theorem dX1_roll_7 : decode cX1_roll 7 = .ok (.iload_n 2, 1) := dk_28 (dk_at dksX1_roll_0 7 rfl rfl)
theorem dX1_roll_8 : decode cX1_roll 8 = .ok (.iconst 1, 1) := dk_4 (dk_at dksX1_roll_0 8 rfl rfl)
theorem dX1_roll_9 : decode cX1_roll 9 = .ok (.bipush 6, 2) := dk_16 6 (dk_at dksX1_roll_0 9 rfl rfl)
theorem dX1_roll_11 : decode cX1_roll 11 = .ok (.invokestatic 215, 3) := dk_184 0 215 (dk_at dksX1_roll_0 11 rfl rfl)
theorem dX1_roll_14 : decode cX1_roll 14 = .ok (.aload_n 0, 1) := dk_42 (dk_at dksX1_roll_0 14 rfl rfl)
theorem dX1_roll_15 : decode cX1_roll 15 = .ok (.getfield 52, 3) := dk_180 0 52 (dk_at dksX1_roll_0 15 rfl rfl)
theorem dX1_roll_18 : decode cX1_roll 18 = .ok (.iconst 1, 1) := dk_4 (dk_at dksX1_roll_0 18 rfl rfl)
theorem dX1_roll_19 : decode cX1_roll 19 = .ok (.if_icmp .ne 7, 3) := dk_160 0 7 (dk_at dksX1_roll_0 19 rfl rfl)
theorem dX1_roll_22 : decode cX1_roll 22 = .ok (.iconst 1, 1) := dk_4 (dk_at dksX1_roll_0 22 rfl rfl)
theorem dX1_roll_23 : decode cX1_roll 23 = .ok (.goto 4, 3) := dk_167 0 4 (dk_at dksX1_roll_1 0 rfl rfl)
theorem dX1_roll_26 : decode cX1_roll 26 = .ok (.iconst 0, 1) := dk_3 (dk_at dksX1_roll_1 3 rfl rfl)
theorem dX1_roll_27 : decode cX1_roll 27 = .ok (.invokestatic 230, 3) := dk_184 0 230 (dk_at dksX1_roll_1 4 rfl rfl)
theorem dX1_roll_30 : decode cX1_roll 30 = .ok (.aload_n 0, 1) := dk_42 (dk_at dksX1_roll_1 7 rfl rfl)
theorem dX1_roll_31 : decode cX1_roll 31 = .ok (.iconst 1, 1) := dk_4 (dk_at dksX1_roll_1 8 rfl rfl)
theorem dX1_roll_32 : decode cX1_roll 32 = .ok (.putfield 253, 3) := dk_181 0 253 (dk_at dksX1_roll_1 9 rfl rfl)
theorem dX1_roll_35 : decode cX1_roll 35 = .ok (.iload_n 1, 1) := dk_27 (dk_at dksX1_roll_1 12 rfl rfl)
theorem dX1_roll_36 : decode cX1_roll 36 = .ok (.iload_n 2, 1) := dk_28 (dk_at dksX1_roll_1 13 rfl rfl)
theorem dX1_roll_37 : decode cX1_roll 37 = .ok (.iadd, 1) := dk_96 (dk_at dksX1_roll_1 14 rfl rfl)
theorem dX1_roll_38 : decode cX1_roll 38 = .ok (.bipush 7, 2) := dk_16 7 (dk_at dksX1_roll_1 15 rfl rfl)
theorem dX1_roll_40 : decode cX1_roll 40 = .ok (.if_icmp .ne 52, 3) := dk_160 0 52 (dk_at dksX1_roll_1 17 rfl rfl)
theorem dX1_roll_43 : decode cX1_roll 43 = .ok (.iconst 0, 1) := dk_3 (dk_at dksX1_roll_1 20 rfl rfl)
theorem dX1_roll_44 : decode cX1_roll 44 = .ok (.istore_n 3, 1) := dk_62 (dk_at dksX1_roll_1 21 rfl rfl)
theorem dX1_roll_45 : decode cX1_roll 45 = .ok (.iload_n 3, 1) := dk_29 (dk_at dksX1_roll_1 22 rfl rfl)
theorem dX1_roll_46 : decode cX1_roll 46 = .ok (.iconst 3, 1) := dk_6 (dk_at dksX1_roll_1 23 rfl rfl)
theorem dX1_roll_47 : decode cX1_roll 47 = .ok (.if_icmp .ge 36, 3) := dk_162 0 36 (dk_at dksX1_roll_2 0 rfl rfl)
theorem dX1_roll_50 : decode cX1_roll 50 = .ok (.aload_n 0, 1) := dk_42 (dk_at dksX1_roll_2 3 rfl rfl)
theorem dX1_roll_51 : decode cX1_roll 51 = .ok (.getfield 30, 3) := dk_180 0 30 (dk_at dksX1_roll_2 4 rfl rfl)
theorem dX1_roll_54 : decode cX1_roll 54 = .ok (.iload_n 3, 1) := dk_29 (dk_at dksX1_roll_2 7 rfl rfl)
theorem dX1_roll_55 : decode cX1_roll 55 = .ok (.aload_n 0, 1) := dk_42 (dk_at dksX1_roll_2 8 rfl rfl)
theorem dX1_roll_56 : decode cX1_roll 56 = .ok (.iload_n 3, 1) := dk_29 (dk_at dksX1_roll_2 9 rfl rfl)
theorem dX1_roll_57 : decode cX1_roll 57 = .ok (.invokevirtual 195, 3) := dk_182 0 195 (dk_at dksX1_roll_2 10 rfl rfl)
theorem dX1_roll_60 : decode cX1_roll 60 = .ok (.bipush 7, 2) := dk_16 7 (dk_at dksX1_roll_2 13 rfl rfl)
theorem dX1_roll_62 : decode cX1_roll 62 = .ok (.if_icmp .le 13, 3) := dk_164 0 13 (dk_at dksX1_roll_2 15 rfl rfl)
theorem dX1_roll_65 : decode cX1_roll 65 = .ok (.aload_n 0, 1) := dk_42 (dk_at dksX1_roll_2 18 rfl rfl)
theorem dX1_roll_66 : decode cX1_roll 66 = .ok (.iload_n 3, 1) := dk_29 (dk_at dksX1_roll_2 19 rfl rfl)
theorem dX1_roll_67 : decode cX1_roll 67 = .ok (.invokevirtual 195, 3) := dk_182 0 195 (dk_at dksX1_roll_2 20 rfl rfl)
theorem dX1_roll_70 : decode cX1_roll 70 = .ok (.iconst 2, 1) := dk_5 (dk_at dksX1_roll_2 23 rfl rfl)
theorem dX1_roll_71 : decode cX1_roll 71 = .ok (.idiv, 1) := dk_108 (dk_at dksX1_roll_3 0 rfl rfl)
theorem dX1_roll_72 : decode cX1_roll 72 = .ok (.goto 4, 3) := dk_167 0 4 (dk_at dksX1_roll_3 1 rfl rfl)
theorem dX1_roll_75 : decode cX1_roll 75 = .ok (.iconst 0, 1) := dk_3 (dk_at dksX1_roll_3 4 rfl rfl)
theorem dX1_roll_76 : decode cX1_roll 76 = .ok (.iastore, 1) := dk_79 (dk_at dksX1_roll_3 5 rfl rfl)
theorem dX1_roll_77 : decode cX1_roll 77 = .ok (.iinc 3 1, 3) := dk_132 3 1 (dk_at dksX1_roll_3 6 rfl rfl)
theorem dX1_roll_80 : decode cX1_roll 80 = .ok (.goto (-35), 3) := dk_167 255 221 (dk_at dksX1_roll_3 9 rfl rfl)
theorem dX1_roll_83 : decode cX1_roll 83 = .ok (.aload_n 0, 1) := dk_42 (dk_at dksX1_roll_3 12 rfl rfl)
theorem dX1_roll_84 : decode cX1_roll 84 = .ok (.invokevirtual 259, 3) := dk_182 1 3 (dk_at dksX1_roll_3 13 rfl rfl)
theorem dX1_roll_87 : decode cX1_roll 87 = .ok (.aload_n 0, 1) := dk_42 (dk_at dksX1_roll_3 16 rfl rfl)
theorem dX1_roll_88 : decode cX1_roll 88 = .ok (.getfield 52, 3) := dk_180 0 52 (dk_at dksX1_roll_3 17 rfl rfl)
theorem dX1_roll_91 : decode cX1_roll 91 = .ok (.ireturn, 1) := dk_172 (dk_at dksX1_roll_3 20 rfl rfl)
theorem dX1_roll_92 : decode cX1_roll 92 = .ok (.iconst 0, 1) := dk_3 (dk_at dksX1_roll_3 21 rfl rfl)
theorem dX1_roll_93 : decode cX1_roll 93 = .ok (.istore_n 3, 1) := dk_62 (dk_at dksX1_roll_3 22 rfl rfl)
theorem dX1_roll_94 : decode cX1_roll 94 = .ok (.iload_n 3, 1) := dk_29 (dk_at dksX1_roll_3 23 rfl rfl)
theorem dX1_roll_95 : decode cX1_roll 95 = .ok (.iconst 5, 1) := dk_8 (dk_at dksX1_roll_4 0 rfl rfl)
theorem dX1_roll_96 : decode cX1_roll 96 = .ok (.if_icmp .ge 47, 3) := dk_162 0 47 (dk_at dksX1_roll_4 1 rfl rfl)
theorem dX1_roll_99 : decode cX1_roll 99 = .ok (.aload_n 0, 1) := dk_42 (dk_at dksX1_roll_4 4 rfl rfl)
theorem dX1_roll_100 : decode cX1_roll 100 = .ok (.iload_n 3, 1) := dk_29 (dk_at dksX1_roll_4 5 rfl rfl)
theorem dX1_roll_101 : decode cX1_roll 101 = .ok (.iload_n 1, 1) := dk_27 (dk_at dksX1_roll_4 6 rfl rfl)
theorem dX1_roll_102 : decode cX1_roll 102 = .ok (.iload_n 2, 1) := dk_28 (dk_at dksX1_roll_4 7 rfl rfl)
theorem dX1_roll_103 : decode cX1_roll 103 = .ok (.iadd, 1) := dk_96 (dk_at dksX1_roll_4 8 rfl rfl)
theorem dX1_roll_104 : decode cX1_roll 104 = .ok (.invokevirtual 262, 3) := dk_182 1 6 (dk_at dksX1_roll_4 9 rfl rfl)
theorem dX1_roll_107 : decode cX1_roll 107 = .ok (.astore 4, 2) := dk_58 4 (dk_at dksX1_roll_4 12 rfl rfl)
theorem dX1_roll_109 : decode cX1_roll 109 = .ok (.iconst 0, 1) := dk_3 (dk_at dksX1_roll_4 14 rfl rfl)
theorem dX1_roll_110 : decode cX1_roll 110 = .ok (.istore 5, 2) := dk_54 5 (dk_at dksX1_roll_4 15 rfl rfl)
theorem dX1_roll_112 : decode cX1_roll 112 = .ok (.iload 5, 2) := dk_21 5 (dk_at dksX1_roll_4 17 rfl rfl)
theorem dX1_roll_114 : decode cX1_roll 114 = .ok (.iconst 3, 1) := dk_6 (dk_at dksX1_roll_4 19 rfl rfl)
theorem dX1_roll_115 : decode cX1_roll 115 = .ok (.if_icmp .ge 22, 3) := dk_162 0 22 (dk_at dksX1_roll_4 20 rfl rfl)
theorem dX1_roll_118 : decode cX1_roll 118 = .ok (.aload_n 0, 1) := dk_42 (dk_at dksX1_roll_4 23 rfl rfl)
theorem dX1_roll_119 : decode cX1_roll 119 = .ok (.iconst 3, 1) := dk_6 (dk_at dksX1_roll_5 0 rfl rfl)
theorem dX1_roll_120 : decode cX1_roll 120 = .ok (.iload 5, 2) := dk_21 5 (dk_at dksX1_roll_5 1 rfl rfl)
theorem dX1_roll_122 : decode cX1_roll 122 = .ok (.iload_n 3, 1) := dk_29 (dk_at dksX1_roll_5 3 rfl rfl)
theorem dX1_roll_123 : decode cX1_roll 123 = .ok (.aload 4, 2) := dk_25 4 (dk_at dksX1_roll_5 4 rfl rfl)
theorem dX1_roll_125 : decode cX1_roll 125 = .ok (.iload 5, 2) := dk_21 5 (dk_at dksX1_roll_5 6 rfl rfl)
theorem dX1_roll_127 : decode cX1_roll 127 = .ok (.iaload, 1) := dk_46 (dk_at dksX1_roll_5 8 rfl rfl)
theorem dX1_roll_128 : decode cX1_roll 128 = .ok (.invokevirtual 112, 3) := dk_182 0 112 (dk_at dksX1_roll_5 9 rfl rfl)
theorem dX1_roll_131 : decode cX1_roll 131 = .ok (.iinc 5 1, 3) := dk_132 5 1 (dk_at dksX1_roll_5 12 rfl rfl)
theorem dX1_roll_134 : decode cX1_roll 134 = .ok (.goto (-22), 3) := dk_167 255 234 (dk_at dksX1_roll_5 15 rfl rfl)
theorem dX1_roll_137 : decode cX1_roll 137 = .ok (.iinc 3 1, 3) := dk_132 3 1 (dk_at dksX1_roll_5 18 rfl rfl)
theorem dX1_roll_140 : decode cX1_roll 140 = .ok (.goto (-46), 3) := dk_167 255 210 (dk_at dksX1_roll_5 21 rfl rfl)
theorem dX1_roll_143 : decode cX1_roll 143 = .ok (.aload_n 0, 1) := dk_42 (dk_at dksX1_roll_6 0 rfl rfl)
theorem dX1_roll_144 : decode cX1_roll 144 = .ok (.iconst 2, 1) := dk_5 (dk_at dksX1_roll_6 1 rfl rfl)
theorem dX1_roll_145 : decode cX1_roll 145 = .ok (.putfield 52, 3) := dk_181 0 52 (dk_at dksX1_roll_6 2 rfl rfl)
theorem dX1_roll_148 : decode cX1_roll 148 = .ok (.aload_n 0, 1) := dk_42 (dk_at dksX1_roll_6 5 rfl rfl)
theorem dX1_roll_149 : decode cX1_roll 149 = .ok (.getfield 52, 3) := dk_180 0 52 (dk_at dksX1_roll_6 6 rfl rfl)
theorem dX1_roll_152 : decode cX1_roll 152 = .ok (.ireturn, 1) := dk_172 (dk_at dksX1_roll_6 9 rfl rfl)
abbrev cX1_lookAtDue : ByteArray := prog_1_method_44_code
def yX1_lookAtDue : MethodName := ⟨RX1, "lookAtDue", "()V"⟩
def dkwX1_lookAtDue_2 : List UInt8 := [167, 255, 226, 177]
abbrev dktX1_lookAtDue_2 : List UInt8 := dkwX1_lookAtDue_2 ++ []
def dkwX1_lookAtDue_1 : List UInt8 := [54, 4, 42, 21, 4, 158, 0, 7, 6, 167, 0, 7, 42, 180, 0, 52, 181, 0, 52, 132, 3, 1]
abbrev dktX1_lookAtDue_1 : List UInt8 := dkwX1_lookAtDue_1 ++ dktX1_lookAtDue_2
def dkwX1_lookAtDue_0 : List UInt8 := [42, 7, 181, 0, 52, 42, 180, 0, 30, 76, 43, 190, 61, 3, 62, 29, 28, 162, 0, 31, 43, 29, 46]
abbrev dktX1_lookAtDue_0 : List UInt8 := dkwX1_lookAtDue_0 ++ dktX1_lookAtDue_1
theorem dksX1_lookAtDue_0 : cX1_lookAtDue.data.toList.drop 0 = dktX1_lookAtDue_0 := by decide +kernel
theorem dksX1_lookAtDue_1 : cX1_lookAtDue.data.toList.drop 23 = dktX1_lookAtDue_1 := dk_seg dksX1_lookAtDue_0 23 rfl rfl
theorem dksX1_lookAtDue_2 : cX1_lookAtDue.data.toList.drop 45 = dktX1_lookAtDue_2 := dk_seg dksX1_lookAtDue_1 22 rfl rfl
theorem dX1_lookAtDue_0 : decode cX1_lookAtDue 0 = .ok (.aload_n 0, 1) := dk_42 (dk_at dksX1_lookAtDue_0 0 rfl rfl)
theorem dX1_lookAtDue_1 : decode cX1_lookAtDue 1 = .ok (.iconst 4, 1) := dk_7 (dk_at dksX1_lookAtDue_0 1 rfl rfl)
theorem dX1_lookAtDue_2 : decode cX1_lookAtDue 2 = .ok (.putfield 52, 3) := dk_181 0 52 (dk_at dksX1_lookAtDue_0 2 rfl rfl)
theorem dX1_lookAtDue_5 : decode cX1_lookAtDue 5 = .ok (.aload_n 0, 1) := dk_42 (dk_at dksX1_lookAtDue_0 5 rfl rfl)
theorem dX1_lookAtDue_6 : decode cX1_lookAtDue 6 = .ok (.getfield 30, 3) := dk_180 0 30 (dk_at dksX1_lookAtDue_0 6 rfl rfl)
theorem dX1_lookAtDue_9 : decode cX1_lookAtDue 9 = .ok (.astore_n 1, 1) := dk_76 (dk_at dksX1_lookAtDue_0 9 rfl rfl)
theorem dX1_lookAtDue_10 : decode cX1_lookAtDue 10 = .ok (.aload_n 1, 1) := dk_43 (dk_at dksX1_lookAtDue_0 10 rfl rfl)
theorem dX1_lookAtDue_11 : decode cX1_lookAtDue 11 = .ok (.arraylength, 1) := dk_190 (dk_at dksX1_lookAtDue_0 11 rfl rfl)
theorem dX1_lookAtDue_12 : decode cX1_lookAtDue 12 = .ok (.istore_n 2, 1) := dk_61 (dk_at dksX1_lookAtDue_0 12 rfl rfl)
theorem dX1_lookAtDue_13 : decode cX1_lookAtDue 13 = .ok (.iconst 0, 1) := dk_3 (dk_at dksX1_lookAtDue_0 13 rfl rfl)
theorem dX1_lookAtDue_14 : decode cX1_lookAtDue 14 = .ok (.istore_n 3, 1) := dk_62 (dk_at dksX1_lookAtDue_0 14 rfl rfl)
theorem dX1_lookAtDue_15 : decode cX1_lookAtDue 15 = .ok (.iload_n 3, 1) := dk_29 (dk_at dksX1_lookAtDue_0 15 rfl rfl)
theorem dX1_lookAtDue_16 : decode cX1_lookAtDue 16 = .ok (.iload_n 2, 1) := dk_28 (dk_at dksX1_lookAtDue_0 16 rfl rfl)
theorem dX1_lookAtDue_17 : decode cX1_lookAtDue 17 = .ok (.if_icmp .ge 31, 3) := dk_162 0 31 (dk_at dksX1_lookAtDue_0 17 rfl rfl)
theorem dX1_lookAtDue_20 : decode cX1_lookAtDue 20 = .ok (.aload_n 1, 1) := dk_43 (dk_at dksX1_lookAtDue_0 20 rfl rfl)
theorem dX1_lookAtDue_21 : decode cX1_lookAtDue 21 = .ok (.iload_n 3, 1) := dk_29 (dk_at dksX1_lookAtDue_0 21 rfl rfl)
theorem dX1_lookAtDue_22 : decode cX1_lookAtDue 22 = .ok (.iaload, 1) := dk_46 (dk_at dksX1_lookAtDue_0 22 rfl rfl)
theorem dX1_lookAtDue_23 : decode cX1_lookAtDue 23 = .ok (.istore 4, 2) := dk_54 4 (dk_at dksX1_lookAtDue_1 0 rfl rfl)
theorem dX1_lookAtDue_25 : decode cX1_lookAtDue 25 = .ok (.aload_n 0, 1) := dk_42 (dk_at dksX1_lookAtDue_1 2 rfl rfl)
theorem dX1_lookAtDue_26 : decode cX1_lookAtDue 26 = .ok (.iload 4, 2) := dk_21 4 (dk_at dksX1_lookAtDue_1 3 rfl rfl)
theorem dX1_lookAtDue_28 : decode cX1_lookAtDue 28 = .ok (.ifCond .le 7, 3) := dk_158 0 7 (dk_at dksX1_lookAtDue_1 5 rfl rfl)
theorem dX1_lookAtDue_31 : decode cX1_lookAtDue 31 = .ok (.iconst 3, 1) := dk_6 (dk_at dksX1_lookAtDue_1 8 rfl rfl)
theorem dX1_lookAtDue_32 : decode cX1_lookAtDue 32 = .ok (.goto 7, 3) := dk_167 0 7 (dk_at dksX1_lookAtDue_1 9 rfl rfl)
theorem dX1_lookAtDue_35 : decode cX1_lookAtDue 35 = .ok (.aload_n 0, 1) := dk_42 (dk_at dksX1_lookAtDue_1 12 rfl rfl)
theorem dX1_lookAtDue_36 : decode cX1_lookAtDue 36 = .ok (.getfield 52, 3) := dk_180 0 52 (dk_at dksX1_lookAtDue_1 13 rfl rfl)
theorem dX1_lookAtDue_39 : decode cX1_lookAtDue 39 = .ok (.putfield 52, 3) := dk_181 0 52 (dk_at dksX1_lookAtDue_1 16 rfl rfl)
theorem dX1_lookAtDue_42 : decode cX1_lookAtDue 42 = .ok (.iinc 3 1, 3) := dk_132 3 1 (dk_at dksX1_lookAtDue_1 19 rfl rfl)
theorem dX1_lookAtDue_45 : decode cX1_lookAtDue 45 = .ok (.goto (-30), 3) := dk_167 255 226 (dk_at dksX1_lookAtDue_2 0 rfl rfl)
theorem dX1_lookAtDue_48 : decode cX1_lookAtDue 48 = .ok (.return_, 1) := dk_177 (dk_at dksX1_lookAtDue_2 3 rfl rfl)
abbrev cX1_gains : ByteArray := prog_1_method_18_code
def yX1_gains : MethodName := ⟨RX1, "gains", "(II)[I"⟩
def dkwX1_gains_10 : List UInt8 := [167, 255, 205, 45, 176]
abbrev dktX1_gains_10 : List UInt8 := dkwX1_gains_10 ++ []
def dkwX1_gains_9 : List UInt8 := [21, 6, 46, 42, 180, 0, 27, 6, 50, 27, 46, 184, 0, 127, 167, 0, 4, 3, 79, 132, 6, 1]
abbrev dktX1_gains_9 : List UInt8 := dkwX1_gains_9 ++ dktX1_gains_10
def dkwX1_gains_8 : List UInt8 := [21, 4, 42, 180, 0, 27, 6, 50, 27, 46, 164, 0, 38, 45, 21, 6, 21, 5, 4, 160, 0, 21, 45]
abbrev dktX1_gains_8 : List UInt8 := dkwX1_gains_8 ++ dktX1_gains_9
def dkwX1_gains_7 : List UInt8 := [96, 54, 4, 132, 9, 1, 167, 255, 125, 132, 6, 1, 167, 255, 92, 3, 54, 6, 21, 6, 6, 162, 0, 51]
abbrev dktX1_gains_7 : List UInt8 := dkwX1_gains_7 ++ dktX1_gains_8
def dkwX1_gains_6 : List UInt8 := [21, 10, 50, 185, 0, 124, 1, 0, 96, 79, 21, 4, 42, 180, 0, 17, 21, 10, 50, 185, 0, 124, 1, 0]
abbrev dktX1_gains_6 : List UInt8 := dkwX1_gains_6 ++ dktX1_gains_7
def dkwX1_gains_5 : List UInt8 := [21, 11, 46, 154, 0, 7, 4, 167, 0, 4, 3, 96, 54, 5, 45, 21, 11, 92, 46, 42, 180, 0, 17]
abbrev dktX1_gains_5 : List UInt8 := dkwX1_gains_5 ++ dktX1_gains_6
def dkwX1_gains_4 : List UInt8 := [180, 0, 121, 159, 0, 70, 42, 180, 0, 17, 21, 10, 50, 185, 0, 72, 1, 0, 54, 11, 21, 5, 45]
abbrev dktX1_gains_4 : List UInt8 := dkwX1_gains_4 ++ dktX1_gains_5
def dkwX1_gains_3 : List UInt8 := [180, 0, 65, 27, 160, 0, 93, 42, 180, 0, 11, 21, 6, 50, 180, 0, 118, 28, 160, 0, 79, 21, 6, 42]
abbrev dktX1_gains_3 : List UInt8 := dkwX1_gains_3 ++ dktX1_gains_4
def dkwX1_gains_2 : List UInt8 := [25, 7, 21, 9, 46, 54, 10, 42, 180, 0, 17, 21, 10, 50, 198, 0, 107, 42, 180, 0, 11, 21, 6, 50]
abbrev dktX1_gains_2 : List UInt8 := dkwX1_gains_2 ++ dktX1_gains_3
def dkwX1_gains_1 : List UInt8 := [21, 6, 50, 180, 0, 115, 58, 7, 25, 7, 190, 54, 8, 3, 54, 9, 21, 9, 21, 8, 162, 0, 130]
abbrev dktX1_gains_1 : List UInt8 := dkwX1_gains_1 ++ dktX1_gains_2
def dkwX1_gains_0 : List UInt8 := [6, 188, 10, 78, 3, 54, 4, 3, 54, 5, 3, 54, 6, 21, 6, 16, 7, 162, 0, 163, 42, 180, 0, 11]
abbrev dktX1_gains_0 : List UInt8 := dkwX1_gains_0 ++ dktX1_gains_1
theorem dksX1_gains_0 : cX1_gains.data.toList.drop 0 = dktX1_gains_0 := by decide +kernel
theorem dksX1_gains_1 : cX1_gains.data.toList.drop 24 = dktX1_gains_1 := dk_seg dksX1_gains_0 24 rfl rfl
theorem dksX1_gains_2 : cX1_gains.data.toList.drop 47 = dktX1_gains_2 := dk_seg dksX1_gains_1 23 rfl rfl
theorem dksX1_gains_3 : cX1_gains.data.toList.drop 71 = dktX1_gains_3 := dk_seg dksX1_gains_2 24 rfl rfl
theorem dksX1_gains_4 : cX1_gains.data.toList.drop 95 = dktX1_gains_4 := dk_seg dksX1_gains_3 24 rfl rfl
theorem dksX1_gains_5 : cX1_gains.data.toList.drop 118 = dktX1_gains_5 := dk_seg dksX1_gains_4 23 rfl rfl
theorem dksX1_gains_6 : cX1_gains.data.toList.drop 141 = dktX1_gains_6 := dk_seg dksX1_gains_5 23 rfl rfl
theorem dksX1_gains_7 : cX1_gains.data.toList.drop 165 = dktX1_gains_7 := dk_seg dksX1_gains_6 24 rfl rfl
theorem dksX1_gains_8 : cX1_gains.data.toList.drop 189 = dktX1_gains_8 := dk_seg dksX1_gains_7 24 rfl rfl
theorem dksX1_gains_9 : cX1_gains.data.toList.drop 212 = dktX1_gains_9 := dk_seg dksX1_gains_8 23 rfl rfl
theorem dksX1_gains_10 : cX1_gains.data.toList.drop 234 = dktX1_gains_10 := dk_seg dksX1_gains_9 22 rfl rfl
theorem dX1_gains_0 : decode cX1_gains 0 = .ok (.iconst 3, 1) := dk_6 (dk_at dksX1_gains_0 0 rfl rfl)
theorem dX1_gains_1 : decode cX1_gains 1 = .ok (.newarray .int, 2) := dk_188_10 (dk_at dksX1_gains_0 1 rfl rfl)
theorem dX1_gains_3 : decode cX1_gains 3 = .ok (.astore_n 3, 1) := dk_78 (dk_at dksX1_gains_0 3 rfl rfl)
theorem dX1_gains_4 : decode cX1_gains 4 = .ok (.iconst 0, 1) := dk_3 (dk_at dksX1_gains_0 4 rfl rfl)
theorem dX1_gains_5 : decode cX1_gains 5 = .ok (.istore 4, 2) := dk_54 4 (dk_at dksX1_gains_0 5 rfl rfl)
theorem dX1_gains_7 : decode cX1_gains 7 = .ok (.iconst 0, 1) := dk_3 (dk_at dksX1_gains_0 7 rfl rfl)
theorem dX1_gains_8 : decode cX1_gains 8 = .ok (.istore 5, 2) := dk_54 5 (dk_at dksX1_gains_0 8 rfl rfl)
theorem dX1_gains_10 : decode cX1_gains 10 = .ok (.iconst 0, 1) := dk_3 (dk_at dksX1_gains_0 10 rfl rfl)
theorem dX1_gains_11 : decode cX1_gains 11 = .ok (.istore 6, 2) := dk_54 6 (dk_at dksX1_gains_0 11 rfl rfl)
theorem dX1_gains_13 : decode cX1_gains 13 = .ok (.iload 6, 2) := dk_21 6 (dk_at dksX1_gains_0 13 rfl rfl)
theorem dX1_gains_15 : decode cX1_gains 15 = .ok (.bipush 7, 2) := dk_16 7 (dk_at dksX1_gains_0 15 rfl rfl)
theorem dX1_gains_17 : decode cX1_gains 17 = .ok (.if_icmp .ge 163, 3) := dk_162 0 163 (dk_at dksX1_gains_0 17 rfl rfl)
theorem dX1_gains_20 : decode cX1_gains 20 = .ok (.aload_n 0, 1) := dk_42 (dk_at dksX1_gains_0 20 rfl rfl)
theorem dX1_gains_21 : decode cX1_gains 21 = .ok (.getfield 11, 3) := dk_180 0 11 (dk_at dksX1_gains_0 21 rfl rfl)
theorem dX1_gains_24 : decode cX1_gains 24 = .ok (.iload 6, 2) := dk_21 6 (dk_at dksX1_gains_1 0 rfl rfl)
theorem dX1_gains_26 : decode cX1_gains 26 = .ok (.aaload, 1) := dk_50 (dk_at dksX1_gains_1 2 rfl rfl)
theorem dX1_gains_27 : decode cX1_gains 27 = .ok (.getfield 115, 3) := dk_180 0 115 (dk_at dksX1_gains_1 3 rfl rfl)
theorem dX1_gains_30 : decode cX1_gains 30 = .ok (.astore 7, 2) := dk_58 7 (dk_at dksX1_gains_1 6 rfl rfl)
theorem dX1_gains_32 : decode cX1_gains 32 = .ok (.aload 7, 2) := dk_25 7 (dk_at dksX1_gains_1 8 rfl rfl)
theorem dX1_gains_34 : decode cX1_gains 34 = .ok (.arraylength, 1) := dk_190 (dk_at dksX1_gains_1 10 rfl rfl)
theorem dX1_gains_35 : decode cX1_gains 35 = .ok (.istore 8, 2) := dk_54 8 (dk_at dksX1_gains_1 11 rfl rfl)
theorem dX1_gains_37 : decode cX1_gains 37 = .ok (.iconst 0, 1) := dk_3 (dk_at dksX1_gains_1 13 rfl rfl)
theorem dX1_gains_38 : decode cX1_gains 38 = .ok (.istore 9, 2) := dk_54 9 (dk_at dksX1_gains_1 14 rfl rfl)
theorem dX1_gains_40 : decode cX1_gains 40 = .ok (.iload 9, 2) := dk_21 9 (dk_at dksX1_gains_1 16 rfl rfl)
theorem dX1_gains_42 : decode cX1_gains 42 = .ok (.iload 8, 2) := dk_21 8 (dk_at dksX1_gains_1 18 rfl rfl)
theorem dX1_gains_44 : decode cX1_gains 44 = .ok (.if_icmp .ge 130, 3) := dk_162 0 130 (dk_at dksX1_gains_1 20 rfl rfl)
theorem dX1_gains_47 : decode cX1_gains 47 = .ok (.aload 7, 2) := dk_25 7 (dk_at dksX1_gains_2 0 rfl rfl)
theorem dX1_gains_49 : decode cX1_gains 49 = .ok (.iload 9, 2) := dk_21 9 (dk_at dksX1_gains_2 2 rfl rfl)
theorem dX1_gains_51 : decode cX1_gains 51 = .ok (.iaload, 1) := dk_46 (dk_at dksX1_gains_2 4 rfl rfl)
theorem dX1_gains_52 : decode cX1_gains 52 = .ok (.istore 10, 2) := dk_54 10 (dk_at dksX1_gains_2 5 rfl rfl)
theorem dX1_gains_54 : decode cX1_gains 54 = .ok (.aload_n 0, 1) := dk_42 (dk_at dksX1_gains_2 7 rfl rfl)
theorem dX1_gains_55 : decode cX1_gains 55 = .ok (.getfield 17, 3) := dk_180 0 17 (dk_at dksX1_gains_2 8 rfl rfl)
theorem dX1_gains_58 : decode cX1_gains 58 = .ok (.iload 10, 2) := dk_21 10 (dk_at dksX1_gains_2 11 rfl rfl)
theorem dX1_gains_60 : decode cX1_gains 60 = .ok (.aaload, 1) := dk_50 (dk_at dksX1_gains_2 13 rfl rfl)
theorem dX1_gains_61 : decode cX1_gains 61 = .ok (.ifnull 107, 3) := dk_198 0 107 (dk_at dksX1_gains_2 14 rfl rfl)
theorem dX1_gains_64 : decode cX1_gains 64 = .ok (.aload_n 0, 1) := dk_42 (dk_at dksX1_gains_2 17 rfl rfl)
theorem dX1_gains_65 : decode cX1_gains 65 = .ok (.getfield 11, 3) := dk_180 0 11 (dk_at dksX1_gains_2 18 rfl rfl)
theorem dX1_gains_68 : decode cX1_gains 68 = .ok (.iload 6, 2) := dk_21 6 (dk_at dksX1_gains_2 21 rfl rfl)
theorem dX1_gains_70 : decode cX1_gains 70 = .ok (.aaload, 1) := dk_50 (dk_at dksX1_gains_2 23 rfl rfl)
theorem dX1_gains_71 : decode cX1_gains 71 = .ok (.getfield 65, 3) := dk_180 0 65 (dk_at dksX1_gains_3 0 rfl rfl)
theorem dX1_gains_74 : decode cX1_gains 74 = .ok (.iload_n 1, 1) := dk_27 (dk_at dksX1_gains_3 3 rfl rfl)
theorem dX1_gains_75 : decode cX1_gains 75 = .ok (.if_icmp .ne 93, 3) := dk_160 0 93 (dk_at dksX1_gains_3 4 rfl rfl)
theorem dX1_gains_78 : decode cX1_gains 78 = .ok (.aload_n 0, 1) := dk_42 (dk_at dksX1_gains_3 7 rfl rfl)
theorem dX1_gains_79 : decode cX1_gains 79 = .ok (.getfield 11, 3) := dk_180 0 11 (dk_at dksX1_gains_3 8 rfl rfl)
theorem dX1_gains_82 : decode cX1_gains 82 = .ok (.iload 6, 2) := dk_21 6 (dk_at dksX1_gains_3 11 rfl rfl)
theorem dX1_gains_84 : decode cX1_gains 84 = .ok (.aaload, 1) := dk_50 (dk_at dksX1_gains_3 13 rfl rfl)
theorem dX1_gains_85 : decode cX1_gains 85 = .ok (.getfield 118, 3) := dk_180 0 118 (dk_at dksX1_gains_3 14 rfl rfl)
theorem dX1_gains_88 : decode cX1_gains 88 = .ok (.iload_n 2, 1) := dk_28 (dk_at dksX1_gains_3 17 rfl rfl)
theorem dX1_gains_89 : decode cX1_gains 89 = .ok (.if_icmp .ne 79, 3) := dk_160 0 79 (dk_at dksX1_gains_3 18 rfl rfl)
theorem dX1_gains_92 : decode cX1_gains 92 = .ok (.iload 6, 2) := dk_21 6 (dk_at dksX1_gains_3 21 rfl rfl)
theorem dX1_gains_94 : decode cX1_gains 94 = .ok (.aload_n 0, 1) := dk_42 (dk_at dksX1_gains_3 23 rfl rfl)
theorem dX1_gains_95 : decode cX1_gains 95 = .ok (.getfield 121, 3) := dk_180 0 121 (dk_at dksX1_gains_4 0 rfl rfl)
theorem dX1_gains_98 : decode cX1_gains 98 = .ok (.if_icmp .eq 70, 3) := dk_159 0 70 (dk_at dksX1_gains_4 3 rfl rfl)
theorem dX1_gains_101 : decode cX1_gains 101 = .ok (.aload_n 0, 1) := dk_42 (dk_at dksX1_gains_4 6 rfl rfl)
theorem dX1_gains_102 : decode cX1_gains 102 = .ok (.getfield 17, 3) := dk_180 0 17 (dk_at dksX1_gains_4 7 rfl rfl)
theorem dX1_gains_105 : decode cX1_gains 105 = .ok (.iload 10, 2) := dk_21 10 (dk_at dksX1_gains_4 10 rfl rfl)
theorem dX1_gains_107 : decode cX1_gains 107 = .ok (.aaload, 1) := dk_50 (dk_at dksX1_gains_4 12 rfl rfl)
theorem dX1_gains_108 : decode cX1_gains 108 = .ok (.invokeinterface 72 1, 5) := by decide +kernel
theorem dX1_gains_113 : decode cX1_gains 113 = .ok (.istore 11, 2) := dk_54 11 (dk_at dksX1_gains_4 18 rfl rfl)
theorem dX1_gains_115 : decode cX1_gains 115 = .ok (.iload 5, 2) := dk_21 5 (dk_at dksX1_gains_4 20 rfl rfl)
theorem dX1_gains_117 : decode cX1_gains 117 = .ok (.aload_n 3, 1) := dk_45 (dk_at dksX1_gains_4 22 rfl rfl)
theorem dX1_gains_118 : decode cX1_gains 118 = .ok (.iload 11, 2) := dk_21 11 (dk_at dksX1_gains_5 0 rfl rfl)
theorem dX1_gains_120 : decode cX1_gains 120 = .ok (.iaload, 1) := dk_46 (dk_at dksX1_gains_5 2 rfl rfl)
theorem dX1_gains_121 : decode cX1_gains 121 = .ok (.ifCond .ne 7, 3) := dk_154 0 7 (dk_at dksX1_gains_5 3 rfl rfl)
theorem dX1_gains_124 : decode cX1_gains 124 = .ok (.iconst 1, 1) := dk_4 (dk_at dksX1_gains_5 6 rfl rfl)
theorem dX1_gains_125 : decode cX1_gains 125 = .ok (.goto 4, 3) := dk_167 0 4 (dk_at dksX1_gains_5 7 rfl rfl)
theorem dX1_gains_128 : decode cX1_gains 128 = .ok (.iconst 0, 1) := dk_3 (dk_at dksX1_gains_5 10 rfl rfl)
theorem dX1_gains_129 : decode cX1_gains 129 = .ok (.iadd, 1) := dk_96 (dk_at dksX1_gains_5 11 rfl rfl)
theorem dX1_gains_130 : decode cX1_gains 130 = .ok (.istore 5, 2) := dk_54 5 (dk_at dksX1_gains_5 12 rfl rfl)
theorem dX1_gains_132 : decode cX1_gains 132 = .ok (.aload_n 3, 1) := dk_45 (dk_at dksX1_gains_5 14 rfl rfl)
theorem dX1_gains_133 : decode cX1_gains 133 = .ok (.iload 11, 2) := dk_21 11 (dk_at dksX1_gains_5 15 rfl rfl)
theorem dX1_gains_135 : decode cX1_gains 135 = .ok (.dup2, 1) := dk_92 (dk_at dksX1_gains_5 17 rfl rfl)
theorem dX1_gains_136 : decode cX1_gains 136 = .ok (.iaload, 1) := dk_46 (dk_at dksX1_gains_5 18 rfl rfl)
theorem dX1_gains_137 : decode cX1_gains 137 = .ok (.aload_n 0, 1) := dk_42 (dk_at dksX1_gains_5 19 rfl rfl)
theorem dX1_gains_138 : decode cX1_gains 138 = .ok (.getfield 17, 3) := dk_180 0 17 (dk_at dksX1_gains_5 20 rfl rfl)
theorem dX1_gains_141 : decode cX1_gains 141 = .ok (.iload 10, 2) := dk_21 10 (dk_at dksX1_gains_6 0 rfl rfl)
theorem dX1_gains_143 : decode cX1_gains 143 = .ok (.aaload, 1) := dk_50 (dk_at dksX1_gains_6 2 rfl rfl)
theorem dX1_gains_144 : decode cX1_gains 144 = .ok (.invokeinterface 124 1, 5) := by decide +kernel
theorem dX1_gains_149 : decode cX1_gains 149 = .ok (.iadd, 1) := dk_96 (dk_at dksX1_gains_6 8 rfl rfl)
theorem dX1_gains_150 : decode cX1_gains 150 = .ok (.iastore, 1) := dk_79 (dk_at dksX1_gains_6 9 rfl rfl)
theorem dX1_gains_151 : decode cX1_gains 151 = .ok (.iload 4, 2) := dk_21 4 (dk_at dksX1_gains_6 10 rfl rfl)
theorem dX1_gains_153 : decode cX1_gains 153 = .ok (.aload_n 0, 1) := dk_42 (dk_at dksX1_gains_6 12 rfl rfl)
theorem dX1_gains_154 : decode cX1_gains 154 = .ok (.getfield 17, 3) := dk_180 0 17 (dk_at dksX1_gains_6 13 rfl rfl)
theorem dX1_gains_157 : decode cX1_gains 157 = .ok (.iload 10, 2) := dk_21 10 (dk_at dksX1_gains_6 16 rfl rfl)
theorem dX1_gains_159 : decode cX1_gains 159 = .ok (.aaload, 1) := dk_50 (dk_at dksX1_gains_6 18 rfl rfl)
theorem dX1_gains_160 : decode cX1_gains 160 = .ok (.invokeinterface 124 1, 5) := by decide +kernel
theorem dX1_gains_165 : decode cX1_gains 165 = .ok (.iadd, 1) := dk_96 (dk_at dksX1_gains_7 0 rfl rfl)
theorem dX1_gains_166 : decode cX1_gains 166 = .ok (.istore 4, 2) := dk_54 4 (dk_at dksX1_gains_7 1 rfl rfl)
theorem dX1_gains_168 : decode cX1_gains 168 = .ok (.iinc 9 1, 3) := dk_132 9 1 (dk_at dksX1_gains_7 3 rfl rfl)
theorem dX1_gains_171 : decode cX1_gains 171 = .ok (.goto (-131), 3) := dk_167 255 125 (dk_at dksX1_gains_7 6 rfl rfl)
theorem dX1_gains_174 : decode cX1_gains 174 = .ok (.iinc 6 1, 3) := dk_132 6 1 (dk_at dksX1_gains_7 9 rfl rfl)
theorem dX1_gains_177 : decode cX1_gains 177 = .ok (.goto (-164), 3) := dk_167 255 92 (dk_at dksX1_gains_7 12 rfl rfl)
theorem dX1_gains_180 : decode cX1_gains 180 = .ok (.iconst 0, 1) := dk_3 (dk_at dksX1_gains_7 15 rfl rfl)
theorem dX1_gains_181 : decode cX1_gains 181 = .ok (.istore 6, 2) := dk_54 6 (dk_at dksX1_gains_7 16 rfl rfl)
theorem dX1_gains_183 : decode cX1_gains 183 = .ok (.iload 6, 2) := dk_21 6 (dk_at dksX1_gains_7 18 rfl rfl)
theorem dX1_gains_185 : decode cX1_gains 185 = .ok (.iconst 3, 1) := dk_6 (dk_at dksX1_gains_7 20 rfl rfl)
theorem dX1_gains_186 : decode cX1_gains 186 = .ok (.if_icmp .ge 51, 3) := dk_162 0 51 (dk_at dksX1_gains_7 21 rfl rfl)
theorem dX1_gains_189 : decode cX1_gains 189 = .ok (.iload 4, 2) := dk_21 4 (dk_at dksX1_gains_8 0 rfl rfl)
theorem dX1_gains_191 : decode cX1_gains 191 = .ok (.aload_n 0, 1) := dk_42 (dk_at dksX1_gains_8 2 rfl rfl)
theorem dX1_gains_192 : decode cX1_gains 192 = .ok (.getfield 27, 3) := dk_180 0 27 (dk_at dksX1_gains_8 3 rfl rfl)
theorem dX1_gains_195 : decode cX1_gains 195 = .ok (.iconst 3, 1) := dk_6 (dk_at dksX1_gains_8 6 rfl rfl)
theorem dX1_gains_196 : decode cX1_gains 196 = .ok (.aaload, 1) := dk_50 (dk_at dksX1_gains_8 7 rfl rfl)
theorem dX1_gains_197 : decode cX1_gains 197 = .ok (.iload_n 1, 1) := dk_27 (dk_at dksX1_gains_8 8 rfl rfl)
theorem dX1_gains_198 : decode cX1_gains 198 = .ok (.iaload, 1) := dk_46 (dk_at dksX1_gains_8 9 rfl rfl)
theorem dX1_gains_199 : decode cX1_gains 199 = .ok (.if_icmp .le 38, 3) := dk_164 0 38 (dk_at dksX1_gains_8 10 rfl rfl)
theorem dX1_gains_202 : decode cX1_gains 202 = .ok (.aload_n 3, 1) := dk_45 (dk_at dksX1_gains_8 13 rfl rfl)
theorem dX1_gains_203 : decode cX1_gains 203 = .ok (.iload 6, 2) := dk_21 6 (dk_at dksX1_gains_8 14 rfl rfl)
theorem dX1_gains_205 : decode cX1_gains 205 = .ok (.iload 5, 2) := dk_21 5 (dk_at dksX1_gains_8 16 rfl rfl)
theorem dX1_gains_207 : decode cX1_gains 207 = .ok (.iconst 1, 1) := dk_4 (dk_at dksX1_gains_8 18 rfl rfl)
theorem dX1_gains_208 : decode cX1_gains 208 = .ok (.if_icmp .ne 21, 3) := dk_160 0 21 (dk_at dksX1_gains_8 19 rfl rfl)
theorem dX1_gains_211 : decode cX1_gains 211 = .ok (.aload_n 3, 1) := dk_45 (dk_at dksX1_gains_8 22 rfl rfl)
theorem dX1_gains_212 : decode cX1_gains 212 = .ok (.iload 6, 2) := dk_21 6 (dk_at dksX1_gains_9 0 rfl rfl)
theorem dX1_gains_214 : decode cX1_gains 214 = .ok (.iaload, 1) := dk_46 (dk_at dksX1_gains_9 2 rfl rfl)
theorem dX1_gains_215 : decode cX1_gains 215 = .ok (.aload_n 0, 1) := dk_42 (dk_at dksX1_gains_9 3 rfl rfl)
theorem dX1_gains_216 : decode cX1_gains 216 = .ok (.getfield 27, 3) := dk_180 0 27 (dk_at dksX1_gains_9 4 rfl rfl)
theorem dX1_gains_219 : decode cX1_gains 219 = .ok (.iconst 3, 1) := dk_6 (dk_at dksX1_gains_9 7 rfl rfl)
theorem dX1_gains_220 : decode cX1_gains 220 = .ok (.aaload, 1) := dk_50 (dk_at dksX1_gains_9 8 rfl rfl)
theorem dX1_gains_221 : decode cX1_gains 221 = .ok (.iload_n 1, 1) := dk_27 (dk_at dksX1_gains_9 9 rfl rfl)
theorem dX1_gains_222 : decode cX1_gains 222 = .ok (.iaload, 1) := dk_46 (dk_at dksX1_gains_9 10 rfl rfl)
theorem dX1_gains_223 : decode cX1_gains 223 = .ok (.invokestatic 127, 3) := dk_184 0 127 (dk_at dksX1_gains_9 11 rfl rfl)
theorem dX1_gains_226 : decode cX1_gains 226 = .ok (.goto 4, 3) := dk_167 0 4 (dk_at dksX1_gains_9 14 rfl rfl)
theorem dX1_gains_229 : decode cX1_gains 229 = .ok (.iconst 0, 1) := dk_3 (dk_at dksX1_gains_9 17 rfl rfl)
theorem dX1_gains_230 : decode cX1_gains 230 = .ok (.iastore, 1) := dk_79 (dk_at dksX1_gains_9 18 rfl rfl)
theorem dX1_gains_231 : decode cX1_gains 231 = .ok (.iinc 6 1, 3) := dk_132 6 1 (dk_at dksX1_gains_9 19 rfl rfl)
theorem dX1_gains_234 : decode cX1_gains 234 = .ok (.goto (-51), 3) := dk_167 255 205 (dk_at dksX1_gains_10 0 rfl rfl)
theorem dX1_gains_237 : decode cX1_gains 237 = .ok (.aload_n 3, 1) := dk_45 (dk_at dksX1_gains_10 3 rfl rfl)
theorem dX1_gains_238 : decode cX1_gains 238 = .ok (.areturn, 1) := dk_176 (dk_at dksX1_gains_10 4 rfl rfl)
abbrev cX1_discard : ByteArray := prog_1_method_45_code
def yX1_discard : MethodName := ⟨RX1, "discard", "(II)I"⟩
def dkwX1_discard_3 : List UInt8 := [180, 0, 30, 27, 3, 79, 42, 182, 1, 3, 42, 180, 0, 52, 172]
abbrev dktX1_discard_3 : List UInt8 := dkwX1_discard_3 ++ []
def dkwX1_discard_2 : List UInt8 := [28, 182, 1, 0, 153, 0, 7, 4, 167, 0, 4, 3, 184, 0, 230, 42, 27, 6, 28, 182, 0, 224, 42]
abbrev dktX1_discard_2 : List UInt8 := dkwX1_discard_2 ++ dktX1_discard_3
def dkwX1_discard_1 : List UInt8 := [42, 180, 0, 30, 27, 46, 158, 0, 29, 28, 184, 1, 10, 42, 180, 0, 30, 27, 46, 160, 0, 16, 42, 27]
abbrev dktX1_discard_1 : List UInt8 := dkwX1_discard_1 ++ dktX1_discard_2
def dkwX1_discard_0 : List UInt8 := [27, 6, 184, 0, 204, 3, 4, 188, 10, 89, 3, 28, 79, 184, 0, 249, 42, 180, 0, 52, 6, 160, 0, 38]
abbrev dktX1_discard_0 : List UInt8 := dkwX1_discard_0 ++ dktX1_discard_1
theorem dksX1_discard_0 : cX1_discard.data.toList.drop 0 = dktX1_discard_0 := by decide +kernel
theorem dksX1_discard_1 : cX1_discard.data.toList.drop 24 = dktX1_discard_1 := dk_seg dksX1_discard_0 24 rfl rfl
theorem dksX1_discard_2 : cX1_discard.data.toList.drop 48 = dktX1_discard_2 := dk_seg dksX1_discard_1 24 rfl rfl
theorem dksX1_discard_3 : cX1_discard.data.toList.drop 71 = dktX1_discard_3 := dk_seg dksX1_discard_2 23 rfl rfl
theorem dX1_discard_0 : decode cX1_discard 0 = .ok (.iload_n 1, 1) := dk_27 (dk_at dksX1_discard_0 0 rfl rfl)
theorem dX1_discard_1 : decode cX1_discard 1 = .ok (.iconst 3, 1) := dk_6 (dk_at dksX1_discard_0 1 rfl rfl)
theorem dX1_discard_2 : decode cX1_discard 2 = .ok (.invokestatic 204, 3) := dk_184 0 204 (dk_at dksX1_discard_0 2 rfl rfl)
theorem dX1_discard_5 : decode cX1_discard 5 = .ok (.iconst 0, 1) := dk_3 (dk_at dksX1_discard_0 5 rfl rfl)
theorem dX1_discard_6 : decode cX1_discard 6 = .ok (.iconst 1, 1) := dk_4 (dk_at dksX1_discard_0 6 rfl rfl)
theorem dX1_discard_7 : decode cX1_discard 7 = .ok (.newarray .int, 2) := dk_188_10 (dk_at dksX1_discard_0 7 rfl rfl)
theorem dX1_discard_9 : decode cX1_discard 9 = .ok (.dup, 1) := dk_89 (dk_at dksX1_discard_0 9 rfl rfl)
theorem dX1_discard_10 : decode cX1_discard 10 = .ok (.iconst 0, 1) := dk_3 (dk_at dksX1_discard_0 10 rfl rfl)
theorem dX1_discard_11 : decode cX1_discard 11 = .ok (.iload_n 2, 1) := dk_28 (dk_at dksX1_discard_0 11 rfl rfl)
theorem dX1_discard_12 : decode cX1_discard 12 = .ok (.iastore, 1) := dk_79 (dk_at dksX1_discard_0 12 rfl rfl)
theorem dX1_discard_13 : decode cX1_discard 13 = .ok (.invokestatic 249, 3) := dk_184 0 249 (dk_at dksX1_discard_0 13 rfl rfl)
theorem dX1_discard_16 : decode cX1_discard 16 = .ok (.aload_n 0, 1) := dk_42 (dk_at dksX1_discard_0 16 rfl rfl)
theorem dX1_discard_17 : decode cX1_discard 17 = .ok (.getfield 52, 3) := dk_180 0 52 (dk_at dksX1_discard_0 17 rfl rfl)
theorem dX1_discard_20 : decode cX1_discard 20 = .ok (.iconst 3, 1) := dk_6 (dk_at dksX1_discard_0 20 rfl rfl)
theorem dX1_discard_21 : decode cX1_discard 21 = .ok (.if_icmp .ne 38, 3) := dk_160 0 38 (dk_at dksX1_discard_0 21 rfl rfl)
theorem dX1_discard_24 : decode cX1_discard 24 = .ok (.aload_n 0, 1) := dk_42 (dk_at dksX1_discard_1 0 rfl rfl)
theorem dX1_discard_25 : decode cX1_discard 25 = .ok (.getfield 30, 3) := dk_180 0 30 (dk_at dksX1_discard_1 1 rfl rfl)
theorem dX1_discard_28 : decode cX1_discard 28 = .ok (.iload_n 1, 1) := dk_27 (dk_at dksX1_discard_1 4 rfl rfl)
theorem dX1_discard_29 : decode cX1_discard 29 = .ok (.iaload, 1) := dk_46 (dk_at dksX1_discard_1 5 rfl rfl)
theorem dX1_discard_30 : decode cX1_discard 30 = .ok (.ifCond .le 29, 3) := dk_158 0 29 (dk_at dksX1_discard_1 6 rfl rfl)
theorem dX1_discard_33 : decode cX1_discard 33 = .ok (.iload_n 2, 1) := dk_28 (dk_at dksX1_discard_1 9 rfl rfl)
theorem dX1_discard_34 : decode cX1_discard 34 = .ok (.invokestatic 266, 3) := dk_184 1 10 (dk_at dksX1_discard_1 10 rfl rfl)
theorem dX1_discard_37 : decode cX1_discard 37 = .ok (.aload_n 0, 1) := dk_42 (dk_at dksX1_discard_1 13 rfl rfl)
theorem dX1_discard_38 : decode cX1_discard 38 = .ok (.getfield 30, 3) := dk_180 0 30 (dk_at dksX1_discard_1 14 rfl rfl)
theorem dX1_discard_41 : decode cX1_discard 41 = .ok (.iload_n 1, 1) := dk_27 (dk_at dksX1_discard_1 17 rfl rfl)
theorem dX1_discard_42 : decode cX1_discard 42 = .ok (.iaload, 1) := dk_46 (dk_at dksX1_discard_1 18 rfl rfl)
theorem dX1_discard_43 : decode cX1_discard 43 = .ok (.if_icmp .ne 16, 3) := dk_160 0 16 (dk_at dksX1_discard_1 19 rfl rfl)
theorem dX1_discard_46 : decode cX1_discard 46 = .ok (.aload_n 0, 1) := dk_42 (dk_at dksX1_discard_1 22 rfl rfl)
theorem dX1_discard_47 : decode cX1_discard 47 = .ok (.iload_n 1, 1) := dk_27 (dk_at dksX1_discard_1 23 rfl rfl)
theorem dX1_discard_48 : decode cX1_discard 48 = .ok (.iload_n 2, 1) := dk_28 (dk_at dksX1_discard_2 0 rfl rfl)
theorem dX1_discard_49 : decode cX1_discard 49 = .ok (.invokevirtual 256, 3) := dk_182 1 0 (dk_at dksX1_discard_2 1 rfl rfl)
theorem dX1_discard_52 : decode cX1_discard 52 = .ok (.ifCond .eq 7, 3) := dk_153 0 7 (dk_at dksX1_discard_2 4 rfl rfl)
theorem dX1_discard_55 : decode cX1_discard 55 = .ok (.iconst 1, 1) := dk_4 (dk_at dksX1_discard_2 7 rfl rfl)
theorem dX1_discard_56 : decode cX1_discard 56 = .ok (.goto 4, 3) := dk_167 0 4 (dk_at dksX1_discard_2 8 rfl rfl)
theorem dX1_discard_59 : decode cX1_discard 59 = .ok (.iconst 0, 1) := dk_3 (dk_at dksX1_discard_2 11 rfl rfl)
theorem dX1_discard_60 : decode cX1_discard 60 = .ok (.invokestatic 230, 3) := dk_184 0 230 (dk_at dksX1_discard_2 12 rfl rfl)
theorem dX1_discard_63 : decode cX1_discard 63 = .ok (.aload_n 0, 1) := dk_42 (dk_at dksX1_discard_2 15 rfl rfl)
theorem dX1_discard_64 : decode cX1_discard 64 = .ok (.iload_n 1, 1) := dk_27 (dk_at dksX1_discard_2 16 rfl rfl)
theorem dX1_discard_65 : decode cX1_discard 65 = .ok (.iconst 3, 1) := dk_6 (dk_at dksX1_discard_2 17 rfl rfl)
theorem dX1_discard_66 : decode cX1_discard 66 = .ok (.iload_n 2, 1) := dk_28 (dk_at dksX1_discard_2 18 rfl rfl)
theorem dX1_discard_67 : decode cX1_discard 67 = .ok (.invokevirtual 224, 3) := dk_182 0 224 (dk_at dksX1_discard_2 19 rfl rfl)
theorem dX1_discard_70 : decode cX1_discard 70 = .ok (.aload_n 0, 1) := dk_42 (dk_at dksX1_discard_2 22 rfl rfl)
theorem dX1_discard_71 : decode cX1_discard 71 = .ok (.getfield 30, 3) := dk_180 0 30 (dk_at dksX1_discard_3 0 rfl rfl)
theorem dX1_discard_74 : decode cX1_discard 74 = .ok (.iload_n 1, 1) := dk_27 (dk_at dksX1_discard_3 3 rfl rfl)
theorem dX1_discard_75 : decode cX1_discard 75 = .ok (.iconst 0, 1) := dk_3 (dk_at dksX1_discard_3 4 rfl rfl)
theorem dX1_discard_76 : decode cX1_discard 76 = .ok (.iastore, 1) := dk_79 (dk_at dksX1_discard_3 5 rfl rfl)
theorem dX1_discard_77 : decode cX1_discard 77 = .ok (.aload_n 0, 1) := dk_42 (dk_at dksX1_discard_3 6 rfl rfl)
theorem dX1_discard_78 : decode cX1_discard 78 = .ok (.invokevirtual 259, 3) := dk_182 1 3 (dk_at dksX1_discard_3 7 rfl rfl)
theorem dX1_discard_81 : decode cX1_discard 81 = .ok (.aload_n 0, 1) := dk_42 (dk_at dksX1_discard_3 10 rfl rfl)
theorem dX1_discard_82 : decode cX1_discard 82 = .ok (.getfield 52, 3) := dk_180 0 52 (dk_at dksX1_discard_3 11 rfl rfl)
theorem dX1_discard_85 : decode cX1_discard 85 = .ok (.ireturn, 1) := dk_172 (dk_at dksX1_discard_3 14 rfl rfl)
abbrev cX1_count : ByteArray := prog_1_method_13_code
def yX1_count : MethodName := ⟨RX1, "count", "(I)I"⟩
def dkwX1_count_1 : List UInt8 := [172]
abbrev dktX1_count_1 : List UInt8 := dkwX1_count_1 ++ []
def dkwX1_count_0 : List UInt8 := [3, 60, 3, 61, 28, 8, 162, 0, 17, 27, 26, 28, 184, 0, 98, 96, 60, 132, 2, 1, 167, 255, 240, 27]
abbrev dktX1_count_0 : List UInt8 := dkwX1_count_0 ++ dktX1_count_1
theorem dksX1_count_0 : cX1_count.data.toList.drop 0 = dktX1_count_0 := by decide +kernel
theorem dksX1_count_1 : cX1_count.data.toList.drop 24 = dktX1_count_1 := dk_seg dksX1_count_0 24 rfl rfl
theorem dX1_count_0 : decode cX1_count 0 = .ok (.iconst 0, 1) := dk_3 (dk_at dksX1_count_0 0 rfl rfl)
theorem dX1_count_1 : decode cX1_count 1 = .ok (.istore_n 1, 1) := dk_60 (dk_at dksX1_count_0 1 rfl rfl)
theorem dX1_count_2 : decode cX1_count 2 = .ok (.iconst 0, 1) := dk_3 (dk_at dksX1_count_0 2 rfl rfl)
theorem dX1_count_3 : decode cX1_count 3 = .ok (.istore_n 2, 1) := dk_61 (dk_at dksX1_count_0 3 rfl rfl)
theorem dX1_count_4 : decode cX1_count 4 = .ok (.iload_n 2, 1) := dk_28 (dk_at dksX1_count_0 4 rfl rfl)
theorem dX1_count_5 : decode cX1_count 5 = .ok (.iconst 5, 1) := dk_8 (dk_at dksX1_count_0 5 rfl rfl)
theorem dX1_count_6 : decode cX1_count 6 = .ok (.if_icmp .ge 17, 3) := dk_162 0 17 (dk_at dksX1_count_0 6 rfl rfl)
theorem dX1_count_9 : decode cX1_count 9 = .ok (.iload_n 1, 1) := dk_27 (dk_at dksX1_count_0 9 rfl rfl)
theorem dX1_count_10 : decode cX1_count 10 = .ok (.iload_n 0, 1) := dk_26 (dk_at dksX1_count_0 10 rfl rfl)
theorem dX1_count_11 : decode cX1_count 11 = .ok (.iload_n 2, 1) := dk_28 (dk_at dksX1_count_0 11 rfl rfl)
theorem dX1_count_12 : decode cX1_count 12 = .ok (.invokestatic 98, 3) := dk_184 0 98 (dk_at dksX1_count_0 12 rfl rfl)
theorem dX1_count_15 : decode cX1_count 15 = .ok (.iadd, 1) := dk_96 (dk_at dksX1_count_0 15 rfl rfl)
theorem dX1_count_16 : decode cX1_count 16 = .ok (.istore_n 1, 1) := dk_60 (dk_at dksX1_count_0 16 rfl rfl)
theorem dX1_count_17 : decode cX1_count 17 = .ok (.iinc 2 1, 3) := dk_132 2 1 (dk_at dksX1_count_0 17 rfl rfl)
theorem dX1_count_20 : decode cX1_count 20 = .ok (.goto (-16), 3) := dk_167 255 240 (dk_at dksX1_count_0 20 rfl rfl)
theorem dX1_count_23 : decode cX1_count 23 = .ok (.iload_n 1, 1) := dk_27 (dk_at dksX1_count_0 23 rfl rfl)
theorem dX1_count_24 : decode cX1_count 24 = .ok (.ireturn, 1) := dk_172 (dk_at dksX1_count_1 0 rfl rfl)
abbrev cX1_rob : ByteArray := prog_1_method_46_code
def yX1_rob : MethodName := ⟨RX1, "rob", "(III)I"⟩
def dkwX1_rob_2 : List UInt8 := [181, 0, 52, 42, 27, 28, 29, 182, 1, 19, 172]
abbrev dktX1_rob_2 : List UInt8 := dkwX1_rob_2 ++ []
def dkwX1_rob_1 : List UInt8 := [160, 0, 16, 42, 27, 28, 182, 1, 16, 153, 0, 7, 4, 167, 0, 4, 3, 184, 0, 230, 42, 5]
abbrev dktX1_rob_1 : List UInt8 := dkwX1_rob_1 ++ dktX1_rob_2
def dkwX1_rob_0 : List UInt8 := [27, 16, 7, 184, 0, 204, 28, 6, 184, 1, 13, 29, 3, 17, 3, 231, 184, 0, 215, 42, 180, 0, 52, 7]
abbrev dktX1_rob_0 : List UInt8 := dkwX1_rob_0 ++ dktX1_rob_1
theorem dksX1_rob_0 : cX1_rob.data.toList.drop 0 = dktX1_rob_0 := by decide +kernel
theorem dksX1_rob_1 : cX1_rob.data.toList.drop 24 = dktX1_rob_1 := dk_seg dksX1_rob_0 24 rfl rfl
theorem dksX1_rob_2 : cX1_rob.data.toList.drop 46 = dktX1_rob_2 := dk_seg dksX1_rob_1 22 rfl rfl
theorem dX1_rob_0 : decode cX1_rob 0 = .ok (.iload_n 1, 1) := dk_27 (dk_at dksX1_rob_0 0 rfl rfl)
theorem dX1_rob_1 : decode cX1_rob 1 = .ok (.bipush 7, 2) := dk_16 7 (dk_at dksX1_rob_0 1 rfl rfl)
theorem dX1_rob_3 : decode cX1_rob 3 = .ok (.invokestatic 204, 3) := dk_184 0 204 (dk_at dksX1_rob_0 3 rfl rfl)
theorem dX1_rob_6 : decode cX1_rob 6 = .ok (.iload_n 2, 1) := dk_28 (dk_at dksX1_rob_0 6 rfl rfl)
theorem dX1_rob_7 : decode cX1_rob 7 = .ok (.iconst 3, 1) := dk_6 (dk_at dksX1_rob_0 7 rfl rfl)
theorem dX1_rob_8 : decode cX1_rob 8 = .ok (.invokestatic 269, 3) := dk_184 1 13 (dk_at dksX1_rob_0 8 rfl rfl)
theorem dX1_rob_11 : decode cX1_rob 11 = .ok (.iload_n 3, 1) := dk_29 (dk_at dksX1_rob_0 11 rfl rfl)
theorem dX1_rob_12 : decode cX1_rob 12 = .ok (.iconst 0, 1) := dk_3 (dk_at dksX1_rob_0 12 rfl rfl)
theorem dX1_rob_13 : decode cX1_rob 13 = .ok (.sipush 999, 3) := dk_17 3 231 (dk_at dksX1_rob_0 13 rfl rfl)
theorem dX1_rob_16 : decode cX1_rob 16 = .ok (.invokestatic 215, 3) := dk_184 0 215 (dk_at dksX1_rob_0 16 rfl rfl)
theorem dX1_rob_19 : decode cX1_rob 19 = .ok (.aload_n 0, 1) := dk_42 (dk_at dksX1_rob_0 19 rfl rfl)
theorem dX1_rob_20 : decode cX1_rob 20 = .ok (.getfield 52, 3) := dk_180 0 52 (dk_at dksX1_rob_0 20 rfl rfl)
theorem dX1_rob_23 : decode cX1_rob 23 = .ok (.iconst 4, 1) := dk_7 (dk_at dksX1_rob_0 23 rfl rfl)
theorem dX1_rob_24 : decode cX1_rob 24 = .ok (.if_icmp .ne 16, 3) := dk_160 0 16 (dk_at dksX1_rob_1 0 rfl rfl)
theorem dX1_rob_27 : decode cX1_rob 27 = .ok (.aload_n 0, 1) := dk_42 (dk_at dksX1_rob_1 3 rfl rfl)
theorem dX1_rob_28 : decode cX1_rob 28 = .ok (.iload_n 1, 1) := dk_27 (dk_at dksX1_rob_1 4 rfl rfl)
theorem dX1_rob_29 : decode cX1_rob 29 = .ok (.iload_n 2, 1) := dk_28 (dk_at dksX1_rob_1 5 rfl rfl)
theorem dX1_rob_30 : decode cX1_rob 30 = .ok (.invokevirtual 272, 3) := dk_182 1 16 (dk_at dksX1_rob_1 6 rfl rfl)
theorem dX1_rob_33 : decode cX1_rob 33 = .ok (.ifCond .eq 7, 3) := dk_153 0 7 (dk_at dksX1_rob_1 9 rfl rfl)
theorem dX1_rob_36 : decode cX1_rob 36 = .ok (.iconst 1, 1) := dk_4 (dk_at dksX1_rob_1 12 rfl rfl)
theorem dX1_rob_37 : decode cX1_rob 37 = .ok (.goto 4, 3) := dk_167 0 4 (dk_at dksX1_rob_1 13 rfl rfl)
theorem dX1_rob_40 : decode cX1_rob 40 = .ok (.iconst 0, 1) := dk_3 (dk_at dksX1_rob_1 16 rfl rfl)
theorem dX1_rob_41 : decode cX1_rob 41 = .ok (.invokestatic 230, 3) := dk_184 0 230 (dk_at dksX1_rob_1 17 rfl rfl)
theorem dX1_rob_44 : decode cX1_rob 44 = .ok (.aload_n 0, 1) := dk_42 (dk_at dksX1_rob_1 20 rfl rfl)
theorem dX1_rob_45 : decode cX1_rob 45 = .ok (.iconst 2, 1) := dk_5 (dk_at dksX1_rob_1 21 rfl rfl)
theorem dX1_rob_46 : decode cX1_rob 46 = .ok (.putfield 52, 3) := dk_181 0 52 (dk_at dksX1_rob_2 0 rfl rfl)
theorem dX1_rob_49 : decode cX1_rob 49 = .ok (.aload_n 0, 1) := dk_42 (dk_at dksX1_rob_2 3 rfl rfl)
theorem dX1_rob_50 : decode cX1_rob 50 = .ok (.iload_n 1, 1) := dk_27 (dk_at dksX1_rob_2 4 rfl rfl)
theorem dX1_rob_51 : decode cX1_rob 51 = .ok (.iload_n 2, 1) := dk_28 (dk_at dksX1_rob_2 5 rfl rfl)
theorem dX1_rob_52 : decode cX1_rob 52 = .ok (.iload_n 3, 1) := dk_29 (dk_at dksX1_rob_2 6 rfl rfl)
theorem dX1_rob_53 : decode cX1_rob 53 = .ok (.invokevirtual 275, 3) := dk_182 1 19 (dk_at dksX1_rob_2 7 rfl rfl)
theorem dX1_rob_56 : decode cX1_rob 56 = .ok (.ireturn, 1) := dk_172 (dk_at dksX1_rob_2 10 rfl rfl)
abbrev cX1_checkOrNone : ByteArray := prog_1_method_33_code
def yX1_checkOrNone : MethodName := ⟨RX1, "checkOrNone", "(II)V"⟩
def dkwX1_checkOrNone_0 : List UInt8 := [26, 4, 96, 27, 4, 96, 184, 0, 204, 177]
abbrev dktX1_checkOrNone_0 : List UInt8 := dkwX1_checkOrNone_0 ++ []
theorem dksX1_checkOrNone_0 : cX1_checkOrNone.data.toList.drop 0 = dktX1_checkOrNone_0 := by decide +kernel
theorem dX1_checkOrNone_0 : decode cX1_checkOrNone 0 = .ok (.iload_n 0, 1) := dk_26 (dk_at dksX1_checkOrNone_0 0 rfl rfl)
theorem dX1_checkOrNone_1 : decode cX1_checkOrNone 1 = .ok (.iconst 1, 1) := dk_4 (dk_at dksX1_checkOrNone_0 1 rfl rfl)
theorem dX1_checkOrNone_2 : decode cX1_checkOrNone 2 = .ok (.iadd, 1) := dk_96 (dk_at dksX1_checkOrNone_0 2 rfl rfl)
theorem dX1_checkOrNone_3 : decode cX1_checkOrNone 3 = .ok (.iload_n 1, 1) := dk_27 (dk_at dksX1_checkOrNone_0 3 rfl rfl)
theorem dX1_checkOrNone_4 : decode cX1_checkOrNone 4 = .ok (.iconst 1, 1) := dk_4 (dk_at dksX1_checkOrNone_0 4 rfl rfl)
theorem dX1_checkOrNone_5 : decode cX1_checkOrNone 5 = .ok (.iadd, 1) := dk_96 (dk_at dksX1_checkOrNone_0 5 rfl rfl)
theorem dX1_checkOrNone_6 : decode cX1_checkOrNone 6 = .ok (.invokestatic 204, 3) := dk_184 0 204 (dk_at dksX1_checkOrNone_0 6 rfl rfl)
theorem dX1_checkOrNone_9 : decode cX1_checkOrNone 9 = .ok (.return_, 1) := dk_177 (dk_at dksX1_checkOrNone_0 9 rfl rfl)
abbrev cX1_canRob : ByteArray := prog_1_method_30_code
def yX1_canRob : MethodName := ⟨RX1, "canRob", "(II)Z"⟩
def dkwX1_canRob_2 : List UInt8 := [28, 27, 182, 0, 198, 153, 0, 7, 4, 167, 0, 4, 3, 172]
abbrev dktX1_canRob_2 : List UInt8 := dkwX1_canRob_2 ++ []
def dkwX1_canRob_1 : List UInt8 := [167, 255, 237, 27, 42, 180, 0, 121, 159, 0, 28, 28, 2, 160, 0, 10, 29, 154, 0, 19, 167, 0, 12, 42]
abbrev dktX1_canRob_1 : List UInt8 := dkwX1_canRob_1 ++ dktX1_canRob_2
def dkwX1_canRob_0 : List UInt8 := [3, 62, 3, 54, 4, 21, 4, 6, 162, 0, 19, 29, 42, 21, 4, 27, 182, 0, 198, 128, 62, 132, 4, 1]
abbrev dktX1_canRob_0 : List UInt8 := dkwX1_canRob_0 ++ dktX1_canRob_1
theorem dksX1_canRob_0 : cX1_canRob.data.toList.drop 0 = dktX1_canRob_0 := by decide +kernel
theorem dksX1_canRob_1 : cX1_canRob.data.toList.drop 24 = dktX1_canRob_1 := dk_seg dksX1_canRob_0 24 rfl rfl
theorem dksX1_canRob_2 : cX1_canRob.data.toList.drop 48 = dktX1_canRob_2 := dk_seg dksX1_canRob_1 24 rfl rfl
theorem dX1_canRob_0 : decode cX1_canRob 0 = .ok (.iconst 0, 1) := dk_3 (dk_at dksX1_canRob_0 0 rfl rfl)
theorem dX1_canRob_1 : decode cX1_canRob 1 = .ok (.istore_n 3, 1) := dk_62 (dk_at dksX1_canRob_0 1 rfl rfl)
theorem dX1_canRob_2 : decode cX1_canRob 2 = .ok (.iconst 0, 1) := dk_3 (dk_at dksX1_canRob_0 2 rfl rfl)
theorem dX1_canRob_3 : decode cX1_canRob 3 = .ok (.istore 4, 2) := dk_54 4 (dk_at dksX1_canRob_0 3 rfl rfl)
theorem dX1_canRob_5 : decode cX1_canRob 5 = .ok (.iload 4, 2) := dk_21 4 (dk_at dksX1_canRob_0 5 rfl rfl)
theorem dX1_canRob_7 : decode cX1_canRob 7 = .ok (.iconst 3, 1) := dk_6 (dk_at dksX1_canRob_0 7 rfl rfl)
theorem dX1_canRob_8 : decode cX1_canRob 8 = .ok (.if_icmp .ge 19, 3) := dk_162 0 19 (dk_at dksX1_canRob_0 8 rfl rfl)
theorem dX1_canRob_11 : decode cX1_canRob 11 = .ok (.iload_n 3, 1) := dk_29 (dk_at dksX1_canRob_0 11 rfl rfl)
theorem dX1_canRob_12 : decode cX1_canRob 12 = .ok (.aload_n 0, 1) := dk_42 (dk_at dksX1_canRob_0 12 rfl rfl)
theorem dX1_canRob_13 : decode cX1_canRob 13 = .ok (.iload 4, 2) := dk_21 4 (dk_at dksX1_canRob_0 13 rfl rfl)
theorem dX1_canRob_15 : decode cX1_canRob 15 = .ok (.iload_n 1, 1) := dk_27 (dk_at dksX1_canRob_0 15 rfl rfl)
theorem dX1_canRob_16 : decode cX1_canRob 16 = .ok (.invokevirtual 198, 3) := dk_182 0 198 (dk_at dksX1_canRob_0 16 rfl rfl)
theorem dX1_canRob_19 : decode cX1_canRob 19 = .ok (.ior, 1) := dk_128 (dk_at dksX1_canRob_0 19 rfl rfl)
theorem dX1_canRob_20 : decode cX1_canRob 20 = .ok (.istore_n 3, 1) := dk_62 (dk_at dksX1_canRob_0 20 rfl rfl)
theorem dX1_canRob_21 : decode cX1_canRob 21 = .ok (.iinc 4 1, 3) := dk_132 4 1 (dk_at dksX1_canRob_0 21 rfl rfl)
theorem dX1_canRob_24 : decode cX1_canRob 24 = .ok (.goto (-19), 3) := dk_167 255 237 (dk_at dksX1_canRob_1 0 rfl rfl)
theorem dX1_canRob_27 : decode cX1_canRob 27 = .ok (.iload_n 1, 1) := dk_27 (dk_at dksX1_canRob_1 3 rfl rfl)
theorem dX1_canRob_28 : decode cX1_canRob 28 = .ok (.aload_n 0, 1) := dk_42 (dk_at dksX1_canRob_1 4 rfl rfl)
theorem dX1_canRob_29 : decode cX1_canRob 29 = .ok (.getfield 121, 3) := dk_180 0 121 (dk_at dksX1_canRob_1 5 rfl rfl)
theorem dX1_canRob_32 : decode cX1_canRob 32 = .ok (.if_icmp .eq 28, 3) := dk_159 0 28 (dk_at dksX1_canRob_1 8 rfl rfl)
theorem dX1_canRob_35 : decode cX1_canRob 35 = .ok (.iload_n 2, 1) := dk_28 (dk_at dksX1_canRob_1 11 rfl rfl)
theorem dX1_canRob_36 : decode cX1_canRob 36 = .ok (.iconst (-1), 1) := dk_2 (dk_at dksX1_canRob_1 12 rfl rfl)
theorem dX1_canRob_37 : decode cX1_canRob 37 = .ok (.if_icmp .ne 10, 3) := dk_160 0 10 (dk_at dksX1_canRob_1 13 rfl rfl)
theorem dX1_canRob_40 : decode cX1_canRob 40 = .ok (.iload_n 3, 1) := dk_29 (dk_at dksX1_canRob_1 16 rfl rfl)
theorem dX1_canRob_41 : decode cX1_canRob 41 = .ok (.ifCond .ne 19, 3) := dk_154 0 19 (dk_at dksX1_canRob_1 17 rfl rfl)
theorem dX1_canRob_44 : decode cX1_canRob 44 = .ok (.goto 12, 3) := dk_167 0 12 (dk_at dksX1_canRob_1 20 rfl rfl)
theorem dX1_canRob_47 : decode cX1_canRob 47 = .ok (.aload_n 0, 1) := dk_42 (dk_at dksX1_canRob_1 23 rfl rfl)
theorem dX1_canRob_48 : decode cX1_canRob 48 = .ok (.iload_n 2, 1) := dk_28 (dk_at dksX1_canRob_2 0 rfl rfl)
theorem dX1_canRob_49 : decode cX1_canRob 49 = .ok (.iload_n 1, 1) := dk_27 (dk_at dksX1_canRob_2 1 rfl rfl)
theorem dX1_canRob_50 : decode cX1_canRob 50 = .ok (.invokevirtual 198, 3) := dk_182 0 198 (dk_at dksX1_canRob_2 2 rfl rfl)
theorem dX1_canRob_53 : decode cX1_canRob 53 = .ok (.ifCond .eq 7, 3) := dk_153 0 7 (dk_at dksX1_canRob_2 5 rfl rfl)
theorem dX1_canRob_56 : decode cX1_canRob 56 = .ok (.iconst 1, 1) := dk_4 (dk_at dksX1_canRob_2 8 rfl rfl)
theorem dX1_canRob_57 : decode cX1_canRob 57 = .ok (.goto 4, 3) := dk_167 0 4 (dk_at dksX1_canRob_2 9 rfl rfl)
theorem dX1_canRob_60 : decode cX1_canRob 60 = .ok (.iconst 0, 1) := dk_3 (dk_at dksX1_canRob_2 12 rfl rfl)
theorem dX1_canRob_61 : decode cX1_canRob 61 = .ok (.ireturn, 1) := dk_172 (dk_at dksX1_canRob_2 13 rfl rfl)
abbrev cX1_canBeVictim : ByteArray := prog_1_method_29_code
def yX1_canBeVictim : MethodName := ⟨RX1, "canBeVictim", "(II)Z"⟩
def dkwX1_canBeVictim_3 : List UInt8 := [158, 0, 7, 4, 167, 0, 4, 3, 172]
abbrev dktX1_canBeVictim_3 : List UInt8 := dkwX1_canBeVictim_3 ++ []
def dkwX1_canBeVictim_2 : List UInt8 := [132, 6, 1, 167, 255, 229, 29, 153, 0, 23, 27, 42, 180, 0, 176, 159, 0, 15, 42, 27, 182, 0, 195]
abbrev dktX1_canBeVictim_2 : List UInt8 := dkwX1_canBeVictim_2 ++ dktX1_canBeVictim_3
def dkwX1_canBeVictim_1 : List UInt8 := [21, 5, 162, 0, 26, 25, 4, 21, 6, 46, 54, 7, 29, 42, 21, 7, 27, 182, 0, 83, 128, 62]
abbrev dktX1_canBeVictim_1 : List UInt8 := dkwX1_canBeVictim_1 ++ dktX1_canBeVictim_2
def dkwX1_canBeVictim_0 : List UInt8 := [3, 62, 42, 180, 0, 11, 28, 50, 180, 0, 115, 58, 4, 25, 4, 190, 54, 5, 3, 54, 6, 21, 6]
abbrev dktX1_canBeVictim_0 : List UInt8 := dkwX1_canBeVictim_0 ++ dktX1_canBeVictim_1
theorem dksX1_canBeVictim_0 : cX1_canBeVictim.data.toList.drop 0 = dktX1_canBeVictim_0 := by decide +kernel
theorem dksX1_canBeVictim_1 : cX1_canBeVictim.data.toList.drop 23 = dktX1_canBeVictim_1 := dk_seg dksX1_canBeVictim_0 23 rfl rfl
theorem dksX1_canBeVictim_2 : cX1_canBeVictim.data.toList.drop 45 = dktX1_canBeVictim_2 := dk_seg dksX1_canBeVictim_1 22 rfl rfl
theorem dksX1_canBeVictim_3 : cX1_canBeVictim.data.toList.drop 68 = dktX1_canBeVictim_3 := dk_seg dksX1_canBeVictim_2 23 rfl rfl
theorem dX1_canBeVictim_0 : decode cX1_canBeVictim 0 = .ok (.iconst 0, 1) := dk_3 (dk_at dksX1_canBeVictim_0 0 rfl rfl)
theorem dX1_canBeVictim_1 : decode cX1_canBeVictim 1 = .ok (.istore_n 3, 1) := dk_62 (dk_at dksX1_canBeVictim_0 1 rfl rfl)
theorem dX1_canBeVictim_2 : decode cX1_canBeVictim 2 = .ok (.aload_n 0, 1) := dk_42 (dk_at dksX1_canBeVictim_0 2 rfl rfl)
theorem dX1_canBeVictim_3 : decode cX1_canBeVictim 3 = .ok (.getfield 11, 3) := dk_180 0 11 (dk_at dksX1_canBeVictim_0 3 rfl rfl)
theorem dX1_canBeVictim_6 : decode cX1_canBeVictim 6 = .ok (.iload_n 2, 1) := dk_28 (dk_at dksX1_canBeVictim_0 6 rfl rfl)
theorem dX1_canBeVictim_7 : decode cX1_canBeVictim 7 = .ok (.aaload, 1) := dk_50 (dk_at dksX1_canBeVictim_0 7 rfl rfl)
theorem dX1_canBeVictim_8 : decode cX1_canBeVictim 8 = .ok (.getfield 115, 3) := dk_180 0 115 (dk_at dksX1_canBeVictim_0 8 rfl rfl)
theorem dX1_canBeVictim_11 : decode cX1_canBeVictim 11 = .ok (.astore 4, 2) := dk_58 4 (dk_at dksX1_canBeVictim_0 11 rfl rfl)
theorem dX1_canBeVictim_13 : decode cX1_canBeVictim 13 = .ok (.aload 4, 2) := dk_25 4 (dk_at dksX1_canBeVictim_0 13 rfl rfl)
theorem dX1_canBeVictim_15 : decode cX1_canBeVictim 15 = .ok (.arraylength, 1) := dk_190 (dk_at dksX1_canBeVictim_0 15 rfl rfl)
theorem dX1_canBeVictim_16 : decode cX1_canBeVictim 16 = .ok (.istore 5, 2) := dk_54 5 (dk_at dksX1_canBeVictim_0 16 rfl rfl)
theorem dX1_canBeVictim_18 : decode cX1_canBeVictim 18 = .ok (.iconst 0, 1) := dk_3 (dk_at dksX1_canBeVictim_0 18 rfl rfl)
theorem dX1_canBeVictim_19 : decode cX1_canBeVictim 19 = .ok (.istore 6, 2) := dk_54 6 (dk_at dksX1_canBeVictim_0 19 rfl rfl)
theorem dX1_canBeVictim_21 : decode cX1_canBeVictim 21 = .ok (.iload 6, 2) := dk_21 6 (dk_at dksX1_canBeVictim_0 21 rfl rfl)
theorem dX1_canBeVictim_23 : decode cX1_canBeVictim 23 = .ok (.iload 5, 2) := dk_21 5 (dk_at dksX1_canBeVictim_1 0 rfl rfl)
theorem dX1_canBeVictim_25 : decode cX1_canBeVictim 25 = .ok (.if_icmp .ge 26, 3) := dk_162 0 26 (dk_at dksX1_canBeVictim_1 2 rfl rfl)
theorem dX1_canBeVictim_28 : decode cX1_canBeVictim 28 = .ok (.aload 4, 2) := dk_25 4 (dk_at dksX1_canBeVictim_1 5 rfl rfl)
theorem dX1_canBeVictim_30 : decode cX1_canBeVictim 30 = .ok (.iload 6, 2) := dk_21 6 (dk_at dksX1_canBeVictim_1 7 rfl rfl)
theorem dX1_canBeVictim_32 : decode cX1_canBeVictim 32 = .ok (.iaload, 1) := dk_46 (dk_at dksX1_canBeVictim_1 9 rfl rfl)
theorem dX1_canBeVictim_33 : decode cX1_canBeVictim 33 = .ok (.istore 7, 2) := dk_54 7 (dk_at dksX1_canBeVictim_1 10 rfl rfl)
theorem dX1_canBeVictim_35 : decode cX1_canBeVictim 35 = .ok (.iload_n 3, 1) := dk_29 (dk_at dksX1_canBeVictim_1 12 rfl rfl)
theorem dX1_canBeVictim_36 : decode cX1_canBeVictim 36 = .ok (.aload_n 0, 1) := dk_42 (dk_at dksX1_canBeVictim_1 13 rfl rfl)
theorem dX1_canBeVictim_37 : decode cX1_canBeVictim 37 = .ok (.iload 7, 2) := dk_21 7 (dk_at dksX1_canBeVictim_1 14 rfl rfl)
theorem dX1_canBeVictim_39 : decode cX1_canBeVictim 39 = .ok (.iload_n 1, 1) := dk_27 (dk_at dksX1_canBeVictim_1 16 rfl rfl)
theorem dX1_canBeVictim_40 : decode cX1_canBeVictim 40 = .ok (.invokevirtual 83, 3) := dk_182 0 83 (dk_at dksX1_canBeVictim_1 17 rfl rfl)
theorem dX1_canBeVictim_43 : decode cX1_canBeVictim 43 = .ok (.ior, 1) := dk_128 (dk_at dksX1_canBeVictim_1 20 rfl rfl)
theorem dX1_canBeVictim_44 : decode cX1_canBeVictim 44 = .ok (.istore_n 3, 1) := dk_62 (dk_at dksX1_canBeVictim_1 21 rfl rfl)
theorem dX1_canBeVictim_45 : decode cX1_canBeVictim 45 = .ok (.iinc 6 1, 3) := dk_132 6 1 (dk_at dksX1_canBeVictim_2 0 rfl rfl)
theorem dX1_canBeVictim_48 : decode cX1_canBeVictim 48 = .ok (.goto (-27), 3) := dk_167 255 229 (dk_at dksX1_canBeVictim_2 3 rfl rfl)
theorem dX1_canBeVictim_51 : decode cX1_canBeVictim 51 = .ok (.iload_n 3, 1) := dk_29 (dk_at dksX1_canBeVictim_2 6 rfl rfl)
theorem dX1_canBeVictim_52 : decode cX1_canBeVictim 52 = .ok (.ifCond .eq 23, 3) := dk_153 0 23 (dk_at dksX1_canBeVictim_2 7 rfl rfl)
theorem dX1_canBeVictim_55 : decode cX1_canBeVictim 55 = .ok (.iload_n 1, 1) := dk_27 (dk_at dksX1_canBeVictim_2 10 rfl rfl)
theorem dX1_canBeVictim_56 : decode cX1_canBeVictim 56 = .ok (.aload_n 0, 1) := dk_42 (dk_at dksX1_canBeVictim_2 11 rfl rfl)
theorem dX1_canBeVictim_57 : decode cX1_canBeVictim 57 = .ok (.getfield 176, 3) := dk_180 0 176 (dk_at dksX1_canBeVictim_2 12 rfl rfl)
theorem dX1_canBeVictim_60 : decode cX1_canBeVictim 60 = .ok (.if_icmp .eq 15, 3) := dk_159 0 15 (dk_at dksX1_canBeVictim_2 15 rfl rfl)
theorem dX1_canBeVictim_63 : decode cX1_canBeVictim 63 = .ok (.aload_n 0, 1) := dk_42 (dk_at dksX1_canBeVictim_2 18 rfl rfl)
theorem dX1_canBeVictim_64 : decode cX1_canBeVictim 64 = .ok (.iload_n 1, 1) := dk_27 (dk_at dksX1_canBeVictim_2 19 rfl rfl)
theorem dX1_canBeVictim_65 : decode cX1_canBeVictim 65 = .ok (.invokevirtual 195, 3) := dk_182 0 195 (dk_at dksX1_canBeVictim_2 20 rfl rfl)
theorem dX1_canBeVictim_68 : decode cX1_canBeVictim 68 = .ok (.ifCond .le 7, 3) := dk_158 0 7 (dk_at dksX1_canBeVictim_3 0 rfl rfl)
theorem dX1_canBeVictim_71 : decode cX1_canBeVictim 71 = .ok (.iconst 1, 1) := dk_4 (dk_at dksX1_canBeVictim_3 3 rfl rfl)
theorem dX1_canBeVictim_72 : decode cX1_canBeVictim 72 = .ok (.goto 4, 3) := dk_167 0 4 (dk_at dksX1_canBeVictim_3 4 rfl rfl)
theorem dX1_canBeVictim_75 : decode cX1_canBeVictim 75 = .ok (.iconst 0, 1) := dk_3 (dk_at dksX1_canBeVictim_3 7 rfl rfl)
theorem dX1_canBeVictim_76 : decode cX1_canBeVictim 76 = .ok (.ireturn, 1) := dk_172 (dk_at dksX1_canBeVictim_3 8 rfl rfl)
abbrev cX1_isOf : ByteArray := prog_1_method_5_code
def yX1_isOf : MethodName := ⟨RX1, "isOf", "(II)Z"⟩
def dkwX1_isOf_1 : List UInt8 := [4, 167, 0, 4, 3, 172]
abbrev dktX1_isOf_1 : List UInt8 := dkwX1_isOf_1 ++ []
def dkwX1_isOf_0 : List UInt8 := [42, 180, 0, 17, 27, 50, 198, 0, 22, 42, 180, 0, 17, 27, 50, 185, 0, 72, 1, 0, 28, 160, 0, 7]
abbrev dktX1_isOf_0 : List UInt8 := dkwX1_isOf_0 ++ dktX1_isOf_1
theorem dksX1_isOf_0 : cX1_isOf.data.toList.drop 0 = dktX1_isOf_0 := by decide +kernel
theorem dksX1_isOf_1 : cX1_isOf.data.toList.drop 24 = dktX1_isOf_1 := dk_seg dksX1_isOf_0 24 rfl rfl
theorem dX1_isOf_0 : decode cX1_isOf 0 = .ok (.aload_n 0, 1) := dk_42 (dk_at dksX1_isOf_0 0 rfl rfl)
theorem dX1_isOf_1 : decode cX1_isOf 1 = .ok (.getfield 17, 3) := dk_180 0 17 (dk_at dksX1_isOf_0 1 rfl rfl)
theorem dX1_isOf_4 : decode cX1_isOf 4 = .ok (.iload_n 1, 1) := dk_27 (dk_at dksX1_isOf_0 4 rfl rfl)
theorem dX1_isOf_5 : decode cX1_isOf 5 = .ok (.aaload, 1) := dk_50 (dk_at dksX1_isOf_0 5 rfl rfl)
theorem dX1_isOf_6 : decode cX1_isOf 6 = .ok (.ifnull 22, 3) := dk_198 0 22 (dk_at dksX1_isOf_0 6 rfl rfl)
theorem dX1_isOf_9 : decode cX1_isOf 9 = .ok (.aload_n 0, 1) := dk_42 (dk_at dksX1_isOf_0 9 rfl rfl)
theorem dX1_isOf_10 : decode cX1_isOf 10 = .ok (.getfield 17, 3) := dk_180 0 17 (dk_at dksX1_isOf_0 10 rfl rfl)
theorem dX1_isOf_13 : decode cX1_isOf 13 = .ok (.iload_n 1, 1) := dk_27 (dk_at dksX1_isOf_0 13 rfl rfl)
theorem dX1_isOf_14 : decode cX1_isOf 14 = .ok (.aaload, 1) := dk_50 (dk_at dksX1_isOf_0 14 rfl rfl)
theorem dX1_isOf_15 : decode cX1_isOf 15 = .ok (.invokeinterface 72 1, 5) := by decide +kernel
theorem dX1_isOf_20 : decode cX1_isOf 20 = .ok (.iload_n 2, 1) := dk_28 (dk_at dksX1_isOf_0 20 rfl rfl)
theorem dX1_isOf_21 : decode cX1_isOf 21 = .ok (.if_icmp .ne 7, 3) := dk_160 0 7 (dk_at dksX1_isOf_0 21 rfl rfl)
theorem dX1_isOf_24 : decode cX1_isOf 24 = .ok (.iconst 1, 1) := dk_4 (dk_at dksX1_isOf_1 0 rfl rfl)
theorem dX1_isOf_25 : decode cX1_isOf 25 = .ok (.goto 4, 3) := dk_167 0 4 (dk_at dksX1_isOf_1 1 rfl rfl)
theorem dX1_isOf_28 : decode cX1_isOf 28 = .ok (.iconst 0, 1) := dk_3 (dk_at dksX1_isOf_1 4 rfl rfl)
theorem dX1_isOf_29 : decode cX1_isOf 29 = .ok (.ireturn, 1) := dk_172 (dk_at dksX1_isOf_1 5 rfl rfl)
abbrev cX1_doRob : ByteArray := prog_1_method_31_code
def yX1_doRob : MethodName := ⟨RX1, "doRob", "(III)I"⟩
def dkwX1_doRob_3 : List UInt8 := [172]
abbrev dktX1_doRob_3 : List UInt8 := dkwX1_doRob_3 ++ []
def dkwX1_doRob_2 : List UInt8 := [46, 100, 54, 4, 132, 5, 1, 167, 255, 225, 42, 28, 42, 180, 0, 176, 21, 5, 4, 182, 0, 112, 21, 5]
abbrev dktX1_doRob_2 : List UInt8 := dkwX1_doRob_2 ++ dktX1_doRob_3
def dkwX1_doRob_1 : List UInt8 := [21, 4, 42, 180, 0, 27, 28, 50, 21, 5, 46, 161, 0, 23, 21, 4, 42, 180, 0, 27, 28, 50, 21, 5]
abbrev dktX1_doRob_1 : List UInt8 := dkwX1_doRob_1 ++ dktX1_doRob_2
def dkwX1_doRob_0 : List UInt8 := [42, 27, 181, 0, 121, 28, 2, 160, 0, 5, 2, 172, 29, 42, 28, 182, 0, 195, 112, 54, 4, 3, 54, 5]
abbrev dktX1_doRob_0 : List UInt8 := dkwX1_doRob_0 ++ dktX1_doRob_1
theorem dksX1_doRob_0 : cX1_doRob.data.toList.drop 0 = dktX1_doRob_0 := by decide +kernel
theorem dksX1_doRob_1 : cX1_doRob.data.toList.drop 24 = dktX1_doRob_1 := dk_seg dksX1_doRob_0 24 rfl rfl
theorem dksX1_doRob_2 : cX1_doRob.data.toList.drop 48 = dktX1_doRob_2 := dk_seg dksX1_doRob_1 24 rfl rfl
theorem dksX1_doRob_3 : cX1_doRob.data.toList.drop 72 = dktX1_doRob_3 := dk_seg dksX1_doRob_2 24 rfl rfl
theorem dX1_doRob_0 : decode cX1_doRob 0 = .ok (.aload_n 0, 1) := dk_42 (dk_at dksX1_doRob_0 0 rfl rfl)
theorem dX1_doRob_1 : decode cX1_doRob 1 = .ok (.iload_n 1, 1) := dk_27 (dk_at dksX1_doRob_0 1 rfl rfl)
theorem dX1_doRob_2 : decode cX1_doRob 2 = .ok (.putfield 121, 3) := dk_181 0 121 (dk_at dksX1_doRob_0 2 rfl rfl)
theorem dX1_doRob_5 : decode cX1_doRob 5 = .ok (.iload_n 2, 1) := dk_28 (dk_at dksX1_doRob_0 5 rfl rfl)
theorem dX1_doRob_6 : decode cX1_doRob 6 = .ok (.iconst (-1), 1) := dk_2 (dk_at dksX1_doRob_0 6 rfl rfl)
theorem dX1_doRob_7 : decode cX1_doRob 7 = .ok (.if_icmp .ne 5, 3) := dk_160 0 5 (dk_at dksX1_doRob_0 7 rfl rfl)
theorem dX1_doRob_10 : decode cX1_doRob 10 = .ok (.iconst (-1), 1) := dk_2 (dk_at dksX1_doRob_0 10 rfl rfl)
theorem dX1_doRob_11 : decode cX1_doRob 11 = .ok (.ireturn, 1) := dk_172 (dk_at dksX1_doRob_0 11 rfl rfl)
theorem dX1_doRob_12 : decode cX1_doRob 12 = .ok (.iload_n 3, 1) := dk_29 (dk_at dksX1_doRob_0 12 rfl rfl)
theorem dX1_doRob_13 : decode cX1_doRob 13 = .ok (.aload_n 0, 1) := dk_42 (dk_at dksX1_doRob_0 13 rfl rfl)
theorem dX1_doRob_14 : decode cX1_doRob 14 = .ok (.iload_n 2, 1) := dk_28 (dk_at dksX1_doRob_0 14 rfl rfl)
theorem dX1_doRob_15 : decode cX1_doRob 15 = .ok (.invokevirtual 195, 3) := dk_182 0 195 (dk_at dksX1_doRob_0 15 rfl rfl)
theorem dX1_doRob_18 : decode cX1_doRob 18 = .ok (.irem, 1) := dk_112 (dk_at dksX1_doRob_0 18 rfl rfl)
theorem dX1_doRob_19 : decode cX1_doRob 19 = .ok (.istore 4, 2) := dk_54 4 (dk_at dksX1_doRob_0 19 rfl rfl)
theorem dX1_doRob_21 : decode cX1_doRob 21 = .ok (.iconst 0, 1) := dk_3 (dk_at dksX1_doRob_0 21 rfl rfl)
theorem dX1_doRob_22 : decode cX1_doRob 22 = .ok (.istore 5, 2) := dk_54 5 (dk_at dksX1_doRob_0 22 rfl rfl)
theorem dX1_doRob_24 : decode cX1_doRob 24 = .ok (.iload 4, 2) := dk_21 4 (dk_at dksX1_doRob_1 0 rfl rfl)
theorem dX1_doRob_26 : decode cX1_doRob 26 = .ok (.aload_n 0, 1) := dk_42 (dk_at dksX1_doRob_1 2 rfl rfl)
theorem dX1_doRob_27 : decode cX1_doRob 27 = .ok (.getfield 27, 3) := dk_180 0 27 (dk_at dksX1_doRob_1 3 rfl rfl)
theorem dX1_doRob_30 : decode cX1_doRob 30 = .ok (.iload_n 2, 1) := dk_28 (dk_at dksX1_doRob_1 6 rfl rfl)
theorem dX1_doRob_31 : decode cX1_doRob 31 = .ok (.aaload, 1) := dk_50 (dk_at dksX1_doRob_1 7 rfl rfl)
theorem dX1_doRob_32 : decode cX1_doRob 32 = .ok (.iload 5, 2) := dk_21 5 (dk_at dksX1_doRob_1 8 rfl rfl)
theorem dX1_doRob_34 : decode cX1_doRob 34 = .ok (.iaload, 1) := dk_46 (dk_at dksX1_doRob_1 10 rfl rfl)
theorem dX1_doRob_35 : decode cX1_doRob 35 = .ok (.if_icmp .lt 23, 3) := dk_161 0 23 (dk_at dksX1_doRob_1 11 rfl rfl)
theorem dX1_doRob_38 : decode cX1_doRob 38 = .ok (.iload 4, 2) := dk_21 4 (dk_at dksX1_doRob_1 14 rfl rfl)
theorem dX1_doRob_40 : decode cX1_doRob 40 = .ok (.aload_n 0, 1) := dk_42 (dk_at dksX1_doRob_1 16 rfl rfl)
theorem dX1_doRob_41 : decode cX1_doRob 41 = .ok (.getfield 27, 3) := dk_180 0 27 (dk_at dksX1_doRob_1 17 rfl rfl)
theorem dX1_doRob_44 : decode cX1_doRob 44 = .ok (.iload_n 2, 1) := dk_28 (dk_at dksX1_doRob_1 20 rfl rfl)
theorem dX1_doRob_45 : decode cX1_doRob 45 = .ok (.aaload, 1) := dk_50 (dk_at dksX1_doRob_1 21 rfl rfl)
theorem dX1_doRob_46 : decode cX1_doRob 46 = .ok (.iload 5, 2) := dk_21 5 (dk_at dksX1_doRob_1 22 rfl rfl)
theorem dX1_doRob_48 : decode cX1_doRob 48 = .ok (.iaload, 1) := dk_46 (dk_at dksX1_doRob_2 0 rfl rfl)
theorem dX1_doRob_49 : decode cX1_doRob 49 = .ok (.isub, 1) := dk_100 (dk_at dksX1_doRob_2 1 rfl rfl)
theorem dX1_doRob_50 : decode cX1_doRob 50 = .ok (.istore 4, 2) := dk_54 4 (dk_at dksX1_doRob_2 2 rfl rfl)
theorem dX1_doRob_52 : decode cX1_doRob 52 = .ok (.iinc 5 1, 3) := dk_132 5 1 (dk_at dksX1_doRob_2 4 rfl rfl)
theorem dX1_doRob_55 : decode cX1_doRob 55 = .ok (.goto (-31), 3) := dk_167 255 225 (dk_at dksX1_doRob_2 7 rfl rfl)
theorem dX1_doRob_58 : decode cX1_doRob 58 = .ok (.aload_n 0, 1) := dk_42 (dk_at dksX1_doRob_2 10 rfl rfl)
theorem dX1_doRob_59 : decode cX1_doRob 59 = .ok (.iload_n 2, 1) := dk_28 (dk_at dksX1_doRob_2 11 rfl rfl)
theorem dX1_doRob_60 : decode cX1_doRob 60 = .ok (.aload_n 0, 1) := dk_42 (dk_at dksX1_doRob_2 12 rfl rfl)
theorem dX1_doRob_61 : decode cX1_doRob 61 = .ok (.getfield 176, 3) := dk_180 0 176 (dk_at dksX1_doRob_2 13 rfl rfl)
theorem dX1_doRob_64 : decode cX1_doRob 64 = .ok (.iload 5, 2) := dk_21 5 (dk_at dksX1_doRob_2 16 rfl rfl)
theorem dX1_doRob_66 : decode cX1_doRob 66 = .ok (.iconst 1, 1) := dk_4 (dk_at dksX1_doRob_2 18 rfl rfl)
theorem dX1_doRob_67 : decode cX1_doRob 67 = .ok (.invokevirtual 112, 3) := dk_182 0 112 (dk_at dksX1_doRob_2 19 rfl rfl)
theorem dX1_doRob_70 : decode cX1_doRob 70 = .ok (.iload 5, 2) := dk_21 5 (dk_at dksX1_doRob_2 22 rfl rfl)
theorem dX1_doRob_72 : decode cX1_doRob 72 = .ok (.ireturn, 1) := dk_172 (dk_at dksX1_doRob_3 0 rfl rfl)
abbrev cX1_road : ByteArray := prog_1_method_48_code
def yX1_road : MethodName := ⟨RX1, "road", "(I)I"⟩
def dkwX1_road_2 : List UInt8 := [182, 0, 145, 172]
abbrev dktX1_road_2 : List UInt8 := dkwX1_road_2 ++ []
def dkwX1_road_1 : List UInt8 := [182, 1, 29, 42, 180, 0, 21, 27, 42, 180, 0, 176, 79, 42, 4, 182, 0, 246, 42, 42, 180, 0, 176]
abbrev dktX1_road_1 : List UInt8 := dkwX1_road_1 ++ dktX1_road_2
def dkwX1_road_0 : List UInt8 := [27, 16, 30, 184, 0, 204, 42, 42, 27, 42, 180, 0, 176, 182, 1, 22, 16, 11, 182, 1, 25, 42, 16, 11]
abbrev dktX1_road_0 : List UInt8 := dkwX1_road_0 ++ dktX1_road_1
theorem dksX1_road_0 : cX1_road.data.toList.drop 0 = dktX1_road_0 := by decide +kernel
theorem dksX1_road_1 : cX1_road.data.toList.drop 24 = dktX1_road_1 := dk_seg dksX1_road_0 24 rfl rfl
theorem dksX1_road_2 : cX1_road.data.toList.drop 47 = dktX1_road_2 := dk_seg dksX1_road_1 23 rfl rfl
theorem dX1_road_0 : decode cX1_road 0 = .ok (.iload_n 1, 1) := dk_27 (dk_at dksX1_road_0 0 rfl rfl)
theorem dX1_road_1 : decode cX1_road 1 = .ok (.bipush 30, 2) := dk_16 30 (dk_at dksX1_road_0 1 rfl rfl)
theorem dX1_road_3 : decode cX1_road 3 = .ok (.invokestatic 204, 3) := dk_184 0 204 (dk_at dksX1_road_0 3 rfl rfl)
theorem dX1_road_6 : decode cX1_road 6 = .ok (.aload_n 0, 1) := dk_42 (dk_at dksX1_road_0 6 rfl rfl)
theorem dX1_road_7 : decode cX1_road 7 = .ok (.aload_n 0, 1) := dk_42 (dk_at dksX1_road_0 7 rfl rfl)
theorem dX1_road_8 : decode cX1_road 8 = .ok (.iload_n 1, 1) := dk_27 (dk_at dksX1_road_0 8 rfl rfl)
theorem dX1_road_9 : decode cX1_road 9 = .ok (.aload_n 0, 1) := dk_42 (dk_at dksX1_road_0 9 rfl rfl)
theorem dX1_road_10 : decode cX1_road 10 = .ok (.getfield 176, 3) := dk_180 0 176 (dk_at dksX1_road_0 10 rfl rfl)
theorem dX1_road_13 : decode cX1_road 13 = .ok (.invokevirtual 278, 3) := dk_182 1 22 (dk_at dksX1_road_0 13 rfl rfl)
theorem dX1_road_16 : decode cX1_road 16 = .ok (.bipush 11, 2) := dk_16 11 (dk_at dksX1_road_0 16 rfl rfl)
theorem dX1_road_18 : decode cX1_road 18 = .ok (.invokevirtual 281, 3) := dk_182 1 25 (dk_at dksX1_road_0 18 rfl rfl)
theorem dX1_road_21 : decode cX1_road 21 = .ok (.aload_n 0, 1) := dk_42 (dk_at dksX1_road_0 21 rfl rfl)
theorem dX1_road_22 : decode cX1_road 22 = .ok (.bipush 11, 2) := dk_16 11 (dk_at dksX1_road_0 22 rfl rfl)
theorem dX1_road_24 : decode cX1_road 24 = .ok (.invokevirtual 285, 3) := dk_182 1 29 (dk_at dksX1_road_1 0 rfl rfl)
theorem dX1_road_27 : decode cX1_road 27 = .ok (.aload_n 0, 1) := dk_42 (dk_at dksX1_road_1 3 rfl rfl)
theorem dX1_road_28 : decode cX1_road 28 = .ok (.getfield 21, 3) := dk_180 0 21 (dk_at dksX1_road_1 4 rfl rfl)
theorem dX1_road_31 : decode cX1_road 31 = .ok (.iload_n 1, 1) := dk_27 (dk_at dksX1_road_1 7 rfl rfl)
theorem dX1_road_32 : decode cX1_road 32 = .ok (.aload_n 0, 1) := dk_42 (dk_at dksX1_road_1 8 rfl rfl)
theorem dX1_road_33 : decode cX1_road 33 = .ok (.getfield 176, 3) := dk_180 0 176 (dk_at dksX1_road_1 9 rfl rfl)
theorem dX1_road_36 : decode cX1_road 36 = .ok (.iastore, 1) := dk_79 (dk_at dksX1_road_1 12 rfl rfl)
theorem dX1_road_37 : decode cX1_road 37 = .ok (.aload_n 0, 1) := dk_42 (dk_at dksX1_road_1 13 rfl rfl)
theorem dX1_road_38 : decode cX1_road 38 = .ok (.iconst 1, 1) := dk_4 (dk_at dksX1_road_1 14 rfl rfl)
theorem dX1_road_39 : decode cX1_road 39 = .ok (.invokevirtual 246, 3) := dk_182 0 246 (dk_at dksX1_road_1 15 rfl rfl)
theorem dX1_road_42 : decode cX1_road 42 = .ok (.aload_n 0, 1) := dk_42 (dk_at dksX1_road_1 18 rfl rfl)
theorem dX1_road_43 : decode cX1_road 43 = .ok (.aload_n 0, 1) := dk_42 (dk_at dksX1_road_1 19 rfl rfl)
theorem dX1_road_44 : decode cX1_road 44 = .ok (.getfield 176, 3) := dk_180 0 176 (dk_at dksX1_road_1 20 rfl rfl)
theorem dX1_road_47 : decode cX1_road 47 = .ok (.invokevirtual 145, 3) := dk_182 0 145 (dk_at dksX1_road_2 0 rfl rfl)
theorem dX1_road_50 : decode cX1_road 50 = .ok (.ireturn, 1) := dk_172 (dk_at dksX1_road_2 3 rfl rfl)
abbrev cX1_canHaveRoad : ByteArray := prog_1_method_11_code
def yX1_canHaveRoad : MethodName := ⟨RX1, "canHaveRoad", "(II)Z"⟩
def dkwX1_canHaveRoad_3 : List UInt8 := [27, 46, 2, 160, 0, 17, 42, 28, 182, 0, 94, 16, 8, 162, 0, 7, 4, 167, 0, 4, 3, 172]
abbrev dktX1_canHaveRoad_3 : List UInt8 := dkwX1_canHaveRoad_3 ++ []
def dkwX1_canHaveRoad_2 : List UInt8 := [154, 0, 7, 4, 167, 0, 4, 3, 128, 62, 132, 4, 1, 167, 255, 201, 29, 153, 0, 27, 42, 180, 0, 21]
abbrev dktX1_canHaveRoad_2 : List UInt8 := dkwX1_canHaveRoad_2 ++ dktX1_canHaveRoad_3
def dkwX1_canHaveRoad_1 : List UInt8 := [182, 0, 83, 154, 0, 23, 42, 21, 5, 28, 182, 0, 88, 153, 0, 17, 42, 21, 5, 28, 182, 0, 91]
abbrev dktX1_canHaveRoad_1 : List UInt8 := dkwX1_canHaveRoad_1 ++ dktX1_canHaveRoad_2
def dkwX1_canHaveRoad_0 : List UInt8 := [3, 62, 3, 54, 4, 21, 4, 5, 162, 0, 55, 27, 21, 4, 184, 0, 68, 54, 5, 29, 42, 21, 5, 28]
abbrev dktX1_canHaveRoad_0 : List UInt8 := dkwX1_canHaveRoad_0 ++ dktX1_canHaveRoad_1
theorem dksX1_canHaveRoad_0 : cX1_canHaveRoad.data.toList.drop 0 = dktX1_canHaveRoad_0 := by decide +kernel
theorem dksX1_canHaveRoad_1 : cX1_canHaveRoad.data.toList.drop 24 = dktX1_canHaveRoad_1 := dk_seg dksX1_canHaveRoad_0 24 rfl rfl
theorem dksX1_canHaveRoad_2 : cX1_canHaveRoad.data.toList.drop 47 = dktX1_canHaveRoad_2 := dk_seg dksX1_canHaveRoad_1 23 rfl rfl
theorem dksX1_canHaveRoad_3 : cX1_canHaveRoad.data.toList.drop 71 = dktX1_canHaveRoad_3 := dk_seg dksX1_canHaveRoad_2 24 rfl rfl
theorem dX1_canHaveRoad_0 : decode cX1_canHaveRoad 0 = .ok (.iconst 0, 1) := dk_3 (dk_at dksX1_canHaveRoad_0 0 rfl rfl)
theorem dX1_canHaveRoad_1 : decode cX1_canHaveRoad 1 = .ok (.istore_n 3, 1) := dk_62 (dk_at dksX1_canHaveRoad_0 1 rfl rfl)
theorem dX1_canHaveRoad_2 : decode cX1_canHaveRoad 2 = .ok (.iconst 0, 1) := dk_3 (dk_at dksX1_canHaveRoad_0 2 rfl rfl)
theorem dX1_canHaveRoad_3 : decode cX1_canHaveRoad 3 = .ok (.istore 4, 2) := dk_54 4 (dk_at dksX1_canHaveRoad_0 3 rfl rfl)
theorem dX1_canHaveRoad_5 : decode cX1_canHaveRoad 5 = .ok (.iload 4, 2) := dk_21 4 (dk_at dksX1_canHaveRoad_0 5 rfl rfl)
theorem dX1_canHaveRoad_7 : decode cX1_canHaveRoad 7 = .ok (.iconst 2, 1) := dk_5 (dk_at dksX1_canHaveRoad_0 7 rfl rfl)
theorem dX1_canHaveRoad_8 : decode cX1_canHaveRoad 8 = .ok (.if_icmp .ge 55, 3) := dk_162 0 55 (dk_at dksX1_canHaveRoad_0 8 rfl rfl)
theorem dX1_canHaveRoad_11 : decode cX1_canHaveRoad 11 = .ok (.iload_n 1, 1) := dk_27 (dk_at dksX1_canHaveRoad_0 11 rfl rfl)
theorem dX1_canHaveRoad_12 : decode cX1_canHaveRoad 12 = .ok (.iload 4, 2) := dk_21 4 (dk_at dksX1_canHaveRoad_0 12 rfl rfl)
theorem dX1_canHaveRoad_14 : decode cX1_canHaveRoad 14 = .ok (.invokestatic 68, 3) := dk_184 0 68 (dk_at dksX1_canHaveRoad_0 14 rfl rfl)
theorem dX1_canHaveRoad_17 : decode cX1_canHaveRoad 17 = .ok (.istore 5, 2) := dk_54 5 (dk_at dksX1_canHaveRoad_0 17 rfl rfl)
theorem dX1_canHaveRoad_19 : decode cX1_canHaveRoad 19 = .ok (.iload_n 3, 1) := dk_29 (dk_at dksX1_canHaveRoad_0 19 rfl rfl)
theorem dX1_canHaveRoad_20 : decode cX1_canHaveRoad 20 = .ok (.aload_n 0, 1) := dk_42 (dk_at dksX1_canHaveRoad_0 20 rfl rfl)
theorem dX1_canHaveRoad_21 : decode cX1_canHaveRoad 21 = .ok (.iload 5, 2) := dk_21 5 (dk_at dksX1_canHaveRoad_0 21 rfl rfl)
theorem dX1_canHaveRoad_23 : decode cX1_canHaveRoad 23 = .ok (.iload_n 2, 1) := dk_28 (dk_at dksX1_canHaveRoad_0 23 rfl rfl)
theorem dX1_canHaveRoad_24 : decode cX1_canHaveRoad 24 = .ok (.invokevirtual 83, 3) := dk_182 0 83 (dk_at dksX1_canHaveRoad_1 0 rfl rfl)
theorem dX1_canHaveRoad_27 : decode cX1_canHaveRoad 27 = .ok (.ifCond .ne 23, 3) := dk_154 0 23 (dk_at dksX1_canHaveRoad_1 3 rfl rfl)
theorem dX1_canHaveRoad_30 : decode cX1_canHaveRoad 30 = .ok (.aload_n 0, 1) := dk_42 (dk_at dksX1_canHaveRoad_1 6 rfl rfl)
theorem dX1_canHaveRoad_31 : decode cX1_canHaveRoad 31 = .ok (.iload 5, 2) := dk_21 5 (dk_at dksX1_canHaveRoad_1 7 rfl rfl)
theorem dX1_canHaveRoad_33 : decode cX1_canHaveRoad 33 = .ok (.iload_n 2, 1) := dk_28 (dk_at dksX1_canHaveRoad_1 9 rfl rfl)
theorem dX1_canHaveRoad_34 : decode cX1_canHaveRoad 34 = .ok (.invokevirtual 88, 3) := dk_182 0 88 (dk_at dksX1_canHaveRoad_1 10 rfl rfl)
theorem dX1_canHaveRoad_37 : decode cX1_canHaveRoad 37 = .ok (.ifCond .eq 17, 3) := dk_153 0 17 (dk_at dksX1_canHaveRoad_1 13 rfl rfl)
theorem dX1_canHaveRoad_40 : decode cX1_canHaveRoad 40 = .ok (.aload_n 0, 1) := dk_42 (dk_at dksX1_canHaveRoad_1 16 rfl rfl)
theorem dX1_canHaveRoad_41 : decode cX1_canHaveRoad 41 = .ok (.iload 5, 2) := dk_21 5 (dk_at dksX1_canHaveRoad_1 17 rfl rfl)
theorem dX1_canHaveRoad_43 : decode cX1_canHaveRoad 43 = .ok (.iload_n 2, 1) := dk_28 (dk_at dksX1_canHaveRoad_1 19 rfl rfl)
theorem dX1_canHaveRoad_44 : decode cX1_canHaveRoad 44 = .ok (.invokevirtual 91, 3) := dk_182 0 91 (dk_at dksX1_canHaveRoad_1 20 rfl rfl)
theorem dX1_canHaveRoad_47 : decode cX1_canHaveRoad 47 = .ok (.ifCond .ne 7, 3) := dk_154 0 7 (dk_at dksX1_canHaveRoad_2 0 rfl rfl)
theorem dX1_canHaveRoad_50 : decode cX1_canHaveRoad 50 = .ok (.iconst 1, 1) := dk_4 (dk_at dksX1_canHaveRoad_2 3 rfl rfl)
theorem dX1_canHaveRoad_51 : decode cX1_canHaveRoad 51 = .ok (.goto 4, 3) := dk_167 0 4 (dk_at dksX1_canHaveRoad_2 4 rfl rfl)
theorem dX1_canHaveRoad_54 : decode cX1_canHaveRoad 54 = .ok (.iconst 0, 1) := dk_3 (dk_at dksX1_canHaveRoad_2 7 rfl rfl)
theorem dX1_canHaveRoad_55 : decode cX1_canHaveRoad 55 = .ok (.ior, 1) := dk_128 (dk_at dksX1_canHaveRoad_2 8 rfl rfl)
theorem dX1_canHaveRoad_56 : decode cX1_canHaveRoad 56 = .ok (.istore_n 3, 1) := dk_62 (dk_at dksX1_canHaveRoad_2 9 rfl rfl)
theorem dX1_canHaveRoad_57 : decode cX1_canHaveRoad 57 = .ok (.iinc 4 1, 3) := dk_132 4 1 (dk_at dksX1_canHaveRoad_2 10 rfl rfl)
theorem dX1_canHaveRoad_60 : decode cX1_canHaveRoad 60 = .ok (.goto (-55), 3) := dk_167 255 201 (dk_at dksX1_canHaveRoad_2 13 rfl rfl)
theorem dX1_canHaveRoad_63 : decode cX1_canHaveRoad 63 = .ok (.iload_n 3, 1) := dk_29 (dk_at dksX1_canHaveRoad_2 16 rfl rfl)
theorem dX1_canHaveRoad_64 : decode cX1_canHaveRoad 64 = .ok (.ifCond .eq 27, 3) := dk_153 0 27 (dk_at dksX1_canHaveRoad_2 17 rfl rfl)
theorem dX1_canHaveRoad_67 : decode cX1_canHaveRoad 67 = .ok (.aload_n 0, 1) := dk_42 (dk_at dksX1_canHaveRoad_2 20 rfl rfl)
theorem dX1_canHaveRoad_68 : decode cX1_canHaveRoad 68 = .ok (.getfield 21, 3) := dk_180 0 21 (dk_at dksX1_canHaveRoad_2 21 rfl rfl)
theorem dX1_canHaveRoad_71 : decode cX1_canHaveRoad 71 = .ok (.iload_n 1, 1) := dk_27 (dk_at dksX1_canHaveRoad_3 0 rfl rfl)
theorem dX1_canHaveRoad_72 : decode cX1_canHaveRoad 72 = .ok (.iaload, 1) := dk_46 (dk_at dksX1_canHaveRoad_3 1 rfl rfl)
theorem dX1_canHaveRoad_73 : decode cX1_canHaveRoad 73 = .ok (.iconst (-1), 1) := dk_2 (dk_at dksX1_canHaveRoad_3 2 rfl rfl)
theorem dX1_canHaveRoad_74 : decode cX1_canHaveRoad 74 = .ok (.if_icmp .ne 17, 3) := dk_160 0 17 (dk_at dksX1_canHaveRoad_3 3 rfl rfl)
theorem dX1_canHaveRoad_77 : decode cX1_canHaveRoad 77 = .ok (.aload_n 0, 1) := dk_42 (dk_at dksX1_canHaveRoad_3 6 rfl rfl)
theorem dX1_canHaveRoad_78 : decode cX1_canHaveRoad 78 = .ok (.iload_n 2, 1) := dk_28 (dk_at dksX1_canHaveRoad_3 7 rfl rfl)
theorem dX1_canHaveRoad_79 : decode cX1_canHaveRoad 79 = .ok (.invokevirtual 94, 3) := dk_182 0 94 (dk_at dksX1_canHaveRoad_3 8 rfl rfl)
theorem dX1_canHaveRoad_82 : decode cX1_canHaveRoad 82 = .ok (.bipush 8, 2) := dk_16 8 (dk_at dksX1_canHaveRoad_3 11 rfl rfl)
theorem dX1_canHaveRoad_84 : decode cX1_canHaveRoad 84 = .ok (.if_icmp .ge 7, 3) := dk_162 0 7 (dk_at dksX1_canHaveRoad_3 13 rfl rfl)
theorem dX1_canHaveRoad_87 : decode cX1_canHaveRoad 87 = .ok (.iconst 1, 1) := dk_4 (dk_at dksX1_canHaveRoad_3 16 rfl rfl)
theorem dX1_canHaveRoad_88 : decode cX1_canHaveRoad 88 = .ok (.goto 4, 3) := dk_167 0 4 (dk_at dksX1_canHaveRoad_3 17 rfl rfl)
theorem dX1_canHaveRoad_91 : decode cX1_canHaveRoad 91 = .ok (.iconst 0, 1) := dk_3 (dk_at dksX1_canHaveRoad_3 20 rfl rfl)
theorem dX1_canHaveRoad_92 : decode cX1_canHaveRoad 92 = .ok (.ireturn, 1) := dk_172 (dk_at dksX1_canHaveRoad_3 21 rfl rfl)
abbrev cX1_hasRoadAt : ByteArray := prog_1_method_8_code
def yX1_hasRoadAt : MethodName := ⟨RX1, "hasRoadAt", "(II)Z"⟩
def dkwX1_hasRoadAt_1 : List UInt8 := [21, 4, 27, 184, 0, 76, 153, 0, 7, 4, 167, 0, 4, 3, 128, 62, 132, 4, 1, 167, 255, 218, 29, 172]
abbrev dktX1_hasRoadAt_1 : List UInt8 := dkwX1_hasRoadAt_1 ++ []
def dkwX1_hasRoadAt_0 : List UInt8 := [3, 62, 3, 54, 4, 21, 4, 16, 30, 162, 0, 37, 29, 42, 180, 0, 21, 21, 4, 46, 28, 160, 0, 16]
abbrev dktX1_hasRoadAt_0 : List UInt8 := dkwX1_hasRoadAt_0 ++ dktX1_hasRoadAt_1
theorem dksX1_hasRoadAt_0 : cX1_hasRoadAt.data.toList.drop 0 = dktX1_hasRoadAt_0 := by decide +kernel
theorem dksX1_hasRoadAt_1 : cX1_hasRoadAt.data.toList.drop 24 = dktX1_hasRoadAt_1 := dk_seg dksX1_hasRoadAt_0 24 rfl rfl
theorem dX1_hasRoadAt_0 : decode cX1_hasRoadAt 0 = .ok (.iconst 0, 1) := dk_3 (dk_at dksX1_hasRoadAt_0 0 rfl rfl)
theorem dX1_hasRoadAt_1 : decode cX1_hasRoadAt 1 = .ok (.istore_n 3, 1) := dk_62 (dk_at dksX1_hasRoadAt_0 1 rfl rfl)
theorem dX1_hasRoadAt_2 : decode cX1_hasRoadAt 2 = .ok (.iconst 0, 1) := dk_3 (dk_at dksX1_hasRoadAt_0 2 rfl rfl)
theorem dX1_hasRoadAt_3 : decode cX1_hasRoadAt 3 = .ok (.istore 4, 2) := dk_54 4 (dk_at dksX1_hasRoadAt_0 3 rfl rfl)
theorem dX1_hasRoadAt_5 : decode cX1_hasRoadAt 5 = .ok (.iload 4, 2) := dk_21 4 (dk_at dksX1_hasRoadAt_0 5 rfl rfl)
theorem dX1_hasRoadAt_7 : decode cX1_hasRoadAt 7 = .ok (.bipush 30, 2) := dk_16 30 (dk_at dksX1_hasRoadAt_0 7 rfl rfl)
theorem dX1_hasRoadAt_9 : decode cX1_hasRoadAt 9 = .ok (.if_icmp .ge 37, 3) := dk_162 0 37 (dk_at dksX1_hasRoadAt_0 9 rfl rfl)
theorem dX1_hasRoadAt_12 : decode cX1_hasRoadAt 12 = .ok (.iload_n 3, 1) := dk_29 (dk_at dksX1_hasRoadAt_0 12 rfl rfl)
theorem dX1_hasRoadAt_13 : decode cX1_hasRoadAt 13 = .ok (.aload_n 0, 1) := dk_42 (dk_at dksX1_hasRoadAt_0 13 rfl rfl)
theorem dX1_hasRoadAt_14 : decode cX1_hasRoadAt 14 = .ok (.getfield 21, 3) := dk_180 0 21 (dk_at dksX1_hasRoadAt_0 14 rfl rfl)
theorem dX1_hasRoadAt_17 : decode cX1_hasRoadAt 17 = .ok (.iload 4, 2) := dk_21 4 (dk_at dksX1_hasRoadAt_0 17 rfl rfl)
theorem dX1_hasRoadAt_19 : decode cX1_hasRoadAt 19 = .ok (.iaload, 1) := dk_46 (dk_at dksX1_hasRoadAt_0 19 rfl rfl)
theorem dX1_hasRoadAt_20 : decode cX1_hasRoadAt 20 = .ok (.iload_n 2, 1) := dk_28 (dk_at dksX1_hasRoadAt_0 20 rfl rfl)
theorem dX1_hasRoadAt_21 : decode cX1_hasRoadAt 21 = .ok (.if_icmp .ne 16, 3) := dk_160 0 16 (dk_at dksX1_hasRoadAt_0 21 rfl rfl)
theorem dX1_hasRoadAt_24 : decode cX1_hasRoadAt 24 = .ok (.iload 4, 2) := dk_21 4 (dk_at dksX1_hasRoadAt_1 0 rfl rfl)
theorem dX1_hasRoadAt_26 : decode cX1_hasRoadAt 26 = .ok (.iload_n 1, 1) := dk_27 (dk_at dksX1_hasRoadAt_1 2 rfl rfl)
theorem dX1_hasRoadAt_27 : decode cX1_hasRoadAt 27 = .ok (.invokestatic 76, 3) := dk_184 0 76 (dk_at dksX1_hasRoadAt_1 3 rfl rfl)
theorem dX1_hasRoadAt_30 : decode cX1_hasRoadAt 30 = .ok (.ifCond .eq 7, 3) := dk_153 0 7 (dk_at dksX1_hasRoadAt_1 6 rfl rfl)
theorem dX1_hasRoadAt_33 : decode cX1_hasRoadAt 33 = .ok (.iconst 1, 1) := dk_4 (dk_at dksX1_hasRoadAt_1 9 rfl rfl)
theorem dX1_hasRoadAt_34 : decode cX1_hasRoadAt 34 = .ok (.goto 4, 3) := dk_167 0 4 (dk_at dksX1_hasRoadAt_1 10 rfl rfl)
theorem dX1_hasRoadAt_37 : decode cX1_hasRoadAt 37 = .ok (.iconst 0, 1) := dk_3 (dk_at dksX1_hasRoadAt_1 13 rfl rfl)
theorem dX1_hasRoadAt_38 : decode cX1_hasRoadAt 38 = .ok (.ior, 1) := dk_128 (dk_at dksX1_hasRoadAt_1 14 rfl rfl)
theorem dX1_hasRoadAt_39 : decode cX1_hasRoadAt 39 = .ok (.istore_n 3, 1) := dk_62 (dk_at dksX1_hasRoadAt_1 15 rfl rfl)
theorem dX1_hasRoadAt_40 : decode cX1_hasRoadAt 40 = .ok (.iinc 4 1, 3) := dk_132 4 1 (dk_at dksX1_hasRoadAt_1 16 rfl rfl)
theorem dX1_hasRoadAt_43 : decode cX1_hasRoadAt 43 = .ok (.goto (-38), 3) := dk_167 255 218 (dk_at dksX1_hasRoadAt_1 19 rfl rfl)
theorem dX1_hasRoadAt_46 : decode cX1_hasRoadAt 46 = .ok (.iload_n 3, 1) := dk_29 (dk_at dksX1_hasRoadAt_1 22 rfl rfl)
theorem dX1_hasRoadAt_47 : decode cX1_hasRoadAt 47 = .ok (.ireturn, 1) := dk_172 (dk_at dksX1_hasRoadAt_1 23 rfl rfl)
abbrev cX1_roadsOf : ByteArray := prog_1_method_9_code
def yX1_roadsOf : MethodName := ⟨RX1, "roadsOf", "(I)I"⟩
def dkwX1_roadsOf_2 : List UInt8 := [172]
abbrev dktX1_roadsOf_2 : List UInt8 := dkwX1_roadsOf_2 ++ []
def dkwX1_roadsOf_1 : List UInt8 := [46, 54, 6, 28, 21, 6, 27, 160, 0, 7, 4, 167, 0, 4, 3, 96, 61, 132, 5, 1, 167, 255, 226, 28]
abbrev dktX1_roadsOf_1 : List UInt8 := dkwX1_roadsOf_1 ++ dktX1_roadsOf_2
def dkwX1_roadsOf_0 : List UInt8 := [3, 61, 42, 180, 0, 21, 78, 45, 190, 54, 4, 3, 54, 5, 21, 5, 21, 4, 162, 0, 29, 45, 21, 5]
abbrev dktX1_roadsOf_0 : List UInt8 := dkwX1_roadsOf_0 ++ dktX1_roadsOf_1
theorem dksX1_roadsOf_0 : cX1_roadsOf.data.toList.drop 0 = dktX1_roadsOf_0 := by decide +kernel
theorem dksX1_roadsOf_1 : cX1_roadsOf.data.toList.drop 24 = dktX1_roadsOf_1 := dk_seg dksX1_roadsOf_0 24 rfl rfl
theorem dksX1_roadsOf_2 : cX1_roadsOf.data.toList.drop 48 = dktX1_roadsOf_2 := dk_seg dksX1_roadsOf_1 24 rfl rfl
theorem dX1_roadsOf_0 : decode cX1_roadsOf 0 = .ok (.iconst 0, 1) := dk_3 (dk_at dksX1_roadsOf_0 0 rfl rfl)
theorem dX1_roadsOf_1 : decode cX1_roadsOf 1 = .ok (.istore_n 2, 1) := dk_61 (dk_at dksX1_roadsOf_0 1 rfl rfl)
theorem dX1_roadsOf_2 : decode cX1_roadsOf 2 = .ok (.aload_n 0, 1) := dk_42 (dk_at dksX1_roadsOf_0 2 rfl rfl)
theorem dX1_roadsOf_3 : decode cX1_roadsOf 3 = .ok (.getfield 21, 3) := dk_180 0 21 (dk_at dksX1_roadsOf_0 3 rfl rfl)
theorem dX1_roadsOf_6 : decode cX1_roadsOf 6 = .ok (.astore_n 3, 1) := dk_78 (dk_at dksX1_roadsOf_0 6 rfl rfl)
theorem dX1_roadsOf_7 : decode cX1_roadsOf 7 = .ok (.aload_n 3, 1) := dk_45 (dk_at dksX1_roadsOf_0 7 rfl rfl)
theorem dX1_roadsOf_8 : decode cX1_roadsOf 8 = .ok (.arraylength, 1) := dk_190 (dk_at dksX1_roadsOf_0 8 rfl rfl)
theorem dX1_roadsOf_9 : decode cX1_roadsOf 9 = .ok (.istore 4, 2) := dk_54 4 (dk_at dksX1_roadsOf_0 9 rfl rfl)
theorem dX1_roadsOf_11 : decode cX1_roadsOf 11 = .ok (.iconst 0, 1) := dk_3 (dk_at dksX1_roadsOf_0 11 rfl rfl)
theorem dX1_roadsOf_12 : decode cX1_roadsOf 12 = .ok (.istore 5, 2) := dk_54 5 (dk_at dksX1_roadsOf_0 12 rfl rfl)
theorem dX1_roadsOf_14 : decode cX1_roadsOf 14 = .ok (.iload 5, 2) := dk_21 5 (dk_at dksX1_roadsOf_0 14 rfl rfl)
theorem dX1_roadsOf_16 : decode cX1_roadsOf 16 = .ok (.iload 4, 2) := dk_21 4 (dk_at dksX1_roadsOf_0 16 rfl rfl)
theorem dX1_roadsOf_18 : decode cX1_roadsOf 18 = .ok (.if_icmp .ge 29, 3) := dk_162 0 29 (dk_at dksX1_roadsOf_0 18 rfl rfl)
theorem dX1_roadsOf_21 : decode cX1_roadsOf 21 = .ok (.aload_n 3, 1) := dk_45 (dk_at dksX1_roadsOf_0 21 rfl rfl)
theorem dX1_roadsOf_22 : decode cX1_roadsOf 22 = .ok (.iload 5, 2) := dk_21 5 (dk_at dksX1_roadsOf_0 22 rfl rfl)
theorem dX1_roadsOf_24 : decode cX1_roadsOf 24 = .ok (.iaload, 1) := dk_46 (dk_at dksX1_roadsOf_1 0 rfl rfl)
theorem dX1_roadsOf_25 : decode cX1_roadsOf 25 = .ok (.istore 6, 2) := dk_54 6 (dk_at dksX1_roadsOf_1 1 rfl rfl)
theorem dX1_roadsOf_27 : decode cX1_roadsOf 27 = .ok (.iload_n 2, 1) := dk_28 (dk_at dksX1_roadsOf_1 3 rfl rfl)
theorem dX1_roadsOf_28 : decode cX1_roadsOf 28 = .ok (.iload 6, 2) := dk_21 6 (dk_at dksX1_roadsOf_1 4 rfl rfl)
theorem dX1_roadsOf_30 : decode cX1_roadsOf 30 = .ok (.iload_n 1, 1) := dk_27 (dk_at dksX1_roadsOf_1 6 rfl rfl)
theorem dX1_roadsOf_31 : decode cX1_roadsOf 31 = .ok (.if_icmp .ne 7, 3) := dk_160 0 7 (dk_at dksX1_roadsOf_1 7 rfl rfl)
theorem dX1_roadsOf_34 : decode cX1_roadsOf 34 = .ok (.iconst 1, 1) := dk_4 (dk_at dksX1_roadsOf_1 10 rfl rfl)
theorem dX1_roadsOf_35 : decode cX1_roadsOf 35 = .ok (.goto 4, 3) := dk_167 0 4 (dk_at dksX1_roadsOf_1 11 rfl rfl)
theorem dX1_roadsOf_38 : decode cX1_roadsOf 38 = .ok (.iconst 0, 1) := dk_3 (dk_at dksX1_roadsOf_1 14 rfl rfl)
theorem dX1_roadsOf_39 : decode cX1_roadsOf 39 = .ok (.iadd, 1) := dk_96 (dk_at dksX1_roadsOf_1 15 rfl rfl)
theorem dX1_roadsOf_40 : decode cX1_roadsOf 40 = .ok (.istore_n 2, 1) := dk_61 (dk_at dksX1_roadsOf_1 16 rfl rfl)
theorem dX1_roadsOf_41 : decode cX1_roadsOf 41 = .ok (.iinc 5 1, 3) := dk_132 5 1 (dk_at dksX1_roadsOf_1 17 rfl rfl)
theorem dX1_roadsOf_44 : decode cX1_roadsOf 44 = .ok (.goto (-30), 3) := dk_167 255 226 (dk_at dksX1_roadsOf_1 20 rfl rfl)
theorem dX1_roadsOf_47 : decode cX1_roadsOf 47 = .ok (.iload_n 2, 1) := dk_28 (dk_at dksX1_roadsOf_1 23 rfl rfl)
theorem dX1_roadsOf_48 : decode cX1_roadsOf 48 = .ok (.ireturn, 1) := dk_172 (dk_at dksX1_roadsOf_2 0 rfl rfl)
abbrev cX1_checkBuilding : ByteArray := prog_1_method_47_code
def yX1_checkBuilding : MethodName := ⟨RX1, "checkBuilding", "(ZI)V"⟩
def dkwX1_checkBuilding_1 : List UInt8 := [4, 167, 0, 4, 3, 184, 0, 230, 177]
abbrev dktX1_checkBuilding_1 : List UInt8 := dkwX1_checkBuilding_1 ++ []
def dkwX1_checkBuilding_0 : List UInt8 := [42, 180, 0, 52, 5, 160, 0, 23, 27, 153, 0, 19, 42, 42, 180, 0, 176, 28, 182, 1, 0, 153, 0, 7]
abbrev dktX1_checkBuilding_0 : List UInt8 := dkwX1_checkBuilding_0 ++ dktX1_checkBuilding_1
theorem dksX1_checkBuilding_0 : cX1_checkBuilding.data.toList.drop 0 = dktX1_checkBuilding_0 := by decide +kernel
theorem dksX1_checkBuilding_1 : cX1_checkBuilding.data.toList.drop 24 = dktX1_checkBuilding_1 := dk_seg dksX1_checkBuilding_0 24 rfl rfl
theorem dX1_checkBuilding_0 : decode cX1_checkBuilding 0 = .ok (.aload_n 0, 1) := dk_42 (dk_at dksX1_checkBuilding_0 0 rfl rfl)
theorem dX1_checkBuilding_1 : decode cX1_checkBuilding 1 = .ok (.getfield 52, 3) := dk_180 0 52 (dk_at dksX1_checkBuilding_0 1 rfl rfl)
theorem dX1_checkBuilding_4 : decode cX1_checkBuilding 4 = .ok (.iconst 2, 1) := dk_5 (dk_at dksX1_checkBuilding_0 4 rfl rfl)
theorem dX1_checkBuilding_5 : decode cX1_checkBuilding 5 = .ok (.if_icmp .ne 23, 3) := dk_160 0 23 (dk_at dksX1_checkBuilding_0 5 rfl rfl)
theorem dX1_checkBuilding_8 : decode cX1_checkBuilding 8 = .ok (.iload_n 1, 1) := dk_27 (dk_at dksX1_checkBuilding_0 8 rfl rfl)
theorem dX1_checkBuilding_9 : decode cX1_checkBuilding 9 = .ok (.ifCond .eq 19, 3) := dk_153 0 19 (dk_at dksX1_checkBuilding_0 9 rfl rfl)
theorem dX1_checkBuilding_12 : decode cX1_checkBuilding 12 = .ok (.aload_n 0, 1) := dk_42 (dk_at dksX1_checkBuilding_0 12 rfl rfl)
theorem dX1_checkBuilding_13 : decode cX1_checkBuilding 13 = .ok (.aload_n 0, 1) := dk_42 (dk_at dksX1_checkBuilding_0 13 rfl rfl)
theorem dX1_checkBuilding_14 : decode cX1_checkBuilding 14 = .ok (.getfield 176, 3) := dk_180 0 176 (dk_at dksX1_checkBuilding_0 14 rfl rfl)
theorem dX1_checkBuilding_17 : decode cX1_checkBuilding 17 = .ok (.iload_n 2, 1) := dk_28 (dk_at dksX1_checkBuilding_0 17 rfl rfl)
theorem dX1_checkBuilding_18 : decode cX1_checkBuilding 18 = .ok (.invokevirtual 256, 3) := dk_182 1 0 (dk_at dksX1_checkBuilding_0 18 rfl rfl)
theorem dX1_checkBuilding_21 : decode cX1_checkBuilding 21 = .ok (.ifCond .eq 7, 3) := dk_153 0 7 (dk_at dksX1_checkBuilding_0 21 rfl rfl)
theorem dX1_checkBuilding_24 : decode cX1_checkBuilding 24 = .ok (.iconst 1, 1) := dk_4 (dk_at dksX1_checkBuilding_1 0 rfl rfl)
theorem dX1_checkBuilding_25 : decode cX1_checkBuilding 25 = .ok (.goto 4, 3) := dk_167 0 4 (dk_at dksX1_checkBuilding_1 1 rfl rfl)
theorem dX1_checkBuilding_28 : decode cX1_checkBuilding 28 = .ok (.iconst 0, 1) := dk_3 (dk_at dksX1_checkBuilding_1 4 rfl rfl)
theorem dX1_checkBuilding_29 : decode cX1_checkBuilding 29 = .ok (.invokestatic 230, 3) := dk_184 0 230 (dk_at dksX1_checkBuilding_1 5 rfl rfl)
theorem dX1_checkBuilding_32 : decode cX1_checkBuilding 32 = .ok (.return_, 1) := dk_177 (dk_at dksX1_checkBuilding_1 8 rfl rfl)
abbrev cX1_pay : ByteArray := prog_1_method_39_code
def yX1_pay : MethodName := ⟨RX1, "pay", "(I)V"⟩
def dkwX1_pay_0 : List UInt8 := [42, 42, 180, 0, 176, 6, 27, 182, 0, 224, 177]
abbrev dktX1_pay_0 : List UInt8 := dkwX1_pay_0 ++ []
theorem dksX1_pay_0 : cX1_pay.data.toList.drop 0 = dktX1_pay_0 := by decide +kernel
theorem dX1_pay_0 : decode cX1_pay 0 = .ok (.aload_n 0, 1) := dk_42 (dk_at dksX1_pay_0 0 rfl rfl)
theorem dX1_pay_1 : decode cX1_pay 1 = .ok (.aload_n 0, 1) := dk_42 (dk_at dksX1_pay_0 1 rfl rfl)
theorem dX1_pay_2 : decode cX1_pay 2 = .ok (.getfield 176, 3) := dk_180 0 176 (dk_at dksX1_pay_0 2 rfl rfl)
theorem dX1_pay_5 : decode cX1_pay 5 = .ok (.iconst 3, 1) := dk_6 (dk_at dksX1_pay_0 5 rfl rfl)
theorem dX1_pay_6 : decode cX1_pay 6 = .ok (.iload_n 1, 1) := dk_27 (dk_at dksX1_pay_0 6 rfl rfl)
theorem dX1_pay_7 : decode cX1_pay 7 = .ok (.invokevirtual 224, 3) := dk_182 0 224 (dk_at dksX1_pay_0 7 rfl rfl)
theorem dX1_pay_10 : decode cX1_pay 10 = .ok (.return_, 1) := dk_177 (dk_at dksX1_pay_0 10 rfl rfl)
abbrev cX1_house : ByteArray := prog_1_method_49_code
def yX1_house : MethodName := ⟨RX1, "house", "(I)I"⟩
def dkwX1_house_3 : List UInt8 := [183, 0, 240, 83, 42, 4, 182, 0, 246, 42, 42, 180, 0, 176, 182, 0, 179, 172]
abbrev dktX1_house_3 : List UInt8 := dkwX1_house_3 ++ []
def dkwX1_house_2 : List UInt8 := [182, 1, 25, 42, 17, 4, 87, 182, 1, 29, 42, 180, 0, 17, 27, 187, 0, 238, 89, 42, 180, 0, 176]
abbrev dktX1_house_2 : List UInt8 := dkwX1_house_2 ++ dktX1_house_3
def dkwX1_house_1 : List UInt8 := [153, 0, 20, 42, 42, 180, 0, 176, 3, 182, 1, 32, 7, 162, 0, 7, 4, 167, 0, 4, 3, 17, 4, 87]
abbrev dktX1_house_1 : List UInt8 := dkwX1_house_1 ++ dktX1_house_2
def dkwX1_house_0 : List UInt8 := [27, 16, 24, 184, 0, 204, 42, 42, 27, 182, 0, 234, 153, 0, 32, 42, 27, 42, 180, 0, 176, 182, 0, 88]
abbrev dktX1_house_0 : List UInt8 := dkwX1_house_0 ++ dktX1_house_1
theorem dksX1_house_0 : cX1_house.data.toList.drop 0 = dktX1_house_0 := by decide +kernel
theorem dksX1_house_1 : cX1_house.data.toList.drop 24 = dktX1_house_1 := dk_seg dksX1_house_0 24 rfl rfl
theorem dksX1_house_2 : cX1_house.data.toList.drop 48 = dktX1_house_2 := dk_seg dksX1_house_1 24 rfl rfl
theorem dksX1_house_3 : cX1_house.data.toList.drop 71 = dktX1_house_3 := dk_seg dksX1_house_2 23 rfl rfl
theorem dX1_house_0 : decode cX1_house 0 = .ok (.iload_n 1, 1) := dk_27 (dk_at dksX1_house_0 0 rfl rfl)
theorem dX1_house_1 : decode cX1_house 1 = .ok (.bipush 24, 2) := dk_16 24 (dk_at dksX1_house_0 1 rfl rfl)
theorem dX1_house_3 : decode cX1_house 3 = .ok (.invokestatic 204, 3) := dk_184 0 204 (dk_at dksX1_house_0 3 rfl rfl)
theorem dX1_house_6 : decode cX1_house 6 = .ok (.aload_n 0, 1) := dk_42 (dk_at dksX1_house_0 6 rfl rfl)
theorem dX1_house_7 : decode cX1_house 7 = .ok (.aload_n 0, 1) := dk_42 (dk_at dksX1_house_0 7 rfl rfl)
theorem dX1_house_8 : decode cX1_house 8 = .ok (.iload_n 1, 1) := dk_27 (dk_at dksX1_house_0 8 rfl rfl)
theorem dX1_house_9 : decode cX1_house 9 = .ok (.invokevirtual 234, 3) := dk_182 0 234 (dk_at dksX1_house_0 9 rfl rfl)
theorem dX1_house_12 : decode cX1_house 12 = .ok (.ifCond .eq 32, 3) := dk_153 0 32 (dk_at dksX1_house_0 12 rfl rfl)
theorem dX1_house_15 : decode cX1_house 15 = .ok (.aload_n 0, 1) := dk_42 (dk_at dksX1_house_0 15 rfl rfl)
theorem dX1_house_16 : decode cX1_house 16 = .ok (.iload_n 1, 1) := dk_27 (dk_at dksX1_house_0 16 rfl rfl)
theorem dX1_house_17 : decode cX1_house 17 = .ok (.aload_n 0, 1) := dk_42 (dk_at dksX1_house_0 17 rfl rfl)
theorem dX1_house_18 : decode cX1_house 18 = .ok (.getfield 176, 3) := dk_180 0 176 (dk_at dksX1_house_0 18 rfl rfl)
theorem dX1_house_21 : decode cX1_house 21 = .ok (.invokevirtual 88, 3) := dk_182 0 88 (dk_at dksX1_house_0 21 rfl rfl)
theorem dX1_house_24 : decode cX1_house 24 = .ok (.ifCond .eq 20, 3) := dk_153 0 20 (dk_at dksX1_house_1 0 rfl rfl)
theorem dX1_house_27 : decode cX1_house 27 = .ok (.aload_n 0, 1) := dk_42 (dk_at dksX1_house_1 3 rfl rfl)
theorem dX1_house_28 : decode cX1_house 28 = .ok (.aload_n 0, 1) := dk_42 (dk_at dksX1_house_1 4 rfl rfl)
theorem dX1_house_29 : decode cX1_house 29 = .ok (.getfield 176, 3) := dk_180 0 176 (dk_at dksX1_house_1 5 rfl rfl)
theorem dX1_house_32 : decode cX1_house 32 = .ok (.iconst 0, 1) := dk_3 (dk_at dksX1_house_1 8 rfl rfl)
theorem dX1_house_33 : decode cX1_house 33 = .ok (.invokevirtual 288, 3) := dk_182 1 32 (dk_at dksX1_house_1 9 rfl rfl)
theorem dX1_house_36 : decode cX1_house 36 = .ok (.iconst 4, 1) := dk_7 (dk_at dksX1_house_1 12 rfl rfl)
theorem dX1_house_37 : decode cX1_house 37 = .ok (.if_icmp .ge 7, 3) := dk_162 0 7 (dk_at dksX1_house_1 13 rfl rfl)
theorem dX1_house_40 : decode cX1_house 40 = .ok (.iconst 1, 1) := dk_4 (dk_at dksX1_house_1 16 rfl rfl)
theorem dX1_house_41 : decode cX1_house 41 = .ok (.goto 4, 3) := dk_167 0 4 (dk_at dksX1_house_1 17 rfl rfl)
theorem dX1_house_44 : decode cX1_house 44 = .ok (.iconst 0, 1) := dk_3 (dk_at dksX1_house_1 20 rfl rfl)
theorem dX1_house_45 : decode cX1_house 45 = .ok (.sipush 1111, 3) := dk_17 4 87 (dk_at dksX1_house_1 21 rfl rfl)
theorem dX1_house_48 : decode cX1_house 48 = .ok (.invokevirtual 281, 3) := dk_182 1 25 (dk_at dksX1_house_2 0 rfl rfl)
theorem dX1_house_51 : decode cX1_house 51 = .ok (.aload_n 0, 1) := dk_42 (dk_at dksX1_house_2 3 rfl rfl)
theorem dX1_house_52 : decode cX1_house 52 = .ok (.sipush 1111, 3) := dk_17 4 87 (dk_at dksX1_house_2 4 rfl rfl)
theorem dX1_house_55 : decode cX1_house 55 = .ok (.invokevirtual 285, 3) := dk_182 1 29 (dk_at dksX1_house_2 7 rfl rfl)
theorem dX1_house_58 : decode cX1_house 58 = .ok (.aload_n 0, 1) := dk_42 (dk_at dksX1_house_2 10 rfl rfl)
theorem dX1_house_59 : decode cX1_house 59 = .ok (.getfield 17, 3) := dk_180 0 17 (dk_at dksX1_house_2 11 rfl rfl)
theorem dX1_house_62 : decode cX1_house 62 = .ok (.iload_n 1, 1) := dk_27 (dk_at dksX1_house_2 14 rfl rfl)
theorem dX1_house_63 : decode cX1_house 63 = .ok (.new 238, 3) := dk_187 0 238 (dk_at dksX1_house_2 15 rfl rfl)
theorem dX1_house_66 : decode cX1_house 66 = .ok (.dup, 1) := dk_89 (dk_at dksX1_house_2 18 rfl rfl)
theorem dX1_house_67 : decode cX1_house 67 = .ok (.aload_n 0, 1) := dk_42 (dk_at dksX1_house_2 19 rfl rfl)
theorem dX1_house_68 : decode cX1_house 68 = .ok (.getfield 176, 3) := dk_180 0 176 (dk_at dksX1_house_2 20 rfl rfl)
theorem dX1_house_71 : decode cX1_house 71 = .ok (.invokespecial 240, 3) := dk_183 0 240 (dk_at dksX1_house_3 0 rfl rfl)
theorem dX1_house_74 : decode cX1_house 74 = .ok (.aastore, 1) := dk_83 (dk_at dksX1_house_3 3 rfl rfl)
theorem dX1_house_75 : decode cX1_house 75 = .ok (.aload_n 0, 1) := dk_42 (dk_at dksX1_house_3 4 rfl rfl)
theorem dX1_house_76 : decode cX1_house 76 = .ok (.iconst 1, 1) := dk_4 (dk_at dksX1_house_3 5 rfl rfl)
theorem dX1_house_77 : decode cX1_house 77 = .ok (.invokevirtual 246, 3) := dk_182 0 246 (dk_at dksX1_house_3 6 rfl rfl)
theorem dX1_house_80 : decode cX1_house 80 = .ok (.aload_n 0, 1) := dk_42 (dk_at dksX1_house_3 9 rfl rfl)
theorem dX1_house_81 : decode cX1_house 81 = .ok (.aload_n 0, 1) := dk_42 (dk_at dksX1_house_3 10 rfl rfl)
theorem dX1_house_82 : decode cX1_house 82 = .ok (.getfield 176, 3) := dk_180 0 176 (dk_at dksX1_house_3 11 rfl rfl)
theorem dX1_house_85 : decode cX1_house 85 = .ok (.invokevirtual 179, 3) := dk_182 0 179 (dk_at dksX1_house_3 14 rfl rfl)
theorem dX1_house_88 : decode cX1_house 88 = .ok (.ireturn, 1) := dk_172 (dk_at dksX1_house_3 17 rfl rfl)
abbrev cX1_buildingsOf : ByteArray := prog_1_method_10_code
def yX1_buildingsOf : MethodName := ⟨RX1, "buildingsOf", "(IZ)I"⟩
def dkwX1_buildingsOf_2 : List UInt8 := [167, 255, 214, 29, 172]
abbrev dktX1_buildingsOf_2 : List UInt8 := dkwX1_buildingsOf_2 ++ []
def dkwX1_buildingsOf_1 : List UInt8 := [180, 0, 17, 21, 4, 50, 193, 0, 86, 28, 160, 0, 7, 4, 167, 0, 4, 3, 96, 62, 132, 4, 1]
abbrev dktX1_buildingsOf_1 : List UInt8 := dkwX1_buildingsOf_1 ++ dktX1_buildingsOf_2
def dkwX1_buildingsOf_0 : List UInt8 := [3, 62, 3, 54, 4, 21, 4, 16, 24, 162, 0, 41, 29, 42, 21, 4, 27, 182, 0, 83, 153, 0, 21, 42]
abbrev dktX1_buildingsOf_0 : List UInt8 := dkwX1_buildingsOf_0 ++ dktX1_buildingsOf_1
theorem dksX1_buildingsOf_0 : cX1_buildingsOf.data.toList.drop 0 = dktX1_buildingsOf_0 := by decide +kernel
theorem dksX1_buildingsOf_1 : cX1_buildingsOf.data.toList.drop 24 = dktX1_buildingsOf_1 := dk_seg dksX1_buildingsOf_0 24 rfl rfl
theorem dksX1_buildingsOf_2 : cX1_buildingsOf.data.toList.drop 47 = dktX1_buildingsOf_2 := dk_seg dksX1_buildingsOf_1 23 rfl rfl
theorem dX1_buildingsOf_0 : decode cX1_buildingsOf 0 = .ok (.iconst 0, 1) := dk_3 (dk_at dksX1_buildingsOf_0 0 rfl rfl)
theorem dX1_buildingsOf_1 : decode cX1_buildingsOf 1 = .ok (.istore_n 3, 1) := dk_62 (dk_at dksX1_buildingsOf_0 1 rfl rfl)
theorem dX1_buildingsOf_2 : decode cX1_buildingsOf 2 = .ok (.iconst 0, 1) := dk_3 (dk_at dksX1_buildingsOf_0 2 rfl rfl)
theorem dX1_buildingsOf_3 : decode cX1_buildingsOf 3 = .ok (.istore 4, 2) := dk_54 4 (dk_at dksX1_buildingsOf_0 3 rfl rfl)
theorem dX1_buildingsOf_5 : decode cX1_buildingsOf 5 = .ok (.iload 4, 2) := dk_21 4 (dk_at dksX1_buildingsOf_0 5 rfl rfl)
theorem dX1_buildingsOf_7 : decode cX1_buildingsOf 7 = .ok (.bipush 24, 2) := dk_16 24 (dk_at dksX1_buildingsOf_0 7 rfl rfl)
theorem dX1_buildingsOf_9 : decode cX1_buildingsOf 9 = .ok (.if_icmp .ge 41, 3) := dk_162 0 41 (dk_at dksX1_buildingsOf_0 9 rfl rfl)
theorem dX1_buildingsOf_12 : decode cX1_buildingsOf 12 = .ok (.iload_n 3, 1) := dk_29 (dk_at dksX1_buildingsOf_0 12 rfl rfl)
theorem dX1_buildingsOf_13 : decode cX1_buildingsOf 13 = .ok (.aload_n 0, 1) := dk_42 (dk_at dksX1_buildingsOf_0 13 rfl rfl)
theorem dX1_buildingsOf_14 : decode cX1_buildingsOf 14 = .ok (.iload 4, 2) := dk_21 4 (dk_at dksX1_buildingsOf_0 14 rfl rfl)
theorem dX1_buildingsOf_16 : decode cX1_buildingsOf 16 = .ok (.iload_n 1, 1) := dk_27 (dk_at dksX1_buildingsOf_0 16 rfl rfl)
theorem dX1_buildingsOf_17 : decode cX1_buildingsOf 17 = .ok (.invokevirtual 83, 3) := dk_182 0 83 (dk_at dksX1_buildingsOf_0 17 rfl rfl)
theorem dX1_buildingsOf_20 : decode cX1_buildingsOf 20 = .ok (.ifCond .eq 21, 3) := dk_153 0 21 (dk_at dksX1_buildingsOf_0 20 rfl rfl)
theorem dX1_buildingsOf_23 : decode cX1_buildingsOf 23 = .ok (.aload_n 0, 1) := dk_42 (dk_at dksX1_buildingsOf_0 23 rfl rfl)
theorem dX1_buildingsOf_24 : decode cX1_buildingsOf 24 = .ok (.getfield 17, 3) := dk_180 0 17 (dk_at dksX1_buildingsOf_1 0 rfl rfl)
theorem dX1_buildingsOf_27 : decode cX1_buildingsOf 27 = .ok (.iload 4, 2) := dk_21 4 (dk_at dksX1_buildingsOf_1 3 rfl rfl)
theorem dX1_buildingsOf_29 : decode cX1_buildingsOf 29 = .ok (.aaload, 1) := dk_50 (dk_at dksX1_buildingsOf_1 5 rfl rfl)
theorem dX1_buildingsOf_30 : decode cX1_buildingsOf 30 = .ok (.instanceof 86, 3) := dk_193 0 86 (dk_at dksX1_buildingsOf_1 6 rfl rfl)
theorem dX1_buildingsOf_33 : decode cX1_buildingsOf 33 = .ok (.iload_n 2, 1) := dk_28 (dk_at dksX1_buildingsOf_1 9 rfl rfl)
theorem dX1_buildingsOf_34 : decode cX1_buildingsOf 34 = .ok (.if_icmp .ne 7, 3) := dk_160 0 7 (dk_at dksX1_buildingsOf_1 10 rfl rfl)
theorem dX1_buildingsOf_37 : decode cX1_buildingsOf 37 = .ok (.iconst 1, 1) := dk_4 (dk_at dksX1_buildingsOf_1 13 rfl rfl)
theorem dX1_buildingsOf_38 : decode cX1_buildingsOf 38 = .ok (.goto 4, 3) := dk_167 0 4 (dk_at dksX1_buildingsOf_1 14 rfl rfl)
theorem dX1_buildingsOf_41 : decode cX1_buildingsOf 41 = .ok (.iconst 0, 1) := dk_3 (dk_at dksX1_buildingsOf_1 17 rfl rfl)
theorem dX1_buildingsOf_42 : decode cX1_buildingsOf 42 = .ok (.iadd, 1) := dk_96 (dk_at dksX1_buildingsOf_1 18 rfl rfl)
theorem dX1_buildingsOf_43 : decode cX1_buildingsOf 43 = .ok (.istore_n 3, 1) := dk_62 (dk_at dksX1_buildingsOf_1 19 rfl rfl)
theorem dX1_buildingsOf_44 : decode cX1_buildingsOf 44 = .ok (.iinc 4 1, 3) := dk_132 4 1 (dk_at dksX1_buildingsOf_1 20 rfl rfl)
theorem dX1_buildingsOf_47 : decode cX1_buildingsOf 47 = .ok (.goto (-42), 3) := dk_167 255 214 (dk_at dksX1_buildingsOf_2 0 rfl rfl)
theorem dX1_buildingsOf_50 : decode cX1_buildingsOf 50 = .ok (.iload_n 3, 1) := dk_29 (dk_at dksX1_buildingsOf_2 3 rfl rfl)
theorem dX1_buildingsOf_51 : decode cX1_buildingsOf 51 = .ok (.ireturn, 1) := dk_172 (dk_at dksX1_buildingsOf_2 4 rfl rfl)
abbrev cX1_city : ByteArray := prog_1_method_50_code
def yX1_city : MethodName := ⟨RX1, "city", "(I)I"⟩
def dkwX1_city_3 : List UInt8 := [180, 0, 176, 183, 1, 36, 83, 42, 4, 182, 0, 246, 42, 42, 180, 0, 176, 182, 0, 179, 172]
abbrev dktX1_city_3 : List UInt8 := dkwX1_city_3 ++ []
def dkwX1_city_2 : List UInt8 := [3, 17, 125, 0, 182, 1, 25, 42, 17, 125, 0, 182, 1, 29, 42, 180, 0, 17, 27, 187, 0, 86, 89, 42]
abbrev dktX1_city_2 : List UInt8 := dkwX1_city_2 ++ dktX1_city_3
def dkwX1_city_1 : List UInt8 := [50, 193, 0, 238, 153, 0, 20, 42, 42, 180, 0, 176, 4, 182, 1, 32, 6, 162, 0, 7, 4, 167, 0, 4]
abbrev dktX1_city_1 : List UInt8 := dkwX1_city_1 ++ dktX1_city_2
def dkwX1_city_0 : List UInt8 := [27, 16, 24, 184, 0, 204, 42, 42, 27, 42, 180, 0, 176, 182, 0, 83, 153, 0, 32, 42, 180, 0, 17, 27]
abbrev dktX1_city_0 : List UInt8 := dkwX1_city_0 ++ dktX1_city_1
theorem dksX1_city_0 : cX1_city.data.toList.drop 0 = dktX1_city_0 := by decide +kernel
theorem dksX1_city_1 : cX1_city.data.toList.drop 24 = dktX1_city_1 := dk_seg dksX1_city_0 24 rfl rfl
theorem dksX1_city_2 : cX1_city.data.toList.drop 48 = dktX1_city_2 := dk_seg dksX1_city_1 24 rfl rfl
theorem dksX1_city_3 : cX1_city.data.toList.drop 72 = dktX1_city_3 := dk_seg dksX1_city_2 24 rfl rfl
theorem dX1_city_0 : decode cX1_city 0 = .ok (.iload_n 1, 1) := dk_27 (dk_at dksX1_city_0 0 rfl rfl)
theorem dX1_city_1 : decode cX1_city 1 = .ok (.bipush 24, 2) := dk_16 24 (dk_at dksX1_city_0 1 rfl rfl)
theorem dX1_city_3 : decode cX1_city 3 = .ok (.invokestatic 204, 3) := dk_184 0 204 (dk_at dksX1_city_0 3 rfl rfl)
theorem dX1_city_6 : decode cX1_city 6 = .ok (.aload_n 0, 1) := dk_42 (dk_at dksX1_city_0 6 rfl rfl)
theorem dX1_city_7 : decode cX1_city 7 = .ok (.aload_n 0, 1) := dk_42 (dk_at dksX1_city_0 7 rfl rfl)
theorem dX1_city_8 : decode cX1_city 8 = .ok (.iload_n 1, 1) := dk_27 (dk_at dksX1_city_0 8 rfl rfl)
theorem dX1_city_9 : decode cX1_city 9 = .ok (.aload_n 0, 1) := dk_42 (dk_at dksX1_city_0 9 rfl rfl)
theorem dX1_city_10 : decode cX1_city 10 = .ok (.getfield 176, 3) := dk_180 0 176 (dk_at dksX1_city_0 10 rfl rfl)
theorem dX1_city_13 : decode cX1_city 13 = .ok (.invokevirtual 83, 3) := dk_182 0 83 (dk_at dksX1_city_0 13 rfl rfl)
theorem dX1_city_16 : decode cX1_city 16 = .ok (.ifCond .eq 32, 3) := dk_153 0 32 (dk_at dksX1_city_0 16 rfl rfl)
theorem dX1_city_19 : decode cX1_city 19 = .ok (.aload_n 0, 1) := dk_42 (dk_at dksX1_city_0 19 rfl rfl)
theorem dX1_city_20 : decode cX1_city 20 = .ok (.getfield 17, 3) := dk_180 0 17 (dk_at dksX1_city_0 20 rfl rfl)
theorem dX1_city_23 : decode cX1_city 23 = .ok (.iload_n 1, 1) := dk_27 (dk_at dksX1_city_0 23 rfl rfl)
theorem dX1_city_24 : decode cX1_city 24 = .ok (.aaload, 1) := dk_50 (dk_at dksX1_city_1 0 rfl rfl)
theorem dX1_city_25 : decode cX1_city 25 = .ok (.instanceof 238, 3) := dk_193 0 238 (dk_at dksX1_city_1 1 rfl rfl)
theorem dX1_city_28 : decode cX1_city 28 = .ok (.ifCond .eq 20, 3) := dk_153 0 20 (dk_at dksX1_city_1 4 rfl rfl)
theorem dX1_city_31 : decode cX1_city 31 = .ok (.aload_n 0, 1) := dk_42 (dk_at dksX1_city_1 7 rfl rfl)
theorem dX1_city_32 : decode cX1_city 32 = .ok (.aload_n 0, 1) := dk_42 (dk_at dksX1_city_1 8 rfl rfl)
theorem dX1_city_33 : decode cX1_city 33 = .ok (.getfield 176, 3) := dk_180 0 176 (dk_at dksX1_city_1 9 rfl rfl)
theorem dX1_city_36 : decode cX1_city 36 = .ok (.iconst 1, 1) := dk_4 (dk_at dksX1_city_1 12 rfl rfl)
theorem dX1_city_37 : decode cX1_city 37 = .ok (.invokevirtual 288, 3) := dk_182 1 32 (dk_at dksX1_city_1 13 rfl rfl)
theorem dX1_city_40 : decode cX1_city 40 = .ok (.iconst 3, 1) := dk_6 (dk_at dksX1_city_1 16 rfl rfl)
theorem dX1_city_41 : decode cX1_city 41 = .ok (.if_icmp .ge 7, 3) := dk_162 0 7 (dk_at dksX1_city_1 17 rfl rfl)
theorem dX1_city_44 : decode cX1_city 44 = .ok (.iconst 1, 1) := dk_4 (dk_at dksX1_city_1 20 rfl rfl)
theorem dX1_city_45 : decode cX1_city 45 = .ok (.goto 4, 3) := dk_167 0 4 (dk_at dksX1_city_1 21 rfl rfl)
theorem dX1_city_48 : decode cX1_city 48 = .ok (.iconst 0, 1) := dk_3 (dk_at dksX1_city_2 0 rfl rfl)
theorem dX1_city_49 : decode cX1_city 49 = .ok (.sipush 32000, 3) := dk_17 125 0 (dk_at dksX1_city_2 1 rfl rfl)
theorem dX1_city_52 : decode cX1_city 52 = .ok (.invokevirtual 281, 3) := dk_182 1 25 (dk_at dksX1_city_2 4 rfl rfl)
theorem dX1_city_55 : decode cX1_city 55 = .ok (.aload_n 0, 1) := dk_42 (dk_at dksX1_city_2 7 rfl rfl)
theorem dX1_city_56 : decode cX1_city 56 = .ok (.sipush 32000, 3) := dk_17 125 0 (dk_at dksX1_city_2 8 rfl rfl)
theorem dX1_city_59 : decode cX1_city 59 = .ok (.invokevirtual 285, 3) := dk_182 1 29 (dk_at dksX1_city_2 11 rfl rfl)
theorem dX1_city_62 : decode cX1_city 62 = .ok (.aload_n 0, 1) := dk_42 (dk_at dksX1_city_2 14 rfl rfl)
theorem dX1_city_63 : decode cX1_city 63 = .ok (.getfield 17, 3) := dk_180 0 17 (dk_at dksX1_city_2 15 rfl rfl)
theorem dX1_city_66 : decode cX1_city 66 = .ok (.iload_n 1, 1) := dk_27 (dk_at dksX1_city_2 18 rfl rfl)
theorem dX1_city_67 : decode cX1_city 67 = .ok (.new 86, 3) := dk_187 0 86 (dk_at dksX1_city_2 19 rfl rfl)
theorem dX1_city_70 : decode cX1_city 70 = .ok (.dup, 1) := dk_89 (dk_at dksX1_city_2 22 rfl rfl)
theorem dX1_city_71 : decode cX1_city 71 = .ok (.aload_n 0, 1) := dk_42 (dk_at dksX1_city_2 23 rfl rfl)
theorem dX1_city_72 : decode cX1_city 72 = .ok (.getfield 176, 3) := dk_180 0 176 (dk_at dksX1_city_3 0 rfl rfl)
theorem dX1_city_75 : decode cX1_city 75 = .ok (.invokespecial 292, 3) := dk_183 1 36 (dk_at dksX1_city_3 3 rfl rfl)
theorem dX1_city_78 : decode cX1_city 78 = .ok (.aastore, 1) := dk_83 (dk_at dksX1_city_3 6 rfl rfl)
theorem dX1_city_79 : decode cX1_city 79 = .ok (.aload_n 0, 1) := dk_42 (dk_at dksX1_city_3 7 rfl rfl)
theorem dX1_city_80 : decode cX1_city 80 = .ok (.iconst 1, 1) := dk_4 (dk_at dksX1_city_3 8 rfl rfl)
theorem dX1_city_81 : decode cX1_city 81 = .ok (.invokevirtual 246, 3) := dk_182 0 246 (dk_at dksX1_city_3 9 rfl rfl)
theorem dX1_city_84 : decode cX1_city 84 = .ok (.aload_n 0, 1) := dk_42 (dk_at dksX1_city_3 12 rfl rfl)
theorem dX1_city_85 : decode cX1_city 85 = .ok (.aload_n 0, 1) := dk_42 (dk_at dksX1_city_3 13 rfl rfl)
theorem dX1_city_86 : decode cX1_city 86 = .ok (.getfield 176, 3) := dk_180 0 176 (dk_at dksX1_city_3 14 rfl rfl)
theorem dX1_city_89 : decode cX1_city 89 = .ok (.invokevirtual 179, 3) := dk_182 0 179 (dk_at dksX1_city_3 17 rfl rfl)
theorem dX1_city_92 : decode cX1_city 92 = .ok (.ireturn, 1) := dk_172 (dk_at dksX1_city_3 20 rfl rfl)
abbrev cX1_buy : ByteArray := prog_1_method_51_code
def yX1_buy : MethodName := ⟨RX1, "buy", "()I"⟩
def dkwX1_buy_3 : List UInt8 := [185, 0, 106, 2, 0, 87, 42, 3, 182, 0, 246, 43, 180, 0, 169, 182, 1, 47, 172]
abbrev dktX1_buy_3 : List UInt8 := dkwX1_buy_3 ++ []
def dkwX1_buy_2 : List UInt8 := [185, 1, 37, 1, 0, 50, 42, 180, 0, 176, 42, 180, 0, 185, 183, 1, 44, 76, 42, 180, 0, 39, 43]
abbrev dktX1_buy_2 : List UInt8 := dkwX1_buy_2 ++ dktX1_buy_3
def dkwX1_buy_1 : List UInt8 := [17, 43, 92, 182, 1, 25, 42, 17, 43, 92, 182, 1, 29, 187, 0, 165, 89, 178, 1, 40, 42, 180, 0, 39]
abbrev dktX1_buy_1 : List UInt8 := dkwX1_buy_1 ++ dktX1_buy_2
def dkwX1_buy_0 : List UInt8 := [42, 42, 180, 0, 39, 185, 1, 37, 1, 0, 178, 1, 40, 190, 162, 0, 7, 4, 167, 0, 4, 3]
abbrev dktX1_buy_0 : List UInt8 := dkwX1_buy_0 ++ dktX1_buy_1
theorem dksX1_buy_0 : cX1_buy.data.toList.drop 0 = dktX1_buy_0 := by decide +kernel
theorem dksX1_buy_1 : cX1_buy.data.toList.drop 22 = dktX1_buy_1 := dk_seg dksX1_buy_0 22 rfl rfl
theorem dksX1_buy_2 : cX1_buy.data.toList.drop 46 = dktX1_buy_2 := dk_seg dksX1_buy_1 24 rfl rfl
theorem dksX1_buy_3 : cX1_buy.data.toList.drop 69 = dktX1_buy_3 := dk_seg dksX1_buy_2 23 rfl rfl
theorem dX1_buy_0 : decode cX1_buy 0 = .ok (.aload_n 0, 1) := dk_42 (dk_at dksX1_buy_0 0 rfl rfl)
theorem dX1_buy_1 : decode cX1_buy 1 = .ok (.aload_n 0, 1) := dk_42 (dk_at dksX1_buy_0 1 rfl rfl)
theorem dX1_buy_2 : decode cX1_buy 2 = .ok (.getfield 39, 3) := dk_180 0 39 (dk_at dksX1_buy_0 2 rfl rfl)
theorem dX1_buy_5 : decode cX1_buy 5 = .ok (.invokeinterface 293 1, 5) := by decide +kernel
theorem dX1_buy_10 : decode cX1_buy 10 = .ok (.getstatic 296, 3) := dk_178 1 40 (dk_at dksX1_buy_0 10 rfl rfl)
theorem dX1_buy_13 : decode cX1_buy 13 = .ok (.arraylength, 1) := dk_190 (dk_at dksX1_buy_0 13 rfl rfl)
theorem dX1_buy_14 : decode cX1_buy 14 = .ok (.if_icmp .ge 7, 3) := dk_162 0 7 (dk_at dksX1_buy_0 14 rfl rfl)
theorem dX1_buy_17 : decode cX1_buy 17 = .ok (.iconst 1, 1) := dk_4 (dk_at dksX1_buy_0 17 rfl rfl)
theorem dX1_buy_18 : decode cX1_buy 18 = .ok (.goto 4, 3) := dk_167 0 4 (dk_at dksX1_buy_0 18 rfl rfl)
theorem dX1_buy_21 : decode cX1_buy 21 = .ok (.iconst 0, 1) := dk_3 (dk_at dksX1_buy_0 21 rfl rfl)
theorem dX1_buy_22 : decode cX1_buy 22 = .ok (.sipush 11100, 3) := dk_17 43 92 (dk_at dksX1_buy_1 0 rfl rfl)
theorem dX1_buy_25 : decode cX1_buy 25 = .ok (.invokevirtual 281, 3) := dk_182 1 25 (dk_at dksX1_buy_1 3 rfl rfl)
theorem dX1_buy_28 : decode cX1_buy 28 = .ok (.aload_n 0, 1) := dk_42 (dk_at dksX1_buy_1 6 rfl rfl)
theorem dX1_buy_29 : decode cX1_buy 29 = .ok (.sipush 11100, 3) := dk_17 43 92 (dk_at dksX1_buy_1 7 rfl rfl)
theorem dX1_buy_32 : decode cX1_buy 32 = .ok (.invokevirtual 285, 3) := dk_182 1 29 (dk_at dksX1_buy_1 10 rfl rfl)
theorem dX1_buy_35 : decode cX1_buy 35 = .ok (.new 165, 3) := dk_187 0 165 (dk_at dksX1_buy_1 13 rfl rfl)
theorem dX1_buy_38 : decode cX1_buy 38 = .ok (.dup, 1) := dk_89 (dk_at dksX1_buy_1 16 rfl rfl)
theorem dX1_buy_39 : decode cX1_buy 39 = .ok (.getstatic 296, 3) := dk_178 1 40 (dk_at dksX1_buy_1 17 rfl rfl)
theorem dX1_buy_42 : decode cX1_buy 42 = .ok (.aload_n 0, 1) := dk_42 (dk_at dksX1_buy_1 20 rfl rfl)
theorem dX1_buy_43 : decode cX1_buy 43 = .ok (.getfield 39, 3) := dk_180 0 39 (dk_at dksX1_buy_1 21 rfl rfl)
theorem dX1_buy_46 : decode cX1_buy 46 = .ok (.invokeinterface 293 1, 5) := by decide +kernel
theorem dX1_buy_51 : decode cX1_buy 51 = .ok (.aaload, 1) := dk_50 (dk_at dksX1_buy_2 5 rfl rfl)
theorem dX1_buy_52 : decode cX1_buy 52 = .ok (.aload_n 0, 1) := dk_42 (dk_at dksX1_buy_2 6 rfl rfl)
theorem dX1_buy_53 : decode cX1_buy 53 = .ok (.getfield 176, 3) := dk_180 0 176 (dk_at dksX1_buy_2 7 rfl rfl)
theorem dX1_buy_56 : decode cX1_buy 56 = .ok (.aload_n 0, 1) := dk_42 (dk_at dksX1_buy_2 10 rfl rfl)
theorem dX1_buy_57 : decode cX1_buy 57 = .ok (.getfield 185, 3) := dk_180 0 185 (dk_at dksX1_buy_2 11 rfl rfl)
theorem dX1_buy_60 : decode cX1_buy 60 = .ok (.invokespecial 300, 3) := dk_183 1 44 (dk_at dksX1_buy_2 14 rfl rfl)
theorem dX1_buy_63 : decode cX1_buy 63 = .ok (.astore_n 1, 1) := dk_76 (dk_at dksX1_buy_2 17 rfl rfl)
theorem dX1_buy_64 : decode cX1_buy 64 = .ok (.aload_n 0, 1) := dk_42 (dk_at dksX1_buy_2 18 rfl rfl)
theorem dX1_buy_65 : decode cX1_buy 65 = .ok (.getfield 39, 3) := dk_180 0 39 (dk_at dksX1_buy_2 19 rfl rfl)
theorem dX1_buy_68 : decode cX1_buy 68 = .ok (.aload_n 1, 1) := dk_43 (dk_at dksX1_buy_2 22 rfl rfl)
theorem dX1_buy_69 : decode cX1_buy 69 = .ok (.invokeinterface 106 2, 5) := by decide +kernel
theorem dX1_buy_74 : decode cX1_buy 74 = .ok (.pop, 1) := dk_87 (dk_at dksX1_buy_3 5 rfl rfl)
theorem dX1_buy_75 : decode cX1_buy 75 = .ok (.aload_n 0, 1) := dk_42 (dk_at dksX1_buy_3 6 rfl rfl)
theorem dX1_buy_76 : decode cX1_buy 76 = .ok (.iconst 0, 1) := dk_3 (dk_at dksX1_buy_3 7 rfl rfl)
theorem dX1_buy_77 : decode cX1_buy 77 = .ok (.invokevirtual 246, 3) := dk_182 0 246 (dk_at dksX1_buy_3 8 rfl rfl)
theorem dX1_buy_80 : decode cX1_buy 80 = .ok (.aload_n 1, 1) := dk_43 (dk_at dksX1_buy_3 11 rfl rfl)
theorem dX1_buy_81 : decode cX1_buy 81 = .ok (.getfield 169, 3) := dk_180 0 169 (dk_at dksX1_buy_3 12 rfl rfl)
theorem dX1_buy_84 : decode cX1_buy 84 = .ok (.invokevirtual 303, 3) := dk_182 1 47 (dk_at dksX1_buy_3 15 rfl rfl)
theorem dX1_buy_87 : decode cX1_buy 87 = .ok (.ireturn, 1) := dk_172 (dk_at dksX1_buy_3 18 rfl rfl)
abbrev cX1_knight : ByteArray := prog_1_method_52_code
def yX1_knight : MethodName := ⟨RX1, "knight", "(III)I"⟩
def dkwX1_knight_5 : List UInt8 := [181, 0, 59, 42, 27, 28, 29, 182, 1, 19, 54, 5, 42, 3, 182, 0, 246, 21, 5, 172]
abbrev dktX1_knight_5 : List UInt8 := dkwX1_knight_5 ++ []
def dkwX1_knight_4 : List UInt8 := [42, 180, 0, 176, 46, 42, 180, 0, 33, 42, 180, 0, 59, 46, 164, 0, 11, 42, 42, 180, 0, 176]
abbrev dktX1_knight_4 : List UInt8 := dkwX1_knight_4 ++ dktX1_knight_5
def dkwX1_knight_3 : List UInt8 := [180, 0, 33, 42, 180, 0, 176, 46, 6, 161, 0, 40, 42, 180, 0, 59, 2, 159, 0, 24, 42, 180, 0, 33]
abbrev dktX1_knight_3 : List UInt8 := dkwX1_knight_3 ++ dktX1_knight_4
def dkwX1_knight_2 : List UInt8 := [184, 0, 230, 42, 25, 4, 182, 1, 57, 42, 180, 0, 33, 42, 180, 0, 176, 92, 46, 4, 96, 79, 42]
abbrev dktX1_knight_2 : List UInt8 := dkwX1_knight_2 ++ dktX1_knight_3
def dkwX1_knight_1 : List UInt8 := [182, 1, 53, 58, 4, 25, 4, 198, 0, 16, 42, 27, 28, 182, 1, 16, 153, 0, 7, 4, 167, 0, 4, 3]
abbrev dktX1_knight_1 : List UInt8 := dkwX1_knight_1 ++ dktX1_knight_2
def dkwX1_knight_0 : List UInt8 := [27, 16, 7, 184, 0, 204, 28, 6, 184, 1, 13, 29, 3, 17, 3, 231, 184, 0, 215, 42, 178, 1, 50]
abbrev dktX1_knight_0 : List UInt8 := dkwX1_knight_0 ++ dktX1_knight_1
theorem dksX1_knight_0 : cX1_knight.data.toList.drop 0 = dktX1_knight_0 := by decide +kernel
theorem dksX1_knight_1 : cX1_knight.data.toList.drop 23 = dktX1_knight_1 := dk_seg dksX1_knight_0 23 rfl rfl
theorem dksX1_knight_2 : cX1_knight.data.toList.drop 47 = dktX1_knight_2 := dk_seg dksX1_knight_1 24 rfl rfl
theorem dksX1_knight_3 : cX1_knight.data.toList.drop 70 = dktX1_knight_3 := dk_seg dksX1_knight_2 23 rfl rfl
theorem dksX1_knight_4 : cX1_knight.data.toList.drop 94 = dktX1_knight_4 := dk_seg dksX1_knight_3 24 rfl rfl
theorem dksX1_knight_5 : cX1_knight.data.toList.drop 116 = dktX1_knight_5 := dk_seg dksX1_knight_4 22 rfl rfl
theorem dX1_knight_0 : decode cX1_knight 0 = .ok (.iload_n 1, 1) := dk_27 (dk_at dksX1_knight_0 0 rfl rfl)
theorem dX1_knight_1 : decode cX1_knight 1 = .ok (.bipush 7, 2) := dk_16 7 (dk_at dksX1_knight_0 1 rfl rfl)
theorem dX1_knight_3 : decode cX1_knight 3 = .ok (.invokestatic 204, 3) := dk_184 0 204 (dk_at dksX1_knight_0 3 rfl rfl)
theorem dX1_knight_6 : decode cX1_knight 6 = .ok (.iload_n 2, 1) := dk_28 (dk_at dksX1_knight_0 6 rfl rfl)
theorem dX1_knight_7 : decode cX1_knight 7 = .ok (.iconst 3, 1) := dk_6 (dk_at dksX1_knight_0 7 rfl rfl)
theorem dX1_knight_8 : decode cX1_knight 8 = .ok (.invokestatic 269, 3) := dk_184 1 13 (dk_at dksX1_knight_0 8 rfl rfl)
theorem dX1_knight_11 : decode cX1_knight 11 = .ok (.iload_n 3, 1) := dk_29 (dk_at dksX1_knight_0 11 rfl rfl)
theorem dX1_knight_12 : decode cX1_knight 12 = .ok (.iconst 0, 1) := dk_3 (dk_at dksX1_knight_0 12 rfl rfl)
theorem dX1_knight_13 : decode cX1_knight 13 = .ok (.sipush 999, 3) := dk_17 3 231 (dk_at dksX1_knight_0 13 rfl rfl)
theorem dX1_knight_16 : decode cX1_knight 16 = .ok (.invokestatic 215, 3) := dk_184 0 215 (dk_at dksX1_knight_0 16 rfl rfl)
theorem dX1_knight_19 : decode cX1_knight 19 = .ok (.aload_n 0, 1) := dk_42 (dk_at dksX1_knight_0 19 rfl rfl)
theorem dX1_knight_20 : decode cX1_knight 20 = .ok (.getstatic 306, 3) := dk_178 1 50 (dk_at dksX1_knight_0 20 rfl rfl)
theorem dX1_knight_23 : decode cX1_knight 23 = .ok (.invokevirtual 309, 3) := dk_182 1 53 (dk_at dksX1_knight_1 0 rfl rfl)
theorem dX1_knight_26 : decode cX1_knight 26 = .ok (.astore 4, 2) := dk_58 4 (dk_at dksX1_knight_1 3 rfl rfl)
theorem dX1_knight_28 : decode cX1_knight 28 = .ok (.aload 4, 2) := dk_25 4 (dk_at dksX1_knight_1 5 rfl rfl)
theorem dX1_knight_30 : decode cX1_knight 30 = .ok (.ifnull 16, 3) := dk_198 0 16 (dk_at dksX1_knight_1 7 rfl rfl)
theorem dX1_knight_33 : decode cX1_knight 33 = .ok (.aload_n 0, 1) := dk_42 (dk_at dksX1_knight_1 10 rfl rfl)
theorem dX1_knight_34 : decode cX1_knight 34 = .ok (.iload_n 1, 1) := dk_27 (dk_at dksX1_knight_1 11 rfl rfl)
theorem dX1_knight_35 : decode cX1_knight 35 = .ok (.iload_n 2, 1) := dk_28 (dk_at dksX1_knight_1 12 rfl rfl)
theorem dX1_knight_36 : decode cX1_knight 36 = .ok (.invokevirtual 272, 3) := dk_182 1 16 (dk_at dksX1_knight_1 13 rfl rfl)
theorem dX1_knight_39 : decode cX1_knight 39 = .ok (.ifCond .eq 7, 3) := dk_153 0 7 (dk_at dksX1_knight_1 16 rfl rfl)
theorem dX1_knight_42 : decode cX1_knight 42 = .ok (.iconst 1, 1) := dk_4 (dk_at dksX1_knight_1 19 rfl rfl)
theorem dX1_knight_43 : decode cX1_knight 43 = .ok (.goto 4, 3) := dk_167 0 4 (dk_at dksX1_knight_1 20 rfl rfl)
theorem dX1_knight_46 : decode cX1_knight 46 = .ok (.iconst 0, 1) := dk_3 (dk_at dksX1_knight_1 23 rfl rfl)
theorem dX1_knight_47 : decode cX1_knight 47 = .ok (.invokestatic 230, 3) := dk_184 0 230 (dk_at dksX1_knight_2 0 rfl rfl)
theorem dX1_knight_50 : decode cX1_knight 50 = .ok (.aload_n 0, 1) := dk_42 (dk_at dksX1_knight_2 3 rfl rfl)
theorem dX1_knight_51 : decode cX1_knight 51 = .ok (.aload 4, 2) := dk_25 4 (dk_at dksX1_knight_2 4 rfl rfl)
theorem dX1_knight_53 : decode cX1_knight 53 = .ok (.invokevirtual 313, 3) := dk_182 1 57 (dk_at dksX1_knight_2 6 rfl rfl)
theorem dX1_knight_56 : decode cX1_knight 56 = .ok (.aload_n 0, 1) := dk_42 (dk_at dksX1_knight_2 9 rfl rfl)
theorem dX1_knight_57 : decode cX1_knight 57 = .ok (.getfield 33, 3) := dk_180 0 33 (dk_at dksX1_knight_2 10 rfl rfl)
theorem dX1_knight_60 : decode cX1_knight 60 = .ok (.aload_n 0, 1) := dk_42 (dk_at dksX1_knight_2 13 rfl rfl)
theorem dX1_knight_61 : decode cX1_knight 61 = .ok (.getfield 176, 3) := dk_180 0 176 (dk_at dksX1_knight_2 14 rfl rfl)
theorem dX1_knight_64 : decode cX1_knight 64 = .ok (.dup2, 1) := dk_92 (dk_at dksX1_knight_2 17 rfl rfl)
theorem dX1_knight_65 : decode cX1_knight 65 = .ok (.iaload, 1) := dk_46 (dk_at dksX1_knight_2 18 rfl rfl)
theorem dX1_knight_66 : decode cX1_knight 66 = .ok (.iconst 1, 1) := dk_4 (dk_at dksX1_knight_2 19 rfl rfl)
theorem dX1_knight_67 : decode cX1_knight 67 = .ok (.iadd, 1) := dk_96 (dk_at dksX1_knight_2 20 rfl rfl)
theorem dX1_knight_68 : decode cX1_knight 68 = .ok (.iastore, 1) := dk_79 (dk_at dksX1_knight_2 21 rfl rfl)
theorem dX1_knight_69 : decode cX1_knight 69 = .ok (.aload_n 0, 1) := dk_42 (dk_at dksX1_knight_2 22 rfl rfl)
theorem dX1_knight_70 : decode cX1_knight 70 = .ok (.getfield 33, 3) := dk_180 0 33 (dk_at dksX1_knight_3 0 rfl rfl)
theorem dX1_knight_73 : decode cX1_knight 73 = .ok (.aload_n 0, 1) := dk_42 (dk_at dksX1_knight_3 3 rfl rfl)
theorem dX1_knight_74 : decode cX1_knight 74 = .ok (.getfield 176, 3) := dk_180 0 176 (dk_at dksX1_knight_3 4 rfl rfl)
theorem dX1_knight_77 : decode cX1_knight 77 = .ok (.iaload, 1) := dk_46 (dk_at dksX1_knight_3 7 rfl rfl)
theorem dX1_knight_78 : decode cX1_knight 78 = .ok (.iconst 3, 1) := dk_6 (dk_at dksX1_knight_3 8 rfl rfl)
theorem dX1_knight_79 : decode cX1_knight 79 = .ok (.if_icmp .lt 40, 3) := dk_161 0 40 (dk_at dksX1_knight_3 9 rfl rfl)
theorem dX1_knight_82 : decode cX1_knight 82 = .ok (.aload_n 0, 1) := dk_42 (dk_at dksX1_knight_3 12 rfl rfl)
theorem dX1_knight_83 : decode cX1_knight 83 = .ok (.getfield 59, 3) := dk_180 0 59 (dk_at dksX1_knight_3 13 rfl rfl)
theorem dX1_knight_86 : decode cX1_knight 86 = .ok (.iconst (-1), 1) := dk_2 (dk_at dksX1_knight_3 16 rfl rfl)
theorem dX1_knight_87 : decode cX1_knight 87 = .ok (.if_icmp .eq 24, 3) := dk_159 0 24 (dk_at dksX1_knight_3 17 rfl rfl)
theorem dX1_knight_90 : decode cX1_knight 90 = .ok (.aload_n 0, 1) := dk_42 (dk_at dksX1_knight_3 20 rfl rfl)
theorem dX1_knight_91 : decode cX1_knight 91 = .ok (.getfield 33, 3) := dk_180 0 33 (dk_at dksX1_knight_3 21 rfl rfl)
theorem dX1_knight_94 : decode cX1_knight 94 = .ok (.aload_n 0, 1) := dk_42 (dk_at dksX1_knight_4 0 rfl rfl)
theorem dX1_knight_95 : decode cX1_knight 95 = .ok (.getfield 176, 3) := dk_180 0 176 (dk_at dksX1_knight_4 1 rfl rfl)
theorem dX1_knight_98 : decode cX1_knight 98 = .ok (.iaload, 1) := dk_46 (dk_at dksX1_knight_4 4 rfl rfl)
theorem dX1_knight_99 : decode cX1_knight 99 = .ok (.aload_n 0, 1) := dk_42 (dk_at dksX1_knight_4 5 rfl rfl)
theorem dX1_knight_100 : decode cX1_knight 100 = .ok (.getfield 33, 3) := dk_180 0 33 (dk_at dksX1_knight_4 6 rfl rfl)
theorem dX1_knight_103 : decode cX1_knight 103 = .ok (.aload_n 0, 1) := dk_42 (dk_at dksX1_knight_4 9 rfl rfl)
theorem dX1_knight_104 : decode cX1_knight 104 = .ok (.getfield 59, 3) := dk_180 0 59 (dk_at dksX1_knight_4 10 rfl rfl)
theorem dX1_knight_107 : decode cX1_knight 107 = .ok (.iaload, 1) := dk_46 (dk_at dksX1_knight_4 13 rfl rfl)
theorem dX1_knight_108 : decode cX1_knight 108 = .ok (.if_icmp .le 11, 3) := dk_164 0 11 (dk_at dksX1_knight_4 14 rfl rfl)
theorem dX1_knight_111 : decode cX1_knight 111 = .ok (.aload_n 0, 1) := dk_42 (dk_at dksX1_knight_4 17 rfl rfl)
theorem dX1_knight_112 : decode cX1_knight 112 = .ok (.aload_n 0, 1) := dk_42 (dk_at dksX1_knight_4 18 rfl rfl)
theorem dX1_knight_113 : decode cX1_knight 113 = .ok (.getfield 176, 3) := dk_180 0 176 (dk_at dksX1_knight_4 19 rfl rfl)
theorem dX1_knight_116 : decode cX1_knight 116 = .ok (.putfield 59, 3) := dk_181 0 59 (dk_at dksX1_knight_5 0 rfl rfl)
theorem dX1_knight_119 : decode cX1_knight 119 = .ok (.aload_n 0, 1) := dk_42 (dk_at dksX1_knight_5 3 rfl rfl)
theorem dX1_knight_120 : decode cX1_knight 120 = .ok (.iload_n 1, 1) := dk_27 (dk_at dksX1_knight_5 4 rfl rfl)
theorem dX1_knight_121 : decode cX1_knight 121 = .ok (.iload_n 2, 1) := dk_28 (dk_at dksX1_knight_5 5 rfl rfl)
theorem dX1_knight_122 : decode cX1_knight 122 = .ok (.iload_n 3, 1) := dk_29 (dk_at dksX1_knight_5 6 rfl rfl)
theorem dX1_knight_123 : decode cX1_knight 123 = .ok (.invokevirtual 275, 3) := dk_182 1 19 (dk_at dksX1_knight_5 7 rfl rfl)
theorem dX1_knight_126 : decode cX1_knight 126 = .ok (.istore 5, 2) := dk_54 5 (dk_at dksX1_knight_5 10 rfl rfl)
theorem dX1_knight_128 : decode cX1_knight 128 = .ok (.aload_n 0, 1) := dk_42 (dk_at dksX1_knight_5 12 rfl rfl)
theorem dX1_knight_129 : decode cX1_knight 129 = .ok (.iconst 0, 1) := dk_3 (dk_at dksX1_knight_5 13 rfl rfl)
theorem dX1_knight_130 : decode cX1_knight 130 = .ok (.invokevirtual 246, 3) := dk_182 0 246 (dk_at dksX1_knight_5 14 rfl rfl)
theorem dX1_knight_133 : decode cX1_knight 133 = .ok (.iload 5, 2) := dk_21 5 (dk_at dksX1_knight_5 17 rfl rfl)
theorem dX1_knight_135 : decode cX1_knight 135 = .ok (.ireturn, 1) := dk_172 (dk_at dksX1_knight_5 19 rfl rfl)
abbrev cX1_usable : ByteArray := prog_1_method_27_code
def yX1_usable : MethodName := ⟨RX1, "usable", "(LHexstead$Kind;)LHexstead$Card;"⟩
def dkwX1_usable_5 : List UInt8 := [5, 159, 0, 7, 1, 167, 0, 4, 44, 176]
abbrev dktX1_usable_5 : List UInt8 := dkwX1_usable_5 ++ []
def dkwX1_usable_4 : List UInt8 := [44, 77, 167, 255, 172, 42, 180, 0, 192, 154, 0, 19, 42, 180, 0, 52, 4, 159, 0, 15, 42, 180, 0, 52]
abbrev dktX1_usable_4 : List UInt8 := dkwX1_usable_4 ++ dktX1_usable_5
def dkwX1_usable_3 : List UInt8 := [154, 0, 7, 4, 167, 0, 4, 3, 54, 5, 44, 199, 0, 13, 21, 5, 153, 0, 8, 25, 4, 167, 0, 4]
abbrev dktX1_usable_3 : List UInt8 := dkwX1_usable_3 ++ dktX1_usable_4
def dkwX1_usable_2 : List UInt8 := [42, 180, 0, 176, 160, 0, 27, 25, 4, 180, 0, 182, 42, 180, 0, 185, 162, 0, 15, 25, 4, 180, 0, 188]
abbrev dktX1_usable_2 : List UInt8 := dkwX1_usable_2 ++ dktX1_usable_3
def dkwX1_usable_1 : List UInt8 := [185, 0, 161, 1, 0, 192, 0, 165, 58, 4, 25, 4, 180, 0, 169, 43, 166, 0, 39, 25, 4, 180, 0, 167]
abbrev dktX1_usable_1 : List UInt8 := dkwX1_usable_1 ++ dktX1_usable_2
def dkwX1_usable_0 : List UInt8 := [1, 77, 42, 180, 0, 39, 185, 0, 151, 1, 0, 78, 45, 185, 0, 155, 1, 0, 153, 0, 81, 45]
abbrev dktX1_usable_0 : List UInt8 := dkwX1_usable_0 ++ dktX1_usable_1
theorem dksX1_usable_0 : cX1_usable.data.toList.drop 0 = dktX1_usable_0 := by decide +kernel
theorem dksX1_usable_1 : cX1_usable.data.toList.drop 22 = dktX1_usable_1 := dk_seg dksX1_usable_0 22 rfl rfl
theorem dksX1_usable_2 : cX1_usable.data.toList.drop 46 = dktX1_usable_2 := dk_seg dksX1_usable_1 24 rfl rfl
theorem dksX1_usable_3 : cX1_usable.data.toList.drop 70 = dktX1_usable_3 := dk_seg dksX1_usable_2 24 rfl rfl
theorem dksX1_usable_4 : cX1_usable.data.toList.drop 94 = dktX1_usable_4 := dk_seg dksX1_usable_3 24 rfl rfl
theorem dksX1_usable_5 : cX1_usable.data.toList.drop 118 = dktX1_usable_5 := dk_seg dksX1_usable_4 24 rfl rfl
theorem dX1_usable_0 : decode cX1_usable 0 = .ok (.aconst_null, 1) := dk_1 (dk_at dksX1_usable_0 0 rfl rfl)
theorem dX1_usable_1 : decode cX1_usable 1 = .ok (.astore_n 2, 1) := dk_77 (dk_at dksX1_usable_0 1 rfl rfl)
theorem dX1_usable_2 : decode cX1_usable 2 = .ok (.aload_n 0, 1) := dk_42 (dk_at dksX1_usable_0 2 rfl rfl)
theorem dX1_usable_3 : decode cX1_usable 3 = .ok (.getfield 39, 3) := dk_180 0 39 (dk_at dksX1_usable_0 3 rfl rfl)
theorem dX1_usable_6 : decode cX1_usable 6 = .ok (.invokeinterface 151 1, 5) := by decide +kernel
theorem dX1_usable_11 : decode cX1_usable 11 = .ok (.astore_n 3, 1) := dk_78 (dk_at dksX1_usable_0 11 rfl rfl)
theorem dX1_usable_12 : decode cX1_usable 12 = .ok (.aload_n 3, 1) := dk_45 (dk_at dksX1_usable_0 12 rfl rfl)
theorem dX1_usable_13 : decode cX1_usable 13 = .ok (.invokeinterface 155 1, 5) := by decide +kernel
theorem dX1_usable_18 : decode cX1_usable 18 = .ok (.ifCond .eq 81, 3) := dk_153 0 81 (dk_at dksX1_usable_0 18 rfl rfl)
theorem dX1_usable_21 : decode cX1_usable 21 = .ok (.aload_n 3, 1) := dk_45 (dk_at dksX1_usable_0 21 rfl rfl)
theorem dX1_usable_22 : decode cX1_usable 22 = .ok (.invokeinterface 161 1, 5) := by decide +kernel
theorem dX1_usable_27 : decode cX1_usable 27 = .ok (.checkcast 165, 3) := dk_192 0 165 (dk_at dksX1_usable_1 5 rfl rfl)
theorem dX1_usable_30 : decode cX1_usable 30 = .ok (.astore 4, 2) := dk_58 4 (dk_at dksX1_usable_1 8 rfl rfl)
theorem dX1_usable_32 : decode cX1_usable 32 = .ok (.aload 4, 2) := dk_25 4 (dk_at dksX1_usable_1 10 rfl rfl)
theorem dX1_usable_34 : decode cX1_usable 34 = .ok (.getfield 169, 3) := dk_180 0 169 (dk_at dksX1_usable_1 12 rfl rfl)
theorem dX1_usable_37 : decode cX1_usable 37 = .ok (.aload_n 1, 1) := dk_43 (dk_at dksX1_usable_1 15 rfl rfl)
theorem dX1_usable_38 : decode cX1_usable 38 = .ok (.if_acmp .ne 39, 3) := dk_166 0 39 (dk_at dksX1_usable_1 16 rfl rfl)
theorem dX1_usable_41 : decode cX1_usable 41 = .ok (.aload 4, 2) := dk_25 4 (dk_at dksX1_usable_1 19 rfl rfl)
theorem dX1_usable_43 : decode cX1_usable 43 = .ok (.getfield 167, 3) := dk_180 0 167 (dk_at dksX1_usable_1 21 rfl rfl)
theorem dX1_usable_46 : decode cX1_usable 46 = .ok (.aload_n 0, 1) := dk_42 (dk_at dksX1_usable_2 0 rfl rfl)
theorem dX1_usable_47 : decode cX1_usable 47 = .ok (.getfield 176, 3) := dk_180 0 176 (dk_at dksX1_usable_2 1 rfl rfl)
theorem dX1_usable_50 : decode cX1_usable 50 = .ok (.if_icmp .ne 27, 3) := dk_160 0 27 (dk_at dksX1_usable_2 4 rfl rfl)
theorem dX1_usable_53 : decode cX1_usable 53 = .ok (.aload 4, 2) := dk_25 4 (dk_at dksX1_usable_2 7 rfl rfl)
theorem dX1_usable_55 : decode cX1_usable 55 = .ok (.getfield 182, 3) := dk_180 0 182 (dk_at dksX1_usable_2 9 rfl rfl)
theorem dX1_usable_58 : decode cX1_usable 58 = .ok (.aload_n 0, 1) := dk_42 (dk_at dksX1_usable_2 12 rfl rfl)
theorem dX1_usable_59 : decode cX1_usable 59 = .ok (.getfield 185, 3) := dk_180 0 185 (dk_at dksX1_usable_2 13 rfl rfl)
theorem dX1_usable_62 : decode cX1_usable 62 = .ok (.if_icmp .ge 15, 3) := dk_162 0 15 (dk_at dksX1_usable_2 16 rfl rfl)
theorem dX1_usable_65 : decode cX1_usable 65 = .ok (.aload 4, 2) := dk_25 4 (dk_at dksX1_usable_2 19 rfl rfl)
theorem dX1_usable_67 : decode cX1_usable 67 = .ok (.getfield 188, 3) := dk_180 0 188 (dk_at dksX1_usable_2 21 rfl rfl)
theorem dX1_usable_70 : decode cX1_usable 70 = .ok (.ifCond .ne 7, 3) := dk_154 0 7 (dk_at dksX1_usable_3 0 rfl rfl)
theorem dX1_usable_73 : decode cX1_usable 73 = .ok (.iconst 1, 1) := dk_4 (dk_at dksX1_usable_3 3 rfl rfl)
theorem dX1_usable_74 : decode cX1_usable 74 = .ok (.goto 4, 3) := dk_167 0 4 (dk_at dksX1_usable_3 4 rfl rfl)
theorem dX1_usable_77 : decode cX1_usable 77 = .ok (.iconst 0, 1) := dk_3 (dk_at dksX1_usable_3 7 rfl rfl)
theorem dX1_usable_78 : decode cX1_usable 78 = .ok (.istore 5, 2) := dk_54 5 (dk_at dksX1_usable_3 8 rfl rfl)
theorem dX1_usable_80 : decode cX1_usable 80 = .ok (.aload_n 2, 1) := dk_44 (dk_at dksX1_usable_3 10 rfl rfl)
theorem dX1_usable_81 : decode cX1_usable 81 = .ok (.ifnonnull 13, 3) := dk_199 0 13 (dk_at dksX1_usable_3 11 rfl rfl)
theorem dX1_usable_84 : decode cX1_usable 84 = .ok (.iload 5, 2) := dk_21 5 (dk_at dksX1_usable_3 14 rfl rfl)
theorem dX1_usable_86 : decode cX1_usable 86 = .ok (.ifCond .eq 8, 3) := dk_153 0 8 (dk_at dksX1_usable_3 16 rfl rfl)
theorem dX1_usable_89 : decode cX1_usable 89 = .ok (.aload 4, 2) := dk_25 4 (dk_at dksX1_usable_3 19 rfl rfl)
theorem dX1_usable_91 : decode cX1_usable 91 = .ok (.goto 4, 3) := dk_167 0 4 (dk_at dksX1_usable_3 21 rfl rfl)
theorem dX1_usable_94 : decode cX1_usable 94 = .ok (.aload_n 2, 1) := dk_44 (dk_at dksX1_usable_4 0 rfl rfl)
theorem dX1_usable_95 : decode cX1_usable 95 = .ok (.astore_n 2, 1) := dk_77 (dk_at dksX1_usable_4 1 rfl rfl)
theorem dX1_usable_96 : decode cX1_usable 96 = .ok (.goto (-84), 3) := dk_167 255 172 (dk_at dksX1_usable_4 2 rfl rfl)
theorem dX1_usable_99 : decode cX1_usable 99 = .ok (.aload_n 0, 1) := dk_42 (dk_at dksX1_usable_4 5 rfl rfl)
theorem dX1_usable_100 : decode cX1_usable 100 = .ok (.getfield 192, 3) := dk_180 0 192 (dk_at dksX1_usable_4 6 rfl rfl)
theorem dX1_usable_103 : decode cX1_usable 103 = .ok (.ifCond .ne 19, 3) := dk_154 0 19 (dk_at dksX1_usable_4 9 rfl rfl)
theorem dX1_usable_106 : decode cX1_usable 106 = .ok (.aload_n 0, 1) := dk_42 (dk_at dksX1_usable_4 12 rfl rfl)
theorem dX1_usable_107 : decode cX1_usable 107 = .ok (.getfield 52, 3) := dk_180 0 52 (dk_at dksX1_usable_4 13 rfl rfl)
theorem dX1_usable_110 : decode cX1_usable 110 = .ok (.iconst 1, 1) := dk_4 (dk_at dksX1_usable_4 16 rfl rfl)
theorem dX1_usable_111 : decode cX1_usable 111 = .ok (.if_icmp .eq 15, 3) := dk_159 0 15 (dk_at dksX1_usable_4 17 rfl rfl)
theorem dX1_usable_114 : decode cX1_usable 114 = .ok (.aload_n 0, 1) := dk_42 (dk_at dksX1_usable_4 20 rfl rfl)
theorem dX1_usable_115 : decode cX1_usable 115 = .ok (.getfield 52, 3) := dk_180 0 52 (dk_at dksX1_usable_4 21 rfl rfl)
theorem dX1_usable_118 : decode cX1_usable 118 = .ok (.iconst 2, 1) := dk_5 (dk_at dksX1_usable_5 0 rfl rfl)
theorem dX1_usable_119 : decode cX1_usable 119 = .ok (.if_icmp .eq 7, 3) := dk_159 0 7 (dk_at dksX1_usable_5 1 rfl rfl)
theorem dX1_usable_122 : decode cX1_usable 122 = .ok (.aconst_null, 1) := dk_1 (dk_at dksX1_usable_5 4 rfl rfl)
theorem dX1_usable_123 : decode cX1_usable 123 = .ok (.goto 4, 3) := dk_167 0 4 (dk_at dksX1_usable_5 5 rfl rfl)
theorem dX1_usable_126 : decode cX1_usable 126 = .ok (.aload_n 2, 1) := dk_44 (dk_at dksX1_usable_5 8 rfl rfl)
theorem dX1_usable_127 : decode cX1_usable 127 = .ok (.areturn, 1) := dk_176 (dk_at dksX1_usable_5 9 rfl rfl)
abbrev cX1_use : ByteArray := prog_1_method_28_code
def yX1_use : MethodName := ⟨RX1, "use", "(LHexstead$Card;)V"⟩
def dkwX1_use_0 : List UInt8 := [43, 4, 181, 0, 188, 42, 4, 181, 0, 192, 177]
abbrev dktX1_use_0 : List UInt8 := dkwX1_use_0 ++ []
theorem dksX1_use_0 : cX1_use.data.toList.drop 0 = dktX1_use_0 := by decide +kernel
theorem dX1_use_0 : decode cX1_use 0 = .ok (.aload_n 1, 1) := dk_43 (dk_at dksX1_use_0 0 rfl rfl)
theorem dX1_use_1 : decode cX1_use 1 = .ok (.iconst 1, 1) := dk_4 (dk_at dksX1_use_0 1 rfl rfl)
theorem dX1_use_2 : decode cX1_use 2 = .ok (.putfield 188, 3) := dk_181 0 188 (dk_at dksX1_use_0 2 rfl rfl)
theorem dX1_use_5 : decode cX1_use 5 = .ok (.aload_n 0, 1) := dk_42 (dk_at dksX1_use_0 5 rfl rfl)
theorem dX1_use_6 : decode cX1_use 6 = .ok (.iconst 1, 1) := dk_4 (dk_at dksX1_use_0 6 rfl rfl)
theorem dX1_use_7 : decode cX1_use 7 = .ok (.putfield 192, 3) := dk_181 0 192 (dk_at dksX1_use_0 7 rfl rfl)
theorem dX1_use_10 : decode cX1_use 10 = .ok (.return_, 1) := dk_177 (dk_at dksX1_use_0 10 rfl rfl)
abbrev cX1_roads : ByteArray := prog_1_method_53_code
def yX1_roads : MethodName := ⟨RX1, "roads", "(II)I"⟩
def dkwX1_roads_5 : List UInt8 := [182, 1, 57, 42, 4, 182, 0, 246, 42, 42, 180, 0, 176, 182, 0, 145, 172]
abbrev dktX1_roads_5 : List UInt8 := dkwX1_roads_5 ++ []
def dkwX1_roads_4 : List UInt8 := [79, 21, 4, 184, 0, 230, 28, 2, 159, 0, 13, 42, 180, 0, 21, 28, 42, 180, 0, 176, 79, 42, 45]
abbrev dktX1_roads_4 : List UInt8 := dkwX1_roads_4 ++ dktX1_roads_5
def dkwX1_roads_3 : List UInt8 := [167, 0, 4, 3, 54, 4, 42, 180, 0, 21, 27, 21, 4, 153, 0, 10, 42, 180, 0, 176, 167, 0, 4, 2]
abbrev dktX1_roads_3 : List UInt8 := dkwX1_roads_3 ++ dktX1_roads_4
def dkwX1_roads_2 : List UInt8 := [27, 42, 180, 0, 176, 79, 28, 2, 159, 0, 15, 42, 28, 42, 180, 0, 176, 182, 1, 22, 153, 0, 7, 4]
abbrev dktX1_roads_2 : List UInt8 := dkwX1_roads_2 ++ dktX1_roads_3
def dkwX1_roads_1 : List UInt8 := [42, 27, 42, 180, 0, 176, 182, 1, 22, 153, 0, 7, 4, 167, 0, 4, 3, 184, 0, 230, 42, 180, 0, 21]
abbrev dktX1_roads_1 : List UInt8 := dkwX1_roads_1 ++ dktX1_roads_2
def dkwX1_roads_0 : List UInt8 := [27, 16, 30, 184, 0, 204, 28, 16, 30, 184, 1, 13, 42, 178, 1, 61, 182, 1, 53, 78, 45, 198, 0, 19]
abbrev dktX1_roads_0 : List UInt8 := dkwX1_roads_0 ++ dktX1_roads_1
theorem dksX1_roads_0 : cX1_roads.data.toList.drop 0 = dktX1_roads_0 := by decide +kernel
theorem dksX1_roads_1 : cX1_roads.data.toList.drop 24 = dktX1_roads_1 := dk_seg dksX1_roads_0 24 rfl rfl
theorem dksX1_roads_2 : cX1_roads.data.toList.drop 48 = dktX1_roads_2 := dk_seg dksX1_roads_1 24 rfl rfl
theorem dksX1_roads_3 : cX1_roads.data.toList.drop 72 = dktX1_roads_3 := dk_seg dksX1_roads_2 24 rfl rfl
theorem dksX1_roads_4 : cX1_roads.data.toList.drop 96 = dktX1_roads_4 := dk_seg dksX1_roads_3 24 rfl rfl
theorem dksX1_roads_5 : cX1_roads.data.toList.drop 119 = dktX1_roads_5 := dk_seg dksX1_roads_4 23 rfl rfl
theorem dX1_roads_0 : decode cX1_roads 0 = .ok (.iload_n 1, 1) := dk_27 (dk_at dksX1_roads_0 0 rfl rfl)
theorem dX1_roads_1 : decode cX1_roads 1 = .ok (.bipush 30, 2) := dk_16 30 (dk_at dksX1_roads_0 1 rfl rfl)
theorem dX1_roads_3 : decode cX1_roads 3 = .ok (.invokestatic 204, 3) := dk_184 0 204 (dk_at dksX1_roads_0 3 rfl rfl)
theorem dX1_roads_6 : decode cX1_roads 6 = .ok (.iload_n 2, 1) := dk_28 (dk_at dksX1_roads_0 6 rfl rfl)
theorem dX1_roads_7 : decode cX1_roads 7 = .ok (.bipush 30, 2) := dk_16 30 (dk_at dksX1_roads_0 7 rfl rfl)
theorem dX1_roads_9 : decode cX1_roads 9 = .ok (.invokestatic 269, 3) := dk_184 1 13 (dk_at dksX1_roads_0 9 rfl rfl)
theorem dX1_roads_12 : decode cX1_roads 12 = .ok (.aload_n 0, 1) := dk_42 (dk_at dksX1_roads_0 12 rfl rfl)
theorem dX1_roads_13 : decode cX1_roads 13 = .ok (.getstatic 317, 3) := dk_178 1 61 (dk_at dksX1_roads_0 13 rfl rfl)
theorem dX1_roads_16 : decode cX1_roads 16 = .ok (.invokevirtual 309, 3) := dk_182 1 53 (dk_at dksX1_roads_0 16 rfl rfl)
theorem dX1_roads_19 : decode cX1_roads 19 = .ok (.astore_n 3, 1) := dk_78 (dk_at dksX1_roads_0 19 rfl rfl)
theorem dX1_roads_20 : decode cX1_roads 20 = .ok (.aload_n 3, 1) := dk_45 (dk_at dksX1_roads_0 20 rfl rfl)
theorem dX1_roads_21 : decode cX1_roads 21 = .ok (.ifnull 19, 3) := dk_198 0 19 (dk_at dksX1_roads_0 21 rfl rfl)
theorem dX1_roads_24 : decode cX1_roads 24 = .ok (.aload_n 0, 1) := dk_42 (dk_at dksX1_roads_1 0 rfl rfl)
theorem dX1_roads_25 : decode cX1_roads 25 = .ok (.iload_n 1, 1) := dk_27 (dk_at dksX1_roads_1 1 rfl rfl)
theorem dX1_roads_26 : decode cX1_roads 26 = .ok (.aload_n 0, 1) := dk_42 (dk_at dksX1_roads_1 2 rfl rfl)
theorem dX1_roads_27 : decode cX1_roads 27 = .ok (.getfield 176, 3) := dk_180 0 176 (dk_at dksX1_roads_1 3 rfl rfl)
theorem dX1_roads_30 : decode cX1_roads 30 = .ok (.invokevirtual 278, 3) := dk_182 1 22 (dk_at dksX1_roads_1 6 rfl rfl)
theorem dX1_roads_33 : decode cX1_roads 33 = .ok (.ifCond .eq 7, 3) := dk_153 0 7 (dk_at dksX1_roads_1 9 rfl rfl)
theorem dX1_roads_36 : decode cX1_roads 36 = .ok (.iconst 1, 1) := dk_4 (dk_at dksX1_roads_1 12 rfl rfl)
theorem dX1_roads_37 : decode cX1_roads 37 = .ok (.goto 4, 3) := dk_167 0 4 (dk_at dksX1_roads_1 13 rfl rfl)
theorem dX1_roads_40 : decode cX1_roads 40 = .ok (.iconst 0, 1) := dk_3 (dk_at dksX1_roads_1 16 rfl rfl)
theorem dX1_roads_41 : decode cX1_roads 41 = .ok (.invokestatic 230, 3) := dk_184 0 230 (dk_at dksX1_roads_1 17 rfl rfl)
theorem dX1_roads_44 : decode cX1_roads 44 = .ok (.aload_n 0, 1) := dk_42 (dk_at dksX1_roads_1 20 rfl rfl)
theorem dX1_roads_45 : decode cX1_roads 45 = .ok (.getfield 21, 3) := dk_180 0 21 (dk_at dksX1_roads_1 21 rfl rfl)
theorem dX1_roads_48 : decode cX1_roads 48 = .ok (.iload_n 1, 1) := dk_27 (dk_at dksX1_roads_2 0 rfl rfl)
theorem dX1_roads_49 : decode cX1_roads 49 = .ok (.aload_n 0, 1) := dk_42 (dk_at dksX1_roads_2 1 rfl rfl)
theorem dX1_roads_50 : decode cX1_roads 50 = .ok (.getfield 176, 3) := dk_180 0 176 (dk_at dksX1_roads_2 2 rfl rfl)
theorem dX1_roads_53 : decode cX1_roads 53 = .ok (.iastore, 1) := dk_79 (dk_at dksX1_roads_2 5 rfl rfl)
theorem dX1_roads_54 : decode cX1_roads 54 = .ok (.iload_n 2, 1) := dk_28 (dk_at dksX1_roads_2 6 rfl rfl)
theorem dX1_roads_55 : decode cX1_roads 55 = .ok (.iconst (-1), 1) := dk_2 (dk_at dksX1_roads_2 7 rfl rfl)
theorem dX1_roads_56 : decode cX1_roads 56 = .ok (.if_icmp .eq 15, 3) := dk_159 0 15 (dk_at dksX1_roads_2 8 rfl rfl)
theorem dX1_roads_59 : decode cX1_roads 59 = .ok (.aload_n 0, 1) := dk_42 (dk_at dksX1_roads_2 11 rfl rfl)
theorem dX1_roads_60 : decode cX1_roads 60 = .ok (.iload_n 2, 1) := dk_28 (dk_at dksX1_roads_2 12 rfl rfl)
theorem dX1_roads_61 : decode cX1_roads 61 = .ok (.aload_n 0, 1) := dk_42 (dk_at dksX1_roads_2 13 rfl rfl)
theorem dX1_roads_62 : decode cX1_roads 62 = .ok (.getfield 176, 3) := dk_180 0 176 (dk_at dksX1_roads_2 14 rfl rfl)
theorem dX1_roads_65 : decode cX1_roads 65 = .ok (.invokevirtual 278, 3) := dk_182 1 22 (dk_at dksX1_roads_2 17 rfl rfl)
theorem dX1_roads_68 : decode cX1_roads 68 = .ok (.ifCond .eq 7, 3) := dk_153 0 7 (dk_at dksX1_roads_2 20 rfl rfl)
theorem dX1_roads_71 : decode cX1_roads 71 = .ok (.iconst 1, 1) := dk_4 (dk_at dksX1_roads_2 23 rfl rfl)
theorem dX1_roads_72 : decode cX1_roads 72 = .ok (.goto 4, 3) := dk_167 0 4 (dk_at dksX1_roads_3 0 rfl rfl)
theorem dX1_roads_75 : decode cX1_roads 75 = .ok (.iconst 0, 1) := dk_3 (dk_at dksX1_roads_3 3 rfl rfl)
theorem dX1_roads_76 : decode cX1_roads 76 = .ok (.istore 4, 2) := dk_54 4 (dk_at dksX1_roads_3 4 rfl rfl)
theorem dX1_roads_78 : decode cX1_roads 78 = .ok (.aload_n 0, 1) := dk_42 (dk_at dksX1_roads_3 6 rfl rfl)
theorem dX1_roads_79 : decode cX1_roads 79 = .ok (.getfield 21, 3) := dk_180 0 21 (dk_at dksX1_roads_3 7 rfl rfl)
theorem dX1_roads_82 : decode cX1_roads 82 = .ok (.iload_n 1, 1) := dk_27 (dk_at dksX1_roads_3 10 rfl rfl)
theorem dX1_roads_83 : decode cX1_roads 83 = .ok (.iload 4, 2) := dk_21 4 (dk_at dksX1_roads_3 11 rfl rfl)
theorem dX1_roads_85 : decode cX1_roads 85 = .ok (.ifCond .eq 10, 3) := dk_153 0 10 (dk_at dksX1_roads_3 13 rfl rfl)
theorem dX1_roads_88 : decode cX1_roads 88 = .ok (.aload_n 0, 1) := dk_42 (dk_at dksX1_roads_3 16 rfl rfl)
theorem dX1_roads_89 : decode cX1_roads 89 = .ok (.getfield 176, 3) := dk_180 0 176 (dk_at dksX1_roads_3 17 rfl rfl)
theorem dX1_roads_92 : decode cX1_roads 92 = .ok (.goto 4, 3) := dk_167 0 4 (dk_at dksX1_roads_3 20 rfl rfl)
theorem dX1_roads_95 : decode cX1_roads 95 = .ok (.iconst (-1), 1) := dk_2 (dk_at dksX1_roads_3 23 rfl rfl)
theorem dX1_roads_96 : decode cX1_roads 96 = .ok (.iastore, 1) := dk_79 (dk_at dksX1_roads_4 0 rfl rfl)
theorem dX1_roads_97 : decode cX1_roads 97 = .ok (.iload 4, 2) := dk_21 4 (dk_at dksX1_roads_4 1 rfl rfl)
theorem dX1_roads_99 : decode cX1_roads 99 = .ok (.invokestatic 230, 3) := dk_184 0 230 (dk_at dksX1_roads_4 3 rfl rfl)
theorem dX1_roads_102 : decode cX1_roads 102 = .ok (.iload_n 2, 1) := dk_28 (dk_at dksX1_roads_4 6 rfl rfl)
theorem dX1_roads_103 : decode cX1_roads 103 = .ok (.iconst (-1), 1) := dk_2 (dk_at dksX1_roads_4 7 rfl rfl)
theorem dX1_roads_104 : decode cX1_roads 104 = .ok (.if_icmp .eq 13, 3) := dk_159 0 13 (dk_at dksX1_roads_4 8 rfl rfl)
theorem dX1_roads_107 : decode cX1_roads 107 = .ok (.aload_n 0, 1) := dk_42 (dk_at dksX1_roads_4 11 rfl rfl)
theorem dX1_roads_108 : decode cX1_roads 108 = .ok (.getfield 21, 3) := dk_180 0 21 (dk_at dksX1_roads_4 12 rfl rfl)
theorem dX1_roads_111 : decode cX1_roads 111 = .ok (.iload_n 2, 1) := dk_28 (dk_at dksX1_roads_4 15 rfl rfl)
theorem dX1_roads_112 : decode cX1_roads 112 = .ok (.aload_n 0, 1) := dk_42 (dk_at dksX1_roads_4 16 rfl rfl)
theorem dX1_roads_113 : decode cX1_roads 113 = .ok (.getfield 176, 3) := dk_180 0 176 (dk_at dksX1_roads_4 17 rfl rfl)
theorem dX1_roads_116 : decode cX1_roads 116 = .ok (.iastore, 1) := dk_79 (dk_at dksX1_roads_4 20 rfl rfl)
theorem dX1_roads_117 : decode cX1_roads 117 = .ok (.aload_n 0, 1) := dk_42 (dk_at dksX1_roads_4 21 rfl rfl)
theorem dX1_roads_118 : decode cX1_roads 118 = .ok (.aload_n 3, 1) := dk_45 (dk_at dksX1_roads_4 22 rfl rfl)
theorem dX1_roads_119 : decode cX1_roads 119 = .ok (.invokevirtual 313, 3) := dk_182 1 57 (dk_at dksX1_roads_5 0 rfl rfl)
theorem dX1_roads_122 : decode cX1_roads 122 = .ok (.aload_n 0, 1) := dk_42 (dk_at dksX1_roads_5 3 rfl rfl)
theorem dX1_roads_123 : decode cX1_roads 123 = .ok (.iconst 1, 1) := dk_4 (dk_at dksX1_roads_5 4 rfl rfl)
theorem dX1_roads_124 : decode cX1_roads 124 = .ok (.invokevirtual 246, 3) := dk_182 0 246 (dk_at dksX1_roads_5 5 rfl rfl)
theorem dX1_roads_127 : decode cX1_roads 127 = .ok (.aload_n 0, 1) := dk_42 (dk_at dksX1_roads_5 8 rfl rfl)
theorem dX1_roads_128 : decode cX1_roads 128 = .ok (.aload_n 0, 1) := dk_42 (dk_at dksX1_roads_5 9 rfl rfl)
theorem dX1_roads_129 : decode cX1_roads 129 = .ok (.getfield 176, 3) := dk_180 0 176 (dk_at dksX1_roads_5 10 rfl rfl)
theorem dX1_roads_132 : decode cX1_roads 132 = .ok (.invokevirtual 145, 3) := dk_182 0 145 (dk_at dksX1_roads_5 13 rfl rfl)
theorem dX1_roads_135 : decode cX1_roads 135 = .ok (.ireturn, 1) := dk_172 (dk_at dksX1_roads_5 16 rfl rfl)
abbrev cX1_plenty : ByteArray := prog_1_method_54_code
def yX1_plenty : MethodName := ⟨RX1, "plenty", "(II)I"⟩
def dkwX1_plenty_3 : List UInt8 := [4, 182, 0, 112, 42, 6, 42, 180, 0, 176, 28, 4, 182, 0, 112, 42, 42, 180, 0, 176, 182, 0, 195, 172]
abbrev dktX1_plenty_3 : List UInt8 := dkwX1_plenty_3 ++ []
def dkwX1_plenty_2 : List UInt8 := [46, 158, 0, 7, 4, 167, 0, 4, 3, 184, 0, 230, 42, 45, 182, 1, 57, 42, 6, 42, 180, 0, 176, 27]
abbrev dktX1_plenty_2 : List UInt8 := dkwX1_plenty_2 ++ dktX1_plenty_3
def dkwX1_plenty_1 : List UInt8 := [6, 50, 27, 46, 27, 28, 160, 0, 7, 4, 167, 0, 4, 3, 164, 0, 18, 42, 180, 0, 27, 6, 50, 28]
abbrev dktX1_plenty_1 : List UInt8 := dkwX1_plenty_1 ++ dktX1_plenty_2
def dkwX1_plenty_0 : List UInt8 := [27, 184, 1, 64, 28, 184, 1, 64, 42, 178, 1, 67, 182, 1, 53, 78, 45, 198, 0, 39, 42, 180, 0, 27]
abbrev dktX1_plenty_0 : List UInt8 := dkwX1_plenty_0 ++ dktX1_plenty_1
theorem dksX1_plenty_0 : cX1_plenty.data.toList.drop 0 = dktX1_plenty_0 := by decide +kernel
theorem dksX1_plenty_1 : cX1_plenty.data.toList.drop 24 = dktX1_plenty_1 := dk_seg dksX1_plenty_0 24 rfl rfl
theorem dksX1_plenty_2 : cX1_plenty.data.toList.drop 48 = dktX1_plenty_2 := dk_seg dksX1_plenty_1 24 rfl rfl
theorem dksX1_plenty_3 : cX1_plenty.data.toList.drop 72 = dktX1_plenty_3 := dk_seg dksX1_plenty_2 24 rfl rfl
theorem dX1_plenty_0 : decode cX1_plenty 0 = .ok (.iload_n 1, 1) := dk_27 (dk_at dksX1_plenty_0 0 rfl rfl)
theorem dX1_plenty_1 : decode cX1_plenty 1 = .ok (.invokestatic 320, 3) := dk_184 1 64 (dk_at dksX1_plenty_0 1 rfl rfl)
theorem dX1_plenty_4 : decode cX1_plenty 4 = .ok (.iload_n 2, 1) := dk_28 (dk_at dksX1_plenty_0 4 rfl rfl)
theorem dX1_plenty_5 : decode cX1_plenty 5 = .ok (.invokestatic 320, 3) := dk_184 1 64 (dk_at dksX1_plenty_0 5 rfl rfl)
theorem dX1_plenty_8 : decode cX1_plenty 8 = .ok (.aload_n 0, 1) := dk_42 (dk_at dksX1_plenty_0 8 rfl rfl)
theorem dX1_plenty_9 : decode cX1_plenty 9 = .ok (.getstatic 323, 3) := dk_178 1 67 (dk_at dksX1_plenty_0 9 rfl rfl)
theorem dX1_plenty_12 : decode cX1_plenty 12 = .ok (.invokevirtual 309, 3) := dk_182 1 53 (dk_at dksX1_plenty_0 12 rfl rfl)
theorem dX1_plenty_15 : decode cX1_plenty 15 = .ok (.astore_n 3, 1) := dk_78 (dk_at dksX1_plenty_0 15 rfl rfl)
theorem dX1_plenty_16 : decode cX1_plenty 16 = .ok (.aload_n 3, 1) := dk_45 (dk_at dksX1_plenty_0 16 rfl rfl)
theorem dX1_plenty_17 : decode cX1_plenty 17 = .ok (.ifnull 39, 3) := dk_198 0 39 (dk_at dksX1_plenty_0 17 rfl rfl)
theorem dX1_plenty_20 : decode cX1_plenty 20 = .ok (.aload_n 0, 1) := dk_42 (dk_at dksX1_plenty_0 20 rfl rfl)
theorem dX1_plenty_21 : decode cX1_plenty 21 = .ok (.getfield 27, 3) := dk_180 0 27 (dk_at dksX1_plenty_0 21 rfl rfl)
theorem dX1_plenty_24 : decode cX1_plenty 24 = .ok (.iconst 3, 1) := dk_6 (dk_at dksX1_plenty_1 0 rfl rfl)
theorem dX1_plenty_25 : decode cX1_plenty 25 = .ok (.aaload, 1) := dk_50 (dk_at dksX1_plenty_1 1 rfl rfl)
theorem dX1_plenty_26 : decode cX1_plenty 26 = .ok (.iload_n 1, 1) := dk_27 (dk_at dksX1_plenty_1 2 rfl rfl)
theorem dX1_plenty_27 : decode cX1_plenty 27 = .ok (.iaload, 1) := dk_46 (dk_at dksX1_plenty_1 3 rfl rfl)
theorem dX1_plenty_28 : decode cX1_plenty 28 = .ok (.iload_n 1, 1) := dk_27 (dk_at dksX1_plenty_1 4 rfl rfl)
theorem dX1_plenty_29 : decode cX1_plenty 29 = .ok (.iload_n 2, 1) := dk_28 (dk_at dksX1_plenty_1 5 rfl rfl)
theorem dX1_plenty_30 : decode cX1_plenty 30 = .ok (.if_icmp .ne 7, 3) := dk_160 0 7 (dk_at dksX1_plenty_1 6 rfl rfl)
theorem dX1_plenty_33 : decode cX1_plenty 33 = .ok (.iconst 1, 1) := dk_4 (dk_at dksX1_plenty_1 9 rfl rfl)
theorem dX1_plenty_34 : decode cX1_plenty 34 = .ok (.goto 4, 3) := dk_167 0 4 (dk_at dksX1_plenty_1 10 rfl rfl)
theorem dX1_plenty_37 : decode cX1_plenty 37 = .ok (.iconst 0, 1) := dk_3 (dk_at dksX1_plenty_1 13 rfl rfl)
theorem dX1_plenty_38 : decode cX1_plenty 38 = .ok (.if_icmp .le 18, 3) := dk_164 0 18 (dk_at dksX1_plenty_1 14 rfl rfl)
theorem dX1_plenty_41 : decode cX1_plenty 41 = .ok (.aload_n 0, 1) := dk_42 (dk_at dksX1_plenty_1 17 rfl rfl)
theorem dX1_plenty_42 : decode cX1_plenty 42 = .ok (.getfield 27, 3) := dk_180 0 27 (dk_at dksX1_plenty_1 18 rfl rfl)
theorem dX1_plenty_45 : decode cX1_plenty 45 = .ok (.iconst 3, 1) := dk_6 (dk_at dksX1_plenty_1 21 rfl rfl)
theorem dX1_plenty_46 : decode cX1_plenty 46 = .ok (.aaload, 1) := dk_50 (dk_at dksX1_plenty_1 22 rfl rfl)
theorem dX1_plenty_47 : decode cX1_plenty 47 = .ok (.iload_n 2, 1) := dk_28 (dk_at dksX1_plenty_1 23 rfl rfl)
theorem dX1_plenty_48 : decode cX1_plenty 48 = .ok (.iaload, 1) := dk_46 (dk_at dksX1_plenty_2 0 rfl rfl)
theorem dX1_plenty_49 : decode cX1_plenty 49 = .ok (.ifCond .le 7, 3) := dk_158 0 7 (dk_at dksX1_plenty_2 1 rfl rfl)
theorem dX1_plenty_52 : decode cX1_plenty 52 = .ok (.iconst 1, 1) := dk_4 (dk_at dksX1_plenty_2 4 rfl rfl)
theorem dX1_plenty_53 : decode cX1_plenty 53 = .ok (.goto 4, 3) := dk_167 0 4 (dk_at dksX1_plenty_2 5 rfl rfl)
theorem dX1_plenty_56 : decode cX1_plenty 56 = .ok (.iconst 0, 1) := dk_3 (dk_at dksX1_plenty_2 8 rfl rfl)
theorem dX1_plenty_57 : decode cX1_plenty 57 = .ok (.invokestatic 230, 3) := dk_184 0 230 (dk_at dksX1_plenty_2 9 rfl rfl)
theorem dX1_plenty_60 : decode cX1_plenty 60 = .ok (.aload_n 0, 1) := dk_42 (dk_at dksX1_plenty_2 12 rfl rfl)
theorem dX1_plenty_61 : decode cX1_plenty 61 = .ok (.aload_n 3, 1) := dk_45 (dk_at dksX1_plenty_2 13 rfl rfl)
theorem dX1_plenty_62 : decode cX1_plenty 62 = .ok (.invokevirtual 313, 3) := dk_182 1 57 (dk_at dksX1_plenty_2 14 rfl rfl)
theorem dX1_plenty_65 : decode cX1_plenty 65 = .ok (.aload_n 0, 1) := dk_42 (dk_at dksX1_plenty_2 17 rfl rfl)
theorem dX1_plenty_66 : decode cX1_plenty 66 = .ok (.iconst 3, 1) := dk_6 (dk_at dksX1_plenty_2 18 rfl rfl)
theorem dX1_plenty_67 : decode cX1_plenty 67 = .ok (.aload_n 0, 1) := dk_42 (dk_at dksX1_plenty_2 19 rfl rfl)
theorem dX1_plenty_68 : decode cX1_plenty 68 = .ok (.getfield 176, 3) := dk_180 0 176 (dk_at dksX1_plenty_2 20 rfl rfl)
theorem dX1_plenty_71 : decode cX1_plenty 71 = .ok (.iload_n 1, 1) := dk_27 (dk_at dksX1_plenty_2 23 rfl rfl)
theorem dX1_plenty_72 : decode cX1_plenty 72 = .ok (.iconst 1, 1) := dk_4 (dk_at dksX1_plenty_3 0 rfl rfl)
theorem dX1_plenty_73 : decode cX1_plenty 73 = .ok (.invokevirtual 112, 3) := dk_182 0 112 (dk_at dksX1_plenty_3 1 rfl rfl)
theorem dX1_plenty_76 : decode cX1_plenty 76 = .ok (.aload_n 0, 1) := dk_42 (dk_at dksX1_plenty_3 4 rfl rfl)
theorem dX1_plenty_77 : decode cX1_plenty 77 = .ok (.iconst 3, 1) := dk_6 (dk_at dksX1_plenty_3 5 rfl rfl)
theorem dX1_plenty_78 : decode cX1_plenty 78 = .ok (.aload_n 0, 1) := dk_42 (dk_at dksX1_plenty_3 6 rfl rfl)
theorem dX1_plenty_79 : decode cX1_plenty 79 = .ok (.getfield 176, 3) := dk_180 0 176 (dk_at dksX1_plenty_3 7 rfl rfl)
theorem dX1_plenty_82 : decode cX1_plenty 82 = .ok (.iload_n 2, 1) := dk_28 (dk_at dksX1_plenty_3 10 rfl rfl)
theorem dX1_plenty_83 : decode cX1_plenty 83 = .ok (.iconst 1, 1) := dk_4 (dk_at dksX1_plenty_3 11 rfl rfl)
theorem dX1_plenty_84 : decode cX1_plenty 84 = .ok (.invokevirtual 112, 3) := dk_182 0 112 (dk_at dksX1_plenty_3 12 rfl rfl)
theorem dX1_plenty_87 : decode cX1_plenty 87 = .ok (.aload_n 0, 1) := dk_42 (dk_at dksX1_plenty_3 15 rfl rfl)
theorem dX1_plenty_88 : decode cX1_plenty 88 = .ok (.aload_n 0, 1) := dk_42 (dk_at dksX1_plenty_3 16 rfl rfl)
theorem dX1_plenty_89 : decode cX1_plenty 89 = .ok (.getfield 176, 3) := dk_180 0 176 (dk_at dksX1_plenty_3 17 rfl rfl)
theorem dX1_plenty_92 : decode cX1_plenty 92 = .ok (.invokevirtual 195, 3) := dk_182 0 195 (dk_at dksX1_plenty_3 20 rfl rfl)
theorem dX1_plenty_95 : decode cX1_plenty 95 = .ok (.ireturn, 1) := dk_172 (dk_at dksX1_plenty_3 23 rfl rfl)
abbrev cX1_checkGood : ByteArray := prog_1_method_37_code
def yX1_checkGood : MethodName := ⟨RX1, "checkGood", "(I)V"⟩
def dkwX1_checkGood_0 : List UInt8 := [26, 3, 7, 184, 0, 215, 177]
abbrev dktX1_checkGood_0 : List UInt8 := dkwX1_checkGood_0 ++ []
theorem dksX1_checkGood_0 : cX1_checkGood.data.toList.drop 0 = dktX1_checkGood_0 := by decide +kernel
theorem dX1_checkGood_0 : decode cX1_checkGood 0 = .ok (.iload_n 0, 1) := dk_26 (dk_at dksX1_checkGood_0 0 rfl rfl)
theorem dX1_checkGood_1 : decode cX1_checkGood 1 = .ok (.iconst 0, 1) := dk_3 (dk_at dksX1_checkGood_0 1 rfl rfl)
theorem dX1_checkGood_2 : decode cX1_checkGood 2 = .ok (.iconst 4, 1) := dk_7 (dk_at dksX1_checkGood_0 2 rfl rfl)
theorem dX1_checkGood_3 : decode cX1_checkGood 3 = .ok (.invokestatic 215, 3) := dk_184 0 215 (dk_at dksX1_checkGood_0 3 rfl rfl)
theorem dX1_checkGood_6 : decode cX1_checkGood 6 = .ok (.return_, 1) := dk_177 (dk_at dksX1_checkGood_0 6 rfl rfl)
abbrev cX1_monopoly : ByteArray := prog_1_method_55_code
def yX1_monopoly : MethodName := ⟨RX1, "monopoly", "(I)I"⟩
def dkwX1_monopoly_3 : List UInt8 := [180, 0, 27, 21, 4, 50, 27, 46, 182, 0, 112, 132, 4, 1, 167, 255, 206, 29, 172]
abbrev dktX1_monopoly_3 : List UInt8 := dkwX1_monopoly_3 ++ []
def dkwX1_monopoly_2 : List UInt8 := [159, 0, 35, 29, 42, 180, 0, 27, 21, 4, 50, 27, 46, 96, 62, 42, 21, 4, 42, 180, 0, 176, 27, 42]
abbrev dktX1_monopoly_2 : List UInt8 := dkwX1_monopoly_2 ++ dktX1_monopoly_3
def dkwX1_monopoly_1 : List UInt8 := [42, 44, 182, 1, 57, 3, 62, 3, 54, 4, 21, 4, 6, 162, 0, 50, 21, 4, 42, 180, 0, 176]
abbrev dktX1_monopoly_1 : List UInt8 := dkwX1_monopoly_1 ++ dktX1_monopoly_2
def dkwX1_monopoly_0 : List UInt8 := [27, 184, 1, 64, 42, 178, 1, 70, 182, 1, 53, 77, 44, 198, 0, 7, 4, 167, 0, 4, 3, 184, 0, 230]
abbrev dktX1_monopoly_0 : List UInt8 := dkwX1_monopoly_0 ++ dktX1_monopoly_1
theorem dksX1_monopoly_0 : cX1_monopoly.data.toList.drop 0 = dktX1_monopoly_0 := by decide +kernel
theorem dksX1_monopoly_1 : cX1_monopoly.data.toList.drop 24 = dktX1_monopoly_1 := dk_seg dksX1_monopoly_0 24 rfl rfl
theorem dksX1_monopoly_2 : cX1_monopoly.data.toList.drop 46 = dktX1_monopoly_2 := dk_seg dksX1_monopoly_1 22 rfl rfl
theorem dksX1_monopoly_3 : cX1_monopoly.data.toList.drop 70 = dktX1_monopoly_3 := dk_seg dksX1_monopoly_2 24 rfl rfl
theorem dX1_monopoly_0 : decode cX1_monopoly 0 = .ok (.iload_n 1, 1) := dk_27 (dk_at dksX1_monopoly_0 0 rfl rfl)
theorem dX1_monopoly_1 : decode cX1_monopoly 1 = .ok (.invokestatic 320, 3) := dk_184 1 64 (dk_at dksX1_monopoly_0 1 rfl rfl)
theorem dX1_monopoly_4 : decode cX1_monopoly 4 = .ok (.aload_n 0, 1) := dk_42 (dk_at dksX1_monopoly_0 4 rfl rfl)
theorem dX1_monopoly_5 : decode cX1_monopoly 5 = .ok (.getstatic 326, 3) := dk_178 1 70 (dk_at dksX1_monopoly_0 5 rfl rfl)
theorem dX1_monopoly_8 : decode cX1_monopoly 8 = .ok (.invokevirtual 309, 3) := dk_182 1 53 (dk_at dksX1_monopoly_0 8 rfl rfl)
theorem dX1_monopoly_11 : decode cX1_monopoly 11 = .ok (.astore_n 2, 1) := dk_77 (dk_at dksX1_monopoly_0 11 rfl rfl)
theorem dX1_monopoly_12 : decode cX1_monopoly 12 = .ok (.aload_n 2, 1) := dk_44 (dk_at dksX1_monopoly_0 12 rfl rfl)
theorem dX1_monopoly_13 : decode cX1_monopoly 13 = .ok (.ifnull 7, 3) := dk_198 0 7 (dk_at dksX1_monopoly_0 13 rfl rfl)
theorem dX1_monopoly_16 : decode cX1_monopoly 16 = .ok (.iconst 1, 1) := dk_4 (dk_at dksX1_monopoly_0 16 rfl rfl)
theorem dX1_monopoly_17 : decode cX1_monopoly 17 = .ok (.goto 4, 3) := dk_167 0 4 (dk_at dksX1_monopoly_0 17 rfl rfl)
theorem dX1_monopoly_20 : decode cX1_monopoly 20 = .ok (.iconst 0, 1) := dk_3 (dk_at dksX1_monopoly_0 20 rfl rfl)
theorem dX1_monopoly_21 : decode cX1_monopoly 21 = .ok (.invokestatic 230, 3) := dk_184 0 230 (dk_at dksX1_monopoly_0 21 rfl rfl)
theorem dX1_monopoly_24 : decode cX1_monopoly 24 = .ok (.aload_n 0, 1) := dk_42 (dk_at dksX1_monopoly_1 0 rfl rfl)
theorem dX1_monopoly_25 : decode cX1_monopoly 25 = .ok (.aload_n 2, 1) := dk_44 (dk_at dksX1_monopoly_1 1 rfl rfl)
theorem dX1_monopoly_26 : decode cX1_monopoly 26 = .ok (.invokevirtual 313, 3) := dk_182 1 57 (dk_at dksX1_monopoly_1 2 rfl rfl)
theorem dX1_monopoly_29 : decode cX1_monopoly 29 = .ok (.iconst 0, 1) := dk_3 (dk_at dksX1_monopoly_1 5 rfl rfl)
theorem dX1_monopoly_30 : decode cX1_monopoly 30 = .ok (.istore_n 3, 1) := dk_62 (dk_at dksX1_monopoly_1 6 rfl rfl)
theorem dX1_monopoly_31 : decode cX1_monopoly 31 = .ok (.iconst 0, 1) := dk_3 (dk_at dksX1_monopoly_1 7 rfl rfl)
theorem dX1_monopoly_32 : decode cX1_monopoly 32 = .ok (.istore 4, 2) := dk_54 4 (dk_at dksX1_monopoly_1 8 rfl rfl)
theorem dX1_monopoly_34 : decode cX1_monopoly 34 = .ok (.iload 4, 2) := dk_21 4 (dk_at dksX1_monopoly_1 10 rfl rfl)
theorem dX1_monopoly_36 : decode cX1_monopoly 36 = .ok (.iconst 3, 1) := dk_6 (dk_at dksX1_monopoly_1 12 rfl rfl)
theorem dX1_monopoly_37 : decode cX1_monopoly 37 = .ok (.if_icmp .ge 50, 3) := dk_162 0 50 (dk_at dksX1_monopoly_1 13 rfl rfl)
theorem dX1_monopoly_40 : decode cX1_monopoly 40 = .ok (.iload 4, 2) := dk_21 4 (dk_at dksX1_monopoly_1 16 rfl rfl)
theorem dX1_monopoly_42 : decode cX1_monopoly 42 = .ok (.aload_n 0, 1) := dk_42 (dk_at dksX1_monopoly_1 18 rfl rfl)
theorem dX1_monopoly_43 : decode cX1_monopoly 43 = .ok (.getfield 176, 3) := dk_180 0 176 (dk_at dksX1_monopoly_1 19 rfl rfl)
theorem dX1_monopoly_46 : decode cX1_monopoly 46 = .ok (.if_icmp .eq 35, 3) := dk_159 0 35 (dk_at dksX1_monopoly_2 0 rfl rfl)
theorem dX1_monopoly_49 : decode cX1_monopoly 49 = .ok (.iload_n 3, 1) := dk_29 (dk_at dksX1_monopoly_2 3 rfl rfl)
theorem dX1_monopoly_50 : decode cX1_monopoly 50 = .ok (.aload_n 0, 1) := dk_42 (dk_at dksX1_monopoly_2 4 rfl rfl)
theorem dX1_monopoly_51 : decode cX1_monopoly 51 = .ok (.getfield 27, 3) := dk_180 0 27 (dk_at dksX1_monopoly_2 5 rfl rfl)
theorem dX1_monopoly_54 : decode cX1_monopoly 54 = .ok (.iload 4, 2) := dk_21 4 (dk_at dksX1_monopoly_2 8 rfl rfl)
theorem dX1_monopoly_56 : decode cX1_monopoly 56 = .ok (.aaload, 1) := dk_50 (dk_at dksX1_monopoly_2 10 rfl rfl)
theorem dX1_monopoly_57 : decode cX1_monopoly 57 = .ok (.iload_n 1, 1) := dk_27 (dk_at dksX1_monopoly_2 11 rfl rfl)
theorem dX1_monopoly_58 : decode cX1_monopoly 58 = .ok (.iaload, 1) := dk_46 (dk_at dksX1_monopoly_2 12 rfl rfl)
theorem dX1_monopoly_59 : decode cX1_monopoly 59 = .ok (.iadd, 1) := dk_96 (dk_at dksX1_monopoly_2 13 rfl rfl)
theorem dX1_monopoly_60 : decode cX1_monopoly 60 = .ok (.istore_n 3, 1) := dk_62 (dk_at dksX1_monopoly_2 14 rfl rfl)
theorem dX1_monopoly_61 : decode cX1_monopoly 61 = .ok (.aload_n 0, 1) := dk_42 (dk_at dksX1_monopoly_2 15 rfl rfl)
theorem dX1_monopoly_62 : decode cX1_monopoly 62 = .ok (.iload 4, 2) := dk_21 4 (dk_at dksX1_monopoly_2 16 rfl rfl)
theorem dX1_monopoly_64 : decode cX1_monopoly 64 = .ok (.aload_n 0, 1) := dk_42 (dk_at dksX1_monopoly_2 18 rfl rfl)
theorem dX1_monopoly_65 : decode cX1_monopoly 65 = .ok (.getfield 176, 3) := dk_180 0 176 (dk_at dksX1_monopoly_2 19 rfl rfl)
theorem dX1_monopoly_68 : decode cX1_monopoly 68 = .ok (.iload_n 1, 1) := dk_27 (dk_at dksX1_monopoly_2 22 rfl rfl)
theorem dX1_monopoly_69 : decode cX1_monopoly 69 = .ok (.aload_n 0, 1) := dk_42 (dk_at dksX1_monopoly_2 23 rfl rfl)
theorem dX1_monopoly_70 : decode cX1_monopoly 70 = .ok (.getfield 27, 3) := dk_180 0 27 (dk_at dksX1_monopoly_3 0 rfl rfl)
theorem dX1_monopoly_73 : decode cX1_monopoly 73 = .ok (.iload 4, 2) := dk_21 4 (dk_at dksX1_monopoly_3 3 rfl rfl)
theorem dX1_monopoly_75 : decode cX1_monopoly 75 = .ok (.aaload, 1) := dk_50 (dk_at dksX1_monopoly_3 5 rfl rfl)
theorem dX1_monopoly_76 : decode cX1_monopoly 76 = .ok (.iload_n 1, 1) := dk_27 (dk_at dksX1_monopoly_3 6 rfl rfl)
theorem dX1_monopoly_77 : decode cX1_monopoly 77 = .ok (.iaload, 1) := dk_46 (dk_at dksX1_monopoly_3 7 rfl rfl)
theorem dX1_monopoly_78 : decode cX1_monopoly 78 = .ok (.invokevirtual 112, 3) := dk_182 0 112 (dk_at dksX1_monopoly_3 8 rfl rfl)
theorem dX1_monopoly_81 : decode cX1_monopoly 81 = .ok (.iinc 4 1, 3) := dk_132 4 1 (dk_at dksX1_monopoly_3 11 rfl rfl)
theorem dX1_monopoly_84 : decode cX1_monopoly 84 = .ok (.goto (-50), 3) := dk_167 255 206 (dk_at dksX1_monopoly_3 14 rfl rfl)
theorem dX1_monopoly_87 : decode cX1_monopoly 87 = .ok (.iload_n 3, 1) := dk_29 (dk_at dksX1_monopoly_3 17 rfl rfl)
theorem dX1_monopoly_88 : decode cX1_monopoly 88 = .ok (.ireturn, 1) := dk_172 (dk_at dksX1_monopoly_3 18 rfl rfl)
abbrev cX1_swap : ByteArray := prog_1_method_58_code
def yX1_swap : MethodName := ⟨RX1, "swap", "(II)I"⟩
def dkwX1_swap_4 : List UInt8 := [42, 180, 0, 176, 28, 4, 182, 0, 112, 42, 180, 0, 27, 42, 180, 0, 176, 50, 28, 46, 172]
abbrev dktX1_swap_4 : List UInt8 := dkwX1_swap_4 ++ []
def dkwX1_swap_3 : List UInt8 := [184, 0, 230, 42, 42, 180, 0, 176, 6, 27, 42, 42, 180, 0, 176, 27, 182, 1, 76, 182, 0, 112, 42, 6]
abbrev dktX1_swap_3 : List UInt8 := dkwX1_swap_3 ++ dktX1_swap_4
def dkwX1_swap_2 : List UInt8 := [182, 1, 76, 161, 0, 18, 42, 180, 0, 27, 6, 50, 28, 46, 158, 0, 7, 4, 167, 0, 4, 3]
abbrev dktX1_swap_2 : List UInt8 := dkwX1_swap_2 ++ dktX1_swap_3
def dkwX1_swap_1 : List UInt8 := [180, 0, 52, 5, 160, 0, 41, 42, 180, 0, 27, 42, 180, 0, 176, 50, 27, 46, 42, 42, 180, 0, 176, 27]
abbrev dktX1_swap_1 : List UInt8 := dkwX1_swap_1 ++ dktX1_swap_2
def dkwX1_swap_0 : List UInt8 := [27, 184, 1, 64, 28, 184, 1, 64, 27, 28, 160, 0, 7, 4, 167, 0, 4, 3, 3, 3, 184, 0, 215, 42]
abbrev dktX1_swap_0 : List UInt8 := dkwX1_swap_0 ++ dktX1_swap_1
theorem dksX1_swap_0 : cX1_swap.data.toList.drop 0 = dktX1_swap_0 := by decide +kernel
theorem dksX1_swap_1 : cX1_swap.data.toList.drop 24 = dktX1_swap_1 := dk_seg dksX1_swap_0 24 rfl rfl
theorem dksX1_swap_2 : cX1_swap.data.toList.drop 48 = dktX1_swap_2 := dk_seg dksX1_swap_1 24 rfl rfl
theorem dksX1_swap_3 : cX1_swap.data.toList.drop 70 = dktX1_swap_3 := dk_seg dksX1_swap_2 22 rfl rfl
theorem dksX1_swap_4 : cX1_swap.data.toList.drop 94 = dktX1_swap_4 := dk_seg dksX1_swap_3 24 rfl rfl
theorem dX1_swap_0 : decode cX1_swap 0 = .ok (.iload_n 1, 1) := dk_27 (dk_at dksX1_swap_0 0 rfl rfl)
theorem dX1_swap_1 : decode cX1_swap 1 = .ok (.invokestatic 320, 3) := dk_184 1 64 (dk_at dksX1_swap_0 1 rfl rfl)
theorem dX1_swap_4 : decode cX1_swap 4 = .ok (.iload_n 2, 1) := dk_28 (dk_at dksX1_swap_0 4 rfl rfl)
theorem dX1_swap_5 : decode cX1_swap 5 = .ok (.invokestatic 320, 3) := dk_184 1 64 (dk_at dksX1_swap_0 5 rfl rfl)
theorem dX1_swap_8 : decode cX1_swap 8 = .ok (.iload_n 1, 1) := dk_27 (dk_at dksX1_swap_0 8 rfl rfl)
theorem dX1_swap_9 : decode cX1_swap 9 = .ok (.iload_n 2, 1) := dk_28 (dk_at dksX1_swap_0 9 rfl rfl)
theorem dX1_swap_10 : decode cX1_swap 10 = .ok (.if_icmp .ne 7, 3) := dk_160 0 7 (dk_at dksX1_swap_0 10 rfl rfl)
theorem dX1_swap_13 : decode cX1_swap 13 = .ok (.iconst 1, 1) := dk_4 (dk_at dksX1_swap_0 13 rfl rfl)
theorem dX1_swap_14 : decode cX1_swap 14 = .ok (.goto 4, 3) := dk_167 0 4 (dk_at dksX1_swap_0 14 rfl rfl)
theorem dX1_swap_17 : decode cX1_swap 17 = .ok (.iconst 0, 1) := dk_3 (dk_at dksX1_swap_0 17 rfl rfl)
theorem dX1_swap_18 : decode cX1_swap 18 = .ok (.iconst 0, 1) := dk_3 (dk_at dksX1_swap_0 18 rfl rfl)
theorem dX1_swap_19 : decode cX1_swap 19 = .ok (.iconst 0, 1) := dk_3 (dk_at dksX1_swap_0 19 rfl rfl)
theorem dX1_swap_20 : decode cX1_swap 20 = .ok (.invokestatic 215, 3) := dk_184 0 215 (dk_at dksX1_swap_0 20 rfl rfl)
theorem dX1_swap_23 : decode cX1_swap 23 = .ok (.aload_n 0, 1) := dk_42 (dk_at dksX1_swap_0 23 rfl rfl)
theorem dX1_swap_24 : decode cX1_swap 24 = .ok (.getfield 52, 3) := dk_180 0 52 (dk_at dksX1_swap_1 0 rfl rfl)
theorem dX1_swap_27 : decode cX1_swap 27 = .ok (.iconst 2, 1) := dk_5 (dk_at dksX1_swap_1 3 rfl rfl)
theorem dX1_swap_28 : decode cX1_swap 28 = .ok (.if_icmp .ne 41, 3) := dk_160 0 41 (dk_at dksX1_swap_1 4 rfl rfl)
theorem dX1_swap_31 : decode cX1_swap 31 = .ok (.aload_n 0, 1) := dk_42 (dk_at dksX1_swap_1 7 rfl rfl)
theorem dX1_swap_32 : decode cX1_swap 32 = .ok (.getfield 27, 3) := dk_180 0 27 (dk_at dksX1_swap_1 8 rfl rfl)
theorem dX1_swap_35 : decode cX1_swap 35 = .ok (.aload_n 0, 1) := dk_42 (dk_at dksX1_swap_1 11 rfl rfl)
theorem dX1_swap_36 : decode cX1_swap 36 = .ok (.getfield 176, 3) := dk_180 0 176 (dk_at dksX1_swap_1 12 rfl rfl)
theorem dX1_swap_39 : decode cX1_swap 39 = .ok (.aaload, 1) := dk_50 (dk_at dksX1_swap_1 15 rfl rfl)
theorem dX1_swap_40 : decode cX1_swap 40 = .ok (.iload_n 1, 1) := dk_27 (dk_at dksX1_swap_1 16 rfl rfl)
theorem dX1_swap_41 : decode cX1_swap 41 = .ok (.iaload, 1) := dk_46 (dk_at dksX1_swap_1 17 rfl rfl)
theorem dX1_swap_42 : decode cX1_swap 42 = .ok (.aload_n 0, 1) := dk_42 (dk_at dksX1_swap_1 18 rfl rfl)
theorem dX1_swap_43 : decode cX1_swap 43 = .ok (.aload_n 0, 1) := dk_42 (dk_at dksX1_swap_1 19 rfl rfl)
theorem dX1_swap_44 : decode cX1_swap 44 = .ok (.getfield 176, 3) := dk_180 0 176 (dk_at dksX1_swap_1 20 rfl rfl)
theorem dX1_swap_47 : decode cX1_swap 47 = .ok (.iload_n 1, 1) := dk_27 (dk_at dksX1_swap_1 23 rfl rfl)
theorem dX1_swap_48 : decode cX1_swap 48 = .ok (.invokevirtual 332, 3) := dk_182 1 76 (dk_at dksX1_swap_2 0 rfl rfl)
theorem dX1_swap_51 : decode cX1_swap 51 = .ok (.if_icmp .lt 18, 3) := dk_161 0 18 (dk_at dksX1_swap_2 3 rfl rfl)
theorem dX1_swap_54 : decode cX1_swap 54 = .ok (.aload_n 0, 1) := dk_42 (dk_at dksX1_swap_2 6 rfl rfl)
theorem dX1_swap_55 : decode cX1_swap 55 = .ok (.getfield 27, 3) := dk_180 0 27 (dk_at dksX1_swap_2 7 rfl rfl)
theorem dX1_swap_58 : decode cX1_swap 58 = .ok (.iconst 3, 1) := dk_6 (dk_at dksX1_swap_2 10 rfl rfl)
theorem dX1_swap_59 : decode cX1_swap 59 = .ok (.aaload, 1) := dk_50 (dk_at dksX1_swap_2 11 rfl rfl)
theorem dX1_swap_60 : decode cX1_swap 60 = .ok (.iload_n 2, 1) := dk_28 (dk_at dksX1_swap_2 12 rfl rfl)
theorem dX1_swap_61 : decode cX1_swap 61 = .ok (.iaload, 1) := dk_46 (dk_at dksX1_swap_2 13 rfl rfl)
theorem dX1_swap_62 : decode cX1_swap 62 = .ok (.ifCond .le 7, 3) := dk_158 0 7 (dk_at dksX1_swap_2 14 rfl rfl)
theorem dX1_swap_65 : decode cX1_swap 65 = .ok (.iconst 1, 1) := dk_4 (dk_at dksX1_swap_2 17 rfl rfl)
theorem dX1_swap_66 : decode cX1_swap 66 = .ok (.goto 4, 3) := dk_167 0 4 (dk_at dksX1_swap_2 18 rfl rfl)
theorem dX1_swap_69 : decode cX1_swap 69 = .ok (.iconst 0, 1) := dk_3 (dk_at dksX1_swap_2 21 rfl rfl)
theorem dX1_swap_70 : decode cX1_swap 70 = .ok (.invokestatic 230, 3) := dk_184 0 230 (dk_at dksX1_swap_3 0 rfl rfl)
theorem dX1_swap_73 : decode cX1_swap 73 = .ok (.aload_n 0, 1) := dk_42 (dk_at dksX1_swap_3 3 rfl rfl)
theorem dX1_swap_74 : decode cX1_swap 74 = .ok (.aload_n 0, 1) := dk_42 (dk_at dksX1_swap_3 4 rfl rfl)
theorem dX1_swap_75 : decode cX1_swap 75 = .ok (.getfield 176, 3) := dk_180 0 176 (dk_at dksX1_swap_3 5 rfl rfl)
theorem dX1_swap_78 : decode cX1_swap 78 = .ok (.iconst 3, 1) := dk_6 (dk_at dksX1_swap_3 8 rfl rfl)
theorem dX1_swap_79 : decode cX1_swap 79 = .ok (.iload_n 1, 1) := dk_27 (dk_at dksX1_swap_3 9 rfl rfl)
theorem dX1_swap_80 : decode cX1_swap 80 = .ok (.aload_n 0, 1) := dk_42 (dk_at dksX1_swap_3 10 rfl rfl)
theorem dX1_swap_81 : decode cX1_swap 81 = .ok (.aload_n 0, 1) := dk_42 (dk_at dksX1_swap_3 11 rfl rfl)
theorem dX1_swap_82 : decode cX1_swap 82 = .ok (.getfield 176, 3) := dk_180 0 176 (dk_at dksX1_swap_3 12 rfl rfl)
theorem dX1_swap_85 : decode cX1_swap 85 = .ok (.iload_n 1, 1) := dk_27 (dk_at dksX1_swap_3 15 rfl rfl)
theorem dX1_swap_86 : decode cX1_swap 86 = .ok (.invokevirtual 332, 3) := dk_182 1 76 (dk_at dksX1_swap_3 16 rfl rfl)
theorem dX1_swap_89 : decode cX1_swap 89 = .ok (.invokevirtual 112, 3) := dk_182 0 112 (dk_at dksX1_swap_3 19 rfl rfl)
theorem dX1_swap_92 : decode cX1_swap 92 = .ok (.aload_n 0, 1) := dk_42 (dk_at dksX1_swap_3 22 rfl rfl)
theorem dX1_swap_93 : decode cX1_swap 93 = .ok (.iconst 3, 1) := dk_6 (dk_at dksX1_swap_3 23 rfl rfl)
theorem dX1_swap_94 : decode cX1_swap 94 = .ok (.aload_n 0, 1) := dk_42 (dk_at dksX1_swap_4 0 rfl rfl)
theorem dX1_swap_95 : decode cX1_swap 95 = .ok (.getfield 176, 3) := dk_180 0 176 (dk_at dksX1_swap_4 1 rfl rfl)
theorem dX1_swap_98 : decode cX1_swap 98 = .ok (.iload_n 2, 1) := dk_28 (dk_at dksX1_swap_4 4 rfl rfl)
theorem dX1_swap_99 : decode cX1_swap 99 = .ok (.iconst 1, 1) := dk_4 (dk_at dksX1_swap_4 5 rfl rfl)
theorem dX1_swap_100 : decode cX1_swap 100 = .ok (.invokevirtual 112, 3) := dk_182 0 112 (dk_at dksX1_swap_4 6 rfl rfl)
theorem dX1_swap_103 : decode cX1_swap 103 = .ok (.aload_n 0, 1) := dk_42 (dk_at dksX1_swap_4 9 rfl rfl)
theorem dX1_swap_104 : decode cX1_swap 104 = .ok (.getfield 27, 3) := dk_180 0 27 (dk_at dksX1_swap_4 10 rfl rfl)
theorem dX1_swap_107 : decode cX1_swap 107 = .ok (.aload_n 0, 1) := dk_42 (dk_at dksX1_swap_4 13 rfl rfl)
theorem dX1_swap_108 : decode cX1_swap 108 = .ok (.getfield 176, 3) := dk_180 0 176 (dk_at dksX1_swap_4 14 rfl rfl)
theorem dX1_swap_111 : decode cX1_swap 111 = .ok (.aaload, 1) := dk_50 (dk_at dksX1_swap_4 17 rfl rfl)
theorem dX1_swap_112 : decode cX1_swap 112 = .ok (.iload_n 2, 1) := dk_28 (dk_at dksX1_swap_4 18 rfl rfl)
theorem dX1_swap_113 : decode cX1_swap 113 = .ok (.iaload, 1) := dk_46 (dk_at dksX1_swap_4 19 rfl rfl)
theorem dX1_swap_114 : decode cX1_swap 114 = .ok (.ireturn, 1) := dk_172 (dk_at dksX1_swap_4 20 rfl rfl)
abbrev cX1_rateOf : ByteArray := prog_1_method_57_code
def yX1_rateOf : MethodName := ⟨RX1, "rateOf", "(II)I"⟩
def dkwX1_rateOf_1 : List UInt8 := [167, 0, 4, 7, 172]
abbrev dktX1_rateOf_1 : List UInt8 := dkwX1_rateOf_1 ++ []
def dkwX1_rateOf_0 : List UInt8 := [42, 27, 28, 182, 1, 73, 153, 0, 7, 5, 167, 0, 17, 42, 27, 8, 182, 1, 73, 153, 0, 7, 6]
abbrev dktX1_rateOf_0 : List UInt8 := dkwX1_rateOf_0 ++ dktX1_rateOf_1
theorem dksX1_rateOf_0 : cX1_rateOf.data.toList.drop 0 = dktX1_rateOf_0 := by decide +kernel
theorem dksX1_rateOf_1 : cX1_rateOf.data.toList.drop 23 = dktX1_rateOf_1 := dk_seg dksX1_rateOf_0 23 rfl rfl
theorem dX1_rateOf_0 : decode cX1_rateOf 0 = .ok (.aload_n 0, 1) := dk_42 (dk_at dksX1_rateOf_0 0 rfl rfl)
theorem dX1_rateOf_1 : decode cX1_rateOf 1 = .ok (.iload_n 1, 1) := dk_27 (dk_at dksX1_rateOf_0 1 rfl rfl)
theorem dX1_rateOf_2 : decode cX1_rateOf 2 = .ok (.iload_n 2, 1) := dk_28 (dk_at dksX1_rateOf_0 2 rfl rfl)
theorem dX1_rateOf_3 : decode cX1_rateOf 3 = .ok (.invokevirtual 329, 3) := dk_182 1 73 (dk_at dksX1_rateOf_0 3 rfl rfl)
theorem dX1_rateOf_6 : decode cX1_rateOf 6 = .ok (.ifCond .eq 7, 3) := dk_153 0 7 (dk_at dksX1_rateOf_0 6 rfl rfl)
theorem dX1_rateOf_9 : decode cX1_rateOf 9 = .ok (.iconst 2, 1) := dk_5 (dk_at dksX1_rateOf_0 9 rfl rfl)
theorem dX1_rateOf_10 : decode cX1_rateOf 10 = .ok (.goto 17, 3) := dk_167 0 17 (dk_at dksX1_rateOf_0 10 rfl rfl)
theorem dX1_rateOf_13 : decode cX1_rateOf 13 = .ok (.aload_n 0, 1) := dk_42 (dk_at dksX1_rateOf_0 13 rfl rfl)
theorem dX1_rateOf_14 : decode cX1_rateOf 14 = .ok (.iload_n 1, 1) := dk_27 (dk_at dksX1_rateOf_0 14 rfl rfl)
theorem dX1_rateOf_15 : decode cX1_rateOf 15 = .ok (.iconst 5, 1) := dk_8 (dk_at dksX1_rateOf_0 15 rfl rfl)
theorem dX1_rateOf_16 : decode cX1_rateOf 16 = .ok (.invokevirtual 329, 3) := dk_182 1 73 (dk_at dksX1_rateOf_0 16 rfl rfl)
theorem dX1_rateOf_19 : decode cX1_rateOf 19 = .ok (.ifCond .eq 7, 3) := dk_153 0 7 (dk_at dksX1_rateOf_0 19 rfl rfl)
theorem dX1_rateOf_22 : decode cX1_rateOf 22 = .ok (.iconst 3, 1) := dk_6 (dk_at dksX1_rateOf_0 22 rfl rfl)
theorem dX1_rateOf_23 : decode cX1_rateOf 23 = .ok (.goto 4, 3) := dk_167 0 4 (dk_at dksX1_rateOf_1 0 rfl rfl)
theorem dX1_rateOf_26 : decode cX1_rateOf 26 = .ok (.iconst 4, 1) := dk_7 (dk_at dksX1_rateOf_1 3 rfl rfl)
theorem dX1_rateOf_27 : decode cX1_rateOf 27 = .ok (.ireturn, 1) := dk_172 (dk_at dksX1_rateOf_1 4 rfl rfl)
abbrev cX1_hasHarbour : ByteArray := prog_1_method_56_code
def yX1_hasHarbour : MethodName := ⟨RX1, "hasHarbour", "(II)Z"⟩
def dkwX1_hasHarbour_1 : List UInt8 := [182, 0, 83, 153, 0, 7, 4, 167, 0, 4, 3, 172]
abbrev dktX1_hasHarbour_1 : List UInt8 := dkwX1_hasHarbour_1 ++ []
def dkwX1_hasHarbour_0 : List UInt8 := [42, 16, 7, 6, 28, 104, 96, 27, 182, 0, 83, 154, 0, 17, 42, 16, 8, 6, 28, 104, 96, 27]
abbrev dktX1_hasHarbour_0 : List UInt8 := dkwX1_hasHarbour_0 ++ dktX1_hasHarbour_1
theorem dksX1_hasHarbour_0 : cX1_hasHarbour.data.toList.drop 0 = dktX1_hasHarbour_0 := by decide +kernel
theorem dksX1_hasHarbour_1 : cX1_hasHarbour.data.toList.drop 22 = dktX1_hasHarbour_1 := dk_seg dksX1_hasHarbour_0 22 rfl rfl
theorem dX1_hasHarbour_0 : decode cX1_hasHarbour 0 = .ok (.aload_n 0, 1) := dk_42 (dk_at dksX1_hasHarbour_0 0 rfl rfl)
theorem dX1_hasHarbour_1 : decode cX1_hasHarbour 1 = .ok (.bipush 7, 2) := dk_16 7 (dk_at dksX1_hasHarbour_0 1 rfl rfl)
theorem dX1_hasHarbour_3 : decode cX1_hasHarbour 3 = .ok (.iconst 3, 1) := dk_6 (dk_at dksX1_hasHarbour_0 3 rfl rfl)
theorem dX1_hasHarbour_4 : decode cX1_hasHarbour 4 = .ok (.iload_n 2, 1) := dk_28 (dk_at dksX1_hasHarbour_0 4 rfl rfl)
theorem dX1_hasHarbour_5 : decode cX1_hasHarbour 5 = .ok (.imul, 1) := dk_104 (dk_at dksX1_hasHarbour_0 5 rfl rfl)
theorem dX1_hasHarbour_6 : decode cX1_hasHarbour 6 = .ok (.iadd, 1) := dk_96 (dk_at dksX1_hasHarbour_0 6 rfl rfl)
theorem dX1_hasHarbour_7 : decode cX1_hasHarbour 7 = .ok (.iload_n 1, 1) := dk_27 (dk_at dksX1_hasHarbour_0 7 rfl rfl)
theorem dX1_hasHarbour_8 : decode cX1_hasHarbour 8 = .ok (.invokevirtual 83, 3) := dk_182 0 83 (dk_at dksX1_hasHarbour_0 8 rfl rfl)
theorem dX1_hasHarbour_11 : decode cX1_hasHarbour 11 = .ok (.ifCond .ne 17, 3) := dk_154 0 17 (dk_at dksX1_hasHarbour_0 11 rfl rfl)
theorem dX1_hasHarbour_14 : decode cX1_hasHarbour 14 = .ok (.aload_n 0, 1) := dk_42 (dk_at dksX1_hasHarbour_0 14 rfl rfl)
theorem dX1_hasHarbour_15 : decode cX1_hasHarbour 15 = .ok (.bipush 8, 2) := dk_16 8 (dk_at dksX1_hasHarbour_0 15 rfl rfl)
theorem dX1_hasHarbour_17 : decode cX1_hasHarbour 17 = .ok (.iconst 3, 1) := dk_6 (dk_at dksX1_hasHarbour_0 17 rfl rfl)
theorem dX1_hasHarbour_18 : decode cX1_hasHarbour 18 = .ok (.iload_n 2, 1) := dk_28 (dk_at dksX1_hasHarbour_0 18 rfl rfl)
theorem dX1_hasHarbour_19 : decode cX1_hasHarbour 19 = .ok (.imul, 1) := dk_104 (dk_at dksX1_hasHarbour_0 19 rfl rfl)
theorem dX1_hasHarbour_20 : decode cX1_hasHarbour 20 = .ok (.iadd, 1) := dk_96 (dk_at dksX1_hasHarbour_0 20 rfl rfl)
theorem dX1_hasHarbour_21 : decode cX1_hasHarbour 21 = .ok (.iload_n 1, 1) := dk_27 (dk_at dksX1_hasHarbour_0 21 rfl rfl)
theorem dX1_hasHarbour_22 : decode cX1_hasHarbour 22 = .ok (.invokevirtual 83, 3) := dk_182 0 83 (dk_at dksX1_hasHarbour_1 0 rfl rfl)
theorem dX1_hasHarbour_25 : decode cX1_hasHarbour 25 = .ok (.ifCond .eq 7, 3) := dk_153 0 7 (dk_at dksX1_hasHarbour_1 3 rfl rfl)
theorem dX1_hasHarbour_28 : decode cX1_hasHarbour 28 = .ok (.iconst 1, 1) := dk_4 (dk_at dksX1_hasHarbour_1 6 rfl rfl)
theorem dX1_hasHarbour_29 : decode cX1_hasHarbour 29 = .ok (.goto 4, 3) := dk_167 0 4 (dk_at dksX1_hasHarbour_1 7 rfl rfl)
theorem dX1_hasHarbour_32 : decode cX1_hasHarbour 32 = .ok (.iconst 0, 1) := dk_3 (dk_at dksX1_hasHarbour_1 10 rfl rfl)
theorem dX1_hasHarbour_33 : decode cX1_hasHarbour 33 = .ok (.ireturn, 1) := dk_172 (dk_at dksX1_hasHarbour_1 11 rfl rfl)
abbrev cX1_offer : ByteArray := prog_1_method_60_code
def yX1_offer : MethodName := ⟨RX1, "offer", "(II)V"⟩
def dkwX1_offer_2 : List UInt8 := [187, 0, 46, 89, 27, 28, 183, 1, 86, 181, 1, 79, 177]
abbrev dktX1_offer_2 : List UInt8 := dkwX1_offer_2 ++ []
def dkwX1_offer_1 : List UInt8 := [42, 180, 0, 176, 27, 182, 1, 0, 153, 0, 7, 4, 167, 0, 4, 3, 184, 0, 230, 42, 182, 1, 83, 42]
abbrev dktX1_offer_1 : List UInt8 := dkwX1_offer_1 ++ dktX1_offer_2
def dkwX1_offer_0 : List UInt8 := [4, 5, 188, 10, 89, 3, 27, 79, 89, 4, 28, 79, 184, 0, 249, 42, 180, 0, 52, 5, 160, 0, 19, 42]
abbrev dktX1_offer_0 : List UInt8 := dkwX1_offer_0 ++ dktX1_offer_1
theorem dksX1_offer_0 : cX1_offer.data.toList.drop 0 = dktX1_offer_0 := by decide +kernel
theorem dksX1_offer_1 : cX1_offer.data.toList.drop 24 = dktX1_offer_1 := dk_seg dksX1_offer_0 24 rfl rfl
theorem dksX1_offer_2 : cX1_offer.data.toList.drop 48 = dktX1_offer_2 := dk_seg dksX1_offer_1 24 rfl rfl
theorem dX1_offer_0 : decode cX1_offer 0 = .ok (.iconst 1, 1) := dk_4 (dk_at dksX1_offer_0 0 rfl rfl)
theorem dX1_offer_1 : decode cX1_offer 1 = .ok (.iconst 2, 1) := dk_5 (dk_at dksX1_offer_0 1 rfl rfl)
theorem dX1_offer_2 : decode cX1_offer 2 = .ok (.newarray .int, 2) := dk_188_10 (dk_at dksX1_offer_0 2 rfl rfl)
theorem dX1_offer_4 : decode cX1_offer 4 = .ok (.dup, 1) := dk_89 (dk_at dksX1_offer_0 4 rfl rfl)
theorem dX1_offer_5 : decode cX1_offer 5 = .ok (.iconst 0, 1) := dk_3 (dk_at dksX1_offer_0 5 rfl rfl)
theorem dX1_offer_6 : decode cX1_offer 6 = .ok (.iload_n 1, 1) := dk_27 (dk_at dksX1_offer_0 6 rfl rfl)
theorem dX1_offer_7 : decode cX1_offer 7 = .ok (.iastore, 1) := dk_79 (dk_at dksX1_offer_0 7 rfl rfl)
theorem dX1_offer_8 : decode cX1_offer 8 = .ok (.dup, 1) := dk_89 (dk_at dksX1_offer_0 8 rfl rfl)
theorem dX1_offer_9 : decode cX1_offer 9 = .ok (.iconst 1, 1) := dk_4 (dk_at dksX1_offer_0 9 rfl rfl)
theorem dX1_offer_10 : decode cX1_offer 10 = .ok (.iload_n 2, 1) := dk_28 (dk_at dksX1_offer_0 10 rfl rfl)
theorem dX1_offer_11 : decode cX1_offer 11 = .ok (.iastore, 1) := dk_79 (dk_at dksX1_offer_0 11 rfl rfl)
theorem dX1_offer_12 : decode cX1_offer 12 = .ok (.invokestatic 249, 3) := dk_184 0 249 (dk_at dksX1_offer_0 12 rfl rfl)
theorem dX1_offer_15 : decode cX1_offer 15 = .ok (.aload_n 0, 1) := dk_42 (dk_at dksX1_offer_0 15 rfl rfl)
theorem dX1_offer_16 : decode cX1_offer 16 = .ok (.getfield 52, 3) := dk_180 0 52 (dk_at dksX1_offer_0 16 rfl rfl)
theorem dX1_offer_19 : decode cX1_offer 19 = .ok (.iconst 2, 1) := dk_5 (dk_at dksX1_offer_0 19 rfl rfl)
theorem dX1_offer_20 : decode cX1_offer 20 = .ok (.if_icmp .ne 19, 3) := dk_160 0 19 (dk_at dksX1_offer_0 20 rfl rfl)
theorem dX1_offer_23 : decode cX1_offer 23 = .ok (.aload_n 0, 1) := dk_42 (dk_at dksX1_offer_0 23 rfl rfl)
theorem dX1_offer_24 : decode cX1_offer 24 = .ok (.aload_n 0, 1) := dk_42 (dk_at dksX1_offer_1 0 rfl rfl)
theorem dX1_offer_25 : decode cX1_offer 25 = .ok (.getfield 176, 3) := dk_180 0 176 (dk_at dksX1_offer_1 1 rfl rfl)
theorem dX1_offer_28 : decode cX1_offer 28 = .ok (.iload_n 1, 1) := dk_27 (dk_at dksX1_offer_1 4 rfl rfl)
theorem dX1_offer_29 : decode cX1_offer 29 = .ok (.invokevirtual 256, 3) := dk_182 1 0 (dk_at dksX1_offer_1 5 rfl rfl)
theorem dX1_offer_32 : decode cX1_offer 32 = .ok (.ifCond .eq 7, 3) := dk_153 0 7 (dk_at dksX1_offer_1 8 rfl rfl)
theorem dX1_offer_35 : decode cX1_offer 35 = .ok (.iconst 1, 1) := dk_4 (dk_at dksX1_offer_1 11 rfl rfl)
theorem dX1_offer_36 : decode cX1_offer 36 = .ok (.goto 4, 3) := dk_167 0 4 (dk_at dksX1_offer_1 12 rfl rfl)
theorem dX1_offer_39 : decode cX1_offer 39 = .ok (.iconst 0, 1) := dk_3 (dk_at dksX1_offer_1 15 rfl rfl)
theorem dX1_offer_40 : decode cX1_offer 40 = .ok (.invokestatic 230, 3) := dk_184 0 230 (dk_at dksX1_offer_1 16 rfl rfl)
theorem dX1_offer_43 : decode cX1_offer 43 = .ok (.aload_n 0, 1) := dk_42 (dk_at dksX1_offer_1 19 rfl rfl)
theorem dX1_offer_44 : decode cX1_offer 44 = .ok (.invokevirtual 339, 3) := dk_182 1 83 (dk_at dksX1_offer_1 20 rfl rfl)
theorem dX1_offer_47 : decode cX1_offer 47 = .ok (.aload_n 0, 1) := dk_42 (dk_at dksX1_offer_1 23 rfl rfl)
theorem dX1_offer_48 : decode cX1_offer 48 = .ok (.new 46, 3) := dk_187 0 46 (dk_at dksX1_offer_2 0 rfl rfl)
theorem dX1_offer_51 : decode cX1_offer 51 = .ok (.dup, 1) := dk_89 (dk_at dksX1_offer_2 3 rfl rfl)
theorem dX1_offer_52 : decode cX1_offer 52 = .ok (.iload_n 1, 1) := dk_27 (dk_at dksX1_offer_2 4 rfl rfl)
theorem dX1_offer_53 : decode cX1_offer 53 = .ok (.iload_n 2, 1) := dk_28 (dk_at dksX1_offer_2 5 rfl rfl)
theorem dX1_offer_54 : decode cX1_offer 54 = .ok (.invokespecial 342, 3) := dk_183 1 86 (dk_at dksX1_offer_2 6 rfl rfl)
theorem dX1_offer_57 : decode cX1_offer 57 = .ok (.putfield 335, 3) := dk_181 1 79 (dk_at dksX1_offer_2 9 rfl rfl)
theorem dX1_offer_60 : decode cX1_offer 60 = .ok (.return_, 1) := dk_177 (dk_at dksX1_offer_2 12 rfl rfl)
abbrev cX1_forgetOffers : ByteArray := prog_1_method_59_code
def yX1_forgetOffers : MethodName := ⟨RX1, "forgetOffers", "()V"⟩
def dkwX1_forgetOffers_1 : List UInt8 := [167, 255, 241, 177]
abbrev dktX1_forgetOffers_1 : List UInt8 := dkwX1_forgetOffers_1 ++ []
def dkwX1_forgetOffers_0 : List UInt8 := [42, 1, 181, 1, 79, 3, 60, 27, 6, 162, 0, 16, 42, 180, 0, 48, 27, 1, 83, 132, 1, 1]
abbrev dktX1_forgetOffers_0 : List UInt8 := dkwX1_forgetOffers_0 ++ dktX1_forgetOffers_1
theorem dksX1_forgetOffers_0 : cX1_forgetOffers.data.toList.drop 0 = dktX1_forgetOffers_0 := by decide +kernel
theorem dksX1_forgetOffers_1 : cX1_forgetOffers.data.toList.drop 22 = dktX1_forgetOffers_1 := dk_seg dksX1_forgetOffers_0 22 rfl rfl
theorem dX1_forgetOffers_0 : decode cX1_forgetOffers 0 = .ok (.aload_n 0, 1) := dk_42 (dk_at dksX1_forgetOffers_0 0 rfl rfl)
theorem dX1_forgetOffers_1 : decode cX1_forgetOffers 1 = .ok (.aconst_null, 1) := dk_1 (dk_at dksX1_forgetOffers_0 1 rfl rfl)
theorem dX1_forgetOffers_2 : decode cX1_forgetOffers 2 = .ok (.putfield 335, 3) := dk_181 1 79 (dk_at dksX1_forgetOffers_0 2 rfl rfl)
theorem dX1_forgetOffers_5 : decode cX1_forgetOffers 5 = .ok (.iconst 0, 1) := dk_3 (dk_at dksX1_forgetOffers_0 5 rfl rfl)
theorem dX1_forgetOffers_6 : decode cX1_forgetOffers 6 = .ok (.istore_n 1, 1) := dk_60 (dk_at dksX1_forgetOffers_0 6 rfl rfl)
theorem dX1_forgetOffers_7 : decode cX1_forgetOffers 7 = .ok (.iload_n 1, 1) := dk_27 (dk_at dksX1_forgetOffers_0 7 rfl rfl)
theorem dX1_forgetOffers_8 : decode cX1_forgetOffers 8 = .ok (.iconst 3, 1) := dk_6 (dk_at dksX1_forgetOffers_0 8 rfl rfl)
theorem dX1_forgetOffers_9 : decode cX1_forgetOffers 9 = .ok (.if_icmp .ge 16, 3) := dk_162 0 16 (dk_at dksX1_forgetOffers_0 9 rfl rfl)
theorem dX1_forgetOffers_12 : decode cX1_forgetOffers 12 = .ok (.aload_n 0, 1) := dk_42 (dk_at dksX1_forgetOffers_0 12 rfl rfl)
theorem dX1_forgetOffers_13 : decode cX1_forgetOffers 13 = .ok (.getfield 48, 3) := dk_180 0 48 (dk_at dksX1_forgetOffers_0 13 rfl rfl)
theorem dX1_forgetOffers_16 : decode cX1_forgetOffers 16 = .ok (.iload_n 1, 1) := dk_27 (dk_at dksX1_forgetOffers_0 16 rfl rfl)
theorem dX1_forgetOffers_17 : decode cX1_forgetOffers 17 = .ok (.aconst_null, 1) := dk_1 (dk_at dksX1_forgetOffers_0 17 rfl rfl)
theorem dX1_forgetOffers_18 : decode cX1_forgetOffers 18 = .ok (.aastore, 1) := dk_83 (dk_at dksX1_forgetOffers_0 18 rfl rfl)
theorem dX1_forgetOffers_19 : decode cX1_forgetOffers 19 = .ok (.iinc 1 1, 3) := dk_132 1 1 (dk_at dksX1_forgetOffers_0 19 rfl rfl)
theorem dX1_forgetOffers_22 : decode cX1_forgetOffers 22 = .ok (.goto (-15), 3) := dk_167 255 241 (dk_at dksX1_forgetOffers_1 0 rfl rfl)
theorem dX1_forgetOffers_25 : decode cX1_forgetOffers 25 = .ok (.return_, 1) := dk_177 (dk_at dksX1_forgetOffers_1 3 rfl rfl)
abbrev cX1_counter : ByteArray := prog_1_method_61_code
def yX1_counter : MethodName := ⟨RX1, "counter", "(III)V"⟩
def dkwX1_counter_3 : List UInt8 := [29, 183, 1, 86, 83, 177]
abbrev dktX1_counter_3 : List UInt8 := dkwX1_counter_3 ++ []
def dkwX1_counter_2 : List UInt8 := [182, 1, 0, 153, 0, 7, 4, 167, 0, 4, 3, 184, 0, 230, 42, 180, 0, 48, 27, 187, 0, 46, 89, 28]
abbrev dktX1_counter_2 : List UInt8 := dkwX1_counter_2 ++ dktX1_counter_3
def dkwX1_counter_1 : List UInt8 := [5, 160, 0, 31, 42, 180, 1, 79, 198, 0, 24, 27, 42, 180, 0, 176, 159, 0, 16, 42, 27, 28]
abbrev dktX1_counter_1 : List UInt8 := dkwX1_counter_1 ++ dktX1_counter_2
def dkwX1_counter_0 : List UInt8 := [27, 6, 184, 0, 204, 4, 5, 188, 10, 89, 3, 28, 79, 89, 4, 29, 79, 184, 0, 249, 42, 180, 0, 52]
abbrev dktX1_counter_0 : List UInt8 := dkwX1_counter_0 ++ dktX1_counter_1
theorem dksX1_counter_0 : cX1_counter.data.toList.drop 0 = dktX1_counter_0 := by decide +kernel
theorem dksX1_counter_1 : cX1_counter.data.toList.drop 24 = dktX1_counter_1 := dk_seg dksX1_counter_0 24 rfl rfl
theorem dksX1_counter_2 : cX1_counter.data.toList.drop 46 = dktX1_counter_2 := dk_seg dksX1_counter_1 22 rfl rfl
theorem dksX1_counter_3 : cX1_counter.data.toList.drop 70 = dktX1_counter_3 := dk_seg dksX1_counter_2 24 rfl rfl
theorem dX1_counter_0 : decode cX1_counter 0 = .ok (.iload_n 1, 1) := dk_27 (dk_at dksX1_counter_0 0 rfl rfl)
theorem dX1_counter_1 : decode cX1_counter 1 = .ok (.iconst 3, 1) := dk_6 (dk_at dksX1_counter_0 1 rfl rfl)
theorem dX1_counter_2 : decode cX1_counter 2 = .ok (.invokestatic 204, 3) := dk_184 0 204 (dk_at dksX1_counter_0 2 rfl rfl)
theorem dX1_counter_5 : decode cX1_counter 5 = .ok (.iconst 1, 1) := dk_4 (dk_at dksX1_counter_0 5 rfl rfl)
theorem dX1_counter_6 : decode cX1_counter 6 = .ok (.iconst 2, 1) := dk_5 (dk_at dksX1_counter_0 6 rfl rfl)
theorem dX1_counter_7 : decode cX1_counter 7 = .ok (.newarray .int, 2) := dk_188_10 (dk_at dksX1_counter_0 7 rfl rfl)
theorem dX1_counter_9 : decode cX1_counter 9 = .ok (.dup, 1) := dk_89 (dk_at dksX1_counter_0 9 rfl rfl)
theorem dX1_counter_10 : decode cX1_counter 10 = .ok (.iconst 0, 1) := dk_3 (dk_at dksX1_counter_0 10 rfl rfl)
theorem dX1_counter_11 : decode cX1_counter 11 = .ok (.iload_n 2, 1) := dk_28 (dk_at dksX1_counter_0 11 rfl rfl)
theorem dX1_counter_12 : decode cX1_counter 12 = .ok (.iastore, 1) := dk_79 (dk_at dksX1_counter_0 12 rfl rfl)
theorem dX1_counter_13 : decode cX1_counter 13 = .ok (.dup, 1) := dk_89 (dk_at dksX1_counter_0 13 rfl rfl)
theorem dX1_counter_14 : decode cX1_counter 14 = .ok (.iconst 1, 1) := dk_4 (dk_at dksX1_counter_0 14 rfl rfl)
theorem dX1_counter_15 : decode cX1_counter 15 = .ok (.iload_n 3, 1) := dk_29 (dk_at dksX1_counter_0 15 rfl rfl)
theorem dX1_counter_16 : decode cX1_counter 16 = .ok (.iastore, 1) := dk_79 (dk_at dksX1_counter_0 16 rfl rfl)
theorem dX1_counter_17 : decode cX1_counter 17 = .ok (.invokestatic 249, 3) := dk_184 0 249 (dk_at dksX1_counter_0 17 rfl rfl)
theorem dX1_counter_20 : decode cX1_counter 20 = .ok (.aload_n 0, 1) := dk_42 (dk_at dksX1_counter_0 20 rfl rfl)
theorem dX1_counter_21 : decode cX1_counter 21 = .ok (.getfield 52, 3) := dk_180 0 52 (dk_at dksX1_counter_0 21 rfl rfl)
theorem dX1_counter_24 : decode cX1_counter 24 = .ok (.iconst 2, 1) := dk_5 (dk_at dksX1_counter_1 0 rfl rfl)
theorem dX1_counter_25 : decode cX1_counter 25 = .ok (.if_icmp .ne 31, 3) := dk_160 0 31 (dk_at dksX1_counter_1 1 rfl rfl)
theorem dX1_counter_28 : decode cX1_counter 28 = .ok (.aload_n 0, 1) := dk_42 (dk_at dksX1_counter_1 4 rfl rfl)
theorem dX1_counter_29 : decode cX1_counter 29 = .ok (.getfield 335, 3) := dk_180 1 79 (dk_at dksX1_counter_1 5 rfl rfl)
theorem dX1_counter_32 : decode cX1_counter 32 = .ok (.ifnull 24, 3) := dk_198 0 24 (dk_at dksX1_counter_1 8 rfl rfl)
theorem dX1_counter_35 : decode cX1_counter 35 = .ok (.iload_n 1, 1) := dk_27 (dk_at dksX1_counter_1 11 rfl rfl)
theorem dX1_counter_36 : decode cX1_counter 36 = .ok (.aload_n 0, 1) := dk_42 (dk_at dksX1_counter_1 12 rfl rfl)
theorem dX1_counter_37 : decode cX1_counter 37 = .ok (.getfield 176, 3) := dk_180 0 176 (dk_at dksX1_counter_1 13 rfl rfl)
theorem dX1_counter_40 : decode cX1_counter 40 = .ok (.if_icmp .eq 16, 3) := dk_159 0 16 (dk_at dksX1_counter_1 16 rfl rfl)
theorem dX1_counter_43 : decode cX1_counter 43 = .ok (.aload_n 0, 1) := dk_42 (dk_at dksX1_counter_1 19 rfl rfl)
theorem dX1_counter_44 : decode cX1_counter 44 = .ok (.iload_n 1, 1) := dk_27 (dk_at dksX1_counter_1 20 rfl rfl)
theorem dX1_counter_45 : decode cX1_counter 45 = .ok (.iload_n 2, 1) := dk_28 (dk_at dksX1_counter_1 21 rfl rfl)
theorem dX1_counter_46 : decode cX1_counter 46 = .ok (.invokevirtual 256, 3) := dk_182 1 0 (dk_at dksX1_counter_2 0 rfl rfl)
theorem dX1_counter_49 : decode cX1_counter 49 = .ok (.ifCond .eq 7, 3) := dk_153 0 7 (dk_at dksX1_counter_2 3 rfl rfl)
theorem dX1_counter_52 : decode cX1_counter 52 = .ok (.iconst 1, 1) := dk_4 (dk_at dksX1_counter_2 6 rfl rfl)
theorem dX1_counter_53 : decode cX1_counter 53 = .ok (.goto 4, 3) := dk_167 0 4 (dk_at dksX1_counter_2 7 rfl rfl)
theorem dX1_counter_56 : decode cX1_counter 56 = .ok (.iconst 0, 1) := dk_3 (dk_at dksX1_counter_2 10 rfl rfl)
theorem dX1_counter_57 : decode cX1_counter 57 = .ok (.invokestatic 230, 3) := dk_184 0 230 (dk_at dksX1_counter_2 11 rfl rfl)
theorem dX1_counter_60 : decode cX1_counter 60 = .ok (.aload_n 0, 1) := dk_42 (dk_at dksX1_counter_2 14 rfl rfl)
theorem dX1_counter_61 : decode cX1_counter 61 = .ok (.getfield 48, 3) := dk_180 0 48 (dk_at dksX1_counter_2 15 rfl rfl)
theorem dX1_counter_64 : decode cX1_counter 64 = .ok (.iload_n 1, 1) := dk_27 (dk_at dksX1_counter_2 18 rfl rfl)
theorem dX1_counter_65 : decode cX1_counter 65 = .ok (.new 46, 3) := dk_187 0 46 (dk_at dksX1_counter_2 19 rfl rfl)
theorem dX1_counter_68 : decode cX1_counter 68 = .ok (.dup, 1) := dk_89 (dk_at dksX1_counter_2 22 rfl rfl)
theorem dX1_counter_69 : decode cX1_counter 69 = .ok (.iload_n 2, 1) := dk_28 (dk_at dksX1_counter_2 23 rfl rfl)
theorem dX1_counter_70 : decode cX1_counter 70 = .ok (.iload_n 3, 1) := dk_29 (dk_at dksX1_counter_3 0 rfl rfl)
theorem dX1_counter_71 : decode cX1_counter 71 = .ok (.invokespecial 342, 3) := dk_183 1 86 (dk_at dksX1_counter_3 1 rfl rfl)
theorem dX1_counter_74 : decode cX1_counter 74 = .ok (.aastore, 1) := dk_83 (dk_at dksX1_counter_3 4 rfl rfl)
theorem dX1_counter_75 : decode cX1_counter 75 = .ok (.return_, 1) := dk_177 (dk_at dksX1_counter_3 5 rfl rfl)
abbrev cX1_accept : ByteArray := prog_1_method_63_code
def yX1_accept : MethodName := ⟨RX1, "accept", "(I)I"⟩
def dkwX1_accept_2 : List UInt8 := [182, 1, 93, 42, 27, 182, 0, 195, 172]
abbrev dktX1_accept_2 : List UInt8 := dkwX1_accept_2 ++ []
def dkwX1_accept_1 : List UInt8 := [180, 0, 176, 159, 0, 7, 4, 167, 0, 4, 3, 184, 0, 230, 42, 42, 180, 0, 176, 27, 42, 180, 1, 79]
abbrev dktX1_accept_1 : List UInt8 := dkwX1_accept_1 ++ dktX1_accept_2
def dkwX1_accept_0 : List UInt8 := [27, 6, 184, 0, 204, 42, 180, 0, 52, 5, 160, 0, 22, 42, 180, 1, 79, 198, 0, 15, 27, 42]
abbrev dktX1_accept_0 : List UInt8 := dkwX1_accept_0 ++ dktX1_accept_1
theorem dksX1_accept_0 : cX1_accept.data.toList.drop 0 = dktX1_accept_0 := by decide +kernel
theorem dksX1_accept_1 : cX1_accept.data.toList.drop 22 = dktX1_accept_1 := dk_seg dksX1_accept_0 22 rfl rfl
theorem dksX1_accept_2 : cX1_accept.data.toList.drop 46 = dktX1_accept_2 := dk_seg dksX1_accept_1 24 rfl rfl
theorem dX1_accept_0 : decode cX1_accept 0 = .ok (.iload_n 1, 1) := dk_27 (dk_at dksX1_accept_0 0 rfl rfl)
theorem dX1_accept_1 : decode cX1_accept 1 = .ok (.iconst 3, 1) := dk_6 (dk_at dksX1_accept_0 1 rfl rfl)
theorem dX1_accept_2 : decode cX1_accept 2 = .ok (.invokestatic 204, 3) := dk_184 0 204 (dk_at dksX1_accept_0 2 rfl rfl)
theorem dX1_accept_5 : decode cX1_accept 5 = .ok (.aload_n 0, 1) := dk_42 (dk_at dksX1_accept_0 5 rfl rfl)
theorem dX1_accept_6 : decode cX1_accept 6 = .ok (.getfield 52, 3) := dk_180 0 52 (dk_at dksX1_accept_0 6 rfl rfl)
theorem dX1_accept_9 : decode cX1_accept 9 = .ok (.iconst 2, 1) := dk_5 (dk_at dksX1_accept_0 9 rfl rfl)
theorem dX1_accept_10 : decode cX1_accept 10 = .ok (.if_icmp .ne 22, 3) := dk_160 0 22 (dk_at dksX1_accept_0 10 rfl rfl)
theorem dX1_accept_13 : decode cX1_accept 13 = .ok (.aload_n 0, 1) := dk_42 (dk_at dksX1_accept_0 13 rfl rfl)
theorem dX1_accept_14 : decode cX1_accept 14 = .ok (.getfield 335, 3) := dk_180 1 79 (dk_at dksX1_accept_0 14 rfl rfl)
theorem dX1_accept_17 : decode cX1_accept 17 = .ok (.ifnull 15, 3) := dk_198 0 15 (dk_at dksX1_accept_0 17 rfl rfl)
theorem dX1_accept_20 : decode cX1_accept 20 = .ok (.iload_n 1, 1) := dk_27 (dk_at dksX1_accept_0 20 rfl rfl)
theorem dX1_accept_21 : decode cX1_accept 21 = .ok (.aload_n 0, 1) := dk_42 (dk_at dksX1_accept_0 21 rfl rfl)
theorem dX1_accept_22 : decode cX1_accept 22 = .ok (.getfield 176, 3) := dk_180 0 176 (dk_at dksX1_accept_1 0 rfl rfl)
theorem dX1_accept_25 : decode cX1_accept 25 = .ok (.if_icmp .eq 7, 3) := dk_159 0 7 (dk_at dksX1_accept_1 3 rfl rfl)
theorem dX1_accept_28 : decode cX1_accept 28 = .ok (.iconst 1, 1) := dk_4 (dk_at dksX1_accept_1 6 rfl rfl)
theorem dX1_accept_29 : decode cX1_accept 29 = .ok (.goto 4, 3) := dk_167 0 4 (dk_at dksX1_accept_1 7 rfl rfl)
theorem dX1_accept_32 : decode cX1_accept 32 = .ok (.iconst 0, 1) := dk_3 (dk_at dksX1_accept_1 10 rfl rfl)
theorem dX1_accept_33 : decode cX1_accept 33 = .ok (.invokestatic 230, 3) := dk_184 0 230 (dk_at dksX1_accept_1 11 rfl rfl)
theorem dX1_accept_36 : decode cX1_accept 36 = .ok (.aload_n 0, 1) := dk_42 (dk_at dksX1_accept_1 14 rfl rfl)
theorem dX1_accept_37 : decode cX1_accept 37 = .ok (.aload_n 0, 1) := dk_42 (dk_at dksX1_accept_1 15 rfl rfl)
theorem dX1_accept_38 : decode cX1_accept 38 = .ok (.getfield 176, 3) := dk_180 0 176 (dk_at dksX1_accept_1 16 rfl rfl)
theorem dX1_accept_41 : decode cX1_accept 41 = .ok (.iload_n 1, 1) := dk_27 (dk_at dksX1_accept_1 19 rfl rfl)
theorem dX1_accept_42 : decode cX1_accept 42 = .ok (.aload_n 0, 1) := dk_42 (dk_at dksX1_accept_1 20 rfl rfl)
theorem dX1_accept_43 : decode cX1_accept 43 = .ok (.getfield 335, 3) := dk_180 1 79 (dk_at dksX1_accept_1 21 rfl rfl)
theorem dX1_accept_46 : decode cX1_accept 46 = .ok (.invokevirtual 349, 3) := dk_182 1 93 (dk_at dksX1_accept_2 0 rfl rfl)
theorem dX1_accept_49 : decode cX1_accept 49 = .ok (.aload_n 0, 1) := dk_42 (dk_at dksX1_accept_2 3 rfl rfl)
theorem dX1_accept_50 : decode cX1_accept 50 = .ok (.iload_n 1, 1) := dk_27 (dk_at dksX1_accept_2 4 rfl rfl)
theorem dX1_accept_51 : decode cX1_accept 51 = .ok (.invokevirtual 195, 3) := dk_182 0 195 (dk_at dksX1_accept_2 5 rfl rfl)
theorem dX1_accept_54 : decode cX1_accept 54 = .ok (.ireturn, 1) := dk_172 (dk_at dksX1_accept_2 8 rfl rfl)
abbrev cX1_change : ByteArray := prog_1_method_62_code
def yX1_change : MethodName := ⟨RX1, "change", "(IILHexstead$Offer;)V"⟩
def dkwX1_change_2 : List UInt8 := [180, 1, 90, 182, 0, 224, 42, 182, 1, 83, 177]
abbrev dktX1_change_2 : List UInt8 := dkwX1_change_2 ++ []
def dkwX1_change_1 : List UInt8 := [4, 167, 0, 4, 3, 184, 0, 230, 42, 27, 28, 45, 180, 1, 88, 182, 0, 224, 42, 28, 27, 45]
abbrev dktX1_change_1 : List UInt8 := dkwX1_change_1 ++ dktX1_change_2
def dkwX1_change_0 : List UInt8 := [42, 27, 45, 180, 1, 88, 182, 1, 0, 153, 0, 19, 42, 28, 45, 180, 1, 90, 182, 1, 0, 153, 0, 7]
abbrev dktX1_change_0 : List UInt8 := dkwX1_change_0 ++ dktX1_change_1
theorem dksX1_change_0 : cX1_change.data.toList.drop 0 = dktX1_change_0 := by decide +kernel
theorem dksX1_change_1 : cX1_change.data.toList.drop 24 = dktX1_change_1 := dk_seg dksX1_change_0 24 rfl rfl
theorem dksX1_change_2 : cX1_change.data.toList.drop 46 = dktX1_change_2 := dk_seg dksX1_change_1 22 rfl rfl
theorem dX1_change_0 : decode cX1_change 0 = .ok (.aload_n 0, 1) := dk_42 (dk_at dksX1_change_0 0 rfl rfl)
theorem dX1_change_1 : decode cX1_change 1 = .ok (.iload_n 1, 1) := dk_27 (dk_at dksX1_change_0 1 rfl rfl)
theorem dX1_change_2 : decode cX1_change 2 = .ok (.aload_n 3, 1) := dk_45 (dk_at dksX1_change_0 2 rfl rfl)
theorem dX1_change_3 : decode cX1_change 3 = .ok (.getfield 344, 3) := dk_180 1 88 (dk_at dksX1_change_0 3 rfl rfl)
theorem dX1_change_6 : decode cX1_change 6 = .ok (.invokevirtual 256, 3) := dk_182 1 0 (dk_at dksX1_change_0 6 rfl rfl)
theorem dX1_change_9 : decode cX1_change 9 = .ok (.ifCond .eq 19, 3) := dk_153 0 19 (dk_at dksX1_change_0 9 rfl rfl)
theorem dX1_change_12 : decode cX1_change 12 = .ok (.aload_n 0, 1) := dk_42 (dk_at dksX1_change_0 12 rfl rfl)
theorem dX1_change_13 : decode cX1_change 13 = .ok (.iload_n 2, 1) := dk_28 (dk_at dksX1_change_0 13 rfl rfl)
theorem dX1_change_14 : decode cX1_change 14 = .ok (.aload_n 3, 1) := dk_45 (dk_at dksX1_change_0 14 rfl rfl)
theorem dX1_change_15 : decode cX1_change 15 = .ok (.getfield 346, 3) := dk_180 1 90 (dk_at dksX1_change_0 15 rfl rfl)
theorem dX1_change_18 : decode cX1_change 18 = .ok (.invokevirtual 256, 3) := dk_182 1 0 (dk_at dksX1_change_0 18 rfl rfl)
theorem dX1_change_21 : decode cX1_change 21 = .ok (.ifCond .eq 7, 3) := dk_153 0 7 (dk_at dksX1_change_0 21 rfl rfl)
theorem dX1_change_24 : decode cX1_change 24 = .ok (.iconst 1, 1) := dk_4 (dk_at dksX1_change_1 0 rfl rfl)
theorem dX1_change_25 : decode cX1_change 25 = .ok (.goto 4, 3) := dk_167 0 4 (dk_at dksX1_change_1 1 rfl rfl)
theorem dX1_change_28 : decode cX1_change 28 = .ok (.iconst 0, 1) := dk_3 (dk_at dksX1_change_1 4 rfl rfl)
theorem dX1_change_29 : decode cX1_change 29 = .ok (.invokestatic 230, 3) := dk_184 0 230 (dk_at dksX1_change_1 5 rfl rfl)
theorem dX1_change_32 : decode cX1_change 32 = .ok (.aload_n 0, 1) := dk_42 (dk_at dksX1_change_1 8 rfl rfl)
theorem dX1_change_33 : decode cX1_change 33 = .ok (.iload_n 1, 1) := dk_27 (dk_at dksX1_change_1 9 rfl rfl)
theorem dX1_change_34 : decode cX1_change 34 = .ok (.iload_n 2, 1) := dk_28 (dk_at dksX1_change_1 10 rfl rfl)
theorem dX1_change_35 : decode cX1_change 35 = .ok (.aload_n 3, 1) := dk_45 (dk_at dksX1_change_1 11 rfl rfl)
theorem dX1_change_36 : decode cX1_change 36 = .ok (.getfield 344, 3) := dk_180 1 88 (dk_at dksX1_change_1 12 rfl rfl)
theorem dX1_change_39 : decode cX1_change 39 = .ok (.invokevirtual 224, 3) := dk_182 0 224 (dk_at dksX1_change_1 15 rfl rfl)
theorem dX1_change_42 : decode cX1_change 42 = .ok (.aload_n 0, 1) := dk_42 (dk_at dksX1_change_1 18 rfl rfl)
theorem dX1_change_43 : decode cX1_change 43 = .ok (.iload_n 2, 1) := dk_28 (dk_at dksX1_change_1 19 rfl rfl)
theorem dX1_change_44 : decode cX1_change 44 = .ok (.iload_n 1, 1) := dk_27 (dk_at dksX1_change_1 20 rfl rfl)
theorem dX1_change_45 : decode cX1_change 45 = .ok (.aload_n 3, 1) := dk_45 (dk_at dksX1_change_1 21 rfl rfl)
theorem dX1_change_46 : decode cX1_change 46 = .ok (.getfield 346, 3) := dk_180 1 90 (dk_at dksX1_change_2 0 rfl rfl)
theorem dX1_change_49 : decode cX1_change 49 = .ok (.invokevirtual 224, 3) := dk_182 0 224 (dk_at dksX1_change_2 3 rfl rfl)
theorem dX1_change_52 : decode cX1_change 52 = .ok (.aload_n 0, 1) := dk_42 (dk_at dksX1_change_2 6 rfl rfl)
theorem dX1_change_53 : decode cX1_change 53 = .ok (.invokevirtual 339, 3) := dk_182 1 83 (dk_at dksX1_change_2 7 rfl rfl)
theorem dX1_change_56 : decode cX1_change 56 = .ok (.return_, 1) := dk_177 (dk_at dksX1_change_2 10 rfl rfl)
abbrev cX1_agree : ByteArray := prog_1_method_64_code
def yX1_agree : MethodName := ⟨RX1, "agree", "(I)I"⟩
def dkwX1_agree_2 : List UInt8 := [180, 0, 176, 182, 0, 195, 172]
abbrev dktX1_agree_2 : List UInt8 := dkwX1_agree_2 ++ []
def dkwX1_agree_1 : List UInt8 := [167, 0, 4, 3, 184, 0, 230, 42, 27, 42, 180, 0, 176, 42, 180, 0, 48, 27, 50, 182, 1, 93, 42, 42]
abbrev dktX1_agree_1 : List UInt8 := dkwX1_agree_1 ++ dktX1_agree_2
def dkwX1_agree_0 : List UInt8 := [27, 6, 184, 0, 204, 42, 180, 0, 52, 5, 160, 0, 16, 42, 180, 0, 48, 27, 50, 198, 0, 7, 4]
abbrev dktX1_agree_0 : List UInt8 := dkwX1_agree_0 ++ dktX1_agree_1
theorem dksX1_agree_0 : cX1_agree.data.toList.drop 0 = dktX1_agree_0 := by decide +kernel
theorem dksX1_agree_1 : cX1_agree.data.toList.drop 23 = dktX1_agree_1 := dk_seg dksX1_agree_0 23 rfl rfl
theorem dksX1_agree_2 : cX1_agree.data.toList.drop 47 = dktX1_agree_2 := dk_seg dksX1_agree_1 24 rfl rfl
theorem dX1_agree_0 : decode cX1_agree 0 = .ok (.iload_n 1, 1) := dk_27 (dk_at dksX1_agree_0 0 rfl rfl)
theorem dX1_agree_1 : decode cX1_agree 1 = .ok (.iconst 3, 1) := dk_6 (dk_at dksX1_agree_0 1 rfl rfl)
theorem dX1_agree_2 : decode cX1_agree 2 = .ok (.invokestatic 204, 3) := dk_184 0 204 (dk_at dksX1_agree_0 2 rfl rfl)
theorem dX1_agree_5 : decode cX1_agree 5 = .ok (.aload_n 0, 1) := dk_42 (dk_at dksX1_agree_0 5 rfl rfl)
theorem dX1_agree_6 : decode cX1_agree 6 = .ok (.getfield 52, 3) := dk_180 0 52 (dk_at dksX1_agree_0 6 rfl rfl)
theorem dX1_agree_9 : decode cX1_agree 9 = .ok (.iconst 2, 1) := dk_5 (dk_at dksX1_agree_0 9 rfl rfl)
theorem dX1_agree_10 : decode cX1_agree 10 = .ok (.if_icmp .ne 16, 3) := dk_160 0 16 (dk_at dksX1_agree_0 10 rfl rfl)
theorem dX1_agree_13 : decode cX1_agree 13 = .ok (.aload_n 0, 1) := dk_42 (dk_at dksX1_agree_0 13 rfl rfl)
theorem dX1_agree_14 : decode cX1_agree 14 = .ok (.getfield 48, 3) := dk_180 0 48 (dk_at dksX1_agree_0 14 rfl rfl)
theorem dX1_agree_17 : decode cX1_agree 17 = .ok (.iload_n 1, 1) := dk_27 (dk_at dksX1_agree_0 17 rfl rfl)
theorem dX1_agree_18 : decode cX1_agree 18 = .ok (.aaload, 1) := dk_50 (dk_at dksX1_agree_0 18 rfl rfl)
theorem dX1_agree_19 : decode cX1_agree 19 = .ok (.ifnull 7, 3) := dk_198 0 7 (dk_at dksX1_agree_0 19 rfl rfl)
theorem dX1_agree_22 : decode cX1_agree 22 = .ok (.iconst 1, 1) := dk_4 (dk_at dksX1_agree_0 22 rfl rfl)
theorem dX1_agree_23 : decode cX1_agree 23 = .ok (.goto 4, 3) := dk_167 0 4 (dk_at dksX1_agree_1 0 rfl rfl)
theorem dX1_agree_26 : decode cX1_agree 26 = .ok (.iconst 0, 1) := dk_3 (dk_at dksX1_agree_1 3 rfl rfl)
theorem dX1_agree_27 : decode cX1_agree 27 = .ok (.invokestatic 230, 3) := dk_184 0 230 (dk_at dksX1_agree_1 4 rfl rfl)
theorem dX1_agree_30 : decode cX1_agree 30 = .ok (.aload_n 0, 1) := dk_42 (dk_at dksX1_agree_1 7 rfl rfl)
theorem dX1_agree_31 : decode cX1_agree 31 = .ok (.iload_n 1, 1) := dk_27 (dk_at dksX1_agree_1 8 rfl rfl)
theorem dX1_agree_32 : decode cX1_agree 32 = .ok (.aload_n 0, 1) := dk_42 (dk_at dksX1_agree_1 9 rfl rfl)
theorem dX1_agree_33 : decode cX1_agree 33 = .ok (.getfield 176, 3) := dk_180 0 176 (dk_at dksX1_agree_1 10 rfl rfl)
theorem dX1_agree_36 : decode cX1_agree 36 = .ok (.aload_n 0, 1) := dk_42 (dk_at dksX1_agree_1 13 rfl rfl)
theorem dX1_agree_37 : decode cX1_agree 37 = .ok (.getfield 48, 3) := dk_180 0 48 (dk_at dksX1_agree_1 14 rfl rfl)
theorem dX1_agree_40 : decode cX1_agree 40 = .ok (.iload_n 1, 1) := dk_27 (dk_at dksX1_agree_1 17 rfl rfl)
theorem dX1_agree_41 : decode cX1_agree 41 = .ok (.aaload, 1) := dk_50 (dk_at dksX1_agree_1 18 rfl rfl)
theorem dX1_agree_42 : decode cX1_agree 42 = .ok (.invokevirtual 349, 3) := dk_182 1 93 (dk_at dksX1_agree_1 19 rfl rfl)
theorem dX1_agree_45 : decode cX1_agree 45 = .ok (.aload_n 0, 1) := dk_42 (dk_at dksX1_agree_1 22 rfl rfl)
theorem dX1_agree_46 : decode cX1_agree 46 = .ok (.aload_n 0, 1) := dk_42 (dk_at dksX1_agree_1 23 rfl rfl)
theorem dX1_agree_47 : decode cX1_agree 47 = .ok (.getfield 176, 3) := dk_180 0 176 (dk_at dksX1_agree_2 0 rfl rfl)
theorem dX1_agree_50 : decode cX1_agree 50 = .ok (.invokevirtual 195, 3) := dk_182 0 195 (dk_at dksX1_agree_2 3 rfl rfl)
theorem dX1_agree_53 : decode cX1_agree 53 = .ok (.ireturn, 1) := dk_172 (dk_at dksX1_agree_2 6 rfl rfl)
abbrev cX1_endTurn : ByteArray := prog_1_method_65_code
def yX1_endTurn : MethodName := ⟨RX1, "endTurn", "()I"⟩
def dkwX1_endTurn_2 : List UInt8 := [181, 0, 192, 42, 4, 181, 0, 52, 42, 182, 0, 221, 42, 180, 0, 176, 172]
abbrev dktX1_endTurn_2 : List UInt8 := dkwX1_endTurn_2 ++ []
def dkwX1_endTurn_1 : List UInt8 := [180, 0, 176, 4, 96, 6, 112, 181, 0, 176, 42, 89, 180, 0, 185, 4, 96, 181, 0, 185, 42, 3]
abbrev dktX1_endTurn_1 : List UInt8 := dkwX1_endTurn_1 ++ dktX1_endTurn_2
def dkwX1_endTurn_0 : List UInt8 := [42, 180, 0, 52, 5, 160, 0, 7, 4, 167, 0, 4, 3, 184, 0, 230, 42, 182, 1, 83, 42, 42]
abbrev dktX1_endTurn_0 : List UInt8 := dkwX1_endTurn_0 ++ dktX1_endTurn_1
theorem dksX1_endTurn_0 : cX1_endTurn.data.toList.drop 0 = dktX1_endTurn_0 := by decide +kernel
theorem dksX1_endTurn_1 : cX1_endTurn.data.toList.drop 22 = dktX1_endTurn_1 := dk_seg dksX1_endTurn_0 22 rfl rfl
theorem dksX1_endTurn_2 : cX1_endTurn.data.toList.drop 44 = dktX1_endTurn_2 := dk_seg dksX1_endTurn_1 22 rfl rfl
theorem dX1_endTurn_0 : decode cX1_endTurn 0 = .ok (.aload_n 0, 1) := dk_42 (dk_at dksX1_endTurn_0 0 rfl rfl)
theorem dX1_endTurn_1 : decode cX1_endTurn 1 = .ok (.getfield 52, 3) := dk_180 0 52 (dk_at dksX1_endTurn_0 1 rfl rfl)
theorem dX1_endTurn_4 : decode cX1_endTurn 4 = .ok (.iconst 2, 1) := dk_5 (dk_at dksX1_endTurn_0 4 rfl rfl)
theorem dX1_endTurn_5 : decode cX1_endTurn 5 = .ok (.if_icmp .ne 7, 3) := dk_160 0 7 (dk_at dksX1_endTurn_0 5 rfl rfl)
theorem dX1_endTurn_8 : decode cX1_endTurn 8 = .ok (.iconst 1, 1) := dk_4 (dk_at dksX1_endTurn_0 8 rfl rfl)
theorem dX1_endTurn_9 : decode cX1_endTurn 9 = .ok (.goto 4, 3) := dk_167 0 4 (dk_at dksX1_endTurn_0 9 rfl rfl)
theorem dX1_endTurn_12 : decode cX1_endTurn 12 = .ok (.iconst 0, 1) := dk_3 (dk_at dksX1_endTurn_0 12 rfl rfl)
theorem dX1_endTurn_13 : decode cX1_endTurn 13 = .ok (.invokestatic 230, 3) := dk_184 0 230 (dk_at dksX1_endTurn_0 13 rfl rfl)
theorem dX1_endTurn_16 : decode cX1_endTurn 16 = .ok (.aload_n 0, 1) := dk_42 (dk_at dksX1_endTurn_0 16 rfl rfl)
theorem dX1_endTurn_17 : decode cX1_endTurn 17 = .ok (.invokevirtual 339, 3) := dk_182 1 83 (dk_at dksX1_endTurn_0 17 rfl rfl)
theorem dX1_endTurn_20 : decode cX1_endTurn 20 = .ok (.aload_n 0, 1) := dk_42 (dk_at dksX1_endTurn_0 20 rfl rfl)
theorem dX1_endTurn_21 : decode cX1_endTurn 21 = .ok (.aload_n 0, 1) := dk_42 (dk_at dksX1_endTurn_0 21 rfl rfl)
theorem dX1_endTurn_22 : decode cX1_endTurn 22 = .ok (.getfield 176, 3) := dk_180 0 176 (dk_at dksX1_endTurn_1 0 rfl rfl)
theorem dX1_endTurn_25 : decode cX1_endTurn 25 = .ok (.iconst 1, 1) := dk_4 (dk_at dksX1_endTurn_1 3 rfl rfl)
theorem dX1_endTurn_26 : decode cX1_endTurn 26 = .ok (.iadd, 1) := dk_96 (dk_at dksX1_endTurn_1 4 rfl rfl)
theorem dX1_endTurn_27 : decode cX1_endTurn 27 = .ok (.iconst 3, 1) := dk_6 (dk_at dksX1_endTurn_1 5 rfl rfl)
theorem dX1_endTurn_28 : decode cX1_endTurn 28 = .ok (.irem, 1) := dk_112 (dk_at dksX1_endTurn_1 6 rfl rfl)
theorem dX1_endTurn_29 : decode cX1_endTurn 29 = .ok (.putfield 176, 3) := dk_181 0 176 (dk_at dksX1_endTurn_1 7 rfl rfl)
theorem dX1_endTurn_32 : decode cX1_endTurn 32 = .ok (.aload_n 0, 1) := dk_42 (dk_at dksX1_endTurn_1 10 rfl rfl)
theorem dX1_endTurn_33 : decode cX1_endTurn 33 = .ok (.dup, 1) := dk_89 (dk_at dksX1_endTurn_1 11 rfl rfl)
theorem dX1_endTurn_34 : decode cX1_endTurn 34 = .ok (.getfield 185, 3) := dk_180 0 185 (dk_at dksX1_endTurn_1 12 rfl rfl)
theorem dX1_endTurn_37 : decode cX1_endTurn 37 = .ok (.iconst 1, 1) := dk_4 (dk_at dksX1_endTurn_1 15 rfl rfl)
theorem dX1_endTurn_38 : decode cX1_endTurn 38 = .ok (.iadd, 1) := dk_96 (dk_at dksX1_endTurn_1 16 rfl rfl)
theorem dX1_endTurn_39 : decode cX1_endTurn 39 = .ok (.putfield 185, 3) := dk_181 0 185 (dk_at dksX1_endTurn_1 17 rfl rfl)
theorem dX1_endTurn_42 : decode cX1_endTurn 42 = .ok (.aload_n 0, 1) := dk_42 (dk_at dksX1_endTurn_1 20 rfl rfl)
theorem dX1_endTurn_43 : decode cX1_endTurn 43 = .ok (.iconst 0, 1) := dk_3 (dk_at dksX1_endTurn_1 21 rfl rfl)
theorem dX1_endTurn_44 : decode cX1_endTurn 44 = .ok (.putfield 192, 3) := dk_181 0 192 (dk_at dksX1_endTurn_2 0 rfl rfl)
theorem dX1_endTurn_47 : decode cX1_endTurn 47 = .ok (.aload_n 0, 1) := dk_42 (dk_at dksX1_endTurn_2 3 rfl rfl)
theorem dX1_endTurn_48 : decode cX1_endTurn 48 = .ok (.iconst 1, 1) := dk_4 (dk_at dksX1_endTurn_2 4 rfl rfl)
theorem dX1_endTurn_49 : decode cX1_endTurn 49 = .ok (.putfield 52, 3) := dk_181 0 52 (dk_at dksX1_endTurn_2 5 rfl rfl)
theorem dX1_endTurn_52 : decode cX1_endTurn 52 = .ok (.aload_n 0, 1) := dk_42 (dk_at dksX1_endTurn_2 8 rfl rfl)
theorem dX1_endTurn_53 : decode cX1_endTurn 53 = .ok (.invokevirtual 221, 3) := dk_182 0 221 (dk_at dksX1_endTurn_2 9 rfl rfl)
theorem dX1_endTurn_56 : decode cX1_endTurn 56 = .ok (.aload_n 0, 1) := dk_42 (dk_at dksX1_endTurn_2 12 rfl rfl)
theorem dX1_endTurn_57 : decode cX1_endTurn 57 = .ok (.getfield 176, 3) := dk_180 0 176 (dk_at dksX1_endTurn_2 13 rfl rfl)
theorem dX1_endTurn_60 : decode cX1_endTurn 60 = .ok (.ireturn, 1) := dk_172 (dk_at dksX1_endTurn_2 16 rfl rfl)
abbrev cX1_hand : ByteArray := prog_1_method_68_code
def yX1_hand : MethodName := ⟨RX1, "hand", "(II)I"⟩
def dkwX1_hand_0 : List UInt8 := [27, 7, 184, 0, 204, 28, 184, 1, 64, 42, 180, 0, 27, 27, 50, 28, 46, 172]
abbrev dktX1_hand_0 : List UInt8 := dkwX1_hand_0 ++ []
theorem dksX1_hand_0 : cX1_hand.data.toList.drop 0 = dktX1_hand_0 := by decide +kernel
theorem dX1_hand_0 : decode cX1_hand 0 = .ok (.iload_n 1, 1) := dk_27 (dk_at dksX1_hand_0 0 rfl rfl)
theorem dX1_hand_1 : decode cX1_hand 1 = .ok (.iconst 4, 1) := dk_7 (dk_at dksX1_hand_0 1 rfl rfl)
theorem dX1_hand_2 : decode cX1_hand 2 = .ok (.invokestatic 204, 3) := dk_184 0 204 (dk_at dksX1_hand_0 2 rfl rfl)
theorem dX1_hand_5 : decode cX1_hand 5 = .ok (.iload_n 2, 1) := dk_28 (dk_at dksX1_hand_0 5 rfl rfl)
theorem dX1_hand_6 : decode cX1_hand 6 = .ok (.invokestatic 320, 3) := dk_184 1 64 (dk_at dksX1_hand_0 6 rfl rfl)
theorem dX1_hand_9 : decode cX1_hand 9 = .ok (.aload_n 0, 1) := dk_42 (dk_at dksX1_hand_0 9 rfl rfl)
theorem dX1_hand_10 : decode cX1_hand 10 = .ok (.getfield 27, 3) := dk_180 0 27 (dk_at dksX1_hand_0 10 rfl rfl)
theorem dX1_hand_13 : decode cX1_hand 13 = .ok (.iload_n 1, 1) := dk_27 (dk_at dksX1_hand_0 13 rfl rfl)
theorem dX1_hand_14 : decode cX1_hand 14 = .ok (.aaload, 1) := dk_50 (dk_at dksX1_hand_0 14 rfl rfl)
theorem dX1_hand_15 : decode cX1_hand 15 = .ok (.iload_n 2, 1) := dk_28 (dk_at dksX1_hand_0 15 rfl rfl)
theorem dX1_hand_16 : decode cX1_hand 16 = .ok (.iaload, 1) := dk_46 (dk_at dksX1_hand_0 16 rfl rfl)
theorem dX1_hand_17 : decode cX1_hand 17 = .ok (.ireturn, 1) := dk_172 (dk_at dksX1_hand_0 17 rfl rfl)
abbrev cX1_handByMoves : ByteArray := prog_1_method_69_code
def yX1_handByMoves : MethodName := ⟨RX1, "handByMoves", "(II)I"⟩
def dkwX1_handByMoves_3 : List UInt8 := [172]
abbrev dktX1_handByMoves_3 : List UInt8 := dkwX1_handByMoves_3 ++ []
def dkwX1_handByMoves_2 : List UInt8 := [185, 0, 161, 1, 0, 192, 0, 101, 58, 5, 29, 25, 5, 27, 28, 182, 1, 97, 96, 62, 167, 255, 224, 29]
abbrev dktX1_handByMoves_2 : List UInt8 := dkwX1_handByMoves_2 ++ dktX1_handByMoves_3
def dkwX1_handByMoves_1 : List UInt8 := [180, 0, 43, 185, 0, 151, 1, 0, 58, 4, 25, 4, 185, 0, 155, 1, 0, 153, 0, 28, 25, 4]
abbrev dktX1_handByMoves_1 : List UInt8 := dkwX1_handByMoves_1 ++ dktX1_handByMoves_2
def dkwX1_handByMoves_0 : List UInt8 := [27, 7, 184, 0, 204, 28, 184, 1, 64, 27, 6, 160, 0, 8, 16, 12, 167, 0, 4, 3, 62, 42]
abbrev dktX1_handByMoves_0 : List UInt8 := dkwX1_handByMoves_0 ++ dktX1_handByMoves_1
theorem dksX1_handByMoves_0 : cX1_handByMoves.data.toList.drop 0 = dktX1_handByMoves_0 := by decide +kernel
theorem dksX1_handByMoves_1 : cX1_handByMoves.data.toList.drop 22 = dktX1_handByMoves_1 := dk_seg dksX1_handByMoves_0 22 rfl rfl
theorem dksX1_handByMoves_2 : cX1_handByMoves.data.toList.drop 44 = dktX1_handByMoves_2 := dk_seg dksX1_handByMoves_1 22 rfl rfl
theorem dksX1_handByMoves_3 : cX1_handByMoves.data.toList.drop 68 = dktX1_handByMoves_3 := dk_seg dksX1_handByMoves_2 24 rfl rfl
theorem dX1_handByMoves_0 : decode cX1_handByMoves 0 = .ok (.iload_n 1, 1) := dk_27 (dk_at dksX1_handByMoves_0 0 rfl rfl)
theorem dX1_handByMoves_1 : decode cX1_handByMoves 1 = .ok (.iconst 4, 1) := dk_7 (dk_at dksX1_handByMoves_0 1 rfl rfl)
theorem dX1_handByMoves_2 : decode cX1_handByMoves 2 = .ok (.invokestatic 204, 3) := dk_184 0 204 (dk_at dksX1_handByMoves_0 2 rfl rfl)
theorem dX1_handByMoves_5 : decode cX1_handByMoves 5 = .ok (.iload_n 2, 1) := dk_28 (dk_at dksX1_handByMoves_0 5 rfl rfl)
theorem dX1_handByMoves_6 : decode cX1_handByMoves 6 = .ok (.invokestatic 320, 3) := dk_184 1 64 (dk_at dksX1_handByMoves_0 6 rfl rfl)
theorem dX1_handByMoves_9 : decode cX1_handByMoves 9 = .ok (.iload_n 1, 1) := dk_27 (dk_at dksX1_handByMoves_0 9 rfl rfl)
theorem dX1_handByMoves_10 : decode cX1_handByMoves 10 = .ok (.iconst 3, 1) := dk_6 (dk_at dksX1_handByMoves_0 10 rfl rfl)
theorem dX1_handByMoves_11 : decode cX1_handByMoves 11 = .ok (.if_icmp .ne 8, 3) := dk_160 0 8 (dk_at dksX1_handByMoves_0 11 rfl rfl)
theorem dX1_handByMoves_14 : decode cX1_handByMoves 14 = .ok (.bipush 12, 2) := dk_16 12 (dk_at dksX1_handByMoves_0 14 rfl rfl)
theorem dX1_handByMoves_16 : decode cX1_handByMoves 16 = .ok (.goto 4, 3) := dk_167 0 4 (dk_at dksX1_handByMoves_0 16 rfl rfl)
theorem dX1_handByMoves_19 : decode cX1_handByMoves 19 = .ok (.iconst 0, 1) := dk_3 (dk_at dksX1_handByMoves_0 19 rfl rfl)
theorem dX1_handByMoves_20 : decode cX1_handByMoves 20 = .ok (.istore_n 3, 1) := dk_62 (dk_at dksX1_handByMoves_0 20 rfl rfl)
theorem dX1_handByMoves_21 : decode cX1_handByMoves 21 = .ok (.aload_n 0, 1) := dk_42 (dk_at dksX1_handByMoves_0 21 rfl rfl)
theorem dX1_handByMoves_22 : decode cX1_handByMoves 22 = .ok (.getfield 43, 3) := dk_180 0 43 (dk_at dksX1_handByMoves_1 0 rfl rfl)
theorem dX1_handByMoves_25 : decode cX1_handByMoves 25 = .ok (.invokeinterface 151 1, 5) := by decide +kernel
theorem dX1_handByMoves_30 : decode cX1_handByMoves 30 = .ok (.astore 4, 2) := dk_58 4 (dk_at dksX1_handByMoves_1 8 rfl rfl)
theorem dX1_handByMoves_32 : decode cX1_handByMoves 32 = .ok (.aload 4, 2) := dk_25 4 (dk_at dksX1_handByMoves_1 10 rfl rfl)
theorem dX1_handByMoves_34 : decode cX1_handByMoves 34 = .ok (.invokeinterface 155 1, 5) := by decide +kernel
theorem dX1_handByMoves_39 : decode cX1_handByMoves 39 = .ok (.ifCond .eq 28, 3) := dk_153 0 28 (dk_at dksX1_handByMoves_1 17 rfl rfl)
theorem dX1_handByMoves_42 : decode cX1_handByMoves 42 = .ok (.aload 4, 2) := dk_25 4 (dk_at dksX1_handByMoves_1 20 rfl rfl)
theorem dX1_handByMoves_44 : decode cX1_handByMoves 44 = .ok (.invokeinterface 161 1, 5) := by decide +kernel
theorem dX1_handByMoves_49 : decode cX1_handByMoves 49 = .ok (.checkcast 101, 3) := dk_192 0 101 (dk_at dksX1_handByMoves_2 5 rfl rfl)
theorem dX1_handByMoves_52 : decode cX1_handByMoves 52 = .ok (.astore 5, 2) := dk_58 5 (dk_at dksX1_handByMoves_2 8 rfl rfl)
theorem dX1_handByMoves_54 : decode cX1_handByMoves 54 = .ok (.iload_n 3, 1) := dk_29 (dk_at dksX1_handByMoves_2 10 rfl rfl)
theorem dX1_handByMoves_55 : decode cX1_handByMoves 55 = .ok (.aload 5, 2) := dk_25 5 (dk_at dksX1_handByMoves_2 11 rfl rfl)
theorem dX1_handByMoves_57 : decode cX1_handByMoves 57 = .ok (.iload_n 1, 1) := dk_27 (dk_at dksX1_handByMoves_2 13 rfl rfl)
theorem dX1_handByMoves_58 : decode cX1_handByMoves 58 = .ok (.iload_n 2, 1) := dk_28 (dk_at dksX1_handByMoves_2 14 rfl rfl)
theorem dX1_handByMoves_59 : decode cX1_handByMoves 59 = .ok (.invokevirtual 353, 3) := dk_182 1 97 (dk_at dksX1_handByMoves_2 15 rfl rfl)
theorem dX1_handByMoves_62 : decode cX1_handByMoves 62 = .ok (.iadd, 1) := dk_96 (dk_at dksX1_handByMoves_2 18 rfl rfl)
theorem dX1_handByMoves_63 : decode cX1_handByMoves 63 = .ok (.istore_n 3, 1) := dk_62 (dk_at dksX1_handByMoves_2 19 rfl rfl)
theorem dX1_handByMoves_64 : decode cX1_handByMoves 64 = .ok (.goto (-32), 3) := dk_167 255 224 (dk_at dksX1_handByMoves_2 20 rfl rfl)
theorem dX1_handByMoves_67 : decode cX1_handByMoves 67 = .ok (.iload_n 3, 1) := dk_29 (dk_at dksX1_handByMoves_2 23 rfl rfl)
theorem dX1_handByMoves_68 : decode cX1_handByMoves 68 = .ok (.ireturn, 1) := dk_172 (dk_at dksX1_handByMoves_3 0 rfl rfl)
abbrev cX1_due : ByteArray := prog_1_method_70_code
def yX1_due : MethodName := ⟨RX1, "due", "(I)I"⟩
def dkwX1_due_0 : List UInt8 := [27, 6, 184, 0, 204, 42, 180, 0, 30, 27, 46, 172]
abbrev dktX1_due_0 : List UInt8 := dkwX1_due_0 ++ []
theorem dksX1_due_0 : cX1_due.data.toList.drop 0 = dktX1_due_0 := by decide +kernel
theorem dX1_due_0 : decode cX1_due 0 = .ok (.iload_n 1, 1) := dk_27 (dk_at dksX1_due_0 0 rfl rfl)
theorem dX1_due_1 : decode cX1_due 1 = .ok (.iconst 3, 1) := dk_6 (dk_at dksX1_due_0 1 rfl rfl)
theorem dX1_due_2 : decode cX1_due 2 = .ok (.invokestatic 204, 3) := dk_184 0 204 (dk_at dksX1_due_0 2 rfl rfl)
theorem dX1_due_5 : decode cX1_due 5 = .ok (.aload_n 0, 1) := dk_42 (dk_at dksX1_due_0 5 rfl rfl)
theorem dX1_due_6 : decode cX1_due 6 = .ok (.getfield 30, 3) := dk_180 0 30 (dk_at dksX1_due_0 6 rfl rfl)
theorem dX1_due_9 : decode cX1_due 9 = .ok (.iload_n 1, 1) := dk_27 (dk_at dksX1_due_0 9 rfl rfl)
theorem dX1_due_10 : decode cX1_due 10 = .ok (.iaload, 1) := dk_46 (dk_at dksX1_due_0 10 rfl rfl)
theorem dX1_due_11 : decode cX1_due 11 = .ok (.ireturn, 1) := dk_172 (dk_at dksX1_due_0 11 rfl rfl)
abbrev cX1_points : ByteArray := prog_1_method_71_code
def yX1_points : MethodName := ⟨RX1, "points", "(I)I"⟩
def dkwX1_points_0 : List UInt8 := [27, 6, 184, 0, 204, 42, 27, 182, 0, 179, 172]
abbrev dktX1_points_0 : List UInt8 := dkwX1_points_0 ++ []
theorem dksX1_points_0 : cX1_points.data.toList.drop 0 = dktX1_points_0 := by decide +kernel
theorem dX1_points_0 : decode cX1_points 0 = .ok (.iload_n 1, 1) := dk_27 (dk_at dksX1_points_0 0 rfl rfl)
theorem dX1_points_1 : decode cX1_points 1 = .ok (.iconst 3, 1) := dk_6 (dk_at dksX1_points_0 1 rfl rfl)
theorem dX1_points_2 : decode cX1_points 2 = .ok (.invokestatic 204, 3) := dk_184 0 204 (dk_at dksX1_points_0 2 rfl rfl)
theorem dX1_points_5 : decode cX1_points 5 = .ok (.aload_n 0, 1) := dk_42 (dk_at dksX1_points_0 5 rfl rfl)
theorem dX1_points_6 : decode cX1_points 6 = .ok (.iload_n 1, 1) := dk_27 (dk_at dksX1_points_0 6 rfl rfl)
theorem dX1_points_7 : decode cX1_points 7 = .ok (.invokevirtual 179, 3) := dk_182 0 179 (dk_at dksX1_points_0 7 rfl rfl)
theorem dX1_points_10 : decode cX1_points 10 = .ok (.ireturn, 1) := dk_172 (dk_at dksX1_points_0 10 rfl rfl)
abbrev cX1_trail : ByteArray := prog_1_method_72_code
def yX1_trail : MethodName := ⟨RX1, "trail", "(I)I"⟩
def dkwX1_trail_0 : List UInt8 := [27, 6, 184, 0, 204, 42, 27, 182, 0, 145, 172]
abbrev dktX1_trail_0 : List UInt8 := dkwX1_trail_0 ++ []
theorem dksX1_trail_0 : cX1_trail.data.toList.drop 0 = dktX1_trail_0 := by decide +kernel
theorem dX1_trail_0 : decode cX1_trail 0 = .ok (.iload_n 1, 1) := dk_27 (dk_at dksX1_trail_0 0 rfl rfl)
theorem dX1_trail_1 : decode cX1_trail 1 = .ok (.iconst 3, 1) := dk_6 (dk_at dksX1_trail_0 1 rfl rfl)
theorem dX1_trail_2 : decode cX1_trail 2 = .ok (.invokestatic 204, 3) := dk_184 0 204 (dk_at dksX1_trail_0 2 rfl rfl)
theorem dX1_trail_5 : decode cX1_trail 5 = .ok (.aload_n 0, 1) := dk_42 (dk_at dksX1_trail_0 5 rfl rfl)
theorem dX1_trail_6 : decode cX1_trail 6 = .ok (.iload_n 1, 1) := dk_27 (dk_at dksX1_trail_0 6 rfl rfl)
theorem dX1_trail_7 : decode cX1_trail 7 = .ok (.invokevirtual 145, 3) := dk_182 0 145 (dk_at dksX1_trail_0 7 rfl rfl)
theorem dX1_trail_10 : decode cX1_trail 10 = .ok (.ireturn, 1) := dk_172 (dk_at dksX1_trail_0 10 rfl rfl)
abbrev cX1_trailBySets : ByteArray := prog_1_method_73_code
def yX1_trailBySets : MethodName := ⟨RX1, "trailBySets", "(I)I"⟩
def dkwX1_trailBySets_4 : List UInt8 := [29, 172]
abbrev dktX1_trailBySets_4 : List UInt8 := dkwX1_trailBySets_4 ++ []
def dkwX1_trailBySets_3 : List UInt8 := [182, 1, 105, 153, 0, 8, 21, 5, 167, 0, 4, 29, 62, 21, 4, 4, 100, 28, 126, 54, 4, 167, 255, 213]
abbrev dktX1_trailBySets_3 : List UInt8 := dkwX1_trailBySets_3 ++ dktX1_trailBySets_4
def dkwX1_trailBySets_2 : List UInt8 := [21, 4, 158, 0, 44, 21, 4, 184, 1, 100, 54, 5, 21, 5, 29, 164, 0, 18, 42, 27, 21, 4]
abbrev dktX1_trailBySets_2 : List UInt8 := dkwX1_trailBySets_2 ++ dktX1_trailBySets_3
def dkwX1_trailBySets_1 : List UInt8 := [160, 0, 9, 4, 29, 120, 167, 0, 4, 3, 128, 61, 132, 3, 1, 167, 255, 227, 3, 62, 28, 54, 4]
abbrev dktX1_trailBySets_1 : List UInt8 := dkwX1_trailBySets_1 ++ dktX1_trailBySets_2
def dkwX1_trailBySets_0 : List UInt8 := [27, 6, 184, 0, 204, 3, 61, 3, 62, 29, 16, 30, 162, 0, 29, 28, 42, 180, 0, 21, 29, 46, 27]
abbrev dktX1_trailBySets_0 : List UInt8 := dkwX1_trailBySets_0 ++ dktX1_trailBySets_1
theorem dksX1_trailBySets_0 : cX1_trailBySets.data.toList.drop 0 = dktX1_trailBySets_0 := by decide +kernel
theorem dksX1_trailBySets_1 : cX1_trailBySets.data.toList.drop 23 = dktX1_trailBySets_1 := dk_seg dksX1_trailBySets_0 23 rfl rfl
theorem dksX1_trailBySets_2 : cX1_trailBySets.data.toList.drop 46 = dktX1_trailBySets_2 := dk_seg dksX1_trailBySets_1 23 rfl rfl
theorem dksX1_trailBySets_3 : cX1_trailBySets.data.toList.drop 68 = dktX1_trailBySets_3 := dk_seg dksX1_trailBySets_2 22 rfl rfl
theorem dksX1_trailBySets_4 : cX1_trailBySets.data.toList.drop 92 = dktX1_trailBySets_4 := dk_seg dksX1_trailBySets_3 24 rfl rfl
theorem dX1_trailBySets_0 : decode cX1_trailBySets 0 = .ok (.iload_n 1, 1) := dk_27 (dk_at dksX1_trailBySets_0 0 rfl rfl)
theorem dX1_trailBySets_1 : decode cX1_trailBySets 1 = .ok (.iconst 3, 1) := dk_6 (dk_at dksX1_trailBySets_0 1 rfl rfl)
theorem dX1_trailBySets_2 : decode cX1_trailBySets 2 = .ok (.invokestatic 204, 3) := dk_184 0 204 (dk_at dksX1_trailBySets_0 2 rfl rfl)
theorem dX1_trailBySets_5 : decode cX1_trailBySets 5 = .ok (.iconst 0, 1) := dk_3 (dk_at dksX1_trailBySets_0 5 rfl rfl)
theorem dX1_trailBySets_6 : decode cX1_trailBySets 6 = .ok (.istore_n 2, 1) := dk_61 (dk_at dksX1_trailBySets_0 6 rfl rfl)
theorem dX1_trailBySets_7 : decode cX1_trailBySets 7 = .ok (.iconst 0, 1) := dk_3 (dk_at dksX1_trailBySets_0 7 rfl rfl)
theorem dX1_trailBySets_8 : decode cX1_trailBySets 8 = .ok (.istore_n 3, 1) := dk_62 (dk_at dksX1_trailBySets_0 8 rfl rfl)
theorem dX1_trailBySets_9 : decode cX1_trailBySets 9 = .ok (.iload_n 3, 1) := dk_29 (dk_at dksX1_trailBySets_0 9 rfl rfl)
theorem dX1_trailBySets_10 : decode cX1_trailBySets 10 = .ok (.bipush 30, 2) := dk_16 30 (dk_at dksX1_trailBySets_0 10 rfl rfl)
theorem dX1_trailBySets_12 : decode cX1_trailBySets 12 = .ok (.if_icmp .ge 29, 3) := dk_162 0 29 (dk_at dksX1_trailBySets_0 12 rfl rfl)
theorem dX1_trailBySets_15 : decode cX1_trailBySets 15 = .ok (.iload_n 2, 1) := dk_28 (dk_at dksX1_trailBySets_0 15 rfl rfl)
theorem dX1_trailBySets_16 : decode cX1_trailBySets 16 = .ok (.aload_n 0, 1) := dk_42 (dk_at dksX1_trailBySets_0 16 rfl rfl)
theorem dX1_trailBySets_17 : decode cX1_trailBySets 17 = .ok (.getfield 21, 3) := dk_180 0 21 (dk_at dksX1_trailBySets_0 17 rfl rfl)
theorem dX1_trailBySets_20 : decode cX1_trailBySets 20 = .ok (.iload_n 3, 1) := dk_29 (dk_at dksX1_trailBySets_0 20 rfl rfl)
theorem dX1_trailBySets_21 : decode cX1_trailBySets 21 = .ok (.iaload, 1) := dk_46 (dk_at dksX1_trailBySets_0 21 rfl rfl)
theorem dX1_trailBySets_22 : decode cX1_trailBySets 22 = .ok (.iload_n 1, 1) := dk_27 (dk_at dksX1_trailBySets_0 22 rfl rfl)
theorem dX1_trailBySets_23 : decode cX1_trailBySets 23 = .ok (.if_icmp .ne 9, 3) := dk_160 0 9 (dk_at dksX1_trailBySets_1 0 rfl rfl)
theorem dX1_trailBySets_26 : decode cX1_trailBySets 26 = .ok (.iconst 1, 1) := dk_4 (dk_at dksX1_trailBySets_1 3 rfl rfl)
theorem dX1_trailBySets_27 : decode cX1_trailBySets 27 = .ok (.iload_n 3, 1) := dk_29 (dk_at dksX1_trailBySets_1 4 rfl rfl)
theorem dX1_trailBySets_28 : decode cX1_trailBySets 28 = .ok (.ishl, 1) := dk_120 (dk_at dksX1_trailBySets_1 5 rfl rfl)
theorem dX1_trailBySets_29 : decode cX1_trailBySets 29 = .ok (.goto 4, 3) := dk_167 0 4 (dk_at dksX1_trailBySets_1 6 rfl rfl)
theorem dX1_trailBySets_32 : decode cX1_trailBySets 32 = .ok (.iconst 0, 1) := dk_3 (dk_at dksX1_trailBySets_1 9 rfl rfl)
theorem dX1_trailBySets_33 : decode cX1_trailBySets 33 = .ok (.ior, 1) := dk_128 (dk_at dksX1_trailBySets_1 10 rfl rfl)
theorem dX1_trailBySets_34 : decode cX1_trailBySets 34 = .ok (.istore_n 2, 1) := dk_61 (dk_at dksX1_trailBySets_1 11 rfl rfl)
theorem dX1_trailBySets_35 : decode cX1_trailBySets 35 = .ok (.iinc 3 1, 3) := dk_132 3 1 (dk_at dksX1_trailBySets_1 12 rfl rfl)
theorem dX1_trailBySets_38 : decode cX1_trailBySets 38 = .ok (.goto (-29), 3) := dk_167 255 227 (dk_at dksX1_trailBySets_1 15 rfl rfl)
theorem dX1_trailBySets_41 : decode cX1_trailBySets 41 = .ok (.iconst 0, 1) := dk_3 (dk_at dksX1_trailBySets_1 18 rfl rfl)
theorem dX1_trailBySets_42 : decode cX1_trailBySets 42 = .ok (.istore_n 3, 1) := dk_62 (dk_at dksX1_trailBySets_1 19 rfl rfl)
theorem dX1_trailBySets_43 : decode cX1_trailBySets 43 = .ok (.iload_n 2, 1) := dk_28 (dk_at dksX1_trailBySets_1 20 rfl rfl)
theorem dX1_trailBySets_44 : decode cX1_trailBySets 44 = .ok (.istore 4, 2) := dk_54 4 (dk_at dksX1_trailBySets_1 21 rfl rfl)
theorem dX1_trailBySets_46 : decode cX1_trailBySets 46 = .ok (.iload 4, 2) := dk_21 4 (dk_at dksX1_trailBySets_2 0 rfl rfl)
theorem dX1_trailBySets_48 : decode cX1_trailBySets 48 = .ok (.ifCond .le 44, 3) := dk_158 0 44 (dk_at dksX1_trailBySets_2 2 rfl rfl)
theorem dX1_trailBySets_51 : decode cX1_trailBySets 51 = .ok (.iload 4, 2) := dk_21 4 (dk_at dksX1_trailBySets_2 5 rfl rfl)
theorem dX1_trailBySets_53 : decode cX1_trailBySets 53 = .ok (.invokestatic 356, 3) := dk_184 1 100 (dk_at dksX1_trailBySets_2 7 rfl rfl)
theorem dX1_trailBySets_56 : decode cX1_trailBySets 56 = .ok (.istore 5, 2) := dk_54 5 (dk_at dksX1_trailBySets_2 10 rfl rfl)
theorem dX1_trailBySets_58 : decode cX1_trailBySets 58 = .ok (.iload 5, 2) := dk_21 5 (dk_at dksX1_trailBySets_2 12 rfl rfl)
theorem dX1_trailBySets_60 : decode cX1_trailBySets 60 = .ok (.iload_n 3, 1) := dk_29 (dk_at dksX1_trailBySets_2 14 rfl rfl)
theorem dX1_trailBySets_61 : decode cX1_trailBySets 61 = .ok (.if_icmp .le 18, 3) := dk_164 0 18 (dk_at dksX1_trailBySets_2 15 rfl rfl)
theorem dX1_trailBySets_64 : decode cX1_trailBySets 64 = .ok (.aload_n 0, 1) := dk_42 (dk_at dksX1_trailBySets_2 18 rfl rfl)
theorem dX1_trailBySets_65 : decode cX1_trailBySets 65 = .ok (.iload_n 1, 1) := dk_27 (dk_at dksX1_trailBySets_2 19 rfl rfl)
theorem dX1_trailBySets_66 : decode cX1_trailBySets 66 = .ok (.iload 4, 2) := dk_21 4 (dk_at dksX1_trailBySets_2 20 rfl rfl)
theorem dX1_trailBySets_68 : decode cX1_trailBySets 68 = .ok (.invokevirtual 361, 3) := dk_182 1 105 (dk_at dksX1_trailBySets_3 0 rfl rfl)
theorem dX1_trailBySets_71 : decode cX1_trailBySets 71 = .ok (.ifCond .eq 8, 3) := dk_153 0 8 (dk_at dksX1_trailBySets_3 3 rfl rfl)
theorem dX1_trailBySets_74 : decode cX1_trailBySets 74 = .ok (.iload 5, 2) := dk_21 5 (dk_at dksX1_trailBySets_3 6 rfl rfl)
theorem dX1_trailBySets_76 : decode cX1_trailBySets 76 = .ok (.goto 4, 3) := dk_167 0 4 (dk_at dksX1_trailBySets_3 8 rfl rfl)
theorem dX1_trailBySets_79 : decode cX1_trailBySets 79 = .ok (.iload_n 3, 1) := dk_29 (dk_at dksX1_trailBySets_3 11 rfl rfl)
theorem dX1_trailBySets_80 : decode cX1_trailBySets 80 = .ok (.istore_n 3, 1) := dk_62 (dk_at dksX1_trailBySets_3 12 rfl rfl)
theorem dX1_trailBySets_81 : decode cX1_trailBySets 81 = .ok (.iload 4, 2) := dk_21 4 (dk_at dksX1_trailBySets_3 13 rfl rfl)
theorem dX1_trailBySets_83 : decode cX1_trailBySets 83 = .ok (.iconst 1, 1) := dk_4 (dk_at dksX1_trailBySets_3 15 rfl rfl)
theorem dX1_trailBySets_84 : decode cX1_trailBySets 84 = .ok (.isub, 1) := dk_100 (dk_at dksX1_trailBySets_3 16 rfl rfl)
theorem dX1_trailBySets_85 : decode cX1_trailBySets 85 = .ok (.iload_n 2, 1) := dk_28 (dk_at dksX1_trailBySets_3 17 rfl rfl)
theorem dX1_trailBySets_86 : decode cX1_trailBySets 86 = .ok (.iand, 1) := dk_126 (dk_at dksX1_trailBySets_3 18 rfl rfl)
theorem dX1_trailBySets_87 : decode cX1_trailBySets 87 = .ok (.istore 4, 2) := dk_54 4 (dk_at dksX1_trailBySets_3 19 rfl rfl)
theorem dX1_trailBySets_89 : decode cX1_trailBySets 89 = .ok (.goto (-43), 3) := dk_167 255 213 (dk_at dksX1_trailBySets_3 21 rfl rfl)
theorem dX1_trailBySets_92 : decode cX1_trailBySets 92 = .ok (.iload_n 3, 1) := dk_29 (dk_at dksX1_trailBySets_4 0 rfl rfl)
theorem dX1_trailBySets_93 : decode cX1_trailBySets 93 = .ok (.ireturn, 1) := dk_172 (dk_at dksX1_trailBySets_4 1 rfl rfl)
abbrev cX1_isTrail : ByteArray := prog_1_method_21_code
def yX1_isTrail : MethodName := ⟨RX1, "isTrail", "(II)Z"⟩
def dkwX1_isTrail_4 : List UInt8 := [153, 0, 8, 29, 5, 160, 0, 17, 42, 27, 28, 182, 0, 139, 28, 160, 0, 7, 4, 167, 0, 4, 3, 172]
abbrev dktX1_isTrail_4 : List UInt8 := dkwX1_isTrail_4 ++ []
def dkwX1_isTrail_3 : List UInt8 := [182, 0, 91, 153, 0, 8, 21, 5, 167, 0, 7, 21, 5, 5, 112, 96, 62, 132, 4, 1, 167, 255, 175, 29]
abbrev dktX1_isTrail_3 : List UInt8 := dkwX1_isTrail_3 ++ dktX1_isTrail_4
def dkwX1_isTrail_2 : List UInt8 := [153, 0, 7, 4, 167, 0, 4, 3, 96, 54, 5, 132, 6, 1, 167, 255, 216, 29, 42, 21, 4, 27]
abbrev dktX1_isTrail_2 : List UInt8 := dkwX1_isTrail_2 ++ dktX1_isTrail_3
def dkwX1_isTrail_1 : List UInt8 := [162, 0, 39, 21, 5, 28, 21, 6, 122, 4, 126, 4, 160, 0, 17, 21, 6, 21, 4, 184, 0, 76]
abbrev dktX1_isTrail_1 : List UInt8 := dkwX1_isTrail_1 ++ dktX1_isTrail_2
def dkwX1_isTrail_0 : List UInt8 := [3, 62, 3, 54, 4, 21, 4, 16, 24, 162, 0, 80, 3, 54, 5, 3, 54, 6, 21, 6, 16, 30]
abbrev dktX1_isTrail_0 : List UInt8 := dkwX1_isTrail_0 ++ dktX1_isTrail_1
theorem dksX1_isTrail_0 : cX1_isTrail.data.toList.drop 0 = dktX1_isTrail_0 := by decide +kernel
theorem dksX1_isTrail_1 : cX1_isTrail.data.toList.drop 22 = dktX1_isTrail_1 := dk_seg dksX1_isTrail_0 22 rfl rfl
theorem dksX1_isTrail_2 : cX1_isTrail.data.toList.drop 44 = dktX1_isTrail_2 := dk_seg dksX1_isTrail_1 22 rfl rfl
theorem dksX1_isTrail_3 : cX1_isTrail.data.toList.drop 66 = dktX1_isTrail_3 := dk_seg dksX1_isTrail_2 22 rfl rfl
theorem dksX1_isTrail_4 : cX1_isTrail.data.toList.drop 90 = dktX1_isTrail_4 := dk_seg dksX1_isTrail_3 24 rfl rfl
theorem dX1_isTrail_0 : decode cX1_isTrail 0 = .ok (.iconst 0, 1) := dk_3 (dk_at dksX1_isTrail_0 0 rfl rfl)
theorem dX1_isTrail_1 : decode cX1_isTrail 1 = .ok (.istore_n 3, 1) := dk_62 (dk_at dksX1_isTrail_0 1 rfl rfl)
theorem dX1_isTrail_2 : decode cX1_isTrail 2 = .ok (.iconst 0, 1) := dk_3 (dk_at dksX1_isTrail_0 2 rfl rfl)
theorem dX1_isTrail_3 : decode cX1_isTrail 3 = .ok (.istore 4, 2) := dk_54 4 (dk_at dksX1_isTrail_0 3 rfl rfl)
theorem dX1_isTrail_5 : decode cX1_isTrail 5 = .ok (.iload 4, 2) := dk_21 4 (dk_at dksX1_isTrail_0 5 rfl rfl)
theorem dX1_isTrail_7 : decode cX1_isTrail 7 = .ok (.bipush 24, 2) := dk_16 24 (dk_at dksX1_isTrail_0 7 rfl rfl)
theorem dX1_isTrail_9 : decode cX1_isTrail 9 = .ok (.if_icmp .ge 80, 3) := dk_162 0 80 (dk_at dksX1_isTrail_0 9 rfl rfl)
theorem dX1_isTrail_12 : decode cX1_isTrail 12 = .ok (.iconst 0, 1) := dk_3 (dk_at dksX1_isTrail_0 12 rfl rfl)
theorem dX1_isTrail_13 : decode cX1_isTrail 13 = .ok (.istore 5, 2) := dk_54 5 (dk_at dksX1_isTrail_0 13 rfl rfl)
theorem dX1_isTrail_15 : decode cX1_isTrail 15 = .ok (.iconst 0, 1) := dk_3 (dk_at dksX1_isTrail_0 15 rfl rfl)
theorem dX1_isTrail_16 : decode cX1_isTrail 16 = .ok (.istore 6, 2) := dk_54 6 (dk_at dksX1_isTrail_0 16 rfl rfl)
theorem dX1_isTrail_18 : decode cX1_isTrail 18 = .ok (.iload 6, 2) := dk_21 6 (dk_at dksX1_isTrail_0 18 rfl rfl)
theorem dX1_isTrail_20 : decode cX1_isTrail 20 = .ok (.bipush 30, 2) := dk_16 30 (dk_at dksX1_isTrail_0 20 rfl rfl)
theorem dX1_isTrail_22 : decode cX1_isTrail 22 = .ok (.if_icmp .ge 39, 3) := dk_162 0 39 (dk_at dksX1_isTrail_1 0 rfl rfl)
theorem dX1_isTrail_25 : decode cX1_isTrail 25 = .ok (.iload 5, 2) := dk_21 5 (dk_at dksX1_isTrail_1 3 rfl rfl)
theorem dX1_isTrail_27 : decode cX1_isTrail 27 = .ok (.iload_n 2, 1) := dk_28 (dk_at dksX1_isTrail_1 5 rfl rfl)
theorem dX1_isTrail_28 : decode cX1_isTrail 28 = .ok (.iload 6, 2) := dk_21 6 (dk_at dksX1_isTrail_1 6 rfl rfl)
theorem dX1_isTrail_30 : decode cX1_isTrail 30 = .ok (.ishr, 1) := dk_122 (dk_at dksX1_isTrail_1 8 rfl rfl)
theorem dX1_isTrail_31 : decode cX1_isTrail 31 = .ok (.iconst 1, 1) := dk_4 (dk_at dksX1_isTrail_1 9 rfl rfl)
theorem dX1_isTrail_32 : decode cX1_isTrail 32 = .ok (.iand, 1) := dk_126 (dk_at dksX1_isTrail_1 10 rfl rfl)
theorem dX1_isTrail_33 : decode cX1_isTrail 33 = .ok (.iconst 1, 1) := dk_4 (dk_at dksX1_isTrail_1 11 rfl rfl)
theorem dX1_isTrail_34 : decode cX1_isTrail 34 = .ok (.if_icmp .ne 17, 3) := dk_160 0 17 (dk_at dksX1_isTrail_1 12 rfl rfl)
theorem dX1_isTrail_37 : decode cX1_isTrail 37 = .ok (.iload 6, 2) := dk_21 6 (dk_at dksX1_isTrail_1 15 rfl rfl)
theorem dX1_isTrail_39 : decode cX1_isTrail 39 = .ok (.iload 4, 2) := dk_21 4 (dk_at dksX1_isTrail_1 17 rfl rfl)
theorem dX1_isTrail_41 : decode cX1_isTrail 41 = .ok (.invokestatic 76, 3) := dk_184 0 76 (dk_at dksX1_isTrail_1 19 rfl rfl)
theorem dX1_isTrail_44 : decode cX1_isTrail 44 = .ok (.ifCond .eq 7, 3) := dk_153 0 7 (dk_at dksX1_isTrail_2 0 rfl rfl)
theorem dX1_isTrail_47 : decode cX1_isTrail 47 = .ok (.iconst 1, 1) := dk_4 (dk_at dksX1_isTrail_2 3 rfl rfl)
theorem dX1_isTrail_48 : decode cX1_isTrail 48 = .ok (.goto 4, 3) := dk_167 0 4 (dk_at dksX1_isTrail_2 4 rfl rfl)
theorem dX1_isTrail_51 : decode cX1_isTrail 51 = .ok (.iconst 0, 1) := dk_3 (dk_at dksX1_isTrail_2 7 rfl rfl)
theorem dX1_isTrail_52 : decode cX1_isTrail 52 = .ok (.iadd, 1) := dk_96 (dk_at dksX1_isTrail_2 8 rfl rfl)
theorem dX1_isTrail_53 : decode cX1_isTrail 53 = .ok (.istore 5, 2) := dk_54 5 (dk_at dksX1_isTrail_2 9 rfl rfl)
theorem dX1_isTrail_55 : decode cX1_isTrail 55 = .ok (.iinc 6 1, 3) := dk_132 6 1 (dk_at dksX1_isTrail_2 11 rfl rfl)
theorem dX1_isTrail_58 : decode cX1_isTrail 58 = .ok (.goto (-40), 3) := dk_167 255 216 (dk_at dksX1_isTrail_2 14 rfl rfl)
theorem dX1_isTrail_61 : decode cX1_isTrail 61 = .ok (.iload_n 3, 1) := dk_29 (dk_at dksX1_isTrail_2 17 rfl rfl)
theorem dX1_isTrail_62 : decode cX1_isTrail 62 = .ok (.aload_n 0, 1) := dk_42 (dk_at dksX1_isTrail_2 18 rfl rfl)
theorem dX1_isTrail_63 : decode cX1_isTrail 63 = .ok (.iload 4, 2) := dk_21 4 (dk_at dksX1_isTrail_2 19 rfl rfl)
theorem dX1_isTrail_65 : decode cX1_isTrail 65 = .ok (.iload_n 1, 1) := dk_27 (dk_at dksX1_isTrail_2 21 rfl rfl)
theorem dX1_isTrail_66 : decode cX1_isTrail 66 = .ok (.invokevirtual 91, 3) := dk_182 0 91 (dk_at dksX1_isTrail_3 0 rfl rfl)
theorem dX1_isTrail_69 : decode cX1_isTrail 69 = .ok (.ifCond .eq 8, 3) := dk_153 0 8 (dk_at dksX1_isTrail_3 3 rfl rfl)
theorem dX1_isTrail_72 : decode cX1_isTrail 72 = .ok (.iload 5, 2) := dk_21 5 (dk_at dksX1_isTrail_3 6 rfl rfl)
theorem dX1_isTrail_74 : decode cX1_isTrail 74 = .ok (.goto 7, 3) := dk_167 0 7 (dk_at dksX1_isTrail_3 8 rfl rfl)
theorem dX1_isTrail_77 : decode cX1_isTrail 77 = .ok (.iload 5, 2) := dk_21 5 (dk_at dksX1_isTrail_3 11 rfl rfl)
theorem dX1_isTrail_79 : decode cX1_isTrail 79 = .ok (.iconst 2, 1) := dk_5 (dk_at dksX1_isTrail_3 13 rfl rfl)
theorem dX1_isTrail_80 : decode cX1_isTrail 80 = .ok (.irem, 1) := dk_112 (dk_at dksX1_isTrail_3 14 rfl rfl)
theorem dX1_isTrail_81 : decode cX1_isTrail 81 = .ok (.iadd, 1) := dk_96 (dk_at dksX1_isTrail_3 15 rfl rfl)
theorem dX1_isTrail_82 : decode cX1_isTrail 82 = .ok (.istore_n 3, 1) := dk_62 (dk_at dksX1_isTrail_3 16 rfl rfl)
theorem dX1_isTrail_83 : decode cX1_isTrail 83 = .ok (.iinc 4 1, 3) := dk_132 4 1 (dk_at dksX1_isTrail_3 17 rfl rfl)
theorem dX1_isTrail_86 : decode cX1_isTrail 86 = .ok (.goto (-81), 3) := dk_167 255 175 (dk_at dksX1_isTrail_3 20 rfl rfl)
theorem dX1_isTrail_89 : decode cX1_isTrail 89 = .ok (.iload_n 3, 1) := dk_29 (dk_at dksX1_isTrail_3 23 rfl rfl)
theorem dX1_isTrail_90 : decode cX1_isTrail 90 = .ok (.ifCond .eq 8, 3) := dk_153 0 8 (dk_at dksX1_isTrail_4 0 rfl rfl)
theorem dX1_isTrail_93 : decode cX1_isTrail 93 = .ok (.iload_n 3, 1) := dk_29 (dk_at dksX1_isTrail_4 3 rfl rfl)
theorem dX1_isTrail_94 : decode cX1_isTrail 94 = .ok (.iconst 2, 1) := dk_5 (dk_at dksX1_isTrail_4 4 rfl rfl)
theorem dX1_isTrail_95 : decode cX1_isTrail 95 = .ok (.if_icmp .ne 17, 3) := dk_160 0 17 (dk_at dksX1_isTrail_4 5 rfl rfl)
theorem dX1_isTrail_98 : decode cX1_isTrail 98 = .ok (.aload_n 0, 1) := dk_42 (dk_at dksX1_isTrail_4 8 rfl rfl)
theorem dX1_isTrail_99 : decode cX1_isTrail 99 = .ok (.iload_n 1, 1) := dk_27 (dk_at dksX1_isTrail_4 9 rfl rfl)
theorem dX1_isTrail_100 : decode cX1_isTrail 100 = .ok (.iload_n 2, 1) := dk_28 (dk_at dksX1_isTrail_4 10 rfl rfl)
theorem dX1_isTrail_101 : decode cX1_isTrail 101 = .ok (.invokevirtual 139, 3) := dk_182 0 139 (dk_at dksX1_isTrail_4 11 rfl rfl)
theorem dX1_isTrail_104 : decode cX1_isTrail 104 = .ok (.iload_n 2, 1) := dk_28 (dk_at dksX1_isTrail_4 14 rfl rfl)
theorem dX1_isTrail_105 : decode cX1_isTrail 105 = .ok (.if_icmp .ne 7, 3) := dk_160 0 7 (dk_at dksX1_isTrail_4 15 rfl rfl)
theorem dX1_isTrail_108 : decode cX1_isTrail 108 = .ok (.iconst 1, 1) := dk_4 (dk_at dksX1_isTrail_4 18 rfl rfl)
theorem dX1_isTrail_109 : decode cX1_isTrail 109 = .ok (.goto 4, 3) := dk_167 0 4 (dk_at dksX1_isTrail_4 19 rfl rfl)
theorem dX1_isTrail_112 : decode cX1_isTrail 112 = .ok (.iconst 0, 1) := dk_3 (dk_at dksX1_isTrail_4 22 rfl rfl)
theorem dX1_isTrail_113 : decode cX1_isTrail 113 = .ok (.ireturn, 1) := dk_172 (dk_at dksX1_isTrail_4 23 rfl rfl)
abbrev cX1_reached : ByteArray := prog_1_method_22_code
def yX1_reached : MethodName := ⟨RX1, "reached", "(II)I"⟩
def dkwX1_reached_4 : List UInt8 := [132, 5, 1, 167, 255, 181, 167, 255, 166, 29, 172]
abbrev dktX1_reached_4 : List UInt8 := dkwX1_reached_4 ++ []
def dkwX1_reached_3 : List UInt8 := [184, 0, 142, 153, 0, 10, 4, 21, 5, 120, 167, 0, 4, 3, 128, 62, 132, 6, 1, 167, 255, 197]
abbrev dktX1_reached_3 : List UInt8 := dkwX1_reached_3 ++ dktX1_reached_4
def dkwX1_reached_2 : List UInt8 := [21, 6, 184, 0, 68, 54, 7, 29, 42, 21, 7, 27, 182, 0, 91, 154, 0, 20, 21, 4, 21, 7]
abbrev dktX1_reached_2 : List UInt8 := dkwX1_reached_2 ++ dktX1_reached_3
def dkwX1_reached_1 : List UInt8 := [162, 0, 74, 3, 54, 6, 21, 6, 5, 162, 0, 59, 28, 21, 5, 122, 4, 126, 4, 160, 0, 49, 21, 5]
abbrev dktX1_reached_1 : List UInt8 := dkwX1_reached_1 ++ dktX1_reached_2
def dkwX1_reached_0 : List UInt8 := [28, 28, 116, 126, 62, 3, 54, 4, 21, 4, 29, 159, 0, 90, 29, 54, 4, 3, 54, 5, 21, 5, 16, 30]
abbrev dktX1_reached_0 : List UInt8 := dkwX1_reached_0 ++ dktX1_reached_1
theorem dksX1_reached_0 : cX1_reached.data.toList.drop 0 = dktX1_reached_0 := by decide +kernel
theorem dksX1_reached_1 : cX1_reached.data.toList.drop 24 = dktX1_reached_1 := dk_seg dksX1_reached_0 24 rfl rfl
theorem dksX1_reached_2 : cX1_reached.data.toList.drop 48 = dktX1_reached_2 := dk_seg dksX1_reached_1 24 rfl rfl
theorem dksX1_reached_3 : cX1_reached.data.toList.drop 70 = dktX1_reached_3 := dk_seg dksX1_reached_2 22 rfl rfl
theorem dksX1_reached_4 : cX1_reached.data.toList.drop 92 = dktX1_reached_4 := dk_seg dksX1_reached_3 22 rfl rfl
theorem dX1_reached_0 : decode cX1_reached 0 = .ok (.iload_n 2, 1) := dk_28 (dk_at dksX1_reached_0 0 rfl rfl)
theorem dX1_reached_1 : decode cX1_reached 1 = .ok (.iload_n 2, 1) := dk_28 (dk_at dksX1_reached_0 1 rfl rfl)
theorem dX1_reached_2 : decode cX1_reached 2 = .ok (.ineg, 1) := dk_116 (dk_at dksX1_reached_0 2 rfl rfl)
theorem dX1_reached_3 : decode cX1_reached 3 = .ok (.iand, 1) := dk_126 (dk_at dksX1_reached_0 3 rfl rfl)
theorem dX1_reached_4 : decode cX1_reached 4 = .ok (.istore_n 3, 1) := dk_62 (dk_at dksX1_reached_0 4 rfl rfl)
theorem dX1_reached_5 : decode cX1_reached 5 = .ok (.iconst 0, 1) := dk_3 (dk_at dksX1_reached_0 5 rfl rfl)
theorem dX1_reached_6 : decode cX1_reached 6 = .ok (.istore 4, 2) := dk_54 4 (dk_at dksX1_reached_0 6 rfl rfl)
theorem dX1_reached_8 : decode cX1_reached 8 = .ok (.iload 4, 2) := dk_21 4 (dk_at dksX1_reached_0 8 rfl rfl)
theorem dX1_reached_10 : decode cX1_reached 10 = .ok (.iload_n 3, 1) := dk_29 (dk_at dksX1_reached_0 10 rfl rfl)
theorem dX1_reached_11 : decode cX1_reached 11 = .ok (.if_icmp .eq 90, 3) := dk_159 0 90 (dk_at dksX1_reached_0 11 rfl rfl)
theorem dX1_reached_14 : decode cX1_reached 14 = .ok (.iload_n 3, 1) := dk_29 (dk_at dksX1_reached_0 14 rfl rfl)
theorem dX1_reached_15 : decode cX1_reached 15 = .ok (.istore 4, 2) := dk_54 4 (dk_at dksX1_reached_0 15 rfl rfl)
theorem dX1_reached_17 : decode cX1_reached 17 = .ok (.iconst 0, 1) := dk_3 (dk_at dksX1_reached_0 17 rfl rfl)
theorem dX1_reached_18 : decode cX1_reached 18 = .ok (.istore 5, 2) := dk_54 5 (dk_at dksX1_reached_0 18 rfl rfl)
theorem dX1_reached_20 : decode cX1_reached 20 = .ok (.iload 5, 2) := dk_21 5 (dk_at dksX1_reached_0 20 rfl rfl)
theorem dX1_reached_22 : decode cX1_reached 22 = .ok (.bipush 30, 2) := dk_16 30 (dk_at dksX1_reached_0 22 rfl rfl)
theorem dX1_reached_24 : decode cX1_reached 24 = .ok (.if_icmp .ge 74, 3) := dk_162 0 74 (dk_at dksX1_reached_1 0 rfl rfl)
theorem dX1_reached_27 : decode cX1_reached 27 = .ok (.iconst 0, 1) := dk_3 (dk_at dksX1_reached_1 3 rfl rfl)
theorem dX1_reached_28 : decode cX1_reached 28 = .ok (.istore 6, 2) := dk_54 6 (dk_at dksX1_reached_1 4 rfl rfl)
theorem dX1_reached_30 : decode cX1_reached 30 = .ok (.iload 6, 2) := dk_21 6 (dk_at dksX1_reached_1 6 rfl rfl)
theorem dX1_reached_32 : decode cX1_reached 32 = .ok (.iconst 2, 1) := dk_5 (dk_at dksX1_reached_1 8 rfl rfl)
theorem dX1_reached_33 : decode cX1_reached 33 = .ok (.if_icmp .ge 59, 3) := dk_162 0 59 (dk_at dksX1_reached_1 9 rfl rfl)
theorem dX1_reached_36 : decode cX1_reached 36 = .ok (.iload_n 2, 1) := dk_28 (dk_at dksX1_reached_1 12 rfl rfl)
theorem dX1_reached_37 : decode cX1_reached 37 = .ok (.iload 5, 2) := dk_21 5 (dk_at dksX1_reached_1 13 rfl rfl)
theorem dX1_reached_39 : decode cX1_reached 39 = .ok (.ishr, 1) := dk_122 (dk_at dksX1_reached_1 15 rfl rfl)
theorem dX1_reached_40 : decode cX1_reached 40 = .ok (.iconst 1, 1) := dk_4 (dk_at dksX1_reached_1 16 rfl rfl)
theorem dX1_reached_41 : decode cX1_reached 41 = .ok (.iand, 1) := dk_126 (dk_at dksX1_reached_1 17 rfl rfl)
theorem dX1_reached_42 : decode cX1_reached 42 = .ok (.iconst 1, 1) := dk_4 (dk_at dksX1_reached_1 18 rfl rfl)
theorem dX1_reached_43 : decode cX1_reached 43 = .ok (.if_icmp .ne 49, 3) := dk_160 0 49 (dk_at dksX1_reached_1 19 rfl rfl)
theorem dX1_reached_46 : decode cX1_reached 46 = .ok (.iload 5, 2) := dk_21 5 (dk_at dksX1_reached_1 22 rfl rfl)
theorem dX1_reached_48 : decode cX1_reached 48 = .ok (.iload 6, 2) := dk_21 6 (dk_at dksX1_reached_2 0 rfl rfl)
theorem dX1_reached_50 : decode cX1_reached 50 = .ok (.invokestatic 68, 3) := dk_184 0 68 (dk_at dksX1_reached_2 2 rfl rfl)
theorem dX1_reached_53 : decode cX1_reached 53 = .ok (.istore 7, 2) := dk_54 7 (dk_at dksX1_reached_2 5 rfl rfl)
theorem dX1_reached_55 : decode cX1_reached 55 = .ok (.iload_n 3, 1) := dk_29 (dk_at dksX1_reached_2 7 rfl rfl)
theorem dX1_reached_56 : decode cX1_reached 56 = .ok (.aload_n 0, 1) := dk_42 (dk_at dksX1_reached_2 8 rfl rfl)
theorem dX1_reached_57 : decode cX1_reached 57 = .ok (.iload 7, 2) := dk_21 7 (dk_at dksX1_reached_2 9 rfl rfl)
theorem dX1_reached_59 : decode cX1_reached 59 = .ok (.iload_n 1, 1) := dk_27 (dk_at dksX1_reached_2 11 rfl rfl)
theorem dX1_reached_60 : decode cX1_reached 60 = .ok (.invokevirtual 91, 3) := dk_182 0 91 (dk_at dksX1_reached_2 12 rfl rfl)
theorem dX1_reached_63 : decode cX1_reached 63 = .ok (.ifCond .ne 20, 3) := dk_154 0 20 (dk_at dksX1_reached_2 15 rfl rfl)
theorem dX1_reached_66 : decode cX1_reached 66 = .ok (.iload 4, 2) := dk_21 4 (dk_at dksX1_reached_2 18 rfl rfl)
theorem dX1_reached_68 : decode cX1_reached 68 = .ok (.iload 7, 2) := dk_21 7 (dk_at dksX1_reached_2 20 rfl rfl)
theorem dX1_reached_70 : decode cX1_reached 70 = .ok (.invokestatic 142, 3) := dk_184 0 142 (dk_at dksX1_reached_3 0 rfl rfl)
theorem dX1_reached_73 : decode cX1_reached 73 = .ok (.ifCond .eq 10, 3) := dk_153 0 10 (dk_at dksX1_reached_3 3 rfl rfl)
theorem dX1_reached_76 : decode cX1_reached 76 = .ok (.iconst 1, 1) := dk_4 (dk_at dksX1_reached_3 6 rfl rfl)
theorem dX1_reached_77 : decode cX1_reached 77 = .ok (.iload 5, 2) := dk_21 5 (dk_at dksX1_reached_3 7 rfl rfl)
theorem dX1_reached_79 : decode cX1_reached 79 = .ok (.ishl, 1) := dk_120 (dk_at dksX1_reached_3 9 rfl rfl)
theorem dX1_reached_80 : decode cX1_reached 80 = .ok (.goto 4, 3) := dk_167 0 4 (dk_at dksX1_reached_3 10 rfl rfl)
theorem dX1_reached_83 : decode cX1_reached 83 = .ok (.iconst 0, 1) := dk_3 (dk_at dksX1_reached_3 13 rfl rfl)
theorem dX1_reached_84 : decode cX1_reached 84 = .ok (.ior, 1) := dk_128 (dk_at dksX1_reached_3 14 rfl rfl)
theorem dX1_reached_85 : decode cX1_reached 85 = .ok (.istore_n 3, 1) := dk_62 (dk_at dksX1_reached_3 15 rfl rfl)
theorem dX1_reached_86 : decode cX1_reached 86 = .ok (.iinc 6 1, 3) := dk_132 6 1 (dk_at dksX1_reached_3 16 rfl rfl)
theorem dX1_reached_89 : decode cX1_reached 89 = .ok (.goto (-59), 3) := dk_167 255 197 (dk_at dksX1_reached_3 19 rfl rfl)
theorem dX1_reached_92 : decode cX1_reached 92 = .ok (.iinc 5 1, 3) := dk_132 5 1 (dk_at dksX1_reached_4 0 rfl rfl)
theorem dX1_reached_95 : decode cX1_reached 95 = .ok (.goto (-75), 3) := dk_167 255 181 (dk_at dksX1_reached_4 3 rfl rfl)
theorem dX1_reached_98 : decode cX1_reached 98 = .ok (.goto (-90), 3) := dk_167 255 166 (dk_at dksX1_reached_4 6 rfl rfl)
theorem dX1_reached_101 : decode cX1_reached 101 = .ok (.iload_n 3, 1) := dk_29 (dk_at dksX1_reached_4 9 rfl rfl)
theorem dX1_reached_102 : decode cX1_reached 102 = .ok (.ireturn, 1) := dk_172 (dk_at dksX1_reached_4 10 rfl rfl)
abbrev cX1_touches : ByteArray := prog_1_method_23_code
def yX1_touches : MethodName := ⟨RX1, "touches", "(II)Z"⟩
def dkwX1_touches_1 : List UInt8 := [184, 0, 76, 153, 0, 7, 4, 167, 0, 4, 3, 128, 61, 132, 3, 1, 167, 255, 222, 28, 172]
abbrev dktX1_touches_1 : List UInt8 := dkwX1_touches_1 ++ []
def dkwX1_touches_0 : List UInt8 := [3, 61, 3, 62, 29, 16, 30, 162, 0, 34, 28, 26, 29, 122, 4, 126, 4, 160, 0, 15, 29, 27]
abbrev dktX1_touches_0 : List UInt8 := dkwX1_touches_0 ++ dktX1_touches_1
theorem dksX1_touches_0 : cX1_touches.data.toList.drop 0 = dktX1_touches_0 := by decide +kernel
theorem dksX1_touches_1 : cX1_touches.data.toList.drop 22 = dktX1_touches_1 := dk_seg dksX1_touches_0 22 rfl rfl
theorem dX1_touches_0 : decode cX1_touches 0 = .ok (.iconst 0, 1) := dk_3 (dk_at dksX1_touches_0 0 rfl rfl)
theorem dX1_touches_1 : decode cX1_touches 1 = .ok (.istore_n 2, 1) := dk_61 (dk_at dksX1_touches_0 1 rfl rfl)
theorem dX1_touches_2 : decode cX1_touches 2 = .ok (.iconst 0, 1) := dk_3 (dk_at dksX1_touches_0 2 rfl rfl)
theorem dX1_touches_3 : decode cX1_touches 3 = .ok (.istore_n 3, 1) := dk_62 (dk_at dksX1_touches_0 3 rfl rfl)
theorem dX1_touches_4 : decode cX1_touches 4 = .ok (.iload_n 3, 1) := dk_29 (dk_at dksX1_touches_0 4 rfl rfl)
theorem dX1_touches_5 : decode cX1_touches 5 = .ok (.bipush 30, 2) := dk_16 30 (dk_at dksX1_touches_0 5 rfl rfl)
theorem dX1_touches_7 : decode cX1_touches 7 = .ok (.if_icmp .ge 34, 3) := dk_162 0 34 (dk_at dksX1_touches_0 7 rfl rfl)
theorem dX1_touches_10 : decode cX1_touches 10 = .ok (.iload_n 2, 1) := dk_28 (dk_at dksX1_touches_0 10 rfl rfl)
theorem dX1_touches_11 : decode cX1_touches 11 = .ok (.iload_n 0, 1) := dk_26 (dk_at dksX1_touches_0 11 rfl rfl)
theorem dX1_touches_12 : decode cX1_touches 12 = .ok (.iload_n 3, 1) := dk_29 (dk_at dksX1_touches_0 12 rfl rfl)
theorem dX1_touches_13 : decode cX1_touches 13 = .ok (.ishr, 1) := dk_122 (dk_at dksX1_touches_0 13 rfl rfl)
theorem dX1_touches_14 : decode cX1_touches 14 = .ok (.iconst 1, 1) := dk_4 (dk_at dksX1_touches_0 14 rfl rfl)
theorem dX1_touches_15 : decode cX1_touches 15 = .ok (.iand, 1) := dk_126 (dk_at dksX1_touches_0 15 rfl rfl)
theorem dX1_touches_16 : decode cX1_touches 16 = .ok (.iconst 1, 1) := dk_4 (dk_at dksX1_touches_0 16 rfl rfl)
theorem dX1_touches_17 : decode cX1_touches 17 = .ok (.if_icmp .ne 15, 3) := dk_160 0 15 (dk_at dksX1_touches_0 17 rfl rfl)
theorem dX1_touches_20 : decode cX1_touches 20 = .ok (.iload_n 3, 1) := dk_29 (dk_at dksX1_touches_0 20 rfl rfl)
theorem dX1_touches_21 : decode cX1_touches 21 = .ok (.iload_n 1, 1) := dk_27 (dk_at dksX1_touches_0 21 rfl rfl)
theorem dX1_touches_22 : decode cX1_touches 22 = .ok (.invokestatic 76, 3) := dk_184 0 76 (dk_at dksX1_touches_1 0 rfl rfl)
theorem dX1_touches_25 : decode cX1_touches 25 = .ok (.ifCond .eq 7, 3) := dk_153 0 7 (dk_at dksX1_touches_1 3 rfl rfl)
theorem dX1_touches_28 : decode cX1_touches 28 = .ok (.iconst 1, 1) := dk_4 (dk_at dksX1_touches_1 6 rfl rfl)
theorem dX1_touches_29 : decode cX1_touches 29 = .ok (.goto 4, 3) := dk_167 0 4 (dk_at dksX1_touches_1 7 rfl rfl)
theorem dX1_touches_32 : decode cX1_touches 32 = .ok (.iconst 0, 1) := dk_3 (dk_at dksX1_touches_1 10 rfl rfl)
theorem dX1_touches_33 : decode cX1_touches 33 = .ok (.ior, 1) := dk_128 (dk_at dksX1_touches_1 11 rfl rfl)
theorem dX1_touches_34 : decode cX1_touches 34 = .ok (.istore_n 2, 1) := dk_61 (dk_at dksX1_touches_1 12 rfl rfl)
theorem dX1_touches_35 : decode cX1_touches 35 = .ok (.iinc 3 1, 3) := dk_132 3 1 (dk_at dksX1_touches_1 13 rfl rfl)
theorem dX1_touches_38 : decode cX1_touches 38 = .ok (.goto (-34), 3) := dk_167 255 222 (dk_at dksX1_touches_1 16 rfl rfl)
theorem dX1_touches_41 : decode cX1_touches 41 = .ok (.iload_n 2, 1) := dk_28 (dk_at dksX1_touches_1 19 rfl rfl)
theorem dX1_touches_42 : decode cX1_touches 42 = .ok (.ireturn, 1) := dk_172 (dk_at dksX1_touches_1 20 rfl rfl)
abbrev cX1_knights : ByteArray := prog_1_method_75_code
def yX1_knights : MethodName := ⟨RX1, "knights", "(I)I"⟩
def dkwX1_knights_0 : List UInt8 := [27, 6, 184, 0, 204, 42, 180, 0, 33, 27, 46, 172]
abbrev dktX1_knights_0 : List UInt8 := dkwX1_knights_0 ++ []
theorem dksX1_knights_0 : cX1_knights.data.toList.drop 0 = dktX1_knights_0 := by decide +kernel
theorem dX1_knights_0 : decode cX1_knights 0 = .ok (.iload_n 1, 1) := dk_27 (dk_at dksX1_knights_0 0 rfl rfl)
theorem dX1_knights_1 : decode cX1_knights 1 = .ok (.iconst 3, 1) := dk_6 (dk_at dksX1_knights_0 1 rfl rfl)
theorem dX1_knights_2 : decode cX1_knights 2 = .ok (.invokestatic 204, 3) := dk_184 0 204 (dk_at dksX1_knights_0 2 rfl rfl)
theorem dX1_knights_5 : decode cX1_knights 5 = .ok (.aload_n 0, 1) := dk_42 (dk_at dksX1_knights_0 5 rfl rfl)
theorem dX1_knights_6 : decode cX1_knights 6 = .ok (.getfield 33, 3) := dk_180 0 33 (dk_at dksX1_knights_0 6 rfl rfl)
theorem dX1_knights_9 : decode cX1_knights 9 = .ok (.iload_n 1, 1) := dk_27 (dk_at dksX1_knights_0 9 rfl rfl)
theorem dX1_knights_10 : decode cX1_knights 10 = .ok (.iaload, 1) := dk_46 (dk_at dksX1_knights_0 10 rfl rfl)
theorem dX1_knights_11 : decode cX1_knights 11 = .ok (.ireturn, 1) := dk_172 (dk_at dksX1_knights_0 11 rfl rfl)
abbrev cX1_cards : ByteArray := prog_1_method_76_code
def yX1_cards : MethodName := ⟨RX1, "cards", "(II)I"⟩
def dkwX1_cards_3 : List UInt8 := [180, 0, 188, 154, 0, 7, 4, 167, 0, 4, 3, 96, 62, 167, 255, 197, 29, 172]
abbrev dktX1_cards_3 : List UInt8 := dkwX1_cards_3 ++ []
def dkwX1_cards_2 : List UInt8 := [25, 5, 180, 0, 167, 27, 160, 0, 27, 25, 5, 180, 0, 169, 182, 1, 47, 28, 160, 0, 15, 25, 5]
abbrev dktX1_cards_2 : List UInt8 := dkwX1_cards_2 ++ dktX1_cards_3
def dkwX1_cards_1 : List UInt8 := [25, 4, 185, 0, 155, 1, 0, 153, 0, 55, 25, 4, 185, 0, 161, 1, 0, 192, 0, 165, 58, 5, 29]
abbrev dktX1_cards_1 : List UInt8 := dkwX1_cards_1 ++ dktX1_cards_2
def dkwX1_cards_0 : List UInt8 := [27, 6, 184, 0, 204, 28, 3, 7, 184, 0, 215, 3, 62, 42, 180, 0, 39, 185, 0, 151, 1, 0, 58, 4]
abbrev dktX1_cards_0 : List UInt8 := dkwX1_cards_0 ++ dktX1_cards_1
theorem dksX1_cards_0 : cX1_cards.data.toList.drop 0 = dktX1_cards_0 := by decide +kernel
theorem dksX1_cards_1 : cX1_cards.data.toList.drop 24 = dktX1_cards_1 := dk_seg dksX1_cards_0 24 rfl rfl
theorem dksX1_cards_2 : cX1_cards.data.toList.drop 47 = dktX1_cards_2 := dk_seg dksX1_cards_1 23 rfl rfl
theorem dksX1_cards_3 : cX1_cards.data.toList.drop 70 = dktX1_cards_3 := dk_seg dksX1_cards_2 23 rfl rfl
theorem dX1_cards_0 : decode cX1_cards 0 = .ok (.iload_n 1, 1) := dk_27 (dk_at dksX1_cards_0 0 rfl rfl)
theorem dX1_cards_1 : decode cX1_cards 1 = .ok (.iconst 3, 1) := dk_6 (dk_at dksX1_cards_0 1 rfl rfl)
theorem dX1_cards_2 : decode cX1_cards 2 = .ok (.invokestatic 204, 3) := dk_184 0 204 (dk_at dksX1_cards_0 2 rfl rfl)
theorem dX1_cards_5 : decode cX1_cards 5 = .ok (.iload_n 2, 1) := dk_28 (dk_at dksX1_cards_0 5 rfl rfl)
theorem dX1_cards_6 : decode cX1_cards 6 = .ok (.iconst 0, 1) := dk_3 (dk_at dksX1_cards_0 6 rfl rfl)
theorem dX1_cards_7 : decode cX1_cards 7 = .ok (.iconst 4, 1) := dk_7 (dk_at dksX1_cards_0 7 rfl rfl)
theorem dX1_cards_8 : decode cX1_cards 8 = .ok (.invokestatic 215, 3) := dk_184 0 215 (dk_at dksX1_cards_0 8 rfl rfl)
theorem dX1_cards_11 : decode cX1_cards 11 = .ok (.iconst 0, 1) := dk_3 (dk_at dksX1_cards_0 11 rfl rfl)
theorem dX1_cards_12 : decode cX1_cards 12 = .ok (.istore_n 3, 1) := dk_62 (dk_at dksX1_cards_0 12 rfl rfl)
theorem dX1_cards_13 : decode cX1_cards 13 = .ok (.aload_n 0, 1) := dk_42 (dk_at dksX1_cards_0 13 rfl rfl)
theorem dX1_cards_14 : decode cX1_cards 14 = .ok (.getfield 39, 3) := dk_180 0 39 (dk_at dksX1_cards_0 14 rfl rfl)
theorem dX1_cards_17 : decode cX1_cards 17 = .ok (.invokeinterface 151 1, 5) := by decide +kernel
theorem dX1_cards_22 : decode cX1_cards 22 = .ok (.astore 4, 2) := dk_58 4 (dk_at dksX1_cards_0 22 rfl rfl)
theorem dX1_cards_24 : decode cX1_cards 24 = .ok (.aload 4, 2) := dk_25 4 (dk_at dksX1_cards_1 0 rfl rfl)
theorem dX1_cards_26 : decode cX1_cards 26 = .ok (.invokeinterface 155 1, 5) := by decide +kernel
theorem dX1_cards_31 : decode cX1_cards 31 = .ok (.ifCond .eq 55, 3) := dk_153 0 55 (dk_at dksX1_cards_1 7 rfl rfl)
theorem dX1_cards_34 : decode cX1_cards 34 = .ok (.aload 4, 2) := dk_25 4 (dk_at dksX1_cards_1 10 rfl rfl)
theorem dX1_cards_36 : decode cX1_cards 36 = .ok (.invokeinterface 161 1, 5) := by decide +kernel
theorem dX1_cards_41 : decode cX1_cards 41 = .ok (.checkcast 165, 3) := dk_192 0 165 (dk_at dksX1_cards_1 17 rfl rfl)
theorem dX1_cards_44 : decode cX1_cards 44 = .ok (.astore 5, 2) := dk_58 5 (dk_at dksX1_cards_1 20 rfl rfl)
theorem dX1_cards_46 : decode cX1_cards 46 = .ok (.iload_n 3, 1) := dk_29 (dk_at dksX1_cards_1 22 rfl rfl)
theorem dX1_cards_47 : decode cX1_cards 47 = .ok (.aload 5, 2) := dk_25 5 (dk_at dksX1_cards_2 0 rfl rfl)
theorem dX1_cards_49 : decode cX1_cards 49 = .ok (.getfield 167, 3) := dk_180 0 167 (dk_at dksX1_cards_2 2 rfl rfl)
theorem dX1_cards_52 : decode cX1_cards 52 = .ok (.iload_n 1, 1) := dk_27 (dk_at dksX1_cards_2 5 rfl rfl)
theorem dX1_cards_53 : decode cX1_cards 53 = .ok (.if_icmp .ne 27, 3) := dk_160 0 27 (dk_at dksX1_cards_2 6 rfl rfl)
theorem dX1_cards_56 : decode cX1_cards 56 = .ok (.aload 5, 2) := dk_25 5 (dk_at dksX1_cards_2 9 rfl rfl)
theorem dX1_cards_58 : decode cX1_cards 58 = .ok (.getfield 169, 3) := dk_180 0 169 (dk_at dksX1_cards_2 11 rfl rfl)
theorem dX1_cards_61 : decode cX1_cards 61 = .ok (.invokevirtual 303, 3) := dk_182 1 47 (dk_at dksX1_cards_2 14 rfl rfl)
theorem dX1_cards_64 : decode cX1_cards 64 = .ok (.iload_n 2, 1) := dk_28 (dk_at dksX1_cards_2 17 rfl rfl)
theorem dX1_cards_65 : decode cX1_cards 65 = .ok (.if_icmp .ne 15, 3) := dk_160 0 15 (dk_at dksX1_cards_2 18 rfl rfl)
theorem dX1_cards_68 : decode cX1_cards 68 = .ok (.aload 5, 2) := dk_25 5 (dk_at dksX1_cards_2 21 rfl rfl)
theorem dX1_cards_70 : decode cX1_cards 70 = .ok (.getfield 188, 3) := dk_180 0 188 (dk_at dksX1_cards_3 0 rfl rfl)
theorem dX1_cards_73 : decode cX1_cards 73 = .ok (.ifCond .ne 7, 3) := dk_154 0 7 (dk_at dksX1_cards_3 3 rfl rfl)
theorem dX1_cards_76 : decode cX1_cards 76 = .ok (.iconst 1, 1) := dk_4 (dk_at dksX1_cards_3 6 rfl rfl)
theorem dX1_cards_77 : decode cX1_cards 77 = .ok (.goto 4, 3) := dk_167 0 4 (dk_at dksX1_cards_3 7 rfl rfl)
theorem dX1_cards_80 : decode cX1_cards 80 = .ok (.iconst 0, 1) := dk_3 (dk_at dksX1_cards_3 10 rfl rfl)
theorem dX1_cards_81 : decode cX1_cards 81 = .ok (.iadd, 1) := dk_96 (dk_at dksX1_cards_3 11 rfl rfl)
theorem dX1_cards_82 : decode cX1_cards 82 = .ok (.istore_n 3, 1) := dk_62 (dk_at dksX1_cards_3 12 rfl rfl)
theorem dX1_cards_83 : decode cX1_cards 83 = .ok (.goto (-59), 3) := dk_167 255 197 (dk_at dksX1_cards_3 13 rfl rfl)
theorem dX1_cards_86 : decode cX1_cards 86 = .ok (.iload_n 3, 1) := dk_29 (dk_at dksX1_cards_3 16 rfl rfl)
theorem dX1_cards_87 : decode cX1_cards 87 = .ok (.ireturn, 1) := dk_172 (dk_at dksX1_cards_3 17 rfl rfl)
abbrev cX1_buildingAt : ByteArray := prog_1_method_77_code
def yX1_buildingAt : MethodName := ⟨RX1, "buildingAt", "(I)I"⟩
def dkwX1_buildingAt_1 : List UInt8 := [185, 0, 72, 1, 0, 44, 193, 0, 86, 153, 0, 7, 6, 167, 0, 4, 3, 96, 172]
abbrev dktX1_buildingAt_1 : List UInt8 := dkwX1_buildingAt_1 ++ []
def dkwX1_buildingAt_0 : List UInt8 := [27, 16, 24, 184, 0, 204, 42, 180, 0, 17, 27, 50, 77, 44, 199, 0, 7, 2, 167, 0, 22, 44]
abbrev dktX1_buildingAt_0 : List UInt8 := dkwX1_buildingAt_0 ++ dktX1_buildingAt_1
theorem dksX1_buildingAt_0 : cX1_buildingAt.data.toList.drop 0 = dktX1_buildingAt_0 := by decide +kernel
theorem dksX1_buildingAt_1 : cX1_buildingAt.data.toList.drop 22 = dktX1_buildingAt_1 := dk_seg dksX1_buildingAt_0 22 rfl rfl
theorem dX1_buildingAt_0 : decode cX1_buildingAt 0 = .ok (.iload_n 1, 1) := dk_27 (dk_at dksX1_buildingAt_0 0 rfl rfl)
theorem dX1_buildingAt_1 : decode cX1_buildingAt 1 = .ok (.bipush 24, 2) := dk_16 24 (dk_at dksX1_buildingAt_0 1 rfl rfl)
theorem dX1_buildingAt_3 : decode cX1_buildingAt 3 = .ok (.invokestatic 204, 3) := dk_184 0 204 (dk_at dksX1_buildingAt_0 3 rfl rfl)
theorem dX1_buildingAt_6 : decode cX1_buildingAt 6 = .ok (.aload_n 0, 1) := dk_42 (dk_at dksX1_buildingAt_0 6 rfl rfl)
theorem dX1_buildingAt_7 : decode cX1_buildingAt 7 = .ok (.getfield 17, 3) := dk_180 0 17 (dk_at dksX1_buildingAt_0 7 rfl rfl)
theorem dX1_buildingAt_10 : decode cX1_buildingAt 10 = .ok (.iload_n 1, 1) := dk_27 (dk_at dksX1_buildingAt_0 10 rfl rfl)
theorem dX1_buildingAt_11 : decode cX1_buildingAt 11 = .ok (.aaload, 1) := dk_50 (dk_at dksX1_buildingAt_0 11 rfl rfl)
theorem dX1_buildingAt_12 : decode cX1_buildingAt 12 = .ok (.astore_n 2, 1) := dk_77 (dk_at dksX1_buildingAt_0 12 rfl rfl)
theorem dX1_buildingAt_13 : decode cX1_buildingAt 13 = .ok (.aload_n 2, 1) := dk_44 (dk_at dksX1_buildingAt_0 13 rfl rfl)
theorem dX1_buildingAt_14 : decode cX1_buildingAt 14 = .ok (.ifnonnull 7, 3) := dk_199 0 7 (dk_at dksX1_buildingAt_0 14 rfl rfl)
theorem dX1_buildingAt_17 : decode cX1_buildingAt 17 = .ok (.iconst (-1), 1) := dk_2 (dk_at dksX1_buildingAt_0 17 rfl rfl)
theorem dX1_buildingAt_18 : decode cX1_buildingAt 18 = .ok (.goto 22, 3) := dk_167 0 22 (dk_at dksX1_buildingAt_0 18 rfl rfl)
theorem dX1_buildingAt_21 : decode cX1_buildingAt 21 = .ok (.aload_n 2, 1) := dk_44 (dk_at dksX1_buildingAt_0 21 rfl rfl)
theorem dX1_buildingAt_22 : decode cX1_buildingAt 22 = .ok (.invokeinterface 72 1, 5) := by decide +kernel
theorem dX1_buildingAt_27 : decode cX1_buildingAt 27 = .ok (.aload_n 2, 1) := dk_44 (dk_at dksX1_buildingAt_1 5 rfl rfl)
theorem dX1_buildingAt_28 : decode cX1_buildingAt 28 = .ok (.instanceof 86, 3) := dk_193 0 86 (dk_at dksX1_buildingAt_1 6 rfl rfl)
theorem dX1_buildingAt_31 : decode cX1_buildingAt 31 = .ok (.ifCond .eq 7, 3) := dk_153 0 7 (dk_at dksX1_buildingAt_1 9 rfl rfl)
theorem dX1_buildingAt_34 : decode cX1_buildingAt 34 = .ok (.iconst 3, 1) := dk_6 (dk_at dksX1_buildingAt_1 12 rfl rfl)
theorem dX1_buildingAt_35 : decode cX1_buildingAt 35 = .ok (.goto 4, 3) := dk_167 0 4 (dk_at dksX1_buildingAt_1 13 rfl rfl)
theorem dX1_buildingAt_38 : decode cX1_buildingAt 38 = .ok (.iconst 0, 1) := dk_3 (dk_at dksX1_buildingAt_1 16 rfl rfl)
theorem dX1_buildingAt_39 : decode cX1_buildingAt 39 = .ok (.iadd, 1) := dk_96 (dk_at dksX1_buildingAt_1 17 rfl rfl)
theorem dX1_buildingAt_40 : decode cX1_buildingAt 40 = .ok (.ireturn, 1) := dk_172 (dk_at dksX1_buildingAt_1 18 rfl rfl)
abbrev cX1_roadAt : ByteArray := prog_1_method_78_code
def yX1_roadAt : MethodName := ⟨RX1, "roadAt", "(I)I"⟩
def dkwX1_roadAt_0 : List UInt8 := [27, 16, 30, 184, 0, 204, 42, 180, 0, 21, 27, 46, 172]
abbrev dktX1_roadAt_0 : List UInt8 := dkwX1_roadAt_0 ++ []
theorem dksX1_roadAt_0 : cX1_roadAt.data.toList.drop 0 = dktX1_roadAt_0 := by decide +kernel
theorem dX1_roadAt_0 : decode cX1_roadAt 0 = .ok (.iload_n 1, 1) := dk_27 (dk_at dksX1_roadAt_0 0 rfl rfl)
theorem dX1_roadAt_1 : decode cX1_roadAt 1 = .ok (.bipush 30, 2) := dk_16 30 (dk_at dksX1_roadAt_0 1 rfl rfl)
theorem dX1_roadAt_3 : decode cX1_roadAt 3 = .ok (.invokestatic 204, 3) := dk_184 0 204 (dk_at dksX1_roadAt_0 3 rfl rfl)
theorem dX1_roadAt_6 : decode cX1_roadAt 6 = .ok (.aload_n 0, 1) := dk_42 (dk_at dksX1_roadAt_0 6 rfl rfl)
theorem dX1_roadAt_7 : decode cX1_roadAt 7 = .ok (.getfield 21, 3) := dk_180 0 21 (dk_at dksX1_roadAt_0 7 rfl rfl)
theorem dX1_roadAt_10 : decode cX1_roadAt 10 = .ok (.iload_n 1, 1) := dk_27 (dk_at dksX1_roadAt_0 10 rfl rfl)
theorem dX1_roadAt_11 : decode cX1_roadAt 11 = .ok (.iaload, 1) := dk_46 (dk_at dksX1_roadAt_0 11 rfl rfl)
theorem dX1_roadAt_12 : decode cX1_roadAt 12 = .ok (.ireturn, 1) := dk_172 (dk_at dksX1_roadAt_0 12 rfl rfl)
abbrev cX1_rate : ByteArray := prog_1_method_80_code
def yX1_rate : MethodName := ⟨RX1, "rate", "(II)I"⟩
def dkwX1_rate_0 : List UInt8 := [27, 6, 184, 0, 204, 28, 184, 1, 64, 42, 27, 28, 182, 1, 76, 172]
abbrev dktX1_rate_0 : List UInt8 := dkwX1_rate_0 ++ []
theorem dksX1_rate_0 : cX1_rate.data.toList.drop 0 = dktX1_rate_0 := by decide +kernel
theorem dX1_rate_0 : decode cX1_rate 0 = .ok (.iload_n 1, 1) := dk_27 (dk_at dksX1_rate_0 0 rfl rfl)
theorem dX1_rate_1 : decode cX1_rate 1 = .ok (.iconst 3, 1) := dk_6 (dk_at dksX1_rate_0 1 rfl rfl)
theorem dX1_rate_2 : decode cX1_rate 2 = .ok (.invokestatic 204, 3) := dk_184 0 204 (dk_at dksX1_rate_0 2 rfl rfl)
theorem dX1_rate_5 : decode cX1_rate 5 = .ok (.iload_n 2, 1) := dk_28 (dk_at dksX1_rate_0 5 rfl rfl)
theorem dX1_rate_6 : decode cX1_rate 6 = .ok (.invokestatic 320, 3) := dk_184 1 64 (dk_at dksX1_rate_0 6 rfl rfl)
theorem dX1_rate_9 : decode cX1_rate 9 = .ok (.aload_n 0, 1) := dk_42 (dk_at dksX1_rate_0 9 rfl rfl)
theorem dX1_rate_10 : decode cX1_rate 10 = .ok (.iload_n 1, 1) := dk_27 (dk_at dksX1_rate_0 10 rfl rfl)
theorem dX1_rate_11 : decode cX1_rate 11 = .ok (.iload_n 2, 1) := dk_28 (dk_at dksX1_rate_0 11 rfl rfl)
theorem dX1_rate_12 : decode cX1_rate 12 = .ok (.invokevirtual 332, 3) := dk_182 1 76 (dk_at dksX1_rate_0 12 rfl rfl)
theorem dX1_rate_15 : decode cX1_rate 15 = .ok (.ireturn, 1) := dk_172 (dk_at dksX1_rate_0 15 rfl rfl)
abbrev cX1_wouldGet : ByteArray := prog_1_method_81_code
def yX1_wouldGet : MethodName := ⟨RX1, "wouldGet", "(III)I"⟩
def dkwX1_wouldGet_1 : List UInt8 := [172]
abbrev dktX1_wouldGet_1 : List UInt8 := dkwX1_wouldGet_1 ++ []
def dkwX1_wouldGet_0 : List UInt8 := [27, 6, 184, 0, 204, 28, 184, 1, 64, 29, 5, 16, 12, 184, 0, 215, 42, 28, 29, 182, 1, 6, 27, 46]
abbrev dktX1_wouldGet_0 : List UInt8 := dkwX1_wouldGet_0 ++ dktX1_wouldGet_1
theorem dksX1_wouldGet_0 : cX1_wouldGet.data.toList.drop 0 = dktX1_wouldGet_0 := by decide +kernel
theorem dksX1_wouldGet_1 : cX1_wouldGet.data.toList.drop 24 = dktX1_wouldGet_1 := dk_seg dksX1_wouldGet_0 24 rfl rfl
theorem dX1_wouldGet_0 : decode cX1_wouldGet 0 = .ok (.iload_n 1, 1) := dk_27 (dk_at dksX1_wouldGet_0 0 rfl rfl)
theorem dX1_wouldGet_1 : decode cX1_wouldGet 1 = .ok (.iconst 3, 1) := dk_6 (dk_at dksX1_wouldGet_0 1 rfl rfl)
theorem dX1_wouldGet_2 : decode cX1_wouldGet 2 = .ok (.invokestatic 204, 3) := dk_184 0 204 (dk_at dksX1_wouldGet_0 2 rfl rfl)
theorem dX1_wouldGet_5 : decode cX1_wouldGet 5 = .ok (.iload_n 2, 1) := dk_28 (dk_at dksX1_wouldGet_0 5 rfl rfl)
theorem dX1_wouldGet_6 : decode cX1_wouldGet 6 = .ok (.invokestatic 320, 3) := dk_184 1 64 (dk_at dksX1_wouldGet_0 6 rfl rfl)
theorem dX1_wouldGet_9 : decode cX1_wouldGet 9 = .ok (.iload_n 3, 1) := dk_29 (dk_at dksX1_wouldGet_0 9 rfl rfl)
theorem dX1_wouldGet_10 : decode cX1_wouldGet 10 = .ok (.iconst 2, 1) := dk_5 (dk_at dksX1_wouldGet_0 10 rfl rfl)
theorem dX1_wouldGet_11 : decode cX1_wouldGet 11 = .ok (.bipush 12, 2) := dk_16 12 (dk_at dksX1_wouldGet_0 11 rfl rfl)
theorem dX1_wouldGet_13 : decode cX1_wouldGet 13 = .ok (.invokestatic 215, 3) := dk_184 0 215 (dk_at dksX1_wouldGet_0 13 rfl rfl)
theorem dX1_wouldGet_16 : decode cX1_wouldGet 16 = .ok (.aload_n 0, 1) := dk_42 (dk_at dksX1_wouldGet_0 16 rfl rfl)
theorem dX1_wouldGet_17 : decode cX1_wouldGet 17 = .ok (.iload_n 2, 1) := dk_28 (dk_at dksX1_wouldGet_0 17 rfl rfl)
theorem dX1_wouldGet_18 : decode cX1_wouldGet 18 = .ok (.iload_n 3, 1) := dk_29 (dk_at dksX1_wouldGet_0 18 rfl rfl)
theorem dX1_wouldGet_19 : decode cX1_wouldGet 19 = .ok (.invokevirtual 262, 3) := dk_182 1 6 (dk_at dksX1_wouldGet_0 19 rfl rfl)
theorem dX1_wouldGet_22 : decode cX1_wouldGet 22 = .ok (.iload_n 1, 1) := dk_27 (dk_at dksX1_wouldGet_0 22 rfl rfl)
theorem dX1_wouldGet_23 : decode cX1_wouldGet 23 = .ok (.iaload, 1) := dk_46 (dk_at dksX1_wouldGet_0 23 rfl rfl)
theorem dX1_wouldGet_24 : decode cX1_wouldGet 24 = .ok (.ireturn, 1) := dk_172 (dk_at dksX1_wouldGet_1 0 rfl rfl)
theorem q71 : (Jvm.Cond.initialized "Hexstead") ∈ lw_all := lw_g (lw_at lw_m1 1 rfl) rfl
theorem q99 : (Jvm.Cond.instantiable "Hexstead" (19 : Nat)) ∈ lw_all := lw_g (lw_at lw_m1 29 rfl) rfl
theorem q101 : (Jvm.Cond.instanceMethod ({ cls := "Hexstead", name := "<init>", desc := "()V" } : Jvm.MethodName)) ∈ lw_all := lw_g (lw_at lw_m1 31 rfl) rfl
theorem q102 : (Jvm.Cond.code ({ cls := "Hexstead", name := "<init>", desc := "()V" } : Jvm.MethodName) prog_1_method_1_code (3 : Nat) (Option.none : Option Jvm.ClassFile.FieldType)) ∈ lw_all := lw_g (lw_at lw_m1 32 rfl) rfl
theorem q103 : (Jvm.Cond.methodLink "Hexstead" (1 : Nat) ({ cls := "java/lang/Object", name := "<init>", desc := "()V" } : Jvm.MethodName)) ∈ lw_all := lw_g (lw_at lw_m1 33 rfl) rfl
theorem q106 : (Jvm.Cond.classLink "Hexstead" (9 : Nat) "Hexstead$Hex") ∈ lw_all := lw_g (lw_at lw_m1 36 rfl) rfl
theorem q108 : (Jvm.Cond.classLink "Hexstead" (15 : Nat) "Hexstead$Building") ∈ lw_all := lw_g (lw_at lw_m1 38 rfl) rfl
theorem q110 : (Jvm.Cond.classLink "Hexstead" (25 : Nat) "[[I") ∈ lw_all := lw_g (lw_at lw_m1 40 rfl) rfl
theorem q112 : (Jvm.Cond.classLink "Hexstead" (36 : Nat) "java/util/ArrayList") ∈ lw_all := lw_g (lw_at lw_m1 42 rfl) rfl
theorem q114 : (Jvm.Cond.methodLink "Hexstead" (38 : Nat) ({ cls := "java/util/ArrayList", name := "<init>", desc := "()V" } : Jvm.MethodName)) ∈ lw_all := lw_g (lw_at lw_m1 44 rfl) rfl
theorem q142 : (Jvm.Cond.classLink "Hexstead" (46 : Nat) "Hexstead$Offer") ∈ lw_all := lw_g (lw_at lw_m1 72 rfl) rfl
theorem q145 : (Jvm.Cond.methodLink "Hexstead" (62 : Nat) ({ cls := "Hexstead$Hex", name := "<init>", desc := "(III)V" } : Jvm.MethodName)) ∈ lw_all := lw_g (lw_at lw_m1 75 rfl) rfl
theorem q150 : (Jvm.Cond.fieldLinkNest "Hexstead" (115 : Nat) "Hexstead$Hex" "corners" "[I" "Hexstead") ∈ lw_tbl := lw_at lw_m1 80 rfl
theorem q152 : (Jvm.Cond.fieldLinkNest "Hexstead" (65 : Nat) "Hexstead$Hex" "good" "I" "Hexstead") ∈ lw_tbl := lw_at lw_m1 82 rfl
theorem q154 : (Jvm.Cond.fieldLinkNest "Hexstead" (118 : Nat) "Hexstead$Hex" "number" "I" "Hexstead") ∈ lw_tbl := lw_at lw_m1 84 rfl
theorem q162 : (Jvm.Cond.fieldLink "Hexstead" (11 : Nat) "Hexstead" "hexes" "[LHexstead$Hex;") ∈ lw_all := lw_g (lw_at lw_m1 92 rfl) rfl
theorem q163 : (Jvm.Cond.fieldLink "Hexstead" (17 : Nat) "Hexstead" "buildings" "[LHexstead$Building;") ∈ lw_all := lw_g (lw_at lw_m1 93 rfl) rfl
theorem q164 : (Jvm.Cond.fieldLink "Hexstead" (21 : Nat) "Hexstead" "roads" "[I") ∈ lw_all := lw_g (lw_at lw_m1 94 rfl) rfl
theorem q165 : (Jvm.Cond.fieldLink "Hexstead" (27 : Nat) "Hexstead" "hands" "[[I") ∈ lw_all := lw_g (lw_at lw_m1 95 rfl) rfl
theorem q166 : (Jvm.Cond.fieldLink "Hexstead" (30 : Nat) "Hexstead" "due" "[I") ∈ lw_all := lw_g (lw_at lw_m1 96 rfl) rfl
theorem q167 : (Jvm.Cond.fieldLink "Hexstead" (33 : Nat) "Hexstead" "knights" "[I") ∈ lw_all := lw_g (lw_at lw_m1 97 rfl) rfl
theorem q168 : (Jvm.Cond.fieldLink "Hexstead" (39 : Nat) "Hexstead" "cards" "Ljava/util/List;") ∈ lw_all := lw_g (lw_at lw_m1 98 rfl) rfl
theorem q169 : (Jvm.Cond.fieldLink "Hexstead" (43 : Nat) "Hexstead" "moves" "Ljava/util/List;") ∈ lw_all := lw_g (lw_at lw_m1 99 rfl) rfl
theorem q170 : (Jvm.Cond.fieldLink "Hexstead" (48 : Nat) "Hexstead" "counters" "[LHexstead$Offer;") ∈ lw_all := lw_g (lw_at lw_m1 100 rfl) rfl
theorem q171 : (Jvm.Cond.fieldLink "Hexstead" (335 : Nat) "Hexstead" "offer" "LHexstead$Offer;") ∈ lw_all := lw_g (lw_at lw_m1 101 rfl) rfl
theorem q172 : (Jvm.Cond.fieldLink "Hexstead" (121 : Nat) "Hexstead" "robber" "I") ∈ lw_all := lw_g (lw_at lw_m1 102 rfl) rfl
theorem q173 : (Jvm.Cond.fieldLink "Hexstead" (52 : Nat) "Hexstead" "phase" "I") ∈ lw_all := lw_g (lw_at lw_m1 103 rfl) rfl
theorem q174 : (Jvm.Cond.fieldLink "Hexstead" (227 : Nat) "Hexstead" "placed" "I") ∈ lw_all := lw_g (lw_at lw_m1 104 rfl) rfl
theorem q175 : (Jvm.Cond.fieldLink "Hexstead" (185 : Nat) "Hexstead" "turns" "I") ∈ lw_all := lw_g (lw_at lw_m1 105 rfl) rfl
theorem q176 : (Jvm.Cond.fieldLink "Hexstead" (176 : Nat) "Hexstead" "turn" "I") ∈ lw_all := lw_g (lw_at lw_m1 106 rfl) rfl
theorem q177 : (Jvm.Cond.fieldLink "Hexstead" (253 : Nat) "Hexstead" "hasRolled" "Z") ∈ lw_all := lw_g (lw_at lw_m1 107 rfl) rfl
theorem q178 : (Jvm.Cond.fieldLink "Hexstead" (192 : Nat) "Hexstead" "hasUsed" "Z") ∈ lw_all := lw_g (lw_at lw_m1 108 rfl) rfl
theorem q179 : (Jvm.Cond.fieldLink "Hexstead" (56 : Nat) "Hexstead" "trailHolder" "I") ∈ lw_all := lw_g (lw_at lw_m1 109 rfl) rfl
theorem q180 : (Jvm.Cond.fieldLink "Hexstead" (59 : Nat) "Hexstead" "armyHolder" "I") ∈ lw_all := lw_g (lw_at lw_m1 110 rfl) rfl
theorem q181 : (Jvm.Cond.laysFinal "Hexstead" "Hexstead" "hexes" "[LHexstead$Hex;") ∈ lw_all := lw_g (lw_at lw_m1 111 rfl) rfl
theorem q182 : (Jvm.Cond.soleField "Hexstead" "hexes") ∈ lw_all := lw_g (lw_at lw_m1 112 rfl) rfl
theorem q183 : (Jvm.Cond.laysFinal "Hexstead" "Hexstead" "buildings" "[LHexstead$Building;") ∈ lw_all := lw_g (lw_at lw_m1 113 rfl) rfl
theorem q184 : (Jvm.Cond.soleField "Hexstead" "buildings") ∈ lw_all := lw_g (lw_at lw_m1 114 rfl) rfl
theorem q185 : (Jvm.Cond.laysFinal "Hexstead" "Hexstead" "roads" "[I") ∈ lw_all := lw_g (lw_at lw_m1 115 rfl) rfl
theorem q186 : (Jvm.Cond.soleField "Hexstead" "roads") ∈ lw_all := lw_g (lw_at lw_m1 116 rfl) rfl
theorem q187 : (Jvm.Cond.laysFinal "Hexstead" "Hexstead" "hands" "[[I") ∈ lw_all := lw_g (lw_at lw_m1 117 rfl) rfl
theorem q188 : (Jvm.Cond.soleField "Hexstead" "hands") ∈ lw_all := lw_g (lw_at lw_m1 118 rfl) rfl
theorem q189 : (Jvm.Cond.laysFinal "Hexstead" "Hexstead" "due" "[I") ∈ lw_all := lw_g (lw_at lw_m1 119 rfl) rfl
theorem q190 : (Jvm.Cond.soleField "Hexstead" "due") ∈ lw_all := lw_g (lw_at lw_m1 120 rfl) rfl
theorem q191 : (Jvm.Cond.laysFinal "Hexstead" "Hexstead" "knights" "[I") ∈ lw_all := lw_g (lw_at lw_m1 121 rfl) rfl
theorem q192 : (Jvm.Cond.soleField "Hexstead" "knights") ∈ lw_all := lw_g (lw_at lw_m1 122 rfl) rfl
theorem q193 : (Jvm.Cond.laysFinal "Hexstead" "Hexstead" "cards" "Ljava/util/List;") ∈ lw_all := lw_g (lw_at lw_m1 123 rfl) rfl
theorem q194 : (Jvm.Cond.soleField "Hexstead" "cards") ∈ lw_all := lw_g (lw_at lw_m1 124 rfl) rfl
theorem q195 : (Jvm.Cond.laysFinal "Hexstead" "Hexstead" "moves" "Ljava/util/List;") ∈ lw_all := lw_g (lw_at lw_m1 125 rfl) rfl
theorem q196 : (Jvm.Cond.soleField "Hexstead" "moves") ∈ lw_all := lw_g (lw_at lw_m1 126 rfl) rfl
theorem q197 : (Jvm.Cond.laysFinal "Hexstead" "Hexstead" "counters" "[LHexstead$Offer;") ∈ lw_all := lw_g (lw_at lw_m1 127 rfl) rfl
theorem q198 : (Jvm.Cond.soleField "Hexstead" "counters") ∈ lw_all := lw_g (lw_at lw_m1 128 rfl) rfl
theorem q199 : (Jvm.Cond.lays "Hexstead" "Hexstead" "offer" "LHexstead$Offer;") ∈ lw_all := lw_g (lw_at lw_m1 129 rfl) rfl
theorem q200 : (Jvm.Cond.soleField "Hexstead" "offer") ∈ lw_all := lw_g (lw_at lw_m1 130 rfl) rfl
theorem q201 : (Jvm.Cond.lays "Hexstead" "Hexstead" "robber" "I") ∈ lw_all := lw_g (lw_at lw_m1 131 rfl) rfl
theorem q202 : (Jvm.Cond.soleField "Hexstead" "robber") ∈ lw_all := lw_g (lw_at lw_m1 132 rfl) rfl
theorem q203 : (Jvm.Cond.lays "Hexstead" "Hexstead" "phase" "I") ∈ lw_all := lw_g (lw_at lw_m1 133 rfl) rfl
theorem q204 : (Jvm.Cond.soleField "Hexstead" "phase") ∈ lw_all := lw_g (lw_at lw_m1 134 rfl) rfl
theorem q205 : (Jvm.Cond.lays "Hexstead" "Hexstead" "placed" "I") ∈ lw_all := lw_g (lw_at lw_m1 135 rfl) rfl
theorem q206 : (Jvm.Cond.soleField "Hexstead" "placed") ∈ lw_all := lw_g (lw_at lw_m1 136 rfl) rfl
theorem q207 : (Jvm.Cond.lays "Hexstead" "Hexstead" "turns" "I") ∈ lw_all := lw_g (lw_at lw_m1 137 rfl) rfl
theorem q208 : (Jvm.Cond.soleField "Hexstead" "turns") ∈ lw_all := lw_g (lw_at lw_m1 138 rfl) rfl
theorem q209 : (Jvm.Cond.lays "Hexstead" "Hexstead" "turn" "I") ∈ lw_all := lw_g (lw_at lw_m1 139 rfl) rfl
theorem q210 : (Jvm.Cond.soleField "Hexstead" "turn") ∈ lw_all := lw_g (lw_at lw_m1 140 rfl) rfl
theorem q211 : (Jvm.Cond.lays "Hexstead" "Hexstead" "hasRolled" "Z") ∈ lw_all := lw_g (lw_at lw_m1 141 rfl) rfl
theorem q212 : (Jvm.Cond.soleField "Hexstead" "hasRolled") ∈ lw_all := lw_g (lw_at lw_m1 142 rfl) rfl
theorem q213 : (Jvm.Cond.lays "Hexstead" "Hexstead" "hasUsed" "Z") ∈ lw_all := lw_g (lw_at lw_m1 143 rfl) rfl
theorem q214 : (Jvm.Cond.soleField "Hexstead" "hasUsed") ∈ lw_all := lw_g (lw_at lw_m1 144 rfl) rfl
theorem q215 : (Jvm.Cond.lays "Hexstead" "Hexstead" "trailHolder" "I") ∈ lw_all := lw_g (lw_at lw_m1 145 rfl) rfl
theorem q216 : (Jvm.Cond.soleField "Hexstead" "trailHolder") ∈ lw_all := lw_g (lw_at lw_m1 146 rfl) rfl
theorem q217 : (Jvm.Cond.lays "Hexstead" "Hexstead" "armyHolder" "I") ∈ lw_all := lw_g (lw_at lw_m1 147 rfl) rfl
theorem q218 : (Jvm.Cond.soleField "Hexstead" "armyHolder") ∈ lw_all := lw_g (lw_at lw_m1 148 rfl) rfl
theorem q219 : (Jvm.Cond.superclass "Hexstead" "java/lang/Object") ∈ lw_all := lw_g (lw_at lw_m1 149 rfl) rfl
theorem q221 : (Jvm.Cond.instanceMethod ({ cls := "Hexstead", name := "phase", desc := "()I" } : Jvm.MethodName)) ∈ lw_all := lw_g (lw_at lw_m1 151 rfl) rfl
theorem q222 : (Jvm.Cond.selects "Hexstead" ({ cls := "Hexstead", name := "phase", desc := "()I" } : Jvm.MethodName) ({ cls := "Hexstead", name := "phase", desc := "()I" } : Jvm.MethodName)) ∈ lw_all := lw_g (lw_at lw_m1 152 rfl) rfl
theorem q223 : (Jvm.Cond.code ({ cls := "Hexstead", name := "phase", desc := "()I" } : Jvm.MethodName) prog_1_method_66_code (1 : Nat) (Option.some Jvm.ClassFile.FieldType.int)) ∈ lw_all := lw_g (lw_at lw_m1 153 rfl) rfl
theorem q225 : (Jvm.Cond.instanceMethod ({ cls := "Hexstead", name := "turn", desc := "()I" } : Jvm.MethodName)) ∈ lw_all := lw_g (lw_at lw_m1 155 rfl) rfl
theorem q226 : (Jvm.Cond.selects "Hexstead" ({ cls := "Hexstead", name := "turn", desc := "()I" } : Jvm.MethodName) ({ cls := "Hexstead", name := "turn", desc := "()I" } : Jvm.MethodName)) ∈ lw_all := lw_g (lw_at lw_m1 156 rfl) rfl
theorem q227 : (Jvm.Cond.code ({ cls := "Hexstead", name := "turn", desc := "()I" } : Jvm.MethodName) prog_1_method_67_code (1 : Nat) (Option.some Jvm.ClassFile.FieldType.int)) ∈ lw_all := lw_g (lw_at lw_m1 157 rfl) rfl
theorem q229 : (Jvm.Cond.instanceMethod ({ cls := "Hexstead", name := "holder", desc := "(Z)I" } : Jvm.MethodName)) ∈ lw_all := lw_g (lw_at lw_m1 159 rfl) rfl
theorem q230 : (Jvm.Cond.selects "Hexstead" ({ cls := "Hexstead", name := "holder", desc := "(Z)I" } : Jvm.MethodName) ({ cls := "Hexstead", name := "holder", desc := "(Z)I" } : Jvm.MethodName)) ∈ lw_all := lw_g (lw_at lw_m1 160 rfl) rfl
theorem q231 : (Jvm.Cond.code ({ cls := "Hexstead", name := "holder", desc := "(Z)I" } : Jvm.MethodName) prog_1_method_74_code (2 : Nat) (Option.some Jvm.ClassFile.FieldType.int)) ∈ lw_all := lw_g (lw_at lw_m1 161 rfl) rfl
theorem q233 : (Jvm.Cond.instanceMethod ({ cls := "Hexstead", name := "robber", desc := "()I" } : Jvm.MethodName)) ∈ lw_all := lw_g (lw_at lw_m1 163 rfl) rfl
theorem q234 : (Jvm.Cond.selects "Hexstead" ({ cls := "Hexstead", name := "robber", desc := "()I" } : Jvm.MethodName) ({ cls := "Hexstead", name := "robber", desc := "()I" } : Jvm.MethodName)) ∈ lw_all := lw_g (lw_at lw_m1 164 rfl) rfl
theorem q235 : (Jvm.Cond.code ({ cls := "Hexstead", name := "robber", desc := "()I" } : Jvm.MethodName) prog_1_method_79_code (1 : Nat) (Option.some Jvm.ClassFile.FieldType.int)) ∈ lw_all := lw_g (lw_at lw_m1 165 rfl) rfl
theorem q319 : (Jvm.Cond.instanceMethod ({ cls := "Hexstead", name := "layHex", desc := "(III)V" } : Jvm.MethodName)) ∈ lw_all := lw_g (lw_at lw_m2 9 rfl) rfl
theorem q320 : (Jvm.Cond.selects "Hexstead" ({ cls := "Hexstead", name := "layHex", desc := "(III)V" } : Jvm.MethodName) ({ cls := "Hexstead", name := "layHex", desc := "(III)V" } : Jvm.MethodName)) ∈ lw_all := lw_g (lw_at lw_m2 10 rfl) rfl
theorem q321 : (Jvm.Cond.code ({ cls := "Hexstead", name := "layHex", desc := "(III)V" } : Jvm.MethodName) prog_1_method_40_code (4 : Nat) (Option.none : Option Jvm.ClassFile.FieldType)) ∈ lw_all := lw_g (lw_at lw_m2 11 rfl) rfl
theorem q322 : (Jvm.Cond.methodLink "Hexstead" (204 : Nat) ({ cls := "Hexstead", name := "check", desc := "(II)V" } : Jvm.MethodName)) ∈ lw_all := lw_g (lw_at lw_m2 12 rfl) rfl
theorem q323 : (Jvm.Cond.static ({ cls := "Hexstead", name := "check", desc := "(II)V" } : Jvm.MethodName)) ∈ lw_all := lw_g (lw_at lw_m2 13 rfl) rfl
theorem q324 : (Jvm.Cond.code ({ cls := "Hexstead", name := "check", desc := "(II)V" } : Jvm.MethodName) prog_1_method_32_code (2 : Nat) (Option.none : Option Jvm.ClassFile.FieldType)) ∈ lw_all := lw_g (lw_at lw_m2 14 rfl) rfl
theorem q325 : (Jvm.Cond.classLink "Hexstead" (201 : Nat) "java/lang/IndexOutOfBoundsException") ∈ lw_all := lw_g (lw_at lw_m2 15 rfl) rfl
theorem q334 : (Jvm.Cond.methodLink "Hexstead" (203 : Nat) ({ cls := "java/lang/IndexOutOfBoundsException", name := "<init>", desc := "()V" } : Jvm.MethodName)) ∈ lw_all := lw_g (lw_at lw_m2 24 rfl) rfl
theorem q346 : (Jvm.Cond.methodLink "Hexstead" (215 : Nat) ({ cls := "Hexstead", name := "checkRange", desc := "(III)V" } : Jvm.MethodName)) ∈ lw_all := lw_g (lw_at lw_m2 36 rfl) rfl
theorem q347 : (Jvm.Cond.static ({ cls := "Hexstead", name := "checkRange", desc := "(III)V" } : Jvm.MethodName)) ∈ lw_all := lw_g (lw_at lw_m2 37 rfl) rfl
theorem q348 : (Jvm.Cond.code ({ cls := "Hexstead", name := "checkRange", desc := "(III)V" } : Jvm.MethodName) prog_1_method_34_code (3 : Nat) (Option.none : Option Jvm.ClassFile.FieldType)) ∈ lw_all := lw_g (lw_at lw_m2 38 rfl) rfl
theorem q349 : (Jvm.Cond.classLink "Hexstead" (208 : Nat) "java/lang/IllegalArgumentException") ∈ lw_all := lw_g (lw_at lw_m2 39 rfl) rfl
theorem q358 : (Jvm.Cond.methodLink "Hexstead" (210 : Nat) ({ cls := "java/lang/IllegalArgumentException", name := "<init>", desc := "()V" } : Jvm.MethodName)) ∈ lw_all := lw_g (lw_at lw_m2 48 rfl) rfl
theorem q364 : (Jvm.Cond.methodLink "Hexstead" (230 : Nat) ({ cls := "Hexstead", name := "checkState", desc := "(Z)V" } : Jvm.MethodName)) ∈ lw_all := lw_g (lw_at lw_m2 54 rfl) rfl
theorem q365 : (Jvm.Cond.static ({ cls := "Hexstead", name := "checkState", desc := "(Z)V" } : Jvm.MethodName)) ∈ lw_all := lw_g (lw_at lw_m2 55 rfl) rfl
theorem q366 : (Jvm.Cond.code ({ cls := "Hexstead", name := "checkState", desc := "(Z)V" } : Jvm.MethodName) prog_1_method_35_code (1 : Nat) (Option.none : Option Jvm.ClassFile.FieldType)) ∈ lw_all := lw_g (lw_at lw_m2 56 rfl) rfl
theorem q367 : (Jvm.Cond.classLink "Hexstead" (211 : Nat) "java/lang/IllegalStateException") ∈ lw_all := lw_g (lw_at lw_m2 57 rfl) rfl
theorem q376 : (Jvm.Cond.methodLink "Hexstead" (213 : Nat) ({ cls := "java/lang/IllegalStateException", name := "<init>", desc := "()V" } : Jvm.MethodName)) ∈ lw_all := lw_g (lw_at lw_m2 66 rfl) rfl
theorem q386 : (Jvm.Cond.instanceMethod ({ cls := "Hexstead", name := "place", desc := "(II)I" } : Jvm.MethodName)) ∈ lw_all := lw_g (lw_at lw_m2 76 rfl) rfl
theorem q387 : (Jvm.Cond.selects "Hexstead" ({ cls := "Hexstead", name := "place", desc := "(II)I" } : Jvm.MethodName) ({ cls := "Hexstead", name := "place", desc := "(II)I" } : Jvm.MethodName)) ∈ lw_all := lw_g (lw_at lw_m2 77 rfl) rfl
theorem q388 : (Jvm.Cond.code ({ cls := "Hexstead", name := "place", desc := "(II)I" } : Jvm.MethodName) prog_1_method_41_code (4 : Nat) (Option.some Jvm.ClassFile.FieldType.int)) ∈ lw_all := lw_g (lw_at lw_m2 78 rfl) rfl
theorem q389 : (Jvm.Cond.methodLink "Hexstead" (234 : Nat) ({ cls := "Hexstead", name := "isFree", desc := "(I)Z" } : Jvm.MethodName)) ∈ lw_all := lw_g (lw_at lw_m2 79 rfl) rfl
theorem q390 : (Jvm.Cond.privateMethod ({ cls := "Hexstead", name := "isFree", desc := "(I)Z" } : Jvm.MethodName)) ∈ lw_tbl := lw_at lw_m2 80 rfl
theorem q391 : (Jvm.Cond.instanceMethod ({ cls := "Hexstead", name := "isFree", desc := "(I)Z" } : Jvm.MethodName)) ∈ lw_all := lw_g (lw_at lw_m2 81 rfl) rfl
theorem q392 : (Jvm.Cond.code ({ cls := "Hexstead", name := "isFree", desc := "(I)Z" } : Jvm.MethodName) prog_1_method_7_code (4 : Nat) (Option.some Jvm.ClassFile.FieldType.boolean)) ∈ lw_all := lw_g (lw_at lw_m2 82 rfl) rfl
theorem q393 : (Jvm.Cond.methodLink "Hexstead" (76 : Nat) ({ cls := "Hexstead", name := "isAt", desc := "(II)Z" } : Jvm.MethodName)) ∈ lw_all := lw_g (lw_at lw_m2 83 rfl) rfl
theorem q394 : (Jvm.Cond.static ({ cls := "Hexstead", name := "isAt", desc := "(II)Z" } : Jvm.MethodName)) ∈ lw_all := lw_g (lw_at lw_m2 84 rfl) rfl
theorem q395 : (Jvm.Cond.code ({ cls := "Hexstead", name := "isAt", desc := "(II)Z" } : Jvm.MethodName) prog_1_method_3_code (2 : Nat) (Option.some Jvm.ClassFile.FieldType.boolean)) ∈ lw_all := lw_g (lw_at lw_m2 85 rfl) rfl
theorem q396 : (Jvm.Cond.methodLink "Hexstead" (68 : Nat) ({ cls := "Hexstead", name := "end", desc := "(II)I" } : Jvm.MethodName)) ∈ lw_all := lw_g (lw_at lw_m2 86 rfl) rfl
theorem q397 : (Jvm.Cond.static ({ cls := "Hexstead", name := "end", desc := "(II)I" } : Jvm.MethodName)) ∈ lw_all := lw_g (lw_at lw_m2 87 rfl) rfl
theorem q398 : (Jvm.Cond.code ({ cls := "Hexstead", name := "end", desc := "(II)I" } : Jvm.MethodName) prog_1_method_2_code (2 : Nat) (Option.some Jvm.ClassFile.FieldType.int)) ∈ lw_all := lw_g (lw_at lw_m2 88 rfl) rfl
theorem q399 : (Jvm.Cond.methodLink "Hexstead" (80 : Nat) ({ cls := "Hexstead", name := "otherEnd", desc := "(II)I" } : Jvm.MethodName)) ∈ lw_all := lw_g (lw_at lw_m2 89 rfl) rfl
theorem q400 : (Jvm.Cond.static ({ cls := "Hexstead", name := "otherEnd", desc := "(II)I" } : Jvm.MethodName)) ∈ lw_all := lw_g (lw_at lw_m2 90 rfl) rfl
theorem q401 : (Jvm.Cond.code ({ cls := "Hexstead", name := "otherEnd", desc := "(II)I" } : Jvm.MethodName) prog_1_method_4_code (2 : Nat) (Option.some Jvm.ClassFile.FieldType.int)) ∈ lw_all := lw_g (lw_at lw_m2 91 rfl) rfl
theorem q402 : (Jvm.Cond.classLink "Hexstead" (238 : Nat) "Hexstead$House") ∈ lw_all := lw_g (lw_at lw_m2 92 rfl) rfl
theorem q404 : (Jvm.Cond.methodLink "Hexstead" (240 : Nat) ({ cls := "Hexstead$House", name := "<init>", desc := "(I)V" } : Jvm.MethodName)) ∈ lw_all := lw_g (lw_at lw_m2 94 rfl) rfl
theorem q412 : (Jvm.Cond.methodLink "Hexstead" (243 : Nat) ({ cls := "Hexstead$Hex", name := "has", desc := "(I)Z" } : Jvm.MethodName)) ∈ lw_all := lw_g (lw_at lw_m2 102 rfl) rfl
theorem q416 : (Jvm.Cond.methodLink "Hexstead" (127 : Nat) ({ cls := "java/lang/Math", name := "min", desc := "(II)I" } : Jvm.MethodName)) ∈ lw_all := lw_g (lw_at lw_m2 106 rfl) rfl
theorem q419 : (Jvm.Cond.methodLink "Hexstead" (112 : Nat) ({ cls := "Hexstead", name := "move", desc := "(IIII)V" } : Jvm.MethodName)) ∈ lw_all := lw_g (lw_at lw_m2 109 rfl) rfl
theorem q420 : (Jvm.Cond.privateMethod ({ cls := "Hexstead", name := "move", desc := "(IIII)V" } : Jvm.MethodName)) ∈ lw_tbl := lw_at lw_m2 110 rfl
theorem q421 : (Jvm.Cond.instanceMethod ({ cls := "Hexstead", name := "move", desc := "(IIII)V" } : Jvm.MethodName)) ∈ lw_all := lw_g (lw_at lw_m2 111 rfl) rfl
theorem q422 : (Jvm.Cond.code ({ cls := "Hexstead", name := "move", desc := "(IIII)V" } : Jvm.MethodName) prog_1_method_16_code (5 : Nat) (Option.none : Option Jvm.ClassFile.FieldType)) ∈ lw_all := lw_g (lw_at lw_m2 112 rfl) rfl
theorem q423 : (Jvm.Cond.classLink "Hexstead" (101 : Nat) "Hexstead$Move") ∈ lw_all := lw_g (lw_at lw_m2 113 rfl) rfl
theorem q425 : (Jvm.Cond.methodLink "Hexstead" (103 : Nat) ({ cls := "Hexstead$Move", name := "<init>", desc := "(IIII)V" } : Jvm.MethodName)) ∈ lw_all := lw_g (lw_at lw_m2 115 rfl) rfl
theorem q442 : (Jvm.Cond.interfaceEntry "Hexstead" (106 : Nat)) ∈ lw_tbl := lw_at lw_m2 132 rfl
theorem q443 : (Jvm.Cond.methodLink "Hexstead" (106 : Nat) ({ cls := "java/util/List", name := "add", desc := "(Ljava/lang/Object;)Z" } : Jvm.MethodName)) ∈ lw_all := lw_g (lw_at lw_m2 133 rfl) rfl
theorem q480 : (Jvm.Cond.selects "Hexstead" ({ cls := "java/lang/Object", name := "getClass", desc := "()Ljava/lang/Class;" } : Jvm.MethodName) ({ cls := "java/lang/Object", name := "getClass", desc := "()Ljava/lang/Class;" } : Jvm.MethodName)) ∈ lw_all := lw_g (lw_at lw_m2 170 rfl) rfl
theorem q509 : (Jvm.Cond.methodLink "Hexstead" (136 : Nat) ({ cls := "java/lang/Math", name := "max", desc := "(II)I" } : Jvm.MethodName)) ∈ lw_all := lw_g (lw_at lw_m2 199 rfl) rfl
theorem q510 : (Jvm.Cond.methodLink "Hexstead" (246 : Nat) ({ cls := "Hexstead", name := "done", desc := "(Z)V" } : Jvm.MethodName)) ∈ lw_all := lw_g (lw_at lw_m2 200 rfl) rfl
theorem q511 : (Jvm.Cond.privateMethod ({ cls := "Hexstead", name := "done", desc := "(Z)V" } : Jvm.MethodName)) ∈ lw_tbl := lw_at lw_m2 201 rfl
theorem q512 : (Jvm.Cond.instanceMethod ({ cls := "Hexstead", name := "done", desc := "(Z)V" } : Jvm.MethodName)) ∈ lw_all := lw_g (lw_at lw_m2 202 rfl) rfl
theorem q513 : (Jvm.Cond.code ({ cls := "Hexstead", name := "done", desc := "(Z)V" } : Jvm.MethodName) prog_1_method_38_code (2 : Nat) (Option.none : Option Jvm.ClassFile.FieldType)) ∈ lw_all := lw_g (lw_at lw_m2 203 rfl) rfl
theorem q514 : (Jvm.Cond.methodLink "Hexstead" (218 : Nat) ({ cls := "Hexstead", name := "lookAtTrails", desc := "()V" } : Jvm.MethodName)) ∈ lw_all := lw_g (lw_at lw_m2 204 rfl) rfl
theorem q515 : (Jvm.Cond.privateMethod ({ cls := "Hexstead", name := "lookAtTrails", desc := "()V" } : Jvm.MethodName)) ∈ lw_tbl := lw_at lw_m2 205 rfl
theorem q516 : (Jvm.Cond.instanceMethod ({ cls := "Hexstead", name := "lookAtTrails", desc := "()V" } : Jvm.MethodName)) ∈ lw_all := lw_g (lw_at lw_m2 206 rfl) rfl
theorem q517 : (Jvm.Cond.code ({ cls := "Hexstead", name := "lookAtTrails", desc := "()V" } : Jvm.MethodName) prog_1_method_24_code (6 : Nat) (Option.none : Option Jvm.ClassFile.FieldType)) ∈ lw_all := lw_g (lw_at lw_m2 207 rfl) rfl
theorem q518 : (Jvm.Cond.methodLink "Hexstead" (145 : Nat) ({ cls := "Hexstead", name := "longest", desc := "(I)I" } : Jvm.MethodName)) ∈ lw_all := lw_g (lw_at lw_m2 208 rfl) rfl
theorem q519 : (Jvm.Cond.privateMethod ({ cls := "Hexstead", name := "longest", desc := "(I)I" } : Jvm.MethodName)) ∈ lw_tbl := lw_at lw_m2 209 rfl
theorem q520 : (Jvm.Cond.instanceMethod ({ cls := "Hexstead", name := "longest", desc := "(I)I" } : Jvm.MethodName)) ∈ lw_all := lw_g (lw_at lw_m2 210 rfl) rfl
theorem q521 : (Jvm.Cond.code ({ cls := "Hexstead", name := "longest", desc := "(I)I" } : Jvm.MethodName) prog_1_method_20_code (4 : Nat) (Option.some Jvm.ClassFile.FieldType.int)) ∈ lw_all := lw_g (lw_at lw_m2 211 rfl) rfl
theorem q522 : (Jvm.Cond.methodLink "Hexstead" (132 : Nat) ({ cls := "Hexstead", name := "goOn", desc := "(III)I" } : Jvm.MethodName)) ∈ lw_all := lw_g (lw_at lw_m2 212 rfl) rfl
theorem q523 : (Jvm.Cond.privateMethod ({ cls := "Hexstead", name := "goOn", desc := "(III)I" } : Jvm.MethodName)) ∈ lw_tbl := lw_at lw_m2 213 rfl
theorem q524 : (Jvm.Cond.instanceMethod ({ cls := "Hexstead", name := "goOn", desc := "(III)I" } : Jvm.MethodName)) ∈ lw_all := lw_g (lw_at lw_m2 214 rfl) rfl
theorem q525 : (Jvm.Cond.code ({ cls := "Hexstead", name := "goOn", desc := "(III)I" } : Jvm.MethodName) prog_1_method_19_code (6 : Nat) (Option.some Jvm.ClassFile.FieldType.int)) ∈ lw_all := lw_g (lw_at lw_m2 215 rfl) rfl
theorem q526 : (Jvm.Cond.methodLink "Hexstead" (91 : Nat) ({ cls := "Hexstead", name := "isShut", desc := "(II)Z" } : Jvm.MethodName)) ∈ lw_all := lw_g (lw_at lw_m2 216 rfl) rfl
theorem q527 : (Jvm.Cond.privateMethod ({ cls := "Hexstead", name := "isShut", desc := "(II)Z" } : Jvm.MethodName)) ∈ lw_tbl := lw_at lw_m2 217 rfl
theorem q528 : (Jvm.Cond.instanceMethod ({ cls := "Hexstead", name := "isShut", desc := "(II)Z" } : Jvm.MethodName)) ∈ lw_all := lw_g (lw_at lw_m2 218 rfl) rfl
theorem q529 : (Jvm.Cond.code ({ cls := "Hexstead", name := "isShut", desc := "(II)Z" } : Jvm.MethodName) prog_1_method_6_code (3 : Nat) (Option.some Jvm.ClassFile.FieldType.boolean)) ∈ lw_all := lw_g (lw_at lw_m2 219 rfl) rfl
theorem q530 : (Jvm.Cond.interfaceEntry "Hexstead" (72 : Nat)) ∈ lw_tbl := lw_at lw_m2 220 rfl
theorem q531 : (Jvm.Cond.methodLink "Hexstead" (72 : Nat) ({ cls := "Hexstead$Building", name := "owner", desc := "()I" } : Jvm.MethodName)) ∈ lw_all := lw_g (lw_at lw_m2 221 rfl) rfl
theorem q546 : (Jvm.Cond.methodLink "Hexstead" (221 : Nat) ({ cls := "Hexstead", name := "lookForWinner", desc := "()V" } : Jvm.MethodName)) ∈ lw_all := lw_g (lw_at lw_m2 236 rfl) rfl
theorem q547 : (Jvm.Cond.privateMethod ({ cls := "Hexstead", name := "lookForWinner", desc := "()V" } : Jvm.MethodName)) ∈ lw_tbl := lw_at lw_m2 237 rfl
theorem q548 : (Jvm.Cond.instanceMethod ({ cls := "Hexstead", name := "lookForWinner", desc := "()V" } : Jvm.MethodName)) ∈ lw_all := lw_g (lw_at lw_m2 238 rfl) rfl
theorem q549 : (Jvm.Cond.code ({ cls := "Hexstead", name := "lookForWinner", desc := "()V" } : Jvm.MethodName) prog_1_method_26_code (1 : Nat) (Option.none : Option Jvm.ClassFile.FieldType)) ∈ lw_all := lw_g (lw_at lw_m2 239 rfl) rfl
theorem q550 : (Jvm.Cond.methodLink "Hexstead" (179 : Nat) ({ cls := "Hexstead", name := "pointsOf", desc := "(I)I" } : Jvm.MethodName)) ∈ lw_all := lw_g (lw_at lw_m3 0 rfl) rfl
theorem q551 : (Jvm.Cond.privateMethod ({ cls := "Hexstead", name := "pointsOf", desc := "(I)I" } : Jvm.MethodName)) ∈ lw_tbl := lw_at lw_m3 1 rfl
theorem q552 : (Jvm.Cond.instanceMethod ({ cls := "Hexstead", name := "pointsOf", desc := "(I)I" } : Jvm.MethodName)) ∈ lw_all := lw_g (lw_at lw_m3 2 rfl) rfl
theorem q553 : (Jvm.Cond.code ({ cls := "Hexstead", name := "pointsOf", desc := "(I)I" } : Jvm.MethodName) prog_1_method_25_code (7 : Nat) (Option.some Jvm.ClassFile.FieldType.int)) ∈ lw_all := lw_g (lw_at lw_m3 3 rfl) rfl
theorem q554 : (Jvm.Cond.interfaceEntry "Hexstead" (148 : Nat)) ∈ lw_tbl := lw_at lw_m3 4 rfl
theorem q555 : (Jvm.Cond.methodLink "Hexstead" (148 : Nat) ({ cls := "Hexstead$Building", name := "points", desc := "()I" } : Jvm.MethodName)) ∈ lw_all := lw_g (lw_at lw_m3 5 rfl) rfl
theorem q577 : (Jvm.Cond.interfaceEntry "Hexstead" (151 : Nat)) ∈ lw_tbl := lw_at lw_m3 27 rfl
theorem q578 : (Jvm.Cond.methodLink "Hexstead" (151 : Nat) ({ cls := "java/util/List", name := "iterator", desc := "()Ljava/util/Iterator;" } : Jvm.MethodName)) ∈ lw_all := lw_g (lw_at lw_m3 28 rfl) rfl
theorem q605 : (Jvm.Cond.interfaceEntry "Hexstead" (155 : Nat)) ∈ lw_tbl := lw_at lw_m3 55 rfl
theorem q606 : (Jvm.Cond.methodLink "Hexstead" (155 : Nat) ({ cls := "java/util/Iterator", name := "hasNext", desc := "()Z" } : Jvm.MethodName)) ∈ lw_all := lw_g (lw_at lw_m3 56 rfl) rfl
theorem q615 : (Jvm.Cond.interfaceEntry "Hexstead" (161 : Nat)) ∈ lw_tbl := lw_at lw_m3 65 rfl
theorem q616 : (Jvm.Cond.methodLink "Hexstead" (161 : Nat) ({ cls := "java/util/Iterator", name := "next", desc := "()Ljava/lang/Object;" } : Jvm.MethodName)) ∈ lw_all := lw_g (lw_at lw_m3 66 rfl) rfl
theorem q628 : (Jvm.Cond.classLink "Hexstead" (165 : Nat) "Hexstead$Card") ∈ lw_all := lw_g (lw_at lw_m3 78 rfl) rfl
theorem q629 : (Jvm.Cond.methodLink "Hexstead" (173 : Nat) ({ cls := "Hexstead$Kind", name := "points", desc := "()I" } : Jvm.MethodName)) ∈ lw_all := lw_g (lw_at lw_m3 79 rfl) rfl
theorem q641 : (Jvm.Cond.instanceMethod ({ cls := "Hexstead", name := "deal", desc := "(II)I" } : Jvm.MethodName)) ∈ lw_all := lw_g (lw_at lw_m3 91 rfl) rfl
theorem q642 : (Jvm.Cond.selects "Hexstead" ({ cls := "Hexstead", name := "deal", desc := "(II)I" } : Jvm.MethodName) ({ cls := "Hexstead", name := "deal", desc := "(II)I" } : Jvm.MethodName)) ∈ lw_all := lw_g (lw_at lw_m3 92 rfl) rfl
theorem q643 : (Jvm.Cond.code ({ cls := "Hexstead", name := "deal", desc := "(II)I" } : Jvm.MethodName) prog_1_method_42_code (3 : Nat) (Option.some Jvm.ClassFile.FieldType.int)) ∈ lw_all := lw_g (lw_at lw_m3 93 rfl) rfl
theorem q644 : (Jvm.Cond.methodLink "Hexstead" (249 : Nat) ({ cls := "Hexstead", name := "checkGoods", desc := "(I[I)V" } : Jvm.MethodName)) ∈ lw_all := lw_g (lw_at lw_m3 94 rfl) rfl
theorem q645 : (Jvm.Cond.static ({ cls := "Hexstead", name := "checkGoods", desc := "(I[I)V" } : Jvm.MethodName)) ∈ lw_all := lw_g (lw_at lw_m3 95 rfl) rfl
theorem q646 : (Jvm.Cond.code ({ cls := "Hexstead", name := "checkGoods", desc := "(I[I)V" } : Jvm.MethodName) prog_1_method_36_code (6 : Nat) (Option.none : Option Jvm.ClassFile.FieldType)) ∈ lw_all := lw_g (lw_at lw_m3 96 rfl) rfl
theorem q647 : (Jvm.Cond.constant "Hexstead" (214 : Nat) (99999 : Int32)) ∈ lw_all := lw_g (lw_at lw_m3 97 rfl) rfl
theorem q648 : (Jvm.Cond.methodLink "Hexstead" (256 : Nat) ({ cls := "Hexstead", name := "hasGoods", desc := "(II)Z" } : Jvm.MethodName)) ∈ lw_all := lw_g (lw_at lw_m3 98 rfl) rfl
theorem q649 : (Jvm.Cond.privateMethod ({ cls := "Hexstead", name := "hasGoods", desc := "(II)Z" } : Jvm.MethodName)) ∈ lw_tbl := lw_at lw_m3 99 rfl
theorem q650 : (Jvm.Cond.instanceMethod ({ cls := "Hexstead", name := "hasGoods", desc := "(II)Z" } : Jvm.MethodName)) ∈ lw_all := lw_g (lw_at lw_m3 100 rfl) rfl
theorem q651 : (Jvm.Cond.code ({ cls := "Hexstead", name := "hasGoods", desc := "(II)Z" } : Jvm.MethodName) prog_1_method_15_code (5 : Nat) (Option.some Jvm.ClassFile.FieldType.boolean)) ∈ lw_all := lw_g (lw_at lw_m3 101 rfl) rfl
theorem q652 : (Jvm.Cond.methodLink "Hexstead" (98 : Nat) ({ cls := "Hexstead", name := "digit", desc := "(II)I" } : Jvm.MethodName)) ∈ lw_all := lw_g (lw_at lw_m3 102 rfl) rfl
theorem q653 : (Jvm.Cond.static ({ cls := "Hexstead", name := "digit", desc := "(II)I" } : Jvm.MethodName)) ∈ lw_all := lw_g (lw_at lw_m3 103 rfl) rfl
theorem q654 : (Jvm.Cond.code ({ cls := "Hexstead", name := "digit", desc := "(II)I" } : Jvm.MethodName) prog_1_method_12_code (4 : Nat) (Option.some Jvm.ClassFile.FieldType.int)) ∈ lw_all := lw_g (lw_at lw_m3 104 rfl) rfl
theorem q655 : (Jvm.Cond.methodLink "Hexstead" (224 : Nat) ({ cls := "Hexstead", name := "give", desc := "(III)V" } : Jvm.MethodName)) ∈ lw_all := lw_g (lw_at lw_m3 105 rfl) rfl
theorem q656 : (Jvm.Cond.privateMethod ({ cls := "Hexstead", name := "give", desc := "(III)V" } : Jvm.MethodName)) ∈ lw_tbl := lw_at lw_m3 106 rfl
theorem q657 : (Jvm.Cond.instanceMethod ({ cls := "Hexstead", name := "give", desc := "(III)V" } : Jvm.MethodName)) ∈ lw_all := lw_g (lw_at lw_m3 107 rfl) rfl
theorem q658 : (Jvm.Cond.code ({ cls := "Hexstead", name := "give", desc := "(III)V" } : Jvm.MethodName) prog_1_method_17_code (5 : Nat) (Option.none : Option Jvm.ClassFile.FieldType)) ∈ lw_all := lw_g (lw_at lw_m3 108 rfl) rfl
theorem q659 : (Jvm.Cond.methodLink "Hexstead" (195 : Nat) ({ cls := "Hexstead", name := "total", desc := "(I)I" } : Jvm.MethodName)) ∈ lw_all := lw_g (lw_at lw_m3 109 rfl) rfl
theorem q660 : (Jvm.Cond.privateMethod ({ cls := "Hexstead", name := "total", desc := "(I)I" } : Jvm.MethodName)) ∈ lw_tbl := lw_at lw_m3 110 rfl
theorem q661 : (Jvm.Cond.instanceMethod ({ cls := "Hexstead", name := "total", desc := "(I)I" } : Jvm.MethodName)) ∈ lw_all := lw_g (lw_at lw_m3 111 rfl) rfl
theorem q662 : (Jvm.Cond.code ({ cls := "Hexstead", name := "total", desc := "(I)I" } : Jvm.MethodName) prog_1_method_14_code (7 : Nat) (Option.some Jvm.ClassFile.FieldType.int)) ∈ lw_all := lw_g (lw_at lw_m3 112 rfl) rfl
theorem q667 : (Jvm.Cond.instanceMethod ({ cls := "Hexstead", name := "roll", desc := "(II)I" } : Jvm.MethodName)) ∈ lw_all := lw_g (lw_at lw_m3 117 rfl) rfl
theorem q668 : (Jvm.Cond.selects "Hexstead" ({ cls := "Hexstead", name := "roll", desc := "(II)I" } : Jvm.MethodName) ({ cls := "Hexstead", name := "roll", desc := "(II)I" } : Jvm.MethodName)) ∈ lw_all := lw_g (lw_at lw_m3 118 rfl) rfl
theorem q669 : (Jvm.Cond.code ({ cls := "Hexstead", name := "roll", desc := "(II)I" } : Jvm.MethodName) prog_1_method_43_code (6 : Nat) (Option.some Jvm.ClassFile.FieldType.int)) ∈ lw_all := lw_g (lw_at lw_m3 119 rfl) rfl
theorem q670 : (Jvm.Cond.methodLink "Hexstead" (259 : Nat) ({ cls := "Hexstead", name := "lookAtDue", desc := "()V" } : Jvm.MethodName)) ∈ lw_all := lw_g (lw_at lw_m3 120 rfl) rfl
theorem q671 : (Jvm.Cond.privateMethod ({ cls := "Hexstead", name := "lookAtDue", desc := "()V" } : Jvm.MethodName)) ∈ lw_tbl := lw_at lw_m3 121 rfl
theorem q672 : (Jvm.Cond.instanceMethod ({ cls := "Hexstead", name := "lookAtDue", desc := "()V" } : Jvm.MethodName)) ∈ lw_all := lw_g (lw_at lw_m3 122 rfl) rfl
theorem q673 : (Jvm.Cond.code ({ cls := "Hexstead", name := "lookAtDue", desc := "()V" } : Jvm.MethodName) prog_1_method_44_code (5 : Nat) (Option.none : Option Jvm.ClassFile.FieldType)) ∈ lw_all := lw_g (lw_at lw_m3 123 rfl) rfl
theorem q674 : (Jvm.Cond.methodLink "Hexstead" (262 : Nat) ({ cls := "Hexstead", name := "gains", desc := "(II)[I" } : Jvm.MethodName)) ∈ lw_all := lw_g (lw_at lw_m3 124 rfl) rfl
theorem q675 : (Jvm.Cond.privateMethod ({ cls := "Hexstead", name := "gains", desc := "(II)[I" } : Jvm.MethodName)) ∈ lw_tbl := lw_at lw_m3 125 rfl
theorem q676 : (Jvm.Cond.instanceMethod ({ cls := "Hexstead", name := "gains", desc := "(II)[I" } : Jvm.MethodName)) ∈ lw_all := lw_g (lw_at lw_m3 126 rfl) rfl
theorem q677 : (Jvm.Cond.code ({ cls := "Hexstead", name := "gains", desc := "(II)[I" } : Jvm.MethodName) prog_1_method_18_code (12 : Nat) (Option.some (Jvm.ClassFile.FieldType.array Jvm.ClassFile.FieldType.int))) ∈ lw_all := lw_g (lw_at lw_m3 127 rfl) rfl
theorem q678 : (Jvm.Cond.interfaceEntry "Hexstead" (124 : Nat)) ∈ lw_tbl := lw_at lw_m3 128 rfl
theorem q679 : (Jvm.Cond.methodLink "Hexstead" (124 : Nat) ({ cls := "Hexstead$Building", name := "gets", desc := "()I" } : Jvm.MethodName)) ∈ lw_all := lw_g (lw_at lw_m3 129 rfl) rfl
theorem q684 : (Jvm.Cond.instanceMethod ({ cls := "Hexstead", name := "discard", desc := "(II)I" } : Jvm.MethodName)) ∈ lw_all := lw_g (lw_at lw_m3 134 rfl) rfl
theorem q685 : (Jvm.Cond.selects "Hexstead" ({ cls := "Hexstead", name := "discard", desc := "(II)I" } : Jvm.MethodName) ({ cls := "Hexstead", name := "discard", desc := "(II)I" } : Jvm.MethodName)) ∈ lw_all := lw_g (lw_at lw_m3 135 rfl) rfl
theorem q686 : (Jvm.Cond.code ({ cls := "Hexstead", name := "discard", desc := "(II)I" } : Jvm.MethodName) prog_1_method_45_code (3 : Nat) (Option.some Jvm.ClassFile.FieldType.int)) ∈ lw_all := lw_g (lw_at lw_m3 136 rfl) rfl
theorem q687 : (Jvm.Cond.methodLink "Hexstead" (266 : Nat) ({ cls := "Hexstead", name := "count", desc := "(I)I" } : Jvm.MethodName)) ∈ lw_all := lw_g (lw_at lw_m3 137 rfl) rfl
theorem q688 : (Jvm.Cond.static ({ cls := "Hexstead", name := "count", desc := "(I)I" } : Jvm.MethodName)) ∈ lw_all := lw_g (lw_at lw_m3 138 rfl) rfl
theorem q689 : (Jvm.Cond.code ({ cls := "Hexstead", name := "count", desc := "(I)I" } : Jvm.MethodName) prog_1_method_13_code (3 : Nat) (Option.some Jvm.ClassFile.FieldType.int)) ∈ lw_all := lw_g (lw_at lw_m3 139 rfl) rfl
theorem q694 : (Jvm.Cond.instanceMethod ({ cls := "Hexstead", name := "rob", desc := "(III)I" } : Jvm.MethodName)) ∈ lw_all := lw_g (lw_at lw_m3 144 rfl) rfl
theorem q695 : (Jvm.Cond.selects "Hexstead" ({ cls := "Hexstead", name := "rob", desc := "(III)I" } : Jvm.MethodName) ({ cls := "Hexstead", name := "rob", desc := "(III)I" } : Jvm.MethodName)) ∈ lw_all := lw_g (lw_at lw_m3 145 rfl) rfl
theorem q696 : (Jvm.Cond.code ({ cls := "Hexstead", name := "rob", desc := "(III)I" } : Jvm.MethodName) prog_1_method_46_code (4 : Nat) (Option.some Jvm.ClassFile.FieldType.int)) ∈ lw_all := lw_g (lw_at lw_m3 146 rfl) rfl
theorem q697 : (Jvm.Cond.methodLink "Hexstead" (269 : Nat) ({ cls := "Hexstead", name := "checkOrNone", desc := "(II)V" } : Jvm.MethodName)) ∈ lw_all := lw_g (lw_at lw_m3 147 rfl) rfl
theorem q698 : (Jvm.Cond.static ({ cls := "Hexstead", name := "checkOrNone", desc := "(II)V" } : Jvm.MethodName)) ∈ lw_all := lw_g (lw_at lw_m3 148 rfl) rfl
theorem q699 : (Jvm.Cond.code ({ cls := "Hexstead", name := "checkOrNone", desc := "(II)V" } : Jvm.MethodName) prog_1_method_33_code (2 : Nat) (Option.none : Option Jvm.ClassFile.FieldType)) ∈ lw_all := lw_g (lw_at lw_m3 149 rfl) rfl
theorem q700 : (Jvm.Cond.methodLink "Hexstead" (272 : Nat) ({ cls := "Hexstead", name := "canRob", desc := "(II)Z" } : Jvm.MethodName)) ∈ lw_all := lw_g (lw_at lw_m3 150 rfl) rfl
theorem q701 : (Jvm.Cond.privateMethod ({ cls := "Hexstead", name := "canRob", desc := "(II)Z" } : Jvm.MethodName)) ∈ lw_tbl := lw_at lw_m3 151 rfl
theorem q702 : (Jvm.Cond.instanceMethod ({ cls := "Hexstead", name := "canRob", desc := "(II)Z" } : Jvm.MethodName)) ∈ lw_all := lw_g (lw_at lw_m3 152 rfl) rfl
theorem q703 : (Jvm.Cond.code ({ cls := "Hexstead", name := "canRob", desc := "(II)Z" } : Jvm.MethodName) prog_1_method_30_code (5 : Nat) (Option.some Jvm.ClassFile.FieldType.boolean)) ∈ lw_all := lw_g (lw_at lw_m3 153 rfl) rfl
theorem q704 : (Jvm.Cond.methodLink "Hexstead" (198 : Nat) ({ cls := "Hexstead", name := "canBeVictim", desc := "(II)Z" } : Jvm.MethodName)) ∈ lw_all := lw_g (lw_at lw_m3 154 rfl) rfl
theorem q705 : (Jvm.Cond.privateMethod ({ cls := "Hexstead", name := "canBeVictim", desc := "(II)Z" } : Jvm.MethodName)) ∈ lw_tbl := lw_at lw_m3 155 rfl
theorem q706 : (Jvm.Cond.instanceMethod ({ cls := "Hexstead", name := "canBeVictim", desc := "(II)Z" } : Jvm.MethodName)) ∈ lw_all := lw_g (lw_at lw_m3 156 rfl) rfl
theorem q707 : (Jvm.Cond.code ({ cls := "Hexstead", name := "canBeVictim", desc := "(II)Z" } : Jvm.MethodName) prog_1_method_29_code (8 : Nat) (Option.some Jvm.ClassFile.FieldType.boolean)) ∈ lw_all := lw_g (lw_at lw_m3 157 rfl) rfl
theorem q708 : (Jvm.Cond.methodLink "Hexstead" (83 : Nat) ({ cls := "Hexstead", name := "isOf", desc := "(II)Z" } : Jvm.MethodName)) ∈ lw_all := lw_g (lw_at lw_m3 158 rfl) rfl
theorem q709 : (Jvm.Cond.privateMethod ({ cls := "Hexstead", name := "isOf", desc := "(II)Z" } : Jvm.MethodName)) ∈ lw_tbl := lw_at lw_m3 159 rfl
theorem q710 : (Jvm.Cond.instanceMethod ({ cls := "Hexstead", name := "isOf", desc := "(II)Z" } : Jvm.MethodName)) ∈ lw_all := lw_g (lw_at lw_m3 160 rfl) rfl
theorem q711 : (Jvm.Cond.code ({ cls := "Hexstead", name := "isOf", desc := "(II)Z" } : Jvm.MethodName) prog_1_method_5_code (3 : Nat) (Option.some Jvm.ClassFile.FieldType.boolean)) ∈ lw_all := lw_g (lw_at lw_m3 161 rfl) rfl
theorem q712 : (Jvm.Cond.methodLink "Hexstead" (275 : Nat) ({ cls := "Hexstead", name := "doRob", desc := "(III)I" } : Jvm.MethodName)) ∈ lw_all := lw_g (lw_at lw_m3 162 rfl) rfl
theorem q713 : (Jvm.Cond.privateMethod ({ cls := "Hexstead", name := "doRob", desc := "(III)I" } : Jvm.MethodName)) ∈ lw_tbl := lw_at lw_m3 163 rfl
theorem q714 : (Jvm.Cond.instanceMethod ({ cls := "Hexstead", name := "doRob", desc := "(III)I" } : Jvm.MethodName)) ∈ lw_all := lw_g (lw_at lw_m3 164 rfl) rfl
theorem q715 : (Jvm.Cond.code ({ cls := "Hexstead", name := "doRob", desc := "(III)I" } : Jvm.MethodName) prog_1_method_31_code (6 : Nat) (Option.some Jvm.ClassFile.FieldType.int)) ∈ lw_all := lw_g (lw_at lw_m3 165 rfl) rfl
theorem q720 : (Jvm.Cond.instanceMethod ({ cls := "Hexstead", name := "road", desc := "(I)I" } : Jvm.MethodName)) ∈ lw_all := lw_g (lw_at lw_m3 170 rfl) rfl
theorem q721 : (Jvm.Cond.selects "Hexstead" ({ cls := "Hexstead", name := "road", desc := "(I)I" } : Jvm.MethodName) ({ cls := "Hexstead", name := "road", desc := "(I)I" } : Jvm.MethodName)) ∈ lw_all := lw_g (lw_at lw_m3 171 rfl) rfl
theorem q722 : (Jvm.Cond.code ({ cls := "Hexstead", name := "road", desc := "(I)I" } : Jvm.MethodName) prog_1_method_48_code (2 : Nat) (Option.some Jvm.ClassFile.FieldType.int)) ∈ lw_all := lw_g (lw_at lw_m3 172 rfl) rfl
theorem q723 : (Jvm.Cond.methodLink "Hexstead" (278 : Nat) ({ cls := "Hexstead", name := "canHaveRoad", desc := "(II)Z" } : Jvm.MethodName)) ∈ lw_all := lw_g (lw_at lw_m3 173 rfl) rfl
theorem q724 : (Jvm.Cond.privateMethod ({ cls := "Hexstead", name := "canHaveRoad", desc := "(II)Z" } : Jvm.MethodName)) ∈ lw_tbl := lw_at lw_m3 174 rfl
theorem q725 : (Jvm.Cond.instanceMethod ({ cls := "Hexstead", name := "canHaveRoad", desc := "(II)Z" } : Jvm.MethodName)) ∈ lw_all := lw_g (lw_at lw_m3 175 rfl) rfl
theorem q726 : (Jvm.Cond.code ({ cls := "Hexstead", name := "canHaveRoad", desc := "(II)Z" } : Jvm.MethodName) prog_1_method_11_code (6 : Nat) (Option.some Jvm.ClassFile.FieldType.boolean)) ∈ lw_all := lw_g (lw_at lw_m3 176 rfl) rfl
theorem q727 : (Jvm.Cond.methodLink "Hexstead" (88 : Nat) ({ cls := "Hexstead", name := "hasRoadAt", desc := "(II)Z" } : Jvm.MethodName)) ∈ lw_all := lw_g (lw_at lw_m3 177 rfl) rfl
theorem q728 : (Jvm.Cond.privateMethod ({ cls := "Hexstead", name := "hasRoadAt", desc := "(II)Z" } : Jvm.MethodName)) ∈ lw_tbl := lw_at lw_m3 178 rfl
theorem q729 : (Jvm.Cond.instanceMethod ({ cls := "Hexstead", name := "hasRoadAt", desc := "(II)Z" } : Jvm.MethodName)) ∈ lw_all := lw_g (lw_at lw_m3 179 rfl) rfl
theorem q730 : (Jvm.Cond.code ({ cls := "Hexstead", name := "hasRoadAt", desc := "(II)Z" } : Jvm.MethodName) prog_1_method_8_code (5 : Nat) (Option.some Jvm.ClassFile.FieldType.boolean)) ∈ lw_all := lw_g (lw_at lw_m3 180 rfl) rfl
theorem q731 : (Jvm.Cond.methodLink "Hexstead" (94 : Nat) ({ cls := "Hexstead", name := "roadsOf", desc := "(I)I" } : Jvm.MethodName)) ∈ lw_all := lw_g (lw_at lw_m3 181 rfl) rfl
theorem q732 : (Jvm.Cond.privateMethod ({ cls := "Hexstead", name := "roadsOf", desc := "(I)I" } : Jvm.MethodName)) ∈ lw_tbl := lw_at lw_m3 182 rfl
theorem q733 : (Jvm.Cond.instanceMethod ({ cls := "Hexstead", name := "roadsOf", desc := "(I)I" } : Jvm.MethodName)) ∈ lw_all := lw_g (lw_at lw_m3 183 rfl) rfl
theorem q734 : (Jvm.Cond.code ({ cls := "Hexstead", name := "roadsOf", desc := "(I)I" } : Jvm.MethodName) prog_1_method_9_code (7 : Nat) (Option.some Jvm.ClassFile.FieldType.int)) ∈ lw_all := lw_g (lw_at lw_m3 184 rfl) rfl
theorem q735 : (Jvm.Cond.methodLink "Hexstead" (281 : Nat) ({ cls := "Hexstead", name := "checkBuilding", desc := "(ZI)V" } : Jvm.MethodName)) ∈ lw_all := lw_g (lw_at lw_m3 185 rfl) rfl
theorem q736 : (Jvm.Cond.privateMethod ({ cls := "Hexstead", name := "checkBuilding", desc := "(ZI)V" } : Jvm.MethodName)) ∈ lw_tbl := lw_at lw_m3 186 rfl
theorem q737 : (Jvm.Cond.instanceMethod ({ cls := "Hexstead", name := "checkBuilding", desc := "(ZI)V" } : Jvm.MethodName)) ∈ lw_all := lw_g (lw_at lw_m3 187 rfl) rfl
theorem q738 : (Jvm.Cond.code ({ cls := "Hexstead", name := "checkBuilding", desc := "(ZI)V" } : Jvm.MethodName) prog_1_method_47_code (3 : Nat) (Option.none : Option Jvm.ClassFile.FieldType)) ∈ lw_all := lw_g (lw_at lw_m3 188 rfl) rfl
theorem q739 : (Jvm.Cond.methodLink "Hexstead" (285 : Nat) ({ cls := "Hexstead", name := "pay", desc := "(I)V" } : Jvm.MethodName)) ∈ lw_all := lw_g (lw_at lw_m3 189 rfl) rfl
theorem q740 : (Jvm.Cond.privateMethod ({ cls := "Hexstead", name := "pay", desc := "(I)V" } : Jvm.MethodName)) ∈ lw_tbl := lw_at lw_m3 190 rfl
theorem q741 : (Jvm.Cond.instanceMethod ({ cls := "Hexstead", name := "pay", desc := "(I)V" } : Jvm.MethodName)) ∈ lw_all := lw_g (lw_at lw_m3 191 rfl) rfl
theorem q742 : (Jvm.Cond.code ({ cls := "Hexstead", name := "pay", desc := "(I)V" } : Jvm.MethodName) prog_1_method_39_code (2 : Nat) (Option.none : Option Jvm.ClassFile.FieldType)) ∈ lw_all := lw_g (lw_at lw_m3 192 rfl) rfl
theorem q747 : (Jvm.Cond.instanceMethod ({ cls := "Hexstead", name := "house", desc := "(I)I" } : Jvm.MethodName)) ∈ lw_all := lw_g (lw_at lw_m3 197 rfl) rfl
theorem q748 : (Jvm.Cond.selects "Hexstead" ({ cls := "Hexstead", name := "house", desc := "(I)I" } : Jvm.MethodName) ({ cls := "Hexstead", name := "house", desc := "(I)I" } : Jvm.MethodName)) ∈ lw_all := lw_g (lw_at lw_m3 198 rfl) rfl
theorem q749 : (Jvm.Cond.code ({ cls := "Hexstead", name := "house", desc := "(I)I" } : Jvm.MethodName) prog_1_method_49_code (2 : Nat) (Option.some Jvm.ClassFile.FieldType.int)) ∈ lw_all := lw_g (lw_at lw_m3 199 rfl) rfl
theorem q750 : (Jvm.Cond.methodLink "Hexstead" (288 : Nat) ({ cls := "Hexstead", name := "buildingsOf", desc := "(IZ)I" } : Jvm.MethodName)) ∈ lw_all := lw_g (lw_at lw_m3 200 rfl) rfl
theorem q751 : (Jvm.Cond.privateMethod ({ cls := "Hexstead", name := "buildingsOf", desc := "(IZ)I" } : Jvm.MethodName)) ∈ lw_tbl := lw_at lw_m3 201 rfl
theorem q752 : (Jvm.Cond.instanceMethod ({ cls := "Hexstead", name := "buildingsOf", desc := "(IZ)I" } : Jvm.MethodName)) ∈ lw_all := lw_g (lw_at lw_m3 202 rfl) rfl
theorem q753 : (Jvm.Cond.code ({ cls := "Hexstead", name := "buildingsOf", desc := "(IZ)I" } : Jvm.MethodName) prog_1_method_10_code (5 : Nat) (Option.some Jvm.ClassFile.FieldType.int)) ∈ lw_all := lw_g (lw_at lw_m3 203 rfl) rfl
theorem q754 : (Jvm.Cond.classLink "Hexstead" (86 : Nat) "Hexstead$City") ∈ lw_all := lw_g (lw_at lw_m3 204 rfl) rfl
theorem q759 : (Jvm.Cond.instanceMethod ({ cls := "Hexstead", name := "city", desc := "(I)I" } : Jvm.MethodName)) ∈ lw_all := lw_g (lw_at lw_m3 209 rfl) rfl
theorem q760 : (Jvm.Cond.selects "Hexstead" ({ cls := "Hexstead", name := "city", desc := "(I)I" } : Jvm.MethodName) ({ cls := "Hexstead", name := "city", desc := "(I)I" } : Jvm.MethodName)) ∈ lw_all := lw_g (lw_at lw_m3 210 rfl) rfl
theorem q761 : (Jvm.Cond.code ({ cls := "Hexstead", name := "city", desc := "(I)I" } : Jvm.MethodName) prog_1_method_50_code (2 : Nat) (Option.some Jvm.ClassFile.FieldType.int)) ∈ lw_all := lw_g (lw_at lw_m3 211 rfl) rfl
theorem q763 : (Jvm.Cond.methodLink "Hexstead" (292 : Nat) ({ cls := "Hexstead$City", name := "<init>", desc := "(I)V" } : Jvm.MethodName)) ∈ lw_all := lw_g (lw_at lw_m3 213 rfl) rfl
theorem q775 : (Jvm.Cond.instanceMethod ({ cls := "Hexstead", name := "buy", desc := "()I" } : Jvm.MethodName)) ∈ lw_all := lw_g (lw_at lw_m3 225 rfl) rfl
theorem q776 : (Jvm.Cond.selects "Hexstead" ({ cls := "Hexstead", name := "buy", desc := "()I" } : Jvm.MethodName) ({ cls := "Hexstead", name := "buy", desc := "()I" } : Jvm.MethodName)) ∈ lw_all := lw_g (lw_at lw_m3 226 rfl) rfl
theorem q777 : (Jvm.Cond.code ({ cls := "Hexstead", name := "buy", desc := "()I" } : Jvm.MethodName) prog_1_method_51_code (2 : Nat) (Option.some Jvm.ClassFile.FieldType.int)) ∈ lw_all := lw_g (lw_at lw_m3 227 rfl) rfl
theorem q778 : (Jvm.Cond.interfaceEntry "Hexstead" (293 : Nat)) ∈ lw_tbl := lw_at lw_m3 228 rfl
theorem q779 : (Jvm.Cond.methodLink "Hexstead" (293 : Nat) ({ cls := "java/util/List", name := "size", desc := "()I" } : Jvm.MethodName)) ∈ lw_all := lw_g (lw_at lw_m3 229 rfl) rfl
theorem q787 : (Jvm.Cond.fieldLinkNest "Hexstead" (296 : Nat) "Hexstead$Kind" "DECK" "[LHexstead$Kind;" "Hexstead") ∈ lw_tbl := lw_at lw_m3 237 rfl
theorem q790 : (Jvm.Cond.methodLink "Hexstead" (300 : Nat) ({ cls := "Hexstead$Card", name := "<init>", desc := "(LHexstead$Kind;II)V" } : Jvm.MethodName)) ∈ lw_all := lw_g (lw_at lw_m4 0 rfl) rfl
theorem q795 : (Jvm.Cond.fieldLinkNest "Hexstead" (169 : Nat) "Hexstead$Card" "kind" "LHexstead$Kind;" "Hexstead") ∈ lw_tbl := lw_at lw_m4 5 rfl
theorem q797 : (Jvm.Cond.fieldLinkNest "Hexstead" (167 : Nat) "Hexstead$Card" "owner" "I" "Hexstead") ∈ lw_tbl := lw_at lw_m4 7 rfl
theorem q799 : (Jvm.Cond.fieldLinkNest "Hexstead" (182 : Nat) "Hexstead$Card" "bought" "I" "Hexstead") ∈ lw_tbl := lw_at lw_m4 9 rfl
theorem q800 : (Jvm.Cond.fieldLinkNest "Hexstead" (188 : Nat) "Hexstead$Card" "isUsed" "Z" "Hexstead") ∈ lw_tbl := lw_at lw_m4 10 rfl
theorem q810 : (Jvm.Cond.methodLink "Hexstead" (303 : Nat) ({ cls := "Hexstead$Kind", name := "ordinal", desc := "()I" } : Jvm.MethodName)) ∈ lw_all := lw_g (lw_at lw_m4 20 rfl) rfl
theorem q821 : (Jvm.Cond.instanceMethod ({ cls := "Hexstead", name := "knight", desc := "(III)I" } : Jvm.MethodName)) ∈ lw_all := lw_g (lw_at lw_m4 31 rfl) rfl
theorem q822 : (Jvm.Cond.selects "Hexstead" ({ cls := "Hexstead", name := "knight", desc := "(III)I" } : Jvm.MethodName) ({ cls := "Hexstead", name := "knight", desc := "(III)I" } : Jvm.MethodName)) ∈ lw_all := lw_g (lw_at lw_m4 32 rfl) rfl
theorem q823 : (Jvm.Cond.code ({ cls := "Hexstead", name := "knight", desc := "(III)I" } : Jvm.MethodName) prog_1_method_52_code (6 : Nat) (Option.some Jvm.ClassFile.FieldType.int)) ∈ lw_all := lw_g (lw_at lw_m4 33 rfl) rfl
theorem q824 : (Jvm.Cond.fieldLink "Hexstead" (306 : Nat) "Hexstead$Kind" "KNIGHTS" "LHexstead$Kind;") ∈ lw_all := lw_g (lw_at lw_m4 34 rfl) rfl
theorem q826 : (Jvm.Cond.methodLink "Hexstead" (309 : Nat) ({ cls := "Hexstead", name := "usable", desc := "(LHexstead$Kind;)LHexstead$Card;" } : Jvm.MethodName)) ∈ lw_all := lw_g (lw_at lw_m4 36 rfl) rfl
theorem q827 : (Jvm.Cond.privateMethod ({ cls := "Hexstead", name := "usable", desc := "(LHexstead$Kind;)LHexstead$Card;" } : Jvm.MethodName)) ∈ lw_tbl := lw_at lw_m4 37 rfl
theorem q828 : (Jvm.Cond.instanceMethod ({ cls := "Hexstead", name := "usable", desc := "(LHexstead$Kind;)LHexstead$Card;" } : Jvm.MethodName)) ∈ lw_all := lw_g (lw_at lw_m4 38 rfl) rfl
theorem q829 : (Jvm.Cond.code ({ cls := "Hexstead", name := "usable", desc := "(LHexstead$Kind;)LHexstead$Card;" } : Jvm.MethodName) prog_1_method_27_code (6 : Nat) (Option.some (Jvm.ClassFile.FieldType.object "Hexstead$Card"))) ∈ lw_all := lw_g (lw_at lw_m4 39 rfl) rfl
theorem q830 : (Jvm.Cond.methodLink "Hexstead" (313 : Nat) ({ cls := "Hexstead", name := "use", desc := "(LHexstead$Card;)V" } : Jvm.MethodName)) ∈ lw_all := lw_g (lw_at lw_m4 40 rfl) rfl
theorem q831 : (Jvm.Cond.privateMethod ({ cls := "Hexstead", name := "use", desc := "(LHexstead$Card;)V" } : Jvm.MethodName)) ∈ lw_tbl := lw_at lw_m4 41 rfl
theorem q832 : (Jvm.Cond.instanceMethod ({ cls := "Hexstead", name := "use", desc := "(LHexstead$Card;)V" } : Jvm.MethodName)) ∈ lw_all := lw_g (lw_at lw_m4 42 rfl) rfl
theorem q833 : (Jvm.Cond.code ({ cls := "Hexstead", name := "use", desc := "(LHexstead$Card;)V" } : Jvm.MethodName) prog_1_method_28_code (2 : Nat) (Option.none : Option Jvm.ClassFile.FieldType)) ∈ lw_all := lw_g (lw_at lw_m4 43 rfl) rfl
theorem q838 : (Jvm.Cond.instanceMethod ({ cls := "Hexstead", name := "roads", desc := "(II)I" } : Jvm.MethodName)) ∈ lw_all := lw_g (lw_at lw_m4 48 rfl) rfl
theorem q839 : (Jvm.Cond.selects "Hexstead" ({ cls := "Hexstead", name := "roads", desc := "(II)I" } : Jvm.MethodName) ({ cls := "Hexstead", name := "roads", desc := "(II)I" } : Jvm.MethodName)) ∈ lw_all := lw_g (lw_at lw_m4 49 rfl) rfl
theorem q840 : (Jvm.Cond.code ({ cls := "Hexstead", name := "roads", desc := "(II)I" } : Jvm.MethodName) prog_1_method_53_code (5 : Nat) (Option.some Jvm.ClassFile.FieldType.int)) ∈ lw_all := lw_g (lw_at lw_m4 50 rfl) rfl
theorem q841 : (Jvm.Cond.fieldLink "Hexstead" (317 : Nat) "Hexstead$Kind" "OF_ROADS" "LHexstead$Kind;") ∈ lw_all := lw_g (lw_at lw_m4 51 rfl) rfl
theorem q847 : (Jvm.Cond.instanceMethod ({ cls := "Hexstead", name := "plenty", desc := "(II)I" } : Jvm.MethodName)) ∈ lw_all := lw_g (lw_at lw_m4 57 rfl) rfl
theorem q848 : (Jvm.Cond.selects "Hexstead" ({ cls := "Hexstead", name := "plenty", desc := "(II)I" } : Jvm.MethodName) ({ cls := "Hexstead", name := "plenty", desc := "(II)I" } : Jvm.MethodName)) ∈ lw_all := lw_g (lw_at lw_m4 58 rfl) rfl
theorem q849 : (Jvm.Cond.code ({ cls := "Hexstead", name := "plenty", desc := "(II)I" } : Jvm.MethodName) prog_1_method_54_code (4 : Nat) (Option.some Jvm.ClassFile.FieldType.int)) ∈ lw_all := lw_g (lw_at lw_m4 59 rfl) rfl
theorem q850 : (Jvm.Cond.methodLink "Hexstead" (320 : Nat) ({ cls := "Hexstead", name := "checkGood", desc := "(I)V" } : Jvm.MethodName)) ∈ lw_all := lw_g (lw_at lw_m4 60 rfl) rfl
theorem q851 : (Jvm.Cond.static ({ cls := "Hexstead", name := "checkGood", desc := "(I)V" } : Jvm.MethodName)) ∈ lw_all := lw_g (lw_at lw_m4 61 rfl) rfl
theorem q852 : (Jvm.Cond.code ({ cls := "Hexstead", name := "checkGood", desc := "(I)V" } : Jvm.MethodName) prog_1_method_37_code (1 : Nat) (Option.none : Option Jvm.ClassFile.FieldType)) ∈ lw_all := lw_g (lw_at lw_m4 62 rfl) rfl
theorem q853 : (Jvm.Cond.fieldLink "Hexstead" (323 : Nat) "Hexstead$Kind" "OF_PLENTY" "LHexstead$Kind;") ∈ lw_all := lw_g (lw_at lw_m4 63 rfl) rfl
theorem q859 : (Jvm.Cond.instanceMethod ({ cls := "Hexstead", name := "monopoly", desc := "(I)I" } : Jvm.MethodName)) ∈ lw_all := lw_g (lw_at lw_m4 69 rfl) rfl
theorem q860 : (Jvm.Cond.selects "Hexstead" ({ cls := "Hexstead", name := "monopoly", desc := "(I)I" } : Jvm.MethodName) ({ cls := "Hexstead", name := "monopoly", desc := "(I)I" } : Jvm.MethodName)) ∈ lw_all := lw_g (lw_at lw_m4 70 rfl) rfl
theorem q861 : (Jvm.Cond.code ({ cls := "Hexstead", name := "monopoly", desc := "(I)I" } : Jvm.MethodName) prog_1_method_55_code (5 : Nat) (Option.some Jvm.ClassFile.FieldType.int)) ∈ lw_all := lw_g (lw_at lw_m4 71 rfl) rfl
theorem q862 : (Jvm.Cond.fieldLink "Hexstead" (326 : Nat) "Hexstead$Kind" "OF_MONOPOLY" "LHexstead$Kind;") ∈ lw_all := lw_g (lw_at lw_m4 72 rfl) rfl
theorem q868 : (Jvm.Cond.instanceMethod ({ cls := "Hexstead", name := "swap", desc := "(II)I" } : Jvm.MethodName)) ∈ lw_all := lw_g (lw_at lw_m4 78 rfl) rfl
theorem q869 : (Jvm.Cond.selects "Hexstead" ({ cls := "Hexstead", name := "swap", desc := "(II)I" } : Jvm.MethodName) ({ cls := "Hexstead", name := "swap", desc := "(II)I" } : Jvm.MethodName)) ∈ lw_all := lw_g (lw_at lw_m4 79 rfl) rfl
theorem q870 : (Jvm.Cond.code ({ cls := "Hexstead", name := "swap", desc := "(II)I" } : Jvm.MethodName) prog_1_method_58_code (3 : Nat) (Option.some Jvm.ClassFile.FieldType.int)) ∈ lw_all := lw_g (lw_at lw_m4 80 rfl) rfl
theorem q871 : (Jvm.Cond.methodLink "Hexstead" (332 : Nat) ({ cls := "Hexstead", name := "rateOf", desc := "(II)I" } : Jvm.MethodName)) ∈ lw_all := lw_g (lw_at lw_m4 81 rfl) rfl
theorem q872 : (Jvm.Cond.privateMethod ({ cls := "Hexstead", name := "rateOf", desc := "(II)I" } : Jvm.MethodName)) ∈ lw_tbl := lw_at lw_m4 82 rfl
theorem q873 : (Jvm.Cond.instanceMethod ({ cls := "Hexstead", name := "rateOf", desc := "(II)I" } : Jvm.MethodName)) ∈ lw_all := lw_g (lw_at lw_m4 83 rfl) rfl
theorem q874 : (Jvm.Cond.code ({ cls := "Hexstead", name := "rateOf", desc := "(II)I" } : Jvm.MethodName) prog_1_method_57_code (3 : Nat) (Option.some Jvm.ClassFile.FieldType.int)) ∈ lw_all := lw_g (lw_at lw_m4 84 rfl) rfl
theorem q875 : (Jvm.Cond.methodLink "Hexstead" (329 : Nat) ({ cls := "Hexstead", name := "hasHarbour", desc := "(II)Z" } : Jvm.MethodName)) ∈ lw_all := lw_g (lw_at lw_m4 85 rfl) rfl
theorem q876 : (Jvm.Cond.privateMethod ({ cls := "Hexstead", name := "hasHarbour", desc := "(II)Z" } : Jvm.MethodName)) ∈ lw_tbl := lw_at lw_m4 86 rfl
theorem q877 : (Jvm.Cond.instanceMethod ({ cls := "Hexstead", name := "hasHarbour", desc := "(II)Z" } : Jvm.MethodName)) ∈ lw_all := lw_g (lw_at lw_m4 87 rfl) rfl
theorem q878 : (Jvm.Cond.code ({ cls := "Hexstead", name := "hasHarbour", desc := "(II)Z" } : Jvm.MethodName) prog_1_method_56_code (3 : Nat) (Option.some Jvm.ClassFile.FieldType.boolean)) ∈ lw_all := lw_g (lw_at lw_m4 88 rfl) rfl
theorem q883 : (Jvm.Cond.instanceMethod ({ cls := "Hexstead", name := "offer", desc := "(II)V" } : Jvm.MethodName)) ∈ lw_all := lw_g (lw_at lw_m4 93 rfl) rfl
theorem q884 : (Jvm.Cond.selects "Hexstead" ({ cls := "Hexstead", name := "offer", desc := "(II)V" } : Jvm.MethodName) ({ cls := "Hexstead", name := "offer", desc := "(II)V" } : Jvm.MethodName)) ∈ lw_all := lw_g (lw_at lw_m4 94 rfl) rfl
theorem q885 : (Jvm.Cond.code ({ cls := "Hexstead", name := "offer", desc := "(II)V" } : Jvm.MethodName) prog_1_method_60_code (3 : Nat) (Option.none : Option Jvm.ClassFile.FieldType)) ∈ lw_all := lw_g (lw_at lw_m4 95 rfl) rfl
theorem q886 : (Jvm.Cond.methodLink "Hexstead" (339 : Nat) ({ cls := "Hexstead", name := "forgetOffers", desc := "()V" } : Jvm.MethodName)) ∈ lw_all := lw_g (lw_at lw_m4 96 rfl) rfl
theorem q887 : (Jvm.Cond.privateMethod ({ cls := "Hexstead", name := "forgetOffers", desc := "()V" } : Jvm.MethodName)) ∈ lw_tbl := lw_at lw_m4 97 rfl
theorem q888 : (Jvm.Cond.instanceMethod ({ cls := "Hexstead", name := "forgetOffers", desc := "()V" } : Jvm.MethodName)) ∈ lw_all := lw_g (lw_at lw_m4 98 rfl) rfl
theorem q889 : (Jvm.Cond.code ({ cls := "Hexstead", name := "forgetOffers", desc := "()V" } : Jvm.MethodName) prog_1_method_59_code (2 : Nat) (Option.none : Option Jvm.ClassFile.FieldType)) ∈ lw_all := lw_g (lw_at lw_m4 99 rfl) rfl
theorem q891 : (Jvm.Cond.methodLink "Hexstead" (342 : Nat) ({ cls := "Hexstead$Offer", name := "<init>", desc := "(II)V" } : Jvm.MethodName)) ∈ lw_all := lw_g (lw_at lw_m4 101 rfl) rfl
theorem q896 : (Jvm.Cond.fieldLinkNest "Hexstead" (344 : Nat) "Hexstead$Offer" "give" "I" "Hexstead") ∈ lw_tbl := lw_at lw_m4 106 rfl
theorem q898 : (Jvm.Cond.fieldLinkNest "Hexstead" (346 : Nat) "Hexstead$Offer" "want" "I" "Hexstead") ∈ lw_tbl := lw_at lw_m4 108 rfl
theorem q908 : (Jvm.Cond.instanceMethod ({ cls := "Hexstead", name := "counter", desc := "(III)V" } : Jvm.MethodName)) ∈ lw_all := lw_g (lw_at lw_m4 118 rfl) rfl
theorem q909 : (Jvm.Cond.selects "Hexstead" ({ cls := "Hexstead", name := "counter", desc := "(III)V" } : Jvm.MethodName) ({ cls := "Hexstead", name := "counter", desc := "(III)V" } : Jvm.MethodName)) ∈ lw_all := lw_g (lw_at lw_m4 119 rfl) rfl
theorem q910 : (Jvm.Cond.code ({ cls := "Hexstead", name := "counter", desc := "(III)V" } : Jvm.MethodName) prog_1_method_61_code (4 : Nat) (Option.none : Option Jvm.ClassFile.FieldType)) ∈ lw_all := lw_g (lw_at lw_m4 120 rfl) rfl
theorem q915 : (Jvm.Cond.instanceMethod ({ cls := "Hexstead", name := "accept", desc := "(I)I" } : Jvm.MethodName)) ∈ lw_all := lw_g (lw_at lw_m4 125 rfl) rfl
theorem q916 : (Jvm.Cond.selects "Hexstead" ({ cls := "Hexstead", name := "accept", desc := "(I)I" } : Jvm.MethodName) ({ cls := "Hexstead", name := "accept", desc := "(I)I" } : Jvm.MethodName)) ∈ lw_all := lw_g (lw_at lw_m4 126 rfl) rfl
theorem q917 : (Jvm.Cond.code ({ cls := "Hexstead", name := "accept", desc := "(I)I" } : Jvm.MethodName) prog_1_method_63_code (2 : Nat) (Option.some Jvm.ClassFile.FieldType.int)) ∈ lw_all := lw_g (lw_at lw_m4 127 rfl) rfl
theorem q918 : (Jvm.Cond.methodLink "Hexstead" (349 : Nat) ({ cls := "Hexstead", name := "change", desc := "(IILHexstead$Offer;)V" } : Jvm.MethodName)) ∈ lw_all := lw_g (lw_at lw_m4 128 rfl) rfl
theorem q919 : (Jvm.Cond.privateMethod ({ cls := "Hexstead", name := "change", desc := "(IILHexstead$Offer;)V" } : Jvm.MethodName)) ∈ lw_tbl := lw_at lw_m4 129 rfl
theorem q920 : (Jvm.Cond.instanceMethod ({ cls := "Hexstead", name := "change", desc := "(IILHexstead$Offer;)V" } : Jvm.MethodName)) ∈ lw_all := lw_g (lw_at lw_m4 130 rfl) rfl
theorem q921 : (Jvm.Cond.code ({ cls := "Hexstead", name := "change", desc := "(IILHexstead$Offer;)V" } : Jvm.MethodName) prog_1_method_62_code (4 : Nat) (Option.none : Option Jvm.ClassFile.FieldType)) ∈ lw_all := lw_g (lw_at lw_m4 131 rfl) rfl
theorem q926 : (Jvm.Cond.instanceMethod ({ cls := "Hexstead", name := "agree", desc := "(I)I" } : Jvm.MethodName)) ∈ lw_all := lw_g (lw_at lw_m4 136 rfl) rfl
theorem q927 : (Jvm.Cond.selects "Hexstead" ({ cls := "Hexstead", name := "agree", desc := "(I)I" } : Jvm.MethodName) ({ cls := "Hexstead", name := "agree", desc := "(I)I" } : Jvm.MethodName)) ∈ lw_all := lw_g (lw_at lw_m4 137 rfl) rfl
theorem q928 : (Jvm.Cond.code ({ cls := "Hexstead", name := "agree", desc := "(I)I" } : Jvm.MethodName) prog_1_method_64_code (2 : Nat) (Option.some Jvm.ClassFile.FieldType.int)) ∈ lw_all := lw_g (lw_at lw_m4 138 rfl) rfl
theorem q933 : (Jvm.Cond.instanceMethod ({ cls := "Hexstead", name := "endTurn", desc := "()I" } : Jvm.MethodName)) ∈ lw_all := lw_g (lw_at lw_m4 143 rfl) rfl
theorem q934 : (Jvm.Cond.selects "Hexstead" ({ cls := "Hexstead", name := "endTurn", desc := "()I" } : Jvm.MethodName) ({ cls := "Hexstead", name := "endTurn", desc := "()I" } : Jvm.MethodName)) ∈ lw_all := lw_g (lw_at lw_m4 144 rfl) rfl
theorem q935 : (Jvm.Cond.code ({ cls := "Hexstead", name := "endTurn", desc := "()I" } : Jvm.MethodName) prog_1_method_65_code (1 : Nat) (Option.some Jvm.ClassFile.FieldType.int)) ∈ lw_all := lw_g (lw_at lw_m4 145 rfl) rfl
theorem q940 : (Jvm.Cond.instanceMethod ({ cls := "Hexstead", name := "hand", desc := "(II)I" } : Jvm.MethodName)) ∈ lw_all := lw_g (lw_at lw_m4 150 rfl) rfl
theorem q941 : (Jvm.Cond.selects "Hexstead" ({ cls := "Hexstead", name := "hand", desc := "(II)I" } : Jvm.MethodName) ({ cls := "Hexstead", name := "hand", desc := "(II)I" } : Jvm.MethodName)) ∈ lw_all := lw_g (lw_at lw_m4 151 rfl) rfl
theorem q942 : (Jvm.Cond.code ({ cls := "Hexstead", name := "hand", desc := "(II)I" } : Jvm.MethodName) prog_1_method_68_code (3 : Nat) (Option.some Jvm.ClassFile.FieldType.int)) ∈ lw_all := lw_g (lw_at lw_m4 152 rfl) rfl
theorem q947 : (Jvm.Cond.instanceMethod ({ cls := "Hexstead", name := "handByMoves", desc := "(II)I" } : Jvm.MethodName)) ∈ lw_all := lw_g (lw_at lw_m4 157 rfl) rfl
theorem q948 : (Jvm.Cond.selects "Hexstead" ({ cls := "Hexstead", name := "handByMoves", desc := "(II)I" } : Jvm.MethodName) ({ cls := "Hexstead", name := "handByMoves", desc := "(II)I" } : Jvm.MethodName)) ∈ lw_all := lw_g (lw_at lw_m4 158 rfl) rfl
theorem q949 : (Jvm.Cond.code ({ cls := "Hexstead", name := "handByMoves", desc := "(II)I" } : Jvm.MethodName) prog_1_method_69_code (6 : Nat) (Option.some Jvm.ClassFile.FieldType.int)) ∈ lw_all := lw_g (lw_at lw_m4 159 rfl) rfl
theorem q950 : (Jvm.Cond.methodLink "Hexstead" (353 : Nat) ({ cls := "Hexstead$Move", name := "gain", desc := "(II)I" } : Jvm.MethodName)) ∈ lw_all := lw_g (lw_at lw_m4 160 rfl) rfl
theorem q958 : (Jvm.Cond.instanceMethod ({ cls := "Hexstead", name := "due", desc := "(I)I" } : Jvm.MethodName)) ∈ lw_all := lw_g (lw_at lw_m4 168 rfl) rfl
theorem q959 : (Jvm.Cond.selects "Hexstead" ({ cls := "Hexstead", name := "due", desc := "(I)I" } : Jvm.MethodName) ({ cls := "Hexstead", name := "due", desc := "(I)I" } : Jvm.MethodName)) ∈ lw_all := lw_g (lw_at lw_m4 169 rfl) rfl
theorem q960 : (Jvm.Cond.code ({ cls := "Hexstead", name := "due", desc := "(I)I" } : Jvm.MethodName) prog_1_method_70_code (2 : Nat) (Option.some Jvm.ClassFile.FieldType.int)) ∈ lw_all := lw_g (lw_at lw_m4 170 rfl) rfl
theorem q965 : (Jvm.Cond.instanceMethod ({ cls := "Hexstead", name := "points", desc := "(I)I" } : Jvm.MethodName)) ∈ lw_all := lw_g (lw_at lw_m4 175 rfl) rfl
theorem q966 : (Jvm.Cond.selects "Hexstead" ({ cls := "Hexstead", name := "points", desc := "(I)I" } : Jvm.MethodName) ({ cls := "Hexstead", name := "points", desc := "(I)I" } : Jvm.MethodName)) ∈ lw_all := lw_g (lw_at lw_m4 176 rfl) rfl
theorem q967 : (Jvm.Cond.code ({ cls := "Hexstead", name := "points", desc := "(I)I" } : Jvm.MethodName) prog_1_method_71_code (2 : Nat) (Option.some Jvm.ClassFile.FieldType.int)) ∈ lw_all := lw_g (lw_at lw_m4 177 rfl) rfl
theorem q972 : (Jvm.Cond.instanceMethod ({ cls := "Hexstead", name := "trail", desc := "(I)I" } : Jvm.MethodName)) ∈ lw_all := lw_g (lw_at lw_m4 182 rfl) rfl
theorem q973 : (Jvm.Cond.selects "Hexstead" ({ cls := "Hexstead", name := "trail", desc := "(I)I" } : Jvm.MethodName) ({ cls := "Hexstead", name := "trail", desc := "(I)I" } : Jvm.MethodName)) ∈ lw_all := lw_g (lw_at lw_m4 183 rfl) rfl
theorem q974 : (Jvm.Cond.code ({ cls := "Hexstead", name := "trail", desc := "(I)I" } : Jvm.MethodName) prog_1_method_72_code (2 : Nat) (Option.some Jvm.ClassFile.FieldType.int)) ∈ lw_all := lw_g (lw_at lw_m4 184 rfl) rfl
theorem q979 : (Jvm.Cond.instanceMethod ({ cls := "Hexstead", name := "trailBySets", desc := "(I)I" } : Jvm.MethodName)) ∈ lw_all := lw_g (lw_at lw_m4 189 rfl) rfl
theorem q980 : (Jvm.Cond.selects "Hexstead" ({ cls := "Hexstead", name := "trailBySets", desc := "(I)I" } : Jvm.MethodName) ({ cls := "Hexstead", name := "trailBySets", desc := "(I)I" } : Jvm.MethodName)) ∈ lw_all := lw_g (lw_at lw_m4 190 rfl) rfl
theorem q981 : (Jvm.Cond.code ({ cls := "Hexstead", name := "trailBySets", desc := "(I)I" } : Jvm.MethodName) prog_1_method_73_code (6 : Nat) (Option.some Jvm.ClassFile.FieldType.int)) ∈ lw_all := lw_g (lw_at lw_m4 191 rfl) rfl
theorem q982 : (Jvm.Cond.methodLink "Hexstead" (356 : Nat) ({ cls := "java/lang/Integer", name := "bitCount", desc := "(I)I" } : Jvm.MethodName)) ∈ lw_all := lw_g (lw_at lw_m4 192 rfl) rfl
theorem q988 : (Jvm.Cond.methodLink "Hexstead" (361 : Nat) ({ cls := "Hexstead", name := "isTrail", desc := "(II)Z" } : Jvm.MethodName)) ∈ lw_all := lw_g (lw_at lw_m4 198 rfl) rfl
theorem q989 : (Jvm.Cond.privateMethod ({ cls := "Hexstead", name := "isTrail", desc := "(II)Z" } : Jvm.MethodName)) ∈ lw_tbl := lw_at lw_m4 199 rfl
theorem q990 : (Jvm.Cond.instanceMethod ({ cls := "Hexstead", name := "isTrail", desc := "(II)Z" } : Jvm.MethodName)) ∈ lw_all := lw_g (lw_at lw_m4 200 rfl) rfl
theorem q991 : (Jvm.Cond.code ({ cls := "Hexstead", name := "isTrail", desc := "(II)Z" } : Jvm.MethodName) prog_1_method_21_code (7 : Nat) (Option.some Jvm.ClassFile.FieldType.boolean)) ∈ lw_all := lw_g (lw_at lw_m4 201 rfl) rfl
theorem q992 : (Jvm.Cond.methodLink "Hexstead" (139 : Nat) ({ cls := "Hexstead", name := "reached", desc := "(II)I" } : Jvm.MethodName)) ∈ lw_all := lw_g (lw_at lw_m4 202 rfl) rfl
theorem q993 : (Jvm.Cond.privateMethod ({ cls := "Hexstead", name := "reached", desc := "(II)I" } : Jvm.MethodName)) ∈ lw_tbl := lw_at lw_m4 203 rfl
theorem q994 : (Jvm.Cond.instanceMethod ({ cls := "Hexstead", name := "reached", desc := "(II)I" } : Jvm.MethodName)) ∈ lw_all := lw_g (lw_at lw_m4 204 rfl) rfl
theorem q995 : (Jvm.Cond.code ({ cls := "Hexstead", name := "reached", desc := "(II)I" } : Jvm.MethodName) prog_1_method_22_code (8 : Nat) (Option.some Jvm.ClassFile.FieldType.int)) ∈ lw_all := lw_g (lw_at lw_m4 205 rfl) rfl
theorem q996 : (Jvm.Cond.methodLink "Hexstead" (142 : Nat) ({ cls := "Hexstead", name := "touches", desc := "(II)Z" } : Jvm.MethodName)) ∈ lw_all := lw_g (lw_at lw_m4 206 rfl) rfl
theorem q997 : (Jvm.Cond.static ({ cls := "Hexstead", name := "touches", desc := "(II)Z" } : Jvm.MethodName)) ∈ lw_all := lw_g (lw_at lw_m4 207 rfl) rfl
theorem q998 : (Jvm.Cond.code ({ cls := "Hexstead", name := "touches", desc := "(II)Z" } : Jvm.MethodName) prog_1_method_23_code (4 : Nat) (Option.some Jvm.ClassFile.FieldType.boolean)) ∈ lw_all := lw_g (lw_at lw_m4 208 rfl) rfl
theorem q1003 : (Jvm.Cond.instanceMethod ({ cls := "Hexstead", name := "knights", desc := "(I)I" } : Jvm.MethodName)) ∈ lw_all := lw_g (lw_at lw_m4 213 rfl) rfl
theorem q1004 : (Jvm.Cond.selects "Hexstead" ({ cls := "Hexstead", name := "knights", desc := "(I)I" } : Jvm.MethodName) ({ cls := "Hexstead", name := "knights", desc := "(I)I" } : Jvm.MethodName)) ∈ lw_all := lw_g (lw_at lw_m4 214 rfl) rfl
theorem q1005 : (Jvm.Cond.code ({ cls := "Hexstead", name := "knights", desc := "(I)I" } : Jvm.MethodName) prog_1_method_75_code (2 : Nat) (Option.some Jvm.ClassFile.FieldType.int)) ∈ lw_all := lw_g (lw_at lw_m4 215 rfl) rfl
theorem q1010 : (Jvm.Cond.instanceMethod ({ cls := "Hexstead", name := "cards", desc := "(II)I" } : Jvm.MethodName)) ∈ lw_all := lw_g (lw_at lw_m4 220 rfl) rfl
theorem q1011 : (Jvm.Cond.selects "Hexstead" ({ cls := "Hexstead", name := "cards", desc := "(II)I" } : Jvm.MethodName) ({ cls := "Hexstead", name := "cards", desc := "(II)I" } : Jvm.MethodName)) ∈ lw_all := lw_g (lw_at lw_m4 221 rfl) rfl
theorem q1012 : (Jvm.Cond.code ({ cls := "Hexstead", name := "cards", desc := "(II)I" } : Jvm.MethodName) prog_1_method_76_code (6 : Nat) (Option.some Jvm.ClassFile.FieldType.int)) ∈ lw_all := lw_g (lw_at lw_m4 222 rfl) rfl
theorem q1017 : (Jvm.Cond.instanceMethod ({ cls := "Hexstead", name := "buildingAt", desc := "(I)I" } : Jvm.MethodName)) ∈ lw_all := lw_g (lw_at lw_m4 227 rfl) rfl
theorem q1018 : (Jvm.Cond.selects "Hexstead" ({ cls := "Hexstead", name := "buildingAt", desc := "(I)I" } : Jvm.MethodName) ({ cls := "Hexstead", name := "buildingAt", desc := "(I)I" } : Jvm.MethodName)) ∈ lw_all := lw_g (lw_at lw_m4 228 rfl) rfl
theorem q1019 : (Jvm.Cond.code ({ cls := "Hexstead", name := "buildingAt", desc := "(I)I" } : Jvm.MethodName) prog_1_method_77_code (3 : Nat) (Option.some Jvm.ClassFile.FieldType.int)) ∈ lw_all := lw_g (lw_at lw_m4 229 rfl) rfl
theorem q1024 : (Jvm.Cond.instanceMethod ({ cls := "Hexstead", name := "roadAt", desc := "(I)I" } : Jvm.MethodName)) ∈ lw_all := lw_g (lw_at lw_m4 234 rfl) rfl
theorem q1025 : (Jvm.Cond.selects "Hexstead" ({ cls := "Hexstead", name := "roadAt", desc := "(I)I" } : Jvm.MethodName) ({ cls := "Hexstead", name := "roadAt", desc := "(I)I" } : Jvm.MethodName)) ∈ lw_all := lw_g (lw_at lw_m4 235 rfl) rfl
theorem q1026 : (Jvm.Cond.code ({ cls := "Hexstead", name := "roadAt", desc := "(I)I" } : Jvm.MethodName) prog_1_method_78_code (2 : Nat) (Option.some Jvm.ClassFile.FieldType.int)) ∈ lw_all := lw_g (lw_at lw_m4 236 rfl) rfl
theorem q1031 : (Jvm.Cond.instanceMethod ({ cls := "Hexstead", name := "rate", desc := "(II)I" } : Jvm.MethodName)) ∈ lw_all := lw_g (lw_at lw_m5 1 rfl) rfl
theorem q1032 : (Jvm.Cond.selects "Hexstead" ({ cls := "Hexstead", name := "rate", desc := "(II)I" } : Jvm.MethodName) ({ cls := "Hexstead", name := "rate", desc := "(II)I" } : Jvm.MethodName)) ∈ lw_all := lw_g (lw_at lw_m5 2 rfl) rfl
theorem q1033 : (Jvm.Cond.code ({ cls := "Hexstead", name := "rate", desc := "(II)I" } : Jvm.MethodName) prog_1_method_80_code (3 : Nat) (Option.some Jvm.ClassFile.FieldType.int)) ∈ lw_all := lw_g (lw_at lw_m5 3 rfl) rfl
theorem q1038 : (Jvm.Cond.instanceMethod ({ cls := "Hexstead", name := "wouldGet", desc := "(III)I" } : Jvm.MethodName)) ∈ lw_all := lw_g (lw_at lw_m5 8 rfl) rfl
theorem q1039 : (Jvm.Cond.selects "Hexstead" ({ cls := "Hexstead", name := "wouldGet", desc := "(III)I" } : Jvm.MethodName) ({ cls := "Hexstead", name := "wouldGet", desc := "(III)I" } : Jvm.MethodName)) ∈ lw_all := lw_g (lw_at lw_m5 9 rfl) rfl
theorem q1040 : (Jvm.Cond.code ({ cls := "Hexstead", name := "wouldGet", desc := "(III)I" } : Jvm.MethodName) prog_1_method_81_code (4 : Nat) (Option.some Jvm.ClassFile.FieldType.int)) ∈ lw_all := lw_g (lw_at lw_m5 10 rfl) rfl
theorem q1468 : (Jvm.Cond.castable "Hexstead" "java/lang/Object") ∈ lw_tbl := lw_at lw_m6 198 rfl
theorem in_X1 : ∀ w ∈ wsX10, w ∈ lw_all := lw_in wsX10 [181, 183, 185, 187, 189, 191, 193, 195, 197, 199, 201, 203, 205, 207, 209, 211, 213, 215, 217] (by decide +kernel) (by decide +kernel)
