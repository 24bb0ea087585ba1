/-! HexsteadModel -/
set_option maxRecDepth 100000
def RX3 : String := "HexsteadModel"
def TX3 : u_T := fun k => match k with
  | 0 => ("HexsteadModel", "good", "[I", true)
  | 1 => ("HexsteadModel", "number", "[I", true)
  | 2 => ("HexsteadModel", "robber", "I", false)
  | 3 => ("HexsteadModel", "road", "[I", true)
  | 4 => ("HexsteadModel", "building", "[I", true)
  | 5 => ("HexsteadModel", "hand", "[I", true)
  | 6 => ("HexsteadModel", "due", "[I", true)
  | 7 => ("HexsteadModel", "phase", "I", false)
  | 8 => ("HexsteadModel", "turn", "I", false)
  | 9 => ("HexsteadModel", "placed", "I", false)
  | 10 => ("HexsteadModel", "isRolled", "Z", false)
  | 11 => ("HexsteadModel", "cards", "[I", true)
  | 12 => ("HexsteadModel", "fresh", "[I", true)
  | 13 => ("HexsteadModel", "bought", "I", false)
  | 14 => ("HexsteadModel", "isUsed", "Z", false)
  | 15 => ("HexsteadModel", "knights", "[I", true)
  | 16 => ("HexsteadModel", "army", "I", false)
  | 17 => ("HexsteadModel", "longest", "I", false)
  | 18 => ("HexsteadModel", "give", "I", false)
  | 19 => ("HexsteadModel", "want", "I", false)
  | 20 => ("HexsteadModel", "gives", "[I", true)
  | 21 => ("HexsteadModel", "wants", "[I", true)
  | 22 => ("HexsteadModel", "own", "[I", true)
  | 23 => ("HexsteadModel", "degree", "[I", true)
  | 24 => ("HexsteadModel", "yield", "[I", true)
  | _ => ("HexsteadModel", "thrown", "I", false)
def tyX3 : Nat → FieldType := fun k => match k with
  | 0 => .array .int
  | 1 => .array .int
  | 2 => .int
  | 3 => .array .int
  | 4 => .array .int
  | 5 => .array .int
  | 6 => .array .int
  | 7 => .int
  | 8 => .int
  | 9 => .int
  | 10 => .boolean
  | 11 => .array .int
  | 12 => .array .int
  | 13 => .int
  | 14 => .boolean
  | 15 => .array .int
  | 16 => .int
  | 17 => .int
  | 18 => .int
  | 19 => .int
  | 20 => .array .int
  | 21 => .array .int
  | 22 => .array .int
  | 23 => .array .int
  | 24 => .array .int
  | _ => .int
abbrev wsX30 : List Cond := u_ws RX3 TX3 26
set_option maxRecDepth 100000 in
theorem nmX3 : ∀ a, a < 26 → ∀ b, b < 26 → a ≠ b → (TX3 a).2.1 ≠ (TX3 b).2.1 := by decide +kernel
set_option maxRecDepth 100000 in
theorem tyX3_ok : ∀ k, k < 26 → parseFieldDescriptor (TX3 k).2.2.1 = some (tyX3 k) := by decide +kernel
abbrev cX3_init : ByteArray := prog_12_method_1_code
def yX3_init : MethodName := ⟨RX3, "<init>", "()V"⟩
def dkwX3_init_10 : List UInt8 := [180, 0, 22, 16, 15, 27, 96, 16, 12, 79, 132, 1, 1, 167, 255, 237, 177]
abbrev dktX3_init_10 : List UInt8 := dkwX3_init_10 ++ []
def dkwX3_init_9 : List UInt8 := [16, 10, 167, 0, 5, 16, 8, 79, 132, 1, 1, 167, 255, 155, 3, 60, 27, 8, 162, 0, 20, 42]
abbrev dktX3_init_9 : List UInt8 := dkwX3_init_9 ++ dktX3_init_10
def dkwX3_init_8 : List UInt8 := [27, 6, 160, 0, 8, 16, 9, 167, 0, 24, 27, 7, 160, 0, 7, 7, 167, 0, 15, 27, 8, 160, 0, 8]
abbrev dktX3_init_8 : List UInt8 := dkwX3_init_8 ++ dktX3_init_9
def dkwX3_init_7 : List UInt8 := [16, 7, 167, 0, 53, 27, 4, 160, 0, 8, 16, 6, 167, 0, 43, 27, 5, 160, 0, 7, 8, 167, 0, 34]
abbrev dktX3_init_7 : List UInt8 := dkwX3_init_7 ++ dktX3_init_8
def dkwX3_init_6 : List UInt8 := [27, 16, 6, 160, 0, 7, 4, 167, 0, 6, 27, 4, 100, 79, 42, 180, 0, 13, 27, 27, 154, 0, 8]
abbrev dktX3_init_6 : List UInt8 := dkwX3_init_6 ++ dktX3_init_7
def dkwX3_init_5 : List UInt8 := [181, 0, 56, 3, 60, 27, 16, 7, 162, 0, 101, 42, 180, 0, 7, 27, 27, 154, 0, 7, 8, 167, 0, 16]
abbrev dktX3_init_5 : List UInt8 := dkwX3_init_5 ++ dktX3_init_6
def dkwX3_init_4 : List UInt8 := [181, 0, 47, 42, 16, 8, 188, 10, 181, 0, 50, 42, 16, 24, 188, 10, 181, 0, 53, 42, 16, 15, 188, 10]
abbrev dktX3_init_4 : List UInt8 := dkwX3_init_4 ++ dktX3_init_5
def dkwX3_init_3 : List UInt8 := [181, 0, 34, 42, 2, 181, 0, 37, 42, 2, 181, 0, 41, 42, 6, 188, 10, 181, 0, 44, 42, 6, 188, 10]
abbrev dktX3_init_3 : List UInt8 := dkwX3_init_3 ++ dktX3_init_4
def dkwX3_init_2 : List UInt8 := [188, 10, 181, 0, 25, 42, 16, 15, 188, 10, 181, 0, 28, 42, 8, 188, 10, 181, 0, 31, 42, 6, 188, 10]
abbrev dktX3_init_2 : List UInt8 := dkwX3_init_2 ++ dktX3_init_3
def dkwX3_init_1 : List UInt8 := [188, 10, 181, 0, 16, 42, 16, 24, 188, 10, 181, 0, 19, 42, 16, 20, 188, 10, 181, 0, 22, 42, 6]
abbrev dktX3_init_1 : List UInt8 := dkwX3_init_1 ++ dktX3_init_2
def dkwX3_init_0 : List UInt8 := [42, 183, 0, 1, 42, 16, 7, 188, 10, 181, 0, 7, 42, 16, 7, 188, 10, 181, 0, 13, 42, 16, 30]
abbrev dktX3_init_0 : List UInt8 := dkwX3_init_0 ++ dktX3_init_1
theorem dksX3_init_0 : cX3_init.data.toList.drop 0 = dktX3_init_0 := by decide +kernel
theorem dksX3_init_1 : cX3_init.data.toList.drop 23 = dktX3_init_1 := dk_seg dksX3_init_0 23 rfl rfl
theorem dksX3_init_2 : cX3_init.data.toList.drop 46 = dktX3_init_2 := dk_seg dksX3_init_1 23 rfl rfl
theorem dksX3_init_3 : cX3_init.data.toList.drop 70 = dktX3_init_3 := dk_seg dksX3_init_2 24 rfl rfl
theorem dksX3_init_4 : cX3_init.data.toList.drop 94 = dktX3_init_4 := dk_seg dksX3_init_3 24 rfl rfl
theorem dksX3_init_5 : cX3_init.data.toList.drop 118 = dktX3_init_5 := dk_seg dksX3_init_4 24 rfl rfl
theorem dksX3_init_6 : cX3_init.data.toList.drop 142 = dktX3_init_6 := dk_seg dksX3_init_5 24 rfl rfl
theorem dksX3_init_7 : cX3_init.data.toList.drop 165 = dktX3_init_7 := dk_seg dksX3_init_6 23 rfl rfl
theorem dksX3_init_8 : cX3_init.data.toList.drop 189 = dktX3_init_8 := dk_seg dksX3_init_7 24 rfl rfl
theorem dksX3_init_9 : cX3_init.data.toList.drop 213 = dktX3_init_9 := dk_seg dksX3_init_8 24 rfl rfl
theorem dksX3_init_10 : cX3_init.data.toList.drop 235 = dktX3_init_10 := dk_seg dksX3_init_9 22 rfl rfl
theorem dX3_init_0 : decode cX3_init 0 = .ok (.aload_n 0, 1) := dk_42 (dk_at dksX3_init_0 0 rfl rfl)
theorem dX3_init_1 : decode cX3_init 1 = .ok (.invokespecial 1, 3) := dk_183 0 1 (dk_at dksX3_init_0 1 rfl rfl)
theorem dX3_init_4 : decode cX3_init 4 = .ok (.aload_n 0, 1) := dk_42 (dk_at dksX3_init_0 4 rfl rfl)
theorem dX3_init_5 : decode cX3_init 5 = .ok (.bipush 7, 2) := dk_16 7 (dk_at dksX3_init_0 5 rfl rfl)
theorem dX3_init_7 : decode cX3_init 7 = .ok (.newarray .int, 2) := dk_188_10 (dk_at dksX3_init_0 7 rfl rfl)
theorem dX3_init_9 : decode cX3_init 9 = .ok (.putfield 7, 3) := dk_181 0 7 (dk_at dksX3_init_0 9 rfl rfl)
theorem dX3_init_12 : decode cX3_init 12 = .ok (.aload_n 0, 1) := dk_42 (dk_at dksX3_init_0 12 rfl rfl)
theorem dX3_init_13 : decode cX3_init 13 = .ok (.bipush 7, 2) := dk_16 7 (dk_at dksX3_init_0 13 rfl rfl)
theorem dX3_init_15 : decode cX3_init 15 = .ok (.newarray .int, 2) := dk_188_10 (dk_at dksX3_init_0 15 rfl rfl)
theorem dX3_init_17 : decode cX3_init 17 = .ok (.putfield 13, 3) := dk_181 0 13 (dk_at dksX3_init_0 17 rfl rfl)
theorem dX3_init_20 : decode cX3_init 20 = .ok (.aload_n 0, 1) := dk_42 (dk_at dksX3_init_0 20 rfl rfl)
theorem dX3_init_21 : decode cX3_init 21 = .ok (.bipush 30, 2) := dk_16 30 (dk_at dksX3_init_0 21 rfl rfl)
theorem dX3_init_23 : decode cX3_init 23 = .ok (.newarray .int, 2) := dk_188_10 (dk_at dksX3_init_1 0 rfl rfl)
theorem dX3_init_25 : decode cX3_init 25 = .ok (.putfield 16, 3) := dk_181 0 16 (dk_at dksX3_init_1 2 rfl rfl)
theorem dX3_init_28 : decode cX3_init 28 = .ok (.aload_n 0, 1) := dk_42 (dk_at dksX3_init_1 5 rfl rfl)
theorem dX3_init_29 : decode cX3_init 29 = .ok (.bipush 24, 2) := dk_16 24 (dk_at dksX3_init_1 6 rfl rfl)
theorem dX3_init_31 : decode cX3_init 31 = .ok (.newarray .int, 2) := dk_188_10 (dk_at dksX3_init_1 8 rfl rfl)
theorem dX3_init_33 : decode cX3_init 33 = .ok (.putfield 19, 3) := dk_181 0 19 (dk_at dksX3_init_1 10 rfl rfl)
theorem dX3_init_36 : decode cX3_init 36 = .ok (.aload_n 0, 1) := dk_42 (dk_at dksX3_init_1 13 rfl rfl)
theorem dX3_init_37 : decode cX3_init 37 = .ok (.bipush 20, 2) := dk_16 20 (dk_at dksX3_init_1 14 rfl rfl)
theorem dX3_init_39 : decode cX3_init 39 = .ok (.newarray .int, 2) := dk_188_10 (dk_at dksX3_init_1 16 rfl rfl)
theorem dX3_init_41 : decode cX3_init 41 = .ok (.putfield 22, 3) := dk_181 0 22 (dk_at dksX3_init_1 18 rfl rfl)
theorem dX3_init_44 : decode cX3_init 44 = .ok (.aload_n 0, 1) := dk_42 (dk_at dksX3_init_1 21 rfl rfl)
theorem dX3_init_45 : decode cX3_init 45 = .ok (.iconst 3, 1) := dk_6 (dk_at dksX3_init_1 22 rfl rfl)
theorem dX3_init_46 : decode cX3_init 46 = .ok (.newarray .int, 2) := dk_188_10 (dk_at dksX3_init_2 0 rfl rfl)
theorem dX3_init_48 : decode cX3_init 48 = .ok (.putfield 25, 3) := dk_181 0 25 (dk_at dksX3_init_2 2 rfl rfl)
theorem dX3_init_51 : decode cX3_init 51 = .ok (.aload_n 0, 1) := dk_42 (dk_at dksX3_init_2 5 rfl rfl)
theorem dX3_init_52 : decode cX3_init 52 = .ok (.bipush 15, 2) := dk_16 15 (dk_at dksX3_init_2 6 rfl rfl)
theorem dX3_init_54 : decode cX3_init 54 = .ok (.newarray .int, 2) := dk_188_10 (dk_at dksX3_init_2 8 rfl rfl)
theorem dX3_init_56 : decode cX3_init 56 = .ok (.putfield 28, 3) := dk_181 0 28 (dk_at dksX3_init_2 10 rfl rfl)
theorem dX3_init_59 : decode cX3_init 59 = .ok (.aload_n 0, 1) := dk_42 (dk_at dksX3_init_2 13 rfl rfl)
theorem dX3_init_60 : decode cX3_init 60 = .ok (.iconst 5, 1) := dk_8 (dk_at dksX3_init_2 14 rfl rfl)
theorem dX3_init_61 : decode cX3_init 61 = .ok (.newarray .int, 2) := dk_188_10 (dk_at dksX3_init_2 15 rfl rfl)
theorem dX3_init_63 : decode cX3_init 63 = .ok (.putfield 31, 3) := dk_181 0 31 (dk_at dksX3_init_2 17 rfl rfl)
theorem dX3_init_66 : decode cX3_init 66 = .ok (.aload_n 0, 1) := dk_42 (dk_at dksX3_init_2 20 rfl rfl)
theorem dX3_init_67 : decode cX3_init 67 = .ok (.iconst 3, 1) := dk_6 (dk_at dksX3_init_2 21 rfl rfl)
theorem dX3_init_68 : decode cX3_init 68 = .ok (.newarray .int, 2) := dk_188_10 (dk_at dksX3_init_2 22 rfl rfl)
theorem dX3_init_70 : decode cX3_init 70 = .ok (.putfield 34, 3) := dk_181 0 34 (dk_at dksX3_init_3 0 rfl rfl)
theorem dX3_init_73 : decode cX3_init 73 = .ok (.aload_n 0, 1) := dk_42 (dk_at dksX3_init_3 3 rfl rfl)
theorem dX3_init_74 : decode cX3_init 74 = .ok (.iconst (-1), 1) := dk_2 (dk_at dksX3_init_3 4 rfl rfl)
theorem dX3_init_75 : decode cX3_init 75 = .ok (.putfield 37, 3) := dk_181 0 37 (dk_at dksX3_init_3 5 rfl rfl)
theorem dX3_init_78 : decode cX3_init 78 = .ok (.aload_n 0, 1) := dk_42 (dk_at dksX3_init_3 8 rfl rfl)
theorem dX3_init_79 : decode cX3_init 79 = .ok (.iconst (-1), 1) := dk_2 (dk_at dksX3_init_3 9 rfl rfl)
theorem dX3_init_80 : decode cX3_init 80 = .ok (.putfield 41, 3) := dk_181 0 41 (dk_at dksX3_init_3 10 rfl rfl)
theorem dX3_init_83 : decode cX3_init 83 = .ok (.aload_n 0, 1) := dk_42 (dk_at dksX3_init_3 13 rfl rfl)
theorem dX3_init_84 : decode cX3_init 84 = .ok (.iconst 3, 1) := dk_6 (dk_at dksX3_init_3 14 rfl rfl)
theorem dX3_init_85 : decode cX3_init 85 = .ok (.newarray .int, 2) := dk_188_10 (dk_at dksX3_init_3 15 rfl rfl)
theorem dX3_init_87 : decode cX3_init 87 = .ok (.putfield 44, 3) := dk_181 0 44 (dk_at dksX3_init_3 17 rfl rfl)
theorem dX3_init_90 : decode cX3_init 90 = .ok (.aload_n 0, 1) := dk_42 (dk_at dksX3_init_3 20 rfl rfl)
theorem dX3_init_91 : decode cX3_init 91 = .ok (.iconst 3, 1) := dk_6 (dk_at dksX3_init_3 21 rfl rfl)
theorem dX3_init_92 : decode cX3_init 92 = .ok (.newarray .int, 2) := dk_188_10 (dk_at dksX3_init_3 22 rfl rfl)
theorem dX3_init_94 : decode cX3_init 94 = .ok (.putfield 47, 3) := dk_181 0 47 (dk_at dksX3_init_4 0 rfl rfl)
theorem dX3_init_97 : decode cX3_init 97 = .ok (.aload_n 0, 1) := dk_42 (dk_at dksX3_init_4 3 rfl rfl)
theorem dX3_init_98 : decode cX3_init 98 = .ok (.bipush 8, 2) := dk_16 8 (dk_at dksX3_init_4 4 rfl rfl)
theorem dX3_init_100 : decode cX3_init 100 = .ok (.newarray .int, 2) := dk_188_10 (dk_at dksX3_init_4 6 rfl rfl)
theorem dX3_init_102 : decode cX3_init 102 = .ok (.putfield 50, 3) := dk_181 0 50 (dk_at dksX3_init_4 8 rfl rfl)
theorem dX3_init_105 : decode cX3_init 105 = .ok (.aload_n 0, 1) := dk_42 (dk_at dksX3_init_4 11 rfl rfl)
theorem dX3_init_106 : decode cX3_init 106 = .ok (.bipush 24, 2) := dk_16 24 (dk_at dksX3_init_4 12 rfl rfl)
theorem dX3_init_108 : decode cX3_init 108 = .ok (.newarray .int, 2) := dk_188_10 (dk_at dksX3_init_4 14 rfl rfl)
theorem dX3_init_110 : decode cX3_init 110 = .ok (.putfield 53, 3) := dk_181 0 53 (dk_at dksX3_init_4 16 rfl rfl)
theorem dX3_init_113 : decode cX3_init 113 = .ok (.aload_n 0, 1) := dk_42 (dk_at dksX3_init_4 19 rfl rfl)
theorem dX3_init_114 : decode cX3_init 114 = .ok (.bipush 15, 2) := dk_16 15 (dk_at dksX3_init_4 20 rfl rfl)
theorem dX3_init_116 : decode cX3_init 116 = .ok (.newarray .int, 2) := dk_188_10 (dk_at dksX3_init_4 22 rfl rfl)
theorem dX3_init_118 : decode cX3_init 118 = .ok (.putfield 56, 3) := dk_181 0 56 (dk_at dksX3_init_5 0 rfl rfl)
theorem dX3_init_121 : decode cX3_init 121 = .ok (.iconst 0, 1) := dk_3 (dk_at dksX3_init_5 3 rfl rfl)
theorem dX3_init_122 : decode cX3_init 122 = .ok (.istore_n 1, 1) := dk_60 (dk_at dksX3_init_5 4 rfl rfl)
theorem dX3_init_123 : decode cX3_init 123 = .ok (.iload_n 1, 1) := dk_27 (dk_at dksX3_init_5 5 rfl rfl)
theorem dX3_init_124 : decode cX3_init 124 = .ok (.bipush 7, 2) := dk_16 7 (dk_at dksX3_init_5 6 rfl rfl)
theorem dX3_init_126 : decode cX3_init 126 = .ok (.if_icmp .ge 101, 3) := dk_162 0 101 (dk_at dksX3_init_5 8 rfl rfl)
theorem dX3_init_129 : decode cX3_init 129 = .ok (.aload_n 0, 1) := dk_42 (dk_at dksX3_init_5 11 rfl rfl)
theorem dX3_init_130 : decode cX3_init 130 = .ok (.getfield 7, 3) := dk_180 0 7 (dk_at dksX3_init_5 12 rfl rfl)
theorem dX3_init_133 : decode cX3_init 133 = .ok (.iload_n 1, 1) := dk_27 (dk_at dksX3_init_5 15 rfl rfl)
theorem dX3_init_134 : decode cX3_init 134 = .ok (.iload_n 1, 1) := dk_27 (dk_at dksX3_init_5 16 rfl rfl)
theorem dX3_init_135 : decode cX3_init 135 = .ok (.ifCond .ne 7, 3) := dk_154 0 7 (dk_at dksX3_init_5 17 rfl rfl)
theorem dX3_init_138 : decode cX3_init 138 = .ok (.iconst 5, 1) := dk_8 (dk_at dksX3_init_5 20 rfl rfl)
theorem dX3_init_139 : decode cX3_init 139 = .ok (.goto 16, 3) := dk_167 0 16 (dk_at dksX3_init_5 21 rfl rfl)
theorem dX3_init_142 : decode cX3_init 142 = .ok (.iload_n 1, 1) := dk_27 (dk_at dksX3_init_6 0 rfl rfl)
theorem dX3_init_143 : decode cX3_init 143 = .ok (.bipush 6, 2) := dk_16 6 (dk_at dksX3_init_6 1 rfl rfl)
theorem dX3_init_145 : decode cX3_init 145 = .ok (.if_icmp .ne 7, 3) := dk_160 0 7 (dk_at dksX3_init_6 3 rfl rfl)
theorem dX3_init_148 : decode cX3_init 148 = .ok (.iconst 1, 1) := dk_4 (dk_at dksX3_init_6 6 rfl rfl)
theorem dX3_init_149 : decode cX3_init 149 = .ok (.goto 6, 3) := dk_167 0 6 (dk_at dksX3_init_6 7 rfl rfl)
theorem dX3_init_152 : decode cX3_init 152 = .ok (.iload_n 1, 1) := dk_27 (dk_at dksX3_init_6 10 rfl rfl)
theorem dX3_init_153 : decode cX3_init 153 = .ok (.iconst 1, 1) := dk_4 (dk_at dksX3_init_6 11 rfl rfl)
theorem dX3_init_154 : decode cX3_init 154 = .ok (.isub, 1) := dk_100 (dk_at dksX3_init_6 12 rfl rfl)
theorem dX3_init_155 : decode cX3_init 155 = .ok (.iastore, 1) := dk_79 (dk_at dksX3_init_6 13 rfl rfl)
theorem dX3_init_156 : decode cX3_init 156 = .ok (.aload_n 0, 1) := dk_42 (dk_at dksX3_init_6 14 rfl rfl)
theorem dX3_init_157 : decode cX3_init 157 = .ok (.getfield 13, 3) := dk_180 0 13 (dk_at dksX3_init_6 15 rfl rfl)
theorem dX3_init_160 : decode cX3_init 160 = .ok (.iload_n 1, 1) := dk_27 (dk_at dksX3_init_6 18 rfl rfl)
theorem dX3_init_161 : decode cX3_init 161 = .ok (.iload_n 1, 1) := dk_27 (dk_at dksX3_init_6 19 rfl rfl)
theorem dX3_init_162 : decode cX3_init 162 = .ok (.ifCond .ne 8, 3) := dk_154 0 8 (dk_at dksX3_init_6 20 rfl rfl)
theorem dX3_init_165 : decode cX3_init 165 = .ok (.bipush 7, 2) := dk_16 7 (dk_at dksX3_init_7 0 rfl rfl)
theorem dX3_init_167 : decode cX3_init 167 = .ok (.goto 53, 3) := dk_167 0 53 (dk_at dksX3_init_7 2 rfl rfl)
theorem dX3_init_170 : decode cX3_init 170 = .ok (.iload_n 1, 1) := dk_27 (dk_at dksX3_init_7 5 rfl rfl)
theorem dX3_init_171 : decode cX3_init 171 = .ok (.iconst 1, 1) := dk_4 (dk_at dksX3_init_7 6 rfl rfl)
theorem dX3_init_172 : decode cX3_init 172 = .ok (.if_icmp .ne 8, 3) := dk_160 0 8 (dk_at dksX3_init_7 7 rfl rfl)
theorem dX3_init_175 : decode cX3_init 175 = .ok (.bipush 6, 2) := dk_16 6 (dk_at dksX3_init_7 10 rfl rfl)
theorem dX3_init_177 : decode cX3_init 177 = .ok (.goto 43, 3) := dk_167 0 43 (dk_at dksX3_init_7 12 rfl rfl)
theorem dX3_init_180 : decode cX3_init 180 = .ok (.iload_n 1, 1) := dk_27 (dk_at dksX3_init_7 15 rfl rfl)
theorem dX3_init_181 : decode cX3_init 181 = .ok (.iconst 2, 1) := dk_5 (dk_at dksX3_init_7 16 rfl rfl)
theorem dX3_init_182 : decode cX3_init 182 = .ok (.if_icmp .ne 7, 3) := dk_160 0 7 (dk_at dksX3_init_7 17 rfl rfl)
theorem dX3_init_185 : decode cX3_init 185 = .ok (.iconst 5, 1) := dk_8 (dk_at dksX3_init_7 20 rfl rfl)
theorem dX3_init_186 : decode cX3_init 186 = .ok (.goto 34, 3) := dk_167 0 34 (dk_at dksX3_init_7 21 rfl rfl)
theorem dX3_init_189 : decode cX3_init 189 = .ok (.iload_n 1, 1) := dk_27 (dk_at dksX3_init_8 0 rfl rfl)
theorem dX3_init_190 : decode cX3_init 190 = .ok (.iconst 3, 1) := dk_6 (dk_at dksX3_init_8 1 rfl rfl)
theorem dX3_init_191 : decode cX3_init 191 = .ok (.if_icmp .ne 8, 3) := dk_160 0 8 (dk_at dksX3_init_8 2 rfl rfl)
theorem dX3_init_194 : decode cX3_init 194 = .ok (.bipush 9, 2) := dk_16 9 (dk_at dksX3_init_8 5 rfl rfl)
theorem dX3_init_196 : decode cX3_init 196 = .ok (.goto 24, 3) := dk_167 0 24 (dk_at dksX3_init_8 7 rfl rfl)
theorem dX3_init_199 : decode cX3_init 199 = .ok (.iload_n 1, 1) := dk_27 (dk_at dksX3_init_8 10 rfl rfl)
theorem dX3_init_200 : decode cX3_init 200 = .ok (.iconst 4, 1) := dk_7 (dk_at dksX3_init_8 11 rfl rfl)
theorem dX3_init_201 : decode cX3_init 201 = .ok (.if_icmp .ne 7, 3) := dk_160 0 7 (dk_at dksX3_init_8 12 rfl rfl)
theorem dX3_init_204 : decode cX3_init 204 = .ok (.iconst 4, 1) := dk_7 (dk_at dksX3_init_8 15 rfl rfl)
theorem dX3_init_205 : decode cX3_init 205 = .ok (.goto 15, 3) := dk_167 0 15 (dk_at dksX3_init_8 16 rfl rfl)
theorem dX3_init_208 : decode cX3_init 208 = .ok (.iload_n 1, 1) := dk_27 (dk_at dksX3_init_8 19 rfl rfl)
theorem dX3_init_209 : decode cX3_init 209 = .ok (.iconst 5, 1) := dk_8 (dk_at dksX3_init_8 20 rfl rfl)
theorem dX3_init_210 : decode cX3_init 210 = .ok (.if_icmp .ne 8, 3) := dk_160 0 8 (dk_at dksX3_init_8 21 rfl rfl)
theorem dX3_init_213 : decode cX3_init 213 = .ok (.bipush 10, 2) := dk_16 10 (dk_at dksX3_init_9 0 rfl rfl)
theorem dX3_init_215 : decode cX3_init 215 = .ok (.goto 5, 3) := dk_167 0 5 (dk_at dksX3_init_9 2 rfl rfl)
theorem dX3_init_218 : decode cX3_init 218 = .ok (.bipush 8, 2) := dk_16 8 (dk_at dksX3_init_9 5 rfl rfl)
theorem dX3_init_220 : decode cX3_init 220 = .ok (.iastore, 1) := dk_79 (dk_at dksX3_init_9 7 rfl rfl)
theorem dX3_init_221 : decode cX3_init 221 = .ok (.iinc 1 1, 3) := dk_132 1 1 (dk_at dksX3_init_9 8 rfl rfl)
theorem dX3_init_224 : decode cX3_init 224 = .ok (.goto (-101), 3) := dk_167 255 155 (dk_at dksX3_init_9 11 rfl rfl)
theorem dX3_init_227 : decode cX3_init 227 = .ok (.iconst 0, 1) := dk_3 (dk_at dksX3_init_9 14 rfl rfl)
theorem dX3_init_228 : decode cX3_init 228 = .ok (.istore_n 1, 1) := dk_60 (dk_at dksX3_init_9 15 rfl rfl)
theorem dX3_init_229 : decode cX3_init 229 = .ok (.iload_n 1, 1) := dk_27 (dk_at dksX3_init_9 16 rfl rfl)
theorem dX3_init_230 : decode cX3_init 230 = .ok (.iconst 5, 1) := dk_8 (dk_at dksX3_init_9 17 rfl rfl)
theorem dX3_init_231 : decode cX3_init 231 = .ok (.if_icmp .ge 20, 3) := dk_162 0 20 (dk_at dksX3_init_9 18 rfl rfl)
theorem dX3_init_234 : decode cX3_init 234 = .ok (.aload_n 0, 1) := dk_42 (dk_at dksX3_init_9 21 rfl rfl)
theorem dX3_init_235 : decode cX3_init 235 = .ok (.getfield 22, 3) := dk_180 0 22 (dk_at dksX3_init_10 0 rfl rfl)
theorem dX3_init_238 : decode cX3_init 238 = .ok (.bipush 15, 2) := dk_16 15 (dk_at dksX3_init_10 3 rfl rfl)
theorem dX3_init_240 : decode cX3_init 240 = .ok (.iload_n 1, 1) := dk_27 (dk_at dksX3_init_10 5 rfl rfl)
theorem dX3_init_241 : decode cX3_init 241 = .ok (.iadd, 1) := dk_96 (dk_at dksX3_init_10 6 rfl rfl)
theorem dX3_init_242 : decode cX3_init 242 = .ok (.bipush 12, 2) := dk_16 12 (dk_at dksX3_init_10 7 rfl rfl)
theorem dX3_init_244 : decode cX3_init 244 = .ok (.iastore, 1) := dk_79 (dk_at dksX3_init_10 9 rfl rfl)
theorem dX3_init_245 : decode cX3_init 245 = .ok (.iinc 1 1, 3) := dk_132 1 1 (dk_at dksX3_init_10 10 rfl rfl)
theorem dX3_init_248 : decode cX3_init 248 = .ok (.goto (-19), 3) := dk_167 255 237 (dk_at dksX3_init_10 13 rfl rfl)
theorem dX3_init_251 : decode cX3_init 251 = .ok (.return_, 1) := dk_177 (dk_at dksX3_init_10 16 rfl rfl)
abbrev cX3_thrown : ByteArray := prog_12_method_2_code
def yX3_thrown : MethodName := ⟨RX3, "thrown", "()I"⟩
theorem dX3_thrown_0 : decode cX3_thrown 0 = .ok (.aload_n 0, 1) := by decide +kernel
theorem dX3_thrown_1 : decode cX3_thrown 1 = .ok (.getfield 59, 3) := by decide +kernel
theorem dX3_thrown_4 : decode cX3_thrown 4 = .ok (.ireturn, 1) := by decide +kernel
abbrev cX3_layHex : ByteArray := prog_12_method_37_code
def yX3_layHex : MethodName := ⟨RX3, "layHex", "(III)V"⟩
def dkwX3_layHex_3 : List UInt8 := [181, 0, 59, 177, 42, 180, 0, 7, 27, 28, 79, 42, 180, 0, 13, 27, 29, 79, 177]
abbrev dktX3_layHex_3 : List UInt8 := dkwX3_layHex_3 ++ []
def dkwX3_layHex_2 : List UInt8 := [4, 167, 0, 4, 3, 159, 0, 9, 42, 5, 181, 0, 59, 177, 42, 180, 0, 134, 158, 0, 9, 42, 6]
abbrev dktX3_layHex_2 : List UInt8 := dkwX3_layHex_2 ++ dktX3_layHex_3
def dkwX3_layHex_1 : List UInt8 := [16, 12, 184, 0, 131, 153, 0, 27, 29, 16, 7, 160, 0, 7, 4, 167, 0, 4, 3, 28, 8, 160, 0, 7]
abbrev dktX3_layHex_1 : List UInt8 := dkwX3_layHex_1 ++ dktX3_layHex_2
def dkwX3_layHex_0 : List UInt8 := [42, 27, 184, 0, 124, 182, 0, 127, 154, 0, 4, 177, 28, 3, 8, 184, 0, 131, 153, 0, 37, 29, 5]
abbrev dktX3_layHex_0 : List UInt8 := dkwX3_layHex_0 ++ dktX3_layHex_1
theorem dksX3_layHex_0 : cX3_layHex.data.toList.drop 0 = dktX3_layHex_0 := by decide +kernel
theorem dksX3_layHex_1 : cX3_layHex.data.toList.drop 23 = dktX3_layHex_1 := dk_seg dksX3_layHex_0 23 rfl rfl
theorem dksX3_layHex_2 : cX3_layHex.data.toList.drop 47 = dktX3_layHex_2 := dk_seg dksX3_layHex_1 24 rfl rfl
theorem dksX3_layHex_3 : cX3_layHex.data.toList.drop 70 = dktX3_layHex_3 := dk_seg dksX3_layHex_2 23 rfl rfl
theorem dX3_layHex_0 : decode cX3_layHex 0 = .ok (.aload_n 0, 1) := dk_42 (dk_at dksX3_layHex_0 0 rfl rfl)
theorem dX3_layHex_1 : decode cX3_layHex 1 = .ok (.iload_n 1, 1) := dk_27 (dk_at dksX3_layHex_0 1 rfl rfl)
theorem dX3_layHex_2 : decode cX3_layHex 2 = .ok (.invokestatic 124, 3) := dk_184 0 124 (dk_at dksX3_layHex_0 2 rfl rfl)
theorem dX3_layHex_5 : decode cX3_layHex 5 = .ok (.invokevirtual 127, 3) := dk_182 0 127 (dk_at dksX3_layHex_0 5 rfl rfl)
theorem dX3_layHex_8 : decode cX3_layHex 8 = .ok (.ifCond .ne 4, 3) := dk_154 0 4 (dk_at dksX3_layHex_0 8 rfl rfl)
theorem dX3_layHex_11 : decode cX3_layHex 11 = .ok (.return_, 1) := dk_177 (dk_at dksX3_layHex_0 11 rfl rfl)
theorem dX3_layHex_12 : decode cX3_layHex 12 = .ok (.iload_n 2, 1) := dk_28 (dk_at dksX3_layHex_0 12 rfl rfl)
theorem dX3_layHex_13 : decode cX3_layHex 13 = .ok (.iconst 0, 1) := dk_3 (dk_at dksX3_layHex_0 13 rfl rfl)
theorem dX3_layHex_14 : decode cX3_layHex 14 = .ok (.iconst 5, 1) := dk_8 (dk_at dksX3_layHex_0 14 rfl rfl)
theorem dX3_layHex_15 : decode cX3_layHex 15 = .ok (.invokestatic 131, 3) := dk_184 0 131 (dk_at dksX3_layHex_0 15 rfl rfl)
theorem dX3_layHex_18 : decode cX3_layHex 18 = .ok (.ifCond .eq 37, 3) := dk_153 0 37 (dk_at dksX3_layHex_0 18 rfl rfl)
theorem dX3_layHex_21 : decode cX3_layHex 21 = .ok (.iload_n 3, 1) := dk_29 (dk_at dksX3_layHex_0 21 rfl rfl)
theorem dX3_layHex_22 : decode cX3_layHex 22 = .ok (.iconst 2, 1) := dk_5 (dk_at dksX3_layHex_0 22 rfl rfl)
theorem dX3_layHex_23 : decode cX3_layHex 23 = .ok (.bipush 12, 2) := dk_16 12 (dk_at dksX3_layHex_1 0 rfl rfl)
theorem dX3_layHex_25 : decode cX3_layHex 25 = .ok (.invokestatic 131, 3) := dk_184 0 131 (dk_at dksX3_layHex_1 2 rfl rfl)
theorem dX3_layHex_28 : decode cX3_layHex 28 = .ok (.ifCond .eq 27, 3) := dk_153 0 27 (dk_at dksX3_layHex_1 5 rfl rfl)
theorem dX3_layHex_31 : decode cX3_layHex 31 = .ok (.iload_n 3, 1) := dk_29 (dk_at dksX3_layHex_1 8 rfl rfl)
theorem dX3_layHex_32 : decode cX3_layHex 32 = .ok (.bipush 7, 2) := dk_16 7 (dk_at dksX3_layHex_1 9 rfl rfl)
theorem dX3_layHex_34 : decode cX3_layHex 34 = .ok (.if_icmp .ne 7, 3) := dk_160 0 7 (dk_at dksX3_layHex_1 11 rfl rfl)
theorem dX3_layHex_37 : decode cX3_layHex 37 = .ok (.iconst 1, 1) := dk_4 (dk_at dksX3_layHex_1 14 rfl rfl)
theorem dX3_layHex_38 : decode cX3_layHex 38 = .ok (.goto 4, 3) := dk_167 0 4 (dk_at dksX3_layHex_1 15 rfl rfl)
theorem dX3_layHex_41 : decode cX3_layHex 41 = .ok (.iconst 0, 1) := dk_3 (dk_at dksX3_layHex_1 18 rfl rfl)
theorem dX3_layHex_42 : decode cX3_layHex 42 = .ok (.iload_n 2, 1) := dk_28 (dk_at dksX3_layHex_1 19 rfl rfl)
theorem dX3_layHex_43 : decode cX3_layHex 43 = .ok (.iconst 5, 1) := dk_8 (dk_at dksX3_layHex_1 20 rfl rfl)
theorem dX3_layHex_44 : decode cX3_layHex 44 = .ok (.if_icmp .ne 7, 3) := dk_160 0 7 (dk_at dksX3_layHex_1 21 rfl rfl)
theorem dX3_layHex_47 : decode cX3_layHex 47 = .ok (.iconst 1, 1) := dk_4 (dk_at dksX3_layHex_2 0 rfl rfl)
theorem dX3_layHex_48 : decode cX3_layHex 48 = .ok (.goto 4, 3) := dk_167 0 4 (dk_at dksX3_layHex_2 1 rfl rfl)
theorem dX3_layHex_51 : decode cX3_layHex 51 = .ok (.iconst 0, 1) := dk_3 (dk_at dksX3_layHex_2 4 rfl rfl)
theorem dX3_layHex_52 : decode cX3_layHex 52 = .ok (.if_icmp .eq 9, 3) := dk_159 0 9 (dk_at dksX3_layHex_2 5 rfl rfl)
theorem dX3_layHex_55 : decode cX3_layHex 55 = .ok (.aload_n 0, 1) := dk_42 (dk_at dksX3_layHex_2 8 rfl rfl)
theorem dX3_layHex_56 : decode cX3_layHex 56 = .ok (.iconst 2, 1) := dk_5 (dk_at dksX3_layHex_2 9 rfl rfl)
theorem dX3_layHex_57 : decode cX3_layHex 57 = .ok (.putfield 59, 3) := dk_181 0 59 (dk_at dksX3_layHex_2 10 rfl rfl)
theorem dX3_layHex_60 : decode cX3_layHex 60 = .ok (.return_, 1) := dk_177 (dk_at dksX3_layHex_2 13 rfl rfl)
theorem dX3_layHex_61 : decode cX3_layHex 61 = .ok (.aload_n 0, 1) := dk_42 (dk_at dksX3_layHex_2 14 rfl rfl)
theorem dX3_layHex_62 : decode cX3_layHex 62 = .ok (.getfield 134, 3) := dk_180 0 134 (dk_at dksX3_layHex_2 15 rfl rfl)
theorem dX3_layHex_65 : decode cX3_layHex 65 = .ok (.ifCond .le 9, 3) := dk_158 0 9 (dk_at dksX3_layHex_2 18 rfl rfl)
theorem dX3_layHex_68 : decode cX3_layHex 68 = .ok (.aload_n 0, 1) := dk_42 (dk_at dksX3_layHex_2 21 rfl rfl)
theorem dX3_layHex_69 : decode cX3_layHex 69 = .ok (.iconst 3, 1) := dk_6 (dk_at dksX3_layHex_2 22 rfl rfl)
theorem dX3_layHex_70 : decode cX3_layHex 70 = .ok (.putfield 59, 3) := dk_181 0 59 (dk_at dksX3_layHex_3 0 rfl rfl)
theorem dX3_layHex_73 : decode cX3_layHex 73 = .ok (.return_, 1) := dk_177 (dk_at dksX3_layHex_3 3 rfl rfl)
theorem dX3_layHex_74 : decode cX3_layHex 74 = .ok (.aload_n 0, 1) := dk_42 (dk_at dksX3_layHex_3 4 rfl rfl)
theorem dX3_layHex_75 : decode cX3_layHex 75 = .ok (.getfield 7, 3) := dk_180 0 7 (dk_at dksX3_layHex_3 5 rfl rfl)
theorem dX3_layHex_78 : decode cX3_layHex 78 = .ok (.iload_n 1, 1) := dk_27 (dk_at dksX3_layHex_3 8 rfl rfl)
theorem dX3_layHex_79 : decode cX3_layHex 79 = .ok (.iload_n 2, 1) := dk_28 (dk_at dksX3_layHex_3 9 rfl rfl)
theorem dX3_layHex_80 : decode cX3_layHex 80 = .ok (.iastore, 1) := dk_79 (dk_at dksX3_layHex_3 10 rfl rfl)
theorem dX3_layHex_81 : decode cX3_layHex 81 = .ok (.aload_n 0, 1) := dk_42 (dk_at dksX3_layHex_3 11 rfl rfl)
theorem dX3_layHex_82 : decode cX3_layHex 82 = .ok (.getfield 13, 3) := dk_180 0 13 (dk_at dksX3_layHex_3 12 rfl rfl)
theorem dX3_layHex_85 : decode cX3_layHex 85 = .ok (.iload_n 1, 1) := dk_27 (dk_at dksX3_layHex_3 15 rfl rfl)
theorem dX3_layHex_86 : decode cX3_layHex 86 = .ok (.iload_n 3, 1) := dk_29 (dk_at dksX3_layHex_3 16 rfl rfl)
theorem dX3_layHex_87 : decode cX3_layHex 87 = .ok (.iastore, 1) := dk_79 (dk_at dksX3_layHex_3 17 rfl rfl)
theorem dX3_layHex_88 : decode cX3_layHex 88 = .ok (.return_, 1) := dk_177 (dk_at dksX3_layHex_3 18 rfl rfl)
abbrev cX3_isHex : ByteArray := prog_12_method_9_code
def yX3_isHex : MethodName := ⟨RX3, "isHex", "(I)Z"⟩
def dkwX3_isHex_0 : List UInt8 := [26, 155, 0, 13, 26, 16, 7, 162, 0, 7, 4, 167, 0, 4, 3, 172]
abbrev dktX3_isHex_0 : List UInt8 := dkwX3_isHex_0 ++ []
theorem dksX3_isHex_0 : cX3_isHex.data.toList.drop 0 = dktX3_isHex_0 := by decide +kernel
theorem dX3_isHex_0 : decode cX3_isHex 0 = .ok (.iload_n 0, 1) := dk_26 (dk_at dksX3_isHex_0 0 rfl rfl)
theorem dX3_isHex_1 : decode cX3_isHex 1 = .ok (.ifCond .lt 13, 3) := dk_155 0 13 (dk_at dksX3_isHex_0 1 rfl rfl)
theorem dX3_isHex_4 : decode cX3_isHex 4 = .ok (.iload_n 0, 1) := dk_26 (dk_at dksX3_isHex_0 4 rfl rfl)
theorem dX3_isHex_5 : decode cX3_isHex 5 = .ok (.bipush 7, 2) := dk_16 7 (dk_at dksX3_isHex_0 5 rfl rfl)
theorem dX3_isHex_7 : decode cX3_isHex 7 = .ok (.if_icmp .ge 7, 3) := dk_162 0 7 (dk_at dksX3_isHex_0 7 rfl rfl)
theorem dX3_isHex_10 : decode cX3_isHex 10 = .ok (.iconst 1, 1) := dk_4 (dk_at dksX3_isHex_0 10 rfl rfl)
theorem dX3_isHex_11 : decode cX3_isHex 11 = .ok (.goto 4, 3) := dk_167 0 4 (dk_at dksX3_isHex_0 11 rfl rfl)
theorem dX3_isHex_14 : decode cX3_isHex 14 = .ok (.iconst 0, 1) := dk_3 (dk_at dksX3_isHex_0 14 rfl rfl)
theorem dX3_isHex_15 : decode cX3_isHex 15 = .ok (.ireturn, 1) := dk_172 (dk_at dksX3_isHex_0 15 rfl rfl)
abbrev cX3_asks : ByteArray := prog_12_method_4_code
def yX3_asks : MethodName := ⟨RX3, "asks", "(Z)Z"⟩
def dkwX3_asks_0 : List UInt8 := [42, 27, 153, 0, 7, 3, 167, 0, 4, 4, 181, 0, 59, 27, 172]
abbrev dktX3_asks_0 : List UInt8 := dkwX3_asks_0 ++ []
theorem dksX3_asks_0 : cX3_asks.data.toList.drop 0 = dktX3_asks_0 := by decide +kernel
theorem dX3_asks_0 : decode cX3_asks 0 = .ok (.aload_n 0, 1) := dk_42 (dk_at dksX3_asks_0 0 rfl rfl)
theorem dX3_asks_1 : decode cX3_asks 1 = .ok (.iload_n 1, 1) := dk_27 (dk_at dksX3_asks_0 1 rfl rfl)
theorem dX3_asks_2 : decode cX3_asks 2 = .ok (.ifCond .eq 7, 3) := dk_153 0 7 (dk_at dksX3_asks_0 2 rfl rfl)
theorem dX3_asks_5 : decode cX3_asks 5 = .ok (.iconst 0, 1) := dk_3 (dk_at dksX3_asks_0 5 rfl rfl)
theorem dX3_asks_6 : decode cX3_asks 6 = .ok (.goto 4, 3) := dk_167 0 4 (dk_at dksX3_asks_0 6 rfl rfl)
theorem dX3_asks_9 : decode cX3_asks 9 = .ok (.iconst 1, 1) := dk_4 (dk_at dksX3_asks_0 9 rfl rfl)
theorem dX3_asks_10 : decode cX3_asks 10 = .ok (.putfield 59, 3) := dk_181 0 59 (dk_at dksX3_asks_0 10 rfl rfl)
theorem dX3_asks_13 : decode cX3_asks 13 = .ok (.iload_n 1, 1) := dk_27 (dk_at dksX3_asks_0 13 rfl rfl)
theorem dX3_asks_14 : decode cX3_asks 14 = .ok (.ireturn, 1) := dk_172 (dk_at dksX3_asks_0 14 rfl rfl)
abbrev cX3_in : ByteArray := prog_12_method_5_code
def yX3_in : MethodName := ⟨RX3, "in", "(III)Z"⟩
def dkwX3_in_0 : List UInt8 := [26, 27, 161, 0, 12, 26, 28, 163, 0, 7, 4, 167, 0, 4, 3, 172]
abbrev dktX3_in_0 : List UInt8 := dkwX3_in_0 ++ []
theorem dksX3_in_0 : cX3_in.data.toList.drop 0 = dktX3_in_0 := by decide +kernel
theorem dX3_in_0 : decode cX3_in 0 = .ok (.iload_n 0, 1) := dk_26 (dk_at dksX3_in_0 0 rfl rfl)
theorem dX3_in_1 : decode cX3_in 1 = .ok (.iload_n 1, 1) := dk_27 (dk_at dksX3_in_0 1 rfl rfl)
theorem dX3_in_2 : decode cX3_in 2 = .ok (.if_icmp .lt 12, 3) := dk_161 0 12 (dk_at dksX3_in_0 2 rfl rfl)
theorem dX3_in_5 : decode cX3_in 5 = .ok (.iload_n 0, 1) := dk_26 (dk_at dksX3_in_0 5 rfl rfl)
theorem dX3_in_6 : decode cX3_in 6 = .ok (.iload_n 2, 1) := dk_28 (dk_at dksX3_in_0 6 rfl rfl)
theorem dX3_in_7 : decode cX3_in 7 = .ok (.if_icmp .gt 7, 3) := dk_163 0 7 (dk_at dksX3_in_0 7 rfl rfl)
theorem dX3_in_10 : decode cX3_in 10 = .ok (.iconst 1, 1) := dk_4 (dk_at dksX3_in_0 10 rfl rfl)
theorem dX3_in_11 : decode cX3_in 11 = .ok (.goto 4, 3) := dk_167 0 4 (dk_at dksX3_in_0 11 rfl rfl)
theorem dX3_in_14 : decode cX3_in 14 = .ok (.iconst 0, 1) := dk_3 (dk_at dksX3_in_0 14 rfl rfl)
theorem dX3_in_15 : decode cX3_in 15 = .ok (.ireturn, 1) := dk_172 (dk_at dksX3_in_0 15 rfl rfl)
abbrev cX3_place : ByteArray := prog_12_method_39_code
def yX3_place : MethodName := ⟨RX3, "place", "(II)I"⟩
def dkwX3_place_7 : List UInt8 := [167, 0, 4, 3, 181, 0, 115, 42, 182, 0, 156, 42, 180, 0, 118, 172]
abbrev dktX3_place_7 : List UInt8 := dkwX3_place_7 ++ []
def dkwX3_place_6 : List UInt8 := [42, 180, 0, 134, 100, 167, 0, 4, 3, 181, 0, 118, 42, 42, 180, 0, 134, 16, 6, 160, 0, 7, 4]
abbrev dktX3_place_6 : List UInt8 := dkwX3_place_6 ++ dktX3_place_7
def dkwX3_place_5 : List UInt8 := [180, 0, 134, 6, 162, 0, 10, 42, 180, 0, 134, 167, 0, 22, 42, 180, 0, 134, 16, 6, 162, 0, 12, 8]
abbrev dktX3_place_5 : List UInt8 := dkwX3_place_5 ++ dktX3_place_6
def dkwX3_place_4 : List UInt8 := [161, 0, 12, 42, 42, 180, 0, 118, 27, 182, 0, 152, 42, 89, 180, 0, 134, 4, 96, 181, 0, 134, 42, 42]
abbrev dktX3_place_4 : List UInt8 := dkwX3_place_4 ++ dktX3_place_5
def dkwX3_place_3 : List UInt8 := [42, 180, 0, 118, 4, 96, 79, 42, 180, 0, 16, 28, 42, 180, 0, 118, 4, 96, 79, 42, 180, 0, 134, 6]
abbrev dktX3_place_3 : List UInt8 := dkwX3_place_3 ++ dktX3_place_4
def dkwX3_place_2 : List UInt8 := [28, 46, 154, 0, 11, 28, 27, 184, 0, 70, 154, 0, 9, 42, 5, 182, 0, 149, 172, 42, 180, 0, 19, 27]
abbrev dktX3_place_2 : List UInt8 := dkwX3_place_2 ++ dktX3_place_3
def dkwX3_place_1 : List UInt8 := [154, 0, 5, 3, 172, 42, 180, 0, 115, 154, 0, 28, 42, 27, 182, 0, 146, 153, 0, 20, 42, 180, 0, 16]
abbrev dktX3_place_1 : List UInt8 := dkwX3_place_1 ++ dktX3_place_2
def dkwX3_place_0 : List UInt8 := [42, 27, 184, 0, 140, 153, 0, 14, 28, 184, 0, 143, 153, 0, 7, 4, 167, 0, 4, 3, 182, 0, 127]
abbrev dktX3_place_0 : List UInt8 := dkwX3_place_0 ++ dktX3_place_1
theorem dksX3_place_0 : cX3_place.data.toList.drop 0 = dktX3_place_0 := by decide +kernel
theorem dksX3_place_1 : cX3_place.data.toList.drop 23 = dktX3_place_1 := dk_seg dksX3_place_0 23 rfl rfl
theorem dksX3_place_2 : cX3_place.data.toList.drop 47 = dktX3_place_2 := dk_seg dksX3_place_1 24 rfl rfl
theorem dksX3_place_3 : cX3_place.data.toList.drop 71 = dktX3_place_3 := dk_seg dksX3_place_2 24 rfl rfl
theorem dksX3_place_4 : cX3_place.data.toList.drop 95 = dktX3_place_4 := dk_seg dksX3_place_3 24 rfl rfl
theorem dksX3_place_5 : cX3_place.data.toList.drop 119 = dktX3_place_5 := dk_seg dksX3_place_4 24 rfl rfl
theorem dksX3_place_6 : cX3_place.data.toList.drop 143 = dktX3_place_6 := dk_seg dksX3_place_5 24 rfl rfl
theorem dksX3_place_7 : cX3_place.data.toList.drop 166 = dktX3_place_7 := dk_seg dksX3_place_6 23 rfl rfl
theorem dX3_place_0 : decode cX3_place 0 = .ok (.aload_n 0, 1) := dk_42 (dk_at dksX3_place_0 0 rfl rfl)
theorem dX3_place_1 : decode cX3_place 1 = .ok (.iload_n 1, 1) := dk_27 (dk_at dksX3_place_0 1 rfl rfl)
theorem dX3_place_2 : decode cX3_place 2 = .ok (.invokestatic 140, 3) := dk_184 0 140 (dk_at dksX3_place_0 2 rfl rfl)
theorem dX3_place_5 : decode cX3_place 5 = .ok (.ifCond .eq 14, 3) := dk_153 0 14 (dk_at dksX3_place_0 5 rfl rfl)
theorem dX3_place_8 : decode cX3_place 8 = .ok (.iload_n 2, 1) := dk_28 (dk_at dksX3_place_0 8 rfl rfl)
theorem dX3_place_9 : decode cX3_place 9 = .ok (.invokestatic 143, 3) := dk_184 0 143 (dk_at dksX3_place_0 9 rfl rfl)
theorem dX3_place_12 : decode cX3_place 12 = .ok (.ifCond .eq 7, 3) := dk_153 0 7 (dk_at dksX3_place_0 12 rfl rfl)
theorem dX3_place_15 : decode cX3_place 15 = .ok (.iconst 1, 1) := dk_4 (dk_at dksX3_place_0 15 rfl rfl)
theorem dX3_place_16 : decode cX3_place 16 = .ok (.goto 4, 3) := dk_167 0 4 (dk_at dksX3_place_0 16 rfl rfl)
theorem dX3_place_19 : decode cX3_place 19 = .ok (.iconst 0, 1) := dk_3 (dk_at dksX3_place_0 19 rfl rfl)
theorem dX3_place_20 : decode cX3_place 20 = .ok (.invokevirtual 127, 3) := dk_182 0 127 (dk_at dksX3_place_0 20 rfl rfl)
theorem dX3_place_23 : decode cX3_place 23 = .ok (.ifCond .ne 5, 3) := dk_154 0 5 (dk_at dksX3_place_1 0 rfl rfl)
theorem dX3_place_26 : decode cX3_place 26 = .ok (.iconst 0, 1) := dk_3 (dk_at dksX3_place_1 3 rfl rfl)
theorem dX3_place_27 : decode cX3_place 27 = .ok (.ireturn, 1) := dk_172 (dk_at dksX3_place_1 4 rfl rfl)
theorem dX3_place_28 : decode cX3_place 28 = .ok (.aload_n 0, 1) := dk_42 (dk_at dksX3_place_1 5 rfl rfl)
theorem dX3_place_29 : decode cX3_place 29 = .ok (.getfield 115, 3) := dk_180 0 115 (dk_at dksX3_place_1 6 rfl rfl)
theorem dX3_place_32 : decode cX3_place 32 = .ok (.ifCond .ne 28, 3) := dk_154 0 28 (dk_at dksX3_place_1 9 rfl rfl)
theorem dX3_place_35 : decode cX3_place 35 = .ok (.aload_n 0, 1) := dk_42 (dk_at dksX3_place_1 12 rfl rfl)
theorem dX3_place_36 : decode cX3_place 36 = .ok (.iload_n 1, 1) := dk_27 (dk_at dksX3_place_1 13 rfl rfl)
theorem dX3_place_37 : decode cX3_place 37 = .ok (.invokevirtual 146, 3) := dk_182 0 146 (dk_at dksX3_place_1 14 rfl rfl)
theorem dX3_place_40 : decode cX3_place 40 = .ok (.ifCond .eq 20, 3) := dk_153 0 20 (dk_at dksX3_place_1 17 rfl rfl)
theorem dX3_place_43 : decode cX3_place 43 = .ok (.aload_n 0, 1) := dk_42 (dk_at dksX3_place_1 20 rfl rfl)
theorem dX3_place_44 : decode cX3_place 44 = .ok (.getfield 16, 3) := dk_180 0 16 (dk_at dksX3_place_1 21 rfl rfl)
theorem dX3_place_47 : decode cX3_place 47 = .ok (.iload_n 2, 1) := dk_28 (dk_at dksX3_place_2 0 rfl rfl)
theorem dX3_place_48 : decode cX3_place 48 = .ok (.iaload, 1) := dk_46 (dk_at dksX3_place_2 1 rfl rfl)
theorem dX3_place_49 : decode cX3_place 49 = .ok (.ifCond .ne 11, 3) := dk_154 0 11 (dk_at dksX3_place_2 2 rfl rfl)
theorem dX3_place_52 : decode cX3_place 52 = .ok (.iload_n 2, 1) := dk_28 (dk_at dksX3_place_2 5 rfl rfl)
theorem dX3_place_53 : decode cX3_place 53 = .ok (.iload_n 1, 1) := dk_27 (dk_at dksX3_place_2 6 rfl rfl)
theorem dX3_place_54 : decode cX3_place 54 = .ok (.invokestatic 70, 3) := dk_184 0 70 (dk_at dksX3_place_2 7 rfl rfl)
theorem dX3_place_57 : decode cX3_place 57 = .ok (.ifCond .ne 9, 3) := dk_154 0 9 (dk_at dksX3_place_2 10 rfl rfl)
theorem dX3_place_60 : decode cX3_place 60 = .ok (.aload_n 0, 1) := dk_42 (dk_at dksX3_place_2 13 rfl rfl)
theorem dX3_place_61 : decode cX3_place 61 = .ok (.iconst 2, 1) := dk_5 (dk_at dksX3_place_2 14 rfl rfl)
theorem dX3_place_62 : decode cX3_place 62 = .ok (.invokevirtual 149, 3) := dk_182 0 149 (dk_at dksX3_place_2 15 rfl rfl)
theorem dX3_place_65 : decode cX3_place 65 = .ok (.ireturn, 1) := dk_172 (dk_at dksX3_place_2 18 rfl rfl)
theorem dX3_place_66 : decode cX3_place 66 = .ok (.aload_n 0, 1) := dk_42 (dk_at dksX3_place_2 19 rfl rfl)
theorem dX3_place_67 : decode cX3_place 67 = .ok (.getfield 19, 3) := dk_180 0 19 (dk_at dksX3_place_2 20 rfl rfl)
theorem dX3_place_70 : decode cX3_place 70 = .ok (.iload_n 1, 1) := dk_27 (dk_at dksX3_place_2 23 rfl rfl)
theorem dX3_place_71 : decode cX3_place 71 = .ok (.aload_n 0, 1) := dk_42 (dk_at dksX3_place_3 0 rfl rfl)
theorem dX3_place_72 : decode cX3_place 72 = .ok (.getfield 118, 3) := dk_180 0 118 (dk_at dksX3_place_3 1 rfl rfl)
theorem dX3_place_75 : decode cX3_place 75 = .ok (.iconst 1, 1) := dk_4 (dk_at dksX3_place_3 4 rfl rfl)
theorem dX3_place_76 : decode cX3_place 76 = .ok (.iadd, 1) := dk_96 (dk_at dksX3_place_3 5 rfl rfl)
theorem dX3_place_77 : decode cX3_place 77 = .ok (.iastore, 1) := dk_79 (dk_at dksX3_place_3 6 rfl rfl)
theorem dX3_place_78 : decode cX3_place 78 = .ok (.aload_n 0, 1) := dk_42 (dk_at dksX3_place_3 7 rfl rfl)
theorem dX3_place_79 : decode cX3_place 79 = .ok (.getfield 16, 3) := dk_180 0 16 (dk_at dksX3_place_3 8 rfl rfl)
theorem dX3_place_82 : decode cX3_place 82 = .ok (.iload_n 2, 1) := dk_28 (dk_at dksX3_place_3 11 rfl rfl)
theorem dX3_place_83 : decode cX3_place 83 = .ok (.aload_n 0, 1) := dk_42 (dk_at dksX3_place_3 12 rfl rfl)
theorem dX3_place_84 : decode cX3_place 84 = .ok (.getfield 118, 3) := dk_180 0 118 (dk_at dksX3_place_3 13 rfl rfl)
theorem dX3_place_87 : decode cX3_place 87 = .ok (.iconst 1, 1) := dk_4 (dk_at dksX3_place_3 16 rfl rfl)
theorem dX3_place_88 : decode cX3_place 88 = .ok (.iadd, 1) := dk_96 (dk_at dksX3_place_3 17 rfl rfl)
theorem dX3_place_89 : decode cX3_place 89 = .ok (.iastore, 1) := dk_79 (dk_at dksX3_place_3 18 rfl rfl)
theorem dX3_place_90 : decode cX3_place 90 = .ok (.aload_n 0, 1) := dk_42 (dk_at dksX3_place_3 19 rfl rfl)
theorem dX3_place_91 : decode cX3_place 91 = .ok (.getfield 134, 3) := dk_180 0 134 (dk_at dksX3_place_3 20 rfl rfl)
theorem dX3_place_94 : decode cX3_place 94 = .ok (.iconst 3, 1) := dk_6 (dk_at dksX3_place_3 23 rfl rfl)
theorem dX3_place_95 : decode cX3_place 95 = .ok (.if_icmp .lt 12, 3) := dk_161 0 12 (dk_at dksX3_place_4 0 rfl rfl)
theorem dX3_place_98 : decode cX3_place 98 = .ok (.aload_n 0, 1) := dk_42 (dk_at dksX3_place_4 3 rfl rfl)
theorem dX3_place_99 : decode cX3_place 99 = .ok (.aload_n 0, 1) := dk_42 (dk_at dksX3_place_4 4 rfl rfl)
theorem dX3_place_100 : decode cX3_place 100 = .ok (.getfield 118, 3) := dk_180 0 118 (dk_at dksX3_place_4 5 rfl rfl)
theorem dX3_place_103 : decode cX3_place 103 = .ok (.iload_n 1, 1) := dk_27 (dk_at dksX3_place_4 8 rfl rfl)
theorem dX3_place_104 : decode cX3_place 104 = .ok (.invokevirtual 152, 3) := dk_182 0 152 (dk_at dksX3_place_4 9 rfl rfl)
theorem dX3_place_107 : decode cX3_place 107 = .ok (.aload_n 0, 1) := dk_42 (dk_at dksX3_place_4 12 rfl rfl)
theorem dX3_place_108 : decode cX3_place 108 = .ok (.dup, 1) := dk_89 (dk_at dksX3_place_4 13 rfl rfl)
theorem dX3_place_109 : decode cX3_place 109 = .ok (.getfield 134, 3) := dk_180 0 134 (dk_at dksX3_place_4 14 rfl rfl)
theorem dX3_place_112 : decode cX3_place 112 = .ok (.iconst 1, 1) := dk_4 (dk_at dksX3_place_4 17 rfl rfl)
theorem dX3_place_113 : decode cX3_place 113 = .ok (.iadd, 1) := dk_96 (dk_at dksX3_place_4 18 rfl rfl)
theorem dX3_place_114 : decode cX3_place 114 = .ok (.putfield 134, 3) := dk_181 0 134 (dk_at dksX3_place_4 19 rfl rfl)
theorem dX3_place_117 : decode cX3_place 117 = .ok (.aload_n 0, 1) := dk_42 (dk_at dksX3_place_4 22 rfl rfl)
theorem dX3_place_118 : decode cX3_place 118 = .ok (.aload_n 0, 1) := dk_42 (dk_at dksX3_place_4 23 rfl rfl)
theorem dX3_place_119 : decode cX3_place 119 = .ok (.getfield 134, 3) := dk_180 0 134 (dk_at dksX3_place_5 0 rfl rfl)
theorem dX3_place_122 : decode cX3_place 122 = .ok (.iconst 3, 1) := dk_6 (dk_at dksX3_place_5 3 rfl rfl)
theorem dX3_place_123 : decode cX3_place 123 = .ok (.if_icmp .ge 10, 3) := dk_162 0 10 (dk_at dksX3_place_5 4 rfl rfl)
theorem dX3_place_126 : decode cX3_place 126 = .ok (.aload_n 0, 1) := dk_42 (dk_at dksX3_place_5 7 rfl rfl)
theorem dX3_place_127 : decode cX3_place 127 = .ok (.getfield 134, 3) := dk_180 0 134 (dk_at dksX3_place_5 8 rfl rfl)
theorem dX3_place_130 : decode cX3_place 130 = .ok (.goto 22, 3) := dk_167 0 22 (dk_at dksX3_place_5 11 rfl rfl)
theorem dX3_place_133 : decode cX3_place 133 = .ok (.aload_n 0, 1) := dk_42 (dk_at dksX3_place_5 14 rfl rfl)
theorem dX3_place_134 : decode cX3_place 134 = .ok (.getfield 134, 3) := dk_180 0 134 (dk_at dksX3_place_5 15 rfl rfl)
theorem dX3_place_137 : decode cX3_place 137 = .ok (.bipush 6, 2) := dk_16 6 (dk_at dksX3_place_5 18 rfl rfl)
theorem dX3_place_139 : decode cX3_place 139 = .ok (.if_icmp .ge 12, 3) := dk_162 0 12 (dk_at dksX3_place_5 20 rfl rfl)
theorem dX3_place_142 : decode cX3_place 142 = .ok (.iconst 5, 1) := dk_8 (dk_at dksX3_place_5 23 rfl rfl)
theorem dX3_place_143 : decode cX3_place 143 = .ok (.aload_n 0, 1) := dk_42 (dk_at dksX3_place_6 0 rfl rfl)
theorem dX3_place_144 : decode cX3_place 144 = .ok (.getfield 134, 3) := dk_180 0 134 (dk_at dksX3_place_6 1 rfl rfl)
theorem dX3_place_147 : decode cX3_place 147 = .ok (.isub, 1) := dk_100 (dk_at dksX3_place_6 4 rfl rfl)
theorem dX3_place_148 : decode cX3_place 148 = .ok (.goto 4, 3) := dk_167 0 4 (dk_at dksX3_place_6 5 rfl rfl)
theorem dX3_place_151 : decode cX3_place 151 = .ok (.iconst 0, 1) := dk_3 (dk_at dksX3_place_6 8 rfl rfl)
theorem dX3_place_152 : decode cX3_place 152 = .ok (.putfield 118, 3) := dk_181 0 118 (dk_at dksX3_place_6 9 rfl rfl)
theorem dX3_place_155 : decode cX3_place 155 = .ok (.aload_n 0, 1) := dk_42 (dk_at dksX3_place_6 12 rfl rfl)
theorem dX3_place_156 : decode cX3_place 156 = .ok (.aload_n 0, 1) := dk_42 (dk_at dksX3_place_6 13 rfl rfl)
theorem dX3_place_157 : decode cX3_place 157 = .ok (.getfield 134, 3) := dk_180 0 134 (dk_at dksX3_place_6 14 rfl rfl)
theorem dX3_place_160 : decode cX3_place 160 = .ok (.bipush 6, 2) := dk_16 6 (dk_at dksX3_place_6 17 rfl rfl)
theorem dX3_place_162 : decode cX3_place 162 = .ok (.if_icmp .ne 7, 3) := dk_160 0 7 (dk_at dksX3_place_6 19 rfl rfl)
theorem dX3_place_165 : decode cX3_place 165 = .ok (.iconst 1, 1) := dk_4 (dk_at dksX3_place_6 22 rfl rfl)
theorem dX3_place_166 : decode cX3_place 166 = .ok (.goto 4, 3) := dk_167 0 4 (dk_at dksX3_place_7 0 rfl rfl)
theorem dX3_place_169 : decode cX3_place 169 = .ok (.iconst 0, 1) := dk_3 (dk_at dksX3_place_7 3 rfl rfl)
theorem dX3_place_170 : decode cX3_place 170 = .ok (.putfield 115, 3) := dk_181 0 115 (dk_at dksX3_place_7 4 rfl rfl)
theorem dX3_place_173 : decode cX3_place 173 = .ok (.aload_n 0, 1) := dk_42 (dk_at dksX3_place_7 7 rfl rfl)
theorem dX3_place_174 : decode cX3_place 174 = .ok (.invokevirtual 156, 3) := dk_182 0 156 (dk_at dksX3_place_7 8 rfl rfl)
theorem dX3_place_177 : decode cX3_place 177 = .ok (.aload_n 0, 1) := dk_42 (dk_at dksX3_place_7 11 rfl rfl)
theorem dX3_place_178 : decode cX3_place 178 = .ok (.getfield 118, 3) := dk_180 0 118 (dk_at dksX3_place_7 12 rfl rfl)
theorem dX3_place_181 : decode cX3_place 181 = .ok (.ireturn, 1) := dk_172 (dk_at dksX3_place_7 15 rfl rfl)
abbrev cX3_isCorner : ByteArray := prog_12_method_7_code
def yX3_isCorner : MethodName := ⟨RX3, "isCorner", "(I)Z"⟩
def dkwX3_isCorner_0 : List UInt8 := [26, 155, 0, 13, 26, 16, 24, 162, 0, 7, 4, 167, 0, 4, 3, 172]
abbrev dktX3_isCorner_0 : List UInt8 := dkwX3_isCorner_0 ++ []
theorem dksX3_isCorner_0 : cX3_isCorner.data.toList.drop 0 = dktX3_isCorner_0 := by decide +kernel
theorem dX3_isCorner_0 : decode cX3_isCorner 0 = .ok (.iload_n 0, 1) := dk_26 (dk_at dksX3_isCorner_0 0 rfl rfl)
theorem dX3_isCorner_1 : decode cX3_isCorner 1 = .ok (.ifCond .lt 13, 3) := dk_155 0 13 (dk_at dksX3_isCorner_0 1 rfl rfl)
theorem dX3_isCorner_4 : decode cX3_isCorner 4 = .ok (.iload_n 0, 1) := dk_26 (dk_at dksX3_isCorner_0 4 rfl rfl)
theorem dX3_isCorner_5 : decode cX3_isCorner 5 = .ok (.bipush 24, 2) := dk_16 24 (dk_at dksX3_isCorner_0 5 rfl rfl)
theorem dX3_isCorner_7 : decode cX3_isCorner 7 = .ok (.if_icmp .ge 7, 3) := dk_162 0 7 (dk_at dksX3_isCorner_0 7 rfl rfl)
theorem dX3_isCorner_10 : decode cX3_isCorner 10 = .ok (.iconst 1, 1) := dk_4 (dk_at dksX3_isCorner_0 10 rfl rfl)
theorem dX3_isCorner_11 : decode cX3_isCorner 11 = .ok (.goto 4, 3) := dk_167 0 4 (dk_at dksX3_isCorner_0 11 rfl rfl)
theorem dX3_isCorner_14 : decode cX3_isCorner 14 = .ok (.iconst 0, 1) := dk_3 (dk_at dksX3_isCorner_0 14 rfl rfl)
theorem dX3_isCorner_15 : decode cX3_isCorner 15 = .ok (.ireturn, 1) := dk_172 (dk_at dksX3_isCorner_0 15 rfl rfl)
abbrev cX3_isEdge : ByteArray := prog_12_method_8_code
def yX3_isEdge : MethodName := ⟨RX3, "isEdge", "(I)Z"⟩
def dkwX3_isEdge_0 : List UInt8 := [26, 155, 0, 13, 26, 16, 30, 162, 0, 7, 4, 167, 0, 4, 3, 172]
abbrev dktX3_isEdge_0 : List UInt8 := dkwX3_isEdge_0 ++ []
theorem dksX3_isEdge_0 : cX3_isEdge.data.toList.drop 0 = dktX3_isEdge_0 := by decide +kernel
theorem dX3_isEdge_0 : decode cX3_isEdge 0 = .ok (.iload_n 0, 1) := dk_26 (dk_at dksX3_isEdge_0 0 rfl rfl)
theorem dX3_isEdge_1 : decode cX3_isEdge 1 = .ok (.ifCond .lt 13, 3) := dk_155 0 13 (dk_at dksX3_isEdge_0 1 rfl rfl)
theorem dX3_isEdge_4 : decode cX3_isEdge 4 = .ok (.iload_n 0, 1) := dk_26 (dk_at dksX3_isEdge_0 4 rfl rfl)
theorem dX3_isEdge_5 : decode cX3_isEdge 5 = .ok (.bipush 30, 2) := dk_16 30 (dk_at dksX3_isEdge_0 5 rfl rfl)
theorem dX3_isEdge_7 : decode cX3_isEdge 7 = .ok (.if_icmp .ge 7, 3) := dk_162 0 7 (dk_at dksX3_isEdge_0 7 rfl rfl)
theorem dX3_isEdge_10 : decode cX3_isEdge 10 = .ok (.iconst 1, 1) := dk_4 (dk_at dksX3_isEdge_0 10 rfl rfl)
theorem dX3_isEdge_11 : decode cX3_isEdge 11 = .ok (.goto 4, 3) := dk_167 0 4 (dk_at dksX3_isEdge_0 11 rfl rfl)
theorem dX3_isEdge_14 : decode cX3_isEdge 14 = .ok (.iconst 0, 1) := dk_3 (dk_at dksX3_isEdge_0 14 rfl rfl)
theorem dX3_isEdge_15 : decode cX3_isEdge 15 = .ok (.ireturn, 1) := dk_172 (dk_at dksX3_isEdge_0 15 rfl rfl)
abbrev cX3_isFree : ByteArray := prog_12_method_18_code
def yX3_isFree : MethodName := ⟨RX3, "isFree", "(I)Z"⟩
def dkwX3_isFree_3 : List UInt8 := [172]
abbrev dktX3_isFree_3 : List UInt8 := dkwX3_isFree_3 ++ []
def dkwX3_isFree_2 : List UInt8 := [180, 0, 19, 29, 184, 0, 67, 46, 157, 0, 7, 4, 167, 0, 4, 3, 61, 132, 3, 1, 167, 255, 205, 28]
abbrev dktX3_isFree_2 : List UInt8 := dkwX3_isFree_2 ++ dktX3_isFree_3
def dkwX3_isFree_1 : List UInt8 := [153, 0, 39, 29, 27, 184, 0, 70, 153, 0, 27, 42, 180, 0, 19, 29, 184, 0, 63, 46, 157, 0, 19, 42]
abbrev dktX3_isFree_1 : List UInt8 := dkwX3_isFree_1 ++ dktX3_isFree_2
def dkwX3_isFree_0 : List UInt8 := [42, 180, 0, 19, 27, 46, 154, 0, 7, 4, 167, 0, 4, 3, 61, 3, 62, 29, 16, 30, 162, 0, 51, 28]
abbrev dktX3_isFree_0 : List UInt8 := dkwX3_isFree_0 ++ dktX3_isFree_1
theorem dksX3_isFree_0 : cX3_isFree.data.toList.drop 0 = dktX3_isFree_0 := by decide +kernel
theorem dksX3_isFree_1 : cX3_isFree.data.toList.drop 24 = dktX3_isFree_1 := dk_seg dksX3_isFree_0 24 rfl rfl
theorem dksX3_isFree_2 : cX3_isFree.data.toList.drop 48 = dktX3_isFree_2 := dk_seg dksX3_isFree_1 24 rfl rfl
theorem dksX3_isFree_3 : cX3_isFree.data.toList.drop 72 = dktX3_isFree_3 := dk_seg dksX3_isFree_2 24 rfl rfl
theorem dX3_isFree_0 : decode cX3_isFree 0 = .ok (.aload_n 0, 1) := dk_42 (dk_at dksX3_isFree_0 0 rfl rfl)
theorem dX3_isFree_1 : decode cX3_isFree 1 = .ok (.getfield 19, 3) := dk_180 0 19 (dk_at dksX3_isFree_0 1 rfl rfl)
theorem dX3_isFree_4 : decode cX3_isFree 4 = .ok (.iload_n 1, 1) := dk_27 (dk_at dksX3_isFree_0 4 rfl rfl)
theorem dX3_isFree_5 : decode cX3_isFree 5 = .ok (.iaload, 1) := dk_46 (dk_at dksX3_isFree_0 5 rfl rfl)
theorem dX3_isFree_6 : decode cX3_isFree 6 = .ok (.ifCond .ne 7, 3) := dk_154 0 7 (dk_at dksX3_isFree_0 6 rfl rfl)
theorem dX3_isFree_9 : decode cX3_isFree 9 = .ok (.iconst 1, 1) := dk_4 (dk_at dksX3_isFree_0 9 rfl rfl)
theorem dX3_isFree_10 : decode cX3_isFree 10 = .ok (.goto 4, 3) := dk_167 0 4 (dk_at dksX3_isFree_0 10 rfl rfl)
theorem dX3_isFree_13 : decode cX3_isFree 13 = .ok (.iconst 0, 1) := dk_3 (dk_at dksX3_isFree_0 13 rfl rfl)
theorem dX3_isFree_14 : decode cX3_isFree 14 = .ok (.istore_n 2, 1) := dk_61 (dk_at dksX3_isFree_0 14 rfl rfl)
theorem dX3_isFree_15 : decode cX3_isFree 15 = .ok (.iconst 0, 1) := dk_3 (dk_at dksX3_isFree_0 15 rfl rfl)
theorem dX3_isFree_16 : decode cX3_isFree 16 = .ok (.istore_n 3, 1) := dk_62 (dk_at dksX3_isFree_0 16 rfl rfl)
theorem dX3_isFree_17 : decode cX3_isFree 17 = .ok (.iload_n 3, 1) := dk_29 (dk_at dksX3_isFree_0 17 rfl rfl)
theorem dX3_isFree_18 : decode cX3_isFree 18 = .ok (.bipush 30, 2) := dk_16 30 (dk_at dksX3_isFree_0 18 rfl rfl)
theorem dX3_isFree_20 : decode cX3_isFree 20 = .ok (.if_icmp .ge 51, 3) := dk_162 0 51 (dk_at dksX3_isFree_0 20 rfl rfl)
theorem dX3_isFree_23 : decode cX3_isFree 23 = .ok (.iload_n 2, 1) := dk_28 (dk_at dksX3_isFree_0 23 rfl rfl)
theorem dX3_isFree_24 : decode cX3_isFree 24 = .ok (.ifCond .eq 39, 3) := dk_153 0 39 (dk_at dksX3_isFree_1 0 rfl rfl)
theorem dX3_isFree_27 : decode cX3_isFree 27 = .ok (.iload_n 3, 1) := dk_29 (dk_at dksX3_isFree_1 3 rfl rfl)
theorem dX3_isFree_28 : decode cX3_isFree 28 = .ok (.iload_n 1, 1) := dk_27 (dk_at dksX3_isFree_1 4 rfl rfl)
theorem dX3_isFree_29 : decode cX3_isFree 29 = .ok (.invokestatic 70, 3) := dk_184 0 70 (dk_at dksX3_isFree_1 5 rfl rfl)
theorem dX3_isFree_32 : decode cX3_isFree 32 = .ok (.ifCond .eq 27, 3) := dk_153 0 27 (dk_at dksX3_isFree_1 8 rfl rfl)
theorem dX3_isFree_35 : decode cX3_isFree 35 = .ok (.aload_n 0, 1) := dk_42 (dk_at dksX3_isFree_1 11 rfl rfl)
theorem dX3_isFree_36 : decode cX3_isFree 36 = .ok (.getfield 19, 3) := dk_180 0 19 (dk_at dksX3_isFree_1 12 rfl rfl)
theorem dX3_isFree_39 : decode cX3_isFree 39 = .ok (.iload_n 3, 1) := dk_29 (dk_at dksX3_isFree_1 15 rfl rfl)
theorem dX3_isFree_40 : decode cX3_isFree 40 = .ok (.invokestatic 63, 3) := dk_184 0 63 (dk_at dksX3_isFree_1 16 rfl rfl)
theorem dX3_isFree_43 : decode cX3_isFree 43 = .ok (.iaload, 1) := dk_46 (dk_at dksX3_isFree_1 19 rfl rfl)
theorem dX3_isFree_44 : decode cX3_isFree 44 = .ok (.ifCond .gt 19, 3) := dk_157 0 19 (dk_at dksX3_isFree_1 20 rfl rfl)
theorem dX3_isFree_47 : decode cX3_isFree 47 = .ok (.aload_n 0, 1) := dk_42 (dk_at dksX3_isFree_1 23 rfl rfl)
theorem dX3_isFree_48 : decode cX3_isFree 48 = .ok (.getfield 19, 3) := dk_180 0 19 (dk_at dksX3_isFree_2 0 rfl rfl)
theorem dX3_isFree_51 : decode cX3_isFree 51 = .ok (.iload_n 3, 1) := dk_29 (dk_at dksX3_isFree_2 3 rfl rfl)
theorem dX3_isFree_52 : decode cX3_isFree 52 = .ok (.invokestatic 67, 3) := dk_184 0 67 (dk_at dksX3_isFree_2 4 rfl rfl)
theorem dX3_isFree_55 : decode cX3_isFree 55 = .ok (.iaload, 1) := dk_46 (dk_at dksX3_isFree_2 7 rfl rfl)
theorem dX3_isFree_56 : decode cX3_isFree 56 = .ok (.ifCond .gt 7, 3) := dk_157 0 7 (dk_at dksX3_isFree_2 8 rfl rfl)
theorem dX3_isFree_59 : decode cX3_isFree 59 = .ok (.iconst 1, 1) := dk_4 (dk_at dksX3_isFree_2 11 rfl rfl)
theorem dX3_isFree_60 : decode cX3_isFree 60 = .ok (.goto 4, 3) := dk_167 0 4 (dk_at dksX3_isFree_2 12 rfl rfl)
theorem dX3_isFree_63 : decode cX3_isFree 63 = .ok (.iconst 0, 1) := dk_3 (dk_at dksX3_isFree_2 15 rfl rfl)
theorem dX3_isFree_64 : decode cX3_isFree 64 = .ok (.istore_n 2, 1) := dk_61 (dk_at dksX3_isFree_2 16 rfl rfl)
theorem dX3_isFree_65 : decode cX3_isFree 65 = .ok (.iinc 3 1, 3) := dk_132 3 1 (dk_at dksX3_isFree_2 17 rfl rfl)
theorem dX3_isFree_68 : decode cX3_isFree 68 = .ok (.goto (-51), 3) := dk_167 255 205 (dk_at dksX3_isFree_2 20 rfl rfl)
theorem dX3_isFree_71 : decode cX3_isFree 71 = .ok (.iload_n 2, 1) := dk_28 (dk_at dksX3_isFree_2 23 rfl rfl)
theorem dX3_isFree_72 : decode cX3_isFree 72 = .ok (.ireturn, 1) := dk_172 (dk_at dksX3_isFree_3 0 rfl rfl)
abbrev cX3_hasCorner : ByteArray := prog_12_method_14_code
def yX3_hasCorner : MethodName := ⟨RX3, "hasCorner", "(II)Z"⟩
def dkwX3_hasCorner_0 : List UInt8 := [26, 184, 0, 63, 27, 159, 0, 11, 26, 184, 0, 67, 27, 160, 0, 7, 4, 167, 0, 4, 3, 172]
abbrev dktX3_hasCorner_0 : List UInt8 := dkwX3_hasCorner_0 ++ []
theorem dksX3_hasCorner_0 : cX3_hasCorner.data.toList.drop 0 = dktX3_hasCorner_0 := by decide +kernel
theorem dX3_hasCorner_0 : decode cX3_hasCorner 0 = .ok (.iload_n 0, 1) := dk_26 (dk_at dksX3_hasCorner_0 0 rfl rfl)
theorem dX3_hasCorner_1 : decode cX3_hasCorner 1 = .ok (.invokestatic 63, 3) := dk_184 0 63 (dk_at dksX3_hasCorner_0 1 rfl rfl)
theorem dX3_hasCorner_4 : decode cX3_hasCorner 4 = .ok (.iload_n 1, 1) := dk_27 (dk_at dksX3_hasCorner_0 4 rfl rfl)
theorem dX3_hasCorner_5 : decode cX3_hasCorner 5 = .ok (.if_icmp .eq 11, 3) := dk_159 0 11 (dk_at dksX3_hasCorner_0 5 rfl rfl)
theorem dX3_hasCorner_8 : decode cX3_hasCorner 8 = .ok (.iload_n 0, 1) := dk_26 (dk_at dksX3_hasCorner_0 8 rfl rfl)
theorem dX3_hasCorner_9 : decode cX3_hasCorner 9 = .ok (.invokestatic 67, 3) := dk_184 0 67 (dk_at dksX3_hasCorner_0 9 rfl rfl)
theorem dX3_hasCorner_12 : decode cX3_hasCorner 12 = .ok (.iload_n 1, 1) := dk_27 (dk_at dksX3_hasCorner_0 12 rfl rfl)
theorem dX3_hasCorner_13 : decode cX3_hasCorner 13 = .ok (.if_icmp .ne 7, 3) := dk_160 0 7 (dk_at dksX3_hasCorner_0 13 rfl rfl)
theorem dX3_hasCorner_16 : decode cX3_hasCorner 16 = .ok (.iconst 1, 1) := dk_4 (dk_at dksX3_hasCorner_0 16 rfl rfl)
theorem dX3_hasCorner_17 : decode cX3_hasCorner 17 = .ok (.goto 4, 3) := dk_167 0 4 (dk_at dksX3_hasCorner_0 17 rfl rfl)
theorem dX3_hasCorner_20 : decode cX3_hasCorner 20 = .ok (.iconst 0, 1) := dk_3 (dk_at dksX3_hasCorner_0 20 rfl rfl)
theorem dX3_hasCorner_21 : decode cX3_hasCorner 21 = .ok (.ireturn, 1) := dk_172 (dk_at dksX3_hasCorner_0 21 rfl rfl)
abbrev cX3_oneEnd : ByteArray := prog_12_method_12_code
def yX3_oneEnd : MethodName := ⟨RX3, "oneEnd", "(I)I"⟩
def dkwX3_oneEnd_1 : List UInt8 := [16, 6, 100, 172]
abbrev dktX3_oneEnd_1 : List UInt8 := dkwX3_oneEnd_1 ++ []
def dkwX3_oneEnd_0 : List UInt8 := [26, 16, 6, 162, 0, 7, 26, 167, 0, 20, 26, 16, 12, 162, 0, 10, 26, 16, 6, 100, 167, 0, 7, 26]
abbrev dktX3_oneEnd_0 : List UInt8 := dkwX3_oneEnd_0 ++ dktX3_oneEnd_1
theorem dksX3_oneEnd_0 : cX3_oneEnd.data.toList.drop 0 = dktX3_oneEnd_0 := by decide +kernel
theorem dksX3_oneEnd_1 : cX3_oneEnd.data.toList.drop 24 = dktX3_oneEnd_1 := dk_seg dksX3_oneEnd_0 24 rfl rfl
theorem dX3_oneEnd_0 : decode cX3_oneEnd 0 = .ok (.iload_n 0, 1) := dk_26 (dk_at dksX3_oneEnd_0 0 rfl rfl)
theorem dX3_oneEnd_1 : decode cX3_oneEnd 1 = .ok (.bipush 6, 2) := dk_16 6 (dk_at dksX3_oneEnd_0 1 rfl rfl)
theorem dX3_oneEnd_3 : decode cX3_oneEnd 3 = .ok (.if_icmp .ge 7, 3) := dk_162 0 7 (dk_at dksX3_oneEnd_0 3 rfl rfl)
theorem dX3_oneEnd_6 : decode cX3_oneEnd 6 = .ok (.iload_n 0, 1) := dk_26 (dk_at dksX3_oneEnd_0 6 rfl rfl)
theorem dX3_oneEnd_7 : decode cX3_oneEnd 7 = .ok (.goto 20, 3) := dk_167 0 20 (dk_at dksX3_oneEnd_0 7 rfl rfl)
theorem dX3_oneEnd_10 : decode cX3_oneEnd 10 = .ok (.iload_n 0, 1) := dk_26 (dk_at dksX3_oneEnd_0 10 rfl rfl)
theorem dX3_oneEnd_11 : decode cX3_oneEnd 11 = .ok (.bipush 12, 2) := dk_16 12 (dk_at dksX3_oneEnd_0 11 rfl rfl)
theorem dX3_oneEnd_13 : decode cX3_oneEnd 13 = .ok (.if_icmp .ge 10, 3) := dk_162 0 10 (dk_at dksX3_oneEnd_0 13 rfl rfl)
theorem dX3_oneEnd_16 : decode cX3_oneEnd 16 = .ok (.iload_n 0, 1) := dk_26 (dk_at dksX3_oneEnd_0 16 rfl rfl)
theorem dX3_oneEnd_17 : decode cX3_oneEnd 17 = .ok (.bipush 6, 2) := dk_16 6 (dk_at dksX3_oneEnd_0 17 rfl rfl)
theorem dX3_oneEnd_19 : decode cX3_oneEnd 19 = .ok (.isub, 1) := dk_100 (dk_at dksX3_oneEnd_0 19 rfl rfl)
theorem dX3_oneEnd_20 : decode cX3_oneEnd 20 = .ok (.goto 7, 3) := dk_167 0 7 (dk_at dksX3_oneEnd_0 20 rfl rfl)
theorem dX3_oneEnd_23 : decode cX3_oneEnd 23 = .ok (.iload_n 0, 1) := dk_26 (dk_at dksX3_oneEnd_0 23 rfl rfl)
theorem dX3_oneEnd_24 : decode cX3_oneEnd 24 = .ok (.bipush 6, 2) := dk_16 6 (dk_at dksX3_oneEnd_1 0 rfl rfl)
theorem dX3_oneEnd_26 : decode cX3_oneEnd 26 = .ok (.isub, 1) := dk_100 (dk_at dksX3_oneEnd_1 2 rfl rfl)
theorem dX3_oneEnd_27 : decode cX3_oneEnd 27 = .ok (.ireturn, 1) := dk_172 (dk_at dksX3_oneEnd_1 3 rfl rfl)
abbrev cX3_otherEnd : ByteArray := prog_12_method_13_code
def yX3_otherEnd : MethodName := ⟨RX3, "otherEnd", "(I)I"⟩
def dkwX3_otherEnd_1 : List UInt8 := [26, 16, 6, 100, 104, 96, 167, 0, 17, 26, 16, 29, 160, 0, 8, 16, 6, 167, 0, 6, 26, 8, 100, 172]
abbrev dktX3_otherEnd_1 : List UInt8 := dkwX3_otherEnd_1 ++ []
def dkwX3_otherEnd_0 : List UInt8 := [26, 16, 6, 162, 0, 12, 26, 4, 96, 16, 6, 112, 167, 0, 35, 26, 16, 12, 162, 0, 15, 16, 6, 6]
abbrev dktX3_otherEnd_0 : List UInt8 := dkwX3_otherEnd_0 ++ dktX3_otherEnd_1
theorem dksX3_otherEnd_0 : cX3_otherEnd.data.toList.drop 0 = dktX3_otherEnd_0 := by decide +kernel
theorem dksX3_otherEnd_1 : cX3_otherEnd.data.toList.drop 24 = dktX3_otherEnd_1 := dk_seg dksX3_otherEnd_0 24 rfl rfl
theorem dX3_otherEnd_0 : decode cX3_otherEnd 0 = .ok (.iload_n 0, 1) := dk_26 (dk_at dksX3_otherEnd_0 0 rfl rfl)
theorem dX3_otherEnd_1 : decode cX3_otherEnd 1 = .ok (.bipush 6, 2) := dk_16 6 (dk_at dksX3_otherEnd_0 1 rfl rfl)
theorem dX3_otherEnd_3 : decode cX3_otherEnd 3 = .ok (.if_icmp .ge 12, 3) := dk_162 0 12 (dk_at dksX3_otherEnd_0 3 rfl rfl)
theorem dX3_otherEnd_6 : decode cX3_otherEnd 6 = .ok (.iload_n 0, 1) := dk_26 (dk_at dksX3_otherEnd_0 6 rfl rfl)
theorem dX3_otherEnd_7 : decode cX3_otherEnd 7 = .ok (.iconst 1, 1) := dk_4 (dk_at dksX3_otherEnd_0 7 rfl rfl)
theorem dX3_otherEnd_8 : decode cX3_otherEnd 8 = .ok (.iadd, 1) := dk_96 (dk_at dksX3_otherEnd_0 8 rfl rfl)
theorem dX3_otherEnd_9 : decode cX3_otherEnd 9 = .ok (.bipush 6, 2) := dk_16 6 (dk_at dksX3_otherEnd_0 9 rfl rfl)
theorem dX3_otherEnd_11 : decode cX3_otherEnd 11 = .ok (.irem, 1) := dk_112 (dk_at dksX3_otherEnd_0 11 rfl rfl)
theorem dX3_otherEnd_12 : decode cX3_otherEnd 12 = .ok (.goto 35, 3) := dk_167 0 35 (dk_at dksX3_otherEnd_0 12 rfl rfl)
theorem dX3_otherEnd_15 : decode cX3_otherEnd 15 = .ok (.iload_n 0, 1) := dk_26 (dk_at dksX3_otherEnd_0 15 rfl rfl)
theorem dX3_otherEnd_16 : decode cX3_otherEnd 16 = .ok (.bipush 12, 2) := dk_16 12 (dk_at dksX3_otherEnd_0 16 rfl rfl)
theorem dX3_otherEnd_18 : decode cX3_otherEnd 18 = .ok (.if_icmp .ge 15, 3) := dk_162 0 15 (dk_at dksX3_otherEnd_0 18 rfl rfl)
theorem dX3_otherEnd_21 : decode cX3_otherEnd 21 = .ok (.bipush 6, 2) := dk_16 6 (dk_at dksX3_otherEnd_0 21 rfl rfl)
theorem dX3_otherEnd_23 : decode cX3_otherEnd 23 = .ok (.iconst 3, 1) := dk_6 (dk_at dksX3_otherEnd_0 23 rfl rfl)
theorem dX3_otherEnd_24 : decode cX3_otherEnd 24 = .ok (.iload_n 0, 1) := dk_26 (dk_at dksX3_otherEnd_1 0 rfl rfl)
theorem dX3_otherEnd_25 : decode cX3_otherEnd 25 = .ok (.bipush 6, 2) := dk_16 6 (dk_at dksX3_otherEnd_1 1 rfl rfl)
theorem dX3_otherEnd_27 : decode cX3_otherEnd 27 = .ok (.isub, 1) := dk_100 (dk_at dksX3_otherEnd_1 3 rfl rfl)
theorem dX3_otherEnd_28 : decode cX3_otherEnd 28 = .ok (.imul, 1) := dk_104 (dk_at dksX3_otherEnd_1 4 rfl rfl)
theorem dX3_otherEnd_29 : decode cX3_otherEnd 29 = .ok (.iadd, 1) := dk_96 (dk_at dksX3_otherEnd_1 5 rfl rfl)
theorem dX3_otherEnd_30 : decode cX3_otherEnd 30 = .ok (.goto 17, 3) := dk_167 0 17 (dk_at dksX3_otherEnd_1 6 rfl rfl)
theorem dX3_otherEnd_33 : decode cX3_otherEnd 33 = .ok (.iload_n 0, 1) := dk_26 (dk_at dksX3_otherEnd_1 9 rfl rfl)
theorem dX3_otherEnd_34 : decode cX3_otherEnd 34 = .ok (.bipush 29, 2) := dk_16 29 (dk_at dksX3_otherEnd_1 10 rfl rfl)
theorem dX3_otherEnd_36 : decode cX3_otherEnd 36 = .ok (.if_icmp .ne 8, 3) := dk_160 0 8 (dk_at dksX3_otherEnd_1 12 rfl rfl)
theorem dX3_otherEnd_39 : decode cX3_otherEnd 39 = .ok (.bipush 6, 2) := dk_16 6 (dk_at dksX3_otherEnd_1 15 rfl rfl)
theorem dX3_otherEnd_41 : decode cX3_otherEnd 41 = .ok (.goto 6, 3) := dk_167 0 6 (dk_at dksX3_otherEnd_1 17 rfl rfl)
theorem dX3_otherEnd_44 : decode cX3_otherEnd 44 = .ok (.iload_n 0, 1) := dk_26 (dk_at dksX3_otherEnd_1 20 rfl rfl)
theorem dX3_otherEnd_45 : decode cX3_otherEnd 45 = .ok (.iconst 5, 1) := dk_8 (dk_at dksX3_otherEnd_1 21 rfl rfl)
theorem dX3_otherEnd_46 : decode cX3_otherEnd 46 = .ok (.isub, 1) := dk_100 (dk_at dksX3_otherEnd_1 22 rfl rfl)
theorem dX3_otherEnd_47 : decode cX3_otherEnd 47 = .ok (.ireturn, 1) := dk_172 (dk_at dksX3_otherEnd_1 23 rfl rfl)
abbrev cX3_fails : ByteArray := prog_12_method_3_code
def yX3_fails : MethodName := ⟨RX3, "fails", "(I)I"⟩
def dkwX3_fails_0 : List UInt8 := [42, 27, 181, 0, 59, 3, 172]
abbrev dktX3_fails_0 : List UInt8 := dkwX3_fails_0 ++ []
theorem dksX3_fails_0 : cX3_fails.data.toList.drop 0 = dktX3_fails_0 := by decide +kernel
theorem dX3_fails_0 : decode cX3_fails 0 = .ok (.aload_n 0, 1) := dk_42 (dk_at dksX3_fails_0 0 rfl rfl)
theorem dX3_fails_1 : decode cX3_fails 1 = .ok (.iload_n 1, 1) := dk_27 (dk_at dksX3_fails_0 1 rfl rfl)
theorem dX3_fails_2 : decode cX3_fails 2 = .ok (.putfield 59, 3) := dk_181 0 59 (dk_at dksX3_fails_0 2 rfl rfl)
theorem dX3_fails_5 : decode cX3_fails 5 = .ok (.iconst 0, 1) := dk_3 (dk_at dksX3_fails_0 5 rfl rfl)
theorem dX3_fails_6 : decode cX3_fails 6 = .ok (.ireturn, 1) := dk_172 (dk_at dksX3_fails_0 6 rfl rfl)
abbrev cX3_yieldsFirst : ByteArray := prog_12_method_38_code
def yX3_yieldsFirst : MethodName := ⟨RX3, "yieldsFirst", "(II)V"⟩
def dkwX3_yieldsFirst_4 : List UInt8 := [132, 3, 1, 167, 255, 163, 177]
abbrev dktX3_yieldsFirst_4 : List UInt8 := dkwX3_yieldsFirst_4 ++ []
def dkwX3_yieldsFirst_3 : List UInt8 := [46, 4, 100, 79, 42, 180, 0, 22, 8, 27, 104, 42, 180, 0, 7, 29, 46, 96, 92, 46, 4, 96, 79]
abbrev dktX3_yieldsFirst_3 : List UInt8 := dkwX3_yieldsFirst_3 ++ dktX3_yieldsFirst_4
def dkwX3_yieldsFirst_2 : List UInt8 := [180, 0, 7, 29, 46, 96, 46, 158, 0, 40, 42, 180, 0, 22, 16, 15, 42, 180, 0, 7, 29, 46, 96, 92]
abbrev dktX3_yieldsFirst_2 : List UInt8 := dkwX3_yieldsFirst_2 ++ dktX3_yieldsFirst_3
def dkwX3_yieldsFirst_1 : List UInt8 := [159, 0, 7, 4, 167, 0, 4, 3, 54, 4, 21, 4, 153, 0, 57, 42, 180, 0, 22, 16, 15, 42]
abbrev dktX3_yieldsFirst_1 : List UInt8 := dkwX3_yieldsFirst_1 ++ dktX3_yieldsFirst_2
def dkwX3_yieldsFirst_0 : List UInt8 := [3, 62, 29, 16, 7, 162, 0, 93, 29, 28, 184, 0, 137, 153, 0, 17, 42, 180, 0, 7, 29, 46, 8]
abbrev dktX3_yieldsFirst_0 : List UInt8 := dkwX3_yieldsFirst_0 ++ dktX3_yieldsFirst_1
theorem dksX3_yieldsFirst_0 : cX3_yieldsFirst.data.toList.drop 0 = dktX3_yieldsFirst_0 := by decide +kernel
theorem dksX3_yieldsFirst_1 : cX3_yieldsFirst.data.toList.drop 23 = dktX3_yieldsFirst_1 := dk_seg dksX3_yieldsFirst_0 23 rfl rfl
theorem dksX3_yieldsFirst_2 : cX3_yieldsFirst.data.toList.drop 45 = dktX3_yieldsFirst_2 := dk_seg dksX3_yieldsFirst_1 22 rfl rfl
theorem dksX3_yieldsFirst_3 : cX3_yieldsFirst.data.toList.drop 69 = dktX3_yieldsFirst_3 := dk_seg dksX3_yieldsFirst_2 24 rfl rfl
theorem dksX3_yieldsFirst_4 : cX3_yieldsFirst.data.toList.drop 92 = dktX3_yieldsFirst_4 := dk_seg dksX3_yieldsFirst_3 23 rfl rfl
theorem dX3_yieldsFirst_0 : decode cX3_yieldsFirst 0 = .ok (.iconst 0, 1) := dk_3 (dk_at dksX3_yieldsFirst_0 0 rfl rfl)
theorem dX3_yieldsFirst_1 : decode cX3_yieldsFirst 1 = .ok (.istore_n 3, 1) := dk_62 (dk_at dksX3_yieldsFirst_0 1 rfl rfl)
theorem dX3_yieldsFirst_2 : decode cX3_yieldsFirst 2 = .ok (.iload_n 3, 1) := dk_29 (dk_at dksX3_yieldsFirst_0 2 rfl rfl)
theorem dX3_yieldsFirst_3 : decode cX3_yieldsFirst 3 = .ok (.bipush 7, 2) := dk_16 7 (dk_at dksX3_yieldsFirst_0 3 rfl rfl)
theorem dX3_yieldsFirst_5 : decode cX3_yieldsFirst 5 = .ok (.if_icmp .ge 93, 3) := dk_162 0 93 (dk_at dksX3_yieldsFirst_0 5 rfl rfl)
theorem dX3_yieldsFirst_8 : decode cX3_yieldsFirst 8 = .ok (.iload_n 3, 1) := dk_29 (dk_at dksX3_yieldsFirst_0 8 rfl rfl)
theorem dX3_yieldsFirst_9 : decode cX3_yieldsFirst 9 = .ok (.iload_n 2, 1) := dk_28 (dk_at dksX3_yieldsFirst_0 9 rfl rfl)
theorem dX3_yieldsFirst_10 : decode cX3_yieldsFirst 10 = .ok (.invokestatic 137, 3) := dk_184 0 137 (dk_at dksX3_yieldsFirst_0 10 rfl rfl)
theorem dX3_yieldsFirst_13 : decode cX3_yieldsFirst 13 = .ok (.ifCond .eq 17, 3) := dk_153 0 17 (dk_at dksX3_yieldsFirst_0 13 rfl rfl)
theorem dX3_yieldsFirst_16 : decode cX3_yieldsFirst 16 = .ok (.aload_n 0, 1) := dk_42 (dk_at dksX3_yieldsFirst_0 16 rfl rfl)
theorem dX3_yieldsFirst_17 : decode cX3_yieldsFirst 17 = .ok (.getfield 7, 3) := dk_180 0 7 (dk_at dksX3_yieldsFirst_0 17 rfl rfl)
theorem dX3_yieldsFirst_20 : decode cX3_yieldsFirst 20 = .ok (.iload_n 3, 1) := dk_29 (dk_at dksX3_yieldsFirst_0 20 rfl rfl)
theorem dX3_yieldsFirst_21 : decode cX3_yieldsFirst 21 = .ok (.iaload, 1) := dk_46 (dk_at dksX3_yieldsFirst_0 21 rfl rfl)
theorem dX3_yieldsFirst_22 : decode cX3_yieldsFirst 22 = .ok (.iconst 5, 1) := dk_8 (dk_at dksX3_yieldsFirst_0 22 rfl rfl)
theorem dX3_yieldsFirst_23 : decode cX3_yieldsFirst 23 = .ok (.if_icmp .eq 7, 3) := dk_159 0 7 (dk_at dksX3_yieldsFirst_1 0 rfl rfl)
theorem dX3_yieldsFirst_26 : decode cX3_yieldsFirst 26 = .ok (.iconst 1, 1) := dk_4 (dk_at dksX3_yieldsFirst_1 3 rfl rfl)
theorem dX3_yieldsFirst_27 : decode cX3_yieldsFirst 27 = .ok (.goto 4, 3) := dk_167 0 4 (dk_at dksX3_yieldsFirst_1 4 rfl rfl)
theorem dX3_yieldsFirst_30 : decode cX3_yieldsFirst 30 = .ok (.iconst 0, 1) := dk_3 (dk_at dksX3_yieldsFirst_1 7 rfl rfl)
theorem dX3_yieldsFirst_31 : decode cX3_yieldsFirst 31 = .ok (.istore 4, 2) := dk_54 4 (dk_at dksX3_yieldsFirst_1 8 rfl rfl)
theorem dX3_yieldsFirst_33 : decode cX3_yieldsFirst 33 = .ok (.iload 4, 2) := dk_21 4 (dk_at dksX3_yieldsFirst_1 10 rfl rfl)
theorem dX3_yieldsFirst_35 : decode cX3_yieldsFirst 35 = .ok (.ifCond .eq 57, 3) := dk_153 0 57 (dk_at dksX3_yieldsFirst_1 12 rfl rfl)
theorem dX3_yieldsFirst_38 : decode cX3_yieldsFirst 38 = .ok (.aload_n 0, 1) := dk_42 (dk_at dksX3_yieldsFirst_1 15 rfl rfl)
theorem dX3_yieldsFirst_39 : decode cX3_yieldsFirst 39 = .ok (.getfield 22, 3) := dk_180 0 22 (dk_at dksX3_yieldsFirst_1 16 rfl rfl)
theorem dX3_yieldsFirst_42 : decode cX3_yieldsFirst 42 = .ok (.bipush 15, 2) := dk_16 15 (dk_at dksX3_yieldsFirst_1 19 rfl rfl)
theorem dX3_yieldsFirst_44 : decode cX3_yieldsFirst 44 = .ok (.aload_n 0, 1) := dk_42 (dk_at dksX3_yieldsFirst_1 21 rfl rfl)
theorem dX3_yieldsFirst_45 : decode cX3_yieldsFirst 45 = .ok (.getfield 7, 3) := dk_180 0 7 (dk_at dksX3_yieldsFirst_2 0 rfl rfl)
theorem dX3_yieldsFirst_48 : decode cX3_yieldsFirst 48 = .ok (.iload_n 3, 1) := dk_29 (dk_at dksX3_yieldsFirst_2 3 rfl rfl)
theorem dX3_yieldsFirst_49 : decode cX3_yieldsFirst 49 = .ok (.iaload, 1) := dk_46 (dk_at dksX3_yieldsFirst_2 4 rfl rfl)
theorem dX3_yieldsFirst_50 : decode cX3_yieldsFirst 50 = .ok (.iadd, 1) := dk_96 (dk_at dksX3_yieldsFirst_2 5 rfl rfl)
theorem dX3_yieldsFirst_51 : decode cX3_yieldsFirst 51 = .ok (.iaload, 1) := dk_46 (dk_at dksX3_yieldsFirst_2 6 rfl rfl)
theorem dX3_yieldsFirst_52 : decode cX3_yieldsFirst 52 = .ok (.ifCond .le 40, 3) := dk_158 0 40 (dk_at dksX3_yieldsFirst_2 7 rfl rfl)
theorem dX3_yieldsFirst_55 : decode cX3_yieldsFirst 55 = .ok (.aload_n 0, 1) := dk_42 (dk_at dksX3_yieldsFirst_2 10 rfl rfl)
theorem dX3_yieldsFirst_56 : decode cX3_yieldsFirst 56 = .ok (.getfield 22, 3) := dk_180 0 22 (dk_at dksX3_yieldsFirst_2 11 rfl rfl)
theorem dX3_yieldsFirst_59 : decode cX3_yieldsFirst 59 = .ok (.bipush 15, 2) := dk_16 15 (dk_at dksX3_yieldsFirst_2 14 rfl rfl)
theorem dX3_yieldsFirst_61 : decode cX3_yieldsFirst 61 = .ok (.aload_n 0, 1) := dk_42 (dk_at dksX3_yieldsFirst_2 16 rfl rfl)
theorem dX3_yieldsFirst_62 : decode cX3_yieldsFirst 62 = .ok (.getfield 7, 3) := dk_180 0 7 (dk_at dksX3_yieldsFirst_2 17 rfl rfl)
theorem dX3_yieldsFirst_65 : decode cX3_yieldsFirst 65 = .ok (.iload_n 3, 1) := dk_29 (dk_at dksX3_yieldsFirst_2 20 rfl rfl)
theorem dX3_yieldsFirst_66 : decode cX3_yieldsFirst 66 = .ok (.iaload, 1) := dk_46 (dk_at dksX3_yieldsFirst_2 21 rfl rfl)
theorem dX3_yieldsFirst_67 : decode cX3_yieldsFirst 67 = .ok (.iadd, 1) := dk_96 (dk_at dksX3_yieldsFirst_2 22 rfl rfl)
theorem dX3_yieldsFirst_68 : decode cX3_yieldsFirst 68 = .ok (.dup2, 1) := dk_92 (dk_at dksX3_yieldsFirst_2 23 rfl rfl)
theorem dX3_yieldsFirst_69 : decode cX3_yieldsFirst 69 = .ok (.iaload, 1) := dk_46 (dk_at dksX3_yieldsFirst_3 0 rfl rfl)
theorem dX3_yieldsFirst_70 : decode cX3_yieldsFirst 70 = .ok (.iconst 1, 1) := dk_4 (dk_at dksX3_yieldsFirst_3 1 rfl rfl)
theorem dX3_yieldsFirst_71 : decode cX3_yieldsFirst 71 = .ok (.isub, 1) := dk_100 (dk_at dksX3_yieldsFirst_3 2 rfl rfl)
theorem dX3_yieldsFirst_72 : decode cX3_yieldsFirst 72 = .ok (.iastore, 1) := dk_79 (dk_at dksX3_yieldsFirst_3 3 rfl rfl)
theorem dX3_yieldsFirst_73 : decode cX3_yieldsFirst 73 = .ok (.aload_n 0, 1) := dk_42 (dk_at dksX3_yieldsFirst_3 4 rfl rfl)
theorem dX3_yieldsFirst_74 : decode cX3_yieldsFirst 74 = .ok (.getfield 22, 3) := dk_180 0 22 (dk_at dksX3_yieldsFirst_3 5 rfl rfl)
theorem dX3_yieldsFirst_77 : decode cX3_yieldsFirst 77 = .ok (.iconst 5, 1) := dk_8 (dk_at dksX3_yieldsFirst_3 8 rfl rfl)
theorem dX3_yieldsFirst_78 : decode cX3_yieldsFirst 78 = .ok (.iload_n 1, 1) := dk_27 (dk_at dksX3_yieldsFirst_3 9 rfl rfl)
theorem dX3_yieldsFirst_79 : decode cX3_yieldsFirst 79 = .ok (.imul, 1) := dk_104 (dk_at dksX3_yieldsFirst_3 10 rfl rfl)
theorem dX3_yieldsFirst_80 : decode cX3_yieldsFirst 80 = .ok (.aload_n 0, 1) := dk_42 (dk_at dksX3_yieldsFirst_3 11 rfl rfl)
theorem dX3_yieldsFirst_81 : decode cX3_yieldsFirst 81 = .ok (.getfield 7, 3) := dk_180 0 7 (dk_at dksX3_yieldsFirst_3 12 rfl rfl)
theorem dX3_yieldsFirst_84 : decode cX3_yieldsFirst 84 = .ok (.iload_n 3, 1) := dk_29 (dk_at dksX3_yieldsFirst_3 15 rfl rfl)
theorem dX3_yieldsFirst_85 : decode cX3_yieldsFirst 85 = .ok (.iaload, 1) := dk_46 (dk_at dksX3_yieldsFirst_3 16 rfl rfl)
theorem dX3_yieldsFirst_86 : decode cX3_yieldsFirst 86 = .ok (.iadd, 1) := dk_96 (dk_at dksX3_yieldsFirst_3 17 rfl rfl)
theorem dX3_yieldsFirst_87 : decode cX3_yieldsFirst 87 = .ok (.dup2, 1) := dk_92 (dk_at dksX3_yieldsFirst_3 18 rfl rfl)
theorem dX3_yieldsFirst_88 : decode cX3_yieldsFirst 88 = .ok (.iaload, 1) := dk_46 (dk_at dksX3_yieldsFirst_3 19 rfl rfl)
theorem dX3_yieldsFirst_89 : decode cX3_yieldsFirst 89 = .ok (.iconst 1, 1) := dk_4 (dk_at dksX3_yieldsFirst_3 20 rfl rfl)
theorem dX3_yieldsFirst_90 : decode cX3_yieldsFirst 90 = .ok (.iadd, 1) := dk_96 (dk_at dksX3_yieldsFirst_3 21 rfl rfl)
theorem dX3_yieldsFirst_91 : decode cX3_yieldsFirst 91 = .ok (.iastore, 1) := dk_79 (dk_at dksX3_yieldsFirst_3 22 rfl rfl)
theorem dX3_yieldsFirst_92 : decode cX3_yieldsFirst 92 = .ok (.iinc 3 1, 3) := dk_132 3 1 (dk_at dksX3_yieldsFirst_4 0 rfl rfl)
theorem dX3_yieldsFirst_95 : decode cX3_yieldsFirst 95 = .ok (.goto (-93), 3) := dk_167 255 163 (dk_at dksX3_yieldsFirst_4 3 rfl rfl)
theorem dX3_yieldsFirst_98 : decode cX3_yieldsFirst 98 = .ok (.return_, 1) := dk_177 (dk_at dksX3_yieldsFirst_4 6 rfl rfl)
abbrev cX3_isOf : ByteArray := prog_12_method_15_code
def yX3_isOf : MethodName := ⟨RX3, "isOf", "(II)Z"⟩
def dkwX3_isOf_2 : List UInt8 := [96, 161, 0, 15, 26, 16, 6, 160, 0, 13, 27, 16, 6, 160, 0, 7, 4, 167, 0, 4, 3, 172]
abbrev dktX3_isOf_2 : List UInt8 := dkwX3_isOf_2 ++ []
def dkwX3_isOf_1 : List UInt8 := [61, 27, 26, 4, 100, 159, 0, 35, 27, 26, 16, 6, 112, 159, 0, 27, 27, 28, 161, 0, 10, 27, 28, 7]
abbrev dktX3_isOf_1 : List UInt8 := dkwX3_isOf_1 ++ dktX3_isOf_2
def dkwX3_isOf_0 : List UInt8 := [26, 154, 0, 15, 27, 16, 6, 162, 0, 7, 4, 167, 0, 4, 3, 172, 16, 6, 6, 26, 4, 100, 104, 96]
abbrev dktX3_isOf_0 : List UInt8 := dkwX3_isOf_0 ++ dktX3_isOf_1
theorem dksX3_isOf_0 : cX3_isOf.data.toList.drop 0 = dktX3_isOf_0 := by decide +kernel
theorem dksX3_isOf_1 : cX3_isOf.data.toList.drop 24 = dktX3_isOf_1 := dk_seg dksX3_isOf_0 24 rfl rfl
theorem dksX3_isOf_2 : cX3_isOf.data.toList.drop 48 = dktX3_isOf_2 := dk_seg dksX3_isOf_1 24 rfl rfl
theorem dX3_isOf_0 : decode cX3_isOf 0 = .ok (.iload_n 0, 1) := dk_26 (dk_at dksX3_isOf_0 0 rfl rfl)
theorem dX3_isOf_1 : decode cX3_isOf 1 = .ok (.ifCond .ne 15, 3) := dk_154 0 15 (dk_at dksX3_isOf_0 1 rfl rfl)
theorem dX3_isOf_4 : decode cX3_isOf 4 = .ok (.iload_n 1, 1) := dk_27 (dk_at dksX3_isOf_0 4 rfl rfl)
theorem dX3_isOf_5 : decode cX3_isOf 5 = .ok (.bipush 6, 2) := dk_16 6 (dk_at dksX3_isOf_0 5 rfl rfl)
theorem dX3_isOf_7 : decode cX3_isOf 7 = .ok (.if_icmp .ge 7, 3) := dk_162 0 7 (dk_at dksX3_isOf_0 7 rfl rfl)
theorem dX3_isOf_10 : decode cX3_isOf 10 = .ok (.iconst 1, 1) := dk_4 (dk_at dksX3_isOf_0 10 rfl rfl)
theorem dX3_isOf_11 : decode cX3_isOf 11 = .ok (.goto 4, 3) := dk_167 0 4 (dk_at dksX3_isOf_0 11 rfl rfl)
theorem dX3_isOf_14 : decode cX3_isOf 14 = .ok (.iconst 0, 1) := dk_3 (dk_at dksX3_isOf_0 14 rfl rfl)
theorem dX3_isOf_15 : decode cX3_isOf 15 = .ok (.ireturn, 1) := dk_172 (dk_at dksX3_isOf_0 15 rfl rfl)
theorem dX3_isOf_16 : decode cX3_isOf 16 = .ok (.bipush 6, 2) := dk_16 6 (dk_at dksX3_isOf_0 16 rfl rfl)
theorem dX3_isOf_18 : decode cX3_isOf 18 = .ok (.iconst 3, 1) := dk_6 (dk_at dksX3_isOf_0 18 rfl rfl)
theorem dX3_isOf_19 : decode cX3_isOf 19 = .ok (.iload_n 0, 1) := dk_26 (dk_at dksX3_isOf_0 19 rfl rfl)
theorem dX3_isOf_20 : decode cX3_isOf 20 = .ok (.iconst 1, 1) := dk_4 (dk_at dksX3_isOf_0 20 rfl rfl)
theorem dX3_isOf_21 : decode cX3_isOf 21 = .ok (.isub, 1) := dk_100 (dk_at dksX3_isOf_0 21 rfl rfl)
theorem dX3_isOf_22 : decode cX3_isOf 22 = .ok (.imul, 1) := dk_104 (dk_at dksX3_isOf_0 22 rfl rfl)
theorem dX3_isOf_23 : decode cX3_isOf 23 = .ok (.iadd, 1) := dk_96 (dk_at dksX3_isOf_0 23 rfl rfl)
theorem dX3_isOf_24 : decode cX3_isOf 24 = .ok (.istore_n 2, 1) := dk_61 (dk_at dksX3_isOf_1 0 rfl rfl)
theorem dX3_isOf_25 : decode cX3_isOf 25 = .ok (.iload_n 1, 1) := dk_27 (dk_at dksX3_isOf_1 1 rfl rfl)
theorem dX3_isOf_26 : decode cX3_isOf 26 = .ok (.iload_n 0, 1) := dk_26 (dk_at dksX3_isOf_1 2 rfl rfl)
theorem dX3_isOf_27 : decode cX3_isOf 27 = .ok (.iconst 1, 1) := dk_4 (dk_at dksX3_isOf_1 3 rfl rfl)
theorem dX3_isOf_28 : decode cX3_isOf 28 = .ok (.isub, 1) := dk_100 (dk_at dksX3_isOf_1 4 rfl rfl)
theorem dX3_isOf_29 : decode cX3_isOf 29 = .ok (.if_icmp .eq 35, 3) := dk_159 0 35 (dk_at dksX3_isOf_1 5 rfl rfl)
theorem dX3_isOf_32 : decode cX3_isOf 32 = .ok (.iload_n 1, 1) := dk_27 (dk_at dksX3_isOf_1 8 rfl rfl)
theorem dX3_isOf_33 : decode cX3_isOf 33 = .ok (.iload_n 0, 1) := dk_26 (dk_at dksX3_isOf_1 9 rfl rfl)
theorem dX3_isOf_34 : decode cX3_isOf 34 = .ok (.bipush 6, 2) := dk_16 6 (dk_at dksX3_isOf_1 10 rfl rfl)
theorem dX3_isOf_36 : decode cX3_isOf 36 = .ok (.irem, 1) := dk_112 (dk_at dksX3_isOf_1 12 rfl rfl)
theorem dX3_isOf_37 : decode cX3_isOf 37 = .ok (.if_icmp .eq 27, 3) := dk_159 0 27 (dk_at dksX3_isOf_1 13 rfl rfl)
theorem dX3_isOf_40 : decode cX3_isOf 40 = .ok (.iload_n 1, 1) := dk_27 (dk_at dksX3_isOf_1 16 rfl rfl)
theorem dX3_isOf_41 : decode cX3_isOf 41 = .ok (.iload_n 2, 1) := dk_28 (dk_at dksX3_isOf_1 17 rfl rfl)
theorem dX3_isOf_42 : decode cX3_isOf 42 = .ok (.if_icmp .lt 10, 3) := dk_161 0 10 (dk_at dksX3_isOf_1 18 rfl rfl)
theorem dX3_isOf_45 : decode cX3_isOf 45 = .ok (.iload_n 1, 1) := dk_27 (dk_at dksX3_isOf_1 21 rfl rfl)
theorem dX3_isOf_46 : decode cX3_isOf 46 = .ok (.iload_n 2, 1) := dk_28 (dk_at dksX3_isOf_1 22 rfl rfl)
theorem dX3_isOf_47 : decode cX3_isOf 47 = .ok (.iconst 4, 1) := dk_7 (dk_at dksX3_isOf_1 23 rfl rfl)
theorem dX3_isOf_48 : decode cX3_isOf 48 = .ok (.iadd, 1) := dk_96 (dk_at dksX3_isOf_2 0 rfl rfl)
theorem dX3_isOf_49 : decode cX3_isOf 49 = .ok (.if_icmp .lt 15, 3) := dk_161 0 15 (dk_at dksX3_isOf_2 1 rfl rfl)
theorem dX3_isOf_52 : decode cX3_isOf 52 = .ok (.iload_n 0, 1) := dk_26 (dk_at dksX3_isOf_2 4 rfl rfl)
theorem dX3_isOf_53 : decode cX3_isOf 53 = .ok (.bipush 6, 2) := dk_16 6 (dk_at dksX3_isOf_2 5 rfl rfl)
theorem dX3_isOf_55 : decode cX3_isOf 55 = .ok (.if_icmp .ne 13, 3) := dk_160 0 13 (dk_at dksX3_isOf_2 7 rfl rfl)
theorem dX3_isOf_58 : decode cX3_isOf 58 = .ok (.iload_n 1, 1) := dk_27 (dk_at dksX3_isOf_2 10 rfl rfl)
theorem dX3_isOf_59 : decode cX3_isOf 59 = .ok (.bipush 6, 2) := dk_16 6 (dk_at dksX3_isOf_2 11 rfl rfl)
theorem dX3_isOf_61 : decode cX3_isOf 61 = .ok (.if_icmp .ne 7, 3) := dk_160 0 7 (dk_at dksX3_isOf_2 13 rfl rfl)
theorem dX3_isOf_64 : decode cX3_isOf 64 = .ok (.iconst 1, 1) := dk_4 (dk_at dksX3_isOf_2 16 rfl rfl)
theorem dX3_isOf_65 : decode cX3_isOf 65 = .ok (.goto 4, 3) := dk_167 0 4 (dk_at dksX3_isOf_2 17 rfl rfl)
theorem dX3_isOf_68 : decode cX3_isOf 68 = .ok (.iconst 0, 1) := dk_3 (dk_at dksX3_isOf_2 20 rfl rfl)
theorem dX3_isOf_69 : decode cX3_isOf 69 = .ok (.ireturn, 1) := dk_172 (dk_at dksX3_isOf_2 21 rfl rfl)
abbrev cX3_looksAtTrails : ByteArray := prog_12_method_29_code
def yX3_looksAtTrails : MethodName := ⟨RX3, "looksAtTrails", "()V"⟩
def dkwX3_looksAtTrails_6 : List UInt8 := [167, 0, 13, 28, 4, 160, 0, 7, 29, 167, 0, 4, 2, 181, 0, 41, 177]
abbrev dktX3_looksAtTrails_6 : List UInt8 := dkwX3_looksAtTrails_6 ++ []
def dkwX3_looksAtTrails_5 : List UInt8 := [167, 255, 179, 42, 27, 8, 162, 0, 7, 2, 167, 0, 25, 21, 4, 153, 0, 10, 42, 180, 0, 41]
abbrev dktX3_looksAtTrails_5 : List UInt8 := dkwX3_looksAtTrails_5 ++ dktX3_looksAtTrails_6
def dkwX3_looksAtTrails_4 : List UInt8 := [21, 6, 153, 0, 16, 21, 5, 42, 180, 0, 41, 160, 0, 7, 4, 167, 0, 4, 3, 54, 4, 132, 5, 1]
abbrev dktX3_looksAtTrails_4 : List UInt8 := dkwX3_looksAtTrails_4 ++ dktX3_looksAtTrails_5
def dkwX3_looksAtTrails_3 : List UInt8 := [167, 0, 4, 3, 96, 61, 21, 6, 153, 0, 8, 21, 5, 167, 0, 4, 29, 62, 21, 4, 154, 0, 17]
abbrev dktX3_looksAtTrails_3 : List UInt8 := dkwX3_looksAtTrails_3 ++ dktX3_looksAtTrails_4
def dkwX3_looksAtTrails_2 : List UInt8 := [42, 21, 5, 182, 0, 104, 27, 160, 0, 7, 4, 167, 0, 4, 3, 54, 6, 28, 21, 6, 153, 0, 7, 4]
abbrev dktX3_looksAtTrails_2 : List UInt8 := dkwX3_looksAtTrails_2 ++ dktX3_looksAtTrails_3
def dkwX3_looksAtTrails_1 : List UInt8 := [27, 60, 132, 2, 1, 167, 255, 231, 3, 61, 2, 62, 3, 54, 4, 3, 54, 5, 21, 5, 6, 162, 0, 77]
abbrev dktX3_looksAtTrails_1 : List UInt8 := dkwX3_looksAtTrails_1 ++ dktX3_looksAtTrails_2
def dkwX3_looksAtTrails_0 : List UInt8 := [3, 60, 3, 61, 28, 6, 162, 0, 26, 42, 28, 182, 0, 104, 62, 29, 27, 164, 0, 7, 29, 167, 0, 4]
abbrev dktX3_looksAtTrails_0 : List UInt8 := dkwX3_looksAtTrails_0 ++ dktX3_looksAtTrails_1
theorem dksX3_looksAtTrails_0 : cX3_looksAtTrails.data.toList.drop 0 = dktX3_looksAtTrails_0 := by decide +kernel
theorem dksX3_looksAtTrails_1 : cX3_looksAtTrails.data.toList.drop 24 = dktX3_looksAtTrails_1 := dk_seg dksX3_looksAtTrails_0 24 rfl rfl
theorem dksX3_looksAtTrails_2 : cX3_looksAtTrails.data.toList.drop 48 = dktX3_looksAtTrails_2 := dk_seg dksX3_looksAtTrails_1 24 rfl rfl
theorem dksX3_looksAtTrails_3 : cX3_looksAtTrails.data.toList.drop 72 = dktX3_looksAtTrails_3 := dk_seg dksX3_looksAtTrails_2 24 rfl rfl
theorem dksX3_looksAtTrails_4 : cX3_looksAtTrails.data.toList.drop 95 = dktX3_looksAtTrails_4 := dk_seg dksX3_looksAtTrails_3 23 rfl rfl
theorem dksX3_looksAtTrails_5 : cX3_looksAtTrails.data.toList.drop 119 = dktX3_looksAtTrails_5 := dk_seg dksX3_looksAtTrails_4 24 rfl rfl
theorem dksX3_looksAtTrails_6 : cX3_looksAtTrails.data.toList.drop 141 = dktX3_looksAtTrails_6 := dk_seg dksX3_looksAtTrails_5 22 rfl rfl
theorem dX3_looksAtTrails_0 : decode cX3_looksAtTrails 0 = .ok (.iconst 0, 1) := dk_3 (dk_at dksX3_looksAtTrails_0 0 rfl rfl)
theorem dX3_looksAtTrails_1 : decode cX3_looksAtTrails 1 = .ok (.istore_n 1, 1) := dk_60 (dk_at dksX3_looksAtTrails_0 1 rfl rfl)
theorem dX3_looksAtTrails_2 : decode cX3_looksAtTrails 2 = .ok (.iconst 0, 1) := dk_3 (dk_at dksX3_looksAtTrails_0 2 rfl rfl)
theorem dX3_looksAtTrails_3 : decode cX3_looksAtTrails 3 = .ok (.istore_n 2, 1) := dk_61 (dk_at dksX3_looksAtTrails_0 3 rfl rfl)
theorem dX3_looksAtTrails_4 : decode cX3_looksAtTrails 4 = .ok (.iload_n 2, 1) := dk_28 (dk_at dksX3_looksAtTrails_0 4 rfl rfl)
theorem dX3_looksAtTrails_5 : decode cX3_looksAtTrails 5 = .ok (.iconst 3, 1) := dk_6 (dk_at dksX3_looksAtTrails_0 5 rfl rfl)
theorem dX3_looksAtTrails_6 : decode cX3_looksAtTrails 6 = .ok (.if_icmp .ge 26, 3) := dk_162 0 26 (dk_at dksX3_looksAtTrails_0 6 rfl rfl)
theorem dX3_looksAtTrails_9 : decode cX3_looksAtTrails 9 = .ok (.aload_n 0, 1) := dk_42 (dk_at dksX3_looksAtTrails_0 9 rfl rfl)
theorem dX3_looksAtTrails_10 : decode cX3_looksAtTrails 10 = .ok (.iload_n 2, 1) := dk_28 (dk_at dksX3_looksAtTrails_0 10 rfl rfl)
theorem dX3_looksAtTrails_11 : decode cX3_looksAtTrails 11 = .ok (.invokevirtual 104, 3) := dk_182 0 104 (dk_at dksX3_looksAtTrails_0 11 rfl rfl)
theorem dX3_looksAtTrails_14 : decode cX3_looksAtTrails 14 = .ok (.istore_n 3, 1) := dk_62 (dk_at dksX3_looksAtTrails_0 14 rfl rfl)
theorem dX3_looksAtTrails_15 : decode cX3_looksAtTrails 15 = .ok (.iload_n 3, 1) := dk_29 (dk_at dksX3_looksAtTrails_0 15 rfl rfl)
theorem dX3_looksAtTrails_16 : decode cX3_looksAtTrails 16 = .ok (.iload_n 1, 1) := dk_27 (dk_at dksX3_looksAtTrails_0 16 rfl rfl)
theorem dX3_looksAtTrails_17 : decode cX3_looksAtTrails 17 = .ok (.if_icmp .le 7, 3) := dk_164 0 7 (dk_at dksX3_looksAtTrails_0 17 rfl rfl)
theorem dX3_looksAtTrails_20 : decode cX3_looksAtTrails 20 = .ok (.iload_n 3, 1) := dk_29 (dk_at dksX3_looksAtTrails_0 20 rfl rfl)
theorem dX3_looksAtTrails_21 : decode cX3_looksAtTrails 21 = .ok (.goto 4, 3) := dk_167 0 4 (dk_at dksX3_looksAtTrails_0 21 rfl rfl)
theorem dX3_looksAtTrails_24 : decode cX3_looksAtTrails 24 = .ok (.iload_n 1, 1) := dk_27 (dk_at dksX3_looksAtTrails_1 0 rfl rfl)
theorem dX3_looksAtTrails_25 : decode cX3_looksAtTrails 25 = .ok (.istore_n 1, 1) := dk_60 (dk_at dksX3_looksAtTrails_1 1 rfl rfl)
theorem dX3_looksAtTrails_26 : decode cX3_looksAtTrails 26 = .ok (.iinc 2 1, 3) := dk_132 2 1 (dk_at dksX3_looksAtTrails_1 2 rfl rfl)
theorem dX3_looksAtTrails_29 : decode cX3_looksAtTrails 29 = .ok (.goto (-25), 3) := dk_167 255 231 (dk_at dksX3_looksAtTrails_1 5 rfl rfl)
theorem dX3_looksAtTrails_32 : decode cX3_looksAtTrails 32 = .ok (.iconst 0, 1) := dk_3 (dk_at dksX3_looksAtTrails_1 8 rfl rfl)
theorem dX3_looksAtTrails_33 : decode cX3_looksAtTrails 33 = .ok (.istore_n 2, 1) := dk_61 (dk_at dksX3_looksAtTrails_1 9 rfl rfl)
theorem dX3_looksAtTrails_34 : decode cX3_looksAtTrails 34 = .ok (.iconst (-1), 1) := dk_2 (dk_at dksX3_looksAtTrails_1 10 rfl rfl)
theorem dX3_looksAtTrails_35 : decode cX3_looksAtTrails 35 = .ok (.istore_n 3, 1) := dk_62 (dk_at dksX3_looksAtTrails_1 11 rfl rfl)
theorem dX3_looksAtTrails_36 : decode cX3_looksAtTrails 36 = .ok (.iconst 0, 1) := dk_3 (dk_at dksX3_looksAtTrails_1 12 rfl rfl)
theorem dX3_looksAtTrails_37 : decode cX3_looksAtTrails 37 = .ok (.istore 4, 2) := dk_54 4 (dk_at dksX3_looksAtTrails_1 13 rfl rfl)
theorem dX3_looksAtTrails_39 : decode cX3_looksAtTrails 39 = .ok (.iconst 0, 1) := dk_3 (dk_at dksX3_looksAtTrails_1 15 rfl rfl)
theorem dX3_looksAtTrails_40 : decode cX3_looksAtTrails 40 = .ok (.istore 5, 2) := dk_54 5 (dk_at dksX3_looksAtTrails_1 16 rfl rfl)
theorem dX3_looksAtTrails_42 : decode cX3_looksAtTrails 42 = .ok (.iload 5, 2) := dk_21 5 (dk_at dksX3_looksAtTrails_1 18 rfl rfl)
theorem dX3_looksAtTrails_44 : decode cX3_looksAtTrails 44 = .ok (.iconst 3, 1) := dk_6 (dk_at dksX3_looksAtTrails_1 20 rfl rfl)
theorem dX3_looksAtTrails_45 : decode cX3_looksAtTrails 45 = .ok (.if_icmp .ge 77, 3) := dk_162 0 77 (dk_at dksX3_looksAtTrails_1 21 rfl rfl)
theorem dX3_looksAtTrails_48 : decode cX3_looksAtTrails 48 = .ok (.aload_n 0, 1) := dk_42 (dk_at dksX3_looksAtTrails_2 0 rfl rfl)
theorem dX3_looksAtTrails_49 : decode cX3_looksAtTrails 49 = .ok (.iload 5, 2) := dk_21 5 (dk_at dksX3_looksAtTrails_2 1 rfl rfl)
theorem dX3_looksAtTrails_51 : decode cX3_looksAtTrails 51 = .ok (.invokevirtual 104, 3) := dk_182 0 104 (dk_at dksX3_looksAtTrails_2 3 rfl rfl)
theorem dX3_looksAtTrails_54 : decode cX3_looksAtTrails 54 = .ok (.iload_n 1, 1) := dk_27 (dk_at dksX3_looksAtTrails_2 6 rfl rfl)
theorem dX3_looksAtTrails_55 : decode cX3_looksAtTrails 55 = .ok (.if_icmp .ne 7, 3) := dk_160 0 7 (dk_at dksX3_looksAtTrails_2 7 rfl rfl)
theorem dX3_looksAtTrails_58 : decode cX3_looksAtTrails 58 = .ok (.iconst 1, 1) := dk_4 (dk_at dksX3_looksAtTrails_2 10 rfl rfl)
theorem dX3_looksAtTrails_59 : decode cX3_looksAtTrails 59 = .ok (.goto 4, 3) := dk_167 0 4 (dk_at dksX3_looksAtTrails_2 11 rfl rfl)
theorem dX3_looksAtTrails_62 : decode cX3_looksAtTrails 62 = .ok (.iconst 0, 1) := dk_3 (dk_at dksX3_looksAtTrails_2 14 rfl rfl)
theorem dX3_looksAtTrails_63 : decode cX3_looksAtTrails 63 = .ok (.istore 6, 2) := dk_54 6 (dk_at dksX3_looksAtTrails_2 15 rfl rfl)
theorem dX3_looksAtTrails_65 : decode cX3_looksAtTrails 65 = .ok (.iload_n 2, 1) := dk_28 (dk_at dksX3_looksAtTrails_2 17 rfl rfl)
theorem dX3_looksAtTrails_66 : decode cX3_looksAtTrails 66 = .ok (.iload 6, 2) := dk_21 6 (dk_at dksX3_looksAtTrails_2 18 rfl rfl)
theorem dX3_looksAtTrails_68 : decode cX3_looksAtTrails 68 = .ok (.ifCond .eq 7, 3) := dk_153 0 7 (dk_at dksX3_looksAtTrails_2 20 rfl rfl)
theorem dX3_looksAtTrails_71 : decode cX3_looksAtTrails 71 = .ok (.iconst 1, 1) := dk_4 (dk_at dksX3_looksAtTrails_2 23 rfl rfl)
theorem dX3_looksAtTrails_72 : decode cX3_looksAtTrails 72 = .ok (.goto 4, 3) := dk_167 0 4 (dk_at dksX3_looksAtTrails_3 0 rfl rfl)
theorem dX3_looksAtTrails_75 : decode cX3_looksAtTrails 75 = .ok (.iconst 0, 1) := dk_3 (dk_at dksX3_looksAtTrails_3 3 rfl rfl)
theorem dX3_looksAtTrails_76 : decode cX3_looksAtTrails 76 = .ok (.iadd, 1) := dk_96 (dk_at dksX3_looksAtTrails_3 4 rfl rfl)
theorem dX3_looksAtTrails_77 : decode cX3_looksAtTrails 77 = .ok (.istore_n 2, 1) := dk_61 (dk_at dksX3_looksAtTrails_3 5 rfl rfl)
theorem dX3_looksAtTrails_78 : decode cX3_looksAtTrails 78 = .ok (.iload 6, 2) := dk_21 6 (dk_at dksX3_looksAtTrails_3 6 rfl rfl)
theorem dX3_looksAtTrails_80 : decode cX3_looksAtTrails 80 = .ok (.ifCond .eq 8, 3) := dk_153 0 8 (dk_at dksX3_looksAtTrails_3 8 rfl rfl)
theorem dX3_looksAtTrails_83 : decode cX3_looksAtTrails 83 = .ok (.iload 5, 2) := dk_21 5 (dk_at dksX3_looksAtTrails_3 11 rfl rfl)
theorem dX3_looksAtTrails_85 : decode cX3_looksAtTrails 85 = .ok (.goto 4, 3) := dk_167 0 4 (dk_at dksX3_looksAtTrails_3 13 rfl rfl)
theorem dX3_looksAtTrails_88 : decode cX3_looksAtTrails 88 = .ok (.iload_n 3, 1) := dk_29 (dk_at dksX3_looksAtTrails_3 16 rfl rfl)
theorem dX3_looksAtTrails_89 : decode cX3_looksAtTrails 89 = .ok (.istore_n 3, 1) := dk_62 (dk_at dksX3_looksAtTrails_3 17 rfl rfl)
theorem dX3_looksAtTrails_90 : decode cX3_looksAtTrails 90 = .ok (.iload 4, 2) := dk_21 4 (dk_at dksX3_looksAtTrails_3 18 rfl rfl)
theorem dX3_looksAtTrails_92 : decode cX3_looksAtTrails 92 = .ok (.ifCond .ne 17, 3) := dk_154 0 17 (dk_at dksX3_looksAtTrails_3 20 rfl rfl)
theorem dX3_looksAtTrails_95 : decode cX3_looksAtTrails 95 = .ok (.iload 6, 2) := dk_21 6 (dk_at dksX3_looksAtTrails_4 0 rfl rfl)
theorem dX3_looksAtTrails_97 : decode cX3_looksAtTrails 97 = .ok (.ifCond .eq 16, 3) := dk_153 0 16 (dk_at dksX3_looksAtTrails_4 2 rfl rfl)
theorem dX3_looksAtTrails_100 : decode cX3_looksAtTrails 100 = .ok (.iload 5, 2) := dk_21 5 (dk_at dksX3_looksAtTrails_4 5 rfl rfl)
theorem dX3_looksAtTrails_102 : decode cX3_looksAtTrails 102 = .ok (.aload_n 0, 1) := dk_42 (dk_at dksX3_looksAtTrails_4 7 rfl rfl)
theorem dX3_looksAtTrails_103 : decode cX3_looksAtTrails 103 = .ok (.getfield 41, 3) := dk_180 0 41 (dk_at dksX3_looksAtTrails_4 8 rfl rfl)
theorem dX3_looksAtTrails_106 : decode cX3_looksAtTrails 106 = .ok (.if_icmp .ne 7, 3) := dk_160 0 7 (dk_at dksX3_looksAtTrails_4 11 rfl rfl)
theorem dX3_looksAtTrails_109 : decode cX3_looksAtTrails 109 = .ok (.iconst 1, 1) := dk_4 (dk_at dksX3_looksAtTrails_4 14 rfl rfl)
theorem dX3_looksAtTrails_110 : decode cX3_looksAtTrails 110 = .ok (.goto 4, 3) := dk_167 0 4 (dk_at dksX3_looksAtTrails_4 15 rfl rfl)
theorem dX3_looksAtTrails_113 : decode cX3_looksAtTrails 113 = .ok (.iconst 0, 1) := dk_3 (dk_at dksX3_looksAtTrails_4 18 rfl rfl)
theorem dX3_looksAtTrails_114 : decode cX3_looksAtTrails 114 = .ok (.istore 4, 2) := dk_54 4 (dk_at dksX3_looksAtTrails_4 19 rfl rfl)
theorem dX3_looksAtTrails_116 : decode cX3_looksAtTrails 116 = .ok (.iinc 5 1, 3) := dk_132 5 1 (dk_at dksX3_looksAtTrails_4 21 rfl rfl)
theorem dX3_looksAtTrails_119 : decode cX3_looksAtTrails 119 = .ok (.goto (-77), 3) := dk_167 255 179 (dk_at dksX3_looksAtTrails_5 0 rfl rfl)
theorem dX3_looksAtTrails_122 : decode cX3_looksAtTrails 122 = .ok (.aload_n 0, 1) := dk_42 (dk_at dksX3_looksAtTrails_5 3 rfl rfl)
theorem dX3_looksAtTrails_123 : decode cX3_looksAtTrails 123 = .ok (.iload_n 1, 1) := dk_27 (dk_at dksX3_looksAtTrails_5 4 rfl rfl)
theorem dX3_looksAtTrails_124 : decode cX3_looksAtTrails 124 = .ok (.iconst 5, 1) := dk_8 (dk_at dksX3_looksAtTrails_5 5 rfl rfl)
theorem dX3_looksAtTrails_125 : decode cX3_looksAtTrails 125 = .ok (.if_icmp .ge 7, 3) := dk_162 0 7 (dk_at dksX3_looksAtTrails_5 6 rfl rfl)
theorem dX3_looksAtTrails_128 : decode cX3_looksAtTrails 128 = .ok (.iconst (-1), 1) := dk_2 (dk_at dksX3_looksAtTrails_5 9 rfl rfl)
theorem dX3_looksAtTrails_129 : decode cX3_looksAtTrails 129 = .ok (.goto 25, 3) := dk_167 0 25 (dk_at dksX3_looksAtTrails_5 10 rfl rfl)
theorem dX3_looksAtTrails_132 : decode cX3_looksAtTrails 132 = .ok (.iload 4, 2) := dk_21 4 (dk_at dksX3_looksAtTrails_5 13 rfl rfl)
theorem dX3_looksAtTrails_134 : decode cX3_looksAtTrails 134 = .ok (.ifCond .eq 10, 3) := dk_153 0 10 (dk_at dksX3_looksAtTrails_5 15 rfl rfl)
theorem dX3_looksAtTrails_137 : decode cX3_looksAtTrails 137 = .ok (.aload_n 0, 1) := dk_42 (dk_at dksX3_looksAtTrails_5 18 rfl rfl)
theorem dX3_looksAtTrails_138 : decode cX3_looksAtTrails 138 = .ok (.getfield 41, 3) := dk_180 0 41 (dk_at dksX3_looksAtTrails_5 19 rfl rfl)
theorem dX3_looksAtTrails_141 : decode cX3_looksAtTrails 141 = .ok (.goto 13, 3) := dk_167 0 13 (dk_at dksX3_looksAtTrails_6 0 rfl rfl)
theorem dX3_looksAtTrails_144 : decode cX3_looksAtTrails 144 = .ok (.iload_n 2, 1) := dk_28 (dk_at dksX3_looksAtTrails_6 3 rfl rfl)
theorem dX3_looksAtTrails_145 : decode cX3_looksAtTrails 145 = .ok (.iconst 1, 1) := dk_4 (dk_at dksX3_looksAtTrails_6 4 rfl rfl)
theorem dX3_looksAtTrails_146 : decode cX3_looksAtTrails 146 = .ok (.if_icmp .ne 7, 3) := dk_160 0 7 (dk_at dksX3_looksAtTrails_6 5 rfl rfl)
theorem dX3_looksAtTrails_149 : decode cX3_looksAtTrails 149 = .ok (.iload_n 3, 1) := dk_29 (dk_at dksX3_looksAtTrails_6 8 rfl rfl)
theorem dX3_looksAtTrails_150 : decode cX3_looksAtTrails 150 = .ok (.goto 4, 3) := dk_167 0 4 (dk_at dksX3_looksAtTrails_6 9 rfl rfl)
theorem dX3_looksAtTrails_153 : decode cX3_looksAtTrails 153 = .ok (.iconst (-1), 1) := dk_2 (dk_at dksX3_looksAtTrails_6 12 rfl rfl)
theorem dX3_looksAtTrails_154 : decode cX3_looksAtTrails 154 = .ok (.putfield 41, 3) := dk_181 0 41 (dk_at dksX3_looksAtTrails_6 13 rfl rfl)
theorem dX3_looksAtTrails_157 : decode cX3_looksAtTrails 157 = .ok (.return_, 1) := dk_177 (dk_at dksX3_looksAtTrails_6 16 rfl rfl)
abbrev cX3_trailOf : ByteArray := prog_12_method_28_code
def yX3_trailOf : MethodName := ⟨RX3, "trailOf", "(I)I"⟩
def dkwX3_trailOf_4 : List UInt8 := [132, 4, 1, 167, 255, 205, 29, 172]
abbrev dktX3_trailOf_4 : List UInt8 := dkwX3_trailOf_4 ++ []
def dkwX3_trailOf_3 : List UInt8 := [163, 0, 22, 42, 27, 21, 4, 28, 182, 0, 101, 21, 4, 160, 0, 9, 21, 4, 184, 0, 94, 62]
abbrev dktX3_trailOf_3 : List UInt8 := dkwX3_trailOf_3 ++ dktX3_trailOf_4
def dkwX3_trailOf_2 : List UInt8 := [120, 162, 0, 49, 21, 4, 184, 0, 94, 29, 164, 0, 34, 42, 27, 21, 4, 28, 182, 0, 97, 5]
abbrev dktX3_trailOf_2 : List UInt8 := dkwX3_trailOf_2 ++ dktX3_trailOf_3
def dkwX3_trailOf_1 : List UInt8 := [180, 0, 50, 28, 29, 79, 132, 2, 1, 132, 3, 1, 167, 255, 225, 3, 62, 4, 54, 4, 21, 4, 4, 28]
abbrev dktX3_trailOf_1 : List UInt8 := dkwX3_trailOf_1 ++ dktX3_trailOf_2
def dkwX3_trailOf_0 : List UInt8 := [3, 61, 3, 62, 29, 16, 30, 162, 0, 31, 42, 180, 0, 16, 29, 46, 27, 4, 96, 160, 0, 13, 42]
abbrev dktX3_trailOf_0 : List UInt8 := dkwX3_trailOf_0 ++ dktX3_trailOf_1
theorem dksX3_trailOf_0 : cX3_trailOf.data.toList.drop 0 = dktX3_trailOf_0 := by decide +kernel
theorem dksX3_trailOf_1 : cX3_trailOf.data.toList.drop 23 = dktX3_trailOf_1 := dk_seg dksX3_trailOf_0 23 rfl rfl
theorem dksX3_trailOf_2 : cX3_trailOf.data.toList.drop 47 = dktX3_trailOf_2 := dk_seg dksX3_trailOf_1 24 rfl rfl
theorem dksX3_trailOf_3 : cX3_trailOf.data.toList.drop 69 = dktX3_trailOf_3 := dk_seg dksX3_trailOf_2 22 rfl rfl
theorem dksX3_trailOf_4 : cX3_trailOf.data.toList.drop 91 = dktX3_trailOf_4 := dk_seg dksX3_trailOf_3 22 rfl rfl
theorem dX3_trailOf_0 : decode cX3_trailOf 0 = .ok (.iconst 0, 1) := dk_3 (dk_at dksX3_trailOf_0 0 rfl rfl)
theorem dX3_trailOf_1 : decode cX3_trailOf 1 = .ok (.istore_n 2, 1) := dk_61 (dk_at dksX3_trailOf_0 1 rfl rfl)
theorem dX3_trailOf_2 : decode cX3_trailOf 2 = .ok (.iconst 0, 1) := dk_3 (dk_at dksX3_trailOf_0 2 rfl rfl)
theorem dX3_trailOf_3 : decode cX3_trailOf 3 = .ok (.istore_n 3, 1) := dk_62 (dk_at dksX3_trailOf_0 3 rfl rfl)
theorem dX3_trailOf_4 : decode cX3_trailOf 4 = .ok (.iload_n 3, 1) := dk_29 (dk_at dksX3_trailOf_0 4 rfl rfl)
theorem dX3_trailOf_5 : decode cX3_trailOf 5 = .ok (.bipush 30, 2) := dk_16 30 (dk_at dksX3_trailOf_0 5 rfl rfl)
theorem dX3_trailOf_7 : decode cX3_trailOf 7 = .ok (.if_icmp .ge 31, 3) := dk_162 0 31 (dk_at dksX3_trailOf_0 7 rfl rfl)
theorem dX3_trailOf_10 : decode cX3_trailOf 10 = .ok (.aload_n 0, 1) := dk_42 (dk_at dksX3_trailOf_0 10 rfl rfl)
theorem dX3_trailOf_11 : decode cX3_trailOf 11 = .ok (.getfield 16, 3) := dk_180 0 16 (dk_at dksX3_trailOf_0 11 rfl rfl)
theorem dX3_trailOf_14 : decode cX3_trailOf 14 = .ok (.iload_n 3, 1) := dk_29 (dk_at dksX3_trailOf_0 14 rfl rfl)
theorem dX3_trailOf_15 : decode cX3_trailOf 15 = .ok (.iaload, 1) := dk_46 (dk_at dksX3_trailOf_0 15 rfl rfl)
theorem dX3_trailOf_16 : decode cX3_trailOf 16 = .ok (.iload_n 1, 1) := dk_27 (dk_at dksX3_trailOf_0 16 rfl rfl)
theorem dX3_trailOf_17 : decode cX3_trailOf 17 = .ok (.iconst 1, 1) := dk_4 (dk_at dksX3_trailOf_0 17 rfl rfl)
theorem dX3_trailOf_18 : decode cX3_trailOf 18 = .ok (.iadd, 1) := dk_96 (dk_at dksX3_trailOf_0 18 rfl rfl)
theorem dX3_trailOf_19 : decode cX3_trailOf 19 = .ok (.if_icmp .ne 13, 3) := dk_160 0 13 (dk_at dksX3_trailOf_0 19 rfl rfl)
theorem dX3_trailOf_22 : decode cX3_trailOf 22 = .ok (.aload_n 0, 1) := dk_42 (dk_at dksX3_trailOf_0 22 rfl rfl)
theorem dX3_trailOf_23 : decode cX3_trailOf 23 = .ok (.getfield 50, 3) := dk_180 0 50 (dk_at dksX3_trailOf_1 0 rfl rfl)
theorem dX3_trailOf_26 : decode cX3_trailOf 26 = .ok (.iload_n 2, 1) := dk_28 (dk_at dksX3_trailOf_1 3 rfl rfl)
theorem dX3_trailOf_27 : decode cX3_trailOf 27 = .ok (.iload_n 3, 1) := dk_29 (dk_at dksX3_trailOf_1 4 rfl rfl)
theorem dX3_trailOf_28 : decode cX3_trailOf 28 = .ok (.iastore, 1) := dk_79 (dk_at dksX3_trailOf_1 5 rfl rfl)
theorem dX3_trailOf_29 : decode cX3_trailOf 29 = .ok (.iinc 2 1, 3) := dk_132 2 1 (dk_at dksX3_trailOf_1 6 rfl rfl)
theorem dX3_trailOf_32 : decode cX3_trailOf 32 = .ok (.iinc 3 1, 3) := dk_132 3 1 (dk_at dksX3_trailOf_1 9 rfl rfl)
theorem dX3_trailOf_35 : decode cX3_trailOf 35 = .ok (.goto (-31), 3) := dk_167 255 225 (dk_at dksX3_trailOf_1 12 rfl rfl)
theorem dX3_trailOf_38 : decode cX3_trailOf 38 = .ok (.iconst 0, 1) := dk_3 (dk_at dksX3_trailOf_1 15 rfl rfl)
theorem dX3_trailOf_39 : decode cX3_trailOf 39 = .ok (.istore_n 3, 1) := dk_62 (dk_at dksX3_trailOf_1 16 rfl rfl)
theorem dX3_trailOf_40 : decode cX3_trailOf 40 = .ok (.iconst 1, 1) := dk_4 (dk_at dksX3_trailOf_1 17 rfl rfl)
theorem dX3_trailOf_41 : decode cX3_trailOf 41 = .ok (.istore 4, 2) := dk_54 4 (dk_at dksX3_trailOf_1 18 rfl rfl)
theorem dX3_trailOf_43 : decode cX3_trailOf 43 = .ok (.iload 4, 2) := dk_21 4 (dk_at dksX3_trailOf_1 20 rfl rfl)
theorem dX3_trailOf_45 : decode cX3_trailOf 45 = .ok (.iconst 1, 1) := dk_4 (dk_at dksX3_trailOf_1 22 rfl rfl)
theorem dX3_trailOf_46 : decode cX3_trailOf 46 = .ok (.iload_n 2, 1) := dk_28 (dk_at dksX3_trailOf_1 23 rfl rfl)
theorem dX3_trailOf_47 : decode cX3_trailOf 47 = .ok (.ishl, 1) := dk_120 (dk_at dksX3_trailOf_2 0 rfl rfl)
theorem dX3_trailOf_48 : decode cX3_trailOf 48 = .ok (.if_icmp .ge 49, 3) := dk_162 0 49 (dk_at dksX3_trailOf_2 1 rfl rfl)
theorem dX3_trailOf_51 : decode cX3_trailOf 51 = .ok (.iload 4, 2) := dk_21 4 (dk_at dksX3_trailOf_2 4 rfl rfl)
theorem dX3_trailOf_53 : decode cX3_trailOf 53 = .ok (.invokestatic 94, 3) := dk_184 0 94 (dk_at dksX3_trailOf_2 6 rfl rfl)
theorem dX3_trailOf_56 : decode cX3_trailOf 56 = .ok (.iload_n 3, 1) := dk_29 (dk_at dksX3_trailOf_2 9 rfl rfl)
theorem dX3_trailOf_57 : decode cX3_trailOf 57 = .ok (.if_icmp .le 34, 3) := dk_164 0 34 (dk_at dksX3_trailOf_2 10 rfl rfl)
theorem dX3_trailOf_60 : decode cX3_trailOf 60 = .ok (.aload_n 0, 1) := dk_42 (dk_at dksX3_trailOf_2 13 rfl rfl)
theorem dX3_trailOf_61 : decode cX3_trailOf 61 = .ok (.iload_n 1, 1) := dk_27 (dk_at dksX3_trailOf_2 14 rfl rfl)
theorem dX3_trailOf_62 : decode cX3_trailOf 62 = .ok (.iload 4, 2) := dk_21 4 (dk_at dksX3_trailOf_2 15 rfl rfl)
theorem dX3_trailOf_64 : decode cX3_trailOf 64 = .ok (.iload_n 2, 1) := dk_28 (dk_at dksX3_trailOf_2 17 rfl rfl)
theorem dX3_trailOf_65 : decode cX3_trailOf 65 = .ok (.invokevirtual 97, 3) := dk_182 0 97 (dk_at dksX3_trailOf_2 18 rfl rfl)
theorem dX3_trailOf_68 : decode cX3_trailOf 68 = .ok (.iconst 2, 1) := dk_5 (dk_at dksX3_trailOf_2 21 rfl rfl)
theorem dX3_trailOf_69 : decode cX3_trailOf 69 = .ok (.if_icmp .gt 22, 3) := dk_163 0 22 (dk_at dksX3_trailOf_3 0 rfl rfl)
theorem dX3_trailOf_72 : decode cX3_trailOf 72 = .ok (.aload_n 0, 1) := dk_42 (dk_at dksX3_trailOf_3 3 rfl rfl)
theorem dX3_trailOf_73 : decode cX3_trailOf 73 = .ok (.iload_n 1, 1) := dk_27 (dk_at dksX3_trailOf_3 4 rfl rfl)
theorem dX3_trailOf_74 : decode cX3_trailOf 74 = .ok (.iload 4, 2) := dk_21 4 (dk_at dksX3_trailOf_3 5 rfl rfl)
theorem dX3_trailOf_76 : decode cX3_trailOf 76 = .ok (.iload_n 2, 1) := dk_28 (dk_at dksX3_trailOf_3 7 rfl rfl)
theorem dX3_trailOf_77 : decode cX3_trailOf 77 = .ok (.invokevirtual 101, 3) := dk_182 0 101 (dk_at dksX3_trailOf_3 8 rfl rfl)
theorem dX3_trailOf_80 : decode cX3_trailOf 80 = .ok (.iload 4, 2) := dk_21 4 (dk_at dksX3_trailOf_3 11 rfl rfl)
theorem dX3_trailOf_82 : decode cX3_trailOf 82 = .ok (.if_icmp .ne 9, 3) := dk_160 0 9 (dk_at dksX3_trailOf_3 13 rfl rfl)
theorem dX3_trailOf_85 : decode cX3_trailOf 85 = .ok (.iload 4, 2) := dk_21 4 (dk_at dksX3_trailOf_3 16 rfl rfl)
theorem dX3_trailOf_87 : decode cX3_trailOf 87 = .ok (.invokestatic 94, 3) := dk_184 0 94 (dk_at dksX3_trailOf_3 18 rfl rfl)
theorem dX3_trailOf_90 : decode cX3_trailOf 90 = .ok (.istore_n 3, 1) := dk_62 (dk_at dksX3_trailOf_3 21 rfl rfl)
theorem dX3_trailOf_91 : decode cX3_trailOf 91 = .ok (.iinc 4 1, 3) := dk_132 4 1 (dk_at dksX3_trailOf_4 0 rfl rfl)
theorem dX3_trailOf_94 : decode cX3_trailOf 94 = .ok (.goto (-51), 3) := dk_167 255 205 (dk_at dksX3_trailOf_4 3 rfl rfl)
theorem dX3_trailOf_97 : decode cX3_trailOf 97 = .ok (.iload_n 3, 1) := dk_29 (dk_at dksX3_trailOf_4 6 rfl rfl)
theorem dX3_trailOf_98 : decode cX3_trailOf 98 = .ok (.ireturn, 1) := dk_172 (dk_at dksX3_trailOf_4 7 rfl rfl)
abbrev cX3_ones : ByteArray := prog_12_method_27_code
def yX3_ones : MethodName := ⟨RX3, "ones", "(I)I"⟩
def dkwX3_ones_1 : List UInt8 := [27, 172]
abbrev dktX3_ones_1 : List UInt8 := dkwX3_ones_1 ++ []
def dkwX3_ones_0 : List UInt8 := [3, 60, 3, 61, 28, 16, 8, 162, 0, 17, 27, 26, 28, 122, 4, 126, 96, 60, 132, 2, 1, 167, 255, 239]
abbrev dktX3_ones_0 : List UInt8 := dkwX3_ones_0 ++ dktX3_ones_1
theorem dksX3_ones_0 : cX3_ones.data.toList.drop 0 = dktX3_ones_0 := by decide +kernel
theorem dksX3_ones_1 : cX3_ones.data.toList.drop 24 = dktX3_ones_1 := dk_seg dksX3_ones_0 24 rfl rfl
theorem dX3_ones_0 : decode cX3_ones 0 = .ok (.iconst 0, 1) := dk_3 (dk_at dksX3_ones_0 0 rfl rfl)
theorem dX3_ones_1 : decode cX3_ones 1 = .ok (.istore_n 1, 1) := dk_60 (dk_at dksX3_ones_0 1 rfl rfl)
theorem dX3_ones_2 : decode cX3_ones 2 = .ok (.iconst 0, 1) := dk_3 (dk_at dksX3_ones_0 2 rfl rfl)
theorem dX3_ones_3 : decode cX3_ones 3 = .ok (.istore_n 2, 1) := dk_61 (dk_at dksX3_ones_0 3 rfl rfl)
theorem dX3_ones_4 : decode cX3_ones 4 = .ok (.iload_n 2, 1) := dk_28 (dk_at dksX3_ones_0 4 rfl rfl)
theorem dX3_ones_5 : decode cX3_ones 5 = .ok (.bipush 8, 2) := dk_16 8 (dk_at dksX3_ones_0 5 rfl rfl)
theorem dX3_ones_7 : decode cX3_ones 7 = .ok (.if_icmp .ge 17, 3) := dk_162 0 17 (dk_at dksX3_ones_0 7 rfl rfl)
theorem dX3_ones_10 : decode cX3_ones 10 = .ok (.iload_n 1, 1) := dk_27 (dk_at dksX3_ones_0 10 rfl rfl)
theorem dX3_ones_11 : decode cX3_ones 11 = .ok (.iload_n 0, 1) := dk_26 (dk_at dksX3_ones_0 11 rfl rfl)
theorem dX3_ones_12 : decode cX3_ones 12 = .ok (.iload_n 2, 1) := dk_28 (dk_at dksX3_ones_0 12 rfl rfl)
theorem dX3_ones_13 : decode cX3_ones 13 = .ok (.ishr, 1) := dk_122 (dk_at dksX3_ones_0 13 rfl rfl)
theorem dX3_ones_14 : decode cX3_ones 14 = .ok (.iconst 1, 1) := dk_4 (dk_at dksX3_ones_0 14 rfl rfl)
theorem dX3_ones_15 : decode cX3_ones 15 = .ok (.iand, 1) := dk_126 (dk_at dksX3_ones_0 15 rfl rfl)
theorem dX3_ones_16 : decode cX3_ones 16 = .ok (.iadd, 1) := dk_96 (dk_at dksX3_ones_0 16 rfl rfl)
theorem dX3_ones_17 : decode cX3_ones 17 = .ok (.istore_n 1, 1) := dk_60 (dk_at dksX3_ones_0 17 rfl rfl)
theorem dX3_ones_18 : decode cX3_ones 18 = .ok (.iinc 2 1, 3) := dk_132 2 1 (dk_at dksX3_ones_0 18 rfl rfl)
theorem dX3_ones_21 : decode cX3_ones 21 = .ok (.goto (-17), 3) := dk_167 255 239 (dk_at dksX3_ones_0 21 rfl rfl)
theorem dX3_ones_24 : decode cX3_ones 24 = .ok (.iload_n 1, 1) := dk_27 (dk_at dksX3_ones_1 0 rfl rfl)
theorem dX3_ones_25 : decode cX3_ones 25 = .ok (.ireturn, 1) := dk_172 (dk_at dksX3_ones_1 1 rfl rfl)
abbrev cX3_ends : ByteArray := prog_12_method_26_code
def yX3_ends : MethodName := ⟨RX3, "ends", "(III)I"⟩
def dkwX3_ends_5 : List UInt8 := [167, 255, 147, 21, 4, 172]
abbrev dktX3_ends_5 : List UInt8 := dkwX3_ends_5 ++ []
def dkwX3_ends_4 : List UInt8 := [21, 4, 21, 7, 153, 0, 8, 21, 6, 167, 0, 7, 21, 6, 5, 112, 96, 54, 4, 132, 5, 1]
abbrev dktX3_ends_4 : List UInt8 := dkwX3_ends_4 ++ dktX3_ends_5
def dkwX3_ends_3 : List UInt8 := [182, 0, 74, 2, 159, 0, 17, 42, 21, 5, 182, 0, 74, 27, 159, 0, 7, 4, 167, 0, 4, 3, 54, 7]
abbrev dktX3_ends_3 : List UInt8 := dkwX3_ends_3 ++ dktX3_ends_4
def dkwX3_ends_2 : List UInt8 := [184, 0, 70, 153, 0, 7, 4, 167, 0, 4, 3, 96, 54, 6, 132, 7, 1, 167, 255, 212, 42, 21, 5]
abbrev dktX3_ends_2 : List UInt8 := dkwX3_ends_2 ++ dktX3_ends_3
def dkwX3_ends_1 : List UInt8 := [162, 0, 44, 21, 6, 28, 21, 7, 122, 4, 126, 4, 160, 0, 22, 42, 180, 0, 50, 21, 7, 46, 21, 5]
abbrev dktX3_ends_1 : List UInt8 := dkwX3_ends_1 ++ dktX3_ends_2
def dkwX3_ends_0 : List UInt8 := [3, 54, 4, 3, 54, 5, 21, 5, 16, 24, 162, 0, 108, 3, 54, 6, 3, 54, 7, 21, 7, 29]
abbrev dktX3_ends_0 : List UInt8 := dkwX3_ends_0 ++ dktX3_ends_1
theorem dksX3_ends_0 : cX3_ends.data.toList.drop 0 = dktX3_ends_0 := by decide +kernel
theorem dksX3_ends_1 : cX3_ends.data.toList.drop 22 = dktX3_ends_1 := dk_seg dksX3_ends_0 22 rfl rfl
theorem dksX3_ends_2 : cX3_ends.data.toList.drop 46 = dktX3_ends_2 := dk_seg dksX3_ends_1 24 rfl rfl
theorem dksX3_ends_3 : cX3_ends.data.toList.drop 69 = dktX3_ends_3 := dk_seg dksX3_ends_2 23 rfl rfl
theorem dksX3_ends_4 : cX3_ends.data.toList.drop 93 = dktX3_ends_4 := dk_seg dksX3_ends_3 24 rfl rfl
theorem dksX3_ends_5 : cX3_ends.data.toList.drop 115 = dktX3_ends_5 := dk_seg dksX3_ends_4 22 rfl rfl
theorem dX3_ends_0 : decode cX3_ends 0 = .ok (.iconst 0, 1) := dk_3 (dk_at dksX3_ends_0 0 rfl rfl)
theorem dX3_ends_1 : decode cX3_ends 1 = .ok (.istore 4, 2) := dk_54 4 (dk_at dksX3_ends_0 1 rfl rfl)
theorem dX3_ends_3 : decode cX3_ends 3 = .ok (.iconst 0, 1) := dk_3 (dk_at dksX3_ends_0 3 rfl rfl)
theorem dX3_ends_4 : decode cX3_ends 4 = .ok (.istore 5, 2) := dk_54 5 (dk_at dksX3_ends_0 4 rfl rfl)
theorem dX3_ends_6 : decode cX3_ends 6 = .ok (.iload 5, 2) := dk_21 5 (dk_at dksX3_ends_0 6 rfl rfl)
theorem dX3_ends_8 : decode cX3_ends 8 = .ok (.bipush 24, 2) := dk_16 24 (dk_at dksX3_ends_0 8 rfl rfl)
theorem dX3_ends_10 : decode cX3_ends 10 = .ok (.if_icmp .ge 108, 3) := dk_162 0 108 (dk_at dksX3_ends_0 10 rfl rfl)
theorem dX3_ends_13 : decode cX3_ends 13 = .ok (.iconst 0, 1) := dk_3 (dk_at dksX3_ends_0 13 rfl rfl)
theorem dX3_ends_14 : decode cX3_ends 14 = .ok (.istore 6, 2) := dk_54 6 (dk_at dksX3_ends_0 14 rfl rfl)
theorem dX3_ends_16 : decode cX3_ends 16 = .ok (.iconst 0, 1) := dk_3 (dk_at dksX3_ends_0 16 rfl rfl)
theorem dX3_ends_17 : decode cX3_ends 17 = .ok (.istore 7, 2) := dk_54 7 (dk_at dksX3_ends_0 17 rfl rfl)
theorem dX3_ends_19 : decode cX3_ends 19 = .ok (.iload 7, 2) := dk_21 7 (dk_at dksX3_ends_0 19 rfl rfl)
theorem dX3_ends_21 : decode cX3_ends 21 = .ok (.iload_n 3, 1) := dk_29 (dk_at dksX3_ends_0 21 rfl rfl)
theorem dX3_ends_22 : decode cX3_ends 22 = .ok (.if_icmp .ge 44, 3) := dk_162 0 44 (dk_at dksX3_ends_1 0 rfl rfl)
theorem dX3_ends_25 : decode cX3_ends 25 = .ok (.iload 6, 2) := dk_21 6 (dk_at dksX3_ends_1 3 rfl rfl)
theorem dX3_ends_27 : decode cX3_ends 27 = .ok (.iload_n 2, 1) := dk_28 (dk_at dksX3_ends_1 5 rfl rfl)
theorem dX3_ends_28 : decode cX3_ends 28 = .ok (.iload 7, 2) := dk_21 7 (dk_at dksX3_ends_1 6 rfl rfl)
theorem dX3_ends_30 : decode cX3_ends 30 = .ok (.ishr, 1) := dk_122 (dk_at dksX3_ends_1 8 rfl rfl)
theorem dX3_ends_31 : decode cX3_ends 31 = .ok (.iconst 1, 1) := dk_4 (dk_at dksX3_ends_1 9 rfl rfl)
theorem dX3_ends_32 : decode cX3_ends 32 = .ok (.iand, 1) := dk_126 (dk_at dksX3_ends_1 10 rfl rfl)
theorem dX3_ends_33 : decode cX3_ends 33 = .ok (.iconst 1, 1) := dk_4 (dk_at dksX3_ends_1 11 rfl rfl)
theorem dX3_ends_34 : decode cX3_ends 34 = .ok (.if_icmp .ne 22, 3) := dk_160 0 22 (dk_at dksX3_ends_1 12 rfl rfl)
theorem dX3_ends_37 : decode cX3_ends 37 = .ok (.aload_n 0, 1) := dk_42 (dk_at dksX3_ends_1 15 rfl rfl)
theorem dX3_ends_38 : decode cX3_ends 38 = .ok (.getfield 50, 3) := dk_180 0 50 (dk_at dksX3_ends_1 16 rfl rfl)
theorem dX3_ends_41 : decode cX3_ends 41 = .ok (.iload 7, 2) := dk_21 7 (dk_at dksX3_ends_1 19 rfl rfl)
theorem dX3_ends_43 : decode cX3_ends 43 = .ok (.iaload, 1) := dk_46 (dk_at dksX3_ends_1 21 rfl rfl)
theorem dX3_ends_44 : decode cX3_ends 44 = .ok (.iload 5, 2) := dk_21 5 (dk_at dksX3_ends_1 22 rfl rfl)
theorem dX3_ends_46 : decode cX3_ends 46 = .ok (.invokestatic 70, 3) := dk_184 0 70 (dk_at dksX3_ends_2 0 rfl rfl)
theorem dX3_ends_49 : decode cX3_ends 49 = .ok (.ifCond .eq 7, 3) := dk_153 0 7 (dk_at dksX3_ends_2 3 rfl rfl)
theorem dX3_ends_52 : decode cX3_ends 52 = .ok (.iconst 1, 1) := dk_4 (dk_at dksX3_ends_2 6 rfl rfl)
theorem dX3_ends_53 : decode cX3_ends 53 = .ok (.goto 4, 3) := dk_167 0 4 (dk_at dksX3_ends_2 7 rfl rfl)
theorem dX3_ends_56 : decode cX3_ends 56 = .ok (.iconst 0, 1) := dk_3 (dk_at dksX3_ends_2 10 rfl rfl)
theorem dX3_ends_57 : decode cX3_ends 57 = .ok (.iadd, 1) := dk_96 (dk_at dksX3_ends_2 11 rfl rfl)
theorem dX3_ends_58 : decode cX3_ends 58 = .ok (.istore 6, 2) := dk_54 6 (dk_at dksX3_ends_2 12 rfl rfl)
theorem dX3_ends_60 : decode cX3_ends 60 = .ok (.iinc 7 1, 3) := dk_132 7 1 (dk_at dksX3_ends_2 14 rfl rfl)
theorem dX3_ends_63 : decode cX3_ends 63 = .ok (.goto (-44), 3) := dk_167 255 212 (dk_at dksX3_ends_2 17 rfl rfl)
theorem dX3_ends_66 : decode cX3_ends 66 = .ok (.aload_n 0, 1) := dk_42 (dk_at dksX3_ends_2 20 rfl rfl)
theorem dX3_ends_67 : decode cX3_ends 67 = .ok (.iload 5, 2) := dk_21 5 (dk_at dksX3_ends_2 21 rfl rfl)
theorem dX3_ends_69 : decode cX3_ends 69 = .ok (.invokevirtual 74, 3) := dk_182 0 74 (dk_at dksX3_ends_3 0 rfl rfl)
theorem dX3_ends_72 : decode cX3_ends 72 = .ok (.iconst (-1), 1) := dk_2 (dk_at dksX3_ends_3 3 rfl rfl)
theorem dX3_ends_73 : decode cX3_ends 73 = .ok (.if_icmp .eq 17, 3) := dk_159 0 17 (dk_at dksX3_ends_3 4 rfl rfl)
theorem dX3_ends_76 : decode cX3_ends 76 = .ok (.aload_n 0, 1) := dk_42 (dk_at dksX3_ends_3 7 rfl rfl)
theorem dX3_ends_77 : decode cX3_ends 77 = .ok (.iload 5, 2) := dk_21 5 (dk_at dksX3_ends_3 8 rfl rfl)
theorem dX3_ends_79 : decode cX3_ends 79 = .ok (.invokevirtual 74, 3) := dk_182 0 74 (dk_at dksX3_ends_3 10 rfl rfl)
theorem dX3_ends_82 : decode cX3_ends 82 = .ok (.iload_n 1, 1) := dk_27 (dk_at dksX3_ends_3 13 rfl rfl)
theorem dX3_ends_83 : decode cX3_ends 83 = .ok (.if_icmp .eq 7, 3) := dk_159 0 7 (dk_at dksX3_ends_3 14 rfl rfl)
theorem dX3_ends_86 : decode cX3_ends 86 = .ok (.iconst 1, 1) := dk_4 (dk_at dksX3_ends_3 17 rfl rfl)
theorem dX3_ends_87 : decode cX3_ends 87 = .ok (.goto 4, 3) := dk_167 0 4 (dk_at dksX3_ends_3 18 rfl rfl)
theorem dX3_ends_90 : decode cX3_ends 90 = .ok (.iconst 0, 1) := dk_3 (dk_at dksX3_ends_3 21 rfl rfl)
theorem dX3_ends_91 : decode cX3_ends 91 = .ok (.istore 7, 2) := dk_54 7 (dk_at dksX3_ends_3 22 rfl rfl)
theorem dX3_ends_93 : decode cX3_ends 93 = .ok (.iload 4, 2) := dk_21 4 (dk_at dksX3_ends_4 0 rfl rfl)
theorem dX3_ends_95 : decode cX3_ends 95 = .ok (.iload 7, 2) := dk_21 7 (dk_at dksX3_ends_4 2 rfl rfl)
theorem dX3_ends_97 : decode cX3_ends 97 = .ok (.ifCond .eq 8, 3) := dk_153 0 8 (dk_at dksX3_ends_4 4 rfl rfl)
theorem dX3_ends_100 : decode cX3_ends 100 = .ok (.iload 6, 2) := dk_21 6 (dk_at dksX3_ends_4 7 rfl rfl)
theorem dX3_ends_102 : decode cX3_ends 102 = .ok (.goto 7, 3) := dk_167 0 7 (dk_at dksX3_ends_4 9 rfl rfl)
theorem dX3_ends_105 : decode cX3_ends 105 = .ok (.iload 6, 2) := dk_21 6 (dk_at dksX3_ends_4 12 rfl rfl)
theorem dX3_ends_107 : decode cX3_ends 107 = .ok (.iconst 2, 1) := dk_5 (dk_at dksX3_ends_4 14 rfl rfl)
theorem dX3_ends_108 : decode cX3_ends 108 = .ok (.irem, 1) := dk_112 (dk_at dksX3_ends_4 15 rfl rfl)
theorem dX3_ends_109 : decode cX3_ends 109 = .ok (.iadd, 1) := dk_96 (dk_at dksX3_ends_4 16 rfl rfl)
theorem dX3_ends_110 : decode cX3_ends 110 = .ok (.istore 4, 2) := dk_54 4 (dk_at dksX3_ends_4 17 rfl rfl)
theorem dX3_ends_112 : decode cX3_ends 112 = .ok (.iinc 5 1, 3) := dk_132 5 1 (dk_at dksX3_ends_4 19 rfl rfl)
theorem dX3_ends_115 : decode cX3_ends 115 = .ok (.goto (-109), 3) := dk_167 255 147 (dk_at dksX3_ends_5 0 rfl rfl)
theorem dX3_ends_118 : decode cX3_ends 118 = .ok (.iload 4, 2) := dk_21 4 (dk_at dksX3_ends_5 3 rfl rfl)
theorem dX3_ends_120 : decode cX3_ends 120 = .ok (.ireturn, 1) := dk_172 (dk_at dksX3_ends_5 5 rfl rfl)
abbrev cX3_ownerAt : ByteArray := prog_12_method_16_code
def yX3_ownerAt : MethodName := ⟨RX3, "ownerAt", "(I)I"⟩
def dkwX3_ownerAt_0 : List UInt8 := [42, 180, 0, 19, 27, 46, 154, 0, 7, 2, 167, 0, 13, 42, 180, 0, 19, 27, 46, 4, 100, 6, 112, 172]
abbrev dktX3_ownerAt_0 : List UInt8 := dkwX3_ownerAt_0 ++ []
theorem dksX3_ownerAt_0 : cX3_ownerAt.data.toList.drop 0 = dktX3_ownerAt_0 := by decide +kernel
theorem dX3_ownerAt_0 : decode cX3_ownerAt 0 = .ok (.aload_n 0, 1) := dk_42 (dk_at dksX3_ownerAt_0 0 rfl rfl)
theorem dX3_ownerAt_1 : decode cX3_ownerAt 1 = .ok (.getfield 19, 3) := dk_180 0 19 (dk_at dksX3_ownerAt_0 1 rfl rfl)
theorem dX3_ownerAt_4 : decode cX3_ownerAt 4 = .ok (.iload_n 1, 1) := dk_27 (dk_at dksX3_ownerAt_0 4 rfl rfl)
theorem dX3_ownerAt_5 : decode cX3_ownerAt 5 = .ok (.iaload, 1) := dk_46 (dk_at dksX3_ownerAt_0 5 rfl rfl)
theorem dX3_ownerAt_6 : decode cX3_ownerAt 6 = .ok (.ifCond .ne 7, 3) := dk_154 0 7 (dk_at dksX3_ownerAt_0 6 rfl rfl)
theorem dX3_ownerAt_9 : decode cX3_ownerAt 9 = .ok (.iconst (-1), 1) := dk_2 (dk_at dksX3_ownerAt_0 9 rfl rfl)
theorem dX3_ownerAt_10 : decode cX3_ownerAt 10 = .ok (.goto 13, 3) := dk_167 0 13 (dk_at dksX3_ownerAt_0 10 rfl rfl)
theorem dX3_ownerAt_13 : decode cX3_ownerAt 13 = .ok (.aload_n 0, 1) := dk_42 (dk_at dksX3_ownerAt_0 13 rfl rfl)
theorem dX3_ownerAt_14 : decode cX3_ownerAt 14 = .ok (.getfield 19, 3) := dk_180 0 19 (dk_at dksX3_ownerAt_0 14 rfl rfl)
theorem dX3_ownerAt_17 : decode cX3_ownerAt 17 = .ok (.iload_n 1, 1) := dk_27 (dk_at dksX3_ownerAt_0 17 rfl rfl)
theorem dX3_ownerAt_18 : decode cX3_ownerAt 18 = .ok (.iaload, 1) := dk_46 (dk_at dksX3_ownerAt_0 18 rfl rfl)
theorem dX3_ownerAt_19 : decode cX3_ownerAt 19 = .ok (.iconst 1, 1) := dk_4 (dk_at dksX3_ownerAt_0 19 rfl rfl)
theorem dX3_ownerAt_20 : decode cX3_ownerAt 20 = .ok (.isub, 1) := dk_100 (dk_at dksX3_ownerAt_0 20 rfl rfl)
theorem dX3_ownerAt_21 : decode cX3_ownerAt 21 = .ok (.iconst 3, 1) := dk_6 (dk_at dksX3_ownerAt_0 21 rfl rfl)
theorem dX3_ownerAt_22 : decode cX3_ownerAt 22 = .ok (.irem, 1) := dk_112 (dk_at dksX3_ownerAt_0 22 rfl rfl)
theorem dX3_ownerAt_23 : decode cX3_ownerAt 23 = .ok (.ireturn, 1) := dk_172 (dk_at dksX3_ownerAt_0 23 rfl rfl)
abbrev cX3_spread : ByteArray := prog_12_method_25_code
def yX3_spread : MethodName := ⟨RX3, "spread", "(III)I"⟩
def dkwX3_spread_5 : List UInt8 := [167, 255, 148, 21, 4, 172]
abbrev dktX3_spread_5 : List UInt8 := dkwX3_spread_5 ++ []
def dkwX3_spread_4 : List UInt8 := [21, 4, 21, 9, 153, 0, 10, 4, 21, 8, 120, 167, 0, 4, 3, 128, 54, 4, 132, 6, 1, 167, 255, 165]
abbrev dktX3_spread_4 : List UInt8 := dkwX3_spread_4 ++ dktX3_spread_5
def dkwX3_spread_3 : List UInt8 := [21, 7, 46, 42, 180, 0, 50, 21, 8, 46, 182, 0, 91, 153, 0, 7, 4, 167, 0, 4, 3, 54, 9]
abbrev dktX3_spread_3 : List UInt8 := dkwX3_spread_3 ++ dktX3_spread_4
def dkwX3_spread_2 : List UInt8 := [122, 4, 126, 4, 160, 0, 39, 28, 21, 8, 122, 4, 126, 4, 160, 0, 29, 42, 27, 42, 180, 0, 50]
abbrev dktX3_spread_2 : List UInt8 := dkwX3_spread_2 ++ dktX3_spread_3
def dkwX3_spread_1 : List UInt8 := [21, 6, 29, 29, 104, 162, 0, 89, 21, 6, 29, 108, 54, 7, 21, 6, 29, 112, 54, 8, 21, 4, 21, 7]
abbrev dktX3_spread_1 : List UInt8 := dkwX3_spread_1 ++ dktX3_spread_2
def dkwX3_spread_0 : List UInt8 := [28, 28, 116, 126, 54, 4, 3, 54, 5, 21, 5, 21, 4, 159, 0, 107, 21, 4, 54, 5, 3, 54, 6]
abbrev dktX3_spread_0 : List UInt8 := dkwX3_spread_0 ++ dktX3_spread_1
theorem dksX3_spread_0 : cX3_spread.data.toList.drop 0 = dktX3_spread_0 := by decide +kernel
theorem dksX3_spread_1 : cX3_spread.data.toList.drop 23 = dktX3_spread_1 := dk_seg dksX3_spread_0 23 rfl rfl
theorem dksX3_spread_2 : cX3_spread.data.toList.drop 47 = dktX3_spread_2 := dk_seg dksX3_spread_1 24 rfl rfl
theorem dksX3_spread_3 : cX3_spread.data.toList.drop 70 = dktX3_spread_3 := dk_seg dksX3_spread_2 23 rfl rfl
theorem dksX3_spread_4 : cX3_spread.data.toList.drop 93 = dktX3_spread_4 := dk_seg dksX3_spread_3 23 rfl rfl
theorem dksX3_spread_5 : cX3_spread.data.toList.drop 117 = dktX3_spread_5 := dk_seg dksX3_spread_4 24 rfl rfl
theorem dX3_spread_0 : decode cX3_spread 0 = .ok (.iload_n 2, 1) := dk_28 (dk_at dksX3_spread_0 0 rfl rfl)
theorem dX3_spread_1 : decode cX3_spread 1 = .ok (.iload_n 2, 1) := dk_28 (dk_at dksX3_spread_0 1 rfl rfl)
theorem dX3_spread_2 : decode cX3_spread 2 = .ok (.ineg, 1) := dk_116 (dk_at dksX3_spread_0 2 rfl rfl)
theorem dX3_spread_3 : decode cX3_spread 3 = .ok (.iand, 1) := dk_126 (dk_at dksX3_spread_0 3 rfl rfl)
theorem dX3_spread_4 : decode cX3_spread 4 = .ok (.istore 4, 2) := dk_54 4 (dk_at dksX3_spread_0 4 rfl rfl)
theorem dX3_spread_6 : decode cX3_spread 6 = .ok (.iconst 0, 1) := dk_3 (dk_at dksX3_spread_0 6 rfl rfl)
theorem dX3_spread_7 : decode cX3_spread 7 = .ok (.istore 5, 2) := dk_54 5 (dk_at dksX3_spread_0 7 rfl rfl)
theorem dX3_spread_9 : decode cX3_spread 9 = .ok (.iload 5, 2) := dk_21 5 (dk_at dksX3_spread_0 9 rfl rfl)
theorem dX3_spread_11 : decode cX3_spread 11 = .ok (.iload 4, 2) := dk_21 4 (dk_at dksX3_spread_0 11 rfl rfl)
theorem dX3_spread_13 : decode cX3_spread 13 = .ok (.if_icmp .eq 107, 3) := dk_159 0 107 (dk_at dksX3_spread_0 13 rfl rfl)
theorem dX3_spread_16 : decode cX3_spread 16 = .ok (.iload 4, 2) := dk_21 4 (dk_at dksX3_spread_0 16 rfl rfl)
theorem dX3_spread_18 : decode cX3_spread 18 = .ok (.istore 5, 2) := dk_54 5 (dk_at dksX3_spread_0 18 rfl rfl)
theorem dX3_spread_20 : decode cX3_spread 20 = .ok (.iconst 0, 1) := dk_3 (dk_at dksX3_spread_0 20 rfl rfl)
theorem dX3_spread_21 : decode cX3_spread 21 = .ok (.istore 6, 2) := dk_54 6 (dk_at dksX3_spread_0 21 rfl rfl)
theorem dX3_spread_23 : decode cX3_spread 23 = .ok (.iload 6, 2) := dk_21 6 (dk_at dksX3_spread_1 0 rfl rfl)
theorem dX3_spread_25 : decode cX3_spread 25 = .ok (.iload_n 3, 1) := dk_29 (dk_at dksX3_spread_1 2 rfl rfl)
theorem dX3_spread_26 : decode cX3_spread 26 = .ok (.iload_n 3, 1) := dk_29 (dk_at dksX3_spread_1 3 rfl rfl)
theorem dX3_spread_27 : decode cX3_spread 27 = .ok (.imul, 1) := dk_104 (dk_at dksX3_spread_1 4 rfl rfl)
theorem dX3_spread_28 : decode cX3_spread 28 = .ok (.if_icmp .ge 89, 3) := dk_162 0 89 (dk_at dksX3_spread_1 5 rfl rfl)
theorem dX3_spread_31 : decode cX3_spread 31 = .ok (.iload 6, 2) := dk_21 6 (dk_at dksX3_spread_1 8 rfl rfl)
theorem dX3_spread_33 : decode cX3_spread 33 = .ok (.iload_n 3, 1) := dk_29 (dk_at dksX3_spread_1 10 rfl rfl)
theorem dX3_spread_34 : decode cX3_spread 34 = .ok (.idiv, 1) := dk_108 (dk_at dksX3_spread_1 11 rfl rfl)
theorem dX3_spread_35 : decode cX3_spread 35 = .ok (.istore 7, 2) := dk_54 7 (dk_at dksX3_spread_1 12 rfl rfl)
theorem dX3_spread_37 : decode cX3_spread 37 = .ok (.iload 6, 2) := dk_21 6 (dk_at dksX3_spread_1 14 rfl rfl)
theorem dX3_spread_39 : decode cX3_spread 39 = .ok (.iload_n 3, 1) := dk_29 (dk_at dksX3_spread_1 16 rfl rfl)
theorem dX3_spread_40 : decode cX3_spread 40 = .ok (.irem, 1) := dk_112 (dk_at dksX3_spread_1 17 rfl rfl)
theorem dX3_spread_41 : decode cX3_spread 41 = .ok (.istore 8, 2) := dk_54 8 (dk_at dksX3_spread_1 18 rfl rfl)
theorem dX3_spread_43 : decode cX3_spread 43 = .ok (.iload 4, 2) := dk_21 4 (dk_at dksX3_spread_1 20 rfl rfl)
theorem dX3_spread_45 : decode cX3_spread 45 = .ok (.iload 7, 2) := dk_21 7 (dk_at dksX3_spread_1 22 rfl rfl)
theorem dX3_spread_47 : decode cX3_spread 47 = .ok (.ishr, 1) := dk_122 (dk_at dksX3_spread_2 0 rfl rfl)
theorem dX3_spread_48 : decode cX3_spread 48 = .ok (.iconst 1, 1) := dk_4 (dk_at dksX3_spread_2 1 rfl rfl)
theorem dX3_spread_49 : decode cX3_spread 49 = .ok (.iand, 1) := dk_126 (dk_at dksX3_spread_2 2 rfl rfl)
theorem dX3_spread_50 : decode cX3_spread 50 = .ok (.iconst 1, 1) := dk_4 (dk_at dksX3_spread_2 3 rfl rfl)
theorem dX3_spread_51 : decode cX3_spread 51 = .ok (.if_icmp .ne 39, 3) := dk_160 0 39 (dk_at dksX3_spread_2 4 rfl rfl)
theorem dX3_spread_54 : decode cX3_spread 54 = .ok (.iload_n 2, 1) := dk_28 (dk_at dksX3_spread_2 7 rfl rfl)
theorem dX3_spread_55 : decode cX3_spread 55 = .ok (.iload 8, 2) := dk_21 8 (dk_at dksX3_spread_2 8 rfl rfl)
theorem dX3_spread_57 : decode cX3_spread 57 = .ok (.ishr, 1) := dk_122 (dk_at dksX3_spread_2 10 rfl rfl)
theorem dX3_spread_58 : decode cX3_spread 58 = .ok (.iconst 1, 1) := dk_4 (dk_at dksX3_spread_2 11 rfl rfl)
theorem dX3_spread_59 : decode cX3_spread 59 = .ok (.iand, 1) := dk_126 (dk_at dksX3_spread_2 12 rfl rfl)
theorem dX3_spread_60 : decode cX3_spread 60 = .ok (.iconst 1, 1) := dk_4 (dk_at dksX3_spread_2 13 rfl rfl)
theorem dX3_spread_61 : decode cX3_spread 61 = .ok (.if_icmp .ne 29, 3) := dk_160 0 29 (dk_at dksX3_spread_2 14 rfl rfl)
theorem dX3_spread_64 : decode cX3_spread 64 = .ok (.aload_n 0, 1) := dk_42 (dk_at dksX3_spread_2 17 rfl rfl)
theorem dX3_spread_65 : decode cX3_spread 65 = .ok (.iload_n 1, 1) := dk_27 (dk_at dksX3_spread_2 18 rfl rfl)
theorem dX3_spread_66 : decode cX3_spread 66 = .ok (.aload_n 0, 1) := dk_42 (dk_at dksX3_spread_2 19 rfl rfl)
theorem dX3_spread_67 : decode cX3_spread 67 = .ok (.getfield 50, 3) := dk_180 0 50 (dk_at dksX3_spread_2 20 rfl rfl)
theorem dX3_spread_70 : decode cX3_spread 70 = .ok (.iload 7, 2) := dk_21 7 (dk_at dksX3_spread_3 0 rfl rfl)
theorem dX3_spread_72 : decode cX3_spread 72 = .ok (.iaload, 1) := dk_46 (dk_at dksX3_spread_3 2 rfl rfl)
theorem dX3_spread_73 : decode cX3_spread 73 = .ok (.aload_n 0, 1) := dk_42 (dk_at dksX3_spread_3 3 rfl rfl)
theorem dX3_spread_74 : decode cX3_spread 74 = .ok (.getfield 50, 3) := dk_180 0 50 (dk_at dksX3_spread_3 4 rfl rfl)
theorem dX3_spread_77 : decode cX3_spread 77 = .ok (.iload 8, 2) := dk_21 8 (dk_at dksX3_spread_3 7 rfl rfl)
theorem dX3_spread_79 : decode cX3_spread 79 = .ok (.iaload, 1) := dk_46 (dk_at dksX3_spread_3 9 rfl rfl)
theorem dX3_spread_80 : decode cX3_spread 80 = .ok (.invokevirtual 91, 3) := dk_182 0 91 (dk_at dksX3_spread_3 10 rfl rfl)
theorem dX3_spread_83 : decode cX3_spread 83 = .ok (.ifCond .eq 7, 3) := dk_153 0 7 (dk_at dksX3_spread_3 13 rfl rfl)
theorem dX3_spread_86 : decode cX3_spread 86 = .ok (.iconst 1, 1) := dk_4 (dk_at dksX3_spread_3 16 rfl rfl)
theorem dX3_spread_87 : decode cX3_spread 87 = .ok (.goto 4, 3) := dk_167 0 4 (dk_at dksX3_spread_3 17 rfl rfl)
theorem dX3_spread_90 : decode cX3_spread 90 = .ok (.iconst 0, 1) := dk_3 (dk_at dksX3_spread_3 20 rfl rfl)
theorem dX3_spread_91 : decode cX3_spread 91 = .ok (.istore 9, 2) := dk_54 9 (dk_at dksX3_spread_3 21 rfl rfl)
theorem dX3_spread_93 : decode cX3_spread 93 = .ok (.iload 4, 2) := dk_21 4 (dk_at dksX3_spread_4 0 rfl rfl)
theorem dX3_spread_95 : decode cX3_spread 95 = .ok (.iload 9, 2) := dk_21 9 (dk_at dksX3_spread_4 2 rfl rfl)
theorem dX3_spread_97 : decode cX3_spread 97 = .ok (.ifCond .eq 10, 3) := dk_153 0 10 (dk_at dksX3_spread_4 4 rfl rfl)
theorem dX3_spread_100 : decode cX3_spread 100 = .ok (.iconst 1, 1) := dk_4 (dk_at dksX3_spread_4 7 rfl rfl)
theorem dX3_spread_101 : decode cX3_spread 101 = .ok (.iload 8, 2) := dk_21 8 (dk_at dksX3_spread_4 8 rfl rfl)
theorem dX3_spread_103 : decode cX3_spread 103 = .ok (.ishl, 1) := dk_120 (dk_at dksX3_spread_4 10 rfl rfl)
theorem dX3_spread_104 : decode cX3_spread 104 = .ok (.goto 4, 3) := dk_167 0 4 (dk_at dksX3_spread_4 11 rfl rfl)
theorem dX3_spread_107 : decode cX3_spread 107 = .ok (.iconst 0, 1) := dk_3 (dk_at dksX3_spread_4 14 rfl rfl)
theorem dX3_spread_108 : decode cX3_spread 108 = .ok (.ior, 1) := dk_128 (dk_at dksX3_spread_4 15 rfl rfl)
theorem dX3_spread_109 : decode cX3_spread 109 = .ok (.istore 4, 2) := dk_54 4 (dk_at dksX3_spread_4 16 rfl rfl)
theorem dX3_spread_111 : decode cX3_spread 111 = .ok (.iinc 6 1, 3) := dk_132 6 1 (dk_at dksX3_spread_4 18 rfl rfl)
theorem dX3_spread_114 : decode cX3_spread 114 = .ok (.goto (-91), 3) := dk_167 255 165 (dk_at dksX3_spread_4 21 rfl rfl)
theorem dX3_spread_117 : decode cX3_spread 117 = .ok (.goto (-108), 3) := dk_167 255 148 (dk_at dksX3_spread_5 0 rfl rfl)
theorem dX3_spread_120 : decode cX3_spread 120 = .ok (.iload 4, 2) := dk_21 4 (dk_at dksX3_spread_5 3 rfl rfl)
theorem dX3_spread_122 : decode cX3_spread 122 = .ok (.ireturn, 1) := dk_172 (dk_at dksX3_spread_5 5 rfl rfl)
abbrev cX3_meet : ByteArray := prog_12_method_24_code
def yX3_meet : MethodName := ⟨RX3, "meet", "(III)Z"⟩
def dkwX3_meet_3 : List UInt8 := [172]
abbrev dktX3_meet_3 : List UInt8 := dkwX3_meet_3 ++ []
def dkwX3_meet_2 : List UInt8 := [21, 4, 182, 0, 74, 2, 159, 0, 13, 42, 21, 4, 182, 0, 74, 27, 160, 0, 7, 4, 167, 0, 4, 3]
abbrev dktX3_meet_2 : List UInt8 := dkwX3_meet_2 ++ dktX3_meet_3
def dkwX3_meet_1 : List UInt8 := [184, 0, 70, 153, 0, 10, 28, 184, 0, 67, 167, 0, 4, 2, 54, 4, 21, 4, 2, 159, 0, 27, 42]
abbrev dktX3_meet_1 : List UInt8 := dkwX3_meet_1 ++ dktX3_meet_2
def dkwX3_meet_0 : List UInt8 := [29, 28, 184, 0, 63, 184, 0, 70, 153, 0, 10, 28, 184, 0, 63, 167, 0, 22, 29, 28, 184, 0, 67]
abbrev dktX3_meet_0 : List UInt8 := dkwX3_meet_0 ++ dktX3_meet_1
theorem dksX3_meet_0 : cX3_meet.data.toList.drop 0 = dktX3_meet_0 := by decide +kernel
theorem dksX3_meet_1 : cX3_meet.data.toList.drop 23 = dktX3_meet_1 := dk_seg dksX3_meet_0 23 rfl rfl
theorem dksX3_meet_2 : cX3_meet.data.toList.drop 46 = dktX3_meet_2 := dk_seg dksX3_meet_1 23 rfl rfl
theorem dksX3_meet_3 : cX3_meet.data.toList.drop 70 = dktX3_meet_3 := dk_seg dksX3_meet_2 24 rfl rfl
theorem dX3_meet_0 : decode cX3_meet 0 = .ok (.iload_n 3, 1) := dk_29 (dk_at dksX3_meet_0 0 rfl rfl)
theorem dX3_meet_1 : decode cX3_meet 1 = .ok (.iload_n 2, 1) := dk_28 (dk_at dksX3_meet_0 1 rfl rfl)
theorem dX3_meet_2 : decode cX3_meet 2 = .ok (.invokestatic 63, 3) := dk_184 0 63 (dk_at dksX3_meet_0 2 rfl rfl)
theorem dX3_meet_5 : decode cX3_meet 5 = .ok (.invokestatic 70, 3) := dk_184 0 70 (dk_at dksX3_meet_0 5 rfl rfl)
theorem dX3_meet_8 : decode cX3_meet 8 = .ok (.ifCond .eq 10, 3) := dk_153 0 10 (dk_at dksX3_meet_0 8 rfl rfl)
theorem dX3_meet_11 : decode cX3_meet 11 = .ok (.iload_n 2, 1) := dk_28 (dk_at dksX3_meet_0 11 rfl rfl)
theorem dX3_meet_12 : decode cX3_meet 12 = .ok (.invokestatic 63, 3) := dk_184 0 63 (dk_at dksX3_meet_0 12 rfl rfl)
theorem dX3_meet_15 : decode cX3_meet 15 = .ok (.goto 22, 3) := dk_167 0 22 (dk_at dksX3_meet_0 15 rfl rfl)
theorem dX3_meet_18 : decode cX3_meet 18 = .ok (.iload_n 3, 1) := dk_29 (dk_at dksX3_meet_0 18 rfl rfl)
theorem dX3_meet_19 : decode cX3_meet 19 = .ok (.iload_n 2, 1) := dk_28 (dk_at dksX3_meet_0 19 rfl rfl)
theorem dX3_meet_20 : decode cX3_meet 20 = .ok (.invokestatic 67, 3) := dk_184 0 67 (dk_at dksX3_meet_0 20 rfl rfl)
theorem dX3_meet_23 : decode cX3_meet 23 = .ok (.invokestatic 70, 3) := dk_184 0 70 (dk_at dksX3_meet_1 0 rfl rfl)
theorem dX3_meet_26 : decode cX3_meet 26 = .ok (.ifCond .eq 10, 3) := dk_153 0 10 (dk_at dksX3_meet_1 3 rfl rfl)
theorem dX3_meet_29 : decode cX3_meet 29 = .ok (.iload_n 2, 1) := dk_28 (dk_at dksX3_meet_1 6 rfl rfl)
theorem dX3_meet_30 : decode cX3_meet 30 = .ok (.invokestatic 67, 3) := dk_184 0 67 (dk_at dksX3_meet_1 7 rfl rfl)
theorem dX3_meet_33 : decode cX3_meet 33 = .ok (.goto 4, 3) := dk_167 0 4 (dk_at dksX3_meet_1 10 rfl rfl)
theorem dX3_meet_36 : decode cX3_meet 36 = .ok (.iconst (-1), 1) := dk_2 (dk_at dksX3_meet_1 13 rfl rfl)
theorem dX3_meet_37 : decode cX3_meet 37 = .ok (.istore 4, 2) := dk_54 4 (dk_at dksX3_meet_1 14 rfl rfl)
theorem dX3_meet_39 : decode cX3_meet 39 = .ok (.iload 4, 2) := dk_21 4 (dk_at dksX3_meet_1 16 rfl rfl)
theorem dX3_meet_41 : decode cX3_meet 41 = .ok (.iconst (-1), 1) := dk_2 (dk_at dksX3_meet_1 18 rfl rfl)
theorem dX3_meet_42 : decode cX3_meet 42 = .ok (.if_icmp .eq 27, 3) := dk_159 0 27 (dk_at dksX3_meet_1 19 rfl rfl)
theorem dX3_meet_45 : decode cX3_meet 45 = .ok (.aload_n 0, 1) := dk_42 (dk_at dksX3_meet_1 22 rfl rfl)
theorem dX3_meet_46 : decode cX3_meet 46 = .ok (.iload 4, 2) := dk_21 4 (dk_at dksX3_meet_2 0 rfl rfl)
theorem dX3_meet_48 : decode cX3_meet 48 = .ok (.invokevirtual 74, 3) := dk_182 0 74 (dk_at dksX3_meet_2 2 rfl rfl)
theorem dX3_meet_51 : decode cX3_meet 51 = .ok (.iconst (-1), 1) := dk_2 (dk_at dksX3_meet_2 5 rfl rfl)
theorem dX3_meet_52 : decode cX3_meet 52 = .ok (.if_icmp .eq 13, 3) := dk_159 0 13 (dk_at dksX3_meet_2 6 rfl rfl)
theorem dX3_meet_55 : decode cX3_meet 55 = .ok (.aload_n 0, 1) := dk_42 (dk_at dksX3_meet_2 9 rfl rfl)
theorem dX3_meet_56 : decode cX3_meet 56 = .ok (.iload 4, 2) := dk_21 4 (dk_at dksX3_meet_2 10 rfl rfl)
theorem dX3_meet_58 : decode cX3_meet 58 = .ok (.invokevirtual 74, 3) := dk_182 0 74 (dk_at dksX3_meet_2 12 rfl rfl)
theorem dX3_meet_61 : decode cX3_meet 61 = .ok (.iload_n 1, 1) := dk_27 (dk_at dksX3_meet_2 15 rfl rfl)
theorem dX3_meet_62 : decode cX3_meet 62 = .ok (.if_icmp .ne 7, 3) := dk_160 0 7 (dk_at dksX3_meet_2 16 rfl rfl)
theorem dX3_meet_65 : decode cX3_meet 65 = .ok (.iconst 1, 1) := dk_4 (dk_at dksX3_meet_2 19 rfl rfl)
theorem dX3_meet_66 : decode cX3_meet 66 = .ok (.goto 4, 3) := dk_167 0 4 (dk_at dksX3_meet_2 20 rfl rfl)
theorem dX3_meet_69 : decode cX3_meet 69 = .ok (.iconst 0, 1) := dk_3 (dk_at dksX3_meet_2 23 rfl rfl)
theorem dX3_meet_70 : decode cX3_meet 70 = .ok (.ireturn, 1) := dk_172 (dk_at dksX3_meet_3 0 rfl rfl)
abbrev cX3_deal : ByteArray := prog_12_method_40_code
def yX3_deal : MethodName := ⟨RX3, "deal", "(II)I"⟩
def dkwX3_deal_2 : List UInt8 := [8, 160, 0, 9, 42, 6, 182, 0, 149, 172, 42, 6, 27, 28, 182, 0, 172, 42, 27, 182, 0, 175, 172]
abbrev dktX3_deal_2 : List UInt8 := dkwX3_deal_2 ++ []
def dkwX3_deal_1 : List UInt8 := [182, 0, 149, 172, 42, 180, 0, 165, 154, 0, 20, 42, 6, 28, 182, 0, 169, 153, 0, 11, 42, 180, 0, 115]
abbrev dktX3_deal_1 : List UInt8 := dkwX3_deal_1 ++ dktX3_deal_2
def dkwX3_deal_0 : List UInt8 := [42, 27, 184, 0, 159, 182, 0, 127, 154, 0, 5, 3, 172, 28, 184, 0, 162, 154, 0, 9, 42, 5]
abbrev dktX3_deal_0 : List UInt8 := dkwX3_deal_0 ++ dktX3_deal_1
theorem dksX3_deal_0 : cX3_deal.data.toList.drop 0 = dktX3_deal_0 := by decide +kernel
theorem dksX3_deal_1 : cX3_deal.data.toList.drop 22 = dktX3_deal_1 := dk_seg dksX3_deal_0 22 rfl rfl
theorem dksX3_deal_2 : cX3_deal.data.toList.drop 46 = dktX3_deal_2 := dk_seg dksX3_deal_1 24 rfl rfl
theorem dX3_deal_0 : decode cX3_deal 0 = .ok (.aload_n 0, 1) := dk_42 (dk_at dksX3_deal_0 0 rfl rfl)
theorem dX3_deal_1 : decode cX3_deal 1 = .ok (.iload_n 1, 1) := dk_27 (dk_at dksX3_deal_0 1 rfl rfl)
theorem dX3_deal_2 : decode cX3_deal 2 = .ok (.invokestatic 159, 3) := dk_184 0 159 (dk_at dksX3_deal_0 2 rfl rfl)
theorem dX3_deal_5 : decode cX3_deal 5 = .ok (.invokevirtual 127, 3) := dk_182 0 127 (dk_at dksX3_deal_0 5 rfl rfl)
theorem dX3_deal_8 : decode cX3_deal 8 = .ok (.ifCond .ne 5, 3) := dk_154 0 5 (dk_at dksX3_deal_0 8 rfl rfl)
theorem dX3_deal_11 : decode cX3_deal 11 = .ok (.iconst 0, 1) := dk_3 (dk_at dksX3_deal_0 11 rfl rfl)
theorem dX3_deal_12 : decode cX3_deal 12 = .ok (.ireturn, 1) := dk_172 (dk_at dksX3_deal_0 12 rfl rfl)
theorem dX3_deal_13 : decode cX3_deal 13 = .ok (.iload_n 2, 1) := dk_28 (dk_at dksX3_deal_0 13 rfl rfl)
theorem dX3_deal_14 : decode cX3_deal 14 = .ok (.invokestatic 162, 3) := dk_184 0 162 (dk_at dksX3_deal_0 14 rfl rfl)
theorem dX3_deal_17 : decode cX3_deal 17 = .ok (.ifCond .ne 9, 3) := dk_154 0 9 (dk_at dksX3_deal_0 17 rfl rfl)
theorem dX3_deal_20 : decode cX3_deal 20 = .ok (.aload_n 0, 1) := dk_42 (dk_at dksX3_deal_0 20 rfl rfl)
theorem dX3_deal_21 : decode cX3_deal 21 = .ok (.iconst 2, 1) := dk_5 (dk_at dksX3_deal_0 21 rfl rfl)
theorem dX3_deal_22 : decode cX3_deal 22 = .ok (.invokevirtual 149, 3) := dk_182 0 149 (dk_at dksX3_deal_1 0 rfl rfl)
theorem dX3_deal_25 : decode cX3_deal 25 = .ok (.ireturn, 1) := dk_172 (dk_at dksX3_deal_1 3 rfl rfl)
theorem dX3_deal_26 : decode cX3_deal 26 = .ok (.aload_n 0, 1) := dk_42 (dk_at dksX3_deal_1 4 rfl rfl)
theorem dX3_deal_27 : decode cX3_deal 27 = .ok (.getfield 165, 3) := dk_180 0 165 (dk_at dksX3_deal_1 5 rfl rfl)
theorem dX3_deal_30 : decode cX3_deal 30 = .ok (.ifCond .ne 20, 3) := dk_154 0 20 (dk_at dksX3_deal_1 8 rfl rfl)
theorem dX3_deal_33 : decode cX3_deal 33 = .ok (.aload_n 0, 1) := dk_42 (dk_at dksX3_deal_1 11 rfl rfl)
theorem dX3_deal_34 : decode cX3_deal 34 = .ok (.iconst 3, 1) := dk_6 (dk_at dksX3_deal_1 12 rfl rfl)
theorem dX3_deal_35 : decode cX3_deal 35 = .ok (.iload_n 2, 1) := dk_28 (dk_at dksX3_deal_1 13 rfl rfl)
theorem dX3_deal_36 : decode cX3_deal 36 = .ok (.invokevirtual 169, 3) := dk_182 0 169 (dk_at dksX3_deal_1 14 rfl rfl)
theorem dX3_deal_39 : decode cX3_deal 39 = .ok (.ifCond .eq 11, 3) := dk_153 0 11 (dk_at dksX3_deal_1 17 rfl rfl)
theorem dX3_deal_42 : decode cX3_deal 42 = .ok (.aload_n 0, 1) := dk_42 (dk_at dksX3_deal_1 20 rfl rfl)
theorem dX3_deal_43 : decode cX3_deal 43 = .ok (.getfield 115, 3) := dk_180 0 115 (dk_at dksX3_deal_1 21 rfl rfl)
theorem dX3_deal_46 : decode cX3_deal 46 = .ok (.iconst 5, 1) := dk_8 (dk_at dksX3_deal_2 0 rfl rfl)
theorem dX3_deal_47 : decode cX3_deal 47 = .ok (.if_icmp .ne 9, 3) := dk_160 0 9 (dk_at dksX3_deal_2 1 rfl rfl)
theorem dX3_deal_50 : decode cX3_deal 50 = .ok (.aload_n 0, 1) := dk_42 (dk_at dksX3_deal_2 4 rfl rfl)
theorem dX3_deal_51 : decode cX3_deal 51 = .ok (.iconst 3, 1) := dk_6 (dk_at dksX3_deal_2 5 rfl rfl)
theorem dX3_deal_52 : decode cX3_deal 52 = .ok (.invokevirtual 149, 3) := dk_182 0 149 (dk_at dksX3_deal_2 6 rfl rfl)
theorem dX3_deal_55 : decode cX3_deal 55 = .ok (.ireturn, 1) := dk_172 (dk_at dksX3_deal_2 9 rfl rfl)
theorem dX3_deal_56 : decode cX3_deal 56 = .ok (.aload_n 0, 1) := dk_42 (dk_at dksX3_deal_2 10 rfl rfl)
theorem dX3_deal_57 : decode cX3_deal 57 = .ok (.iconst 3, 1) := dk_6 (dk_at dksX3_deal_2 11 rfl rfl)
theorem dX3_deal_58 : decode cX3_deal 58 = .ok (.iload_n 1, 1) := dk_27 (dk_at dksX3_deal_2 12 rfl rfl)
theorem dX3_deal_59 : decode cX3_deal 59 = .ok (.iload_n 2, 1) := dk_28 (dk_at dksX3_deal_2 13 rfl rfl)
theorem dX3_deal_60 : decode cX3_deal 60 = .ok (.invokevirtual 172, 3) := dk_182 0 172 (dk_at dksX3_deal_2 14 rfl rfl)
theorem dX3_deal_63 : decode cX3_deal 63 = .ok (.aload_n 0, 1) := dk_42 (dk_at dksX3_deal_2 17 rfl rfl)
theorem dX3_deal_64 : decode cX3_deal 64 = .ok (.iload_n 1, 1) := dk_27 (dk_at dksX3_deal_2 18 rfl rfl)
theorem dX3_deal_65 : decode cX3_deal 65 = .ok (.invokevirtual 175, 3) := dk_182 0 175 (dk_at dksX3_deal_2 19 rfl rfl)
theorem dX3_deal_68 : decode cX3_deal 68 = .ok (.ireturn, 1) := dk_172 (dk_at dksX3_deal_2 22 rfl rfl)
abbrev cX3_isPlayer : ByteArray := prog_12_method_6_code
def yX3_isPlayer : MethodName := ⟨RX3, "isPlayer", "(I)Z"⟩
def dkwX3_isPlayer_0 : List UInt8 := [26, 155, 0, 12, 26, 6, 162, 0, 7, 4, 167, 0, 4, 3, 172]
abbrev dktX3_isPlayer_0 : List UInt8 := dkwX3_isPlayer_0 ++ []
theorem dksX3_isPlayer_0 : cX3_isPlayer.data.toList.drop 0 = dktX3_isPlayer_0 := by decide +kernel
theorem dX3_isPlayer_0 : decode cX3_isPlayer 0 = .ok (.iload_n 0, 1) := dk_26 (dk_at dksX3_isPlayer_0 0 rfl rfl)
theorem dX3_isPlayer_1 : decode cX3_isPlayer 1 = .ok (.ifCond .lt 12, 3) := dk_155 0 12 (dk_at dksX3_isPlayer_0 1 rfl rfl)
theorem dX3_isPlayer_4 : decode cX3_isPlayer 4 = .ok (.iload_n 0, 1) := dk_26 (dk_at dksX3_isPlayer_0 4 rfl rfl)
theorem dX3_isPlayer_5 : decode cX3_isPlayer 5 = .ok (.iconst 3, 1) := dk_6 (dk_at dksX3_isPlayer_0 5 rfl rfl)
theorem dX3_isPlayer_6 : decode cX3_isPlayer 6 = .ok (.if_icmp .ge 7, 3) := dk_162 0 7 (dk_at dksX3_isPlayer_0 6 rfl rfl)
theorem dX3_isPlayer_9 : decode cX3_isPlayer 9 = .ok (.iconst 1, 1) := dk_4 (dk_at dksX3_isPlayer_0 9 rfl rfl)
theorem dX3_isPlayer_10 : decode cX3_isPlayer 10 = .ok (.goto 4, 3) := dk_167 0 4 (dk_at dksX3_isPlayer_0 10 rfl rfl)
theorem dX3_isPlayer_13 : decode cX3_isPlayer 13 = .ok (.iconst 0, 1) := dk_3 (dk_at dksX3_isPlayer_0 13 rfl rfl)
theorem dX3_isPlayer_14 : decode cX3_isPlayer 14 = .ok (.ireturn, 1) := dk_172 (dk_at dksX3_isPlayer_0 14 rfl rfl)
abbrev cX3_areGoods : ByteArray := prog_12_method_11_code
def yX3_areGoods : MethodName := ⟨RX3, "areGoods", "(I)Z"⟩
def dkwX3_areGoods_0 : List UInt8 := [26, 155, 0, 13, 26, 18, 62, 163, 0, 7, 4, 167, 0, 4, 3, 172]
abbrev dktX3_areGoods_0 : List UInt8 := dkwX3_areGoods_0 ++ []
theorem dksX3_areGoods_0 : cX3_areGoods.data.toList.drop 0 = dktX3_areGoods_0 := by decide +kernel
theorem dX3_areGoods_0 : decode cX3_areGoods 0 = .ok (.iload_n 0, 1) := dk_26 (dk_at dksX3_areGoods_0 0 rfl rfl)
theorem dX3_areGoods_1 : decode cX3_areGoods 1 = .ok (.ifCond .lt 13, 3) := dk_155 0 13 (dk_at dksX3_areGoods_0 1 rfl rfl)
theorem dX3_areGoods_4 : decode cX3_areGoods 4 = .ok (.iload_n 0, 1) := dk_26 (dk_at dksX3_areGoods_0 4 rfl rfl)
theorem dX3_areGoods_5 : decode cX3_areGoods 5 = .ok (.ldc 62, 2) := dk_18 62 (dk_at dksX3_areGoods_0 5 rfl rfl)
theorem dX3_areGoods_7 : decode cX3_areGoods 7 = .ok (.if_icmp .gt 7, 3) := dk_163 0 7 (dk_at dksX3_areGoods_0 7 rfl rfl)
theorem dX3_areGoods_10 : decode cX3_areGoods 10 = .ok (.iconst 1, 1) := dk_4 (dk_at dksX3_areGoods_0 10 rfl rfl)
theorem dX3_areGoods_11 : decode cX3_areGoods 11 = .ok (.goto 4, 3) := dk_167 0 4 (dk_at dksX3_areGoods_0 11 rfl rfl)
theorem dX3_areGoods_14 : decode cX3_areGoods 14 = .ok (.iconst 0, 1) := dk_3 (dk_at dksX3_areGoods_0 14 rfl rfl)
theorem dX3_areGoods_15 : decode cX3_areGoods 15 = .ok (.ireturn, 1) := dk_172 (dk_at dksX3_areGoods_0 15 rfl rfl)
abbrev cX3_hasAll : ByteArray := prog_12_method_31_code
def yX3_hasAll : MethodName := ⟨RX3, "hasAll", "(II)Z"⟩
def dkwX3_hasAll_2 : List UInt8 := [172]
abbrev dktX3_hasAll_2 : List UInt8 := dkwX3_hasAll_2 ++ []
def dkwX3_hasAll_1 : List UInt8 := [96, 46, 28, 21, 4, 184, 0, 107, 161, 0, 7, 4, 167, 0, 4, 3, 62, 132, 4, 1, 167, 255, 217, 29]
abbrev dktX3_hasAll_1 : List UInt8 := dkwX3_hasAll_1 ++ dktX3_hasAll_2
def dkwX3_hasAll_0 : List UInt8 := [4, 62, 3, 54, 4, 21, 4, 8, 162, 0, 39, 29, 153, 0, 27, 42, 180, 0, 22, 8, 27, 104, 21, 4]
abbrev dktX3_hasAll_0 : List UInt8 := dkwX3_hasAll_0 ++ dktX3_hasAll_1
theorem dksX3_hasAll_0 : cX3_hasAll.data.toList.drop 0 = dktX3_hasAll_0 := by decide +kernel
theorem dksX3_hasAll_1 : cX3_hasAll.data.toList.drop 24 = dktX3_hasAll_1 := dk_seg dksX3_hasAll_0 24 rfl rfl
theorem dksX3_hasAll_2 : cX3_hasAll.data.toList.drop 48 = dktX3_hasAll_2 := dk_seg dksX3_hasAll_1 24 rfl rfl
theorem dX3_hasAll_0 : decode cX3_hasAll 0 = .ok (.iconst 1, 1) := dk_4 (dk_at dksX3_hasAll_0 0 rfl rfl)
theorem dX3_hasAll_1 : decode cX3_hasAll 1 = .ok (.istore_n 3, 1) := dk_62 (dk_at dksX3_hasAll_0 1 rfl rfl)
theorem dX3_hasAll_2 : decode cX3_hasAll 2 = .ok (.iconst 0, 1) := dk_3 (dk_at dksX3_hasAll_0 2 rfl rfl)
theorem dX3_hasAll_3 : decode cX3_hasAll 3 = .ok (.istore 4, 2) := dk_54 4 (dk_at dksX3_hasAll_0 3 rfl rfl)
theorem dX3_hasAll_5 : decode cX3_hasAll 5 = .ok (.iload 4, 2) := dk_21 4 (dk_at dksX3_hasAll_0 5 rfl rfl)
theorem dX3_hasAll_7 : decode cX3_hasAll 7 = .ok (.iconst 5, 1) := dk_8 (dk_at dksX3_hasAll_0 7 rfl rfl)
theorem dX3_hasAll_8 : decode cX3_hasAll 8 = .ok (.if_icmp .ge 39, 3) := dk_162 0 39 (dk_at dksX3_hasAll_0 8 rfl rfl)
theorem dX3_hasAll_11 : decode cX3_hasAll 11 = .ok (.iload_n 3, 1) := dk_29 (dk_at dksX3_hasAll_0 11 rfl rfl)
theorem dX3_hasAll_12 : decode cX3_hasAll 12 = .ok (.ifCond .eq 27, 3) := dk_153 0 27 (dk_at dksX3_hasAll_0 12 rfl rfl)
theorem dX3_hasAll_15 : decode cX3_hasAll 15 = .ok (.aload_n 0, 1) := dk_42 (dk_at dksX3_hasAll_0 15 rfl rfl)
theorem dX3_hasAll_16 : decode cX3_hasAll 16 = .ok (.getfield 22, 3) := dk_180 0 22 (dk_at dksX3_hasAll_0 16 rfl rfl)
theorem dX3_hasAll_19 : decode cX3_hasAll 19 = .ok (.iconst 5, 1) := dk_8 (dk_at dksX3_hasAll_0 19 rfl rfl)
theorem dX3_hasAll_20 : decode cX3_hasAll 20 = .ok (.iload_n 1, 1) := dk_27 (dk_at dksX3_hasAll_0 20 rfl rfl)
theorem dX3_hasAll_21 : decode cX3_hasAll 21 = .ok (.imul, 1) := dk_104 (dk_at dksX3_hasAll_0 21 rfl rfl)
theorem dX3_hasAll_22 : decode cX3_hasAll 22 = .ok (.iload 4, 2) := dk_21 4 (dk_at dksX3_hasAll_0 22 rfl rfl)
theorem dX3_hasAll_24 : decode cX3_hasAll 24 = .ok (.iadd, 1) := dk_96 (dk_at dksX3_hasAll_1 0 rfl rfl)
theorem dX3_hasAll_25 : decode cX3_hasAll 25 = .ok (.iaload, 1) := dk_46 (dk_at dksX3_hasAll_1 1 rfl rfl)
theorem dX3_hasAll_26 : decode cX3_hasAll 26 = .ok (.iload_n 2, 1) := dk_28 (dk_at dksX3_hasAll_1 2 rfl rfl)
theorem dX3_hasAll_27 : decode cX3_hasAll 27 = .ok (.iload 4, 2) := dk_21 4 (dk_at dksX3_hasAll_1 3 rfl rfl)
theorem dX3_hasAll_29 : decode cX3_hasAll 29 = .ok (.invokestatic 107, 3) := dk_184 0 107 (dk_at dksX3_hasAll_1 5 rfl rfl)
theorem dX3_hasAll_32 : decode cX3_hasAll 32 = .ok (.if_icmp .lt 7, 3) := dk_161 0 7 (dk_at dksX3_hasAll_1 8 rfl rfl)
theorem dX3_hasAll_35 : decode cX3_hasAll 35 = .ok (.iconst 1, 1) := dk_4 (dk_at dksX3_hasAll_1 11 rfl rfl)
theorem dX3_hasAll_36 : decode cX3_hasAll 36 = .ok (.goto 4, 3) := dk_167 0 4 (dk_at dksX3_hasAll_1 12 rfl rfl)
theorem dX3_hasAll_39 : decode cX3_hasAll 39 = .ok (.iconst 0, 1) := dk_3 (dk_at dksX3_hasAll_1 15 rfl rfl)
theorem dX3_hasAll_40 : decode cX3_hasAll 40 = .ok (.istore_n 3, 1) := dk_62 (dk_at dksX3_hasAll_1 16 rfl rfl)
theorem dX3_hasAll_41 : decode cX3_hasAll 41 = .ok (.iinc 4 1, 3) := dk_132 4 1 (dk_at dksX3_hasAll_1 17 rfl rfl)
theorem dX3_hasAll_44 : decode cX3_hasAll 44 = .ok (.goto (-39), 3) := dk_167 255 217 (dk_at dksX3_hasAll_1 20 rfl rfl)
theorem dX3_hasAll_47 : decode cX3_hasAll 47 = .ok (.iload_n 3, 1) := dk_29 (dk_at dksX3_hasAll_1 23 rfl rfl)
theorem dX3_hasAll_48 : decode cX3_hasAll 48 = .ok (.ireturn, 1) := dk_172 (dk_at dksX3_hasAll_2 0 rfl rfl)
abbrev cX3_digit : ByteArray := prog_12_method_30_code
def yX3_digit : MethodName := ⟨RX3, "digit", "(II)I"⟩
def dkwX3_digit_1 : List UInt8 := [172]
abbrev dktX3_digit_1 : List UInt8 := dkwX3_digit_1 ++ []
def dkwX3_digit_0 : List UInt8 := [26, 61, 3, 62, 29, 27, 162, 0, 14, 28, 16, 10, 108, 61, 132, 3, 1, 167, 255, 243, 28, 16, 10, 112]
abbrev dktX3_digit_0 : List UInt8 := dkwX3_digit_0 ++ dktX3_digit_1
theorem dksX3_digit_0 : cX3_digit.data.toList.drop 0 = dktX3_digit_0 := by decide +kernel
theorem dksX3_digit_1 : cX3_digit.data.toList.drop 24 = dktX3_digit_1 := dk_seg dksX3_digit_0 24 rfl rfl
theorem dX3_digit_0 : decode cX3_digit 0 = .ok (.iload_n 0, 1) := dk_26 (dk_at dksX3_digit_0 0 rfl rfl)
theorem dX3_digit_1 : decode cX3_digit 1 = .ok (.istore_n 2, 1) := dk_61 (dk_at dksX3_digit_0 1 rfl rfl)
theorem dX3_digit_2 : decode cX3_digit 2 = .ok (.iconst 0, 1) := dk_3 (dk_at dksX3_digit_0 2 rfl rfl)
theorem dX3_digit_3 : decode cX3_digit 3 = .ok (.istore_n 3, 1) := dk_62 (dk_at dksX3_digit_0 3 rfl rfl)
theorem dX3_digit_4 : decode cX3_digit 4 = .ok (.iload_n 3, 1) := dk_29 (dk_at dksX3_digit_0 4 rfl rfl)
theorem dX3_digit_5 : decode cX3_digit 5 = .ok (.iload_n 1, 1) := dk_27 (dk_at dksX3_digit_0 5 rfl rfl)
theorem dX3_digit_6 : decode cX3_digit 6 = .ok (.if_icmp .ge 14, 3) := dk_162 0 14 (dk_at dksX3_digit_0 6 rfl rfl)
theorem dX3_digit_9 : decode cX3_digit 9 = .ok (.iload_n 2, 1) := dk_28 (dk_at dksX3_digit_0 9 rfl rfl)
theorem dX3_digit_10 : decode cX3_digit 10 = .ok (.bipush 10, 2) := dk_16 10 (dk_at dksX3_digit_0 10 rfl rfl)
theorem dX3_digit_12 : decode cX3_digit 12 = .ok (.idiv, 1) := dk_108 (dk_at dksX3_digit_0 12 rfl rfl)
theorem dX3_digit_13 : decode cX3_digit 13 = .ok (.istore_n 2, 1) := dk_61 (dk_at dksX3_digit_0 13 rfl rfl)
theorem dX3_digit_14 : decode cX3_digit 14 = .ok (.iinc 3 1, 3) := dk_132 3 1 (dk_at dksX3_digit_0 14 rfl rfl)
theorem dX3_digit_17 : decode cX3_digit 17 = .ok (.goto (-13), 3) := dk_167 255 243 (dk_at dksX3_digit_0 17 rfl rfl)
theorem dX3_digit_20 : decode cX3_digit 20 = .ok (.iload_n 2, 1) := dk_28 (dk_at dksX3_digit_0 20 rfl rfl)
theorem dX3_digit_21 : decode cX3_digit 21 = .ok (.bipush 10, 2) := dk_16 10 (dk_at dksX3_digit_0 21 rfl rfl)
theorem dX3_digit_23 : decode cX3_digit 23 = .ok (.irem, 1) := dk_112 (dk_at dksX3_digit_0 23 rfl rfl)
theorem dX3_digit_24 : decode cX3_digit 24 = .ok (.ireturn, 1) := dk_172 (dk_at dksX3_digit_1 0 rfl rfl)
abbrev cX3_gives : ByteArray := prog_12_method_32_code
def yX3_gives : MethodName := ⟨RX3, "gives", "(III)V"⟩
def dkwX3_gives_2 : List UInt8 := [79, 132, 4, 1, 167, 255, 207, 177]
abbrev dktX3_gives_2 : List UInt8 := dkwX3_gives_2 ++ []
def dkwX3_gives_1 : List UInt8 := [184, 0, 107, 100, 79, 42, 180, 0, 22, 8, 28, 104, 21, 4, 96, 92, 46, 29, 21, 4, 184, 0, 107, 96]
abbrev dktX3_gives_1 : List UInt8 := dkwX3_gives_1 ++ dktX3_gives_2
def dkwX3_gives_0 : List UInt8 := [3, 54, 4, 21, 4, 8, 162, 0, 49, 42, 180, 0, 22, 8, 27, 104, 21, 4, 96, 92, 46, 29, 21, 4]
abbrev dktX3_gives_0 : List UInt8 := dkwX3_gives_0 ++ dktX3_gives_1
theorem dksX3_gives_0 : cX3_gives.data.toList.drop 0 = dktX3_gives_0 := by decide +kernel
theorem dksX3_gives_1 : cX3_gives.data.toList.drop 24 = dktX3_gives_1 := dk_seg dksX3_gives_0 24 rfl rfl
theorem dksX3_gives_2 : cX3_gives.data.toList.drop 48 = dktX3_gives_2 := dk_seg dksX3_gives_1 24 rfl rfl
theorem dX3_gives_0 : decode cX3_gives 0 = .ok (.iconst 0, 1) := dk_3 (dk_at dksX3_gives_0 0 rfl rfl)
theorem dX3_gives_1 : decode cX3_gives 1 = .ok (.istore 4, 2) := dk_54 4 (dk_at dksX3_gives_0 1 rfl rfl)
theorem dX3_gives_3 : decode cX3_gives 3 = .ok (.iload 4, 2) := dk_21 4 (dk_at dksX3_gives_0 3 rfl rfl)
theorem dX3_gives_5 : decode cX3_gives 5 = .ok (.iconst 5, 1) := dk_8 (dk_at dksX3_gives_0 5 rfl rfl)
theorem dX3_gives_6 : decode cX3_gives 6 = .ok (.if_icmp .ge 49, 3) := dk_162 0 49 (dk_at dksX3_gives_0 6 rfl rfl)
theorem dX3_gives_9 : decode cX3_gives 9 = .ok (.aload_n 0, 1) := dk_42 (dk_at dksX3_gives_0 9 rfl rfl)
theorem dX3_gives_10 : decode cX3_gives 10 = .ok (.getfield 22, 3) := dk_180 0 22 (dk_at dksX3_gives_0 10 rfl rfl)
theorem dX3_gives_13 : decode cX3_gives 13 = .ok (.iconst 5, 1) := dk_8 (dk_at dksX3_gives_0 13 rfl rfl)
theorem dX3_gives_14 : decode cX3_gives 14 = .ok (.iload_n 1, 1) := dk_27 (dk_at dksX3_gives_0 14 rfl rfl)
theorem dX3_gives_15 : decode cX3_gives 15 = .ok (.imul, 1) := dk_104 (dk_at dksX3_gives_0 15 rfl rfl)
theorem dX3_gives_16 : decode cX3_gives 16 = .ok (.iload 4, 2) := dk_21 4 (dk_at dksX3_gives_0 16 rfl rfl)
theorem dX3_gives_18 : decode cX3_gives 18 = .ok (.iadd, 1) := dk_96 (dk_at dksX3_gives_0 18 rfl rfl)
theorem dX3_gives_19 : decode cX3_gives 19 = .ok (.dup2, 1) := dk_92 (dk_at dksX3_gives_0 19 rfl rfl)
theorem dX3_gives_20 : decode cX3_gives 20 = .ok (.iaload, 1) := dk_46 (dk_at dksX3_gives_0 20 rfl rfl)
theorem dX3_gives_21 : decode cX3_gives 21 = .ok (.iload_n 3, 1) := dk_29 (dk_at dksX3_gives_0 21 rfl rfl)
theorem dX3_gives_22 : decode cX3_gives 22 = .ok (.iload 4, 2) := dk_21 4 (dk_at dksX3_gives_0 22 rfl rfl)
theorem dX3_gives_24 : decode cX3_gives 24 = .ok (.invokestatic 107, 3) := dk_184 0 107 (dk_at dksX3_gives_1 0 rfl rfl)
theorem dX3_gives_27 : decode cX3_gives 27 = .ok (.isub, 1) := dk_100 (dk_at dksX3_gives_1 3 rfl rfl)
theorem dX3_gives_28 : decode cX3_gives 28 = .ok (.iastore, 1) := dk_79 (dk_at dksX3_gives_1 4 rfl rfl)
theorem dX3_gives_29 : decode cX3_gives 29 = .ok (.aload_n 0, 1) := dk_42 (dk_at dksX3_gives_1 5 rfl rfl)
theorem dX3_gives_30 : decode cX3_gives 30 = .ok (.getfield 22, 3) := dk_180 0 22 (dk_at dksX3_gives_1 6 rfl rfl)
theorem dX3_gives_33 : decode cX3_gives 33 = .ok (.iconst 5, 1) := dk_8 (dk_at dksX3_gives_1 9 rfl rfl)
theorem dX3_gives_34 : decode cX3_gives 34 = .ok (.iload_n 2, 1) := dk_28 (dk_at dksX3_gives_1 10 rfl rfl)
theorem dX3_gives_35 : decode cX3_gives 35 = .ok (.imul, 1) := dk_104 (dk_at dksX3_gives_1 11 rfl rfl)
theorem dX3_gives_36 : decode cX3_gives 36 = .ok (.iload 4, 2) := dk_21 4 (dk_at dksX3_gives_1 12 rfl rfl)
theorem dX3_gives_38 : decode cX3_gives 38 = .ok (.iadd, 1) := dk_96 (dk_at dksX3_gives_1 14 rfl rfl)
theorem dX3_gives_39 : decode cX3_gives 39 = .ok (.dup2, 1) := dk_92 (dk_at dksX3_gives_1 15 rfl rfl)
theorem dX3_gives_40 : decode cX3_gives 40 = .ok (.iaload, 1) := dk_46 (dk_at dksX3_gives_1 16 rfl rfl)
theorem dX3_gives_41 : decode cX3_gives 41 = .ok (.iload_n 3, 1) := dk_29 (dk_at dksX3_gives_1 17 rfl rfl)
theorem dX3_gives_42 : decode cX3_gives 42 = .ok (.iload 4, 2) := dk_21 4 (dk_at dksX3_gives_1 18 rfl rfl)
theorem dX3_gives_44 : decode cX3_gives 44 = .ok (.invokestatic 107, 3) := dk_184 0 107 (dk_at dksX3_gives_1 20 rfl rfl)
theorem dX3_gives_47 : decode cX3_gives 47 = .ok (.iadd, 1) := dk_96 (dk_at dksX3_gives_1 23 rfl rfl)
theorem dX3_gives_48 : decode cX3_gives 48 = .ok (.iastore, 1) := dk_79 (dk_at dksX3_gives_2 0 rfl rfl)
theorem dX3_gives_49 : decode cX3_gives 49 = .ok (.iinc 4 1, 3) := dk_132 4 1 (dk_at dksX3_gives_2 1 rfl rfl)
theorem dX3_gives_52 : decode cX3_gives 52 = .ok (.goto (-49), 3) := dk_167 255 207 (dk_at dksX3_gives_2 4 rfl rfl)
theorem dX3_gives_55 : decode cX3_gives 55 = .ok (.return_, 1) := dk_177 (dk_at dksX3_gives_2 7 rfl rfl)
abbrev cX3_handOf : ByteArray := prog_12_method_33_code
def yX3_handOf : MethodName := ⟨RX3, "handOf", "(I)I"⟩
def dkwX3_handOf_1 : List UInt8 := [132, 3, 1, 167, 255, 235, 28, 172]
abbrev dktX3_handOf_1 : List UInt8 := dkwX3_handOf_1 ++ []
def dkwX3_handOf_0 : List UInt8 := [3, 61, 3, 62, 29, 8, 162, 0, 22, 28, 42, 180, 0, 22, 8, 27, 104, 29, 96, 46, 96, 61]
abbrev dktX3_handOf_0 : List UInt8 := dkwX3_handOf_0 ++ dktX3_handOf_1
theorem dksX3_handOf_0 : cX3_handOf.data.toList.drop 0 = dktX3_handOf_0 := by decide +kernel
theorem dksX3_handOf_1 : cX3_handOf.data.toList.drop 22 = dktX3_handOf_1 := dk_seg dksX3_handOf_0 22 rfl rfl
theorem dX3_handOf_0 : decode cX3_handOf 0 = .ok (.iconst 0, 1) := dk_3 (dk_at dksX3_handOf_0 0 rfl rfl)
theorem dX3_handOf_1 : decode cX3_handOf 1 = .ok (.istore_n 2, 1) := dk_61 (dk_at dksX3_handOf_0 1 rfl rfl)
theorem dX3_handOf_2 : decode cX3_handOf 2 = .ok (.iconst 0, 1) := dk_3 (dk_at dksX3_handOf_0 2 rfl rfl)
theorem dX3_handOf_3 : decode cX3_handOf 3 = .ok (.istore_n 3, 1) := dk_62 (dk_at dksX3_handOf_0 3 rfl rfl)
theorem dX3_handOf_4 : decode cX3_handOf 4 = .ok (.iload_n 3, 1) := dk_29 (dk_at dksX3_handOf_0 4 rfl rfl)
theorem dX3_handOf_5 : decode cX3_handOf 5 = .ok (.iconst 5, 1) := dk_8 (dk_at dksX3_handOf_0 5 rfl rfl)
theorem dX3_handOf_6 : decode cX3_handOf 6 = .ok (.if_icmp .ge 22, 3) := dk_162 0 22 (dk_at dksX3_handOf_0 6 rfl rfl)
theorem dX3_handOf_9 : decode cX3_handOf 9 = .ok (.iload_n 2, 1) := dk_28 (dk_at dksX3_handOf_0 9 rfl rfl)
theorem dX3_handOf_10 : decode cX3_handOf 10 = .ok (.aload_n 0, 1) := dk_42 (dk_at dksX3_handOf_0 10 rfl rfl)
theorem dX3_handOf_11 : decode cX3_handOf 11 = .ok (.getfield 22, 3) := dk_180 0 22 (dk_at dksX3_handOf_0 11 rfl rfl)
theorem dX3_handOf_14 : decode cX3_handOf 14 = .ok (.iconst 5, 1) := dk_8 (dk_at dksX3_handOf_0 14 rfl rfl)
theorem dX3_handOf_15 : decode cX3_handOf 15 = .ok (.iload_n 1, 1) := dk_27 (dk_at dksX3_handOf_0 15 rfl rfl)
theorem dX3_handOf_16 : decode cX3_handOf 16 = .ok (.imul, 1) := dk_104 (dk_at dksX3_handOf_0 16 rfl rfl)
theorem dX3_handOf_17 : decode cX3_handOf 17 = .ok (.iload_n 3, 1) := dk_29 (dk_at dksX3_handOf_0 17 rfl rfl)
theorem dX3_handOf_18 : decode cX3_handOf 18 = .ok (.iadd, 1) := dk_96 (dk_at dksX3_handOf_0 18 rfl rfl)
theorem dX3_handOf_19 : decode cX3_handOf 19 = .ok (.iaload, 1) := dk_46 (dk_at dksX3_handOf_0 19 rfl rfl)
theorem dX3_handOf_20 : decode cX3_handOf 20 = .ok (.iadd, 1) := dk_96 (dk_at dksX3_handOf_0 20 rfl rfl)
theorem dX3_handOf_21 : decode cX3_handOf 21 = .ok (.istore_n 2, 1) := dk_61 (dk_at dksX3_handOf_0 21 rfl rfl)
theorem dX3_handOf_22 : decode cX3_handOf 22 = .ok (.iinc 3 1, 3) := dk_132 3 1 (dk_at dksX3_handOf_1 0 rfl rfl)
theorem dX3_handOf_25 : decode cX3_handOf 25 = .ok (.goto (-21), 3) := dk_167 255 235 (dk_at dksX3_handOf_1 3 rfl rfl)
theorem dX3_handOf_28 : decode cX3_handOf 28 = .ok (.iload_n 2, 1) := dk_28 (dk_at dksX3_handOf_1 6 rfl rfl)
theorem dX3_handOf_29 : decode cX3_handOf 29 = .ok (.ireturn, 1) := dk_172 (dk_at dksX3_handOf_1 7 rfl rfl)
abbrev cX3_roll : ByteArray := prog_12_method_42_code
def yX3_roll : MethodName := ⟨RX3, "roll", "(II)I"⟩
def dkwX3_roll_9 : List UInt8 := [172]
abbrev dktX3_roll_9 : List UInt8 := dkwX3_roll_9 ++ []
def dkwX3_roll_8 : List UInt8 := [29, 8, 112, 96, 92, 46, 42, 180, 0, 56, 29, 46, 100, 79, 132, 3, 1, 167, 255, 212, 42, 180, 0, 115]
abbrev dktX3_roll_8 : List UInt8 := dkwX3_roll_8 ++ dktX3_roll_9
def dkwX3_roll_7 : List UInt8 := [162, 0, 44, 42, 180, 0, 22, 29, 92, 46, 42, 180, 0, 56, 29, 46, 96, 79, 42, 180, 0, 22, 16, 15]
abbrev dktX3_roll_7 : List UInt8 := dkwX3_roll_7 ++ dktX3_roll_8
def dkwX3_roll_6 : List UInt8 := [167, 0, 4, 7, 181, 0, 115, 42, 180, 0, 115, 172, 42, 27, 28, 96, 182, 0, 181, 3, 62, 29, 16, 15]
abbrev dktX3_roll_6 : List UInt8 := dkwX3_roll_6 ++ dktX3_roll_7
def dkwX3_roll_5 : List UInt8 := [21, 4, 46, 158, 0, 7, 4, 167, 0, 4, 3, 62, 132, 4, 1, 167, 255, 197, 42, 29, 153, 0, 7, 6]
abbrev dktX3_roll_5 : List UInt8 := dkwX3_roll_5 ++ dktX3_roll_6
def dkwX3_roll_4 : List UInt8 := [164, 0, 14, 42, 21, 4, 182, 0, 175, 5, 108, 167, 0, 4, 3, 79, 29, 154, 0, 13, 42, 180, 0, 25]
abbrev dktX3_roll_4 : List UInt8 := dkwX3_roll_4 ++ dktX3_roll_5
def dkwX3_roll_3 : List UInt8 := [3, 54, 4, 21, 4, 6, 162, 0, 59, 42, 180, 0, 25, 21, 4, 42, 21, 4, 182, 0, 175, 16, 7]
abbrev dktX3_roll_3 : List UInt8 := dkwX3_roll_3 ++ dktX3_roll_4
def dkwX3_roll_2 : List UInt8 := [182, 0, 149, 172, 42, 4, 181, 0, 165, 42, 5, 181, 0, 115, 27, 28, 96, 16, 7, 160, 0, 88, 3, 62]
abbrev dktX3_roll_2 : List UInt8 := dkwX3_roll_2 ++ dktX3_roll_3
def dkwX3_roll_1 : List UInt8 := [167, 0, 4, 3, 182, 0, 127, 154, 0, 5, 3, 172, 42, 180, 0, 115, 4, 159, 0, 9, 42, 5]
abbrev dktX3_roll_1 : List UInt8 := dkwX3_roll_1 ++ dktX3_roll_2
def dkwX3_roll_0 : List UInt8 := [42, 27, 4, 16, 6, 184, 0, 131, 153, 0, 17, 28, 4, 16, 6, 184, 0, 131, 153, 0, 7, 4]
abbrev dktX3_roll_0 : List UInt8 := dkwX3_roll_0 ++ dktX3_roll_1
theorem dksX3_roll_0 : cX3_roll.data.toList.drop 0 = dktX3_roll_0 := by decide +kernel
theorem dksX3_roll_1 : cX3_roll.data.toList.drop 22 = dktX3_roll_1 := dk_seg dksX3_roll_0 22 rfl rfl
theorem dksX3_roll_2 : cX3_roll.data.toList.drop 44 = dktX3_roll_2 := dk_seg dksX3_roll_1 22 rfl rfl
theorem dksX3_roll_3 : cX3_roll.data.toList.drop 68 = dktX3_roll_3 := dk_seg dksX3_roll_2 24 rfl rfl
theorem dksX3_roll_4 : cX3_roll.data.toList.drop 91 = dktX3_roll_4 := dk_seg dksX3_roll_3 23 rfl rfl
theorem dksX3_roll_5 : cX3_roll.data.toList.drop 115 = dktX3_roll_5 := dk_seg dksX3_roll_4 24 rfl rfl
theorem dksX3_roll_6 : cX3_roll.data.toList.drop 139 = dktX3_roll_6 := dk_seg dksX3_roll_5 24 rfl rfl
theorem dksX3_roll_7 : cX3_roll.data.toList.drop 163 = dktX3_roll_7 := dk_seg dksX3_roll_6 24 rfl rfl
theorem dksX3_roll_8 : cX3_roll.data.toList.drop 187 = dktX3_roll_8 := dk_seg dksX3_roll_7 24 rfl rfl
theorem dksX3_roll_9 : cX3_roll.data.toList.drop 211 = dktX3_roll_9 := dk_seg dksX3_roll_8 24 rfl rfl
theorem dX3_roll_0 : decode cX3_roll 0 = .ok (.aload_n 0, 1) := dk_42 (dk_at dksX3_roll_0 0 rfl rfl)
theorem dX3_roll_1 : decode cX3_roll 1 = .ok (.iload_n 1, 1) := dk_27 (dk_at dksX3_roll_0 1 rfl rfl)
theorem dX3_roll_2 : decode cX3_roll 2 = .ok (.iconst 1, 1) := dk_4 (dk_at dksX3_roll_0 2 rfl rfl)
theorem dX3_roll_3 : decode cX3_roll 3 = .ok (.bipush 6, 2) := dk_16 6 (dk_at dksX3_roll_0 3 rfl rfl)
theorem dX3_roll_5 : decode cX3_roll 5 = .ok (.invokestatic 131, 3) := dk_184 0 131 (dk_at dksX3_roll_0 5 rfl rfl)
theorem dX3_roll_8 : decode cX3_roll 8 = .ok (.ifCond .eq 17, 3) := dk_153 0 17 (dk_at dksX3_roll_0 8 rfl rfl)
theorem dX3_roll_11 : decode cX3_roll 11 = .ok (.iload_n 2, 1) := dk_28 (dk_at dksX3_roll_0 11 rfl rfl)
theorem dX3_roll_12 : decode cX3_roll 12 = .ok (.iconst 1, 1) := dk_4 (dk_at dksX3_roll_0 12 rfl rfl)
theorem dX3_roll_13 : decode cX3_roll 13 = .ok (.bipush 6, 2) := dk_16 6 (dk_at dksX3_roll_0 13 rfl rfl)
theorem dX3_roll_15 : decode cX3_roll 15 = .ok (.invokestatic 131, 3) := dk_184 0 131 (dk_at dksX3_roll_0 15 rfl rfl)
theorem dX3_roll_18 : decode cX3_roll 18 = .ok (.ifCond .eq 7, 3) := dk_153 0 7 (dk_at dksX3_roll_0 18 rfl rfl)
theorem dX3_roll_21 : decode cX3_roll 21 = .ok (.iconst 1, 1) := dk_4 (dk_at dksX3_roll_0 21 rfl rfl)
theorem dX3_roll_22 : decode cX3_roll 22 = .ok (.goto 4, 3) := dk_167 0 4 (dk_at dksX3_roll_1 0 rfl rfl)
theorem dX3_roll_25 : decode cX3_roll 25 = .ok (.iconst 0, 1) := dk_3 (dk_at dksX3_roll_1 3 rfl rfl)
theorem dX3_roll_26 : decode cX3_roll 26 = .ok (.invokevirtual 127, 3) := dk_182 0 127 (dk_at dksX3_roll_1 4 rfl rfl)
theorem dX3_roll_29 : decode cX3_roll 29 = .ok (.ifCond .ne 5, 3) := dk_154 0 5 (dk_at dksX3_roll_1 7 rfl rfl)
theorem dX3_roll_32 : decode cX3_roll 32 = .ok (.iconst 0, 1) := dk_3 (dk_at dksX3_roll_1 10 rfl rfl)
theorem dX3_roll_33 : decode cX3_roll 33 = .ok (.ireturn, 1) := dk_172 (dk_at dksX3_roll_1 11 rfl rfl)
theorem dX3_roll_34 : decode cX3_roll 34 = .ok (.aload_n 0, 1) := dk_42 (dk_at dksX3_roll_1 12 rfl rfl)
theorem dX3_roll_35 : decode cX3_roll 35 = .ok (.getfield 115, 3) := dk_180 0 115 (dk_at dksX3_roll_1 13 rfl rfl)
theorem dX3_roll_38 : decode cX3_roll 38 = .ok (.iconst 1, 1) := dk_4 (dk_at dksX3_roll_1 16 rfl rfl)
theorem dX3_roll_39 : decode cX3_roll 39 = .ok (.if_icmp .eq 9, 3) := dk_159 0 9 (dk_at dksX3_roll_1 17 rfl rfl)
theorem dX3_roll_42 : decode cX3_roll 42 = .ok (.aload_n 0, 1) := dk_42 (dk_at dksX3_roll_1 20 rfl rfl)
theorem dX3_roll_43 : decode cX3_roll 43 = .ok (.iconst 2, 1) := dk_5 (dk_at dksX3_roll_1 21 rfl rfl)
theorem dX3_roll_44 : decode cX3_roll 44 = .ok (.invokevirtual 149, 3) := dk_182 0 149 (dk_at dksX3_roll_2 0 rfl rfl)
theorem dX3_roll_47 : decode cX3_roll 47 = .ok (.ireturn, 1) := dk_172 (dk_at dksX3_roll_2 3 rfl rfl)
theorem dX3_roll_48 : decode cX3_roll 48 = .ok (.aload_n 0, 1) := dk_42 (dk_at dksX3_roll_2 4 rfl rfl)
theorem dX3_roll_49 : decode cX3_roll 49 = .ok (.iconst 1, 1) := dk_4 (dk_at dksX3_roll_2 5 rfl rfl)
theorem dX3_roll_50 : decode cX3_roll 50 = .ok (.putfield 165, 3) := dk_181 0 165 (dk_at dksX3_roll_2 6 rfl rfl)
theorem dX3_roll_53 : decode cX3_roll 53 = .ok (.aload_n 0, 1) := dk_42 (dk_at dksX3_roll_2 9 rfl rfl)
theorem dX3_roll_54 : decode cX3_roll 54 = .ok (.iconst 2, 1) := dk_5 (dk_at dksX3_roll_2 10 rfl rfl)
theorem dX3_roll_55 : decode cX3_roll 55 = .ok (.putfield 115, 3) := dk_181 0 115 (dk_at dksX3_roll_2 11 rfl rfl)
theorem dX3_roll_58 : decode cX3_roll 58 = .ok (.iload_n 1, 1) := dk_27 (dk_at dksX3_roll_2 14 rfl rfl)
theorem dX3_roll_59 : decode cX3_roll 59 = .ok (.iload_n 2, 1) := dk_28 (dk_at dksX3_roll_2 15 rfl rfl)
theorem dX3_roll_60 : decode cX3_roll 60 = .ok (.iadd, 1) := dk_96 (dk_at dksX3_roll_2 16 rfl rfl)
theorem dX3_roll_61 : decode cX3_roll 61 = .ok (.bipush 7, 2) := dk_16 7 (dk_at dksX3_roll_2 17 rfl rfl)
theorem dX3_roll_63 : decode cX3_roll 63 = .ok (.if_icmp .ne 88, 3) := dk_160 0 88 (dk_at dksX3_roll_2 19 rfl rfl)
theorem dX3_roll_66 : decode cX3_roll 66 = .ok (.iconst 0, 1) := dk_3 (dk_at dksX3_roll_2 22 rfl rfl)
theorem dX3_roll_67 : decode cX3_roll 67 = .ok (.istore_n 3, 1) := dk_62 (dk_at dksX3_roll_2 23 rfl rfl)
theorem dX3_roll_68 : decode cX3_roll 68 = .ok (.iconst 0, 1) := dk_3 (dk_at dksX3_roll_3 0 rfl rfl)
theorem dX3_roll_69 : decode cX3_roll 69 = .ok (.istore 4, 2) := dk_54 4 (dk_at dksX3_roll_3 1 rfl rfl)
theorem dX3_roll_71 : decode cX3_roll 71 = .ok (.iload 4, 2) := dk_21 4 (dk_at dksX3_roll_3 3 rfl rfl)
theorem dX3_roll_73 : decode cX3_roll 73 = .ok (.iconst 3, 1) := dk_6 (dk_at dksX3_roll_3 5 rfl rfl)
theorem dX3_roll_74 : decode cX3_roll 74 = .ok (.if_icmp .ge 59, 3) := dk_162 0 59 (dk_at dksX3_roll_3 6 rfl rfl)
theorem dX3_roll_77 : decode cX3_roll 77 = .ok (.aload_n 0, 1) := dk_42 (dk_at dksX3_roll_3 9 rfl rfl)
theorem dX3_roll_78 : decode cX3_roll 78 = .ok (.getfield 25, 3) := dk_180 0 25 (dk_at dksX3_roll_3 10 rfl rfl)
theorem dX3_roll_81 : decode cX3_roll 81 = .ok (.iload 4, 2) := dk_21 4 (dk_at dksX3_roll_3 13 rfl rfl)
theorem dX3_roll_83 : decode cX3_roll 83 = .ok (.aload_n 0, 1) := dk_42 (dk_at dksX3_roll_3 15 rfl rfl)
theorem dX3_roll_84 : decode cX3_roll 84 = .ok (.iload 4, 2) := dk_21 4 (dk_at dksX3_roll_3 16 rfl rfl)
theorem dX3_roll_86 : decode cX3_roll 86 = .ok (.invokevirtual 175, 3) := dk_182 0 175 (dk_at dksX3_roll_3 18 rfl rfl)
theorem dX3_roll_89 : decode cX3_roll 89 = .ok (.bipush 7, 2) := dk_16 7 (dk_at dksX3_roll_3 21 rfl rfl)
theorem dX3_roll_91 : decode cX3_roll 91 = .ok (.if_icmp .le 14, 3) := dk_164 0 14 (dk_at dksX3_roll_4 0 rfl rfl)
theorem dX3_roll_94 : decode cX3_roll 94 = .ok (.aload_n 0, 1) := dk_42 (dk_at dksX3_roll_4 3 rfl rfl)
theorem dX3_roll_95 : decode cX3_roll 95 = .ok (.iload 4, 2) := dk_21 4 (dk_at dksX3_roll_4 4 rfl rfl)
theorem dX3_roll_97 : decode cX3_roll 97 = .ok (.invokevirtual 175, 3) := dk_182 0 175 (dk_at dksX3_roll_4 6 rfl rfl)
theorem dX3_roll_100 : decode cX3_roll 100 = .ok (.iconst 2, 1) := dk_5 (dk_at dksX3_roll_4 9 rfl rfl)
theorem dX3_roll_101 : decode cX3_roll 101 = .ok (.idiv, 1) := dk_108 (dk_at dksX3_roll_4 10 rfl rfl)
theorem dX3_roll_102 : decode cX3_roll 102 = .ok (.goto 4, 3) := dk_167 0 4 (dk_at dksX3_roll_4 11 rfl rfl)
theorem dX3_roll_105 : decode cX3_roll 105 = .ok (.iconst 0, 1) := dk_3 (dk_at dksX3_roll_4 14 rfl rfl)
theorem dX3_roll_106 : decode cX3_roll 106 = .ok (.iastore, 1) := dk_79 (dk_at dksX3_roll_4 15 rfl rfl)
theorem dX3_roll_107 : decode cX3_roll 107 = .ok (.iload_n 3, 1) := dk_29 (dk_at dksX3_roll_4 16 rfl rfl)
theorem dX3_roll_108 : decode cX3_roll 108 = .ok (.ifCond .ne 13, 3) := dk_154 0 13 (dk_at dksX3_roll_4 17 rfl rfl)
theorem dX3_roll_111 : decode cX3_roll 111 = .ok (.aload_n 0, 1) := dk_42 (dk_at dksX3_roll_4 20 rfl rfl)
theorem dX3_roll_112 : decode cX3_roll 112 = .ok (.getfield 25, 3) := dk_180 0 25 (dk_at dksX3_roll_4 21 rfl rfl)
theorem dX3_roll_115 : decode cX3_roll 115 = .ok (.iload 4, 2) := dk_21 4 (dk_at dksX3_roll_5 0 rfl rfl)
theorem dX3_roll_117 : decode cX3_roll 117 = .ok (.iaload, 1) := dk_46 (dk_at dksX3_roll_5 2 rfl rfl)
theorem dX3_roll_118 : decode cX3_roll 118 = .ok (.ifCond .le 7, 3) := dk_158 0 7 (dk_at dksX3_roll_5 3 rfl rfl)
theorem dX3_roll_121 : decode cX3_roll 121 = .ok (.iconst 1, 1) := dk_4 (dk_at dksX3_roll_5 6 rfl rfl)
theorem dX3_roll_122 : decode cX3_roll 122 = .ok (.goto 4, 3) := dk_167 0 4 (dk_at dksX3_roll_5 7 rfl rfl)
theorem dX3_roll_125 : decode cX3_roll 125 = .ok (.iconst 0, 1) := dk_3 (dk_at dksX3_roll_5 10 rfl rfl)
theorem dX3_roll_126 : decode cX3_roll 126 = .ok (.istore_n 3, 1) := dk_62 (dk_at dksX3_roll_5 11 rfl rfl)
theorem dX3_roll_127 : decode cX3_roll 127 = .ok (.iinc 4 1, 3) := dk_132 4 1 (dk_at dksX3_roll_5 12 rfl rfl)
theorem dX3_roll_130 : decode cX3_roll 130 = .ok (.goto (-59), 3) := dk_167 255 197 (dk_at dksX3_roll_5 15 rfl rfl)
theorem dX3_roll_133 : decode cX3_roll 133 = .ok (.aload_n 0, 1) := dk_42 (dk_at dksX3_roll_5 18 rfl rfl)
theorem dX3_roll_134 : decode cX3_roll 134 = .ok (.iload_n 3, 1) := dk_29 (dk_at dksX3_roll_5 19 rfl rfl)
theorem dX3_roll_135 : decode cX3_roll 135 = .ok (.ifCond .eq 7, 3) := dk_153 0 7 (dk_at dksX3_roll_5 20 rfl rfl)
theorem dX3_roll_138 : decode cX3_roll 138 = .ok (.iconst 3, 1) := dk_6 (dk_at dksX3_roll_5 23 rfl rfl)
theorem dX3_roll_139 : decode cX3_roll 139 = .ok (.goto 4, 3) := dk_167 0 4 (dk_at dksX3_roll_6 0 rfl rfl)
theorem dX3_roll_142 : decode cX3_roll 142 = .ok (.iconst 4, 1) := dk_7 (dk_at dksX3_roll_6 3 rfl rfl)
theorem dX3_roll_143 : decode cX3_roll 143 = .ok (.putfield 115, 3) := dk_181 0 115 (dk_at dksX3_roll_6 4 rfl rfl)
theorem dX3_roll_146 : decode cX3_roll 146 = .ok (.aload_n 0, 1) := dk_42 (dk_at dksX3_roll_6 7 rfl rfl)
theorem dX3_roll_147 : decode cX3_roll 147 = .ok (.getfield 115, 3) := dk_180 0 115 (dk_at dksX3_roll_6 8 rfl rfl)
theorem dX3_roll_150 : decode cX3_roll 150 = .ok (.ireturn, 1) := dk_172 (dk_at dksX3_roll_6 11 rfl rfl)
theorem dX3_roll_151 : decode cX3_roll 151 = .ok (.aload_n 0, 1) := dk_42 (dk_at dksX3_roll_6 12 rfl rfl)
theorem dX3_roll_152 : decode cX3_roll 152 = .ok (.iload_n 1, 1) := dk_27 (dk_at dksX3_roll_6 13 rfl rfl)
theorem dX3_roll_153 : decode cX3_roll 153 = .ok (.iload_n 2, 1) := dk_28 (dk_at dksX3_roll_6 14 rfl rfl)
theorem dX3_roll_154 : decode cX3_roll 154 = .ok (.iadd, 1) := dk_96 (dk_at dksX3_roll_6 15 rfl rfl)
theorem dX3_roll_155 : decode cX3_roll 155 = .ok (.invokevirtual 181, 3) := dk_182 0 181 (dk_at dksX3_roll_6 16 rfl rfl)
theorem dX3_roll_158 : decode cX3_roll 158 = .ok (.iconst 0, 1) := dk_3 (dk_at dksX3_roll_6 19 rfl rfl)
theorem dX3_roll_159 : decode cX3_roll 159 = .ok (.istore_n 3, 1) := dk_62 (dk_at dksX3_roll_6 20 rfl rfl)
theorem dX3_roll_160 : decode cX3_roll 160 = .ok (.iload_n 3, 1) := dk_29 (dk_at dksX3_roll_6 21 rfl rfl)
theorem dX3_roll_161 : decode cX3_roll 161 = .ok (.bipush 15, 2) := dk_16 15 (dk_at dksX3_roll_6 22 rfl rfl)
theorem dX3_roll_163 : decode cX3_roll 163 = .ok (.if_icmp .ge 44, 3) := dk_162 0 44 (dk_at dksX3_roll_7 0 rfl rfl)
theorem dX3_roll_166 : decode cX3_roll 166 = .ok (.aload_n 0, 1) := dk_42 (dk_at dksX3_roll_7 3 rfl rfl)
theorem dX3_roll_167 : decode cX3_roll 167 = .ok (.getfield 22, 3) := dk_180 0 22 (dk_at dksX3_roll_7 4 rfl rfl)
theorem dX3_roll_170 : decode cX3_roll 170 = .ok (.iload_n 3, 1) := dk_29 (dk_at dksX3_roll_7 7 rfl rfl)
theorem dX3_roll_171 : decode cX3_roll 171 = .ok (.dup2, 1) := dk_92 (dk_at dksX3_roll_7 8 rfl rfl)
theorem dX3_roll_172 : decode cX3_roll 172 = .ok (.iaload, 1) := dk_46 (dk_at dksX3_roll_7 9 rfl rfl)
theorem dX3_roll_173 : decode cX3_roll 173 = .ok (.aload_n 0, 1) := dk_42 (dk_at dksX3_roll_7 10 rfl rfl)
theorem dX3_roll_174 : decode cX3_roll 174 = .ok (.getfield 56, 3) := dk_180 0 56 (dk_at dksX3_roll_7 11 rfl rfl)
theorem dX3_roll_177 : decode cX3_roll 177 = .ok (.iload_n 3, 1) := dk_29 (dk_at dksX3_roll_7 14 rfl rfl)
theorem dX3_roll_178 : decode cX3_roll 178 = .ok (.iaload, 1) := dk_46 (dk_at dksX3_roll_7 15 rfl rfl)
theorem dX3_roll_179 : decode cX3_roll 179 = .ok (.iadd, 1) := dk_96 (dk_at dksX3_roll_7 16 rfl rfl)
theorem dX3_roll_180 : decode cX3_roll 180 = .ok (.iastore, 1) := dk_79 (dk_at dksX3_roll_7 17 rfl rfl)
theorem dX3_roll_181 : decode cX3_roll 181 = .ok (.aload_n 0, 1) := dk_42 (dk_at dksX3_roll_7 18 rfl rfl)
theorem dX3_roll_182 : decode cX3_roll 182 = .ok (.getfield 22, 3) := dk_180 0 22 (dk_at dksX3_roll_7 19 rfl rfl)
theorem dX3_roll_185 : decode cX3_roll 185 = .ok (.bipush 15, 2) := dk_16 15 (dk_at dksX3_roll_7 22 rfl rfl)
theorem dX3_roll_187 : decode cX3_roll 187 = .ok (.iload_n 3, 1) := dk_29 (dk_at dksX3_roll_8 0 rfl rfl)
theorem dX3_roll_188 : decode cX3_roll 188 = .ok (.iconst 5, 1) := dk_8 (dk_at dksX3_roll_8 1 rfl rfl)
theorem dX3_roll_189 : decode cX3_roll 189 = .ok (.irem, 1) := dk_112 (dk_at dksX3_roll_8 2 rfl rfl)
theorem dX3_roll_190 : decode cX3_roll 190 = .ok (.iadd, 1) := dk_96 (dk_at dksX3_roll_8 3 rfl rfl)
theorem dX3_roll_191 : decode cX3_roll 191 = .ok (.dup2, 1) := dk_92 (dk_at dksX3_roll_8 4 rfl rfl)
theorem dX3_roll_192 : decode cX3_roll 192 = .ok (.iaload, 1) := dk_46 (dk_at dksX3_roll_8 5 rfl rfl)
theorem dX3_roll_193 : decode cX3_roll 193 = .ok (.aload_n 0, 1) := dk_42 (dk_at dksX3_roll_8 6 rfl rfl)
theorem dX3_roll_194 : decode cX3_roll 194 = .ok (.getfield 56, 3) := dk_180 0 56 (dk_at dksX3_roll_8 7 rfl rfl)
theorem dX3_roll_197 : decode cX3_roll 197 = .ok (.iload_n 3, 1) := dk_29 (dk_at dksX3_roll_8 10 rfl rfl)
theorem dX3_roll_198 : decode cX3_roll 198 = .ok (.iaload, 1) := dk_46 (dk_at dksX3_roll_8 11 rfl rfl)
theorem dX3_roll_199 : decode cX3_roll 199 = .ok (.isub, 1) := dk_100 (dk_at dksX3_roll_8 12 rfl rfl)
theorem dX3_roll_200 : decode cX3_roll 200 = .ok (.iastore, 1) := dk_79 (dk_at dksX3_roll_8 13 rfl rfl)
theorem dX3_roll_201 : decode cX3_roll 201 = .ok (.iinc 3 1, 3) := dk_132 3 1 (dk_at dksX3_roll_8 14 rfl rfl)
theorem dX3_roll_204 : decode cX3_roll 204 = .ok (.goto (-44), 3) := dk_167 255 212 (dk_at dksX3_roll_8 17 rfl rfl)
theorem dX3_roll_207 : decode cX3_roll 207 = .ok (.aload_n 0, 1) := dk_42 (dk_at dksX3_roll_8 20 rfl rfl)
theorem dX3_roll_208 : decode cX3_roll 208 = .ok (.getfield 115, 3) := dk_180 0 115 (dk_at dksX3_roll_8 21 rfl rfl)
theorem dX3_roll_211 : decode cX3_roll 211 = .ok (.ireturn, 1) := dk_172 (dk_at dksX3_roll_9 0 rfl rfl)
abbrev cX3_reckons : ByteArray := prog_12_method_41_code
def yX3_reckons : MethodName := ⟨RX3, "reckons", "(I)V"⟩
def dkwX3_reckons_10 : List UInt8 := [132, 2, 1, 167, 255, 158, 177]
abbrev dktX3_reckons_10 : List UInt8 := dkwX3_reckons_10 ++ []
def dkwX3_reckons_9 : List UInt8 := [21, 5, 104, 28, 96, 46, 29, 160, 0, 8, 21, 4, 167, 0, 4, 3, 79, 132, 5, 1, 167, 255, 209]
abbrev dktX3_reckons_9 : List UInt8 := dkwX3_reckons_9 ++ dktX3_reckons_10
def dkwX3_reckons_8 : List UInt8 := [162, 0, 47, 29, 21, 4, 164, 0, 41, 42, 180, 0, 56, 8, 21, 5, 104, 28, 96, 42, 180, 0, 56, 8]
abbrev dktX3_reckons_8 : List UInt8 := dkwX3_reckons_8 ++ dktX3_reckons_9
def dkwX3_reckons_7 : List UInt8 := [28, 96, 46, 96, 62, 42, 180, 0, 22, 16, 15, 28, 96, 46, 54, 4, 3, 54, 5, 21, 5, 6]
abbrev dktX3_reckons_7 : List UInt8 := dkwX3_reckons_7 ++ dktX3_reckons_8
def dkwX3_reckons_6 : List UInt8 := [162, 0, 99, 42, 180, 0, 56, 28, 46, 42, 180, 0, 56, 8, 28, 96, 46, 96, 42, 180, 0, 56, 16, 10]
abbrev dktX3_reckons_6 : List UInt8 := dkwX3_reckons_6 ++ dktX3_reckons_7
def dkwX3_reckons_5 : List UInt8 := [5, 167, 0, 4, 4, 96, 79, 132, 3, 1, 167, 255, 159, 132, 2, 1, 167, 255, 145, 3, 61, 28, 8]
abbrev dktX3_reckons_5 : List UInt8 := dkwX3_reckons_5 ++ dktX3_reckons_6
def dkwX3_reckons_4 : List UInt8 := [8, 42, 29, 182, 0, 74, 104, 42, 180, 0, 7, 28, 46, 96, 92, 46, 42, 29, 182, 0, 87, 153, 0, 7]
abbrev dktX3_reckons_4 : List UInt8 := dkwX3_reckons_4 ++ dktX3_reckons_5
def dkwX3_reckons_3 : List UInt8 := [180, 0, 19, 29, 46, 158, 0, 7, 4, 167, 0, 4, 3, 54, 4, 21, 4, 153, 0, 38, 42, 180, 0, 56]
abbrev dktX3_reckons_3 : List UInt8 := dkwX3_reckons_3 ++ dktX3_reckons_4
def dkwX3_reckons_2 : List UInt8 := [16, 7, 159, 0, 32, 28, 42, 180, 0, 178, 159, 0, 24, 28, 29, 184, 0, 137, 153, 0, 16, 42]
abbrev dktX3_reckons_2 : List UInt8 := dkwX3_reckons_2 ++ dktX3_reckons_3
def dkwX3_reckons_1 : List UInt8 := [16, 7, 162, 0, 111, 3, 62, 29, 16, 24, 162, 0, 97, 42, 180, 0, 13, 28, 46, 27, 160, 0, 38, 27]
abbrev dktX3_reckons_1 : List UInt8 := dkwX3_reckons_1 ++ dktX3_reckons_2
def dkwX3_reckons_0 : List UInt8 := [3, 61, 28, 16, 15, 162, 0, 16, 42, 180, 0, 56, 28, 3, 79, 132, 2, 1, 167, 255, 240, 3, 61, 28]
abbrev dktX3_reckons_0 : List UInt8 := dkwX3_reckons_0 ++ dktX3_reckons_1
theorem dksX3_reckons_0 : cX3_reckons.data.toList.drop 0 = dktX3_reckons_0 := by decide +kernel
theorem dksX3_reckons_1 : cX3_reckons.data.toList.drop 24 = dktX3_reckons_1 := dk_seg dksX3_reckons_0 24 rfl rfl
theorem dksX3_reckons_2 : cX3_reckons.data.toList.drop 48 = dktX3_reckons_2 := dk_seg dksX3_reckons_1 24 rfl rfl
theorem dksX3_reckons_3 : cX3_reckons.data.toList.drop 70 = dktX3_reckons_3 := dk_seg dksX3_reckons_2 22 rfl rfl
theorem dksX3_reckons_4 : cX3_reckons.data.toList.drop 94 = dktX3_reckons_4 := dk_seg dksX3_reckons_3 24 rfl rfl
theorem dksX3_reckons_5 : cX3_reckons.data.toList.drop 118 = dktX3_reckons_5 := dk_seg dksX3_reckons_4 24 rfl rfl
theorem dksX3_reckons_6 : cX3_reckons.data.toList.drop 141 = dktX3_reckons_6 := dk_seg dksX3_reckons_5 23 rfl rfl
theorem dksX3_reckons_7 : cX3_reckons.data.toList.drop 165 = dktX3_reckons_7 := dk_seg dksX3_reckons_6 24 rfl rfl
theorem dksX3_reckons_8 : cX3_reckons.data.toList.drop 187 = dktX3_reckons_8 := dk_seg dksX3_reckons_7 22 rfl rfl
theorem dksX3_reckons_9 : cX3_reckons.data.toList.drop 211 = dktX3_reckons_9 := dk_seg dksX3_reckons_8 24 rfl rfl
theorem dksX3_reckons_10 : cX3_reckons.data.toList.drop 234 = dktX3_reckons_10 := dk_seg dksX3_reckons_9 23 rfl rfl
theorem dX3_reckons_0 : decode cX3_reckons 0 = .ok (.iconst 0, 1) := dk_3 (dk_at dksX3_reckons_0 0 rfl rfl)
theorem dX3_reckons_1 : decode cX3_reckons 1 = .ok (.istore_n 2, 1) := dk_61 (dk_at dksX3_reckons_0 1 rfl rfl)
theorem dX3_reckons_2 : decode cX3_reckons 2 = .ok (.iload_n 2, 1) := dk_28 (dk_at dksX3_reckons_0 2 rfl rfl)
theorem dX3_reckons_3 : decode cX3_reckons 3 = .ok (.bipush 15, 2) := dk_16 15 (dk_at dksX3_reckons_0 3 rfl rfl)
theorem dX3_reckons_5 : decode cX3_reckons 5 = .ok (.if_icmp .ge 16, 3) := dk_162 0 16 (dk_at dksX3_reckons_0 5 rfl rfl)
theorem dX3_reckons_8 : decode cX3_reckons 8 = .ok (.aload_n 0, 1) := dk_42 (dk_at dksX3_reckons_0 8 rfl rfl)
theorem dX3_reckons_9 : decode cX3_reckons 9 = .ok (.getfield 56, 3) := dk_180 0 56 (dk_at dksX3_reckons_0 9 rfl rfl)
theorem dX3_reckons_12 : decode cX3_reckons 12 = .ok (.iload_n 2, 1) := dk_28 (dk_at dksX3_reckons_0 12 rfl rfl)
theorem dX3_reckons_13 : decode cX3_reckons 13 = .ok (.iconst 0, 1) := dk_3 (dk_at dksX3_reckons_0 13 rfl rfl)
theorem dX3_reckons_14 : decode cX3_reckons 14 = .ok (.iastore, 1) := dk_79 (dk_at dksX3_reckons_0 14 rfl rfl)
theorem dX3_reckons_15 : decode cX3_reckons 15 = .ok (.iinc 2 1, 3) := dk_132 2 1 (dk_at dksX3_reckons_0 15 rfl rfl)
theorem dX3_reckons_18 : decode cX3_reckons 18 = .ok (.goto (-16), 3) := dk_167 255 240 (dk_at dksX3_reckons_0 18 rfl rfl)
theorem dX3_reckons_21 : decode cX3_reckons 21 = .ok (.iconst 0, 1) := dk_3 (dk_at dksX3_reckons_0 21 rfl rfl)
theorem dX3_reckons_22 : decode cX3_reckons 22 = .ok (.istore_n 2, 1) := dk_61 (dk_at dksX3_reckons_0 22 rfl rfl)
theorem dX3_reckons_23 : decode cX3_reckons 23 = .ok (.iload_n 2, 1) := dk_28 (dk_at dksX3_reckons_0 23 rfl rfl)
theorem dX3_reckons_24 : decode cX3_reckons 24 = .ok (.bipush 7, 2) := dk_16 7 (dk_at dksX3_reckons_1 0 rfl rfl)
theorem dX3_reckons_26 : decode cX3_reckons 26 = .ok (.if_icmp .ge 111, 3) := dk_162 0 111 (dk_at dksX3_reckons_1 2 rfl rfl)
theorem dX3_reckons_29 : decode cX3_reckons 29 = .ok (.iconst 0, 1) := dk_3 (dk_at dksX3_reckons_1 5 rfl rfl)
theorem dX3_reckons_30 : decode cX3_reckons 30 = .ok (.istore_n 3, 1) := dk_62 (dk_at dksX3_reckons_1 6 rfl rfl)
theorem dX3_reckons_31 : decode cX3_reckons 31 = .ok (.iload_n 3, 1) := dk_29 (dk_at dksX3_reckons_1 7 rfl rfl)
theorem dX3_reckons_32 : decode cX3_reckons 32 = .ok (.bipush 24, 2) := dk_16 24 (dk_at dksX3_reckons_1 8 rfl rfl)
theorem dX3_reckons_34 : decode cX3_reckons 34 = .ok (.if_icmp .ge 97, 3) := dk_162 0 97 (dk_at dksX3_reckons_1 10 rfl rfl)
theorem dX3_reckons_37 : decode cX3_reckons 37 = .ok (.aload_n 0, 1) := dk_42 (dk_at dksX3_reckons_1 13 rfl rfl)
theorem dX3_reckons_38 : decode cX3_reckons 38 = .ok (.getfield 13, 3) := dk_180 0 13 (dk_at dksX3_reckons_1 14 rfl rfl)
theorem dX3_reckons_41 : decode cX3_reckons 41 = .ok (.iload_n 2, 1) := dk_28 (dk_at dksX3_reckons_1 17 rfl rfl)
theorem dX3_reckons_42 : decode cX3_reckons 42 = .ok (.iaload, 1) := dk_46 (dk_at dksX3_reckons_1 18 rfl rfl)
theorem dX3_reckons_43 : decode cX3_reckons 43 = .ok (.iload_n 1, 1) := dk_27 (dk_at dksX3_reckons_1 19 rfl rfl)
theorem dX3_reckons_44 : decode cX3_reckons 44 = .ok (.if_icmp .ne 38, 3) := dk_160 0 38 (dk_at dksX3_reckons_1 20 rfl rfl)
theorem dX3_reckons_47 : decode cX3_reckons 47 = .ok (.iload_n 1, 1) := dk_27 (dk_at dksX3_reckons_1 23 rfl rfl)
theorem dX3_reckons_48 : decode cX3_reckons 48 = .ok (.bipush 7, 2) := dk_16 7 (dk_at dksX3_reckons_2 0 rfl rfl)
theorem dX3_reckons_50 : decode cX3_reckons 50 = .ok (.if_icmp .eq 32, 3) := dk_159 0 32 (dk_at dksX3_reckons_2 2 rfl rfl)
theorem dX3_reckons_53 : decode cX3_reckons 53 = .ok (.iload_n 2, 1) := dk_28 (dk_at dksX3_reckons_2 5 rfl rfl)
theorem dX3_reckons_54 : decode cX3_reckons 54 = .ok (.aload_n 0, 1) := dk_42 (dk_at dksX3_reckons_2 6 rfl rfl)
theorem dX3_reckons_55 : decode cX3_reckons 55 = .ok (.getfield 178, 3) := dk_180 0 178 (dk_at dksX3_reckons_2 7 rfl rfl)
theorem dX3_reckons_58 : decode cX3_reckons 58 = .ok (.if_icmp .eq 24, 3) := dk_159 0 24 (dk_at dksX3_reckons_2 10 rfl rfl)
theorem dX3_reckons_61 : decode cX3_reckons 61 = .ok (.iload_n 2, 1) := dk_28 (dk_at dksX3_reckons_2 13 rfl rfl)
theorem dX3_reckons_62 : decode cX3_reckons 62 = .ok (.iload_n 3, 1) := dk_29 (dk_at dksX3_reckons_2 14 rfl rfl)
theorem dX3_reckons_63 : decode cX3_reckons 63 = .ok (.invokestatic 137, 3) := dk_184 0 137 (dk_at dksX3_reckons_2 15 rfl rfl)
theorem dX3_reckons_66 : decode cX3_reckons 66 = .ok (.ifCond .eq 16, 3) := dk_153 0 16 (dk_at dksX3_reckons_2 18 rfl rfl)
theorem dX3_reckons_69 : decode cX3_reckons 69 = .ok (.aload_n 0, 1) := dk_42 (dk_at dksX3_reckons_2 21 rfl rfl)
theorem dX3_reckons_70 : decode cX3_reckons 70 = .ok (.getfield 19, 3) := dk_180 0 19 (dk_at dksX3_reckons_3 0 rfl rfl)
theorem dX3_reckons_73 : decode cX3_reckons 73 = .ok (.iload_n 3, 1) := dk_29 (dk_at dksX3_reckons_3 3 rfl rfl)
theorem dX3_reckons_74 : decode cX3_reckons 74 = .ok (.iaload, 1) := dk_46 (dk_at dksX3_reckons_3 4 rfl rfl)
theorem dX3_reckons_75 : decode cX3_reckons 75 = .ok (.ifCond .le 7, 3) := dk_158 0 7 (dk_at dksX3_reckons_3 5 rfl rfl)
theorem dX3_reckons_78 : decode cX3_reckons 78 = .ok (.iconst 1, 1) := dk_4 (dk_at dksX3_reckons_3 8 rfl rfl)
theorem dX3_reckons_79 : decode cX3_reckons 79 = .ok (.goto 4, 3) := dk_167 0 4 (dk_at dksX3_reckons_3 9 rfl rfl)
theorem dX3_reckons_82 : decode cX3_reckons 82 = .ok (.iconst 0, 1) := dk_3 (dk_at dksX3_reckons_3 12 rfl rfl)
theorem dX3_reckons_83 : decode cX3_reckons 83 = .ok (.istore 4, 2) := dk_54 4 (dk_at dksX3_reckons_3 13 rfl rfl)
theorem dX3_reckons_85 : decode cX3_reckons 85 = .ok (.iload 4, 2) := dk_21 4 (dk_at dksX3_reckons_3 15 rfl rfl)
theorem dX3_reckons_87 : decode cX3_reckons 87 = .ok (.ifCond .eq 38, 3) := dk_153 0 38 (dk_at dksX3_reckons_3 17 rfl rfl)
theorem dX3_reckons_90 : decode cX3_reckons 90 = .ok (.aload_n 0, 1) := dk_42 (dk_at dksX3_reckons_3 20 rfl rfl)
theorem dX3_reckons_91 : decode cX3_reckons 91 = .ok (.getfield 56, 3) := dk_180 0 56 (dk_at dksX3_reckons_3 21 rfl rfl)
theorem dX3_reckons_94 : decode cX3_reckons 94 = .ok (.iconst 5, 1) := dk_8 (dk_at dksX3_reckons_4 0 rfl rfl)
theorem dX3_reckons_95 : decode cX3_reckons 95 = .ok (.aload_n 0, 1) := dk_42 (dk_at dksX3_reckons_4 1 rfl rfl)
theorem dX3_reckons_96 : decode cX3_reckons 96 = .ok (.iload_n 3, 1) := dk_29 (dk_at dksX3_reckons_4 2 rfl rfl)
theorem dX3_reckons_97 : decode cX3_reckons 97 = .ok (.invokevirtual 74, 3) := dk_182 0 74 (dk_at dksX3_reckons_4 3 rfl rfl)
theorem dX3_reckons_100 : decode cX3_reckons 100 = .ok (.imul, 1) := dk_104 (dk_at dksX3_reckons_4 6 rfl rfl)
theorem dX3_reckons_101 : decode cX3_reckons 101 = .ok (.aload_n 0, 1) := dk_42 (dk_at dksX3_reckons_4 7 rfl rfl)
theorem dX3_reckons_102 : decode cX3_reckons 102 = .ok (.getfield 7, 3) := dk_180 0 7 (dk_at dksX3_reckons_4 8 rfl rfl)
theorem dX3_reckons_105 : decode cX3_reckons 105 = .ok (.iload_n 2, 1) := dk_28 (dk_at dksX3_reckons_4 11 rfl rfl)
theorem dX3_reckons_106 : decode cX3_reckons 106 = .ok (.iaload, 1) := dk_46 (dk_at dksX3_reckons_4 12 rfl rfl)
theorem dX3_reckons_107 : decode cX3_reckons 107 = .ok (.iadd, 1) := dk_96 (dk_at dksX3_reckons_4 13 rfl rfl)
theorem dX3_reckons_108 : decode cX3_reckons 108 = .ok (.dup2, 1) := dk_92 (dk_at dksX3_reckons_4 14 rfl rfl)
theorem dX3_reckons_109 : decode cX3_reckons 109 = .ok (.iaload, 1) := dk_46 (dk_at dksX3_reckons_4 15 rfl rfl)
theorem dX3_reckons_110 : decode cX3_reckons 110 = .ok (.aload_n 0, 1) := dk_42 (dk_at dksX3_reckons_4 16 rfl rfl)
theorem dX3_reckons_111 : decode cX3_reckons 111 = .ok (.iload_n 3, 1) := dk_29 (dk_at dksX3_reckons_4 17 rfl rfl)
theorem dX3_reckons_112 : decode cX3_reckons 112 = .ok (.invokevirtual 87, 3) := dk_182 0 87 (dk_at dksX3_reckons_4 18 rfl rfl)
theorem dX3_reckons_115 : decode cX3_reckons 115 = .ok (.ifCond .eq 7, 3) := dk_153 0 7 (dk_at dksX3_reckons_4 21 rfl rfl)
theorem dX3_reckons_118 : decode cX3_reckons 118 = .ok (.iconst 2, 1) := dk_5 (dk_at dksX3_reckons_5 0 rfl rfl)
theorem dX3_reckons_119 : decode cX3_reckons 119 = .ok (.goto 4, 3) := dk_167 0 4 (dk_at dksX3_reckons_5 1 rfl rfl)
theorem dX3_reckons_122 : decode cX3_reckons 122 = .ok (.iconst 1, 1) := dk_4 (dk_at dksX3_reckons_5 4 rfl rfl)
theorem dX3_reckons_123 : decode cX3_reckons 123 = .ok (.iadd, 1) := dk_96 (dk_at dksX3_reckons_5 5 rfl rfl)
theorem dX3_reckons_124 : decode cX3_reckons 124 = .ok (.iastore, 1) := dk_79 (dk_at dksX3_reckons_5 6 rfl rfl)
theorem dX3_reckons_125 : decode cX3_reckons 125 = .ok (.iinc 3 1, 3) := dk_132 3 1 (dk_at dksX3_reckons_5 7 rfl rfl)
theorem dX3_reckons_128 : decode cX3_reckons 128 = .ok (.goto (-97), 3) := dk_167 255 159 (dk_at dksX3_reckons_5 10 rfl rfl)
theorem dX3_reckons_131 : decode cX3_reckons 131 = .ok (.iinc 2 1, 3) := dk_132 2 1 (dk_at dksX3_reckons_5 13 rfl rfl)
theorem dX3_reckons_134 : decode cX3_reckons 134 = .ok (.goto (-111), 3) := dk_167 255 145 (dk_at dksX3_reckons_5 16 rfl rfl)
theorem dX3_reckons_137 : decode cX3_reckons 137 = .ok (.iconst 0, 1) := dk_3 (dk_at dksX3_reckons_5 19 rfl rfl)
theorem dX3_reckons_138 : decode cX3_reckons 138 = .ok (.istore_n 2, 1) := dk_61 (dk_at dksX3_reckons_5 20 rfl rfl)
theorem dX3_reckons_139 : decode cX3_reckons 139 = .ok (.iload_n 2, 1) := dk_28 (dk_at dksX3_reckons_5 21 rfl rfl)
theorem dX3_reckons_140 : decode cX3_reckons 140 = .ok (.iconst 5, 1) := dk_8 (dk_at dksX3_reckons_5 22 rfl rfl)
theorem dX3_reckons_141 : decode cX3_reckons 141 = .ok (.if_icmp .ge 99, 3) := dk_162 0 99 (dk_at dksX3_reckons_6 0 rfl rfl)
theorem dX3_reckons_144 : decode cX3_reckons 144 = .ok (.aload_n 0, 1) := dk_42 (dk_at dksX3_reckons_6 3 rfl rfl)
theorem dX3_reckons_145 : decode cX3_reckons 145 = .ok (.getfield 56, 3) := dk_180 0 56 (dk_at dksX3_reckons_6 4 rfl rfl)
theorem dX3_reckons_148 : decode cX3_reckons 148 = .ok (.iload_n 2, 1) := dk_28 (dk_at dksX3_reckons_6 7 rfl rfl)
theorem dX3_reckons_149 : decode cX3_reckons 149 = .ok (.iaload, 1) := dk_46 (dk_at dksX3_reckons_6 8 rfl rfl)
theorem dX3_reckons_150 : decode cX3_reckons 150 = .ok (.aload_n 0, 1) := dk_42 (dk_at dksX3_reckons_6 9 rfl rfl)
theorem dX3_reckons_151 : decode cX3_reckons 151 = .ok (.getfield 56, 3) := dk_180 0 56 (dk_at dksX3_reckons_6 10 rfl rfl)
theorem dX3_reckons_154 : decode cX3_reckons 154 = .ok (.iconst 5, 1) := dk_8 (dk_at dksX3_reckons_6 13 rfl rfl)
theorem dX3_reckons_155 : decode cX3_reckons 155 = .ok (.iload_n 2, 1) := dk_28 (dk_at dksX3_reckons_6 14 rfl rfl)
theorem dX3_reckons_156 : decode cX3_reckons 156 = .ok (.iadd, 1) := dk_96 (dk_at dksX3_reckons_6 15 rfl rfl)
theorem dX3_reckons_157 : decode cX3_reckons 157 = .ok (.iaload, 1) := dk_46 (dk_at dksX3_reckons_6 16 rfl rfl)
theorem dX3_reckons_158 : decode cX3_reckons 158 = .ok (.iadd, 1) := dk_96 (dk_at dksX3_reckons_6 17 rfl rfl)
theorem dX3_reckons_159 : decode cX3_reckons 159 = .ok (.aload_n 0, 1) := dk_42 (dk_at dksX3_reckons_6 18 rfl rfl)
theorem dX3_reckons_160 : decode cX3_reckons 160 = .ok (.getfield 56, 3) := dk_180 0 56 (dk_at dksX3_reckons_6 19 rfl rfl)
theorem dX3_reckons_163 : decode cX3_reckons 163 = .ok (.bipush 10, 2) := dk_16 10 (dk_at dksX3_reckons_6 22 rfl rfl)
theorem dX3_reckons_165 : decode cX3_reckons 165 = .ok (.iload_n 2, 1) := dk_28 (dk_at dksX3_reckons_7 0 rfl rfl)
theorem dX3_reckons_166 : decode cX3_reckons 166 = .ok (.iadd, 1) := dk_96 (dk_at dksX3_reckons_7 1 rfl rfl)
theorem dX3_reckons_167 : decode cX3_reckons 167 = .ok (.iaload, 1) := dk_46 (dk_at dksX3_reckons_7 2 rfl rfl)
theorem dX3_reckons_168 : decode cX3_reckons 168 = .ok (.iadd, 1) := dk_96 (dk_at dksX3_reckons_7 3 rfl rfl)
theorem dX3_reckons_169 : decode cX3_reckons 169 = .ok (.istore_n 3, 1) := dk_62 (dk_at dksX3_reckons_7 4 rfl rfl)
theorem dX3_reckons_170 : decode cX3_reckons 170 = .ok (.aload_n 0, 1) := dk_42 (dk_at dksX3_reckons_7 5 rfl rfl)
theorem dX3_reckons_171 : decode cX3_reckons 171 = .ok (.getfield 22, 3) := dk_180 0 22 (dk_at dksX3_reckons_7 6 rfl rfl)
theorem dX3_reckons_174 : decode cX3_reckons 174 = .ok (.bipush 15, 2) := dk_16 15 (dk_at dksX3_reckons_7 9 rfl rfl)
theorem dX3_reckons_176 : decode cX3_reckons 176 = .ok (.iload_n 2, 1) := dk_28 (dk_at dksX3_reckons_7 11 rfl rfl)
theorem dX3_reckons_177 : decode cX3_reckons 177 = .ok (.iadd, 1) := dk_96 (dk_at dksX3_reckons_7 12 rfl rfl)
theorem dX3_reckons_178 : decode cX3_reckons 178 = .ok (.iaload, 1) := dk_46 (dk_at dksX3_reckons_7 13 rfl rfl)
theorem dX3_reckons_179 : decode cX3_reckons 179 = .ok (.istore 4, 2) := dk_54 4 (dk_at dksX3_reckons_7 14 rfl rfl)
theorem dX3_reckons_181 : decode cX3_reckons 181 = .ok (.iconst 0, 1) := dk_3 (dk_at dksX3_reckons_7 16 rfl rfl)
theorem dX3_reckons_182 : decode cX3_reckons 182 = .ok (.istore 5, 2) := dk_54 5 (dk_at dksX3_reckons_7 17 rfl rfl)
theorem dX3_reckons_184 : decode cX3_reckons 184 = .ok (.iload 5, 2) := dk_21 5 (dk_at dksX3_reckons_7 19 rfl rfl)
theorem dX3_reckons_186 : decode cX3_reckons 186 = .ok (.iconst 3, 1) := dk_6 (dk_at dksX3_reckons_7 21 rfl rfl)
theorem dX3_reckons_187 : decode cX3_reckons 187 = .ok (.if_icmp .ge 47, 3) := dk_162 0 47 (dk_at dksX3_reckons_8 0 rfl rfl)
theorem dX3_reckons_190 : decode cX3_reckons 190 = .ok (.iload_n 3, 1) := dk_29 (dk_at dksX3_reckons_8 3 rfl rfl)
theorem dX3_reckons_191 : decode cX3_reckons 191 = .ok (.iload 4, 2) := dk_21 4 (dk_at dksX3_reckons_8 4 rfl rfl)
theorem dX3_reckons_193 : decode cX3_reckons 193 = .ok (.if_icmp .le 41, 3) := dk_164 0 41 (dk_at dksX3_reckons_8 6 rfl rfl)
theorem dX3_reckons_196 : decode cX3_reckons 196 = .ok (.aload_n 0, 1) := dk_42 (dk_at dksX3_reckons_8 9 rfl rfl)
theorem dX3_reckons_197 : decode cX3_reckons 197 = .ok (.getfield 56, 3) := dk_180 0 56 (dk_at dksX3_reckons_8 10 rfl rfl)
theorem dX3_reckons_200 : decode cX3_reckons 200 = .ok (.iconst 5, 1) := dk_8 (dk_at dksX3_reckons_8 13 rfl rfl)
theorem dX3_reckons_201 : decode cX3_reckons 201 = .ok (.iload 5, 2) := dk_21 5 (dk_at dksX3_reckons_8 14 rfl rfl)
theorem dX3_reckons_203 : decode cX3_reckons 203 = .ok (.imul, 1) := dk_104 (dk_at dksX3_reckons_8 16 rfl rfl)
theorem dX3_reckons_204 : decode cX3_reckons 204 = .ok (.iload_n 2, 1) := dk_28 (dk_at dksX3_reckons_8 17 rfl rfl)
theorem dX3_reckons_205 : decode cX3_reckons 205 = .ok (.iadd, 1) := dk_96 (dk_at dksX3_reckons_8 18 rfl rfl)
theorem dX3_reckons_206 : decode cX3_reckons 206 = .ok (.aload_n 0, 1) := dk_42 (dk_at dksX3_reckons_8 19 rfl rfl)
theorem dX3_reckons_207 : decode cX3_reckons 207 = .ok (.getfield 56, 3) := dk_180 0 56 (dk_at dksX3_reckons_8 20 rfl rfl)
theorem dX3_reckons_210 : decode cX3_reckons 210 = .ok (.iconst 5, 1) := dk_8 (dk_at dksX3_reckons_8 23 rfl rfl)
theorem dX3_reckons_211 : decode cX3_reckons 211 = .ok (.iload 5, 2) := dk_21 5 (dk_at dksX3_reckons_9 0 rfl rfl)
theorem dX3_reckons_213 : decode cX3_reckons 213 = .ok (.imul, 1) := dk_104 (dk_at dksX3_reckons_9 2 rfl rfl)
theorem dX3_reckons_214 : decode cX3_reckons 214 = .ok (.iload_n 2, 1) := dk_28 (dk_at dksX3_reckons_9 3 rfl rfl)
theorem dX3_reckons_215 : decode cX3_reckons 215 = .ok (.iadd, 1) := dk_96 (dk_at dksX3_reckons_9 4 rfl rfl)
theorem dX3_reckons_216 : decode cX3_reckons 216 = .ok (.iaload, 1) := dk_46 (dk_at dksX3_reckons_9 5 rfl rfl)
theorem dX3_reckons_217 : decode cX3_reckons 217 = .ok (.iload_n 3, 1) := dk_29 (dk_at dksX3_reckons_9 6 rfl rfl)
theorem dX3_reckons_218 : decode cX3_reckons 218 = .ok (.if_icmp .ne 8, 3) := dk_160 0 8 (dk_at dksX3_reckons_9 7 rfl rfl)
theorem dX3_reckons_221 : decode cX3_reckons 221 = .ok (.iload 4, 2) := dk_21 4 (dk_at dksX3_reckons_9 10 rfl rfl)
theorem dX3_reckons_223 : decode cX3_reckons 223 = .ok (.goto 4, 3) := dk_167 0 4 (dk_at dksX3_reckons_9 12 rfl rfl)
theorem dX3_reckons_226 : decode cX3_reckons 226 = .ok (.iconst 0, 1) := dk_3 (dk_at dksX3_reckons_9 15 rfl rfl)
theorem dX3_reckons_227 : decode cX3_reckons 227 = .ok (.iastore, 1) := dk_79 (dk_at dksX3_reckons_9 16 rfl rfl)
theorem dX3_reckons_228 : decode cX3_reckons 228 = .ok (.iinc 5 1, 3) := dk_132 5 1 (dk_at dksX3_reckons_9 17 rfl rfl)
theorem dX3_reckons_231 : decode cX3_reckons 231 = .ok (.goto (-47), 3) := dk_167 255 209 (dk_at dksX3_reckons_9 20 rfl rfl)
theorem dX3_reckons_234 : decode cX3_reckons 234 = .ok (.iinc 2 1, 3) := dk_132 2 1 (dk_at dksX3_reckons_10 0 rfl rfl)
theorem dX3_reckons_237 : decode cX3_reckons 237 = .ok (.goto (-98), 3) := dk_167 255 158 (dk_at dksX3_reckons_10 3 rfl rfl)
theorem dX3_reckons_240 : decode cX3_reckons 240 = .ok (.return_, 1) := dk_177 (dk_at dksX3_reckons_10 6 rfl rfl)
abbrev cX3_isCity : ByteArray := prog_12_method_17_code
def yX3_isCity : MethodName := ⟨RX3, "isCity", "(I)Z"⟩
def dkwX3_isCity_0 : List UInt8 := [42, 180, 0, 19, 27, 46, 6, 164, 0, 7, 4, 167, 0, 4, 3, 172]
abbrev dktX3_isCity_0 : List UInt8 := dkwX3_isCity_0 ++ []
theorem dksX3_isCity_0 : cX3_isCity.data.toList.drop 0 = dktX3_isCity_0 := by decide +kernel
theorem dX3_isCity_0 : decode cX3_isCity 0 = .ok (.aload_n 0, 1) := dk_42 (dk_at dksX3_isCity_0 0 rfl rfl)
theorem dX3_isCity_1 : decode cX3_isCity 1 = .ok (.getfield 19, 3) := dk_180 0 19 (dk_at dksX3_isCity_0 1 rfl rfl)
theorem dX3_isCity_4 : decode cX3_isCity 4 = .ok (.iload_n 1, 1) := dk_27 (dk_at dksX3_isCity_0 4 rfl rfl)
theorem dX3_isCity_5 : decode cX3_isCity 5 = .ok (.iaload, 1) := dk_46 (dk_at dksX3_isCity_0 5 rfl rfl)
theorem dX3_isCity_6 : decode cX3_isCity 6 = .ok (.iconst 3, 1) := dk_6 (dk_at dksX3_isCity_0 6 rfl rfl)
theorem dX3_isCity_7 : decode cX3_isCity 7 = .ok (.if_icmp .le 7, 3) := dk_164 0 7 (dk_at dksX3_isCity_0 7 rfl rfl)
theorem dX3_isCity_10 : decode cX3_isCity 10 = .ok (.iconst 1, 1) := dk_4 (dk_at dksX3_isCity_0 10 rfl rfl)
theorem dX3_isCity_11 : decode cX3_isCity 11 = .ok (.goto 4, 3) := dk_167 0 4 (dk_at dksX3_isCity_0 11 rfl rfl)
theorem dX3_isCity_14 : decode cX3_isCity 14 = .ok (.iconst 0, 1) := dk_3 (dk_at dksX3_isCity_0 14 rfl rfl)
theorem dX3_isCity_15 : decode cX3_isCity 15 = .ok (.ireturn, 1) := dk_172 (dk_at dksX3_isCity_0 15 rfl rfl)
abbrev cX3_discard : ByteArray := prog_12_method_43_code
def yX3_discard : MethodName := ⟨RX3, "discard", "(II)I"⟩
def dkwX3_discard_5 : List UInt8 := [181, 0, 115, 42, 180, 0, 115, 172]
abbrev dktX3_discard_5 : List UInt8 := dkwX3_discard_5 ++ []
def dkwX3_discard_4 : List UInt8 := [46, 42, 180, 0, 25, 4, 46, 96, 42, 180, 0, 25, 5, 46, 96, 154, 0, 7, 7, 167, 0, 4, 6]
abbrev dktX3_discard_4 : List UInt8 := dkwX3_discard_4 ++ dktX3_discard_5
def dkwX3_discard_3 : List UInt8 := [182, 0, 149, 172, 42, 27, 6, 28, 182, 0, 172, 42, 180, 0, 25, 27, 3, 79, 42, 42, 180, 0, 25, 3]
abbrev dktX3_discard_3 : List UInt8 := dkwX3_discard_3 ++ dktX3_discard_4
def dkwX3_discard_2 : List UInt8 := [184, 0, 185, 42, 180, 0, 25, 27, 46, 160, 0, 12, 42, 27, 28, 182, 0, 169, 154, 0, 9, 42, 6]
abbrev dktX3_discard_2 : List UInt8 := dkwX3_discard_2 ++ dktX3_discard_3
def dkwX3_discard_1 : List UInt8 := [182, 0, 149, 172, 42, 180, 0, 115, 6, 160, 0, 34, 42, 180, 0, 25, 27, 46, 153, 0, 25, 28]
abbrev dktX3_discard_1 : List UInt8 := dkwX3_discard_1 ++ dktX3_discard_2
def dkwX3_discard_0 : List UInt8 := [42, 27, 184, 0, 159, 182, 0, 127, 154, 0, 5, 3, 172, 28, 184, 0, 162, 154, 0, 9, 42, 5]
abbrev dktX3_discard_0 : List UInt8 := dkwX3_discard_0 ++ dktX3_discard_1
theorem dksX3_discard_0 : cX3_discard.data.toList.drop 0 = dktX3_discard_0 := by decide +kernel
theorem dksX3_discard_1 : cX3_discard.data.toList.drop 22 = dktX3_discard_1 := dk_seg dksX3_discard_0 22 rfl rfl
theorem dksX3_discard_2 : cX3_discard.data.toList.drop 44 = dktX3_discard_2 := dk_seg dksX3_discard_1 22 rfl rfl
theorem dksX3_discard_3 : cX3_discard.data.toList.drop 67 = dktX3_discard_3 := dk_seg dksX3_discard_2 23 rfl rfl
theorem dksX3_discard_4 : cX3_discard.data.toList.drop 91 = dktX3_discard_4 := dk_seg dksX3_discard_3 24 rfl rfl
theorem dksX3_discard_5 : cX3_discard.data.toList.drop 114 = dktX3_discard_5 := dk_seg dksX3_discard_4 23 rfl rfl
theorem dX3_discard_0 : decode cX3_discard 0 = .ok (.aload_n 0, 1) := dk_42 (dk_at dksX3_discard_0 0 rfl rfl)
theorem dX3_discard_1 : decode cX3_discard 1 = .ok (.iload_n 1, 1) := dk_27 (dk_at dksX3_discard_0 1 rfl rfl)
theorem dX3_discard_2 : decode cX3_discard 2 = .ok (.invokestatic 159, 3) := dk_184 0 159 (dk_at dksX3_discard_0 2 rfl rfl)
theorem dX3_discard_5 : decode cX3_discard 5 = .ok (.invokevirtual 127, 3) := dk_182 0 127 (dk_at dksX3_discard_0 5 rfl rfl)
theorem dX3_discard_8 : decode cX3_discard 8 = .ok (.ifCond .ne 5, 3) := dk_154 0 5 (dk_at dksX3_discard_0 8 rfl rfl)
theorem dX3_discard_11 : decode cX3_discard 11 = .ok (.iconst 0, 1) := dk_3 (dk_at dksX3_discard_0 11 rfl rfl)
theorem dX3_discard_12 : decode cX3_discard 12 = .ok (.ireturn, 1) := dk_172 (dk_at dksX3_discard_0 12 rfl rfl)
theorem dX3_discard_13 : decode cX3_discard 13 = .ok (.iload_n 2, 1) := dk_28 (dk_at dksX3_discard_0 13 rfl rfl)
theorem dX3_discard_14 : decode cX3_discard 14 = .ok (.invokestatic 162, 3) := dk_184 0 162 (dk_at dksX3_discard_0 14 rfl rfl)
theorem dX3_discard_17 : decode cX3_discard 17 = .ok (.ifCond .ne 9, 3) := dk_154 0 9 (dk_at dksX3_discard_0 17 rfl rfl)
theorem dX3_discard_20 : decode cX3_discard 20 = .ok (.aload_n 0, 1) := dk_42 (dk_at dksX3_discard_0 20 rfl rfl)
theorem dX3_discard_21 : decode cX3_discard 21 = .ok (.iconst 2, 1) := dk_5 (dk_at dksX3_discard_0 21 rfl rfl)
theorem dX3_discard_22 : decode cX3_discard 22 = .ok (.invokevirtual 149, 3) := dk_182 0 149 (dk_at dksX3_discard_1 0 rfl rfl)
theorem dX3_discard_25 : decode cX3_discard 25 = .ok (.ireturn, 1) := dk_172 (dk_at dksX3_discard_1 3 rfl rfl)
theorem dX3_discard_26 : decode cX3_discard 26 = .ok (.aload_n 0, 1) := dk_42 (dk_at dksX3_discard_1 4 rfl rfl)
theorem dX3_discard_27 : decode cX3_discard 27 = .ok (.getfield 115, 3) := dk_180 0 115 (dk_at dksX3_discard_1 5 rfl rfl)
theorem dX3_discard_30 : decode cX3_discard 30 = .ok (.iconst 3, 1) := dk_6 (dk_at dksX3_discard_1 8 rfl rfl)
theorem dX3_discard_31 : decode cX3_discard 31 = .ok (.if_icmp .ne 34, 3) := dk_160 0 34 (dk_at dksX3_discard_1 9 rfl rfl)
theorem dX3_discard_34 : decode cX3_discard 34 = .ok (.aload_n 0, 1) := dk_42 (dk_at dksX3_discard_1 12 rfl rfl)
theorem dX3_discard_35 : decode cX3_discard 35 = .ok (.getfield 25, 3) := dk_180 0 25 (dk_at dksX3_discard_1 13 rfl rfl)
theorem dX3_discard_38 : decode cX3_discard 38 = .ok (.iload_n 1, 1) := dk_27 (dk_at dksX3_discard_1 16 rfl rfl)
theorem dX3_discard_39 : decode cX3_discard 39 = .ok (.iaload, 1) := dk_46 (dk_at dksX3_discard_1 17 rfl rfl)
theorem dX3_discard_40 : decode cX3_discard 40 = .ok (.ifCond .eq 25, 3) := dk_153 0 25 (dk_at dksX3_discard_1 18 rfl rfl)
theorem dX3_discard_43 : decode cX3_discard 43 = .ok (.iload_n 2, 1) := dk_28 (dk_at dksX3_discard_1 21 rfl rfl)
theorem dX3_discard_44 : decode cX3_discard 44 = .ok (.invokestatic 185, 3) := dk_184 0 185 (dk_at dksX3_discard_2 0 rfl rfl)
theorem dX3_discard_47 : decode cX3_discard 47 = .ok (.aload_n 0, 1) := dk_42 (dk_at dksX3_discard_2 3 rfl rfl)
theorem dX3_discard_48 : decode cX3_discard 48 = .ok (.getfield 25, 3) := dk_180 0 25 (dk_at dksX3_discard_2 4 rfl rfl)
theorem dX3_discard_51 : decode cX3_discard 51 = .ok (.iload_n 1, 1) := dk_27 (dk_at dksX3_discard_2 7 rfl rfl)
theorem dX3_discard_52 : decode cX3_discard 52 = .ok (.iaload, 1) := dk_46 (dk_at dksX3_discard_2 8 rfl rfl)
theorem dX3_discard_53 : decode cX3_discard 53 = .ok (.if_icmp .ne 12, 3) := dk_160 0 12 (dk_at dksX3_discard_2 9 rfl rfl)
theorem dX3_discard_56 : decode cX3_discard 56 = .ok (.aload_n 0, 1) := dk_42 (dk_at dksX3_discard_2 12 rfl rfl)
theorem dX3_discard_57 : decode cX3_discard 57 = .ok (.iload_n 1, 1) := dk_27 (dk_at dksX3_discard_2 13 rfl rfl)
theorem dX3_discard_58 : decode cX3_discard 58 = .ok (.iload_n 2, 1) := dk_28 (dk_at dksX3_discard_2 14 rfl rfl)
theorem dX3_discard_59 : decode cX3_discard 59 = .ok (.invokevirtual 169, 3) := dk_182 0 169 (dk_at dksX3_discard_2 15 rfl rfl)
theorem dX3_discard_62 : decode cX3_discard 62 = .ok (.ifCond .ne 9, 3) := dk_154 0 9 (dk_at dksX3_discard_2 18 rfl rfl)
theorem dX3_discard_65 : decode cX3_discard 65 = .ok (.aload_n 0, 1) := dk_42 (dk_at dksX3_discard_2 21 rfl rfl)
theorem dX3_discard_66 : decode cX3_discard 66 = .ok (.iconst 3, 1) := dk_6 (dk_at dksX3_discard_2 22 rfl rfl)
theorem dX3_discard_67 : decode cX3_discard 67 = .ok (.invokevirtual 149, 3) := dk_182 0 149 (dk_at dksX3_discard_3 0 rfl rfl)
theorem dX3_discard_70 : decode cX3_discard 70 = .ok (.ireturn, 1) := dk_172 (dk_at dksX3_discard_3 3 rfl rfl)
theorem dX3_discard_71 : decode cX3_discard 71 = .ok (.aload_n 0, 1) := dk_42 (dk_at dksX3_discard_3 4 rfl rfl)
theorem dX3_discard_72 : decode cX3_discard 72 = .ok (.iload_n 1, 1) := dk_27 (dk_at dksX3_discard_3 5 rfl rfl)
theorem dX3_discard_73 : decode cX3_discard 73 = .ok (.iconst 3, 1) := dk_6 (dk_at dksX3_discard_3 6 rfl rfl)
theorem dX3_discard_74 : decode cX3_discard 74 = .ok (.iload_n 2, 1) := dk_28 (dk_at dksX3_discard_3 7 rfl rfl)
theorem dX3_discard_75 : decode cX3_discard 75 = .ok (.invokevirtual 172, 3) := dk_182 0 172 (dk_at dksX3_discard_3 8 rfl rfl)
theorem dX3_discard_78 : decode cX3_discard 78 = .ok (.aload_n 0, 1) := dk_42 (dk_at dksX3_discard_3 11 rfl rfl)
theorem dX3_discard_79 : decode cX3_discard 79 = .ok (.getfield 25, 3) := dk_180 0 25 (dk_at dksX3_discard_3 12 rfl rfl)
theorem dX3_discard_82 : decode cX3_discard 82 = .ok (.iload_n 1, 1) := dk_27 (dk_at dksX3_discard_3 15 rfl rfl)
theorem dX3_discard_83 : decode cX3_discard 83 = .ok (.iconst 0, 1) := dk_3 (dk_at dksX3_discard_3 16 rfl rfl)
theorem dX3_discard_84 : decode cX3_discard 84 = .ok (.iastore, 1) := dk_79 (dk_at dksX3_discard_3 17 rfl rfl)
theorem dX3_discard_85 : decode cX3_discard 85 = .ok (.aload_n 0, 1) := dk_42 (dk_at dksX3_discard_3 18 rfl rfl)
theorem dX3_discard_86 : decode cX3_discard 86 = .ok (.aload_n 0, 1) := dk_42 (dk_at dksX3_discard_3 19 rfl rfl)
theorem dX3_discard_87 : decode cX3_discard 87 = .ok (.getfield 25, 3) := dk_180 0 25 (dk_at dksX3_discard_3 20 rfl rfl)
theorem dX3_discard_90 : decode cX3_discard 90 = .ok (.iconst 0, 1) := dk_3 (dk_at dksX3_discard_3 23 rfl rfl)
theorem dX3_discard_91 : decode cX3_discard 91 = .ok (.iaload, 1) := dk_46 (dk_at dksX3_discard_4 0 rfl rfl)
theorem dX3_discard_92 : decode cX3_discard 92 = .ok (.aload_n 0, 1) := dk_42 (dk_at dksX3_discard_4 1 rfl rfl)
theorem dX3_discard_93 : decode cX3_discard 93 = .ok (.getfield 25, 3) := dk_180 0 25 (dk_at dksX3_discard_4 2 rfl rfl)
theorem dX3_discard_96 : decode cX3_discard 96 = .ok (.iconst 1, 1) := dk_4 (dk_at dksX3_discard_4 5 rfl rfl)
theorem dX3_discard_97 : decode cX3_discard 97 = .ok (.iaload, 1) := dk_46 (dk_at dksX3_discard_4 6 rfl rfl)
theorem dX3_discard_98 : decode cX3_discard 98 = .ok (.iadd, 1) := dk_96 (dk_at dksX3_discard_4 7 rfl rfl)
theorem dX3_discard_99 : decode cX3_discard 99 = .ok (.aload_n 0, 1) := dk_42 (dk_at dksX3_discard_4 8 rfl rfl)
theorem dX3_discard_100 : decode cX3_discard 100 = .ok (.getfield 25, 3) := dk_180 0 25 (dk_at dksX3_discard_4 9 rfl rfl)
theorem dX3_discard_103 : decode cX3_discard 103 = .ok (.iconst 2, 1) := dk_5 (dk_at dksX3_discard_4 12 rfl rfl)
theorem dX3_discard_104 : decode cX3_discard 104 = .ok (.iaload, 1) := dk_46 (dk_at dksX3_discard_4 13 rfl rfl)
theorem dX3_discard_105 : decode cX3_discard 105 = .ok (.iadd, 1) := dk_96 (dk_at dksX3_discard_4 14 rfl rfl)
theorem dX3_discard_106 : decode cX3_discard 106 = .ok (.ifCond .ne 7, 3) := dk_154 0 7 (dk_at dksX3_discard_4 15 rfl rfl)
theorem dX3_discard_109 : decode cX3_discard 109 = .ok (.iconst 4, 1) := dk_7 (dk_at dksX3_discard_4 18 rfl rfl)
theorem dX3_discard_110 : decode cX3_discard 110 = .ok (.goto 4, 3) := dk_167 0 4 (dk_at dksX3_discard_4 19 rfl rfl)
theorem dX3_discard_113 : decode cX3_discard 113 = .ok (.iconst 3, 1) := dk_6 (dk_at dksX3_discard_4 22 rfl rfl)
theorem dX3_discard_114 : decode cX3_discard 114 = .ok (.putfield 115, 3) := dk_181 0 115 (dk_at dksX3_discard_5 0 rfl rfl)
theorem dX3_discard_117 : decode cX3_discard 117 = .ok (.aload_n 0, 1) := dk_42 (dk_at dksX3_discard_5 3 rfl rfl)
theorem dX3_discard_118 : decode cX3_discard 118 = .ok (.getfield 115, 3) := dk_180 0 115 (dk_at dksX3_discard_5 4 rfl rfl)
theorem dX3_discard_121 : decode cX3_discard 121 = .ok (.ireturn, 1) := dk_172 (dk_at dksX3_discard_5 7 rfl rfl)
abbrev cX3_sizeOf : ByteArray := prog_12_method_34_code
def yX3_sizeOf : MethodName := ⟨RX3, "sizeOf", "(I)I"⟩
def dkwX3_sizeOf_1 : List UInt8 := [172]
abbrev dktX3_sizeOf_1 : List UInt8 := dkwX3_sizeOf_1 ++ []
def dkwX3_sizeOf_0 : List UInt8 := [3, 60, 3, 61, 28, 8, 162, 0, 17, 27, 26, 28, 184, 0, 107, 96, 60, 132, 2, 1, 167, 255, 240, 27]
abbrev dktX3_sizeOf_0 : List UInt8 := dkwX3_sizeOf_0 ++ dktX3_sizeOf_1
theorem dksX3_sizeOf_0 : cX3_sizeOf.data.toList.drop 0 = dktX3_sizeOf_0 := by decide +kernel
theorem dksX3_sizeOf_1 : cX3_sizeOf.data.toList.drop 24 = dktX3_sizeOf_1 := dk_seg dksX3_sizeOf_0 24 rfl rfl
theorem dX3_sizeOf_0 : decode cX3_sizeOf 0 = .ok (.iconst 0, 1) := dk_3 (dk_at dksX3_sizeOf_0 0 rfl rfl)
theorem dX3_sizeOf_1 : decode cX3_sizeOf 1 = .ok (.istore_n 1, 1) := dk_60 (dk_at dksX3_sizeOf_0 1 rfl rfl)
theorem dX3_sizeOf_2 : decode cX3_sizeOf 2 = .ok (.iconst 0, 1) := dk_3 (dk_at dksX3_sizeOf_0 2 rfl rfl)
theorem dX3_sizeOf_3 : decode cX3_sizeOf 3 = .ok (.istore_n 2, 1) := dk_61 (dk_at dksX3_sizeOf_0 3 rfl rfl)
theorem dX3_sizeOf_4 : decode cX3_sizeOf 4 = .ok (.iload_n 2, 1) := dk_28 (dk_at dksX3_sizeOf_0 4 rfl rfl)
theorem dX3_sizeOf_5 : decode cX3_sizeOf 5 = .ok (.iconst 5, 1) := dk_8 (dk_at dksX3_sizeOf_0 5 rfl rfl)
theorem dX3_sizeOf_6 : decode cX3_sizeOf 6 = .ok (.if_icmp .ge 17, 3) := dk_162 0 17 (dk_at dksX3_sizeOf_0 6 rfl rfl)
theorem dX3_sizeOf_9 : decode cX3_sizeOf 9 = .ok (.iload_n 1, 1) := dk_27 (dk_at dksX3_sizeOf_0 9 rfl rfl)
theorem dX3_sizeOf_10 : decode cX3_sizeOf 10 = .ok (.iload_n 0, 1) := dk_26 (dk_at dksX3_sizeOf_0 10 rfl rfl)
theorem dX3_sizeOf_11 : decode cX3_sizeOf 11 = .ok (.iload_n 2, 1) := dk_28 (dk_at dksX3_sizeOf_0 11 rfl rfl)
theorem dX3_sizeOf_12 : decode cX3_sizeOf 12 = .ok (.invokestatic 107, 3) := dk_184 0 107 (dk_at dksX3_sizeOf_0 12 rfl rfl)
theorem dX3_sizeOf_15 : decode cX3_sizeOf 15 = .ok (.iadd, 1) := dk_96 (dk_at dksX3_sizeOf_0 15 rfl rfl)
theorem dX3_sizeOf_16 : decode cX3_sizeOf 16 = .ok (.istore_n 1, 1) := dk_60 (dk_at dksX3_sizeOf_0 16 rfl rfl)
theorem dX3_sizeOf_17 : decode cX3_sizeOf 17 = .ok (.iinc 2 1, 3) := dk_132 2 1 (dk_at dksX3_sizeOf_0 17 rfl rfl)
theorem dX3_sizeOf_20 : decode cX3_sizeOf 20 = .ok (.goto (-16), 3) := dk_167 255 240 (dk_at dksX3_sizeOf_0 20 rfl rfl)
theorem dX3_sizeOf_23 : decode cX3_sizeOf 23 = .ok (.iload_n 1, 1) := dk_27 (dk_at dksX3_sizeOf_0 23 rfl rfl)
theorem dX3_sizeOf_24 : decode cX3_sizeOf 24 = .ok (.ireturn, 1) := dk_172 (dk_at dksX3_sizeOf_1 0 rfl rfl)
abbrev cX3_rob : ByteArray := prog_12_method_48_code
def yX3_rob : MethodName := ⟨RX3, "rob", "(III)I"⟩
def dkwX3_rob_2 : List UInt8 := [172]
abbrev dktX3_rob_2 : List UInt8 := dkwX3_rob_2 ++ []
def dkwX3_rob_1 : List UInt8 := [182, 0, 194, 154, 0, 9, 42, 6, 182, 0, 149, 172, 42, 5, 181, 0, 115, 42, 27, 28, 29, 182, 0, 197]
abbrev dktX3_rob_1 : List UInt8 := dkwX3_rob_1 ++ dktX3_rob_2
def dkwX3_rob_0 : List UInt8 := [42, 27, 28, 29, 182, 0, 191, 154, 0, 5, 3, 172, 42, 180, 0, 115, 7, 160, 0, 12, 42, 27, 28]
abbrev dktX3_rob_0 : List UInt8 := dkwX3_rob_0 ++ dktX3_rob_1
theorem dksX3_rob_0 : cX3_rob.data.toList.drop 0 = dktX3_rob_0 := by decide +kernel
theorem dksX3_rob_1 : cX3_rob.data.toList.drop 23 = dktX3_rob_1 := dk_seg dksX3_rob_0 23 rfl rfl
theorem dksX3_rob_2 : cX3_rob.data.toList.drop 47 = dktX3_rob_2 := dk_seg dksX3_rob_1 24 rfl rfl
theorem dX3_rob_0 : decode cX3_rob 0 = .ok (.aload_n 0, 1) := dk_42 (dk_at dksX3_rob_0 0 rfl rfl)
theorem dX3_rob_1 : decode cX3_rob 1 = .ok (.iload_n 1, 1) := dk_27 (dk_at dksX3_rob_0 1 rfl rfl)
theorem dX3_rob_2 : decode cX3_rob 2 = .ok (.iload_n 2, 1) := dk_28 (dk_at dksX3_rob_0 2 rfl rfl)
theorem dX3_rob_3 : decode cX3_rob 3 = .ok (.iload_n 3, 1) := dk_29 (dk_at dksX3_rob_0 3 rfl rfl)
theorem dX3_rob_4 : decode cX3_rob 4 = .ok (.invokevirtual 191, 3) := dk_182 0 191 (dk_at dksX3_rob_0 4 rfl rfl)
theorem dX3_rob_7 : decode cX3_rob 7 = .ok (.ifCond .ne 5, 3) := dk_154 0 5 (dk_at dksX3_rob_0 7 rfl rfl)
theorem dX3_rob_10 : decode cX3_rob 10 = .ok (.iconst 0, 1) := dk_3 (dk_at dksX3_rob_0 10 rfl rfl)
theorem dX3_rob_11 : decode cX3_rob 11 = .ok (.ireturn, 1) := dk_172 (dk_at dksX3_rob_0 11 rfl rfl)
theorem dX3_rob_12 : decode cX3_rob 12 = .ok (.aload_n 0, 1) := dk_42 (dk_at dksX3_rob_0 12 rfl rfl)
theorem dX3_rob_13 : decode cX3_rob 13 = .ok (.getfield 115, 3) := dk_180 0 115 (dk_at dksX3_rob_0 13 rfl rfl)
theorem dX3_rob_16 : decode cX3_rob 16 = .ok (.iconst 4, 1) := dk_7 (dk_at dksX3_rob_0 16 rfl rfl)
theorem dX3_rob_17 : decode cX3_rob 17 = .ok (.if_icmp .ne 12, 3) := dk_160 0 12 (dk_at dksX3_rob_0 17 rfl rfl)
theorem dX3_rob_20 : decode cX3_rob 20 = .ok (.aload_n 0, 1) := dk_42 (dk_at dksX3_rob_0 20 rfl rfl)
theorem dX3_rob_21 : decode cX3_rob 21 = .ok (.iload_n 1, 1) := dk_27 (dk_at dksX3_rob_0 21 rfl rfl)
theorem dX3_rob_22 : decode cX3_rob 22 = .ok (.iload_n 2, 1) := dk_28 (dk_at dksX3_rob_0 22 rfl rfl)
theorem dX3_rob_23 : decode cX3_rob 23 = .ok (.invokevirtual 194, 3) := dk_182 0 194 (dk_at dksX3_rob_1 0 rfl rfl)
theorem dX3_rob_26 : decode cX3_rob 26 = .ok (.ifCond .ne 9, 3) := dk_154 0 9 (dk_at dksX3_rob_1 3 rfl rfl)
theorem dX3_rob_29 : decode cX3_rob 29 = .ok (.aload_n 0, 1) := dk_42 (dk_at dksX3_rob_1 6 rfl rfl)
theorem dX3_rob_30 : decode cX3_rob 30 = .ok (.iconst 3, 1) := dk_6 (dk_at dksX3_rob_1 7 rfl rfl)
theorem dX3_rob_31 : decode cX3_rob 31 = .ok (.invokevirtual 149, 3) := dk_182 0 149 (dk_at dksX3_rob_1 8 rfl rfl)
theorem dX3_rob_34 : decode cX3_rob 34 = .ok (.ireturn, 1) := dk_172 (dk_at dksX3_rob_1 11 rfl rfl)
theorem dX3_rob_35 : decode cX3_rob 35 = .ok (.aload_n 0, 1) := dk_42 (dk_at dksX3_rob_1 12 rfl rfl)
theorem dX3_rob_36 : decode cX3_rob 36 = .ok (.iconst 2, 1) := dk_5 (dk_at dksX3_rob_1 13 rfl rfl)
theorem dX3_rob_37 : decode cX3_rob 37 = .ok (.putfield 115, 3) := dk_181 0 115 (dk_at dksX3_rob_1 14 rfl rfl)
theorem dX3_rob_40 : decode cX3_rob 40 = .ok (.aload_n 0, 1) := dk_42 (dk_at dksX3_rob_1 17 rfl rfl)
theorem dX3_rob_41 : decode cX3_rob 41 = .ok (.iload_n 1, 1) := dk_27 (dk_at dksX3_rob_1 18 rfl rfl)
theorem dX3_rob_42 : decode cX3_rob 42 = .ok (.iload_n 2, 1) := dk_28 (dk_at dksX3_rob_1 19 rfl rfl)
theorem dX3_rob_43 : decode cX3_rob 43 = .ok (.iload_n 3, 1) := dk_29 (dk_at dksX3_rob_1 20 rfl rfl)
theorem dX3_rob_44 : decode cX3_rob 44 = .ok (.invokevirtual 197, 3) := dk_182 0 197 (dk_at dksX3_rob_1 21 rfl rfl)
theorem dX3_rob_47 : decode cX3_rob 47 = .ok (.ireturn, 1) := dk_172 (dk_at dksX3_rob_2 0 rfl rfl)
abbrev cX3_asksRob : ByteArray := prog_12_method_47_code
def yX3_asksRob : MethodName := ⟨RX3, "asksRob", "(III)Z"⟩
def dkwX3_asksRob_2 : List UInt8 := [154, 0, 7, 4, 167, 0, 4, 3, 172]
abbrev dktX3_asksRob_2 : List UInt8 := dkwX3_asksRob_2 ++ []
def dkwX3_asksRob_1 : List UInt8 := [29, 3, 17, 3, 231, 184, 0, 131, 154, 0, 7, 5, 167, 0, 4, 3, 181, 0, 59, 42, 180, 0, 59]
abbrev dktX3_asksRob_1 : List UInt8 := dkwX3_asksRob_1 ++ dktX3_asksRob_2
def dkwX3_asksRob_0 : List UInt8 := [42, 27, 184, 0, 124, 153, 0, 15, 28, 2, 159, 0, 14, 28, 184, 0, 159, 154, 0, 7, 4, 167, 0, 19]
abbrev dktX3_asksRob_0 : List UInt8 := dkwX3_asksRob_0 ++ dktX3_asksRob_1
theorem dksX3_asksRob_0 : cX3_asksRob.data.toList.drop 0 = dktX3_asksRob_0 := by decide +kernel
theorem dksX3_asksRob_1 : cX3_asksRob.data.toList.drop 24 = dktX3_asksRob_1 := dk_seg dksX3_asksRob_0 24 rfl rfl
theorem dksX3_asksRob_2 : cX3_asksRob.data.toList.drop 47 = dktX3_asksRob_2 := dk_seg dksX3_asksRob_1 23 rfl rfl
theorem dX3_asksRob_0 : decode cX3_asksRob 0 = .ok (.aload_n 0, 1) := dk_42 (dk_at dksX3_asksRob_0 0 rfl rfl)
theorem dX3_asksRob_1 : decode cX3_asksRob 1 = .ok (.iload_n 1, 1) := dk_27 (dk_at dksX3_asksRob_0 1 rfl rfl)
theorem dX3_asksRob_2 : decode cX3_asksRob 2 = .ok (.invokestatic 124, 3) := dk_184 0 124 (dk_at dksX3_asksRob_0 2 rfl rfl)
theorem dX3_asksRob_5 : decode cX3_asksRob 5 = .ok (.ifCond .eq 15, 3) := dk_153 0 15 (dk_at dksX3_asksRob_0 5 rfl rfl)
theorem dX3_asksRob_8 : decode cX3_asksRob 8 = .ok (.iload_n 2, 1) := dk_28 (dk_at dksX3_asksRob_0 8 rfl rfl)
theorem dX3_asksRob_9 : decode cX3_asksRob 9 = .ok (.iconst (-1), 1) := dk_2 (dk_at dksX3_asksRob_0 9 rfl rfl)
theorem dX3_asksRob_10 : decode cX3_asksRob 10 = .ok (.if_icmp .eq 14, 3) := dk_159 0 14 (dk_at dksX3_asksRob_0 10 rfl rfl)
theorem dX3_asksRob_13 : decode cX3_asksRob 13 = .ok (.iload_n 2, 1) := dk_28 (dk_at dksX3_asksRob_0 13 rfl rfl)
theorem dX3_asksRob_14 : decode cX3_asksRob 14 = .ok (.invokestatic 159, 3) := dk_184 0 159 (dk_at dksX3_asksRob_0 14 rfl rfl)
theorem dX3_asksRob_17 : decode cX3_asksRob 17 = .ok (.ifCond .ne 7, 3) := dk_154 0 7 (dk_at dksX3_asksRob_0 17 rfl rfl)
theorem dX3_asksRob_20 : decode cX3_asksRob 20 = .ok (.iconst 1, 1) := dk_4 (dk_at dksX3_asksRob_0 20 rfl rfl)
theorem dX3_asksRob_21 : decode cX3_asksRob 21 = .ok (.goto 19, 3) := dk_167 0 19 (dk_at dksX3_asksRob_0 21 rfl rfl)
theorem dX3_asksRob_24 : decode cX3_asksRob 24 = .ok (.iload_n 3, 1) := dk_29 (dk_at dksX3_asksRob_1 0 rfl rfl)
theorem dX3_asksRob_25 : decode cX3_asksRob 25 = .ok (.iconst 0, 1) := dk_3 (dk_at dksX3_asksRob_1 1 rfl rfl)
theorem dX3_asksRob_26 : decode cX3_asksRob 26 = .ok (.sipush 999, 3) := dk_17 3 231 (dk_at dksX3_asksRob_1 2 rfl rfl)
theorem dX3_asksRob_29 : decode cX3_asksRob 29 = .ok (.invokestatic 131, 3) := dk_184 0 131 (dk_at dksX3_asksRob_1 5 rfl rfl)
theorem dX3_asksRob_32 : decode cX3_asksRob 32 = .ok (.ifCond .ne 7, 3) := dk_154 0 7 (dk_at dksX3_asksRob_1 8 rfl rfl)
theorem dX3_asksRob_35 : decode cX3_asksRob 35 = .ok (.iconst 2, 1) := dk_5 (dk_at dksX3_asksRob_1 11 rfl rfl)
theorem dX3_asksRob_36 : decode cX3_asksRob 36 = .ok (.goto 4, 3) := dk_167 0 4 (dk_at dksX3_asksRob_1 12 rfl rfl)
theorem dX3_asksRob_39 : decode cX3_asksRob 39 = .ok (.iconst 0, 1) := dk_3 (dk_at dksX3_asksRob_1 15 rfl rfl)
theorem dX3_asksRob_40 : decode cX3_asksRob 40 = .ok (.putfield 59, 3) := dk_181 0 59 (dk_at dksX3_asksRob_1 16 rfl rfl)
theorem dX3_asksRob_43 : decode cX3_asksRob 43 = .ok (.aload_n 0, 1) := dk_42 (dk_at dksX3_asksRob_1 19 rfl rfl)
theorem dX3_asksRob_44 : decode cX3_asksRob 44 = .ok (.getfield 59, 3) := dk_180 0 59 (dk_at dksX3_asksRob_1 20 rfl rfl)
theorem dX3_asksRob_47 : decode cX3_asksRob 47 = .ok (.ifCond .ne 7, 3) := dk_154 0 7 (dk_at dksX3_asksRob_2 0 rfl rfl)
theorem dX3_asksRob_50 : decode cX3_asksRob 50 = .ok (.iconst 1, 1) := dk_4 (dk_at dksX3_asksRob_2 3 rfl rfl)
theorem dX3_asksRob_51 : decode cX3_asksRob 51 = .ok (.goto 4, 3) := dk_167 0 4 (dk_at dksX3_asksRob_2 4 rfl rfl)
theorem dX3_asksRob_54 : decode cX3_asksRob 54 = .ok (.iconst 0, 1) := dk_3 (dk_at dksX3_asksRob_2 7 rfl rfl)
theorem dX3_asksRob_55 : decode cX3_asksRob 55 = .ok (.ireturn, 1) := dk_172 (dk_at dksX3_asksRob_2 8 rfl rfl)
abbrev cX3_mayRob : ByteArray := prog_12_method_45_code
def yX3_mayRob : MethodName := ⟨RX3, "mayRob", "(II)Z"⟩
def dkwX3_mayRob_2 : List UInt8 := [154, 0, 19, 167, 0, 12, 42, 28, 27, 182, 0, 188, 153, 0, 7, 4, 167, 0, 4, 3, 172]
abbrev dktX3_mayRob_2 : List UInt8 := dkwX3_mayRob_2 ++ []
def dkwX3_mayRob_1 : List UInt8 := [153, 0, 7, 4, 167, 0, 4, 3, 62, 27, 42, 180, 0, 178, 159, 0, 28, 28, 2, 160, 0, 10, 29]
abbrev dktX3_mayRob_1 : List UInt8 := dkwX3_mayRob_1 ++ dktX3_mayRob_2
def dkwX3_mayRob_0 : List UInt8 := [42, 3, 27, 182, 0, 188, 154, 0, 21, 42, 4, 27, 182, 0, 188, 154, 0, 12, 42, 5, 27, 182, 0, 188]
abbrev dktX3_mayRob_0 : List UInt8 := dkwX3_mayRob_0 ++ dktX3_mayRob_1
theorem dksX3_mayRob_0 : cX3_mayRob.data.toList.drop 0 = dktX3_mayRob_0 := by decide +kernel
theorem dksX3_mayRob_1 : cX3_mayRob.data.toList.drop 24 = dktX3_mayRob_1 := dk_seg dksX3_mayRob_0 24 rfl rfl
theorem dksX3_mayRob_2 : cX3_mayRob.data.toList.drop 47 = dktX3_mayRob_2 := dk_seg dksX3_mayRob_1 23 rfl rfl
theorem dX3_mayRob_0 : decode cX3_mayRob 0 = .ok (.aload_n 0, 1) := dk_42 (dk_at dksX3_mayRob_0 0 rfl rfl)
theorem dX3_mayRob_1 : decode cX3_mayRob 1 = .ok (.iconst 0, 1) := dk_3 (dk_at dksX3_mayRob_0 1 rfl rfl)
theorem dX3_mayRob_2 : decode cX3_mayRob 2 = .ok (.iload_n 1, 1) := dk_27 (dk_at dksX3_mayRob_0 2 rfl rfl)
theorem dX3_mayRob_3 : decode cX3_mayRob 3 = .ok (.invokevirtual 188, 3) := dk_182 0 188 (dk_at dksX3_mayRob_0 3 rfl rfl)
theorem dX3_mayRob_6 : decode cX3_mayRob 6 = .ok (.ifCond .ne 21, 3) := dk_154 0 21 (dk_at dksX3_mayRob_0 6 rfl rfl)
theorem dX3_mayRob_9 : decode cX3_mayRob 9 = .ok (.aload_n 0, 1) := dk_42 (dk_at dksX3_mayRob_0 9 rfl rfl)
theorem dX3_mayRob_10 : decode cX3_mayRob 10 = .ok (.iconst 1, 1) := dk_4 (dk_at dksX3_mayRob_0 10 rfl rfl)
theorem dX3_mayRob_11 : decode cX3_mayRob 11 = .ok (.iload_n 1, 1) := dk_27 (dk_at dksX3_mayRob_0 11 rfl rfl)
theorem dX3_mayRob_12 : decode cX3_mayRob 12 = .ok (.invokevirtual 188, 3) := dk_182 0 188 (dk_at dksX3_mayRob_0 12 rfl rfl)
theorem dX3_mayRob_15 : decode cX3_mayRob 15 = .ok (.ifCond .ne 12, 3) := dk_154 0 12 (dk_at dksX3_mayRob_0 15 rfl rfl)
theorem dX3_mayRob_18 : decode cX3_mayRob 18 = .ok (.aload_n 0, 1) := dk_42 (dk_at dksX3_mayRob_0 18 rfl rfl)
theorem dX3_mayRob_19 : decode cX3_mayRob 19 = .ok (.iconst 2, 1) := dk_5 (dk_at dksX3_mayRob_0 19 rfl rfl)
theorem dX3_mayRob_20 : decode cX3_mayRob 20 = .ok (.iload_n 1, 1) := dk_27 (dk_at dksX3_mayRob_0 20 rfl rfl)
theorem dX3_mayRob_21 : decode cX3_mayRob 21 = .ok (.invokevirtual 188, 3) := dk_182 0 188 (dk_at dksX3_mayRob_0 21 rfl rfl)
theorem dX3_mayRob_24 : decode cX3_mayRob 24 = .ok (.ifCond .eq 7, 3) := dk_153 0 7 (dk_at dksX3_mayRob_1 0 rfl rfl)
theorem dX3_mayRob_27 : decode cX3_mayRob 27 = .ok (.iconst 1, 1) := dk_4 (dk_at dksX3_mayRob_1 3 rfl rfl)
theorem dX3_mayRob_28 : decode cX3_mayRob 28 = .ok (.goto 4, 3) := dk_167 0 4 (dk_at dksX3_mayRob_1 4 rfl rfl)
theorem dX3_mayRob_31 : decode cX3_mayRob 31 = .ok (.iconst 0, 1) := dk_3 (dk_at dksX3_mayRob_1 7 rfl rfl)
theorem dX3_mayRob_32 : decode cX3_mayRob 32 = .ok (.istore_n 3, 1) := dk_62 (dk_at dksX3_mayRob_1 8 rfl rfl)
theorem dX3_mayRob_33 : decode cX3_mayRob 33 = .ok (.iload_n 1, 1) := dk_27 (dk_at dksX3_mayRob_1 9 rfl rfl)
theorem dX3_mayRob_34 : decode cX3_mayRob 34 = .ok (.aload_n 0, 1) := dk_42 (dk_at dksX3_mayRob_1 10 rfl rfl)
theorem dX3_mayRob_35 : decode cX3_mayRob 35 = .ok (.getfield 178, 3) := dk_180 0 178 (dk_at dksX3_mayRob_1 11 rfl rfl)
theorem dX3_mayRob_38 : decode cX3_mayRob 38 = .ok (.if_icmp .eq 28, 3) := dk_159 0 28 (dk_at dksX3_mayRob_1 14 rfl rfl)
theorem dX3_mayRob_41 : decode cX3_mayRob 41 = .ok (.iload_n 2, 1) := dk_28 (dk_at dksX3_mayRob_1 17 rfl rfl)
theorem dX3_mayRob_42 : decode cX3_mayRob 42 = .ok (.iconst (-1), 1) := dk_2 (dk_at dksX3_mayRob_1 18 rfl rfl)
theorem dX3_mayRob_43 : decode cX3_mayRob 43 = .ok (.if_icmp .ne 10, 3) := dk_160 0 10 (dk_at dksX3_mayRob_1 19 rfl rfl)
theorem dX3_mayRob_46 : decode cX3_mayRob 46 = .ok (.iload_n 3, 1) := dk_29 (dk_at dksX3_mayRob_1 22 rfl rfl)
theorem dX3_mayRob_47 : decode cX3_mayRob 47 = .ok (.ifCond .ne 19, 3) := dk_154 0 19 (dk_at dksX3_mayRob_2 0 rfl rfl)
theorem dX3_mayRob_50 : decode cX3_mayRob 50 = .ok (.goto 12, 3) := dk_167 0 12 (dk_at dksX3_mayRob_2 3 rfl rfl)
theorem dX3_mayRob_53 : decode cX3_mayRob 53 = .ok (.aload_n 0, 1) := dk_42 (dk_at dksX3_mayRob_2 6 rfl rfl)
theorem dX3_mayRob_54 : decode cX3_mayRob 54 = .ok (.iload_n 2, 1) := dk_28 (dk_at dksX3_mayRob_2 7 rfl rfl)
theorem dX3_mayRob_55 : decode cX3_mayRob 55 = .ok (.iload_n 1, 1) := dk_27 (dk_at dksX3_mayRob_2 8 rfl rfl)
theorem dX3_mayRob_56 : decode cX3_mayRob 56 = .ok (.invokevirtual 188, 3) := dk_182 0 188 (dk_at dksX3_mayRob_2 9 rfl rfl)
theorem dX3_mayRob_59 : decode cX3_mayRob 59 = .ok (.ifCond .eq 7, 3) := dk_153 0 7 (dk_at dksX3_mayRob_2 12 rfl rfl)
theorem dX3_mayRob_62 : decode cX3_mayRob 62 = .ok (.iconst 1, 1) := dk_4 (dk_at dksX3_mayRob_2 15 rfl rfl)
theorem dX3_mayRob_63 : decode cX3_mayRob 63 = .ok (.goto 4, 3) := dk_167 0 4 (dk_at dksX3_mayRob_2 16 rfl rfl)
theorem dX3_mayRob_66 : decode cX3_mayRob 66 = .ok (.iconst 0, 1) := dk_3 (dk_at dksX3_mayRob_2 19 rfl rfl)
theorem dX3_mayRob_67 : decode cX3_mayRob 67 = .ok (.ireturn, 1) := dk_172 (dk_at dksX3_mayRob_2 20 rfl rfl)
abbrev cX3_isVictim : ByteArray := prog_12_method_44_code
def yX3_isVictim : MethodName := ⟨RX3, "isVictim", "(II)Z"⟩
def dkwX3_isVictim_3 : List UInt8 := [167, 0, 4, 3, 172]
abbrev dktX3_isVictim_3 : List UInt8 := dkwX3_isVictim_3 ++ []
def dkwX3_isVictim_2 : List UInt8 := [167, 255, 217, 29, 153, 0, 23, 27, 42, 180, 0, 118, 159, 0, 15, 42, 27, 182, 0, 175, 158, 0, 7, 4]
abbrev dktX3_isVictim_2 : List UInt8 := dkwX3_isVictim_2 ++ dktX3_isVictim_3
def dkwX3_isVictim_1 : List UInt8 := [153, 0, 17, 42, 21, 4, 182, 0, 74, 27, 160, 0, 7, 4, 167, 0, 4, 3, 62, 132, 4, 1]
abbrev dktX3_isVictim_1 : List UInt8 := dkwX3_isVictim_1 ++ dktX3_isVictim_2
def dkwX3_isVictim_0 : List UInt8 := [3, 62, 3, 54, 4, 21, 4, 16, 24, 162, 0, 38, 29, 154, 0, 22, 28, 21, 4, 184, 0, 137]
abbrev dktX3_isVictim_0 : List UInt8 := dkwX3_isVictim_0 ++ dktX3_isVictim_1
theorem dksX3_isVictim_0 : cX3_isVictim.data.toList.drop 0 = dktX3_isVictim_0 := by decide +kernel
theorem dksX3_isVictim_1 : cX3_isVictim.data.toList.drop 22 = dktX3_isVictim_1 := dk_seg dksX3_isVictim_0 22 rfl rfl
theorem dksX3_isVictim_2 : cX3_isVictim.data.toList.drop 44 = dktX3_isVictim_2 := dk_seg dksX3_isVictim_1 22 rfl rfl
theorem dksX3_isVictim_3 : cX3_isVictim.data.toList.drop 68 = dktX3_isVictim_3 := dk_seg dksX3_isVictim_2 24 rfl rfl
theorem dX3_isVictim_0 : decode cX3_isVictim 0 = .ok (.iconst 0, 1) := dk_3 (dk_at dksX3_isVictim_0 0 rfl rfl)
theorem dX3_isVictim_1 : decode cX3_isVictim 1 = .ok (.istore_n 3, 1) := dk_62 (dk_at dksX3_isVictim_0 1 rfl rfl)
theorem dX3_isVictim_2 : decode cX3_isVictim 2 = .ok (.iconst 0, 1) := dk_3 (dk_at dksX3_isVictim_0 2 rfl rfl)
theorem dX3_isVictim_3 : decode cX3_isVictim 3 = .ok (.istore 4, 2) := dk_54 4 (dk_at dksX3_isVictim_0 3 rfl rfl)
theorem dX3_isVictim_5 : decode cX3_isVictim 5 = .ok (.iload 4, 2) := dk_21 4 (dk_at dksX3_isVictim_0 5 rfl rfl)
theorem dX3_isVictim_7 : decode cX3_isVictim 7 = .ok (.bipush 24, 2) := dk_16 24 (dk_at dksX3_isVictim_0 7 rfl rfl)
theorem dX3_isVictim_9 : decode cX3_isVictim 9 = .ok (.if_icmp .ge 38, 3) := dk_162 0 38 (dk_at dksX3_isVictim_0 9 rfl rfl)
theorem dX3_isVictim_12 : decode cX3_isVictim 12 = .ok (.iload_n 3, 1) := dk_29 (dk_at dksX3_isVictim_0 12 rfl rfl)
theorem dX3_isVictim_13 : decode cX3_isVictim 13 = .ok (.ifCond .ne 22, 3) := dk_154 0 22 (dk_at dksX3_isVictim_0 13 rfl rfl)
theorem dX3_isVictim_16 : decode cX3_isVictim 16 = .ok (.iload_n 2, 1) := dk_28 (dk_at dksX3_isVictim_0 16 rfl rfl)
theorem dX3_isVictim_17 : decode cX3_isVictim 17 = .ok (.iload 4, 2) := dk_21 4 (dk_at dksX3_isVictim_0 17 rfl rfl)
theorem dX3_isVictim_19 : decode cX3_isVictim 19 = .ok (.invokestatic 137, 3) := dk_184 0 137 (dk_at dksX3_isVictim_0 19 rfl rfl)
theorem dX3_isVictim_22 : decode cX3_isVictim 22 = .ok (.ifCond .eq 17, 3) := dk_153 0 17 (dk_at dksX3_isVictim_1 0 rfl rfl)
theorem dX3_isVictim_25 : decode cX3_isVictim 25 = .ok (.aload_n 0, 1) := dk_42 (dk_at dksX3_isVictim_1 3 rfl rfl)
theorem dX3_isVictim_26 : decode cX3_isVictim 26 = .ok (.iload 4, 2) := dk_21 4 (dk_at dksX3_isVictim_1 4 rfl rfl)
theorem dX3_isVictim_28 : decode cX3_isVictim 28 = .ok (.invokevirtual 74, 3) := dk_182 0 74 (dk_at dksX3_isVictim_1 6 rfl rfl)
theorem dX3_isVictim_31 : decode cX3_isVictim 31 = .ok (.iload_n 1, 1) := dk_27 (dk_at dksX3_isVictim_1 9 rfl rfl)
theorem dX3_isVictim_32 : decode cX3_isVictim 32 = .ok (.if_icmp .ne 7, 3) := dk_160 0 7 (dk_at dksX3_isVictim_1 10 rfl rfl)
theorem dX3_isVictim_35 : decode cX3_isVictim 35 = .ok (.iconst 1, 1) := dk_4 (dk_at dksX3_isVictim_1 13 rfl rfl)
theorem dX3_isVictim_36 : decode cX3_isVictim 36 = .ok (.goto 4, 3) := dk_167 0 4 (dk_at dksX3_isVictim_1 14 rfl rfl)
theorem dX3_isVictim_39 : decode cX3_isVictim 39 = .ok (.iconst 0, 1) := dk_3 (dk_at dksX3_isVictim_1 17 rfl rfl)
theorem dX3_isVictim_40 : decode cX3_isVictim 40 = .ok (.istore_n 3, 1) := dk_62 (dk_at dksX3_isVictim_1 18 rfl rfl)
theorem dX3_isVictim_41 : decode cX3_isVictim 41 = .ok (.iinc 4 1, 3) := dk_132 4 1 (dk_at dksX3_isVictim_1 19 rfl rfl)
theorem dX3_isVictim_44 : decode cX3_isVictim 44 = .ok (.goto (-39), 3) := dk_167 255 217 (dk_at dksX3_isVictim_2 0 rfl rfl)
theorem dX3_isVictim_47 : decode cX3_isVictim 47 = .ok (.iload_n 3, 1) := dk_29 (dk_at dksX3_isVictim_2 3 rfl rfl)
theorem dX3_isVictim_48 : decode cX3_isVictim 48 = .ok (.ifCond .eq 23, 3) := dk_153 0 23 (dk_at dksX3_isVictim_2 4 rfl rfl)
theorem dX3_isVictim_51 : decode cX3_isVictim 51 = .ok (.iload_n 1, 1) := dk_27 (dk_at dksX3_isVictim_2 7 rfl rfl)
theorem dX3_isVictim_52 : decode cX3_isVictim 52 = .ok (.aload_n 0, 1) := dk_42 (dk_at dksX3_isVictim_2 8 rfl rfl)
theorem dX3_isVictim_53 : decode cX3_isVictim 53 = .ok (.getfield 118, 3) := dk_180 0 118 (dk_at dksX3_isVictim_2 9 rfl rfl)
theorem dX3_isVictim_56 : decode cX3_isVictim 56 = .ok (.if_icmp .eq 15, 3) := dk_159 0 15 (dk_at dksX3_isVictim_2 12 rfl rfl)
theorem dX3_isVictim_59 : decode cX3_isVictim 59 = .ok (.aload_n 0, 1) := dk_42 (dk_at dksX3_isVictim_2 15 rfl rfl)
theorem dX3_isVictim_60 : decode cX3_isVictim 60 = .ok (.iload_n 1, 1) := dk_27 (dk_at dksX3_isVictim_2 16 rfl rfl)
theorem dX3_isVictim_61 : decode cX3_isVictim 61 = .ok (.invokevirtual 175, 3) := dk_182 0 175 (dk_at dksX3_isVictim_2 17 rfl rfl)
theorem dX3_isVictim_64 : decode cX3_isVictim 64 = .ok (.ifCond .le 7, 3) := dk_158 0 7 (dk_at dksX3_isVictim_2 20 rfl rfl)
theorem dX3_isVictim_67 : decode cX3_isVictim 67 = .ok (.iconst 1, 1) := dk_4 (dk_at dksX3_isVictim_2 23 rfl rfl)
theorem dX3_isVictim_68 : decode cX3_isVictim 68 = .ok (.goto 4, 3) := dk_167 0 4 (dk_at dksX3_isVictim_3 0 rfl rfl)
theorem dX3_isVictim_71 : decode cX3_isVictim 71 = .ok (.iconst 0, 1) := dk_3 (dk_at dksX3_isVictim_3 3 rfl rfl)
theorem dX3_isVictim_72 : decode cX3_isVictim 72 = .ok (.ireturn, 1) := dk_172 (dk_at dksX3_isVictim_3 4 rfl rfl)
abbrev cX3_robs : ByteArray := prog_12_method_46_code
def yX3_robs : MethodName := ⟨RX3, "robs", "(III)I"⟩
def dkwX3_robs_4 : List UInt8 := [21, 5, 172]
abbrev dktX3_robs_4 : List UInt8 := dkwX3_robs_4 ++ []
def dkwX3_robs_3 : List UInt8 := [92, 46, 4, 100, 79, 42, 180, 0, 22, 8, 42, 180, 0, 118, 104, 21, 5, 96, 92, 46, 4, 96, 79]
abbrev dktX3_robs_3 : List UInt8 := dkwX3_robs_3 ++ dktX3_robs_4
def dkwX3_robs_2 : List UInt8 := [104, 21, 5, 96, 46, 100, 54, 4, 132, 5, 1, 167, 255, 221, 42, 180, 0, 22, 8, 28, 104, 21, 5, 96]
abbrev dktX3_robs_2 : List UInt8 := dkwX3_robs_2 ++ dktX3_robs_3
def dkwX3_robs_1 : List UInt8 := [21, 4, 42, 180, 0, 22, 8, 28, 104, 21, 5, 96, 46, 161, 0, 25, 21, 4, 42, 180, 0, 22, 8, 28]
abbrev dktX3_robs_1 : List UInt8 := dkwX3_robs_1 ++ dktX3_robs_2
def dkwX3_robs_0 : List UInt8 := [42, 27, 181, 0, 178, 28, 2, 160, 0, 5, 2, 172, 29, 42, 28, 182, 0, 175, 112, 54, 4, 3, 54, 5]
abbrev dktX3_robs_0 : List UInt8 := dkwX3_robs_0 ++ dktX3_robs_1
theorem dksX3_robs_0 : cX3_robs.data.toList.drop 0 = dktX3_robs_0 := by decide +kernel
theorem dksX3_robs_1 : cX3_robs.data.toList.drop 24 = dktX3_robs_1 := dk_seg dksX3_robs_0 24 rfl rfl
theorem dksX3_robs_2 : cX3_robs.data.toList.drop 48 = dktX3_robs_2 := dk_seg dksX3_robs_1 24 rfl rfl
theorem dksX3_robs_3 : cX3_robs.data.toList.drop 72 = dktX3_robs_3 := dk_seg dksX3_robs_2 24 rfl rfl
theorem dksX3_robs_4 : cX3_robs.data.toList.drop 95 = dktX3_robs_4 := dk_seg dksX3_robs_3 23 rfl rfl
theorem dX3_robs_0 : decode cX3_robs 0 = .ok (.aload_n 0, 1) := dk_42 (dk_at dksX3_robs_0 0 rfl rfl)
theorem dX3_robs_1 : decode cX3_robs 1 = .ok (.iload_n 1, 1) := dk_27 (dk_at dksX3_robs_0 1 rfl rfl)
theorem dX3_robs_2 : decode cX3_robs 2 = .ok (.putfield 178, 3) := dk_181 0 178 (dk_at dksX3_robs_0 2 rfl rfl)
theorem dX3_robs_5 : decode cX3_robs 5 = .ok (.iload_n 2, 1) := dk_28 (dk_at dksX3_robs_0 5 rfl rfl)
theorem dX3_robs_6 : decode cX3_robs 6 = .ok (.iconst (-1), 1) := dk_2 (dk_at dksX3_robs_0 6 rfl rfl)
theorem dX3_robs_7 : decode cX3_robs 7 = .ok (.if_icmp .ne 5, 3) := dk_160 0 5 (dk_at dksX3_robs_0 7 rfl rfl)
theorem dX3_robs_10 : decode cX3_robs 10 = .ok (.iconst (-1), 1) := dk_2 (dk_at dksX3_robs_0 10 rfl rfl)
theorem dX3_robs_11 : decode cX3_robs 11 = .ok (.ireturn, 1) := dk_172 (dk_at dksX3_robs_0 11 rfl rfl)
theorem dX3_robs_12 : decode cX3_robs 12 = .ok (.iload_n 3, 1) := dk_29 (dk_at dksX3_robs_0 12 rfl rfl)
theorem dX3_robs_13 : decode cX3_robs 13 = .ok (.aload_n 0, 1) := dk_42 (dk_at dksX3_robs_0 13 rfl rfl)
theorem dX3_robs_14 : decode cX3_robs 14 = .ok (.iload_n 2, 1) := dk_28 (dk_at dksX3_robs_0 14 rfl rfl)
theorem dX3_robs_15 : decode cX3_robs 15 = .ok (.invokevirtual 175, 3) := dk_182 0 175 (dk_at dksX3_robs_0 15 rfl rfl)
theorem dX3_robs_18 : decode cX3_robs 18 = .ok (.irem, 1) := dk_112 (dk_at dksX3_robs_0 18 rfl rfl)
theorem dX3_robs_19 : decode cX3_robs 19 = .ok (.istore 4, 2) := dk_54 4 (dk_at dksX3_robs_0 19 rfl rfl)
theorem dX3_robs_21 : decode cX3_robs 21 = .ok (.iconst 0, 1) := dk_3 (dk_at dksX3_robs_0 21 rfl rfl)
theorem dX3_robs_22 : decode cX3_robs 22 = .ok (.istore 5, 2) := dk_54 5 (dk_at dksX3_robs_0 22 rfl rfl)
theorem dX3_robs_24 : decode cX3_robs 24 = .ok (.iload 4, 2) := dk_21 4 (dk_at dksX3_robs_1 0 rfl rfl)
theorem dX3_robs_26 : decode cX3_robs 26 = .ok (.aload_n 0, 1) := dk_42 (dk_at dksX3_robs_1 2 rfl rfl)
theorem dX3_robs_27 : decode cX3_robs 27 = .ok (.getfield 22, 3) := dk_180 0 22 (dk_at dksX3_robs_1 3 rfl rfl)
theorem dX3_robs_30 : decode cX3_robs 30 = .ok (.iconst 5, 1) := dk_8 (dk_at dksX3_robs_1 6 rfl rfl)
theorem dX3_robs_31 : decode cX3_robs 31 = .ok (.iload_n 2, 1) := dk_28 (dk_at dksX3_robs_1 7 rfl rfl)
theorem dX3_robs_32 : decode cX3_robs 32 = .ok (.imul, 1) := dk_104 (dk_at dksX3_robs_1 8 rfl rfl)
theorem dX3_robs_33 : decode cX3_robs 33 = .ok (.iload 5, 2) := dk_21 5 (dk_at dksX3_robs_1 9 rfl rfl)
theorem dX3_robs_35 : decode cX3_robs 35 = .ok (.iadd, 1) := dk_96 (dk_at dksX3_robs_1 11 rfl rfl)
theorem dX3_robs_36 : decode cX3_robs 36 = .ok (.iaload, 1) := dk_46 (dk_at dksX3_robs_1 12 rfl rfl)
theorem dX3_robs_37 : decode cX3_robs 37 = .ok (.if_icmp .lt 25, 3) := dk_161 0 25 (dk_at dksX3_robs_1 13 rfl rfl)
theorem dX3_robs_40 : decode cX3_robs 40 = .ok (.iload 4, 2) := dk_21 4 (dk_at dksX3_robs_1 16 rfl rfl)
theorem dX3_robs_42 : decode cX3_robs 42 = .ok (.aload_n 0, 1) := dk_42 (dk_at dksX3_robs_1 18 rfl rfl)
theorem dX3_robs_43 : decode cX3_robs 43 = .ok (.getfield 22, 3) := dk_180 0 22 (dk_at dksX3_robs_1 19 rfl rfl)
theorem dX3_robs_46 : decode cX3_robs 46 = .ok (.iconst 5, 1) := dk_8 (dk_at dksX3_robs_1 22 rfl rfl)
theorem dX3_robs_47 : decode cX3_robs 47 = .ok (.iload_n 2, 1) := dk_28 (dk_at dksX3_robs_1 23 rfl rfl)
theorem dX3_robs_48 : decode cX3_robs 48 = .ok (.imul, 1) := dk_104 (dk_at dksX3_robs_2 0 rfl rfl)
theorem dX3_robs_49 : decode cX3_robs 49 = .ok (.iload 5, 2) := dk_21 5 (dk_at dksX3_robs_2 1 rfl rfl)
theorem dX3_robs_51 : decode cX3_robs 51 = .ok (.iadd, 1) := dk_96 (dk_at dksX3_robs_2 3 rfl rfl)
theorem dX3_robs_52 : decode cX3_robs 52 = .ok (.iaload, 1) := dk_46 (dk_at dksX3_robs_2 4 rfl rfl)
theorem dX3_robs_53 : decode cX3_robs 53 = .ok (.isub, 1) := dk_100 (dk_at dksX3_robs_2 5 rfl rfl)
theorem dX3_robs_54 : decode cX3_robs 54 = .ok (.istore 4, 2) := dk_54 4 (dk_at dksX3_robs_2 6 rfl rfl)
theorem dX3_robs_56 : decode cX3_robs 56 = .ok (.iinc 5 1, 3) := dk_132 5 1 (dk_at dksX3_robs_2 8 rfl rfl)
theorem dX3_robs_59 : decode cX3_robs 59 = .ok (.goto (-35), 3) := dk_167 255 221 (dk_at dksX3_robs_2 11 rfl rfl)
theorem dX3_robs_62 : decode cX3_robs 62 = .ok (.aload_n 0, 1) := dk_42 (dk_at dksX3_robs_2 14 rfl rfl)
theorem dX3_robs_63 : decode cX3_robs 63 = .ok (.getfield 22, 3) := dk_180 0 22 (dk_at dksX3_robs_2 15 rfl rfl)
theorem dX3_robs_66 : decode cX3_robs 66 = .ok (.iconst 5, 1) := dk_8 (dk_at dksX3_robs_2 18 rfl rfl)
theorem dX3_robs_67 : decode cX3_robs 67 = .ok (.iload_n 2, 1) := dk_28 (dk_at dksX3_robs_2 19 rfl rfl)
theorem dX3_robs_68 : decode cX3_robs 68 = .ok (.imul, 1) := dk_104 (dk_at dksX3_robs_2 20 rfl rfl)
theorem dX3_robs_69 : decode cX3_robs 69 = .ok (.iload 5, 2) := dk_21 5 (dk_at dksX3_robs_2 21 rfl rfl)
theorem dX3_robs_71 : decode cX3_robs 71 = .ok (.iadd, 1) := dk_96 (dk_at dksX3_robs_2 23 rfl rfl)
theorem dX3_robs_72 : decode cX3_robs 72 = .ok (.dup2, 1) := dk_92 (dk_at dksX3_robs_3 0 rfl rfl)
theorem dX3_robs_73 : decode cX3_robs 73 = .ok (.iaload, 1) := dk_46 (dk_at dksX3_robs_3 1 rfl rfl)
theorem dX3_robs_74 : decode cX3_robs 74 = .ok (.iconst 1, 1) := dk_4 (dk_at dksX3_robs_3 2 rfl rfl)
theorem dX3_robs_75 : decode cX3_robs 75 = .ok (.isub, 1) := dk_100 (dk_at dksX3_robs_3 3 rfl rfl)
theorem dX3_robs_76 : decode cX3_robs 76 = .ok (.iastore, 1) := dk_79 (dk_at dksX3_robs_3 4 rfl rfl)
theorem dX3_robs_77 : decode cX3_robs 77 = .ok (.aload_n 0, 1) := dk_42 (dk_at dksX3_robs_3 5 rfl rfl)
theorem dX3_robs_78 : decode cX3_robs 78 = .ok (.getfield 22, 3) := dk_180 0 22 (dk_at dksX3_robs_3 6 rfl rfl)
theorem dX3_robs_81 : decode cX3_robs 81 = .ok (.iconst 5, 1) := dk_8 (dk_at dksX3_robs_3 9 rfl rfl)
theorem dX3_robs_82 : decode cX3_robs 82 = .ok (.aload_n 0, 1) := dk_42 (dk_at dksX3_robs_3 10 rfl rfl)
theorem dX3_robs_83 : decode cX3_robs 83 = .ok (.getfield 118, 3) := dk_180 0 118 (dk_at dksX3_robs_3 11 rfl rfl)
theorem dX3_robs_86 : decode cX3_robs 86 = .ok (.imul, 1) := dk_104 (dk_at dksX3_robs_3 14 rfl rfl)
theorem dX3_robs_87 : decode cX3_robs 87 = .ok (.iload 5, 2) := dk_21 5 (dk_at dksX3_robs_3 15 rfl rfl)
theorem dX3_robs_89 : decode cX3_robs 89 = .ok (.iadd, 1) := dk_96 (dk_at dksX3_robs_3 17 rfl rfl)
theorem dX3_robs_90 : decode cX3_robs 90 = .ok (.dup2, 1) := dk_92 (dk_at dksX3_robs_3 18 rfl rfl)
theorem dX3_robs_91 : decode cX3_robs 91 = .ok (.iaload, 1) := dk_46 (dk_at dksX3_robs_3 19 rfl rfl)
theorem dX3_robs_92 : decode cX3_robs 92 = .ok (.iconst 1, 1) := dk_4 (dk_at dksX3_robs_3 20 rfl rfl)
theorem dX3_robs_93 : decode cX3_robs 93 = .ok (.iadd, 1) := dk_96 (dk_at dksX3_robs_3 21 rfl rfl)
theorem dX3_robs_94 : decode cX3_robs 94 = .ok (.iastore, 1) := dk_79 (dk_at dksX3_robs_3 22 rfl rfl)
theorem dX3_robs_95 : decode cX3_robs 95 = .ok (.iload 5, 2) := dk_21 5 (dk_at dksX3_robs_4 0 rfl rfl)
theorem dX3_robs_97 : decode cX3_robs 97 = .ok (.ireturn, 1) := dk_172 (dk_at dksX3_robs_4 2 rfl rfl)
abbrev cX3_road : ByteArray := prog_12_method_51_code
def yX3_road : MethodName := ⟨RX3, "road", "(I)I"⟩
def dkwX3_road_3 : List UInt8 := [180, 0, 118, 182, 0, 104, 172]
abbrev dktX3_road_3 : List UInt8 := dkwX3_road_3 ++ []
def dkwX3_road_2 : List UInt8 := [5, 182, 0, 149, 172, 42, 16, 11, 182, 0, 203, 42, 27, 182, 0, 206, 42, 182, 0, 209, 42, 42]
abbrev dktX3_road_2 : List UInt8 := dkwX3_road_2 ++ dktX3_road_3
def dkwX3_road_1 : List UInt8 := [180, 0, 118, 16, 11, 182, 0, 169, 153, 0, 15, 42, 42, 180, 0, 118, 27, 182, 0, 200, 154, 0, 9, 42]
abbrev dktX3_road_1 : List UInt8 := dkwX3_road_1 ++ dktX3_road_2
def dkwX3_road_0 : List UInt8 := [42, 27, 184, 0, 143, 182, 0, 127, 154, 0, 5, 3, 172, 42, 180, 0, 115, 5, 160, 0, 28, 42, 42]
abbrev dktX3_road_0 : List UInt8 := dkwX3_road_0 ++ dktX3_road_1
theorem dksX3_road_0 : cX3_road.data.toList.drop 0 = dktX3_road_0 := by decide +kernel
theorem dksX3_road_1 : cX3_road.data.toList.drop 23 = dktX3_road_1 := dk_seg dksX3_road_0 23 rfl rfl
theorem dksX3_road_2 : cX3_road.data.toList.drop 47 = dktX3_road_2 := dk_seg dksX3_road_1 24 rfl rfl
theorem dksX3_road_3 : cX3_road.data.toList.drop 69 = dktX3_road_3 := dk_seg dksX3_road_2 22 rfl rfl
theorem dX3_road_0 : decode cX3_road 0 = .ok (.aload_n 0, 1) := dk_42 (dk_at dksX3_road_0 0 rfl rfl)
theorem dX3_road_1 : decode cX3_road 1 = .ok (.iload_n 1, 1) := dk_27 (dk_at dksX3_road_0 1 rfl rfl)
theorem dX3_road_2 : decode cX3_road 2 = .ok (.invokestatic 143, 3) := dk_184 0 143 (dk_at dksX3_road_0 2 rfl rfl)
theorem dX3_road_5 : decode cX3_road 5 = .ok (.invokevirtual 127, 3) := dk_182 0 127 (dk_at dksX3_road_0 5 rfl rfl)
theorem dX3_road_8 : decode cX3_road 8 = .ok (.ifCond .ne 5, 3) := dk_154 0 5 (dk_at dksX3_road_0 8 rfl rfl)
theorem dX3_road_11 : decode cX3_road 11 = .ok (.iconst 0, 1) := dk_3 (dk_at dksX3_road_0 11 rfl rfl)
theorem dX3_road_12 : decode cX3_road 12 = .ok (.ireturn, 1) := dk_172 (dk_at dksX3_road_0 12 rfl rfl)
theorem dX3_road_13 : decode cX3_road 13 = .ok (.aload_n 0, 1) := dk_42 (dk_at dksX3_road_0 13 rfl rfl)
theorem dX3_road_14 : decode cX3_road 14 = .ok (.getfield 115, 3) := dk_180 0 115 (dk_at dksX3_road_0 14 rfl rfl)
theorem dX3_road_17 : decode cX3_road 17 = .ok (.iconst 2, 1) := dk_5 (dk_at dksX3_road_0 17 rfl rfl)
theorem dX3_road_18 : decode cX3_road 18 = .ok (.if_icmp .ne 28, 3) := dk_160 0 28 (dk_at dksX3_road_0 18 rfl rfl)
theorem dX3_road_21 : decode cX3_road 21 = .ok (.aload_n 0, 1) := dk_42 (dk_at dksX3_road_0 21 rfl rfl)
theorem dX3_road_22 : decode cX3_road 22 = .ok (.aload_n 0, 1) := dk_42 (dk_at dksX3_road_0 22 rfl rfl)
theorem dX3_road_23 : decode cX3_road 23 = .ok (.getfield 118, 3) := dk_180 0 118 (dk_at dksX3_road_1 0 rfl rfl)
theorem dX3_road_26 : decode cX3_road 26 = .ok (.bipush 11, 2) := dk_16 11 (dk_at dksX3_road_1 3 rfl rfl)
theorem dX3_road_28 : decode cX3_road 28 = .ok (.invokevirtual 169, 3) := dk_182 0 169 (dk_at dksX3_road_1 5 rfl rfl)
theorem dX3_road_31 : decode cX3_road 31 = .ok (.ifCond .eq 15, 3) := dk_153 0 15 (dk_at dksX3_road_1 8 rfl rfl)
theorem dX3_road_34 : decode cX3_road 34 = .ok (.aload_n 0, 1) := dk_42 (dk_at dksX3_road_1 11 rfl rfl)
theorem dX3_road_35 : decode cX3_road 35 = .ok (.aload_n 0, 1) := dk_42 (dk_at dksX3_road_1 12 rfl rfl)
theorem dX3_road_36 : decode cX3_road 36 = .ok (.getfield 118, 3) := dk_180 0 118 (dk_at dksX3_road_1 13 rfl rfl)
theorem dX3_road_39 : decode cX3_road 39 = .ok (.iload_n 1, 1) := dk_27 (dk_at dksX3_road_1 16 rfl rfl)
theorem dX3_road_40 : decode cX3_road 40 = .ok (.invokevirtual 200, 3) := dk_182 0 200 (dk_at dksX3_road_1 17 rfl rfl)
theorem dX3_road_43 : decode cX3_road 43 = .ok (.ifCond .ne 9, 3) := dk_154 0 9 (dk_at dksX3_road_1 20 rfl rfl)
theorem dX3_road_46 : decode cX3_road 46 = .ok (.aload_n 0, 1) := dk_42 (dk_at dksX3_road_1 23 rfl rfl)
theorem dX3_road_47 : decode cX3_road 47 = .ok (.iconst 2, 1) := dk_5 (dk_at dksX3_road_2 0 rfl rfl)
theorem dX3_road_48 : decode cX3_road 48 = .ok (.invokevirtual 149, 3) := dk_182 0 149 (dk_at dksX3_road_2 1 rfl rfl)
theorem dX3_road_51 : decode cX3_road 51 = .ok (.ireturn, 1) := dk_172 (dk_at dksX3_road_2 4 rfl rfl)
theorem dX3_road_52 : decode cX3_road 52 = .ok (.aload_n 0, 1) := dk_42 (dk_at dksX3_road_2 5 rfl rfl)
theorem dX3_road_53 : decode cX3_road 53 = .ok (.bipush 11, 2) := dk_16 11 (dk_at dksX3_road_2 6 rfl rfl)
theorem dX3_road_55 : decode cX3_road 55 = .ok (.invokevirtual 203, 3) := dk_182 0 203 (dk_at dksX3_road_2 8 rfl rfl)
theorem dX3_road_58 : decode cX3_road 58 = .ok (.aload_n 0, 1) := dk_42 (dk_at dksX3_road_2 11 rfl rfl)
theorem dX3_road_59 : decode cX3_road 59 = .ok (.iload_n 1, 1) := dk_27 (dk_at dksX3_road_2 12 rfl rfl)
theorem dX3_road_60 : decode cX3_road 60 = .ok (.invokevirtual 206, 3) := dk_182 0 206 (dk_at dksX3_road_2 13 rfl rfl)
theorem dX3_road_63 : decode cX3_road 63 = .ok (.aload_n 0, 1) := dk_42 (dk_at dksX3_road_2 16 rfl rfl)
theorem dX3_road_64 : decode cX3_road 64 = .ok (.invokevirtual 209, 3) := dk_182 0 209 (dk_at dksX3_road_2 17 rfl rfl)
theorem dX3_road_67 : decode cX3_road 67 = .ok (.aload_n 0, 1) := dk_42 (dk_at dksX3_road_2 20 rfl rfl)
theorem dX3_road_68 : decode cX3_road 68 = .ok (.aload_n 0, 1) := dk_42 (dk_at dksX3_road_2 21 rfl rfl)
theorem dX3_road_69 : decode cX3_road 69 = .ok (.getfield 118, 3) := dk_180 0 118 (dk_at dksX3_road_3 0 rfl rfl)
theorem dX3_road_72 : decode cX3_road 72 = .ok (.invokevirtual 104, 3) := dk_182 0 104 (dk_at dksX3_road_3 3 rfl rfl)
theorem dX3_road_75 : decode cX3_road 75 = .ok (.ireturn, 1) := dk_172 (dk_at dksX3_road_3 6 rfl rfl)
abbrev cX3_mayRoad : ByteArray := prog_12_method_22_code
def yX3_mayRoad : MethodName := ⟨RX3, "mayRoad", "(II)Z"⟩
def dkwX3_mayRoad_2 : List UInt8 := [167, 0, 4, 3, 172]
abbrev dktX3_mayRoad_2 : List UInt8 := dkwX3_mayRoad_2 ++ []
def dkwX3_mayRoad_1 : List UInt8 := [184, 0, 63, 182, 0, 84, 154, 0, 16, 42, 27, 28, 28, 184, 0, 67, 182, 0, 84, 153, 0, 7, 4]
abbrev dktX3_mayRoad_1 : List UInt8 := dkwX3_mayRoad_1 ++ dktX3_mayRoad_2
def dkwX3_mayRoad_0 : List UInt8 := [42, 180, 0, 16, 28, 46, 154, 0, 43, 42, 27, 182, 0, 81, 16, 8, 162, 0, 33, 42, 27, 28, 28]
abbrev dktX3_mayRoad_0 : List UInt8 := dkwX3_mayRoad_0 ++ dktX3_mayRoad_1
theorem dksX3_mayRoad_0 : cX3_mayRoad.data.toList.drop 0 = dktX3_mayRoad_0 := by decide +kernel
theorem dksX3_mayRoad_1 : cX3_mayRoad.data.toList.drop 23 = dktX3_mayRoad_1 := dk_seg dksX3_mayRoad_0 23 rfl rfl
theorem dksX3_mayRoad_2 : cX3_mayRoad.data.toList.drop 46 = dktX3_mayRoad_2 := dk_seg dksX3_mayRoad_1 23 rfl rfl
theorem dX3_mayRoad_0 : decode cX3_mayRoad 0 = .ok (.aload_n 0, 1) := dk_42 (dk_at dksX3_mayRoad_0 0 rfl rfl)
theorem dX3_mayRoad_1 : decode cX3_mayRoad 1 = .ok (.getfield 16, 3) := dk_180 0 16 (dk_at dksX3_mayRoad_0 1 rfl rfl)
theorem dX3_mayRoad_4 : decode cX3_mayRoad 4 = .ok (.iload_n 2, 1) := dk_28 (dk_at dksX3_mayRoad_0 4 rfl rfl)
theorem dX3_mayRoad_5 : decode cX3_mayRoad 5 = .ok (.iaload, 1) := dk_46 (dk_at dksX3_mayRoad_0 5 rfl rfl)
theorem dX3_mayRoad_6 : decode cX3_mayRoad 6 = .ok (.ifCond .ne 43, 3) := dk_154 0 43 (dk_at dksX3_mayRoad_0 6 rfl rfl)
theorem dX3_mayRoad_9 : decode cX3_mayRoad 9 = .ok (.aload_n 0, 1) := dk_42 (dk_at dksX3_mayRoad_0 9 rfl rfl)
theorem dX3_mayRoad_10 : decode cX3_mayRoad 10 = .ok (.iload_n 1, 1) := dk_27 (dk_at dksX3_mayRoad_0 10 rfl rfl)
theorem dX3_mayRoad_11 : decode cX3_mayRoad 11 = .ok (.invokevirtual 81, 3) := dk_182 0 81 (dk_at dksX3_mayRoad_0 11 rfl rfl)
theorem dX3_mayRoad_14 : decode cX3_mayRoad 14 = .ok (.bipush 8, 2) := dk_16 8 (dk_at dksX3_mayRoad_0 14 rfl rfl)
theorem dX3_mayRoad_16 : decode cX3_mayRoad 16 = .ok (.if_icmp .ge 33, 3) := dk_162 0 33 (dk_at dksX3_mayRoad_0 16 rfl rfl)
theorem dX3_mayRoad_19 : decode cX3_mayRoad 19 = .ok (.aload_n 0, 1) := dk_42 (dk_at dksX3_mayRoad_0 19 rfl rfl)
theorem dX3_mayRoad_20 : decode cX3_mayRoad 20 = .ok (.iload_n 1, 1) := dk_27 (dk_at dksX3_mayRoad_0 20 rfl rfl)
theorem dX3_mayRoad_21 : decode cX3_mayRoad 21 = .ok (.iload_n 2, 1) := dk_28 (dk_at dksX3_mayRoad_0 21 rfl rfl)
theorem dX3_mayRoad_22 : decode cX3_mayRoad 22 = .ok (.iload_n 2, 1) := dk_28 (dk_at dksX3_mayRoad_0 22 rfl rfl)
theorem dX3_mayRoad_23 : decode cX3_mayRoad 23 = .ok (.invokestatic 63, 3) := dk_184 0 63 (dk_at dksX3_mayRoad_1 0 rfl rfl)
theorem dX3_mayRoad_26 : decode cX3_mayRoad 26 = .ok (.invokevirtual 84, 3) := dk_182 0 84 (dk_at dksX3_mayRoad_1 3 rfl rfl)
theorem dX3_mayRoad_29 : decode cX3_mayRoad 29 = .ok (.ifCond .ne 16, 3) := dk_154 0 16 (dk_at dksX3_mayRoad_1 6 rfl rfl)
theorem dX3_mayRoad_32 : decode cX3_mayRoad 32 = .ok (.aload_n 0, 1) := dk_42 (dk_at dksX3_mayRoad_1 9 rfl rfl)
theorem dX3_mayRoad_33 : decode cX3_mayRoad 33 = .ok (.iload_n 1, 1) := dk_27 (dk_at dksX3_mayRoad_1 10 rfl rfl)
theorem dX3_mayRoad_34 : decode cX3_mayRoad 34 = .ok (.iload_n 2, 1) := dk_28 (dk_at dksX3_mayRoad_1 11 rfl rfl)
theorem dX3_mayRoad_35 : decode cX3_mayRoad 35 = .ok (.iload_n 2, 1) := dk_28 (dk_at dksX3_mayRoad_1 12 rfl rfl)
theorem dX3_mayRoad_36 : decode cX3_mayRoad 36 = .ok (.invokestatic 67, 3) := dk_184 0 67 (dk_at dksX3_mayRoad_1 13 rfl rfl)
theorem dX3_mayRoad_39 : decode cX3_mayRoad 39 = .ok (.invokevirtual 84, 3) := dk_182 0 84 (dk_at dksX3_mayRoad_1 16 rfl rfl)
theorem dX3_mayRoad_42 : decode cX3_mayRoad 42 = .ok (.ifCond .eq 7, 3) := dk_153 0 7 (dk_at dksX3_mayRoad_1 19 rfl rfl)
theorem dX3_mayRoad_45 : decode cX3_mayRoad 45 = .ok (.iconst 1, 1) := dk_4 (dk_at dksX3_mayRoad_1 22 rfl rfl)
theorem dX3_mayRoad_46 : decode cX3_mayRoad 46 = .ok (.goto 4, 3) := dk_167 0 4 (dk_at dksX3_mayRoad_2 0 rfl rfl)
theorem dX3_mayRoad_49 : decode cX3_mayRoad 49 = .ok (.iconst 0, 1) := dk_3 (dk_at dksX3_mayRoad_2 3 rfl rfl)
theorem dX3_mayRoad_50 : decode cX3_mayRoad 50 = .ok (.ireturn, 1) := dk_172 (dk_at dksX3_mayRoad_2 4 rfl rfl)
abbrev cX3_roadsOf : ByteArray := prog_12_method_21_code
def yX3_roadsOf : MethodName := ⟨RX3, "roadsOf", "(I)I"⟩
def dkwX3_roadsOf_1 : List UInt8 := [167, 0, 4, 3, 96, 61, 132, 3, 1, 167, 255, 227, 28, 172]
abbrev dktX3_roadsOf_1 : List UInt8 := dkwX3_roadsOf_1 ++ []
def dkwX3_roadsOf_0 : List UInt8 := [3, 61, 3, 62, 29, 16, 30, 162, 0, 29, 28, 42, 180, 0, 16, 29, 46, 27, 4, 96, 160, 0, 7, 4]
abbrev dktX3_roadsOf_0 : List UInt8 := dkwX3_roadsOf_0 ++ dktX3_roadsOf_1
theorem dksX3_roadsOf_0 : cX3_roadsOf.data.toList.drop 0 = dktX3_roadsOf_0 := by decide +kernel
theorem dksX3_roadsOf_1 : cX3_roadsOf.data.toList.drop 24 = dktX3_roadsOf_1 := dk_seg dksX3_roadsOf_0 24 rfl rfl
theorem dX3_roadsOf_0 : decode cX3_roadsOf 0 = .ok (.iconst 0, 1) := dk_3 (dk_at dksX3_roadsOf_0 0 rfl rfl)
theorem dX3_roadsOf_1 : decode cX3_roadsOf 1 = .ok (.istore_n 2, 1) := dk_61 (dk_at dksX3_roadsOf_0 1 rfl rfl)
theorem dX3_roadsOf_2 : decode cX3_roadsOf 2 = .ok (.iconst 0, 1) := dk_3 (dk_at dksX3_roadsOf_0 2 rfl rfl)
theorem dX3_roadsOf_3 : decode cX3_roadsOf 3 = .ok (.istore_n 3, 1) := dk_62 (dk_at dksX3_roadsOf_0 3 rfl rfl)
theorem dX3_roadsOf_4 : decode cX3_roadsOf 4 = .ok (.iload_n 3, 1) := dk_29 (dk_at dksX3_roadsOf_0 4 rfl rfl)
theorem dX3_roadsOf_5 : decode cX3_roadsOf 5 = .ok (.bipush 30, 2) := dk_16 30 (dk_at dksX3_roadsOf_0 5 rfl rfl)
theorem dX3_roadsOf_7 : decode cX3_roadsOf 7 = .ok (.if_icmp .ge 29, 3) := dk_162 0 29 (dk_at dksX3_roadsOf_0 7 rfl rfl)
theorem dX3_roadsOf_10 : decode cX3_roadsOf 10 = .ok (.iload_n 2, 1) := dk_28 (dk_at dksX3_roadsOf_0 10 rfl rfl)
theorem dX3_roadsOf_11 : decode cX3_roadsOf 11 = .ok (.aload_n 0, 1) := dk_42 (dk_at dksX3_roadsOf_0 11 rfl rfl)
theorem dX3_roadsOf_12 : decode cX3_roadsOf 12 = .ok (.getfield 16, 3) := dk_180 0 16 (dk_at dksX3_roadsOf_0 12 rfl rfl)
theorem dX3_roadsOf_15 : decode cX3_roadsOf 15 = .ok (.iload_n 3, 1) := dk_29 (dk_at dksX3_roadsOf_0 15 rfl rfl)
theorem dX3_roadsOf_16 : decode cX3_roadsOf 16 = .ok (.iaload, 1) := dk_46 (dk_at dksX3_roadsOf_0 16 rfl rfl)
theorem dX3_roadsOf_17 : decode cX3_roadsOf 17 = .ok (.iload_n 1, 1) := dk_27 (dk_at dksX3_roadsOf_0 17 rfl rfl)
theorem dX3_roadsOf_18 : decode cX3_roadsOf 18 = .ok (.iconst 1, 1) := dk_4 (dk_at dksX3_roadsOf_0 18 rfl rfl)
theorem dX3_roadsOf_19 : decode cX3_roadsOf 19 = .ok (.iadd, 1) := dk_96 (dk_at dksX3_roadsOf_0 19 rfl rfl)
theorem dX3_roadsOf_20 : decode cX3_roadsOf 20 = .ok (.if_icmp .ne 7, 3) := dk_160 0 7 (dk_at dksX3_roadsOf_0 20 rfl rfl)
theorem dX3_roadsOf_23 : decode cX3_roadsOf 23 = .ok (.iconst 1, 1) := dk_4 (dk_at dksX3_roadsOf_0 23 rfl rfl)
theorem dX3_roadsOf_24 : decode cX3_roadsOf 24 = .ok (.goto 4, 3) := dk_167 0 4 (dk_at dksX3_roadsOf_1 0 rfl rfl)
theorem dX3_roadsOf_27 : decode cX3_roadsOf 27 = .ok (.iconst 0, 1) := dk_3 (dk_at dksX3_roadsOf_1 3 rfl rfl)
theorem dX3_roadsOf_28 : decode cX3_roadsOf 28 = .ok (.iadd, 1) := dk_96 (dk_at dksX3_roadsOf_1 4 rfl rfl)
theorem dX3_roadsOf_29 : decode cX3_roadsOf 29 = .ok (.istore_n 2, 1) := dk_61 (dk_at dksX3_roadsOf_1 5 rfl rfl)
theorem dX3_roadsOf_30 : decode cX3_roadsOf 30 = .ok (.iinc 3 1, 3) := dk_132 3 1 (dk_at dksX3_roadsOf_1 6 rfl rfl)
theorem dX3_roadsOf_33 : decode cX3_roadsOf 33 = .ok (.goto (-29), 3) := dk_167 255 227 (dk_at dksX3_roadsOf_1 9 rfl rfl)
theorem dX3_roadsOf_36 : decode cX3_roadsOf 36 = .ok (.iload_n 2, 1) := dk_28 (dk_at dksX3_roadsOf_1 12 rfl rfl)
theorem dX3_roadsOf_37 : decode cX3_roadsOf 37 = .ok (.ireturn, 1) := dk_172 (dk_at dksX3_roadsOf_1 13 rfl rfl)
abbrev cX3_leads : ByteArray := prog_12_method_20_code
def yX3_leads : MethodName := ⟨RX3, "leads", "(III)Z"⟩
def dkwX3_leads_1 : List UInt8 := [182, 0, 77, 153, 0, 7, 4, 167, 0, 4, 3, 172]
abbrev dktX3_leads_1 : List UInt8 := dkwX3_leads_1 ++ []
def dkwX3_leads_0 : List UInt8 := [42, 29, 182, 0, 74, 27, 159, 0, 22, 42, 29, 182, 0, 74, 2, 160, 0, 17, 42, 27, 29, 28]
abbrev dktX3_leads_0 : List UInt8 := dkwX3_leads_0 ++ dktX3_leads_1
theorem dksX3_leads_0 : cX3_leads.data.toList.drop 0 = dktX3_leads_0 := by decide +kernel
theorem dksX3_leads_1 : cX3_leads.data.toList.drop 22 = dktX3_leads_1 := dk_seg dksX3_leads_0 22 rfl rfl
theorem dX3_leads_0 : decode cX3_leads 0 = .ok (.aload_n 0, 1) := dk_42 (dk_at dksX3_leads_0 0 rfl rfl)
theorem dX3_leads_1 : decode cX3_leads 1 = .ok (.iload_n 3, 1) := dk_29 (dk_at dksX3_leads_0 1 rfl rfl)
theorem dX3_leads_2 : decode cX3_leads 2 = .ok (.invokevirtual 74, 3) := dk_182 0 74 (dk_at dksX3_leads_0 2 rfl rfl)
theorem dX3_leads_5 : decode cX3_leads 5 = .ok (.iload_n 1, 1) := dk_27 (dk_at dksX3_leads_0 5 rfl rfl)
theorem dX3_leads_6 : decode cX3_leads 6 = .ok (.if_icmp .eq 22, 3) := dk_159 0 22 (dk_at dksX3_leads_0 6 rfl rfl)
theorem dX3_leads_9 : decode cX3_leads 9 = .ok (.aload_n 0, 1) := dk_42 (dk_at dksX3_leads_0 9 rfl rfl)
theorem dX3_leads_10 : decode cX3_leads 10 = .ok (.iload_n 3, 1) := dk_29 (dk_at dksX3_leads_0 10 rfl rfl)
theorem dX3_leads_11 : decode cX3_leads 11 = .ok (.invokevirtual 74, 3) := dk_182 0 74 (dk_at dksX3_leads_0 11 rfl rfl)
theorem dX3_leads_14 : decode cX3_leads 14 = .ok (.iconst (-1), 1) := dk_2 (dk_at dksX3_leads_0 14 rfl rfl)
theorem dX3_leads_15 : decode cX3_leads 15 = .ok (.if_icmp .ne 17, 3) := dk_160 0 17 (dk_at dksX3_leads_0 15 rfl rfl)
theorem dX3_leads_18 : decode cX3_leads 18 = .ok (.aload_n 0, 1) := dk_42 (dk_at dksX3_leads_0 18 rfl rfl)
theorem dX3_leads_19 : decode cX3_leads 19 = .ok (.iload_n 1, 1) := dk_27 (dk_at dksX3_leads_0 19 rfl rfl)
theorem dX3_leads_20 : decode cX3_leads 20 = .ok (.iload_n 3, 1) := dk_29 (dk_at dksX3_leads_0 20 rfl rfl)
theorem dX3_leads_21 : decode cX3_leads 21 = .ok (.iload_n 2, 1) := dk_28 (dk_at dksX3_leads_0 21 rfl rfl)
theorem dX3_leads_22 : decode cX3_leads 22 = .ok (.invokevirtual 77, 3) := dk_182 0 77 (dk_at dksX3_leads_1 0 rfl rfl)
theorem dX3_leads_25 : decode cX3_leads 25 = .ok (.ifCond .eq 7, 3) := dk_153 0 7 (dk_at dksX3_leads_1 3 rfl rfl)
theorem dX3_leads_28 : decode cX3_leads 28 = .ok (.iconst 1, 1) := dk_4 (dk_at dksX3_leads_1 6 rfl rfl)
theorem dX3_leads_29 : decode cX3_leads 29 = .ok (.goto 4, 3) := dk_167 0 4 (dk_at dksX3_leads_1 7 rfl rfl)
theorem dX3_leads_32 : decode cX3_leads 32 = .ok (.iconst 0, 1) := dk_3 (dk_at dksX3_leads_1 10 rfl rfl)
theorem dX3_leads_33 : decode cX3_leads 33 = .ok (.ireturn, 1) := dk_172 (dk_at dksX3_leads_1 11 rfl rfl)
abbrev cX3_hasRoadAt : ByteArray := prog_12_method_19_code
def yX3_hasRoadAt : MethodName := ⟨RX3, "hasRoadAt", "(III)Z"⟩
def dkwX3_hasRoadAt_2 : List UInt8 := [167, 0, 4, 3, 54, 4, 132, 5, 1, 167, 255, 206, 21, 4, 172]
abbrev dktX3_hasRoadAt_2 : List UInt8 := dkwX3_hasRoadAt_2 ++ []
def dkwX3_hasRoadAt_1 : List UInt8 := [42, 180, 0, 16, 21, 5, 46, 27, 4, 96, 160, 0, 16, 21, 5, 28, 184, 0, 70, 153, 0, 7, 4]
abbrev dktX3_hasRoadAt_1 : List UInt8 := dkwX3_hasRoadAt_1 ++ dktX3_hasRoadAt_2
def dkwX3_hasRoadAt_0 : List UInt8 := [3, 54, 4, 3, 54, 5, 21, 5, 16, 30, 162, 0, 49, 21, 4, 154, 0, 31, 21, 5, 29, 159, 0, 29]
abbrev dktX3_hasRoadAt_0 : List UInt8 := dkwX3_hasRoadAt_0 ++ dktX3_hasRoadAt_1
theorem dksX3_hasRoadAt_0 : cX3_hasRoadAt.data.toList.drop 0 = dktX3_hasRoadAt_0 := by decide +kernel
theorem dksX3_hasRoadAt_1 : cX3_hasRoadAt.data.toList.drop 24 = dktX3_hasRoadAt_1 := dk_seg dksX3_hasRoadAt_0 24 rfl rfl
theorem dksX3_hasRoadAt_2 : cX3_hasRoadAt.data.toList.drop 47 = dktX3_hasRoadAt_2 := dk_seg dksX3_hasRoadAt_1 23 rfl rfl
theorem dX3_hasRoadAt_0 : decode cX3_hasRoadAt 0 = .ok (.iconst 0, 1) := dk_3 (dk_at dksX3_hasRoadAt_0 0 rfl rfl)
theorem dX3_hasRoadAt_1 : decode cX3_hasRoadAt 1 = .ok (.istore 4, 2) := dk_54 4 (dk_at dksX3_hasRoadAt_0 1 rfl rfl)
theorem dX3_hasRoadAt_3 : decode cX3_hasRoadAt 3 = .ok (.iconst 0, 1) := dk_3 (dk_at dksX3_hasRoadAt_0 3 rfl rfl)
theorem dX3_hasRoadAt_4 : decode cX3_hasRoadAt 4 = .ok (.istore 5, 2) := dk_54 5 (dk_at dksX3_hasRoadAt_0 4 rfl rfl)
theorem dX3_hasRoadAt_6 : decode cX3_hasRoadAt 6 = .ok (.iload 5, 2) := dk_21 5 (dk_at dksX3_hasRoadAt_0 6 rfl rfl)
theorem dX3_hasRoadAt_8 : decode cX3_hasRoadAt 8 = .ok (.bipush 30, 2) := dk_16 30 (dk_at dksX3_hasRoadAt_0 8 rfl rfl)
theorem dX3_hasRoadAt_10 : decode cX3_hasRoadAt 10 = .ok (.if_icmp .ge 49, 3) := dk_162 0 49 (dk_at dksX3_hasRoadAt_0 10 rfl rfl)
theorem dX3_hasRoadAt_13 : decode cX3_hasRoadAt 13 = .ok (.iload 4, 2) := dk_21 4 (dk_at dksX3_hasRoadAt_0 13 rfl rfl)
theorem dX3_hasRoadAt_15 : decode cX3_hasRoadAt 15 = .ok (.ifCond .ne 31, 3) := dk_154 0 31 (dk_at dksX3_hasRoadAt_0 15 rfl rfl)
theorem dX3_hasRoadAt_18 : decode cX3_hasRoadAt 18 = .ok (.iload 5, 2) := dk_21 5 (dk_at dksX3_hasRoadAt_0 18 rfl rfl)
theorem dX3_hasRoadAt_20 : decode cX3_hasRoadAt 20 = .ok (.iload_n 3, 1) := dk_29 (dk_at dksX3_hasRoadAt_0 20 rfl rfl)
theorem dX3_hasRoadAt_21 : decode cX3_hasRoadAt 21 = .ok (.if_icmp .eq 29, 3) := dk_159 0 29 (dk_at dksX3_hasRoadAt_0 21 rfl rfl)
theorem dX3_hasRoadAt_24 : decode cX3_hasRoadAt 24 = .ok (.aload_n 0, 1) := dk_42 (dk_at dksX3_hasRoadAt_1 0 rfl rfl)
theorem dX3_hasRoadAt_25 : decode cX3_hasRoadAt 25 = .ok (.getfield 16, 3) := dk_180 0 16 (dk_at dksX3_hasRoadAt_1 1 rfl rfl)
theorem dX3_hasRoadAt_28 : decode cX3_hasRoadAt 28 = .ok (.iload 5, 2) := dk_21 5 (dk_at dksX3_hasRoadAt_1 4 rfl rfl)
theorem dX3_hasRoadAt_30 : decode cX3_hasRoadAt 30 = .ok (.iaload, 1) := dk_46 (dk_at dksX3_hasRoadAt_1 6 rfl rfl)
theorem dX3_hasRoadAt_31 : decode cX3_hasRoadAt 31 = .ok (.iload_n 1, 1) := dk_27 (dk_at dksX3_hasRoadAt_1 7 rfl rfl)
theorem dX3_hasRoadAt_32 : decode cX3_hasRoadAt 32 = .ok (.iconst 1, 1) := dk_4 (dk_at dksX3_hasRoadAt_1 8 rfl rfl)
theorem dX3_hasRoadAt_33 : decode cX3_hasRoadAt 33 = .ok (.iadd, 1) := dk_96 (dk_at dksX3_hasRoadAt_1 9 rfl rfl)
theorem dX3_hasRoadAt_34 : decode cX3_hasRoadAt 34 = .ok (.if_icmp .ne 16, 3) := dk_160 0 16 (dk_at dksX3_hasRoadAt_1 10 rfl rfl)
theorem dX3_hasRoadAt_37 : decode cX3_hasRoadAt 37 = .ok (.iload 5, 2) := dk_21 5 (dk_at dksX3_hasRoadAt_1 13 rfl rfl)
theorem dX3_hasRoadAt_39 : decode cX3_hasRoadAt 39 = .ok (.iload_n 2, 1) := dk_28 (dk_at dksX3_hasRoadAt_1 15 rfl rfl)
theorem dX3_hasRoadAt_40 : decode cX3_hasRoadAt 40 = .ok (.invokestatic 70, 3) := dk_184 0 70 (dk_at dksX3_hasRoadAt_1 16 rfl rfl)
theorem dX3_hasRoadAt_43 : decode cX3_hasRoadAt 43 = .ok (.ifCond .eq 7, 3) := dk_153 0 7 (dk_at dksX3_hasRoadAt_1 19 rfl rfl)
theorem dX3_hasRoadAt_46 : decode cX3_hasRoadAt 46 = .ok (.iconst 1, 1) := dk_4 (dk_at dksX3_hasRoadAt_1 22 rfl rfl)
theorem dX3_hasRoadAt_47 : decode cX3_hasRoadAt 47 = .ok (.goto 4, 3) := dk_167 0 4 (dk_at dksX3_hasRoadAt_2 0 rfl rfl)
theorem dX3_hasRoadAt_50 : decode cX3_hasRoadAt 50 = .ok (.iconst 0, 1) := dk_3 (dk_at dksX3_hasRoadAt_2 3 rfl rfl)
theorem dX3_hasRoadAt_51 : decode cX3_hasRoadAt 51 = .ok (.istore 4, 2) := dk_54 4 (dk_at dksX3_hasRoadAt_2 4 rfl rfl)
theorem dX3_hasRoadAt_53 : decode cX3_hasRoadAt 53 = .ok (.iinc 5 1, 3) := dk_132 5 1 (dk_at dksX3_hasRoadAt_2 6 rfl rfl)
theorem dX3_hasRoadAt_56 : decode cX3_hasRoadAt 56 = .ok (.goto (-50), 3) := dk_167 255 206 (dk_at dksX3_hasRoadAt_2 9 rfl rfl)
theorem dX3_hasRoadAt_59 : decode cX3_hasRoadAt 59 = .ok (.iload 4, 2) := dk_21 4 (dk_at dksX3_hasRoadAt_2 12 rfl rfl)
theorem dX3_hasRoadAt_61 : decode cX3_hasRoadAt 61 = .ok (.ireturn, 1) := dk_172 (dk_at dksX3_hasRoadAt_2 14 rfl rfl)
abbrev cX3_pays : ByteArray := prog_12_method_49_code
def yX3_pays : MethodName := ⟨RX3, "pays", "(I)V"⟩
def dkwX3_pays_0 : List UInt8 := [42, 42, 180, 0, 118, 6, 27, 182, 0, 172, 177]
abbrev dktX3_pays_0 : List UInt8 := dkwX3_pays_0 ++ []
theorem dksX3_pays_0 : cX3_pays.data.toList.drop 0 = dktX3_pays_0 := by decide +kernel
theorem dX3_pays_0 : decode cX3_pays 0 = .ok (.aload_n 0, 1) := dk_42 (dk_at dksX3_pays_0 0 rfl rfl)
theorem dX3_pays_1 : decode cX3_pays 1 = .ok (.aload_n 0, 1) := dk_42 (dk_at dksX3_pays_0 1 rfl rfl)
theorem dX3_pays_2 : decode cX3_pays 2 = .ok (.getfield 118, 3) := dk_180 0 118 (dk_at dksX3_pays_0 2 rfl rfl)
theorem dX3_pays_5 : decode cX3_pays 5 = .ok (.iconst 3, 1) := dk_6 (dk_at dksX3_pays_0 5 rfl rfl)
theorem dX3_pays_6 : decode cX3_pays 6 = .ok (.iload_n 1, 1) := dk_27 (dk_at dksX3_pays_0 6 rfl rfl)
theorem dX3_pays_7 : decode cX3_pays 7 = .ok (.invokevirtual 172, 3) := dk_182 0 172 (dk_at dksX3_pays_0 7 rfl rfl)
theorem dX3_pays_10 : decode cX3_pays 10 = .ok (.return_, 1) := dk_177 (dk_at dksX3_pays_0 10 rfl rfl)
abbrev cX3_lays : ByteArray := prog_12_method_50_code
def yX3_lays : MethodName := ⟨RX3, "lays", "(I)V"⟩
def dkwX3_lays_0 : List UInt8 := [42, 180, 0, 16, 27, 42, 180, 0, 118, 4, 96, 79, 42, 182, 0, 156, 177]
abbrev dktX3_lays_0 : List UInt8 := dkwX3_lays_0 ++ []
theorem dksX3_lays_0 : cX3_lays.data.toList.drop 0 = dktX3_lays_0 := by decide +kernel
theorem dX3_lays_0 : decode cX3_lays 0 = .ok (.aload_n 0, 1) := dk_42 (dk_at dksX3_lays_0 0 rfl rfl)
theorem dX3_lays_1 : decode cX3_lays 1 = .ok (.getfield 16, 3) := dk_180 0 16 (dk_at dksX3_lays_0 1 rfl rfl)
theorem dX3_lays_4 : decode cX3_lays 4 = .ok (.iload_n 1, 1) := dk_27 (dk_at dksX3_lays_0 4 rfl rfl)
theorem dX3_lays_5 : decode cX3_lays 5 = .ok (.aload_n 0, 1) := dk_42 (dk_at dksX3_lays_0 5 rfl rfl)
theorem dX3_lays_6 : decode cX3_lays 6 = .ok (.getfield 118, 3) := dk_180 0 118 (dk_at dksX3_lays_0 6 rfl rfl)
theorem dX3_lays_9 : decode cX3_lays 9 = .ok (.iconst 1, 1) := dk_4 (dk_at dksX3_lays_0 9 rfl rfl)
theorem dX3_lays_10 : decode cX3_lays 10 = .ok (.iadd, 1) := dk_96 (dk_at dksX3_lays_0 10 rfl rfl)
theorem dX3_lays_11 : decode cX3_lays 11 = .ok (.iastore, 1) := dk_79 (dk_at dksX3_lays_0 11 rfl rfl)
theorem dX3_lays_12 : decode cX3_lays 12 = .ok (.aload_n 0, 1) := dk_42 (dk_at dksX3_lays_0 12 rfl rfl)
theorem dX3_lays_13 : decode cX3_lays 13 = .ok (.invokevirtual 156, 3) := dk_182 0 156 (dk_at dksX3_lays_0 13 rfl rfl)
theorem dX3_lays_16 : decode cX3_lays 16 = .ok (.return_, 1) := dk_177 (dk_at dksX3_lays_0 16 rfl rfl)
abbrev cX3_looksAtWinner : ByteArray := prog_12_method_36_code
def yX3_looksAtWinner : MethodName := ⟨RX3, "looksAtWinner", "()V"⟩
def dkwX3_looksAtWinner_1 : List UInt8 := [167, 0, 7, 42, 180, 0, 115, 181, 0, 115, 177]
abbrev dktX3_looksAtWinner_1 : List UInt8 := dkwX3_looksAtWinner_1 ++ []
def dkwX3_looksAtWinner_0 : List UInt8 := [42, 42, 180, 0, 115, 153, 0, 20, 42, 42, 180, 0, 118, 182, 0, 121, 16, 8, 161, 0, 7, 8]
abbrev dktX3_looksAtWinner_0 : List UInt8 := dkwX3_looksAtWinner_0 ++ dktX3_looksAtWinner_1
theorem dksX3_looksAtWinner_0 : cX3_looksAtWinner.data.toList.drop 0 = dktX3_looksAtWinner_0 := by decide +kernel
theorem dksX3_looksAtWinner_1 : cX3_looksAtWinner.data.toList.drop 22 = dktX3_looksAtWinner_1 := dk_seg dksX3_looksAtWinner_0 22 rfl rfl
theorem dX3_looksAtWinner_0 : decode cX3_looksAtWinner 0 = .ok (.aload_n 0, 1) := dk_42 (dk_at dksX3_looksAtWinner_0 0 rfl rfl)
theorem dX3_looksAtWinner_1 : decode cX3_looksAtWinner 1 = .ok (.aload_n 0, 1) := dk_42 (dk_at dksX3_looksAtWinner_0 1 rfl rfl)
theorem dX3_looksAtWinner_2 : decode cX3_looksAtWinner 2 = .ok (.getfield 115, 3) := dk_180 0 115 (dk_at dksX3_looksAtWinner_0 2 rfl rfl)
theorem dX3_looksAtWinner_5 : decode cX3_looksAtWinner 5 = .ok (.ifCond .eq 20, 3) := dk_153 0 20 (dk_at dksX3_looksAtWinner_0 5 rfl rfl)
theorem dX3_looksAtWinner_8 : decode cX3_looksAtWinner 8 = .ok (.aload_n 0, 1) := dk_42 (dk_at dksX3_looksAtWinner_0 8 rfl rfl)
theorem dX3_looksAtWinner_9 : decode cX3_looksAtWinner 9 = .ok (.aload_n 0, 1) := dk_42 (dk_at dksX3_looksAtWinner_0 9 rfl rfl)
theorem dX3_looksAtWinner_10 : decode cX3_looksAtWinner 10 = .ok (.getfield 118, 3) := dk_180 0 118 (dk_at dksX3_looksAtWinner_0 10 rfl rfl)
theorem dX3_looksAtWinner_13 : decode cX3_looksAtWinner 13 = .ok (.invokevirtual 121, 3) := dk_182 0 121 (dk_at dksX3_looksAtWinner_0 13 rfl rfl)
theorem dX3_looksAtWinner_16 : decode cX3_looksAtWinner 16 = .ok (.bipush 8, 2) := dk_16 8 (dk_at dksX3_looksAtWinner_0 16 rfl rfl)
theorem dX3_looksAtWinner_18 : decode cX3_looksAtWinner 18 = .ok (.if_icmp .lt 7, 3) := dk_161 0 7 (dk_at dksX3_looksAtWinner_0 18 rfl rfl)
theorem dX3_looksAtWinner_21 : decode cX3_looksAtWinner 21 = .ok (.iconst 5, 1) := dk_8 (dk_at dksX3_looksAtWinner_0 21 rfl rfl)
theorem dX3_looksAtWinner_22 : decode cX3_looksAtWinner 22 = .ok (.goto 7, 3) := dk_167 0 7 (dk_at dksX3_looksAtWinner_1 0 rfl rfl)
theorem dX3_looksAtWinner_25 : decode cX3_looksAtWinner 25 = .ok (.aload_n 0, 1) := dk_42 (dk_at dksX3_looksAtWinner_1 3 rfl rfl)
theorem dX3_looksAtWinner_26 : decode cX3_looksAtWinner 26 = .ok (.getfield 115, 3) := dk_180 0 115 (dk_at dksX3_looksAtWinner_1 4 rfl rfl)
theorem dX3_looksAtWinner_29 : decode cX3_looksAtWinner 29 = .ok (.putfield 115, 3) := dk_181 0 115 (dk_at dksX3_looksAtWinner_1 7 rfl rfl)
theorem dX3_looksAtWinner_32 : decode cX3_looksAtWinner 32 = .ok (.return_, 1) := dk_177 (dk_at dksX3_looksAtWinner_1 10 rfl rfl)
abbrev cX3_pointsOf : ByteArray := prog_12_method_35_code
def yX3_pointsOf : MethodName := ⟨RX3, "pointsOf", "(I)I"⟩
def dkwX3_pointsOf_2 : List UInt8 := [5, 167, 0, 4, 3, 96, 172]
abbrev dktX3_pointsOf_2 : List UInt8 := dkwX3_pointsOf_2 ++ []
def dkwX3_pointsOf_1 : List UInt8 := [46, 96, 42, 180, 0, 41, 27, 160, 0, 7, 5, 167, 0, 4, 3, 96, 42, 180, 0, 37, 27, 160, 0, 7]
abbrev dktX3_pointsOf_1 : List UInt8 := dkwX3_pointsOf_1 ++ dktX3_pointsOf_2
def dkwX3_pointsOf_0 : List UInt8 := [42, 27, 3, 182, 0, 111, 5, 42, 27, 4, 182, 0, 111, 104, 96, 42, 180, 0, 28, 8, 27, 104, 7, 96]
abbrev dktX3_pointsOf_0 : List UInt8 := dkwX3_pointsOf_0 ++ dktX3_pointsOf_1
theorem dksX3_pointsOf_0 : cX3_pointsOf.data.toList.drop 0 = dktX3_pointsOf_0 := by decide +kernel
theorem dksX3_pointsOf_1 : cX3_pointsOf.data.toList.drop 24 = dktX3_pointsOf_1 := dk_seg dksX3_pointsOf_0 24 rfl rfl
theorem dksX3_pointsOf_2 : cX3_pointsOf.data.toList.drop 48 = dktX3_pointsOf_2 := dk_seg dksX3_pointsOf_1 24 rfl rfl
theorem dX3_pointsOf_0 : decode cX3_pointsOf 0 = .ok (.aload_n 0, 1) := dk_42 (dk_at dksX3_pointsOf_0 0 rfl rfl)
theorem dX3_pointsOf_1 : decode cX3_pointsOf 1 = .ok (.iload_n 1, 1) := dk_27 (dk_at dksX3_pointsOf_0 1 rfl rfl)
theorem dX3_pointsOf_2 : decode cX3_pointsOf 2 = .ok (.iconst 0, 1) := dk_3 (dk_at dksX3_pointsOf_0 2 rfl rfl)
theorem dX3_pointsOf_3 : decode cX3_pointsOf 3 = .ok (.invokevirtual 111, 3) := dk_182 0 111 (dk_at dksX3_pointsOf_0 3 rfl rfl)
theorem dX3_pointsOf_6 : decode cX3_pointsOf 6 = .ok (.iconst 2, 1) := dk_5 (dk_at dksX3_pointsOf_0 6 rfl rfl)
theorem dX3_pointsOf_7 : decode cX3_pointsOf 7 = .ok (.aload_n 0, 1) := dk_42 (dk_at dksX3_pointsOf_0 7 rfl rfl)
theorem dX3_pointsOf_8 : decode cX3_pointsOf 8 = .ok (.iload_n 1, 1) := dk_27 (dk_at dksX3_pointsOf_0 8 rfl rfl)
theorem dX3_pointsOf_9 : decode cX3_pointsOf 9 = .ok (.iconst 1, 1) := dk_4 (dk_at dksX3_pointsOf_0 9 rfl rfl)
theorem dX3_pointsOf_10 : decode cX3_pointsOf 10 = .ok (.invokevirtual 111, 3) := dk_182 0 111 (dk_at dksX3_pointsOf_0 10 rfl rfl)
theorem dX3_pointsOf_13 : decode cX3_pointsOf 13 = .ok (.imul, 1) := dk_104 (dk_at dksX3_pointsOf_0 13 rfl rfl)
theorem dX3_pointsOf_14 : decode cX3_pointsOf 14 = .ok (.iadd, 1) := dk_96 (dk_at dksX3_pointsOf_0 14 rfl rfl)
theorem dX3_pointsOf_15 : decode cX3_pointsOf 15 = .ok (.aload_n 0, 1) := dk_42 (dk_at dksX3_pointsOf_0 15 rfl rfl)
theorem dX3_pointsOf_16 : decode cX3_pointsOf 16 = .ok (.getfield 28, 3) := dk_180 0 28 (dk_at dksX3_pointsOf_0 16 rfl rfl)
theorem dX3_pointsOf_19 : decode cX3_pointsOf 19 = .ok (.iconst 5, 1) := dk_8 (dk_at dksX3_pointsOf_0 19 rfl rfl)
theorem dX3_pointsOf_20 : decode cX3_pointsOf 20 = .ok (.iload_n 1, 1) := dk_27 (dk_at dksX3_pointsOf_0 20 rfl rfl)
theorem dX3_pointsOf_21 : decode cX3_pointsOf 21 = .ok (.imul, 1) := dk_104 (dk_at dksX3_pointsOf_0 21 rfl rfl)
theorem dX3_pointsOf_22 : decode cX3_pointsOf 22 = .ok (.iconst 4, 1) := dk_7 (dk_at dksX3_pointsOf_0 22 rfl rfl)
theorem dX3_pointsOf_23 : decode cX3_pointsOf 23 = .ok (.iadd, 1) := dk_96 (dk_at dksX3_pointsOf_0 23 rfl rfl)
theorem dX3_pointsOf_24 : decode cX3_pointsOf 24 = .ok (.iaload, 1) := dk_46 (dk_at dksX3_pointsOf_1 0 rfl rfl)
theorem dX3_pointsOf_25 : decode cX3_pointsOf 25 = .ok (.iadd, 1) := dk_96 (dk_at dksX3_pointsOf_1 1 rfl rfl)
theorem dX3_pointsOf_26 : decode cX3_pointsOf 26 = .ok (.aload_n 0, 1) := dk_42 (dk_at dksX3_pointsOf_1 2 rfl rfl)
theorem dX3_pointsOf_27 : decode cX3_pointsOf 27 = .ok (.getfield 41, 3) := dk_180 0 41 (dk_at dksX3_pointsOf_1 3 rfl rfl)
theorem dX3_pointsOf_30 : decode cX3_pointsOf 30 = .ok (.iload_n 1, 1) := dk_27 (dk_at dksX3_pointsOf_1 6 rfl rfl)
theorem dX3_pointsOf_31 : decode cX3_pointsOf 31 = .ok (.if_icmp .ne 7, 3) := dk_160 0 7 (dk_at dksX3_pointsOf_1 7 rfl rfl)
theorem dX3_pointsOf_34 : decode cX3_pointsOf 34 = .ok (.iconst 2, 1) := dk_5 (dk_at dksX3_pointsOf_1 10 rfl rfl)
theorem dX3_pointsOf_35 : decode cX3_pointsOf 35 = .ok (.goto 4, 3) := dk_167 0 4 (dk_at dksX3_pointsOf_1 11 rfl rfl)
theorem dX3_pointsOf_38 : decode cX3_pointsOf 38 = .ok (.iconst 0, 1) := dk_3 (dk_at dksX3_pointsOf_1 14 rfl rfl)
theorem dX3_pointsOf_39 : decode cX3_pointsOf 39 = .ok (.iadd, 1) := dk_96 (dk_at dksX3_pointsOf_1 15 rfl rfl)
theorem dX3_pointsOf_40 : decode cX3_pointsOf 40 = .ok (.aload_n 0, 1) := dk_42 (dk_at dksX3_pointsOf_1 16 rfl rfl)
theorem dX3_pointsOf_41 : decode cX3_pointsOf 41 = .ok (.getfield 37, 3) := dk_180 0 37 (dk_at dksX3_pointsOf_1 17 rfl rfl)
theorem dX3_pointsOf_44 : decode cX3_pointsOf 44 = .ok (.iload_n 1, 1) := dk_27 (dk_at dksX3_pointsOf_1 20 rfl rfl)
theorem dX3_pointsOf_45 : decode cX3_pointsOf 45 = .ok (.if_icmp .ne 7, 3) := dk_160 0 7 (dk_at dksX3_pointsOf_1 21 rfl rfl)
theorem dX3_pointsOf_48 : decode cX3_pointsOf 48 = .ok (.iconst 2, 1) := dk_5 (dk_at dksX3_pointsOf_2 0 rfl rfl)
theorem dX3_pointsOf_49 : decode cX3_pointsOf 49 = .ok (.goto 4, 3) := dk_167 0 4 (dk_at dksX3_pointsOf_2 1 rfl rfl)
theorem dX3_pointsOf_52 : decode cX3_pointsOf 52 = .ok (.iconst 0, 1) := dk_3 (dk_at dksX3_pointsOf_2 4 rfl rfl)
theorem dX3_pointsOf_53 : decode cX3_pointsOf 53 = .ok (.iadd, 1) := dk_96 (dk_at dksX3_pointsOf_2 5 rfl rfl)
theorem dX3_pointsOf_54 : decode cX3_pointsOf 54 = .ok (.ireturn, 1) := dk_172 (dk_at dksX3_pointsOf_2 6 rfl rfl)
abbrev cX3_buildings : ByteArray := prog_12_method_23_code
def yX3_buildings : MethodName := ⟨RX3, "buildings", "(IZ)I"⟩
def dkwX3_buildings_1 : List UInt8 := [21, 4, 182, 0, 87, 28, 160, 0, 7, 4, 167, 0, 4, 3, 96, 62, 132, 4, 1, 167, 255, 218, 29, 172]
abbrev dktX3_buildings_1 : List UInt8 := dkwX3_buildings_1 ++ []
def dkwX3_buildings_0 : List UInt8 := [3, 62, 3, 54, 4, 21, 4, 16, 24, 162, 0, 37, 29, 42, 21, 4, 182, 0, 74, 27, 160, 0, 17, 42]
abbrev dktX3_buildings_0 : List UInt8 := dkwX3_buildings_0 ++ dktX3_buildings_1
theorem dksX3_buildings_0 : cX3_buildings.data.toList.drop 0 = dktX3_buildings_0 := by decide +kernel
theorem dksX3_buildings_1 : cX3_buildings.data.toList.drop 24 = dktX3_buildings_1 := dk_seg dksX3_buildings_0 24 rfl rfl
theorem dX3_buildings_0 : decode cX3_buildings 0 = .ok (.iconst 0, 1) := dk_3 (dk_at dksX3_buildings_0 0 rfl rfl)
theorem dX3_buildings_1 : decode cX3_buildings 1 = .ok (.istore_n 3, 1) := dk_62 (dk_at dksX3_buildings_0 1 rfl rfl)
theorem dX3_buildings_2 : decode cX3_buildings 2 = .ok (.iconst 0, 1) := dk_3 (dk_at dksX3_buildings_0 2 rfl rfl)
theorem dX3_buildings_3 : decode cX3_buildings 3 = .ok (.istore 4, 2) := dk_54 4 (dk_at dksX3_buildings_0 3 rfl rfl)
theorem dX3_buildings_5 : decode cX3_buildings 5 = .ok (.iload 4, 2) := dk_21 4 (dk_at dksX3_buildings_0 5 rfl rfl)
theorem dX3_buildings_7 : decode cX3_buildings 7 = .ok (.bipush 24, 2) := dk_16 24 (dk_at dksX3_buildings_0 7 rfl rfl)
theorem dX3_buildings_9 : decode cX3_buildings 9 = .ok (.if_icmp .ge 37, 3) := dk_162 0 37 (dk_at dksX3_buildings_0 9 rfl rfl)
theorem dX3_buildings_12 : decode cX3_buildings 12 = .ok (.iload_n 3, 1) := dk_29 (dk_at dksX3_buildings_0 12 rfl rfl)
theorem dX3_buildings_13 : decode cX3_buildings 13 = .ok (.aload_n 0, 1) := dk_42 (dk_at dksX3_buildings_0 13 rfl rfl)
theorem dX3_buildings_14 : decode cX3_buildings 14 = .ok (.iload 4, 2) := dk_21 4 (dk_at dksX3_buildings_0 14 rfl rfl)
theorem dX3_buildings_16 : decode cX3_buildings 16 = .ok (.invokevirtual 74, 3) := dk_182 0 74 (dk_at dksX3_buildings_0 16 rfl rfl)
theorem dX3_buildings_19 : decode cX3_buildings 19 = .ok (.iload_n 1, 1) := dk_27 (dk_at dksX3_buildings_0 19 rfl rfl)
theorem dX3_buildings_20 : decode cX3_buildings 20 = .ok (.if_icmp .ne 17, 3) := dk_160 0 17 (dk_at dksX3_buildings_0 20 rfl rfl)
theorem dX3_buildings_23 : decode cX3_buildings 23 = .ok (.aload_n 0, 1) := dk_42 (dk_at dksX3_buildings_0 23 rfl rfl)
theorem dX3_buildings_24 : decode cX3_buildings 24 = .ok (.iload 4, 2) := dk_21 4 (dk_at dksX3_buildings_1 0 rfl rfl)
theorem dX3_buildings_26 : decode cX3_buildings 26 = .ok (.invokevirtual 87, 3) := dk_182 0 87 (dk_at dksX3_buildings_1 2 rfl rfl)
theorem dX3_buildings_29 : decode cX3_buildings 29 = .ok (.iload_n 2, 1) := dk_28 (dk_at dksX3_buildings_1 5 rfl rfl)
theorem dX3_buildings_30 : decode cX3_buildings 30 = .ok (.if_icmp .ne 7, 3) := dk_160 0 7 (dk_at dksX3_buildings_1 6 rfl rfl)
theorem dX3_buildings_33 : decode cX3_buildings 33 = .ok (.iconst 1, 1) := dk_4 (dk_at dksX3_buildings_1 9 rfl rfl)
theorem dX3_buildings_34 : decode cX3_buildings 34 = .ok (.goto 4, 3) := dk_167 0 4 (dk_at dksX3_buildings_1 10 rfl rfl)
theorem dX3_buildings_37 : decode cX3_buildings 37 = .ok (.iconst 0, 1) := dk_3 (dk_at dksX3_buildings_1 13 rfl rfl)
theorem dX3_buildings_38 : decode cX3_buildings 38 = .ok (.iadd, 1) := dk_96 (dk_at dksX3_buildings_1 14 rfl rfl)
theorem dX3_buildings_39 : decode cX3_buildings 39 = .ok (.istore_n 3, 1) := dk_62 (dk_at dksX3_buildings_1 15 rfl rfl)
theorem dX3_buildings_40 : decode cX3_buildings 40 = .ok (.iinc 4 1, 3) := dk_132 4 1 (dk_at dksX3_buildings_1 16 rfl rfl)
theorem dX3_buildings_43 : decode cX3_buildings 43 = .ok (.goto (-38), 3) := dk_167 255 218 (dk_at dksX3_buildings_1 19 rfl rfl)
theorem dX3_buildings_46 : decode cX3_buildings 46 = .ok (.iload_n 3, 1) := dk_29 (dk_at dksX3_buildings_1 22 rfl rfl)
theorem dX3_buildings_47 : decode cX3_buildings 47 = .ok (.ireturn, 1) := dk_172 (dk_at dksX3_buildings_1 23 rfl rfl)
abbrev cX3_house : ByteArray := prog_12_method_52_code
def yX3_house : MethodName := ⟨RX3, "house", "(I)I"⟩
def dkwX3_house_4 : List UInt8 := [79, 42, 182, 0, 156, 42, 182, 0, 209, 42, 42, 180, 0, 118, 182, 0, 121, 172]
abbrev dktX3_house_4 : List UInt8 := dkwX3_house_4 ++ []
def dkwX3_house_3 : List UInt8 := [42, 5, 182, 0, 149, 172, 42, 17, 4, 87, 182, 0, 203, 42, 180, 0, 19, 27, 42, 180, 0, 118, 4, 96]
abbrev dktX3_house_3 : List UInt8 := dkwX3_house_3 ++ dktX3_house_4
def dkwX3_house_2 : List UInt8 := [180, 0, 118, 27, 2, 182, 0, 77, 153, 0, 16, 42, 42, 180, 0, 118, 3, 182, 0, 111, 7, 160, 0, 9]
abbrev dktX3_house_2 : List UInt8 := dkwX3_house_2 ++ dktX3_house_3
def dkwX3_house_1 : List UInt8 := [180, 0, 118, 17, 4, 87, 182, 0, 169, 153, 0, 37, 42, 27, 182, 0, 146, 153, 0, 29, 42, 42]
abbrev dktX3_house_1 : List UInt8 := dkwX3_house_1 ++ dktX3_house_2
def dkwX3_house_0 : List UInt8 := [42, 27, 184, 0, 140, 182, 0, 127, 154, 0, 5, 3, 172, 42, 180, 0, 115, 5, 160, 0, 51, 42, 42]
abbrev dktX3_house_0 : List UInt8 := dkwX3_house_0 ++ dktX3_house_1
theorem dksX3_house_0 : cX3_house.data.toList.drop 0 = dktX3_house_0 := by decide +kernel
theorem dksX3_house_1 : cX3_house.data.toList.drop 23 = dktX3_house_1 := dk_seg dksX3_house_0 23 rfl rfl
theorem dksX3_house_2 : cX3_house.data.toList.drop 45 = dktX3_house_2 := dk_seg dksX3_house_1 22 rfl rfl
theorem dksX3_house_3 : cX3_house.data.toList.drop 69 = dktX3_house_3 := dk_seg dksX3_house_2 24 rfl rfl
theorem dksX3_house_4 : cX3_house.data.toList.drop 93 = dktX3_house_4 := dk_seg dksX3_house_3 24 rfl rfl
theorem dX3_house_0 : decode cX3_house 0 = .ok (.aload_n 0, 1) := dk_42 (dk_at dksX3_house_0 0 rfl rfl)
theorem dX3_house_1 : decode cX3_house 1 = .ok (.iload_n 1, 1) := dk_27 (dk_at dksX3_house_0 1 rfl rfl)
theorem dX3_house_2 : decode cX3_house 2 = .ok (.invokestatic 140, 3) := dk_184 0 140 (dk_at dksX3_house_0 2 rfl rfl)
theorem dX3_house_5 : decode cX3_house 5 = .ok (.invokevirtual 127, 3) := dk_182 0 127 (dk_at dksX3_house_0 5 rfl rfl)
theorem dX3_house_8 : decode cX3_house 8 = .ok (.ifCond .ne 5, 3) := dk_154 0 5 (dk_at dksX3_house_0 8 rfl rfl)
theorem dX3_house_11 : decode cX3_house 11 = .ok (.iconst 0, 1) := dk_3 (dk_at dksX3_house_0 11 rfl rfl)
theorem dX3_house_12 : decode cX3_house 12 = .ok (.ireturn, 1) := dk_172 (dk_at dksX3_house_0 12 rfl rfl)
theorem dX3_house_13 : decode cX3_house 13 = .ok (.aload_n 0, 1) := dk_42 (dk_at dksX3_house_0 13 rfl rfl)
theorem dX3_house_14 : decode cX3_house 14 = .ok (.getfield 115, 3) := dk_180 0 115 (dk_at dksX3_house_0 14 rfl rfl)
theorem dX3_house_17 : decode cX3_house 17 = .ok (.iconst 2, 1) := dk_5 (dk_at dksX3_house_0 17 rfl rfl)
theorem dX3_house_18 : decode cX3_house 18 = .ok (.if_icmp .ne 51, 3) := dk_160 0 51 (dk_at dksX3_house_0 18 rfl rfl)
theorem dX3_house_21 : decode cX3_house 21 = .ok (.aload_n 0, 1) := dk_42 (dk_at dksX3_house_0 21 rfl rfl)
theorem dX3_house_22 : decode cX3_house 22 = .ok (.aload_n 0, 1) := dk_42 (dk_at dksX3_house_0 22 rfl rfl)
theorem dX3_house_23 : decode cX3_house 23 = .ok (.getfield 118, 3) := dk_180 0 118 (dk_at dksX3_house_1 0 rfl rfl)
theorem dX3_house_26 : decode cX3_house 26 = .ok (.sipush 1111, 3) := dk_17 4 87 (dk_at dksX3_house_1 3 rfl rfl)
theorem dX3_house_29 : decode cX3_house 29 = .ok (.invokevirtual 169, 3) := dk_182 0 169 (dk_at dksX3_house_1 6 rfl rfl)
theorem dX3_house_32 : decode cX3_house 32 = .ok (.ifCond .eq 37, 3) := dk_153 0 37 (dk_at dksX3_house_1 9 rfl rfl)
theorem dX3_house_35 : decode cX3_house 35 = .ok (.aload_n 0, 1) := dk_42 (dk_at dksX3_house_1 12 rfl rfl)
theorem dX3_house_36 : decode cX3_house 36 = .ok (.iload_n 1, 1) := dk_27 (dk_at dksX3_house_1 13 rfl rfl)
theorem dX3_house_37 : decode cX3_house 37 = .ok (.invokevirtual 146, 3) := dk_182 0 146 (dk_at dksX3_house_1 14 rfl rfl)
theorem dX3_house_40 : decode cX3_house 40 = .ok (.ifCond .eq 29, 3) := dk_153 0 29 (dk_at dksX3_house_1 17 rfl rfl)
theorem dX3_house_43 : decode cX3_house 43 = .ok (.aload_n 0, 1) := dk_42 (dk_at dksX3_house_1 20 rfl rfl)
theorem dX3_house_44 : decode cX3_house 44 = .ok (.aload_n 0, 1) := dk_42 (dk_at dksX3_house_1 21 rfl rfl)
theorem dX3_house_45 : decode cX3_house 45 = .ok (.getfield 118, 3) := dk_180 0 118 (dk_at dksX3_house_2 0 rfl rfl)
theorem dX3_house_48 : decode cX3_house 48 = .ok (.iload_n 1, 1) := dk_27 (dk_at dksX3_house_2 3 rfl rfl)
theorem dX3_house_49 : decode cX3_house 49 = .ok (.iconst (-1), 1) := dk_2 (dk_at dksX3_house_2 4 rfl rfl)
theorem dX3_house_50 : decode cX3_house 50 = .ok (.invokevirtual 77, 3) := dk_182 0 77 (dk_at dksX3_house_2 5 rfl rfl)
theorem dX3_house_53 : decode cX3_house 53 = .ok (.ifCond .eq 16, 3) := dk_153 0 16 (dk_at dksX3_house_2 8 rfl rfl)
theorem dX3_house_56 : decode cX3_house 56 = .ok (.aload_n 0, 1) := dk_42 (dk_at dksX3_house_2 11 rfl rfl)
theorem dX3_house_57 : decode cX3_house 57 = .ok (.aload_n 0, 1) := dk_42 (dk_at dksX3_house_2 12 rfl rfl)
theorem dX3_house_58 : decode cX3_house 58 = .ok (.getfield 118, 3) := dk_180 0 118 (dk_at dksX3_house_2 13 rfl rfl)
theorem dX3_house_61 : decode cX3_house 61 = .ok (.iconst 0, 1) := dk_3 (dk_at dksX3_house_2 16 rfl rfl)
theorem dX3_house_62 : decode cX3_house 62 = .ok (.invokevirtual 111, 3) := dk_182 0 111 (dk_at dksX3_house_2 17 rfl rfl)
theorem dX3_house_65 : decode cX3_house 65 = .ok (.iconst 4, 1) := dk_7 (dk_at dksX3_house_2 20 rfl rfl)
theorem dX3_house_66 : decode cX3_house 66 = .ok (.if_icmp .ne 9, 3) := dk_160 0 9 (dk_at dksX3_house_2 21 rfl rfl)
theorem dX3_house_69 : decode cX3_house 69 = .ok (.aload_n 0, 1) := dk_42 (dk_at dksX3_house_3 0 rfl rfl)
theorem dX3_house_70 : decode cX3_house 70 = .ok (.iconst 2, 1) := dk_5 (dk_at dksX3_house_3 1 rfl rfl)
theorem dX3_house_71 : decode cX3_house 71 = .ok (.invokevirtual 149, 3) := dk_182 0 149 (dk_at dksX3_house_3 2 rfl rfl)
theorem dX3_house_74 : decode cX3_house 74 = .ok (.ireturn, 1) := dk_172 (dk_at dksX3_house_3 5 rfl rfl)
theorem dX3_house_75 : decode cX3_house 75 = .ok (.aload_n 0, 1) := dk_42 (dk_at dksX3_house_3 6 rfl rfl)
theorem dX3_house_76 : decode cX3_house 76 = .ok (.sipush 1111, 3) := dk_17 4 87 (dk_at dksX3_house_3 7 rfl rfl)
theorem dX3_house_79 : decode cX3_house 79 = .ok (.invokevirtual 203, 3) := dk_182 0 203 (dk_at dksX3_house_3 10 rfl rfl)
theorem dX3_house_82 : decode cX3_house 82 = .ok (.aload_n 0, 1) := dk_42 (dk_at dksX3_house_3 13 rfl rfl)
theorem dX3_house_83 : decode cX3_house 83 = .ok (.getfield 19, 3) := dk_180 0 19 (dk_at dksX3_house_3 14 rfl rfl)
theorem dX3_house_86 : decode cX3_house 86 = .ok (.iload_n 1, 1) := dk_27 (dk_at dksX3_house_3 17 rfl rfl)
theorem dX3_house_87 : decode cX3_house 87 = .ok (.aload_n 0, 1) := dk_42 (dk_at dksX3_house_3 18 rfl rfl)
theorem dX3_house_88 : decode cX3_house 88 = .ok (.getfield 118, 3) := dk_180 0 118 (dk_at dksX3_house_3 19 rfl rfl)
theorem dX3_house_91 : decode cX3_house 91 = .ok (.iconst 1, 1) := dk_4 (dk_at dksX3_house_3 22 rfl rfl)
theorem dX3_house_92 : decode cX3_house 92 = .ok (.iadd, 1) := dk_96 (dk_at dksX3_house_3 23 rfl rfl)
theorem dX3_house_93 : decode cX3_house 93 = .ok (.iastore, 1) := dk_79 (dk_at dksX3_house_4 0 rfl rfl)
theorem dX3_house_94 : decode cX3_house 94 = .ok (.aload_n 0, 1) := dk_42 (dk_at dksX3_house_4 1 rfl rfl)
theorem dX3_house_95 : decode cX3_house 95 = .ok (.invokevirtual 156, 3) := dk_182 0 156 (dk_at dksX3_house_4 2 rfl rfl)
theorem dX3_house_98 : decode cX3_house 98 = .ok (.aload_n 0, 1) := dk_42 (dk_at dksX3_house_4 5 rfl rfl)
theorem dX3_house_99 : decode cX3_house 99 = .ok (.invokevirtual 209, 3) := dk_182 0 209 (dk_at dksX3_house_4 6 rfl rfl)
theorem dX3_house_102 : decode cX3_house 102 = .ok (.aload_n 0, 1) := dk_42 (dk_at dksX3_house_4 9 rfl rfl)
theorem dX3_house_103 : decode cX3_house 103 = .ok (.aload_n 0, 1) := dk_42 (dk_at dksX3_house_4 10 rfl rfl)
theorem dX3_house_104 : decode cX3_house 104 = .ok (.getfield 118, 3) := dk_180 0 118 (dk_at dksX3_house_4 11 rfl rfl)
theorem dX3_house_107 : decode cX3_house 107 = .ok (.invokevirtual 121, 3) := dk_182 0 121 (dk_at dksX3_house_4 14 rfl rfl)
theorem dX3_house_110 : decode cX3_house 110 = .ok (.ireturn, 1) := dk_172 (dk_at dksX3_house_4 17 rfl rfl)
abbrev cX3_city : ByteArray := prog_12_method_53_code
def yX3_city : MethodName := ⟨RX3, "city", "(I)I"⟩
def dkwX3_city_4 : List UInt8 := [182, 0, 209, 42, 42, 180, 0, 118, 182, 0, 121, 172]
abbrev dktX3_city_4 : List UInt8 := dkwX3_city_4 ++ []
def dkwX3_city_3 : List UInt8 := [17, 125, 0, 182, 0, 203, 42, 180, 0, 19, 27, 42, 180, 0, 118, 7, 96, 79, 42, 182, 0, 156, 42]
abbrev dktX3_city_3 : List UInt8 := dkwX3_city_3 ++ dktX3_city_4
def dkwX3_city_2 : List UInt8 := [160, 0, 16, 42, 42, 180, 0, 118, 4, 182, 0, 111, 6, 160, 0, 9, 42, 5, 182, 0, 149, 172, 42]
abbrev dktX3_city_2 : List UInt8 := dkwX3_city_2 ++ dktX3_city_3
def dkwX3_city_1 : List UInt8 := [180, 0, 118, 17, 125, 0, 182, 0, 169, 153, 0, 31, 42, 180, 0, 19, 27, 46, 42, 180, 0, 118, 4, 96]
abbrev dktX3_city_1 : List UInt8 := dkwX3_city_1 ++ dktX3_city_2
def dkwX3_city_0 : List UInt8 := [42, 27, 184, 0, 140, 182, 0, 127, 154, 0, 5, 3, 172, 42, 180, 0, 115, 5, 160, 0, 45, 42, 42]
abbrev dktX3_city_0 : List UInt8 := dkwX3_city_0 ++ dktX3_city_1
theorem dksX3_city_0 : cX3_city.data.toList.drop 0 = dktX3_city_0 := by decide +kernel
theorem dksX3_city_1 : cX3_city.data.toList.drop 23 = dktX3_city_1 := dk_seg dksX3_city_0 23 rfl rfl
theorem dksX3_city_2 : cX3_city.data.toList.drop 47 = dktX3_city_2 := dk_seg dksX3_city_1 24 rfl rfl
theorem dksX3_city_3 : cX3_city.data.toList.drop 70 = dktX3_city_3 := dk_seg dksX3_city_2 23 rfl rfl
theorem dksX3_city_4 : cX3_city.data.toList.drop 93 = dktX3_city_4 := dk_seg dksX3_city_3 23 rfl rfl
theorem dX3_city_0 : decode cX3_city 0 = .ok (.aload_n 0, 1) := dk_42 (dk_at dksX3_city_0 0 rfl rfl)
theorem dX3_city_1 : decode cX3_city 1 = .ok (.iload_n 1, 1) := dk_27 (dk_at dksX3_city_0 1 rfl rfl)
theorem dX3_city_2 : decode cX3_city 2 = .ok (.invokestatic 140, 3) := dk_184 0 140 (dk_at dksX3_city_0 2 rfl rfl)
theorem dX3_city_5 : decode cX3_city 5 = .ok (.invokevirtual 127, 3) := dk_182 0 127 (dk_at dksX3_city_0 5 rfl rfl)
theorem dX3_city_8 : decode cX3_city 8 = .ok (.ifCond .ne 5, 3) := dk_154 0 5 (dk_at dksX3_city_0 8 rfl rfl)
theorem dX3_city_11 : decode cX3_city 11 = .ok (.iconst 0, 1) := dk_3 (dk_at dksX3_city_0 11 rfl rfl)
theorem dX3_city_12 : decode cX3_city 12 = .ok (.ireturn, 1) := dk_172 (dk_at dksX3_city_0 12 rfl rfl)
theorem dX3_city_13 : decode cX3_city 13 = .ok (.aload_n 0, 1) := dk_42 (dk_at dksX3_city_0 13 rfl rfl)
theorem dX3_city_14 : decode cX3_city 14 = .ok (.getfield 115, 3) := dk_180 0 115 (dk_at dksX3_city_0 14 rfl rfl)
theorem dX3_city_17 : decode cX3_city 17 = .ok (.iconst 2, 1) := dk_5 (dk_at dksX3_city_0 17 rfl rfl)
theorem dX3_city_18 : decode cX3_city 18 = .ok (.if_icmp .ne 45, 3) := dk_160 0 45 (dk_at dksX3_city_0 18 rfl rfl)
theorem dX3_city_21 : decode cX3_city 21 = .ok (.aload_n 0, 1) := dk_42 (dk_at dksX3_city_0 21 rfl rfl)
theorem dX3_city_22 : decode cX3_city 22 = .ok (.aload_n 0, 1) := dk_42 (dk_at dksX3_city_0 22 rfl rfl)
theorem dX3_city_23 : decode cX3_city 23 = .ok (.getfield 118, 3) := dk_180 0 118 (dk_at dksX3_city_1 0 rfl rfl)
theorem dX3_city_26 : decode cX3_city 26 = .ok (.sipush 32000, 3) := dk_17 125 0 (dk_at dksX3_city_1 3 rfl rfl)
theorem dX3_city_29 : decode cX3_city 29 = .ok (.invokevirtual 169, 3) := dk_182 0 169 (dk_at dksX3_city_1 6 rfl rfl)
theorem dX3_city_32 : decode cX3_city 32 = .ok (.ifCond .eq 31, 3) := dk_153 0 31 (dk_at dksX3_city_1 9 rfl rfl)
theorem dX3_city_35 : decode cX3_city 35 = .ok (.aload_n 0, 1) := dk_42 (dk_at dksX3_city_1 12 rfl rfl)
theorem dX3_city_36 : decode cX3_city 36 = .ok (.getfield 19, 3) := dk_180 0 19 (dk_at dksX3_city_1 13 rfl rfl)
theorem dX3_city_39 : decode cX3_city 39 = .ok (.iload_n 1, 1) := dk_27 (dk_at dksX3_city_1 16 rfl rfl)
theorem dX3_city_40 : decode cX3_city 40 = .ok (.iaload, 1) := dk_46 (dk_at dksX3_city_1 17 rfl rfl)
theorem dX3_city_41 : decode cX3_city 41 = .ok (.aload_n 0, 1) := dk_42 (dk_at dksX3_city_1 18 rfl rfl)
theorem dX3_city_42 : decode cX3_city 42 = .ok (.getfield 118, 3) := dk_180 0 118 (dk_at dksX3_city_1 19 rfl rfl)
theorem dX3_city_45 : decode cX3_city 45 = .ok (.iconst 1, 1) := dk_4 (dk_at dksX3_city_1 22 rfl rfl)
theorem dX3_city_46 : decode cX3_city 46 = .ok (.iadd, 1) := dk_96 (dk_at dksX3_city_1 23 rfl rfl)
theorem dX3_city_47 : decode cX3_city 47 = .ok (.if_icmp .ne 16, 3) := dk_160 0 16 (dk_at dksX3_city_2 0 rfl rfl)
theorem dX3_city_50 : decode cX3_city 50 = .ok (.aload_n 0, 1) := dk_42 (dk_at dksX3_city_2 3 rfl rfl)
theorem dX3_city_51 : decode cX3_city 51 = .ok (.aload_n 0, 1) := dk_42 (dk_at dksX3_city_2 4 rfl rfl)
theorem dX3_city_52 : decode cX3_city 52 = .ok (.getfield 118, 3) := dk_180 0 118 (dk_at dksX3_city_2 5 rfl rfl)
theorem dX3_city_55 : decode cX3_city 55 = .ok (.iconst 1, 1) := dk_4 (dk_at dksX3_city_2 8 rfl rfl)
theorem dX3_city_56 : decode cX3_city 56 = .ok (.invokevirtual 111, 3) := dk_182 0 111 (dk_at dksX3_city_2 9 rfl rfl)
theorem dX3_city_59 : decode cX3_city 59 = .ok (.iconst 3, 1) := dk_6 (dk_at dksX3_city_2 12 rfl rfl)
theorem dX3_city_60 : decode cX3_city 60 = .ok (.if_icmp .ne 9, 3) := dk_160 0 9 (dk_at dksX3_city_2 13 rfl rfl)
theorem dX3_city_63 : decode cX3_city 63 = .ok (.aload_n 0, 1) := dk_42 (dk_at dksX3_city_2 16 rfl rfl)
theorem dX3_city_64 : decode cX3_city 64 = .ok (.iconst 2, 1) := dk_5 (dk_at dksX3_city_2 17 rfl rfl)
theorem dX3_city_65 : decode cX3_city 65 = .ok (.invokevirtual 149, 3) := dk_182 0 149 (dk_at dksX3_city_2 18 rfl rfl)
theorem dX3_city_68 : decode cX3_city 68 = .ok (.ireturn, 1) := dk_172 (dk_at dksX3_city_2 21 rfl rfl)
theorem dX3_city_69 : decode cX3_city 69 = .ok (.aload_n 0, 1) := dk_42 (dk_at dksX3_city_2 22 rfl rfl)
theorem dX3_city_70 : decode cX3_city 70 = .ok (.sipush 32000, 3) := dk_17 125 0 (dk_at dksX3_city_3 0 rfl rfl)
theorem dX3_city_73 : decode cX3_city 73 = .ok (.invokevirtual 203, 3) := dk_182 0 203 (dk_at dksX3_city_3 3 rfl rfl)
theorem dX3_city_76 : decode cX3_city 76 = .ok (.aload_n 0, 1) := dk_42 (dk_at dksX3_city_3 6 rfl rfl)
theorem dX3_city_77 : decode cX3_city 77 = .ok (.getfield 19, 3) := dk_180 0 19 (dk_at dksX3_city_3 7 rfl rfl)
theorem dX3_city_80 : decode cX3_city 80 = .ok (.iload_n 1, 1) := dk_27 (dk_at dksX3_city_3 10 rfl rfl)
theorem dX3_city_81 : decode cX3_city 81 = .ok (.aload_n 0, 1) := dk_42 (dk_at dksX3_city_3 11 rfl rfl)
theorem dX3_city_82 : decode cX3_city 82 = .ok (.getfield 118, 3) := dk_180 0 118 (dk_at dksX3_city_3 12 rfl rfl)
theorem dX3_city_85 : decode cX3_city 85 = .ok (.iconst 4, 1) := dk_7 (dk_at dksX3_city_3 15 rfl rfl)
theorem dX3_city_86 : decode cX3_city 86 = .ok (.iadd, 1) := dk_96 (dk_at dksX3_city_3 16 rfl rfl)
theorem dX3_city_87 : decode cX3_city 87 = .ok (.iastore, 1) := dk_79 (dk_at dksX3_city_3 17 rfl rfl)
theorem dX3_city_88 : decode cX3_city 88 = .ok (.aload_n 0, 1) := dk_42 (dk_at dksX3_city_3 18 rfl rfl)
theorem dX3_city_89 : decode cX3_city 89 = .ok (.invokevirtual 156, 3) := dk_182 0 156 (dk_at dksX3_city_3 19 rfl rfl)
theorem dX3_city_92 : decode cX3_city 92 = .ok (.aload_n 0, 1) := dk_42 (dk_at dksX3_city_3 22 rfl rfl)
theorem dX3_city_93 : decode cX3_city 93 = .ok (.invokevirtual 209, 3) := dk_182 0 209 (dk_at dksX3_city_4 0 rfl rfl)
theorem dX3_city_96 : decode cX3_city 96 = .ok (.aload_n 0, 1) := dk_42 (dk_at dksX3_city_4 3 rfl rfl)
theorem dX3_city_97 : decode cX3_city 97 = .ok (.aload_n 0, 1) := dk_42 (dk_at dksX3_city_4 4 rfl rfl)
theorem dX3_city_98 : decode cX3_city 98 = .ok (.getfield 118, 3) := dk_180 0 118 (dk_at dksX3_city_4 5 rfl rfl)
theorem dX3_city_101 : decode cX3_city 101 = .ok (.invokevirtual 121, 3) := dk_182 0 121 (dk_at dksX3_city_4 8 rfl rfl)
theorem dX3_city_104 : decode cX3_city 104 = .ok (.ireturn, 1) := dk_172 (dk_at dksX3_city_4 11 rfl rfl)
abbrev cX3_buy : ByteArray := prog_12_method_55_code
def yX3_buy : MethodName := ⟨RX3, "buy", "()I"⟩
def dkwX3_buy_4 : List UInt8 := [4, 96, 79, 42, 182, 0, 209, 27, 172]
abbrev dktX3_buy_4 : List UInt8 := dkwX3_buy_4 ++ []
def dkwX3_buy_3 : List UInt8 := [42, 180, 0, 28, 8, 42, 180, 0, 118, 104, 27, 96, 92, 46, 4, 96, 79, 42, 180, 0, 31, 27, 92, 46]
abbrev dktX3_buy_3 : List UInt8 := dkwX3_buy_3 ++ dktX3_buy_4
def dkwX3_buy_2 : List UInt8 := [17, 43, 92, 182, 0, 203, 42, 180, 0, 212, 184, 0, 215, 60, 42, 89, 180, 0, 212, 4, 96, 181, 0, 212]
abbrev dktX3_buy_2 : List UInt8 := dkwX3_buy_2 ++ dktX3_buy_3
def dkwX3_buy_1 : List UInt8 := [17, 43, 92, 182, 0, 169, 153, 0, 7, 4, 167, 0, 4, 3, 182, 0, 127, 154, 0, 5, 3, 172, 42]
abbrev dktX3_buy_1 : List UInt8 := dkwX3_buy_1 ++ dktX3_buy_2
def dkwX3_buy_0 : List UInt8 := [42, 42, 180, 0, 115, 5, 160, 0, 30, 42, 180, 0, 212, 16, 15, 162, 0, 21, 42, 42, 180, 0, 118]
abbrev dktX3_buy_0 : List UInt8 := dkwX3_buy_0 ++ dktX3_buy_1
theorem dksX3_buy_0 : cX3_buy.data.toList.drop 0 = dktX3_buy_0 := by decide +kernel
theorem dksX3_buy_1 : cX3_buy.data.toList.drop 23 = dktX3_buy_1 := dk_seg dksX3_buy_0 23 rfl rfl
theorem dksX3_buy_2 : cX3_buy.data.toList.drop 46 = dktX3_buy_2 := dk_seg dksX3_buy_1 23 rfl rfl
theorem dksX3_buy_3 : cX3_buy.data.toList.drop 70 = dktX3_buy_3 := dk_seg dksX3_buy_2 24 rfl rfl
theorem dksX3_buy_4 : cX3_buy.data.toList.drop 94 = dktX3_buy_4 := dk_seg dksX3_buy_3 24 rfl rfl
theorem dX3_buy_0 : decode cX3_buy 0 = .ok (.aload_n 0, 1) := dk_42 (dk_at dksX3_buy_0 0 rfl rfl)
theorem dX3_buy_1 : decode cX3_buy 1 = .ok (.aload_n 0, 1) := dk_42 (dk_at dksX3_buy_0 1 rfl rfl)
theorem dX3_buy_2 : decode cX3_buy 2 = .ok (.getfield 115, 3) := dk_180 0 115 (dk_at dksX3_buy_0 2 rfl rfl)
theorem dX3_buy_5 : decode cX3_buy 5 = .ok (.iconst 2, 1) := dk_5 (dk_at dksX3_buy_0 5 rfl rfl)
theorem dX3_buy_6 : decode cX3_buy 6 = .ok (.if_icmp .ne 30, 3) := dk_160 0 30 (dk_at dksX3_buy_0 6 rfl rfl)
theorem dX3_buy_9 : decode cX3_buy 9 = .ok (.aload_n 0, 1) := dk_42 (dk_at dksX3_buy_0 9 rfl rfl)
theorem dX3_buy_10 : decode cX3_buy 10 = .ok (.getfield 212, 3) := dk_180 0 212 (dk_at dksX3_buy_0 10 rfl rfl)
theorem dX3_buy_13 : decode cX3_buy 13 = .ok (.bipush 15, 2) := dk_16 15 (dk_at dksX3_buy_0 13 rfl rfl)
theorem dX3_buy_15 : decode cX3_buy 15 = .ok (.if_icmp .ge 21, 3) := dk_162 0 21 (dk_at dksX3_buy_0 15 rfl rfl)
theorem dX3_buy_18 : decode cX3_buy 18 = .ok (.aload_n 0, 1) := dk_42 (dk_at dksX3_buy_0 18 rfl rfl)
theorem dX3_buy_19 : decode cX3_buy 19 = .ok (.aload_n 0, 1) := dk_42 (dk_at dksX3_buy_0 19 rfl rfl)
theorem dX3_buy_20 : decode cX3_buy 20 = .ok (.getfield 118, 3) := dk_180 0 118 (dk_at dksX3_buy_0 20 rfl rfl)
theorem dX3_buy_23 : decode cX3_buy 23 = .ok (.sipush 11100, 3) := dk_17 43 92 (dk_at dksX3_buy_1 0 rfl rfl)
theorem dX3_buy_26 : decode cX3_buy 26 = .ok (.invokevirtual 169, 3) := dk_182 0 169 (dk_at dksX3_buy_1 3 rfl rfl)
theorem dX3_buy_29 : decode cX3_buy 29 = .ok (.ifCond .eq 7, 3) := dk_153 0 7 (dk_at dksX3_buy_1 6 rfl rfl)
theorem dX3_buy_32 : decode cX3_buy 32 = .ok (.iconst 1, 1) := dk_4 (dk_at dksX3_buy_1 9 rfl rfl)
theorem dX3_buy_33 : decode cX3_buy 33 = .ok (.goto 4, 3) := dk_167 0 4 (dk_at dksX3_buy_1 10 rfl rfl)
theorem dX3_buy_36 : decode cX3_buy 36 = .ok (.iconst 0, 1) := dk_3 (dk_at dksX3_buy_1 13 rfl rfl)
theorem dX3_buy_37 : decode cX3_buy 37 = .ok (.invokevirtual 127, 3) := dk_182 0 127 (dk_at dksX3_buy_1 14 rfl rfl)
theorem dX3_buy_40 : decode cX3_buy 40 = .ok (.ifCond .ne 5, 3) := dk_154 0 5 (dk_at dksX3_buy_1 17 rfl rfl)
theorem dX3_buy_43 : decode cX3_buy 43 = .ok (.iconst 0, 1) := dk_3 (dk_at dksX3_buy_1 20 rfl rfl)
theorem dX3_buy_44 : decode cX3_buy 44 = .ok (.ireturn, 1) := dk_172 (dk_at dksX3_buy_1 21 rfl rfl)
theorem dX3_buy_45 : decode cX3_buy 45 = .ok (.aload_n 0, 1) := dk_42 (dk_at dksX3_buy_1 22 rfl rfl)
theorem dX3_buy_46 : decode cX3_buy 46 = .ok (.sipush 11100, 3) := dk_17 43 92 (dk_at dksX3_buy_2 0 rfl rfl)
theorem dX3_buy_49 : decode cX3_buy 49 = .ok (.invokevirtual 203, 3) := dk_182 0 203 (dk_at dksX3_buy_2 3 rfl rfl)
theorem dX3_buy_52 : decode cX3_buy 52 = .ok (.aload_n 0, 1) := dk_42 (dk_at dksX3_buy_2 6 rfl rfl)
theorem dX3_buy_53 : decode cX3_buy 53 = .ok (.getfield 212, 3) := dk_180 0 212 (dk_at dksX3_buy_2 7 rfl rfl)
theorem dX3_buy_56 : decode cX3_buy 56 = .ok (.invokestatic 215, 3) := dk_184 0 215 (dk_at dksX3_buy_2 10 rfl rfl)
theorem dX3_buy_59 : decode cX3_buy 59 = .ok (.istore_n 1, 1) := dk_60 (dk_at dksX3_buy_2 13 rfl rfl)
theorem dX3_buy_60 : decode cX3_buy 60 = .ok (.aload_n 0, 1) := dk_42 (dk_at dksX3_buy_2 14 rfl rfl)
theorem dX3_buy_61 : decode cX3_buy 61 = .ok (.dup, 1) := dk_89 (dk_at dksX3_buy_2 15 rfl rfl)
theorem dX3_buy_62 : decode cX3_buy 62 = .ok (.getfield 212, 3) := dk_180 0 212 (dk_at dksX3_buy_2 16 rfl rfl)
theorem dX3_buy_65 : decode cX3_buy 65 = .ok (.iconst 1, 1) := dk_4 (dk_at dksX3_buy_2 19 rfl rfl)
theorem dX3_buy_66 : decode cX3_buy 66 = .ok (.iadd, 1) := dk_96 (dk_at dksX3_buy_2 20 rfl rfl)
theorem dX3_buy_67 : decode cX3_buy 67 = .ok (.putfield 212, 3) := dk_181 0 212 (dk_at dksX3_buy_2 21 rfl rfl)
theorem dX3_buy_70 : decode cX3_buy 70 = .ok (.aload_n 0, 1) := dk_42 (dk_at dksX3_buy_3 0 rfl rfl)
theorem dX3_buy_71 : decode cX3_buy 71 = .ok (.getfield 28, 3) := dk_180 0 28 (dk_at dksX3_buy_3 1 rfl rfl)
theorem dX3_buy_74 : decode cX3_buy 74 = .ok (.iconst 5, 1) := dk_8 (dk_at dksX3_buy_3 4 rfl rfl)
theorem dX3_buy_75 : decode cX3_buy 75 = .ok (.aload_n 0, 1) := dk_42 (dk_at dksX3_buy_3 5 rfl rfl)
theorem dX3_buy_76 : decode cX3_buy 76 = .ok (.getfield 118, 3) := dk_180 0 118 (dk_at dksX3_buy_3 6 rfl rfl)
theorem dX3_buy_79 : decode cX3_buy 79 = .ok (.imul, 1) := dk_104 (dk_at dksX3_buy_3 9 rfl rfl)
theorem dX3_buy_80 : decode cX3_buy 80 = .ok (.iload_n 1, 1) := dk_27 (dk_at dksX3_buy_3 10 rfl rfl)
theorem dX3_buy_81 : decode cX3_buy 81 = .ok (.iadd, 1) := dk_96 (dk_at dksX3_buy_3 11 rfl rfl)
theorem dX3_buy_82 : decode cX3_buy 82 = .ok (.dup2, 1) := dk_92 (dk_at dksX3_buy_3 12 rfl rfl)
theorem dX3_buy_83 : decode cX3_buy 83 = .ok (.iaload, 1) := dk_46 (dk_at dksX3_buy_3 13 rfl rfl)
theorem dX3_buy_84 : decode cX3_buy 84 = .ok (.iconst 1, 1) := dk_4 (dk_at dksX3_buy_3 14 rfl rfl)
theorem dX3_buy_85 : decode cX3_buy 85 = .ok (.iadd, 1) := dk_96 (dk_at dksX3_buy_3 15 rfl rfl)
theorem dX3_buy_86 : decode cX3_buy 86 = .ok (.iastore, 1) := dk_79 (dk_at dksX3_buy_3 16 rfl rfl)
theorem dX3_buy_87 : decode cX3_buy 87 = .ok (.aload_n 0, 1) := dk_42 (dk_at dksX3_buy_3 17 rfl rfl)
theorem dX3_buy_88 : decode cX3_buy 88 = .ok (.getfield 31, 3) := dk_180 0 31 (dk_at dksX3_buy_3 18 rfl rfl)
theorem dX3_buy_91 : decode cX3_buy 91 = .ok (.iload_n 1, 1) := dk_27 (dk_at dksX3_buy_3 21 rfl rfl)
theorem dX3_buy_92 : decode cX3_buy 92 = .ok (.dup2, 1) := dk_92 (dk_at dksX3_buy_3 22 rfl rfl)
theorem dX3_buy_93 : decode cX3_buy 93 = .ok (.iaload, 1) := dk_46 (dk_at dksX3_buy_3 23 rfl rfl)
theorem dX3_buy_94 : decode cX3_buy 94 = .ok (.iconst 1, 1) := dk_4 (dk_at dksX3_buy_4 0 rfl rfl)
theorem dX3_buy_95 : decode cX3_buy 95 = .ok (.iadd, 1) := dk_96 (dk_at dksX3_buy_4 1 rfl rfl)
theorem dX3_buy_96 : decode cX3_buy 96 = .ok (.iastore, 1) := dk_79 (dk_at dksX3_buy_4 2 rfl rfl)
theorem dX3_buy_97 : decode cX3_buy 97 = .ok (.aload_n 0, 1) := dk_42 (dk_at dksX3_buy_4 3 rfl rfl)
theorem dX3_buy_98 : decode cX3_buy 98 = .ok (.invokevirtual 209, 3) := dk_182 0 209 (dk_at dksX3_buy_4 4 rfl rfl)
theorem dX3_buy_101 : decode cX3_buy 101 = .ok (.iload_n 1, 1) := dk_27 (dk_at dksX3_buy_4 7 rfl rfl)
theorem dX3_buy_102 : decode cX3_buy 102 = .ok (.ireturn, 1) := dk_172 (dk_at dksX3_buy_4 8 rfl rfl)
abbrev cX3_kindOf : ByteArray := prog_12_method_54_code
def yX3_kindOf : MethodName := ⟨RX3, "kindOf", "(I)I"⟩
def dkwX3_kindOf_2 : List UInt8 := [7, 172, 4, 172, 5, 172, 6, 172, 3, 172]
abbrev dktX3_kindOf_2 : List UInt8 := dkwX3_kindOf_2 ++ []
def dkwX3_kindOf_1 : List UInt8 := [170, 0, 0, 0, 0, 0, 79, 0, 0, 0, 1, 0, 0, 0, 14, 0, 0, 0, 71, 0, 0, 0, 73, 0, 0, 0, 79, 0, 0, 0, 75, 0, 0, 0, 77, 0, 0, 0, 79, 0, 0, 0, 71, 0, 0, 0, 79, 0, 0, 0, 73, 0, 0, 0, 75, 0, 0, 0, 79, 0, 0, 0, 77, 0, 0, 0, 79, 0, 0, 0, 71]
abbrev dktX3_kindOf_1 : List UInt8 := dkwX3_kindOf_1 ++ dktX3_kindOf_2
def dkwX3_kindOf_0 : List UInt8 := [26]
abbrev dktX3_kindOf_0 : List UInt8 := dkwX3_kindOf_0 ++ dktX3_kindOf_1
theorem dksX3_kindOf_0 : cX3_kindOf.data.toList.drop 0 = dktX3_kindOf_0 := by decide +kernel
theorem dksX3_kindOf_1 : cX3_kindOf.data.toList.drop 1 = dktX3_kindOf_1 := dk_seg dksX3_kindOf_0 1 rfl rfl
theorem dksX3_kindOf_2 : cX3_kindOf.data.toList.drop 72 = dktX3_kindOf_2 := dk_seg dksX3_kindOf_1 71 rfl rfl
theorem dX3_kindOf_0 : decode cX3_kindOf 0 = .ok (.iload_n 0, 1) := dk_26 (dk_at dksX3_kindOf_0 0 rfl rfl)
theorem dX3_kindOf_1 : decode cX3_kindOf 1 = .ok (.tableswitch 79 1 14 #[71, 73, 79, 75, 77, 79, 71, 79, 73, 75, 79, 77, 79, 71], 71) := by decide +kernel
theorem dX3_kindOf_72 : decode cX3_kindOf 72 = .ok (.iconst 4, 1) := dk_7 (dk_at dksX3_kindOf_2 0 rfl rfl)
theorem dX3_kindOf_73 : decode cX3_kindOf 73 = .ok (.ireturn, 1) := dk_172 (dk_at dksX3_kindOf_2 1 rfl rfl)
theorem dX3_kindOf_74 : decode cX3_kindOf 74 = .ok (.iconst 1, 1) := dk_4 (dk_at dksX3_kindOf_2 2 rfl rfl)
theorem dX3_kindOf_75 : decode cX3_kindOf 75 = .ok (.ireturn, 1) := dk_172 (dk_at dksX3_kindOf_2 3 rfl rfl)
theorem dX3_kindOf_76 : decode cX3_kindOf 76 = .ok (.iconst 2, 1) := dk_5 (dk_at dksX3_kindOf_2 4 rfl rfl)
theorem dX3_kindOf_77 : decode cX3_kindOf 77 = .ok (.ireturn, 1) := dk_172 (dk_at dksX3_kindOf_2 5 rfl rfl)
theorem dX3_kindOf_78 : decode cX3_kindOf 78 = .ok (.iconst 3, 1) := dk_6 (dk_at dksX3_kindOf_2 6 rfl rfl)
theorem dX3_kindOf_79 : decode cX3_kindOf 79 = .ok (.ireturn, 1) := dk_172 (dk_at dksX3_kindOf_2 7 rfl rfl)
theorem dX3_kindOf_80 : decode cX3_kindOf 80 = .ok (.iconst 0, 1) := dk_3 (dk_at dksX3_kindOf_2 8 rfl rfl)
theorem dX3_kindOf_81 : decode cX3_kindOf 81 = .ok (.ireturn, 1) := dk_172 (dk_at dksX3_kindOf_2 9 rfl rfl)
abbrev cX3_knight : ByteArray := prog_12_method_58_code
def yX3_knight : MethodName := ⟨RX3, "knight", "(III)I"⟩
def dkwX3_knight_5 : List UInt8 := [42, 180, 0, 37, 181, 0, 37, 42, 27, 28, 29, 182, 0, 197, 54, 5, 42, 182, 0, 209, 21, 5, 172]
abbrev dktX3_knight_5 : List UInt8 := dkwX3_knight_5 ++ []
def dkwX3_knight_4 : List UInt8 := [46, 164, 0, 7, 4, 167, 0, 4, 3, 54, 4, 42, 21, 4, 153, 0, 10, 42, 180, 0, 118, 167, 0, 7]
abbrev dktX3_knight_4 : List UInt8 := dkwX3_knight_4 ++ dktX3_knight_5
def dkwX3_knight_3 : List UInt8 := [180, 0, 37, 2, 159, 0, 24, 42, 180, 0, 34, 42, 180, 0, 118, 46, 42, 180, 0, 34, 42, 180, 0, 37]
abbrev dktX3_knight_3 : List UInt8 := dkwX3_knight_3 ++ dktX3_knight_4
def dkwX3_knight_2 : List UInt8 := [180, 0, 118, 92, 46, 4, 96, 79, 42, 180, 0, 34, 42, 180, 0, 118, 46, 6, 161, 0, 36, 42]
abbrev dktX3_knight_2 : List UInt8 := dkwX3_knight_2 ++ dktX3_knight_3
def dkwX3_knight_1 : List UInt8 := [182, 0, 194, 154, 0, 9, 42, 6, 182, 0, 149, 172, 42, 3, 182, 0, 224, 42, 180, 0, 34, 42]
abbrev dktX3_knight_1 : List UInt8 := dkwX3_knight_1 ++ dktX3_knight_2
def dkwX3_knight_0 : List UInt8 := [42, 27, 28, 29, 182, 0, 191, 154, 0, 5, 3, 172, 42, 3, 182, 0, 221, 153, 0, 12, 42, 27, 28]
abbrev dktX3_knight_0 : List UInt8 := dkwX3_knight_0 ++ dktX3_knight_1
theorem dksX3_knight_0 : cX3_knight.data.toList.drop 0 = dktX3_knight_0 := by decide +kernel
theorem dksX3_knight_1 : cX3_knight.data.toList.drop 23 = dktX3_knight_1 := dk_seg dksX3_knight_0 23 rfl rfl
theorem dksX3_knight_2 : cX3_knight.data.toList.drop 45 = dktX3_knight_2 := dk_seg dksX3_knight_1 22 rfl rfl
theorem dksX3_knight_3 : cX3_knight.data.toList.drop 67 = dktX3_knight_3 := dk_seg dksX3_knight_2 22 rfl rfl
theorem dksX3_knight_4 : cX3_knight.data.toList.drop 91 = dktX3_knight_4 := dk_seg dksX3_knight_3 24 rfl rfl
theorem dksX3_knight_5 : cX3_knight.data.toList.drop 115 = dktX3_knight_5 := dk_seg dksX3_knight_4 24 rfl rfl
theorem dX3_knight_0 : decode cX3_knight 0 = .ok (.aload_n 0, 1) := dk_42 (dk_at dksX3_knight_0 0 rfl rfl)
theorem dX3_knight_1 : decode cX3_knight 1 = .ok (.iload_n 1, 1) := dk_27 (dk_at dksX3_knight_0 1 rfl rfl)
theorem dX3_knight_2 : decode cX3_knight 2 = .ok (.iload_n 2, 1) := dk_28 (dk_at dksX3_knight_0 2 rfl rfl)
theorem dX3_knight_3 : decode cX3_knight 3 = .ok (.iload_n 3, 1) := dk_29 (dk_at dksX3_knight_0 3 rfl rfl)
theorem dX3_knight_4 : decode cX3_knight 4 = .ok (.invokevirtual 191, 3) := dk_182 0 191 (dk_at dksX3_knight_0 4 rfl rfl)
theorem dX3_knight_7 : decode cX3_knight 7 = .ok (.ifCond .ne 5, 3) := dk_154 0 5 (dk_at dksX3_knight_0 7 rfl rfl)
theorem dX3_knight_10 : decode cX3_knight 10 = .ok (.iconst 0, 1) := dk_3 (dk_at dksX3_knight_0 10 rfl rfl)
theorem dX3_knight_11 : decode cX3_knight 11 = .ok (.ireturn, 1) := dk_172 (dk_at dksX3_knight_0 11 rfl rfl)
theorem dX3_knight_12 : decode cX3_knight 12 = .ok (.aload_n 0, 1) := dk_42 (dk_at dksX3_knight_0 12 rfl rfl)
theorem dX3_knight_13 : decode cX3_knight 13 = .ok (.iconst 0, 1) := dk_3 (dk_at dksX3_knight_0 13 rfl rfl)
theorem dX3_knight_14 : decode cX3_knight 14 = .ok (.invokevirtual 221, 3) := dk_182 0 221 (dk_at dksX3_knight_0 14 rfl rfl)
theorem dX3_knight_17 : decode cX3_knight 17 = .ok (.ifCond .eq 12, 3) := dk_153 0 12 (dk_at dksX3_knight_0 17 rfl rfl)
theorem dX3_knight_20 : decode cX3_knight 20 = .ok (.aload_n 0, 1) := dk_42 (dk_at dksX3_knight_0 20 rfl rfl)
theorem dX3_knight_21 : decode cX3_knight 21 = .ok (.iload_n 1, 1) := dk_27 (dk_at dksX3_knight_0 21 rfl rfl)
theorem dX3_knight_22 : decode cX3_knight 22 = .ok (.iload_n 2, 1) := dk_28 (dk_at dksX3_knight_0 22 rfl rfl)
theorem dX3_knight_23 : decode cX3_knight 23 = .ok (.invokevirtual 194, 3) := dk_182 0 194 (dk_at dksX3_knight_1 0 rfl rfl)
theorem dX3_knight_26 : decode cX3_knight 26 = .ok (.ifCond .ne 9, 3) := dk_154 0 9 (dk_at dksX3_knight_1 3 rfl rfl)
theorem dX3_knight_29 : decode cX3_knight 29 = .ok (.aload_n 0, 1) := dk_42 (dk_at dksX3_knight_1 6 rfl rfl)
theorem dX3_knight_30 : decode cX3_knight 30 = .ok (.iconst 3, 1) := dk_6 (dk_at dksX3_knight_1 7 rfl rfl)
theorem dX3_knight_31 : decode cX3_knight 31 = .ok (.invokevirtual 149, 3) := dk_182 0 149 (dk_at dksX3_knight_1 8 rfl rfl)
theorem dX3_knight_34 : decode cX3_knight 34 = .ok (.ireturn, 1) := dk_172 (dk_at dksX3_knight_1 11 rfl rfl)
theorem dX3_knight_35 : decode cX3_knight 35 = .ok (.aload_n 0, 1) := dk_42 (dk_at dksX3_knight_1 12 rfl rfl)
theorem dX3_knight_36 : decode cX3_knight 36 = .ok (.iconst 0, 1) := dk_3 (dk_at dksX3_knight_1 13 rfl rfl)
theorem dX3_knight_37 : decode cX3_knight 37 = .ok (.invokevirtual 224, 3) := dk_182 0 224 (dk_at dksX3_knight_1 14 rfl rfl)
theorem dX3_knight_40 : decode cX3_knight 40 = .ok (.aload_n 0, 1) := dk_42 (dk_at dksX3_knight_1 17 rfl rfl)
theorem dX3_knight_41 : decode cX3_knight 41 = .ok (.getfield 34, 3) := dk_180 0 34 (dk_at dksX3_knight_1 18 rfl rfl)
theorem dX3_knight_44 : decode cX3_knight 44 = .ok (.aload_n 0, 1) := dk_42 (dk_at dksX3_knight_1 21 rfl rfl)
theorem dX3_knight_45 : decode cX3_knight 45 = .ok (.getfield 118, 3) := dk_180 0 118 (dk_at dksX3_knight_2 0 rfl rfl)
theorem dX3_knight_48 : decode cX3_knight 48 = .ok (.dup2, 1) := dk_92 (dk_at dksX3_knight_2 3 rfl rfl)
theorem dX3_knight_49 : decode cX3_knight 49 = .ok (.iaload, 1) := dk_46 (dk_at dksX3_knight_2 4 rfl rfl)
theorem dX3_knight_50 : decode cX3_knight 50 = .ok (.iconst 1, 1) := dk_4 (dk_at dksX3_knight_2 5 rfl rfl)
theorem dX3_knight_51 : decode cX3_knight 51 = .ok (.iadd, 1) := dk_96 (dk_at dksX3_knight_2 6 rfl rfl)
theorem dX3_knight_52 : decode cX3_knight 52 = .ok (.iastore, 1) := dk_79 (dk_at dksX3_knight_2 7 rfl rfl)
theorem dX3_knight_53 : decode cX3_knight 53 = .ok (.aload_n 0, 1) := dk_42 (dk_at dksX3_knight_2 8 rfl rfl)
theorem dX3_knight_54 : decode cX3_knight 54 = .ok (.getfield 34, 3) := dk_180 0 34 (dk_at dksX3_knight_2 9 rfl rfl)
theorem dX3_knight_57 : decode cX3_knight 57 = .ok (.aload_n 0, 1) := dk_42 (dk_at dksX3_knight_2 12 rfl rfl)
theorem dX3_knight_58 : decode cX3_knight 58 = .ok (.getfield 118, 3) := dk_180 0 118 (dk_at dksX3_knight_2 13 rfl rfl)
theorem dX3_knight_61 : decode cX3_knight 61 = .ok (.iaload, 1) := dk_46 (dk_at dksX3_knight_2 16 rfl rfl)
theorem dX3_knight_62 : decode cX3_knight 62 = .ok (.iconst 3, 1) := dk_6 (dk_at dksX3_knight_2 17 rfl rfl)
theorem dX3_knight_63 : decode cX3_knight 63 = .ok (.if_icmp .lt 36, 3) := dk_161 0 36 (dk_at dksX3_knight_2 18 rfl rfl)
theorem dX3_knight_66 : decode cX3_knight 66 = .ok (.aload_n 0, 1) := dk_42 (dk_at dksX3_knight_2 21 rfl rfl)
theorem dX3_knight_67 : decode cX3_knight 67 = .ok (.getfield 37, 3) := dk_180 0 37 (dk_at dksX3_knight_3 0 rfl rfl)
theorem dX3_knight_70 : decode cX3_knight 70 = .ok (.iconst (-1), 1) := dk_2 (dk_at dksX3_knight_3 3 rfl rfl)
theorem dX3_knight_71 : decode cX3_knight 71 = .ok (.if_icmp .eq 24, 3) := dk_159 0 24 (dk_at dksX3_knight_3 4 rfl rfl)
theorem dX3_knight_74 : decode cX3_knight 74 = .ok (.aload_n 0, 1) := dk_42 (dk_at dksX3_knight_3 7 rfl rfl)
theorem dX3_knight_75 : decode cX3_knight 75 = .ok (.getfield 34, 3) := dk_180 0 34 (dk_at dksX3_knight_3 8 rfl rfl)
theorem dX3_knight_78 : decode cX3_knight 78 = .ok (.aload_n 0, 1) := dk_42 (dk_at dksX3_knight_3 11 rfl rfl)
theorem dX3_knight_79 : decode cX3_knight 79 = .ok (.getfield 118, 3) := dk_180 0 118 (dk_at dksX3_knight_3 12 rfl rfl)
theorem dX3_knight_82 : decode cX3_knight 82 = .ok (.iaload, 1) := dk_46 (dk_at dksX3_knight_3 15 rfl rfl)
theorem dX3_knight_83 : decode cX3_knight 83 = .ok (.aload_n 0, 1) := dk_42 (dk_at dksX3_knight_3 16 rfl rfl)
theorem dX3_knight_84 : decode cX3_knight 84 = .ok (.getfield 34, 3) := dk_180 0 34 (dk_at dksX3_knight_3 17 rfl rfl)
theorem dX3_knight_87 : decode cX3_knight 87 = .ok (.aload_n 0, 1) := dk_42 (dk_at dksX3_knight_3 20 rfl rfl)
theorem dX3_knight_88 : decode cX3_knight 88 = .ok (.getfield 37, 3) := dk_180 0 37 (dk_at dksX3_knight_3 21 rfl rfl)
theorem dX3_knight_91 : decode cX3_knight 91 = .ok (.iaload, 1) := dk_46 (dk_at dksX3_knight_4 0 rfl rfl)
theorem dX3_knight_92 : decode cX3_knight 92 = .ok (.if_icmp .le 7, 3) := dk_164 0 7 (dk_at dksX3_knight_4 1 rfl rfl)
theorem dX3_knight_95 : decode cX3_knight 95 = .ok (.iconst 1, 1) := dk_4 (dk_at dksX3_knight_4 4 rfl rfl)
theorem dX3_knight_96 : decode cX3_knight 96 = .ok (.goto 4, 3) := dk_167 0 4 (dk_at dksX3_knight_4 5 rfl rfl)
theorem dX3_knight_99 : decode cX3_knight 99 = .ok (.iconst 0, 1) := dk_3 (dk_at dksX3_knight_4 8 rfl rfl)
theorem dX3_knight_100 : decode cX3_knight 100 = .ok (.istore 4, 2) := dk_54 4 (dk_at dksX3_knight_4 9 rfl rfl)
theorem dX3_knight_102 : decode cX3_knight 102 = .ok (.aload_n 0, 1) := dk_42 (dk_at dksX3_knight_4 11 rfl rfl)
theorem dX3_knight_103 : decode cX3_knight 103 = .ok (.iload 4, 2) := dk_21 4 (dk_at dksX3_knight_4 12 rfl rfl)
theorem dX3_knight_105 : decode cX3_knight 105 = .ok (.ifCond .eq 10, 3) := dk_153 0 10 (dk_at dksX3_knight_4 14 rfl rfl)
theorem dX3_knight_108 : decode cX3_knight 108 = .ok (.aload_n 0, 1) := dk_42 (dk_at dksX3_knight_4 17 rfl rfl)
theorem dX3_knight_109 : decode cX3_knight 109 = .ok (.getfield 118, 3) := dk_180 0 118 (dk_at dksX3_knight_4 18 rfl rfl)
theorem dX3_knight_112 : decode cX3_knight 112 = .ok (.goto 7, 3) := dk_167 0 7 (dk_at dksX3_knight_4 21 rfl rfl)
theorem dX3_knight_115 : decode cX3_knight 115 = .ok (.aload_n 0, 1) := dk_42 (dk_at dksX3_knight_5 0 rfl rfl)
theorem dX3_knight_116 : decode cX3_knight 116 = .ok (.getfield 37, 3) := dk_180 0 37 (dk_at dksX3_knight_5 1 rfl rfl)
theorem dX3_knight_119 : decode cX3_knight 119 = .ok (.putfield 37, 3) := dk_181 0 37 (dk_at dksX3_knight_5 4 rfl rfl)
theorem dX3_knight_122 : decode cX3_knight 122 = .ok (.aload_n 0, 1) := dk_42 (dk_at dksX3_knight_5 7 rfl rfl)
theorem dX3_knight_123 : decode cX3_knight 123 = .ok (.iload_n 1, 1) := dk_27 (dk_at dksX3_knight_5 8 rfl rfl)
theorem dX3_knight_124 : decode cX3_knight 124 = .ok (.iload_n 2, 1) := dk_28 (dk_at dksX3_knight_5 9 rfl rfl)
theorem dX3_knight_125 : decode cX3_knight 125 = .ok (.iload_n 3, 1) := dk_29 (dk_at dksX3_knight_5 10 rfl rfl)
theorem dX3_knight_126 : decode cX3_knight 126 = .ok (.invokevirtual 197, 3) := dk_182 0 197 (dk_at dksX3_knight_5 11 rfl rfl)
theorem dX3_knight_129 : decode cX3_knight 129 = .ok (.istore 5, 2) := dk_54 5 (dk_at dksX3_knight_5 14 rfl rfl)
theorem dX3_knight_131 : decode cX3_knight 131 = .ok (.aload_n 0, 1) := dk_42 (dk_at dksX3_knight_5 16 rfl rfl)
theorem dX3_knight_132 : decode cX3_knight 132 = .ok (.invokevirtual 209, 3) := dk_182 0 209 (dk_at dksX3_knight_5 17 rfl rfl)
theorem dX3_knight_135 : decode cX3_knight 135 = .ok (.iload 5, 2) := dk_21 5 (dk_at dksX3_knight_5 20 rfl rfl)
theorem dX3_knight_137 : decode cX3_knight 137 = .ok (.ireturn, 1) := dk_172 (dk_at dksX3_knight_5 22 rfl rfl)
abbrev cX3_mayUse : ByteArray := prog_12_method_56_code
def yX3_mayUse : MethodName := ⟨RX3, "mayUse", "(I)Z"⟩
def dkwX3_mayUse_2 : List UInt8 := [167, 0, 4, 3, 172]
abbrev dktX3_mayUse_2 : List UInt8 := dkwX3_mayUse_2 ++ []
def dkwX3_mayUse_1 : List UInt8 := [180, 0, 28, 8, 42, 180, 0, 118, 104, 27, 96, 46, 42, 180, 0, 31, 27, 46, 164, 0, 7, 4]
abbrev dktX3_mayUse_1 : List UInt8 := dkwX3_mayUse_1 ++ dktX3_mayUse_2
def dkwX3_mayUse_0 : List UInt8 := [42, 180, 0, 115, 4, 159, 0, 11, 42, 180, 0, 115, 5, 160, 0, 36, 42, 180, 0, 218, 154, 0, 29, 42]
abbrev dktX3_mayUse_0 : List UInt8 := dkwX3_mayUse_0 ++ dktX3_mayUse_1
theorem dksX3_mayUse_0 : cX3_mayUse.data.toList.drop 0 = dktX3_mayUse_0 := by decide +kernel
theorem dksX3_mayUse_1 : cX3_mayUse.data.toList.drop 24 = dktX3_mayUse_1 := dk_seg dksX3_mayUse_0 24 rfl rfl
theorem dksX3_mayUse_2 : cX3_mayUse.data.toList.drop 46 = dktX3_mayUse_2 := dk_seg dksX3_mayUse_1 22 rfl rfl
theorem dX3_mayUse_0 : decode cX3_mayUse 0 = .ok (.aload_n 0, 1) := dk_42 (dk_at dksX3_mayUse_0 0 rfl rfl)
theorem dX3_mayUse_1 : decode cX3_mayUse 1 = .ok (.getfield 115, 3) := dk_180 0 115 (dk_at dksX3_mayUse_0 1 rfl rfl)
theorem dX3_mayUse_4 : decode cX3_mayUse 4 = .ok (.iconst 1, 1) := dk_4 (dk_at dksX3_mayUse_0 4 rfl rfl)
theorem dX3_mayUse_5 : decode cX3_mayUse 5 = .ok (.if_icmp .eq 11, 3) := dk_159 0 11 (dk_at dksX3_mayUse_0 5 rfl rfl)
theorem dX3_mayUse_8 : decode cX3_mayUse 8 = .ok (.aload_n 0, 1) := dk_42 (dk_at dksX3_mayUse_0 8 rfl rfl)
theorem dX3_mayUse_9 : decode cX3_mayUse 9 = .ok (.getfield 115, 3) := dk_180 0 115 (dk_at dksX3_mayUse_0 9 rfl rfl)
theorem dX3_mayUse_12 : decode cX3_mayUse 12 = .ok (.iconst 2, 1) := dk_5 (dk_at dksX3_mayUse_0 12 rfl rfl)
theorem dX3_mayUse_13 : decode cX3_mayUse 13 = .ok (.if_icmp .ne 36, 3) := dk_160 0 36 (dk_at dksX3_mayUse_0 13 rfl rfl)
theorem dX3_mayUse_16 : decode cX3_mayUse 16 = .ok (.aload_n 0, 1) := dk_42 (dk_at dksX3_mayUse_0 16 rfl rfl)
theorem dX3_mayUse_17 : decode cX3_mayUse 17 = .ok (.getfield 218, 3) := dk_180 0 218 (dk_at dksX3_mayUse_0 17 rfl rfl)
theorem dX3_mayUse_20 : decode cX3_mayUse 20 = .ok (.ifCond .ne 29, 3) := dk_154 0 29 (dk_at dksX3_mayUse_0 20 rfl rfl)
theorem dX3_mayUse_23 : decode cX3_mayUse 23 = .ok (.aload_n 0, 1) := dk_42 (dk_at dksX3_mayUse_0 23 rfl rfl)
theorem dX3_mayUse_24 : decode cX3_mayUse 24 = .ok (.getfield 28, 3) := dk_180 0 28 (dk_at dksX3_mayUse_1 0 rfl rfl)
theorem dX3_mayUse_27 : decode cX3_mayUse 27 = .ok (.iconst 5, 1) := dk_8 (dk_at dksX3_mayUse_1 3 rfl rfl)
theorem dX3_mayUse_28 : decode cX3_mayUse 28 = .ok (.aload_n 0, 1) := dk_42 (dk_at dksX3_mayUse_1 4 rfl rfl)
theorem dX3_mayUse_29 : decode cX3_mayUse 29 = .ok (.getfield 118, 3) := dk_180 0 118 (dk_at dksX3_mayUse_1 5 rfl rfl)
theorem dX3_mayUse_32 : decode cX3_mayUse 32 = .ok (.imul, 1) := dk_104 (dk_at dksX3_mayUse_1 8 rfl rfl)
theorem dX3_mayUse_33 : decode cX3_mayUse 33 = .ok (.iload_n 1, 1) := dk_27 (dk_at dksX3_mayUse_1 9 rfl rfl)
theorem dX3_mayUse_34 : decode cX3_mayUse 34 = .ok (.iadd, 1) := dk_96 (dk_at dksX3_mayUse_1 10 rfl rfl)
theorem dX3_mayUse_35 : decode cX3_mayUse 35 = .ok (.iaload, 1) := dk_46 (dk_at dksX3_mayUse_1 11 rfl rfl)
theorem dX3_mayUse_36 : decode cX3_mayUse 36 = .ok (.aload_n 0, 1) := dk_42 (dk_at dksX3_mayUse_1 12 rfl rfl)
theorem dX3_mayUse_37 : decode cX3_mayUse 37 = .ok (.getfield 31, 3) := dk_180 0 31 (dk_at dksX3_mayUse_1 13 rfl rfl)
theorem dX3_mayUse_40 : decode cX3_mayUse 40 = .ok (.iload_n 1, 1) := dk_27 (dk_at dksX3_mayUse_1 16 rfl rfl)
theorem dX3_mayUse_41 : decode cX3_mayUse 41 = .ok (.iaload, 1) := dk_46 (dk_at dksX3_mayUse_1 17 rfl rfl)
theorem dX3_mayUse_42 : decode cX3_mayUse 42 = .ok (.if_icmp .le 7, 3) := dk_164 0 7 (dk_at dksX3_mayUse_1 18 rfl rfl)
theorem dX3_mayUse_45 : decode cX3_mayUse 45 = .ok (.iconst 1, 1) := dk_4 (dk_at dksX3_mayUse_1 21 rfl rfl)
theorem dX3_mayUse_46 : decode cX3_mayUse 46 = .ok (.goto 4, 3) := dk_167 0 4 (dk_at dksX3_mayUse_2 0 rfl rfl)
theorem dX3_mayUse_49 : decode cX3_mayUse 49 = .ok (.iconst 0, 1) := dk_3 (dk_at dksX3_mayUse_2 3 rfl rfl)
theorem dX3_mayUse_50 : decode cX3_mayUse 50 = .ok (.ireturn, 1) := dk_172 (dk_at dksX3_mayUse_2 4 rfl rfl)
abbrev cX3_uses : ByteArray := prog_12_method_57_code
def yX3_uses : MethodName := ⟨RX3, "uses", "(I)V"⟩
def dkwX3_uses_0 : List UInt8 := [42, 4, 181, 0, 218, 42, 180, 0, 28, 8, 42, 180, 0, 118, 104, 27, 96, 92, 46, 4, 100, 79, 177]
abbrev dktX3_uses_0 : List UInt8 := dkwX3_uses_0 ++ []
theorem dksX3_uses_0 : cX3_uses.data.toList.drop 0 = dktX3_uses_0 := by decide +kernel
theorem dX3_uses_0 : decode cX3_uses 0 = .ok (.aload_n 0, 1) := dk_42 (dk_at dksX3_uses_0 0 rfl rfl)
theorem dX3_uses_1 : decode cX3_uses 1 = .ok (.iconst 1, 1) := dk_4 (dk_at dksX3_uses_0 1 rfl rfl)
theorem dX3_uses_2 : decode cX3_uses 2 = .ok (.putfield 218, 3) := dk_181 0 218 (dk_at dksX3_uses_0 2 rfl rfl)
theorem dX3_uses_5 : decode cX3_uses 5 = .ok (.aload_n 0, 1) := dk_42 (dk_at dksX3_uses_0 5 rfl rfl)
theorem dX3_uses_6 : decode cX3_uses 6 = .ok (.getfield 28, 3) := dk_180 0 28 (dk_at dksX3_uses_0 6 rfl rfl)
theorem dX3_uses_9 : decode cX3_uses 9 = .ok (.iconst 5, 1) := dk_8 (dk_at dksX3_uses_0 9 rfl rfl)
theorem dX3_uses_10 : decode cX3_uses 10 = .ok (.aload_n 0, 1) := dk_42 (dk_at dksX3_uses_0 10 rfl rfl)
theorem dX3_uses_11 : decode cX3_uses 11 = .ok (.getfield 118, 3) := dk_180 0 118 (dk_at dksX3_uses_0 11 rfl rfl)
theorem dX3_uses_14 : decode cX3_uses 14 = .ok (.imul, 1) := dk_104 (dk_at dksX3_uses_0 14 rfl rfl)
theorem dX3_uses_15 : decode cX3_uses 15 = .ok (.iload_n 1, 1) := dk_27 (dk_at dksX3_uses_0 15 rfl rfl)
theorem dX3_uses_16 : decode cX3_uses 16 = .ok (.iadd, 1) := dk_96 (dk_at dksX3_uses_0 16 rfl rfl)
theorem dX3_uses_17 : decode cX3_uses 17 = .ok (.dup2, 1) := dk_92 (dk_at dksX3_uses_0 17 rfl rfl)
theorem dX3_uses_18 : decode cX3_uses 18 = .ok (.iaload, 1) := dk_46 (dk_at dksX3_uses_0 18 rfl rfl)
theorem dX3_uses_19 : decode cX3_uses 19 = .ok (.iconst 1, 1) := dk_4 (dk_at dksX3_uses_0 19 rfl rfl)
theorem dX3_uses_20 : decode cX3_uses 20 = .ok (.isub, 1) := dk_100 (dk_at dksX3_uses_0 20 rfl rfl)
theorem dX3_uses_21 : decode cX3_uses 21 = .ok (.iastore, 1) := dk_79 (dk_at dksX3_uses_0 21 rfl rfl)
theorem dX3_uses_22 : decode cX3_uses 22 = .ok (.return_, 1) := dk_177 (dk_at dksX3_uses_0 22 rfl rfl)
abbrev cX3_roads : ByteArray := prog_12_method_59_code
def yX3_roads : MethodName := ⟨RX3, "roads", "(II)I"⟩
def dkwX3_roads_6 : List UInt8 := [182, 0, 104, 172]
abbrev dktX3_roads_6 : List UInt8 := dkwX3_roads_6 ++ []
def dkwX3_roads_5 : List UInt8 := [182, 0, 206, 28, 2, 159, 0, 8, 42, 28, 182, 0, 206, 42, 182, 0, 209, 42, 42, 180, 0, 118]
abbrev dktX3_roads_5 : List UInt8 := dkwX3_roads_5 ++ dktX3_roads_6
def dkwX3_roads_4 : List UInt8 := [180, 0, 16, 27, 3, 79, 29, 154, 0, 9, 42, 5, 182, 0, 149, 172, 42, 4, 182, 0, 224, 42, 27]
abbrev dktX3_roads_4 : List UInt8 := dkwX3_roads_4 ++ dktX3_roads_5
def dkwX3_roads_3 : List UInt8 := [180, 0, 16, 27, 42, 180, 0, 118, 4, 96, 79, 42, 42, 180, 0, 118, 28, 182, 0, 200, 62, 42]
abbrev dktX3_roads_3 : List UInt8 := dkwX3_roads_3 ++ dktX3_roads_4
def dkwX3_roads_2 : List UInt8 := [182, 0, 200, 153, 0, 7, 4, 167, 0, 4, 3, 62, 29, 153, 0, 37, 28, 2, 159, 0, 32, 42]
abbrev dktX3_roads_2 : List UInt8 := dkwX3_roads_2 ++ dktX3_roads_3
def dkwX3_roads_1 : List UInt8 := [3, 182, 0, 127, 154, 0, 5, 3, 172, 42, 4, 182, 0, 221, 153, 0, 19, 42, 42, 180, 0, 118, 27]
abbrev dktX3_roads_1 : List UInt8 := dkwX3_roads_1 ++ dktX3_roads_2
def dkwX3_roads_0 : List UInt8 := [42, 27, 184, 0, 143, 153, 0, 19, 28, 2, 159, 0, 10, 28, 184, 0, 143, 153, 0, 7, 4, 167, 0, 4]
abbrev dktX3_roads_0 : List UInt8 := dkwX3_roads_0 ++ dktX3_roads_1
theorem dksX3_roads_0 : cX3_roads.data.toList.drop 0 = dktX3_roads_0 := by decide +kernel
theorem dksX3_roads_1 : cX3_roads.data.toList.drop 24 = dktX3_roads_1 := dk_seg dksX3_roads_0 24 rfl rfl
theorem dksX3_roads_2 : cX3_roads.data.toList.drop 47 = dktX3_roads_2 := dk_seg dksX3_roads_1 23 rfl rfl
theorem dksX3_roads_3 : cX3_roads.data.toList.drop 69 = dktX3_roads_3 := dk_seg dksX3_roads_2 22 rfl rfl
theorem dksX3_roads_4 : cX3_roads.data.toList.drop 91 = dktX3_roads_4 := dk_seg dksX3_roads_3 22 rfl rfl
theorem dksX3_roads_5 : cX3_roads.data.toList.drop 114 = dktX3_roads_5 := dk_seg dksX3_roads_4 23 rfl rfl
theorem dksX3_roads_6 : cX3_roads.data.toList.drop 136 = dktX3_roads_6 := dk_seg dksX3_roads_5 22 rfl rfl
theorem dX3_roads_0 : decode cX3_roads 0 = .ok (.aload_n 0, 1) := dk_42 (dk_at dksX3_roads_0 0 rfl rfl)
theorem dX3_roads_1 : decode cX3_roads 1 = .ok (.iload_n 1, 1) := dk_27 (dk_at dksX3_roads_0 1 rfl rfl)
theorem dX3_roads_2 : decode cX3_roads 2 = .ok (.invokestatic 143, 3) := dk_184 0 143 (dk_at dksX3_roads_0 2 rfl rfl)
theorem dX3_roads_5 : decode cX3_roads 5 = .ok (.ifCond .eq 19, 3) := dk_153 0 19 (dk_at dksX3_roads_0 5 rfl rfl)
theorem dX3_roads_8 : decode cX3_roads 8 = .ok (.iload_n 2, 1) := dk_28 (dk_at dksX3_roads_0 8 rfl rfl)
theorem dX3_roads_9 : decode cX3_roads 9 = .ok (.iconst (-1), 1) := dk_2 (dk_at dksX3_roads_0 9 rfl rfl)
theorem dX3_roads_10 : decode cX3_roads 10 = .ok (.if_icmp .eq 10, 3) := dk_159 0 10 (dk_at dksX3_roads_0 10 rfl rfl)
theorem dX3_roads_13 : decode cX3_roads 13 = .ok (.iload_n 2, 1) := dk_28 (dk_at dksX3_roads_0 13 rfl rfl)
theorem dX3_roads_14 : decode cX3_roads 14 = .ok (.invokestatic 143, 3) := dk_184 0 143 (dk_at dksX3_roads_0 14 rfl rfl)
theorem dX3_roads_17 : decode cX3_roads 17 = .ok (.ifCond .eq 7, 3) := dk_153 0 7 (dk_at dksX3_roads_0 17 rfl rfl)
theorem dX3_roads_20 : decode cX3_roads 20 = .ok (.iconst 1, 1) := dk_4 (dk_at dksX3_roads_0 20 rfl rfl)
theorem dX3_roads_21 : decode cX3_roads 21 = .ok (.goto 4, 3) := dk_167 0 4 (dk_at dksX3_roads_0 21 rfl rfl)
theorem dX3_roads_24 : decode cX3_roads 24 = .ok (.iconst 0, 1) := dk_3 (dk_at dksX3_roads_1 0 rfl rfl)
theorem dX3_roads_25 : decode cX3_roads 25 = .ok (.invokevirtual 127, 3) := dk_182 0 127 (dk_at dksX3_roads_1 1 rfl rfl)
theorem dX3_roads_28 : decode cX3_roads 28 = .ok (.ifCond .ne 5, 3) := dk_154 0 5 (dk_at dksX3_roads_1 4 rfl rfl)
theorem dX3_roads_31 : decode cX3_roads 31 = .ok (.iconst 0, 1) := dk_3 (dk_at dksX3_roads_1 7 rfl rfl)
theorem dX3_roads_32 : decode cX3_roads 32 = .ok (.ireturn, 1) := dk_172 (dk_at dksX3_roads_1 8 rfl rfl)
theorem dX3_roads_33 : decode cX3_roads 33 = .ok (.aload_n 0, 1) := dk_42 (dk_at dksX3_roads_1 9 rfl rfl)
theorem dX3_roads_34 : decode cX3_roads 34 = .ok (.iconst 1, 1) := dk_4 (dk_at dksX3_roads_1 10 rfl rfl)
theorem dX3_roads_35 : decode cX3_roads 35 = .ok (.invokevirtual 221, 3) := dk_182 0 221 (dk_at dksX3_roads_1 11 rfl rfl)
theorem dX3_roads_38 : decode cX3_roads 38 = .ok (.ifCond .eq 19, 3) := dk_153 0 19 (dk_at dksX3_roads_1 14 rfl rfl)
theorem dX3_roads_41 : decode cX3_roads 41 = .ok (.aload_n 0, 1) := dk_42 (dk_at dksX3_roads_1 17 rfl rfl)
theorem dX3_roads_42 : decode cX3_roads 42 = .ok (.aload_n 0, 1) := dk_42 (dk_at dksX3_roads_1 18 rfl rfl)
theorem dX3_roads_43 : decode cX3_roads 43 = .ok (.getfield 118, 3) := dk_180 0 118 (dk_at dksX3_roads_1 19 rfl rfl)
theorem dX3_roads_46 : decode cX3_roads 46 = .ok (.iload_n 1, 1) := dk_27 (dk_at dksX3_roads_1 22 rfl rfl)
theorem dX3_roads_47 : decode cX3_roads 47 = .ok (.invokevirtual 200, 3) := dk_182 0 200 (dk_at dksX3_roads_2 0 rfl rfl)
theorem dX3_roads_50 : decode cX3_roads 50 = .ok (.ifCond .eq 7, 3) := dk_153 0 7 (dk_at dksX3_roads_2 3 rfl rfl)
theorem dX3_roads_53 : decode cX3_roads 53 = .ok (.iconst 1, 1) := dk_4 (dk_at dksX3_roads_2 6 rfl rfl)
theorem dX3_roads_54 : decode cX3_roads 54 = .ok (.goto 4, 3) := dk_167 0 4 (dk_at dksX3_roads_2 7 rfl rfl)
theorem dX3_roads_57 : decode cX3_roads 57 = .ok (.iconst 0, 1) := dk_3 (dk_at dksX3_roads_2 10 rfl rfl)
theorem dX3_roads_58 : decode cX3_roads 58 = .ok (.istore_n 3, 1) := dk_62 (dk_at dksX3_roads_2 11 rfl rfl)
theorem dX3_roads_59 : decode cX3_roads 59 = .ok (.iload_n 3, 1) := dk_29 (dk_at dksX3_roads_2 12 rfl rfl)
theorem dX3_roads_60 : decode cX3_roads 60 = .ok (.ifCond .eq 37, 3) := dk_153 0 37 (dk_at dksX3_roads_2 13 rfl rfl)
theorem dX3_roads_63 : decode cX3_roads 63 = .ok (.iload_n 2, 1) := dk_28 (dk_at dksX3_roads_2 16 rfl rfl)
theorem dX3_roads_64 : decode cX3_roads 64 = .ok (.iconst (-1), 1) := dk_2 (dk_at dksX3_roads_2 17 rfl rfl)
theorem dX3_roads_65 : decode cX3_roads 65 = .ok (.if_icmp .eq 32, 3) := dk_159 0 32 (dk_at dksX3_roads_2 18 rfl rfl)
theorem dX3_roads_68 : decode cX3_roads 68 = .ok (.aload_n 0, 1) := dk_42 (dk_at dksX3_roads_2 21 rfl rfl)
theorem dX3_roads_69 : decode cX3_roads 69 = .ok (.getfield 16, 3) := dk_180 0 16 (dk_at dksX3_roads_3 0 rfl rfl)
theorem dX3_roads_72 : decode cX3_roads 72 = .ok (.iload_n 1, 1) := dk_27 (dk_at dksX3_roads_3 3 rfl rfl)
theorem dX3_roads_73 : decode cX3_roads 73 = .ok (.aload_n 0, 1) := dk_42 (dk_at dksX3_roads_3 4 rfl rfl)
theorem dX3_roads_74 : decode cX3_roads 74 = .ok (.getfield 118, 3) := dk_180 0 118 (dk_at dksX3_roads_3 5 rfl rfl)
theorem dX3_roads_77 : decode cX3_roads 77 = .ok (.iconst 1, 1) := dk_4 (dk_at dksX3_roads_3 8 rfl rfl)
theorem dX3_roads_78 : decode cX3_roads 78 = .ok (.iadd, 1) := dk_96 (dk_at dksX3_roads_3 9 rfl rfl)
theorem dX3_roads_79 : decode cX3_roads 79 = .ok (.iastore, 1) := dk_79 (dk_at dksX3_roads_3 10 rfl rfl)
theorem dX3_roads_80 : decode cX3_roads 80 = .ok (.aload_n 0, 1) := dk_42 (dk_at dksX3_roads_3 11 rfl rfl)
theorem dX3_roads_81 : decode cX3_roads 81 = .ok (.aload_n 0, 1) := dk_42 (dk_at dksX3_roads_3 12 rfl rfl)
theorem dX3_roads_82 : decode cX3_roads 82 = .ok (.getfield 118, 3) := dk_180 0 118 (dk_at dksX3_roads_3 13 rfl rfl)
theorem dX3_roads_85 : decode cX3_roads 85 = .ok (.iload_n 2, 1) := dk_28 (dk_at dksX3_roads_3 16 rfl rfl)
theorem dX3_roads_86 : decode cX3_roads 86 = .ok (.invokevirtual 200, 3) := dk_182 0 200 (dk_at dksX3_roads_3 17 rfl rfl)
theorem dX3_roads_89 : decode cX3_roads 89 = .ok (.istore_n 3, 1) := dk_62 (dk_at dksX3_roads_3 20 rfl rfl)
theorem dX3_roads_90 : decode cX3_roads 90 = .ok (.aload_n 0, 1) := dk_42 (dk_at dksX3_roads_3 21 rfl rfl)
theorem dX3_roads_91 : decode cX3_roads 91 = .ok (.getfield 16, 3) := dk_180 0 16 (dk_at dksX3_roads_4 0 rfl rfl)
theorem dX3_roads_94 : decode cX3_roads 94 = .ok (.iload_n 1, 1) := dk_27 (dk_at dksX3_roads_4 3 rfl rfl)
theorem dX3_roads_95 : decode cX3_roads 95 = .ok (.iconst 0, 1) := dk_3 (dk_at dksX3_roads_4 4 rfl rfl)
theorem dX3_roads_96 : decode cX3_roads 96 = .ok (.iastore, 1) := dk_79 (dk_at dksX3_roads_4 5 rfl rfl)
theorem dX3_roads_97 : decode cX3_roads 97 = .ok (.iload_n 3, 1) := dk_29 (dk_at dksX3_roads_4 6 rfl rfl)
theorem dX3_roads_98 : decode cX3_roads 98 = .ok (.ifCond .ne 9, 3) := dk_154 0 9 (dk_at dksX3_roads_4 7 rfl rfl)
theorem dX3_roads_101 : decode cX3_roads 101 = .ok (.aload_n 0, 1) := dk_42 (dk_at dksX3_roads_4 10 rfl rfl)
theorem dX3_roads_102 : decode cX3_roads 102 = .ok (.iconst 2, 1) := dk_5 (dk_at dksX3_roads_4 11 rfl rfl)
theorem dX3_roads_103 : decode cX3_roads 103 = .ok (.invokevirtual 149, 3) := dk_182 0 149 (dk_at dksX3_roads_4 12 rfl rfl)
theorem dX3_roads_106 : decode cX3_roads 106 = .ok (.ireturn, 1) := dk_172 (dk_at dksX3_roads_4 15 rfl rfl)
theorem dX3_roads_107 : decode cX3_roads 107 = .ok (.aload_n 0, 1) := dk_42 (dk_at dksX3_roads_4 16 rfl rfl)
theorem dX3_roads_108 : decode cX3_roads 108 = .ok (.iconst 1, 1) := dk_4 (dk_at dksX3_roads_4 17 rfl rfl)
theorem dX3_roads_109 : decode cX3_roads 109 = .ok (.invokevirtual 224, 3) := dk_182 0 224 (dk_at dksX3_roads_4 18 rfl rfl)
theorem dX3_roads_112 : decode cX3_roads 112 = .ok (.aload_n 0, 1) := dk_42 (dk_at dksX3_roads_4 21 rfl rfl)
theorem dX3_roads_113 : decode cX3_roads 113 = .ok (.iload_n 1, 1) := dk_27 (dk_at dksX3_roads_4 22 rfl rfl)
theorem dX3_roads_114 : decode cX3_roads 114 = .ok (.invokevirtual 206, 3) := dk_182 0 206 (dk_at dksX3_roads_5 0 rfl rfl)
theorem dX3_roads_117 : decode cX3_roads 117 = .ok (.iload_n 2, 1) := dk_28 (dk_at dksX3_roads_5 3 rfl rfl)
theorem dX3_roads_118 : decode cX3_roads 118 = .ok (.iconst (-1), 1) := dk_2 (dk_at dksX3_roads_5 4 rfl rfl)
theorem dX3_roads_119 : decode cX3_roads 119 = .ok (.if_icmp .eq 8, 3) := dk_159 0 8 (dk_at dksX3_roads_5 5 rfl rfl)
theorem dX3_roads_122 : decode cX3_roads 122 = .ok (.aload_n 0, 1) := dk_42 (dk_at dksX3_roads_5 8 rfl rfl)
theorem dX3_roads_123 : decode cX3_roads 123 = .ok (.iload_n 2, 1) := dk_28 (dk_at dksX3_roads_5 9 rfl rfl)
theorem dX3_roads_124 : decode cX3_roads 124 = .ok (.invokevirtual 206, 3) := dk_182 0 206 (dk_at dksX3_roads_5 10 rfl rfl)
theorem dX3_roads_127 : decode cX3_roads 127 = .ok (.aload_n 0, 1) := dk_42 (dk_at dksX3_roads_5 13 rfl rfl)
theorem dX3_roads_128 : decode cX3_roads 128 = .ok (.invokevirtual 209, 3) := dk_182 0 209 (dk_at dksX3_roads_5 14 rfl rfl)
theorem dX3_roads_131 : decode cX3_roads 131 = .ok (.aload_n 0, 1) := dk_42 (dk_at dksX3_roads_5 17 rfl rfl)
theorem dX3_roads_132 : decode cX3_roads 132 = .ok (.aload_n 0, 1) := dk_42 (dk_at dksX3_roads_5 18 rfl rfl)
theorem dX3_roads_133 : decode cX3_roads 133 = .ok (.getfield 118, 3) := dk_180 0 118 (dk_at dksX3_roads_5 19 rfl rfl)
theorem dX3_roads_136 : decode cX3_roads 136 = .ok (.invokevirtual 104, 3) := dk_182 0 104 (dk_at dksX3_roads_6 0 rfl rfl)
theorem dX3_roads_139 : decode cX3_roads 139 = .ok (.ireturn, 1) := dk_172 (dk_at dksX3_roads_6 3 rfl rfl)
abbrev cX3_plenty : ByteArray := prog_12_method_60_code
def yX3_plenty : MethodName := ⟨RX3, "plenty", "(II)I"⟩
def dkwX3_plenty_5 : List UInt8 := [182, 0, 175, 172]
abbrev dktX3_plenty_5 : List UInt8 := dkwX3_plenty_5 ++ []
def dkwX3_plenty_4 : List UInt8 := [180, 0, 118, 27, 4, 182, 0, 230, 42, 6, 42, 180, 0, 118, 28, 4, 182, 0, 230, 42, 42, 180, 0, 118]
abbrev dktX3_plenty_4 : List UInt8 := dkwX3_plenty_4 ++ dktX3_plenty_5
def dkwX3_plenty_3 : List UInt8 := [182, 0, 221, 153, 0, 7, 29, 154, 0, 9, 42, 5, 182, 0, 149, 172, 42, 5, 182, 0, 224, 42, 6, 42]
abbrev dktX3_plenty_3 : List UInt8 := dkwX3_plenty_3 ++ dktX3_plenty_4
def dkwX3_plenty_2 : List UInt8 := [164, 0, 19, 42, 180, 0, 22, 16, 15, 28, 96, 46, 158, 0, 7, 4, 167, 0, 4, 3, 62, 42, 5]
abbrev dktX3_plenty_2 : List UInt8 := dkwX3_plenty_2 ++ dktX3_plenty_3
def dkwX3_plenty_1 : List UInt8 := [154, 0, 5, 3, 172, 42, 180, 0, 22, 16, 15, 27, 96, 46, 27, 28, 160, 0, 7, 4, 167, 0, 4, 3]
abbrev dktX3_plenty_1 : List UInt8 := dkwX3_plenty_1 ++ dktX3_plenty_2
def dkwX3_plenty_0 : List UInt8 := [42, 27, 184, 0, 227, 153, 0, 14, 28, 184, 0, 227, 153, 0, 7, 4, 167, 0, 4, 3, 182, 0, 127]
abbrev dktX3_plenty_0 : List UInt8 := dkwX3_plenty_0 ++ dktX3_plenty_1
theorem dksX3_plenty_0 : cX3_plenty.data.toList.drop 0 = dktX3_plenty_0 := by decide +kernel
theorem dksX3_plenty_1 : cX3_plenty.data.toList.drop 23 = dktX3_plenty_1 := dk_seg dksX3_plenty_0 23 rfl rfl
theorem dksX3_plenty_2 : cX3_plenty.data.toList.drop 47 = dktX3_plenty_2 := dk_seg dksX3_plenty_1 24 rfl rfl
theorem dksX3_plenty_3 : cX3_plenty.data.toList.drop 70 = dktX3_plenty_3 := dk_seg dksX3_plenty_2 23 rfl rfl
theorem dksX3_plenty_4 : cX3_plenty.data.toList.drop 94 = dktX3_plenty_4 := dk_seg dksX3_plenty_3 24 rfl rfl
theorem dksX3_plenty_5 : cX3_plenty.data.toList.drop 118 = dktX3_plenty_5 := dk_seg dksX3_plenty_4 24 rfl rfl
theorem dX3_plenty_0 : decode cX3_plenty 0 = .ok (.aload_n 0, 1) := dk_42 (dk_at dksX3_plenty_0 0 rfl rfl)
theorem dX3_plenty_1 : decode cX3_plenty 1 = .ok (.iload_n 1, 1) := dk_27 (dk_at dksX3_plenty_0 1 rfl rfl)
theorem dX3_plenty_2 : decode cX3_plenty 2 = .ok (.invokestatic 227, 3) := dk_184 0 227 (dk_at dksX3_plenty_0 2 rfl rfl)
theorem dX3_plenty_5 : decode cX3_plenty 5 = .ok (.ifCond .eq 14, 3) := dk_153 0 14 (dk_at dksX3_plenty_0 5 rfl rfl)
theorem dX3_plenty_8 : decode cX3_plenty 8 = .ok (.iload_n 2, 1) := dk_28 (dk_at dksX3_plenty_0 8 rfl rfl)
theorem dX3_plenty_9 : decode cX3_plenty 9 = .ok (.invokestatic 227, 3) := dk_184 0 227 (dk_at dksX3_plenty_0 9 rfl rfl)
theorem dX3_plenty_12 : decode cX3_plenty 12 = .ok (.ifCond .eq 7, 3) := dk_153 0 7 (dk_at dksX3_plenty_0 12 rfl rfl)
theorem dX3_plenty_15 : decode cX3_plenty 15 = .ok (.iconst 1, 1) := dk_4 (dk_at dksX3_plenty_0 15 rfl rfl)
theorem dX3_plenty_16 : decode cX3_plenty 16 = .ok (.goto 4, 3) := dk_167 0 4 (dk_at dksX3_plenty_0 16 rfl rfl)
theorem dX3_plenty_19 : decode cX3_plenty 19 = .ok (.iconst 0, 1) := dk_3 (dk_at dksX3_plenty_0 19 rfl rfl)
theorem dX3_plenty_20 : decode cX3_plenty 20 = .ok (.invokevirtual 127, 3) := dk_182 0 127 (dk_at dksX3_plenty_0 20 rfl rfl)
theorem dX3_plenty_23 : decode cX3_plenty 23 = .ok (.ifCond .ne 5, 3) := dk_154 0 5 (dk_at dksX3_plenty_1 0 rfl rfl)
theorem dX3_plenty_26 : decode cX3_plenty 26 = .ok (.iconst 0, 1) := dk_3 (dk_at dksX3_plenty_1 3 rfl rfl)
theorem dX3_plenty_27 : decode cX3_plenty 27 = .ok (.ireturn, 1) := dk_172 (dk_at dksX3_plenty_1 4 rfl rfl)
theorem dX3_plenty_28 : decode cX3_plenty 28 = .ok (.aload_n 0, 1) := dk_42 (dk_at dksX3_plenty_1 5 rfl rfl)
theorem dX3_plenty_29 : decode cX3_plenty 29 = .ok (.getfield 22, 3) := dk_180 0 22 (dk_at dksX3_plenty_1 6 rfl rfl)
theorem dX3_plenty_32 : decode cX3_plenty 32 = .ok (.bipush 15, 2) := dk_16 15 (dk_at dksX3_plenty_1 9 rfl rfl)
theorem dX3_plenty_34 : decode cX3_plenty 34 = .ok (.iload_n 1, 1) := dk_27 (dk_at dksX3_plenty_1 11 rfl rfl)
theorem dX3_plenty_35 : decode cX3_plenty 35 = .ok (.iadd, 1) := dk_96 (dk_at dksX3_plenty_1 12 rfl rfl)
theorem dX3_plenty_36 : decode cX3_plenty 36 = .ok (.iaload, 1) := dk_46 (dk_at dksX3_plenty_1 13 rfl rfl)
theorem dX3_plenty_37 : decode cX3_plenty 37 = .ok (.iload_n 1, 1) := dk_27 (dk_at dksX3_plenty_1 14 rfl rfl)
theorem dX3_plenty_38 : decode cX3_plenty 38 = .ok (.iload_n 2, 1) := dk_28 (dk_at dksX3_plenty_1 15 rfl rfl)
theorem dX3_plenty_39 : decode cX3_plenty 39 = .ok (.if_icmp .ne 7, 3) := dk_160 0 7 (dk_at dksX3_plenty_1 16 rfl rfl)
theorem dX3_plenty_42 : decode cX3_plenty 42 = .ok (.iconst 1, 1) := dk_4 (dk_at dksX3_plenty_1 19 rfl rfl)
theorem dX3_plenty_43 : decode cX3_plenty 43 = .ok (.goto 4, 3) := dk_167 0 4 (dk_at dksX3_plenty_1 20 rfl rfl)
theorem dX3_plenty_46 : decode cX3_plenty 46 = .ok (.iconst 0, 1) := dk_3 (dk_at dksX3_plenty_1 23 rfl rfl)
theorem dX3_plenty_47 : decode cX3_plenty 47 = .ok (.if_icmp .le 19, 3) := dk_164 0 19 (dk_at dksX3_plenty_2 0 rfl rfl)
theorem dX3_plenty_50 : decode cX3_plenty 50 = .ok (.aload_n 0, 1) := dk_42 (dk_at dksX3_plenty_2 3 rfl rfl)
theorem dX3_plenty_51 : decode cX3_plenty 51 = .ok (.getfield 22, 3) := dk_180 0 22 (dk_at dksX3_plenty_2 4 rfl rfl)
theorem dX3_plenty_54 : decode cX3_plenty 54 = .ok (.bipush 15, 2) := dk_16 15 (dk_at dksX3_plenty_2 7 rfl rfl)
theorem dX3_plenty_56 : decode cX3_plenty 56 = .ok (.iload_n 2, 1) := dk_28 (dk_at dksX3_plenty_2 9 rfl rfl)
theorem dX3_plenty_57 : decode cX3_plenty 57 = .ok (.iadd, 1) := dk_96 (dk_at dksX3_plenty_2 10 rfl rfl)
theorem dX3_plenty_58 : decode cX3_plenty 58 = .ok (.iaload, 1) := dk_46 (dk_at dksX3_plenty_2 11 rfl rfl)
theorem dX3_plenty_59 : decode cX3_plenty 59 = .ok (.ifCond .le 7, 3) := dk_158 0 7 (dk_at dksX3_plenty_2 12 rfl rfl)
theorem dX3_plenty_62 : decode cX3_plenty 62 = .ok (.iconst 1, 1) := dk_4 (dk_at dksX3_plenty_2 15 rfl rfl)
theorem dX3_plenty_63 : decode cX3_plenty 63 = .ok (.goto 4, 3) := dk_167 0 4 (dk_at dksX3_plenty_2 16 rfl rfl)
theorem dX3_plenty_66 : decode cX3_plenty 66 = .ok (.iconst 0, 1) := dk_3 (dk_at dksX3_plenty_2 19 rfl rfl)
theorem dX3_plenty_67 : decode cX3_plenty 67 = .ok (.istore_n 3, 1) := dk_62 (dk_at dksX3_plenty_2 20 rfl rfl)
theorem dX3_plenty_68 : decode cX3_plenty 68 = .ok (.aload_n 0, 1) := dk_42 (dk_at dksX3_plenty_2 21 rfl rfl)
theorem dX3_plenty_69 : decode cX3_plenty 69 = .ok (.iconst 2, 1) := dk_5 (dk_at dksX3_plenty_2 22 rfl rfl)
theorem dX3_plenty_70 : decode cX3_plenty 70 = .ok (.invokevirtual 221, 3) := dk_182 0 221 (dk_at dksX3_plenty_3 0 rfl rfl)
theorem dX3_plenty_73 : decode cX3_plenty 73 = .ok (.ifCond .eq 7, 3) := dk_153 0 7 (dk_at dksX3_plenty_3 3 rfl rfl)
theorem dX3_plenty_76 : decode cX3_plenty 76 = .ok (.iload_n 3, 1) := dk_29 (dk_at dksX3_plenty_3 6 rfl rfl)
theorem dX3_plenty_77 : decode cX3_plenty 77 = .ok (.ifCond .ne 9, 3) := dk_154 0 9 (dk_at dksX3_plenty_3 7 rfl rfl)
theorem dX3_plenty_80 : decode cX3_plenty 80 = .ok (.aload_n 0, 1) := dk_42 (dk_at dksX3_plenty_3 10 rfl rfl)
theorem dX3_plenty_81 : decode cX3_plenty 81 = .ok (.iconst 2, 1) := dk_5 (dk_at dksX3_plenty_3 11 rfl rfl)
theorem dX3_plenty_82 : decode cX3_plenty 82 = .ok (.invokevirtual 149, 3) := dk_182 0 149 (dk_at dksX3_plenty_3 12 rfl rfl)
theorem dX3_plenty_85 : decode cX3_plenty 85 = .ok (.ireturn, 1) := dk_172 (dk_at dksX3_plenty_3 15 rfl rfl)
theorem dX3_plenty_86 : decode cX3_plenty 86 = .ok (.aload_n 0, 1) := dk_42 (dk_at dksX3_plenty_3 16 rfl rfl)
theorem dX3_plenty_87 : decode cX3_plenty 87 = .ok (.iconst 2, 1) := dk_5 (dk_at dksX3_plenty_3 17 rfl rfl)
theorem dX3_plenty_88 : decode cX3_plenty 88 = .ok (.invokevirtual 224, 3) := dk_182 0 224 (dk_at dksX3_plenty_3 18 rfl rfl)
theorem dX3_plenty_91 : decode cX3_plenty 91 = .ok (.aload_n 0, 1) := dk_42 (dk_at dksX3_plenty_3 21 rfl rfl)
theorem dX3_plenty_92 : decode cX3_plenty 92 = .ok (.iconst 3, 1) := dk_6 (dk_at dksX3_plenty_3 22 rfl rfl)
theorem dX3_plenty_93 : decode cX3_plenty 93 = .ok (.aload_n 0, 1) := dk_42 (dk_at dksX3_plenty_3 23 rfl rfl)
theorem dX3_plenty_94 : decode cX3_plenty 94 = .ok (.getfield 118, 3) := dk_180 0 118 (dk_at dksX3_plenty_4 0 rfl rfl)
theorem dX3_plenty_97 : decode cX3_plenty 97 = .ok (.iload_n 1, 1) := dk_27 (dk_at dksX3_plenty_4 3 rfl rfl)
theorem dX3_plenty_98 : decode cX3_plenty 98 = .ok (.iconst 1, 1) := dk_4 (dk_at dksX3_plenty_4 4 rfl rfl)
theorem dX3_plenty_99 : decode cX3_plenty 99 = .ok (.invokevirtual 230, 3) := dk_182 0 230 (dk_at dksX3_plenty_4 5 rfl rfl)
theorem dX3_plenty_102 : decode cX3_plenty 102 = .ok (.aload_n 0, 1) := dk_42 (dk_at dksX3_plenty_4 8 rfl rfl)
theorem dX3_plenty_103 : decode cX3_plenty 103 = .ok (.iconst 3, 1) := dk_6 (dk_at dksX3_plenty_4 9 rfl rfl)
theorem dX3_plenty_104 : decode cX3_plenty 104 = .ok (.aload_n 0, 1) := dk_42 (dk_at dksX3_plenty_4 10 rfl rfl)
theorem dX3_plenty_105 : decode cX3_plenty 105 = .ok (.getfield 118, 3) := dk_180 0 118 (dk_at dksX3_plenty_4 11 rfl rfl)
theorem dX3_plenty_108 : decode cX3_plenty 108 = .ok (.iload_n 2, 1) := dk_28 (dk_at dksX3_plenty_4 14 rfl rfl)
theorem dX3_plenty_109 : decode cX3_plenty 109 = .ok (.iconst 1, 1) := dk_4 (dk_at dksX3_plenty_4 15 rfl rfl)
theorem dX3_plenty_110 : decode cX3_plenty 110 = .ok (.invokevirtual 230, 3) := dk_182 0 230 (dk_at dksX3_plenty_4 16 rfl rfl)
theorem dX3_plenty_113 : decode cX3_plenty 113 = .ok (.aload_n 0, 1) := dk_42 (dk_at dksX3_plenty_4 19 rfl rfl)
theorem dX3_plenty_114 : decode cX3_plenty 114 = .ok (.aload_n 0, 1) := dk_42 (dk_at dksX3_plenty_4 20 rfl rfl)
theorem dX3_plenty_115 : decode cX3_plenty 115 = .ok (.getfield 118, 3) := dk_180 0 118 (dk_at dksX3_plenty_4 21 rfl rfl)
theorem dX3_plenty_118 : decode cX3_plenty 118 = .ok (.invokevirtual 175, 3) := dk_182 0 175 (dk_at dksX3_plenty_5 0 rfl rfl)
theorem dX3_plenty_121 : decode cX3_plenty 121 = .ok (.ireturn, 1) := dk_172 (dk_at dksX3_plenty_5 3 rfl rfl)
abbrev cX3_isGood : ByteArray := prog_12_method_10_code
def yX3_isGood : MethodName := ⟨RX3, "isGood", "(I)Z"⟩
def dkwX3_isGood_0 : List UInt8 := [26, 155, 0, 12, 26, 8, 162, 0, 7, 4, 167, 0, 4, 3, 172]
abbrev dktX3_isGood_0 : List UInt8 := dkwX3_isGood_0 ++ []
theorem dksX3_isGood_0 : cX3_isGood.data.toList.drop 0 = dktX3_isGood_0 := by decide +kernel
theorem dX3_isGood_0 : decode cX3_isGood 0 = .ok (.iload_n 0, 1) := dk_26 (dk_at dksX3_isGood_0 0 rfl rfl)
theorem dX3_isGood_1 : decode cX3_isGood 1 = .ok (.ifCond .lt 12, 3) := dk_155 0 12 (dk_at dksX3_isGood_0 1 rfl rfl)
theorem dX3_isGood_4 : decode cX3_isGood 4 = .ok (.iload_n 0, 1) := dk_26 (dk_at dksX3_isGood_0 4 rfl rfl)
theorem dX3_isGood_5 : decode cX3_isGood 5 = .ok (.iconst 5, 1) := dk_8 (dk_at dksX3_isGood_0 5 rfl rfl)
theorem dX3_isGood_6 : decode cX3_isGood 6 = .ok (.if_icmp .ge 7, 3) := dk_162 0 7 (dk_at dksX3_isGood_0 6 rfl rfl)
theorem dX3_isGood_9 : decode cX3_isGood 9 = .ok (.iconst 1, 1) := dk_4 (dk_at dksX3_isGood_0 9 rfl rfl)
theorem dX3_isGood_10 : decode cX3_isGood 10 = .ok (.goto 4, 3) := dk_167 0 4 (dk_at dksX3_isGood_0 10 rfl rfl)
theorem dX3_isGood_13 : decode cX3_isGood 13 = .ok (.iconst 0, 1) := dk_3 (dk_at dksX3_isGood_0 13 rfl rfl)
theorem dX3_isGood_14 : decode cX3_isGood 14 = .ok (.ireturn, 1) := dk_172 (dk_at dksX3_isGood_0 14 rfl rfl)
abbrev cX3_moves : ByteArray := prog_12_method_61_code
def yX3_moves : MethodName := ⟨RX3, "moves", "(IIII)V"⟩
def dkwX3_moves_1 : List UInt8 := [92, 46, 21, 4, 96, 79, 177]
abbrev dktX3_moves_1 : List UInt8 := dkwX3_moves_1 ++ []
def dkwX3_moves_0 : List UInt8 := [42, 180, 0, 22, 8, 27, 104, 29, 96, 92, 46, 21, 4, 100, 79, 42, 180, 0, 22, 8, 28, 104, 29, 96]
abbrev dktX3_moves_0 : List UInt8 := dkwX3_moves_0 ++ dktX3_moves_1
theorem dksX3_moves_0 : cX3_moves.data.toList.drop 0 = dktX3_moves_0 := by decide +kernel
theorem dksX3_moves_1 : cX3_moves.data.toList.drop 24 = dktX3_moves_1 := dk_seg dksX3_moves_0 24 rfl rfl
theorem dX3_moves_0 : decode cX3_moves 0 = .ok (.aload_n 0, 1) := dk_42 (dk_at dksX3_moves_0 0 rfl rfl)
theorem dX3_moves_1 : decode cX3_moves 1 = .ok (.getfield 22, 3) := dk_180 0 22 (dk_at dksX3_moves_0 1 rfl rfl)
theorem dX3_moves_4 : decode cX3_moves 4 = .ok (.iconst 5, 1) := dk_8 (dk_at dksX3_moves_0 4 rfl rfl)
theorem dX3_moves_5 : decode cX3_moves 5 = .ok (.iload_n 1, 1) := dk_27 (dk_at dksX3_moves_0 5 rfl rfl)
theorem dX3_moves_6 : decode cX3_moves 6 = .ok (.imul, 1) := dk_104 (dk_at dksX3_moves_0 6 rfl rfl)
theorem dX3_moves_7 : decode cX3_moves 7 = .ok (.iload_n 3, 1) := dk_29 (dk_at dksX3_moves_0 7 rfl rfl)
theorem dX3_moves_8 : decode cX3_moves 8 = .ok (.iadd, 1) := dk_96 (dk_at dksX3_moves_0 8 rfl rfl)
theorem dX3_moves_9 : decode cX3_moves 9 = .ok (.dup2, 1) := dk_92 (dk_at dksX3_moves_0 9 rfl rfl)
theorem dX3_moves_10 : decode cX3_moves 10 = .ok (.iaload, 1) := dk_46 (dk_at dksX3_moves_0 10 rfl rfl)
theorem dX3_moves_11 : decode cX3_moves 11 = .ok (.iload 4, 2) := dk_21 4 (dk_at dksX3_moves_0 11 rfl rfl)
theorem dX3_moves_13 : decode cX3_moves 13 = .ok (.isub, 1) := dk_100 (dk_at dksX3_moves_0 13 rfl rfl)
theorem dX3_moves_14 : decode cX3_moves 14 = .ok (.iastore, 1) := dk_79 (dk_at dksX3_moves_0 14 rfl rfl)
theorem dX3_moves_15 : decode cX3_moves 15 = .ok (.aload_n 0, 1) := dk_42 (dk_at dksX3_moves_0 15 rfl rfl)
theorem dX3_moves_16 : decode cX3_moves 16 = .ok (.getfield 22, 3) := dk_180 0 22 (dk_at dksX3_moves_0 16 rfl rfl)
theorem dX3_moves_19 : decode cX3_moves 19 = .ok (.iconst 5, 1) := dk_8 (dk_at dksX3_moves_0 19 rfl rfl)
theorem dX3_moves_20 : decode cX3_moves 20 = .ok (.iload_n 2, 1) := dk_28 (dk_at dksX3_moves_0 20 rfl rfl)
theorem dX3_moves_21 : decode cX3_moves 21 = .ok (.imul, 1) := dk_104 (dk_at dksX3_moves_0 21 rfl rfl)
theorem dX3_moves_22 : decode cX3_moves 22 = .ok (.iload_n 3, 1) := dk_29 (dk_at dksX3_moves_0 22 rfl rfl)
theorem dX3_moves_23 : decode cX3_moves 23 = .ok (.iadd, 1) := dk_96 (dk_at dksX3_moves_0 23 rfl rfl)
theorem dX3_moves_24 : decode cX3_moves 24 = .ok (.dup2, 1) := dk_92 (dk_at dksX3_moves_1 0 rfl rfl)
theorem dX3_moves_25 : decode cX3_moves 25 = .ok (.iaload, 1) := dk_46 (dk_at dksX3_moves_1 1 rfl rfl)
theorem dX3_moves_26 : decode cX3_moves 26 = .ok (.iload 4, 2) := dk_21 4 (dk_at dksX3_moves_1 2 rfl rfl)
theorem dX3_moves_28 : decode cX3_moves 28 = .ok (.iadd, 1) := dk_96 (dk_at dksX3_moves_1 4 rfl rfl)
theorem dX3_moves_29 : decode cX3_moves 29 = .ok (.iastore, 1) := dk_79 (dk_at dksX3_moves_1 5 rfl rfl)
theorem dX3_moves_30 : decode cX3_moves 30 = .ok (.return_, 1) := dk_177 (dk_at dksX3_moves_1 6 rfl rfl)
abbrev cX3_monopoly : ByteArray := prog_12_method_62_code
def yX3_monopoly : MethodName := ⟨RX3, "monopoly", "(I)I"⟩
def dkwX3_monopoly_3 : List UInt8 := [180, 0, 118, 27, 21, 4, 182, 0, 230, 28, 21, 4, 96, 61, 132, 3, 1, 167, 255, 207, 28, 172]
abbrev dktX3_monopoly_3 : List UInt8 := dkwX3_monopoly_3 ++ []
def dkwX3_monopoly_2 : List UInt8 := [160, 0, 7, 3, 167, 0, 13, 42, 180, 0, 22, 8, 29, 104, 27, 96, 46, 54, 4, 42, 29, 42]
abbrev dktX3_monopoly_2 : List UInt8 := dkwX3_monopoly_2 ++ dktX3_monopoly_3
def dkwX3_monopoly_1 : List UInt8 := [182, 0, 149, 172, 42, 6, 182, 0, 224, 3, 61, 3, 62, 29, 6, 162, 0, 50, 29, 42, 180, 0, 118]
abbrev dktX3_monopoly_1 : List UInt8 := dkwX3_monopoly_1 ++ dktX3_monopoly_2
def dkwX3_monopoly_0 : List UInt8 := [42, 27, 184, 0, 227, 182, 0, 127, 154, 0, 5, 3, 172, 42, 6, 182, 0, 221, 154, 0, 9, 42, 5]
abbrev dktX3_monopoly_0 : List UInt8 := dkwX3_monopoly_0 ++ dktX3_monopoly_1
theorem dksX3_monopoly_0 : cX3_monopoly.data.toList.drop 0 = dktX3_monopoly_0 := by decide +kernel
theorem dksX3_monopoly_1 : cX3_monopoly.data.toList.drop 23 = dktX3_monopoly_1 := dk_seg dksX3_monopoly_0 23 rfl rfl
theorem dksX3_monopoly_2 : cX3_monopoly.data.toList.drop 46 = dktX3_monopoly_2 := dk_seg dksX3_monopoly_1 23 rfl rfl
theorem dksX3_monopoly_3 : cX3_monopoly.data.toList.drop 68 = dktX3_monopoly_3 := dk_seg dksX3_monopoly_2 22 rfl rfl
theorem dX3_monopoly_0 : decode cX3_monopoly 0 = .ok (.aload_n 0, 1) := dk_42 (dk_at dksX3_monopoly_0 0 rfl rfl)
theorem dX3_monopoly_1 : decode cX3_monopoly 1 = .ok (.iload_n 1, 1) := dk_27 (dk_at dksX3_monopoly_0 1 rfl rfl)
theorem dX3_monopoly_2 : decode cX3_monopoly 2 = .ok (.invokestatic 227, 3) := dk_184 0 227 (dk_at dksX3_monopoly_0 2 rfl rfl)
theorem dX3_monopoly_5 : decode cX3_monopoly 5 = .ok (.invokevirtual 127, 3) := dk_182 0 127 (dk_at dksX3_monopoly_0 5 rfl rfl)
theorem dX3_monopoly_8 : decode cX3_monopoly 8 = .ok (.ifCond .ne 5, 3) := dk_154 0 5 (dk_at dksX3_monopoly_0 8 rfl rfl)
theorem dX3_monopoly_11 : decode cX3_monopoly 11 = .ok (.iconst 0, 1) := dk_3 (dk_at dksX3_monopoly_0 11 rfl rfl)
theorem dX3_monopoly_12 : decode cX3_monopoly 12 = .ok (.ireturn, 1) := dk_172 (dk_at dksX3_monopoly_0 12 rfl rfl)
theorem dX3_monopoly_13 : decode cX3_monopoly 13 = .ok (.aload_n 0, 1) := dk_42 (dk_at dksX3_monopoly_0 13 rfl rfl)
theorem dX3_monopoly_14 : decode cX3_monopoly 14 = .ok (.iconst 3, 1) := dk_6 (dk_at dksX3_monopoly_0 14 rfl rfl)
theorem dX3_monopoly_15 : decode cX3_monopoly 15 = .ok (.invokevirtual 221, 3) := dk_182 0 221 (dk_at dksX3_monopoly_0 15 rfl rfl)
theorem dX3_monopoly_18 : decode cX3_monopoly 18 = .ok (.ifCond .ne 9, 3) := dk_154 0 9 (dk_at dksX3_monopoly_0 18 rfl rfl)
theorem dX3_monopoly_21 : decode cX3_monopoly 21 = .ok (.aload_n 0, 1) := dk_42 (dk_at dksX3_monopoly_0 21 rfl rfl)
theorem dX3_monopoly_22 : decode cX3_monopoly 22 = .ok (.iconst 2, 1) := dk_5 (dk_at dksX3_monopoly_0 22 rfl rfl)
theorem dX3_monopoly_23 : decode cX3_monopoly 23 = .ok (.invokevirtual 149, 3) := dk_182 0 149 (dk_at dksX3_monopoly_1 0 rfl rfl)
theorem dX3_monopoly_26 : decode cX3_monopoly 26 = .ok (.ireturn, 1) := dk_172 (dk_at dksX3_monopoly_1 3 rfl rfl)
theorem dX3_monopoly_27 : decode cX3_monopoly 27 = .ok (.aload_n 0, 1) := dk_42 (dk_at dksX3_monopoly_1 4 rfl rfl)
theorem dX3_monopoly_28 : decode cX3_monopoly 28 = .ok (.iconst 3, 1) := dk_6 (dk_at dksX3_monopoly_1 5 rfl rfl)
theorem dX3_monopoly_29 : decode cX3_monopoly 29 = .ok (.invokevirtual 224, 3) := dk_182 0 224 (dk_at dksX3_monopoly_1 6 rfl rfl)
theorem dX3_monopoly_32 : decode cX3_monopoly 32 = .ok (.iconst 0, 1) := dk_3 (dk_at dksX3_monopoly_1 9 rfl rfl)
theorem dX3_monopoly_33 : decode cX3_monopoly 33 = .ok (.istore_n 2, 1) := dk_61 (dk_at dksX3_monopoly_1 10 rfl rfl)
theorem dX3_monopoly_34 : decode cX3_monopoly 34 = .ok (.iconst 0, 1) := dk_3 (dk_at dksX3_monopoly_1 11 rfl rfl)
theorem dX3_monopoly_35 : decode cX3_monopoly 35 = .ok (.istore_n 3, 1) := dk_62 (dk_at dksX3_monopoly_1 12 rfl rfl)
theorem dX3_monopoly_36 : decode cX3_monopoly 36 = .ok (.iload_n 3, 1) := dk_29 (dk_at dksX3_monopoly_1 13 rfl rfl)
theorem dX3_monopoly_37 : decode cX3_monopoly 37 = .ok (.iconst 3, 1) := dk_6 (dk_at dksX3_monopoly_1 14 rfl rfl)
theorem dX3_monopoly_38 : decode cX3_monopoly 38 = .ok (.if_icmp .ge 50, 3) := dk_162 0 50 (dk_at dksX3_monopoly_1 15 rfl rfl)
theorem dX3_monopoly_41 : decode cX3_monopoly 41 = .ok (.iload_n 3, 1) := dk_29 (dk_at dksX3_monopoly_1 18 rfl rfl)
theorem dX3_monopoly_42 : decode cX3_monopoly 42 = .ok (.aload_n 0, 1) := dk_42 (dk_at dksX3_monopoly_1 19 rfl rfl)
theorem dX3_monopoly_43 : decode cX3_monopoly 43 = .ok (.getfield 118, 3) := dk_180 0 118 (dk_at dksX3_monopoly_1 20 rfl rfl)
theorem dX3_monopoly_46 : decode cX3_monopoly 46 = .ok (.if_icmp .ne 7, 3) := dk_160 0 7 (dk_at dksX3_monopoly_2 0 rfl rfl)
theorem dX3_monopoly_49 : decode cX3_monopoly 49 = .ok (.iconst 0, 1) := dk_3 (dk_at dksX3_monopoly_2 3 rfl rfl)
theorem dX3_monopoly_50 : decode cX3_monopoly 50 = .ok (.goto 13, 3) := dk_167 0 13 (dk_at dksX3_monopoly_2 4 rfl rfl)
theorem dX3_monopoly_53 : decode cX3_monopoly 53 = .ok (.aload_n 0, 1) := dk_42 (dk_at dksX3_monopoly_2 7 rfl rfl)
theorem dX3_monopoly_54 : decode cX3_monopoly 54 = .ok (.getfield 22, 3) := dk_180 0 22 (dk_at dksX3_monopoly_2 8 rfl rfl)
theorem dX3_monopoly_57 : decode cX3_monopoly 57 = .ok (.iconst 5, 1) := dk_8 (dk_at dksX3_monopoly_2 11 rfl rfl)
theorem dX3_monopoly_58 : decode cX3_monopoly 58 = .ok (.iload_n 3, 1) := dk_29 (dk_at dksX3_monopoly_2 12 rfl rfl)
theorem dX3_monopoly_59 : decode cX3_monopoly 59 = .ok (.imul, 1) := dk_104 (dk_at dksX3_monopoly_2 13 rfl rfl)
theorem dX3_monopoly_60 : decode cX3_monopoly 60 = .ok (.iload_n 1, 1) := dk_27 (dk_at dksX3_monopoly_2 14 rfl rfl)
theorem dX3_monopoly_61 : decode cX3_monopoly 61 = .ok (.iadd, 1) := dk_96 (dk_at dksX3_monopoly_2 15 rfl rfl)
theorem dX3_monopoly_62 : decode cX3_monopoly 62 = .ok (.iaload, 1) := dk_46 (dk_at dksX3_monopoly_2 16 rfl rfl)
theorem dX3_monopoly_63 : decode cX3_monopoly 63 = .ok (.istore 4, 2) := dk_54 4 (dk_at dksX3_monopoly_2 17 rfl rfl)
theorem dX3_monopoly_65 : decode cX3_monopoly 65 = .ok (.aload_n 0, 1) := dk_42 (dk_at dksX3_monopoly_2 19 rfl rfl)
theorem dX3_monopoly_66 : decode cX3_monopoly 66 = .ok (.iload_n 3, 1) := dk_29 (dk_at dksX3_monopoly_2 20 rfl rfl)
theorem dX3_monopoly_67 : decode cX3_monopoly 67 = .ok (.aload_n 0, 1) := dk_42 (dk_at dksX3_monopoly_2 21 rfl rfl)
theorem dX3_monopoly_68 : decode cX3_monopoly 68 = .ok (.getfield 118, 3) := dk_180 0 118 (dk_at dksX3_monopoly_3 0 rfl rfl)
theorem dX3_monopoly_71 : decode cX3_monopoly 71 = .ok (.iload_n 1, 1) := dk_27 (dk_at dksX3_monopoly_3 3 rfl rfl)
theorem dX3_monopoly_72 : decode cX3_monopoly 72 = .ok (.iload 4, 2) := dk_21 4 (dk_at dksX3_monopoly_3 4 rfl rfl)
theorem dX3_monopoly_74 : decode cX3_monopoly 74 = .ok (.invokevirtual 230, 3) := dk_182 0 230 (dk_at dksX3_monopoly_3 6 rfl rfl)
theorem dX3_monopoly_77 : decode cX3_monopoly 77 = .ok (.iload_n 2, 1) := dk_28 (dk_at dksX3_monopoly_3 9 rfl rfl)
theorem dX3_monopoly_78 : decode cX3_monopoly 78 = .ok (.iload 4, 2) := dk_21 4 (dk_at dksX3_monopoly_3 10 rfl rfl)
theorem dX3_monopoly_80 : decode cX3_monopoly 80 = .ok (.iadd, 1) := dk_96 (dk_at dksX3_monopoly_3 12 rfl rfl)
theorem dX3_monopoly_81 : decode cX3_monopoly 81 = .ok (.istore_n 2, 1) := dk_61 (dk_at dksX3_monopoly_3 13 rfl rfl)
theorem dX3_monopoly_82 : decode cX3_monopoly 82 = .ok (.iinc 3 1, 3) := dk_132 3 1 (dk_at dksX3_monopoly_3 14 rfl rfl)
theorem dX3_monopoly_85 : decode cX3_monopoly 85 = .ok (.goto (-49), 3) := dk_167 255 207 (dk_at dksX3_monopoly_3 17 rfl rfl)
theorem dX3_monopoly_88 : decode cX3_monopoly 88 = .ok (.iload_n 2, 1) := dk_28 (dk_at dksX3_monopoly_3 20 rfl rfl)
theorem dX3_monopoly_89 : decode cX3_monopoly 89 = .ok (.ireturn, 1) := dk_172 (dk_at dksX3_monopoly_3 21 rfl rfl)
abbrev cX3_swap : ByteArray := prog_12_method_64_code
def yX3_swap : MethodName := ⟨RX3, "swap", "(II)I"⟩
def dkwX3_swap_5 : List UInt8 := [28, 96, 46, 172]
abbrev dktX3_swap_5 : List UInt8 := dkwX3_swap_5 ++ []
def dkwX3_swap_4 : List UInt8 := [182, 0, 230, 42, 6, 42, 180, 0, 118, 28, 4, 182, 0, 230, 42, 180, 0, 22, 8, 42, 180, 0, 118, 104]
abbrev dktX3_swap_4 : List UInt8 := dkwX3_swap_4 ++ dktX3_swap_5
def dkwX3_swap_3 : List UInt8 := [16, 15, 28, 96, 46, 154, 0, 9, 42, 5, 182, 0, 149, 172, 42, 42, 180, 0, 118, 6, 27, 29]
abbrev dktX3_swap_3 : List UInt8 := dkwX3_swap_3 ++ dktX3_swap_4
def dkwX3_swap_2 : List UInt8 := [160, 0, 32, 42, 180, 0, 22, 8, 42, 180, 0, 118, 104, 27, 96, 46, 29, 161, 0, 15, 42, 180, 0, 22]
abbrev dktX3_swap_2 : List UInt8 := dkwX3_swap_2 ++ dktX3_swap_3
def dkwX3_swap_1 : List UInt8 := [3, 182, 0, 127, 154, 0, 5, 3, 172, 42, 42, 180, 0, 118, 27, 182, 0, 234, 62, 42, 180, 0, 115, 5]
abbrev dktX3_swap_1 : List UInt8 := dkwX3_swap_1 ++ dktX3_swap_2
def dkwX3_swap_0 : List UInt8 := [42, 27, 184, 0, 227, 153, 0, 19, 28, 184, 0, 227, 153, 0, 12, 27, 28, 159, 0, 7, 4, 167, 0, 4]
abbrev dktX3_swap_0 : List UInt8 := dkwX3_swap_0 ++ dktX3_swap_1
theorem dksX3_swap_0 : cX3_swap.data.toList.drop 0 = dktX3_swap_0 := by decide +kernel
theorem dksX3_swap_1 : cX3_swap.data.toList.drop 24 = dktX3_swap_1 := dk_seg dksX3_swap_0 24 rfl rfl
theorem dksX3_swap_2 : cX3_swap.data.toList.drop 48 = dktX3_swap_2 := dk_seg dksX3_swap_1 24 rfl rfl
theorem dksX3_swap_3 : cX3_swap.data.toList.drop 72 = dktX3_swap_3 := dk_seg dksX3_swap_2 24 rfl rfl
theorem dksX3_swap_4 : cX3_swap.data.toList.drop 94 = dktX3_swap_4 := dk_seg dksX3_swap_3 22 rfl rfl
theorem dksX3_swap_5 : cX3_swap.data.toList.drop 118 = dktX3_swap_5 := dk_seg dksX3_swap_4 24 rfl rfl
theorem dX3_swap_0 : decode cX3_swap 0 = .ok (.aload_n 0, 1) := dk_42 (dk_at dksX3_swap_0 0 rfl rfl)
theorem dX3_swap_1 : decode cX3_swap 1 = .ok (.iload_n 1, 1) := dk_27 (dk_at dksX3_swap_0 1 rfl rfl)
theorem dX3_swap_2 : decode cX3_swap 2 = .ok (.invokestatic 227, 3) := dk_184 0 227 (dk_at dksX3_swap_0 2 rfl rfl)
theorem dX3_swap_5 : decode cX3_swap 5 = .ok (.ifCond .eq 19, 3) := dk_153 0 19 (dk_at dksX3_swap_0 5 rfl rfl)
theorem dX3_swap_8 : decode cX3_swap 8 = .ok (.iload_n 2, 1) := dk_28 (dk_at dksX3_swap_0 8 rfl rfl)
theorem dX3_swap_9 : decode cX3_swap 9 = .ok (.invokestatic 227, 3) := dk_184 0 227 (dk_at dksX3_swap_0 9 rfl rfl)
theorem dX3_swap_12 : decode cX3_swap 12 = .ok (.ifCond .eq 12, 3) := dk_153 0 12 (dk_at dksX3_swap_0 12 rfl rfl)
theorem dX3_swap_15 : decode cX3_swap 15 = .ok (.iload_n 1, 1) := dk_27 (dk_at dksX3_swap_0 15 rfl rfl)
theorem dX3_swap_16 : decode cX3_swap 16 = .ok (.iload_n 2, 1) := dk_28 (dk_at dksX3_swap_0 16 rfl rfl)
theorem dX3_swap_17 : decode cX3_swap 17 = .ok (.if_icmp .eq 7, 3) := dk_159 0 7 (dk_at dksX3_swap_0 17 rfl rfl)
theorem dX3_swap_20 : decode cX3_swap 20 = .ok (.iconst 1, 1) := dk_4 (dk_at dksX3_swap_0 20 rfl rfl)
theorem dX3_swap_21 : decode cX3_swap 21 = .ok (.goto 4, 3) := dk_167 0 4 (dk_at dksX3_swap_0 21 rfl rfl)
theorem dX3_swap_24 : decode cX3_swap 24 = .ok (.iconst 0, 1) := dk_3 (dk_at dksX3_swap_1 0 rfl rfl)
theorem dX3_swap_25 : decode cX3_swap 25 = .ok (.invokevirtual 127, 3) := dk_182 0 127 (dk_at dksX3_swap_1 1 rfl rfl)
theorem dX3_swap_28 : decode cX3_swap 28 = .ok (.ifCond .ne 5, 3) := dk_154 0 5 (dk_at dksX3_swap_1 4 rfl rfl)
theorem dX3_swap_31 : decode cX3_swap 31 = .ok (.iconst 0, 1) := dk_3 (dk_at dksX3_swap_1 7 rfl rfl)
theorem dX3_swap_32 : decode cX3_swap 32 = .ok (.ireturn, 1) := dk_172 (dk_at dksX3_swap_1 8 rfl rfl)
theorem dX3_swap_33 : decode cX3_swap 33 = .ok (.aload_n 0, 1) := dk_42 (dk_at dksX3_swap_1 9 rfl rfl)
theorem dX3_swap_34 : decode cX3_swap 34 = .ok (.aload_n 0, 1) := dk_42 (dk_at dksX3_swap_1 10 rfl rfl)
theorem dX3_swap_35 : decode cX3_swap 35 = .ok (.getfield 118, 3) := dk_180 0 118 (dk_at dksX3_swap_1 11 rfl rfl)
theorem dX3_swap_38 : decode cX3_swap 38 = .ok (.iload_n 1, 1) := dk_27 (dk_at dksX3_swap_1 14 rfl rfl)
theorem dX3_swap_39 : decode cX3_swap 39 = .ok (.invokevirtual 234, 3) := dk_182 0 234 (dk_at dksX3_swap_1 15 rfl rfl)
theorem dX3_swap_42 : decode cX3_swap 42 = .ok (.istore_n 3, 1) := dk_62 (dk_at dksX3_swap_1 18 rfl rfl)
theorem dX3_swap_43 : decode cX3_swap 43 = .ok (.aload_n 0, 1) := dk_42 (dk_at dksX3_swap_1 19 rfl rfl)
theorem dX3_swap_44 : decode cX3_swap 44 = .ok (.getfield 115, 3) := dk_180 0 115 (dk_at dksX3_swap_1 20 rfl rfl)
theorem dX3_swap_47 : decode cX3_swap 47 = .ok (.iconst 2, 1) := dk_5 (dk_at dksX3_swap_1 23 rfl rfl)
theorem dX3_swap_48 : decode cX3_swap 48 = .ok (.if_icmp .ne 32, 3) := dk_160 0 32 (dk_at dksX3_swap_2 0 rfl rfl)
theorem dX3_swap_51 : decode cX3_swap 51 = .ok (.aload_n 0, 1) := dk_42 (dk_at dksX3_swap_2 3 rfl rfl)
theorem dX3_swap_52 : decode cX3_swap 52 = .ok (.getfield 22, 3) := dk_180 0 22 (dk_at dksX3_swap_2 4 rfl rfl)
theorem dX3_swap_55 : decode cX3_swap 55 = .ok (.iconst 5, 1) := dk_8 (dk_at dksX3_swap_2 7 rfl rfl)
theorem dX3_swap_56 : decode cX3_swap 56 = .ok (.aload_n 0, 1) := dk_42 (dk_at dksX3_swap_2 8 rfl rfl)
theorem dX3_swap_57 : decode cX3_swap 57 = .ok (.getfield 118, 3) := dk_180 0 118 (dk_at dksX3_swap_2 9 rfl rfl)
theorem dX3_swap_60 : decode cX3_swap 60 = .ok (.imul, 1) := dk_104 (dk_at dksX3_swap_2 12 rfl rfl)
theorem dX3_swap_61 : decode cX3_swap 61 = .ok (.iload_n 1, 1) := dk_27 (dk_at dksX3_swap_2 13 rfl rfl)
theorem dX3_swap_62 : decode cX3_swap 62 = .ok (.iadd, 1) := dk_96 (dk_at dksX3_swap_2 14 rfl rfl)
theorem dX3_swap_63 : decode cX3_swap 63 = .ok (.iaload, 1) := dk_46 (dk_at dksX3_swap_2 15 rfl rfl)
theorem dX3_swap_64 : decode cX3_swap 64 = .ok (.iload_n 3, 1) := dk_29 (dk_at dksX3_swap_2 16 rfl rfl)
theorem dX3_swap_65 : decode cX3_swap 65 = .ok (.if_icmp .lt 15, 3) := dk_161 0 15 (dk_at dksX3_swap_2 17 rfl rfl)
theorem dX3_swap_68 : decode cX3_swap 68 = .ok (.aload_n 0, 1) := dk_42 (dk_at dksX3_swap_2 20 rfl rfl)
theorem dX3_swap_69 : decode cX3_swap 69 = .ok (.getfield 22, 3) := dk_180 0 22 (dk_at dksX3_swap_2 21 rfl rfl)
theorem dX3_swap_72 : decode cX3_swap 72 = .ok (.bipush 15, 2) := dk_16 15 (dk_at dksX3_swap_3 0 rfl rfl)
theorem dX3_swap_74 : decode cX3_swap 74 = .ok (.iload_n 2, 1) := dk_28 (dk_at dksX3_swap_3 2 rfl rfl)
theorem dX3_swap_75 : decode cX3_swap 75 = .ok (.iadd, 1) := dk_96 (dk_at dksX3_swap_3 3 rfl rfl)
theorem dX3_swap_76 : decode cX3_swap 76 = .ok (.iaload, 1) := dk_46 (dk_at dksX3_swap_3 4 rfl rfl)
theorem dX3_swap_77 : decode cX3_swap 77 = .ok (.ifCond .ne 9, 3) := dk_154 0 9 (dk_at dksX3_swap_3 5 rfl rfl)
theorem dX3_swap_80 : decode cX3_swap 80 = .ok (.aload_n 0, 1) := dk_42 (dk_at dksX3_swap_3 8 rfl rfl)
theorem dX3_swap_81 : decode cX3_swap 81 = .ok (.iconst 2, 1) := dk_5 (dk_at dksX3_swap_3 9 rfl rfl)
theorem dX3_swap_82 : decode cX3_swap 82 = .ok (.invokevirtual 149, 3) := dk_182 0 149 (dk_at dksX3_swap_3 10 rfl rfl)
theorem dX3_swap_85 : decode cX3_swap 85 = .ok (.ireturn, 1) := dk_172 (dk_at dksX3_swap_3 13 rfl rfl)
theorem dX3_swap_86 : decode cX3_swap 86 = .ok (.aload_n 0, 1) := dk_42 (dk_at dksX3_swap_3 14 rfl rfl)
theorem dX3_swap_87 : decode cX3_swap 87 = .ok (.aload_n 0, 1) := dk_42 (dk_at dksX3_swap_3 15 rfl rfl)
theorem dX3_swap_88 : decode cX3_swap 88 = .ok (.getfield 118, 3) := dk_180 0 118 (dk_at dksX3_swap_3 16 rfl rfl)
theorem dX3_swap_91 : decode cX3_swap 91 = .ok (.iconst 3, 1) := dk_6 (dk_at dksX3_swap_3 19 rfl rfl)
theorem dX3_swap_92 : decode cX3_swap 92 = .ok (.iload_n 1, 1) := dk_27 (dk_at dksX3_swap_3 20 rfl rfl)
theorem dX3_swap_93 : decode cX3_swap 93 = .ok (.iload_n 3, 1) := dk_29 (dk_at dksX3_swap_3 21 rfl rfl)
theorem dX3_swap_94 : decode cX3_swap 94 = .ok (.invokevirtual 230, 3) := dk_182 0 230 (dk_at dksX3_swap_4 0 rfl rfl)
theorem dX3_swap_97 : decode cX3_swap 97 = .ok (.aload_n 0, 1) := dk_42 (dk_at dksX3_swap_4 3 rfl rfl)
theorem dX3_swap_98 : decode cX3_swap 98 = .ok (.iconst 3, 1) := dk_6 (dk_at dksX3_swap_4 4 rfl rfl)
theorem dX3_swap_99 : decode cX3_swap 99 = .ok (.aload_n 0, 1) := dk_42 (dk_at dksX3_swap_4 5 rfl rfl)
theorem dX3_swap_100 : decode cX3_swap 100 = .ok (.getfield 118, 3) := dk_180 0 118 (dk_at dksX3_swap_4 6 rfl rfl)
theorem dX3_swap_103 : decode cX3_swap 103 = .ok (.iload_n 2, 1) := dk_28 (dk_at dksX3_swap_4 9 rfl rfl)
theorem dX3_swap_104 : decode cX3_swap 104 = .ok (.iconst 1, 1) := dk_4 (dk_at dksX3_swap_4 10 rfl rfl)
theorem dX3_swap_105 : decode cX3_swap 105 = .ok (.invokevirtual 230, 3) := dk_182 0 230 (dk_at dksX3_swap_4 11 rfl rfl)
theorem dX3_swap_108 : decode cX3_swap 108 = .ok (.aload_n 0, 1) := dk_42 (dk_at dksX3_swap_4 14 rfl rfl)
theorem dX3_swap_109 : decode cX3_swap 109 = .ok (.getfield 22, 3) := dk_180 0 22 (dk_at dksX3_swap_4 15 rfl rfl)
theorem dX3_swap_112 : decode cX3_swap 112 = .ok (.iconst 5, 1) := dk_8 (dk_at dksX3_swap_4 18 rfl rfl)
theorem dX3_swap_113 : decode cX3_swap 113 = .ok (.aload_n 0, 1) := dk_42 (dk_at dksX3_swap_4 19 rfl rfl)
theorem dX3_swap_114 : decode cX3_swap 114 = .ok (.getfield 118, 3) := dk_180 0 118 (dk_at dksX3_swap_4 20 rfl rfl)
theorem dX3_swap_117 : decode cX3_swap 117 = .ok (.imul, 1) := dk_104 (dk_at dksX3_swap_4 23 rfl rfl)
theorem dX3_swap_118 : decode cX3_swap 118 = .ok (.iload_n 2, 1) := dk_28 (dk_at dksX3_swap_5 0 rfl rfl)
theorem dX3_swap_119 : decode cX3_swap 119 = .ok (.iadd, 1) := dk_96 (dk_at dksX3_swap_5 1 rfl rfl)
theorem dX3_swap_120 : decode cX3_swap 120 = .ok (.iaload, 1) := dk_46 (dk_at dksX3_swap_5 2 rfl rfl)
theorem dX3_swap_121 : decode cX3_swap 121 = .ok (.ireturn, 1) := dk_172 (dk_at dksX3_swap_5 3 rfl rfl)
abbrev cX3_rateOf : ByteArray := prog_12_method_63_code
def yX3_rateOf : MethodName := ⟨RX3, "rateOf", "(II)I"⟩
def dkwX3_rateOf_4 : List UInt8 := [132, 4, 1, 167, 255, 164, 29, 172]
abbrev dktX3_rateOf_4 : List UInt8 := dkwX3_rateOf_4 ++ []
def dkwX3_rateOf_3 : List UInt8 := [160, 0, 7, 5, 167, 0, 4, 7, 54, 6, 21, 6, 29, 162, 0, 8, 21, 6, 167, 0, 4, 29, 62]
abbrev dktX3_rateOf_3 : List UInt8 := dkwX3_rateOf_3 ++ dktX3_rateOf_4
def dkwX3_rateOf_2 : List UInt8 := [54, 5, 21, 5, 154, 0, 7, 7, 167, 0, 24, 21, 4, 8, 160, 0, 7, 6, 167, 0, 14, 21, 4, 28]
abbrev dktX3_rateOf_2 : List UInt8 := dkwX3_rateOf_2 ++ dktX3_rateOf_3
def dkwX3_rateOf_1 : List UInt8 := [159, 0, 18, 42, 16, 8, 6, 21, 4, 104, 96, 182, 0, 74, 27, 160, 0, 7, 4, 167, 0, 4, 3]
abbrev dktX3_rateOf_1 : List UInt8 := dkwX3_rateOf_1 ++ dktX3_rateOf_2
def dkwX3_rateOf_0 : List UInt8 := [7, 62, 3, 54, 4, 21, 4, 16, 6, 162, 0, 91, 42, 16, 7, 6, 21, 4, 104, 96, 182, 0, 74, 27]
abbrev dktX3_rateOf_0 : List UInt8 := dkwX3_rateOf_0 ++ dktX3_rateOf_1
theorem dksX3_rateOf_0 : cX3_rateOf.data.toList.drop 0 = dktX3_rateOf_0 := by decide +kernel
theorem dksX3_rateOf_1 : cX3_rateOf.data.toList.drop 24 = dktX3_rateOf_1 := dk_seg dksX3_rateOf_0 24 rfl rfl
theorem dksX3_rateOf_2 : cX3_rateOf.data.toList.drop 47 = dktX3_rateOf_2 := dk_seg dksX3_rateOf_1 23 rfl rfl
theorem dksX3_rateOf_3 : cX3_rateOf.data.toList.drop 71 = dktX3_rateOf_3 := dk_seg dksX3_rateOf_2 24 rfl rfl
theorem dksX3_rateOf_4 : cX3_rateOf.data.toList.drop 94 = dktX3_rateOf_4 := dk_seg dksX3_rateOf_3 23 rfl rfl
theorem dX3_rateOf_0 : decode cX3_rateOf 0 = .ok (.iconst 4, 1) := dk_7 (dk_at dksX3_rateOf_0 0 rfl rfl)
theorem dX3_rateOf_1 : decode cX3_rateOf 1 = .ok (.istore_n 3, 1) := dk_62 (dk_at dksX3_rateOf_0 1 rfl rfl)
theorem dX3_rateOf_2 : decode cX3_rateOf 2 = .ok (.iconst 0, 1) := dk_3 (dk_at dksX3_rateOf_0 2 rfl rfl)
theorem dX3_rateOf_3 : decode cX3_rateOf 3 = .ok (.istore 4, 2) := dk_54 4 (dk_at dksX3_rateOf_0 3 rfl rfl)
theorem dX3_rateOf_5 : decode cX3_rateOf 5 = .ok (.iload 4, 2) := dk_21 4 (dk_at dksX3_rateOf_0 5 rfl rfl)
theorem dX3_rateOf_7 : decode cX3_rateOf 7 = .ok (.bipush 6, 2) := dk_16 6 (dk_at dksX3_rateOf_0 7 rfl rfl)
theorem dX3_rateOf_9 : decode cX3_rateOf 9 = .ok (.if_icmp .ge 91, 3) := dk_162 0 91 (dk_at dksX3_rateOf_0 9 rfl rfl)
theorem dX3_rateOf_12 : decode cX3_rateOf 12 = .ok (.aload_n 0, 1) := dk_42 (dk_at dksX3_rateOf_0 12 rfl rfl)
theorem dX3_rateOf_13 : decode cX3_rateOf 13 = .ok (.bipush 7, 2) := dk_16 7 (dk_at dksX3_rateOf_0 13 rfl rfl)
theorem dX3_rateOf_15 : decode cX3_rateOf 15 = .ok (.iconst 3, 1) := dk_6 (dk_at dksX3_rateOf_0 15 rfl rfl)
theorem dX3_rateOf_16 : decode cX3_rateOf 16 = .ok (.iload 4, 2) := dk_21 4 (dk_at dksX3_rateOf_0 16 rfl rfl)
theorem dX3_rateOf_18 : decode cX3_rateOf 18 = .ok (.imul, 1) := dk_104 (dk_at dksX3_rateOf_0 18 rfl rfl)
theorem dX3_rateOf_19 : decode cX3_rateOf 19 = .ok (.iadd, 1) := dk_96 (dk_at dksX3_rateOf_0 19 rfl rfl)
theorem dX3_rateOf_20 : decode cX3_rateOf 20 = .ok (.invokevirtual 74, 3) := dk_182 0 74 (dk_at dksX3_rateOf_0 20 rfl rfl)
theorem dX3_rateOf_23 : decode cX3_rateOf 23 = .ok (.iload_n 1, 1) := dk_27 (dk_at dksX3_rateOf_0 23 rfl rfl)
theorem dX3_rateOf_24 : decode cX3_rateOf 24 = .ok (.if_icmp .eq 18, 3) := dk_159 0 18 (dk_at dksX3_rateOf_1 0 rfl rfl)
theorem dX3_rateOf_27 : decode cX3_rateOf 27 = .ok (.aload_n 0, 1) := dk_42 (dk_at dksX3_rateOf_1 3 rfl rfl)
theorem dX3_rateOf_28 : decode cX3_rateOf 28 = .ok (.bipush 8, 2) := dk_16 8 (dk_at dksX3_rateOf_1 4 rfl rfl)
theorem dX3_rateOf_30 : decode cX3_rateOf 30 = .ok (.iconst 3, 1) := dk_6 (dk_at dksX3_rateOf_1 6 rfl rfl)
theorem dX3_rateOf_31 : decode cX3_rateOf 31 = .ok (.iload 4, 2) := dk_21 4 (dk_at dksX3_rateOf_1 7 rfl rfl)
theorem dX3_rateOf_33 : decode cX3_rateOf 33 = .ok (.imul, 1) := dk_104 (dk_at dksX3_rateOf_1 9 rfl rfl)
theorem dX3_rateOf_34 : decode cX3_rateOf 34 = .ok (.iadd, 1) := dk_96 (dk_at dksX3_rateOf_1 10 rfl rfl)
theorem dX3_rateOf_35 : decode cX3_rateOf 35 = .ok (.invokevirtual 74, 3) := dk_182 0 74 (dk_at dksX3_rateOf_1 11 rfl rfl)
theorem dX3_rateOf_38 : decode cX3_rateOf 38 = .ok (.iload_n 1, 1) := dk_27 (dk_at dksX3_rateOf_1 14 rfl rfl)
theorem dX3_rateOf_39 : decode cX3_rateOf 39 = .ok (.if_icmp .ne 7, 3) := dk_160 0 7 (dk_at dksX3_rateOf_1 15 rfl rfl)
theorem dX3_rateOf_42 : decode cX3_rateOf 42 = .ok (.iconst 1, 1) := dk_4 (dk_at dksX3_rateOf_1 18 rfl rfl)
theorem dX3_rateOf_43 : decode cX3_rateOf 43 = .ok (.goto 4, 3) := dk_167 0 4 (dk_at dksX3_rateOf_1 19 rfl rfl)
theorem dX3_rateOf_46 : decode cX3_rateOf 46 = .ok (.iconst 0, 1) := dk_3 (dk_at dksX3_rateOf_1 22 rfl rfl)
theorem dX3_rateOf_47 : decode cX3_rateOf 47 = .ok (.istore 5, 2) := dk_54 5 (dk_at dksX3_rateOf_2 0 rfl rfl)
theorem dX3_rateOf_49 : decode cX3_rateOf 49 = .ok (.iload 5, 2) := dk_21 5 (dk_at dksX3_rateOf_2 2 rfl rfl)
theorem dX3_rateOf_51 : decode cX3_rateOf 51 = .ok (.ifCond .ne 7, 3) := dk_154 0 7 (dk_at dksX3_rateOf_2 4 rfl rfl)
theorem dX3_rateOf_54 : decode cX3_rateOf 54 = .ok (.iconst 4, 1) := dk_7 (dk_at dksX3_rateOf_2 7 rfl rfl)
theorem dX3_rateOf_55 : decode cX3_rateOf 55 = .ok (.goto 24, 3) := dk_167 0 24 (dk_at dksX3_rateOf_2 8 rfl rfl)
theorem dX3_rateOf_58 : decode cX3_rateOf 58 = .ok (.iload 4, 2) := dk_21 4 (dk_at dksX3_rateOf_2 11 rfl rfl)
theorem dX3_rateOf_60 : decode cX3_rateOf 60 = .ok (.iconst 5, 1) := dk_8 (dk_at dksX3_rateOf_2 13 rfl rfl)
theorem dX3_rateOf_61 : decode cX3_rateOf 61 = .ok (.if_icmp .ne 7, 3) := dk_160 0 7 (dk_at dksX3_rateOf_2 14 rfl rfl)
theorem dX3_rateOf_64 : decode cX3_rateOf 64 = .ok (.iconst 3, 1) := dk_6 (dk_at dksX3_rateOf_2 17 rfl rfl)
theorem dX3_rateOf_65 : decode cX3_rateOf 65 = .ok (.goto 14, 3) := dk_167 0 14 (dk_at dksX3_rateOf_2 18 rfl rfl)
theorem dX3_rateOf_68 : decode cX3_rateOf 68 = .ok (.iload 4, 2) := dk_21 4 (dk_at dksX3_rateOf_2 21 rfl rfl)
theorem dX3_rateOf_70 : decode cX3_rateOf 70 = .ok (.iload_n 2, 1) := dk_28 (dk_at dksX3_rateOf_2 23 rfl rfl)
theorem dX3_rateOf_71 : decode cX3_rateOf 71 = .ok (.if_icmp .ne 7, 3) := dk_160 0 7 (dk_at dksX3_rateOf_3 0 rfl rfl)
theorem dX3_rateOf_74 : decode cX3_rateOf 74 = .ok (.iconst 2, 1) := dk_5 (dk_at dksX3_rateOf_3 3 rfl rfl)
theorem dX3_rateOf_75 : decode cX3_rateOf 75 = .ok (.goto 4, 3) := dk_167 0 4 (dk_at dksX3_rateOf_3 4 rfl rfl)
theorem dX3_rateOf_78 : decode cX3_rateOf 78 = .ok (.iconst 4, 1) := dk_7 (dk_at dksX3_rateOf_3 7 rfl rfl)
theorem dX3_rateOf_79 : decode cX3_rateOf 79 = .ok (.istore 6, 2) := dk_54 6 (dk_at dksX3_rateOf_3 8 rfl rfl)
theorem dX3_rateOf_81 : decode cX3_rateOf 81 = .ok (.iload 6, 2) := dk_21 6 (dk_at dksX3_rateOf_3 10 rfl rfl)
theorem dX3_rateOf_83 : decode cX3_rateOf 83 = .ok (.iload_n 3, 1) := dk_29 (dk_at dksX3_rateOf_3 12 rfl rfl)
theorem dX3_rateOf_84 : decode cX3_rateOf 84 = .ok (.if_icmp .ge 8, 3) := dk_162 0 8 (dk_at dksX3_rateOf_3 13 rfl rfl)
theorem dX3_rateOf_87 : decode cX3_rateOf 87 = .ok (.iload 6, 2) := dk_21 6 (dk_at dksX3_rateOf_3 16 rfl rfl)
theorem dX3_rateOf_89 : decode cX3_rateOf 89 = .ok (.goto 4, 3) := dk_167 0 4 (dk_at dksX3_rateOf_3 18 rfl rfl)
theorem dX3_rateOf_92 : decode cX3_rateOf 92 = .ok (.iload_n 3, 1) := dk_29 (dk_at dksX3_rateOf_3 21 rfl rfl)
theorem dX3_rateOf_93 : decode cX3_rateOf 93 = .ok (.istore_n 3, 1) := dk_62 (dk_at dksX3_rateOf_3 22 rfl rfl)
theorem dX3_rateOf_94 : decode cX3_rateOf 94 = .ok (.iinc 4 1, 3) := dk_132 4 1 (dk_at dksX3_rateOf_4 0 rfl rfl)
theorem dX3_rateOf_97 : decode cX3_rateOf 97 = .ok (.goto (-92), 3) := dk_167 255 164 (dk_at dksX3_rateOf_4 3 rfl rfl)
theorem dX3_rateOf_100 : decode cX3_rateOf 100 = .ok (.iload_n 3, 1) := dk_29 (dk_at dksX3_rateOf_4 6 rfl rfl)
theorem dX3_rateOf_101 : decode cX3_rateOf 101 = .ok (.ireturn, 1) := dk_172 (dk_at dksX3_rateOf_4 7 rfl rfl)
abbrev cX3_offer : ByteArray := prog_12_method_67_code
def yX3_offer : MethodName := ⟨RX3, "offer", "(II)V"⟩
def dkwX3_offer_2 : List UInt8 := [180, 0, 59, 154, 0, 17, 42, 182, 0, 246, 42, 27, 181, 0, 237, 42, 28, 181, 0, 240, 177]
abbrev dktX3_offer_2 : List UInt8 := dkwX3_offer_2 ++ []
def dkwX3_offer_1 : List UInt8 := [160, 0, 15, 42, 42, 180, 0, 118, 27, 182, 0, 169, 154, 0, 7, 5, 167, 0, 4, 3, 181, 0, 59, 42]
abbrev dktX3_offer_1 : List UInt8 := dkwX3_offer_1 ++ dktX3_offer_2
def dkwX3_offer_0 : List UInt8 := [42, 27, 184, 0, 243, 153, 0, 10, 28, 184, 0, 243, 154, 0, 7, 4, 167, 0, 28, 42, 180, 0, 115, 5]
abbrev dktX3_offer_0 : List UInt8 := dkwX3_offer_0 ++ dktX3_offer_1
theorem dksX3_offer_0 : cX3_offer.data.toList.drop 0 = dktX3_offer_0 := by decide +kernel
theorem dksX3_offer_1 : cX3_offer.data.toList.drop 24 = dktX3_offer_1 := dk_seg dksX3_offer_0 24 rfl rfl
theorem dksX3_offer_2 : cX3_offer.data.toList.drop 48 = dktX3_offer_2 := dk_seg dksX3_offer_1 24 rfl rfl
theorem dX3_offer_0 : decode cX3_offer 0 = .ok (.aload_n 0, 1) := dk_42 (dk_at dksX3_offer_0 0 rfl rfl)
theorem dX3_offer_1 : decode cX3_offer 1 = .ok (.iload_n 1, 1) := dk_27 (dk_at dksX3_offer_0 1 rfl rfl)
theorem dX3_offer_2 : decode cX3_offer 2 = .ok (.invokestatic 243, 3) := dk_184 0 243 (dk_at dksX3_offer_0 2 rfl rfl)
theorem dX3_offer_5 : decode cX3_offer 5 = .ok (.ifCond .eq 10, 3) := dk_153 0 10 (dk_at dksX3_offer_0 5 rfl rfl)
theorem dX3_offer_8 : decode cX3_offer 8 = .ok (.iload_n 2, 1) := dk_28 (dk_at dksX3_offer_0 8 rfl rfl)
theorem dX3_offer_9 : decode cX3_offer 9 = .ok (.invokestatic 243, 3) := dk_184 0 243 (dk_at dksX3_offer_0 9 rfl rfl)
theorem dX3_offer_12 : decode cX3_offer 12 = .ok (.ifCond .ne 7, 3) := dk_154 0 7 (dk_at dksX3_offer_0 12 rfl rfl)
theorem dX3_offer_15 : decode cX3_offer 15 = .ok (.iconst 1, 1) := dk_4 (dk_at dksX3_offer_0 15 rfl rfl)
theorem dX3_offer_16 : decode cX3_offer 16 = .ok (.goto 28, 3) := dk_167 0 28 (dk_at dksX3_offer_0 16 rfl rfl)
theorem dX3_offer_19 : decode cX3_offer 19 = .ok (.aload_n 0, 1) := dk_42 (dk_at dksX3_offer_0 19 rfl rfl)
theorem dX3_offer_20 : decode cX3_offer 20 = .ok (.getfield 115, 3) := dk_180 0 115 (dk_at dksX3_offer_0 20 rfl rfl)
theorem dX3_offer_23 : decode cX3_offer 23 = .ok (.iconst 2, 1) := dk_5 (dk_at dksX3_offer_0 23 rfl rfl)
theorem dX3_offer_24 : decode cX3_offer 24 = .ok (.if_icmp .ne 15, 3) := dk_160 0 15 (dk_at dksX3_offer_1 0 rfl rfl)
theorem dX3_offer_27 : decode cX3_offer 27 = .ok (.aload_n 0, 1) := dk_42 (dk_at dksX3_offer_1 3 rfl rfl)
theorem dX3_offer_28 : decode cX3_offer 28 = .ok (.aload_n 0, 1) := dk_42 (dk_at dksX3_offer_1 4 rfl rfl)
theorem dX3_offer_29 : decode cX3_offer 29 = .ok (.getfield 118, 3) := dk_180 0 118 (dk_at dksX3_offer_1 5 rfl rfl)
theorem dX3_offer_32 : decode cX3_offer 32 = .ok (.iload_n 1, 1) := dk_27 (dk_at dksX3_offer_1 8 rfl rfl)
theorem dX3_offer_33 : decode cX3_offer 33 = .ok (.invokevirtual 169, 3) := dk_182 0 169 (dk_at dksX3_offer_1 9 rfl rfl)
theorem dX3_offer_36 : decode cX3_offer 36 = .ok (.ifCond .ne 7, 3) := dk_154 0 7 (dk_at dksX3_offer_1 12 rfl rfl)
theorem dX3_offer_39 : decode cX3_offer 39 = .ok (.iconst 2, 1) := dk_5 (dk_at dksX3_offer_1 15 rfl rfl)
theorem dX3_offer_40 : decode cX3_offer 40 = .ok (.goto 4, 3) := dk_167 0 4 (dk_at dksX3_offer_1 16 rfl rfl)
theorem dX3_offer_43 : decode cX3_offer 43 = .ok (.iconst 0, 1) := dk_3 (dk_at dksX3_offer_1 19 rfl rfl)
theorem dX3_offer_44 : decode cX3_offer 44 = .ok (.putfield 59, 3) := dk_181 0 59 (dk_at dksX3_offer_1 20 rfl rfl)
theorem dX3_offer_47 : decode cX3_offer 47 = .ok (.aload_n 0, 1) := dk_42 (dk_at dksX3_offer_1 23 rfl rfl)
theorem dX3_offer_48 : decode cX3_offer 48 = .ok (.getfield 59, 3) := dk_180 0 59 (dk_at dksX3_offer_2 0 rfl rfl)
theorem dX3_offer_51 : decode cX3_offer 51 = .ok (.ifCond .ne 17, 3) := dk_154 0 17 (dk_at dksX3_offer_2 3 rfl rfl)
theorem dX3_offer_54 : decode cX3_offer 54 = .ok (.aload_n 0, 1) := dk_42 (dk_at dksX3_offer_2 6 rfl rfl)
theorem dX3_offer_55 : decode cX3_offer 55 = .ok (.invokevirtual 246, 3) := dk_182 0 246 (dk_at dksX3_offer_2 7 rfl rfl)
theorem dX3_offer_58 : decode cX3_offer 58 = .ok (.aload_n 0, 1) := dk_42 (dk_at dksX3_offer_2 10 rfl rfl)
theorem dX3_offer_59 : decode cX3_offer 59 = .ok (.iload_n 1, 1) := dk_27 (dk_at dksX3_offer_2 11 rfl rfl)
theorem dX3_offer_60 : decode cX3_offer 60 = .ok (.putfield 237, 3) := dk_181 0 237 (dk_at dksX3_offer_2 12 rfl rfl)
theorem dX3_offer_63 : decode cX3_offer 63 = .ok (.aload_n 0, 1) := dk_42 (dk_at dksX3_offer_2 15 rfl rfl)
theorem dX3_offer_64 : decode cX3_offer 64 = .ok (.iload_n 2, 1) := dk_28 (dk_at dksX3_offer_2 16 rfl rfl)
theorem dX3_offer_65 : decode cX3_offer 65 = .ok (.putfield 240, 3) := dk_181 0 240 (dk_at dksX3_offer_2 17 rfl rfl)
theorem dX3_offer_68 : decode cX3_offer 68 = .ok (.return_, 1) := dk_177 (dk_at dksX3_offer_2 20 rfl rfl)
abbrev cX3_isSome : ByteArray := prog_12_method_66_code
def yX3_isSome : MethodName := ⟨RX3, "isSome", "(I)Z"⟩
def dkwX3_isSome_0 : List UInt8 := [26, 158, 0, 13, 26, 18, 62, 163, 0, 7, 4, 167, 0, 4, 3, 172]
abbrev dktX3_isSome_0 : List UInt8 := dkwX3_isSome_0 ++ []
theorem dksX3_isSome_0 : cX3_isSome.data.toList.drop 0 = dktX3_isSome_0 := by decide +kernel
theorem dX3_isSome_0 : decode cX3_isSome 0 = .ok (.iload_n 0, 1) := dk_26 (dk_at dksX3_isSome_0 0 rfl rfl)
theorem dX3_isSome_1 : decode cX3_isSome 1 = .ok (.ifCond .le 13, 3) := dk_158 0 13 (dk_at dksX3_isSome_0 1 rfl rfl)
theorem dX3_isSome_4 : decode cX3_isSome 4 = .ok (.iload_n 0, 1) := dk_26 (dk_at dksX3_isSome_0 4 rfl rfl)
theorem dX3_isSome_5 : decode cX3_isSome 5 = .ok (.ldc 62, 2) := dk_18 62 (dk_at dksX3_isSome_0 5 rfl rfl)
theorem dX3_isSome_7 : decode cX3_isSome 7 = .ok (.if_icmp .gt 7, 3) := dk_163 0 7 (dk_at dksX3_isSome_0 7 rfl rfl)
theorem dX3_isSome_10 : decode cX3_isSome 10 = .ok (.iconst 1, 1) := dk_4 (dk_at dksX3_isSome_0 10 rfl rfl)
theorem dX3_isSome_11 : decode cX3_isSome 11 = .ok (.goto 4, 3) := dk_167 0 4 (dk_at dksX3_isSome_0 11 rfl rfl)
theorem dX3_isSome_14 : decode cX3_isSome 14 = .ok (.iconst 0, 1) := dk_3 (dk_at dksX3_isSome_0 14 rfl rfl)
theorem dX3_isSome_15 : decode cX3_isSome 15 = .ok (.ireturn, 1) := dk_172 (dk_at dksX3_isSome_0 15 rfl rfl)
abbrev cX3_endsOffers : ByteArray := prog_12_method_65_code
def yX3_endsOffers : MethodName := ⟨RX3, "endsOffers", "()V"⟩
def dkwX3_endsOffers_1 : List UInt8 := [42, 180, 0, 47, 27, 3, 79, 132, 1, 1, 167, 255, 234, 177]
abbrev dktX3_endsOffers_1 : List UInt8 := dkwX3_endsOffers_1 ++ []
def dkwX3_endsOffers_0 : List UInt8 := [42, 3, 181, 0, 237, 42, 3, 181, 0, 240, 3, 60, 27, 6, 162, 0, 23, 42, 180, 0, 44, 27, 3, 79]
abbrev dktX3_endsOffers_0 : List UInt8 := dkwX3_endsOffers_0 ++ dktX3_endsOffers_1
theorem dksX3_endsOffers_0 : cX3_endsOffers.data.toList.drop 0 = dktX3_endsOffers_0 := by decide +kernel
theorem dksX3_endsOffers_1 : cX3_endsOffers.data.toList.drop 24 = dktX3_endsOffers_1 := dk_seg dksX3_endsOffers_0 24 rfl rfl
theorem dX3_endsOffers_0 : decode cX3_endsOffers 0 = .ok (.aload_n 0, 1) := dk_42 (dk_at dksX3_endsOffers_0 0 rfl rfl)
theorem dX3_endsOffers_1 : decode cX3_endsOffers 1 = .ok (.iconst 0, 1) := dk_3 (dk_at dksX3_endsOffers_0 1 rfl rfl)
theorem dX3_endsOffers_2 : decode cX3_endsOffers 2 = .ok (.putfield 237, 3) := dk_181 0 237 (dk_at dksX3_endsOffers_0 2 rfl rfl)
theorem dX3_endsOffers_5 : decode cX3_endsOffers 5 = .ok (.aload_n 0, 1) := dk_42 (dk_at dksX3_endsOffers_0 5 rfl rfl)
theorem dX3_endsOffers_6 : decode cX3_endsOffers 6 = .ok (.iconst 0, 1) := dk_3 (dk_at dksX3_endsOffers_0 6 rfl rfl)
theorem dX3_endsOffers_7 : decode cX3_endsOffers 7 = .ok (.putfield 240, 3) := dk_181 0 240 (dk_at dksX3_endsOffers_0 7 rfl rfl)
theorem dX3_endsOffers_10 : decode cX3_endsOffers 10 = .ok (.iconst 0, 1) := dk_3 (dk_at dksX3_endsOffers_0 10 rfl rfl)
theorem dX3_endsOffers_11 : decode cX3_endsOffers 11 = .ok (.istore_n 1, 1) := dk_60 (dk_at dksX3_endsOffers_0 11 rfl rfl)
theorem dX3_endsOffers_12 : decode cX3_endsOffers 12 = .ok (.iload_n 1, 1) := dk_27 (dk_at dksX3_endsOffers_0 12 rfl rfl)
theorem dX3_endsOffers_13 : decode cX3_endsOffers 13 = .ok (.iconst 3, 1) := dk_6 (dk_at dksX3_endsOffers_0 13 rfl rfl)
theorem dX3_endsOffers_14 : decode cX3_endsOffers 14 = .ok (.if_icmp .ge 23, 3) := dk_162 0 23 (dk_at dksX3_endsOffers_0 14 rfl rfl)
theorem dX3_endsOffers_17 : decode cX3_endsOffers 17 = .ok (.aload_n 0, 1) := dk_42 (dk_at dksX3_endsOffers_0 17 rfl rfl)
theorem dX3_endsOffers_18 : decode cX3_endsOffers 18 = .ok (.getfield 44, 3) := dk_180 0 44 (dk_at dksX3_endsOffers_0 18 rfl rfl)
theorem dX3_endsOffers_21 : decode cX3_endsOffers 21 = .ok (.iload_n 1, 1) := dk_27 (dk_at dksX3_endsOffers_0 21 rfl rfl)
theorem dX3_endsOffers_22 : decode cX3_endsOffers 22 = .ok (.iconst 0, 1) := dk_3 (dk_at dksX3_endsOffers_0 22 rfl rfl)
theorem dX3_endsOffers_23 : decode cX3_endsOffers 23 = .ok (.iastore, 1) := dk_79 (dk_at dksX3_endsOffers_0 23 rfl rfl)
theorem dX3_endsOffers_24 : decode cX3_endsOffers 24 = .ok (.aload_n 0, 1) := dk_42 (dk_at dksX3_endsOffers_1 0 rfl rfl)
theorem dX3_endsOffers_25 : decode cX3_endsOffers 25 = .ok (.getfield 47, 3) := dk_180 0 47 (dk_at dksX3_endsOffers_1 1 rfl rfl)
theorem dX3_endsOffers_28 : decode cX3_endsOffers 28 = .ok (.iload_n 1, 1) := dk_27 (dk_at dksX3_endsOffers_1 4 rfl rfl)
theorem dX3_endsOffers_29 : decode cX3_endsOffers 29 = .ok (.iconst 0, 1) := dk_3 (dk_at dksX3_endsOffers_1 5 rfl rfl)
theorem dX3_endsOffers_30 : decode cX3_endsOffers 30 = .ok (.iastore, 1) := dk_79 (dk_at dksX3_endsOffers_1 6 rfl rfl)
theorem dX3_endsOffers_31 : decode cX3_endsOffers 31 = .ok (.iinc 1 1, 3) := dk_132 1 1 (dk_at dksX3_endsOffers_1 7 rfl rfl)
theorem dX3_endsOffers_34 : decode cX3_endsOffers 34 = .ok (.goto (-22), 3) := dk_167 255 234 (dk_at dksX3_endsOffers_1 10 rfl rfl)
theorem dX3_endsOffers_37 : decode cX3_endsOffers 37 = .ok (.return_, 1) := dk_177 (dk_at dksX3_endsOffers_1 13 rfl rfl)
abbrev cX3_counter : ByteArray := prog_12_method_68_code
def yX3_counter : MethodName := ⟨RX3, "counter", "(III)V"⟩
def dkwX3_counter_3 : List UInt8 := [180, 0, 59, 154, 0, 17, 42, 180, 0, 44, 27, 28, 79, 42, 180, 0, 47, 27, 29, 79, 177]
abbrev dktX3_counter_3 : List UInt8 := dkwX3_counter_3 ++ []
def dkwX3_counter_2 : List UInt8 := [180, 0, 118, 159, 0, 12, 42, 27, 28, 182, 0, 169, 154, 0, 7, 6, 167, 0, 4, 3, 181, 0, 59, 42]
abbrev dktX3_counter_2 : List UInt8 := dkwX3_counter_2 ++ dktX3_counter_3
def dkwX3_counter_1 : List UInt8 := [154, 0, 7, 5, 167, 0, 40, 42, 180, 0, 115, 5, 160, 0, 27, 42, 180, 0, 237, 153, 0, 20, 27, 42]
abbrev dktX3_counter_1 : List UInt8 := dkwX3_counter_1 ++ dktX3_counter_2
def dkwX3_counter_0 : List UInt8 := [42, 27, 184, 0, 159, 154, 0, 7, 4, 167, 0, 58, 28, 184, 0, 243, 153, 0, 10, 29, 184, 0, 243]
abbrev dktX3_counter_0 : List UInt8 := dkwX3_counter_0 ++ dktX3_counter_1
theorem dksX3_counter_0 : cX3_counter.data.toList.drop 0 = dktX3_counter_0 := by decide +kernel
theorem dksX3_counter_1 : cX3_counter.data.toList.drop 23 = dktX3_counter_1 := dk_seg dksX3_counter_0 23 rfl rfl
theorem dksX3_counter_2 : cX3_counter.data.toList.drop 47 = dktX3_counter_2 := dk_seg dksX3_counter_1 24 rfl rfl
theorem dksX3_counter_3 : cX3_counter.data.toList.drop 71 = dktX3_counter_3 := dk_seg dksX3_counter_2 24 rfl rfl
theorem dX3_counter_0 : decode cX3_counter 0 = .ok (.aload_n 0, 1) := dk_42 (dk_at dksX3_counter_0 0 rfl rfl)
theorem dX3_counter_1 : decode cX3_counter 1 = .ok (.iload_n 1, 1) := dk_27 (dk_at dksX3_counter_0 1 rfl rfl)
theorem dX3_counter_2 : decode cX3_counter 2 = .ok (.invokestatic 159, 3) := dk_184 0 159 (dk_at dksX3_counter_0 2 rfl rfl)
theorem dX3_counter_5 : decode cX3_counter 5 = .ok (.ifCond .ne 7, 3) := dk_154 0 7 (dk_at dksX3_counter_0 5 rfl rfl)
theorem dX3_counter_8 : decode cX3_counter 8 = .ok (.iconst 1, 1) := dk_4 (dk_at dksX3_counter_0 8 rfl rfl)
theorem dX3_counter_9 : decode cX3_counter 9 = .ok (.goto 58, 3) := dk_167 0 58 (dk_at dksX3_counter_0 9 rfl rfl)
theorem dX3_counter_12 : decode cX3_counter 12 = .ok (.iload_n 2, 1) := dk_28 (dk_at dksX3_counter_0 12 rfl rfl)
theorem dX3_counter_13 : decode cX3_counter 13 = .ok (.invokestatic 243, 3) := dk_184 0 243 (dk_at dksX3_counter_0 13 rfl rfl)
theorem dX3_counter_16 : decode cX3_counter 16 = .ok (.ifCond .eq 10, 3) := dk_153 0 10 (dk_at dksX3_counter_0 16 rfl rfl)
theorem dX3_counter_19 : decode cX3_counter 19 = .ok (.iload_n 3, 1) := dk_29 (dk_at dksX3_counter_0 19 rfl rfl)
theorem dX3_counter_20 : decode cX3_counter 20 = .ok (.invokestatic 243, 3) := dk_184 0 243 (dk_at dksX3_counter_0 20 rfl rfl)
theorem dX3_counter_23 : decode cX3_counter 23 = .ok (.ifCond .ne 7, 3) := dk_154 0 7 (dk_at dksX3_counter_1 0 rfl rfl)
theorem dX3_counter_26 : decode cX3_counter 26 = .ok (.iconst 2, 1) := dk_5 (dk_at dksX3_counter_1 3 rfl rfl)
theorem dX3_counter_27 : decode cX3_counter 27 = .ok (.goto 40, 3) := dk_167 0 40 (dk_at dksX3_counter_1 4 rfl rfl)
theorem dX3_counter_30 : decode cX3_counter 30 = .ok (.aload_n 0, 1) := dk_42 (dk_at dksX3_counter_1 7 rfl rfl)
theorem dX3_counter_31 : decode cX3_counter 31 = .ok (.getfield 115, 3) := dk_180 0 115 (dk_at dksX3_counter_1 8 rfl rfl)
theorem dX3_counter_34 : decode cX3_counter 34 = .ok (.iconst 2, 1) := dk_5 (dk_at dksX3_counter_1 11 rfl rfl)
theorem dX3_counter_35 : decode cX3_counter 35 = .ok (.if_icmp .ne 27, 3) := dk_160 0 27 (dk_at dksX3_counter_1 12 rfl rfl)
theorem dX3_counter_38 : decode cX3_counter 38 = .ok (.aload_n 0, 1) := dk_42 (dk_at dksX3_counter_1 15 rfl rfl)
theorem dX3_counter_39 : decode cX3_counter 39 = .ok (.getfield 237, 3) := dk_180 0 237 (dk_at dksX3_counter_1 16 rfl rfl)
theorem dX3_counter_42 : decode cX3_counter 42 = .ok (.ifCond .eq 20, 3) := dk_153 0 20 (dk_at dksX3_counter_1 19 rfl rfl)
theorem dX3_counter_45 : decode cX3_counter 45 = .ok (.iload_n 1, 1) := dk_27 (dk_at dksX3_counter_1 22 rfl rfl)
theorem dX3_counter_46 : decode cX3_counter 46 = .ok (.aload_n 0, 1) := dk_42 (dk_at dksX3_counter_1 23 rfl rfl)
theorem dX3_counter_47 : decode cX3_counter 47 = .ok (.getfield 118, 3) := dk_180 0 118 (dk_at dksX3_counter_2 0 rfl rfl)
theorem dX3_counter_50 : decode cX3_counter 50 = .ok (.if_icmp .eq 12, 3) := dk_159 0 12 (dk_at dksX3_counter_2 3 rfl rfl)
theorem dX3_counter_53 : decode cX3_counter 53 = .ok (.aload_n 0, 1) := dk_42 (dk_at dksX3_counter_2 6 rfl rfl)
theorem dX3_counter_54 : decode cX3_counter 54 = .ok (.iload_n 1, 1) := dk_27 (dk_at dksX3_counter_2 7 rfl rfl)
theorem dX3_counter_55 : decode cX3_counter 55 = .ok (.iload_n 2, 1) := dk_28 (dk_at dksX3_counter_2 8 rfl rfl)
theorem dX3_counter_56 : decode cX3_counter 56 = .ok (.invokevirtual 169, 3) := dk_182 0 169 (dk_at dksX3_counter_2 9 rfl rfl)
theorem dX3_counter_59 : decode cX3_counter 59 = .ok (.ifCond .ne 7, 3) := dk_154 0 7 (dk_at dksX3_counter_2 12 rfl rfl)
theorem dX3_counter_62 : decode cX3_counter 62 = .ok (.iconst 3, 1) := dk_6 (dk_at dksX3_counter_2 15 rfl rfl)
theorem dX3_counter_63 : decode cX3_counter 63 = .ok (.goto 4, 3) := dk_167 0 4 (dk_at dksX3_counter_2 16 rfl rfl)
theorem dX3_counter_66 : decode cX3_counter 66 = .ok (.iconst 0, 1) := dk_3 (dk_at dksX3_counter_2 19 rfl rfl)
theorem dX3_counter_67 : decode cX3_counter 67 = .ok (.putfield 59, 3) := dk_181 0 59 (dk_at dksX3_counter_2 20 rfl rfl)
theorem dX3_counter_70 : decode cX3_counter 70 = .ok (.aload_n 0, 1) := dk_42 (dk_at dksX3_counter_2 23 rfl rfl)
theorem dX3_counter_71 : decode cX3_counter 71 = .ok (.getfield 59, 3) := dk_180 0 59 (dk_at dksX3_counter_3 0 rfl rfl)
theorem dX3_counter_74 : decode cX3_counter 74 = .ok (.ifCond .ne 17, 3) := dk_154 0 17 (dk_at dksX3_counter_3 3 rfl rfl)
theorem dX3_counter_77 : decode cX3_counter 77 = .ok (.aload_n 0, 1) := dk_42 (dk_at dksX3_counter_3 6 rfl rfl)
theorem dX3_counter_78 : decode cX3_counter 78 = .ok (.getfield 44, 3) := dk_180 0 44 (dk_at dksX3_counter_3 7 rfl rfl)
theorem dX3_counter_81 : decode cX3_counter 81 = .ok (.iload_n 1, 1) := dk_27 (dk_at dksX3_counter_3 10 rfl rfl)
theorem dX3_counter_82 : decode cX3_counter 82 = .ok (.iload_n 2, 1) := dk_28 (dk_at dksX3_counter_3 11 rfl rfl)
theorem dX3_counter_83 : decode cX3_counter 83 = .ok (.iastore, 1) := dk_79 (dk_at dksX3_counter_3 12 rfl rfl)
theorem dX3_counter_84 : decode cX3_counter 84 = .ok (.aload_n 0, 1) := dk_42 (dk_at dksX3_counter_3 13 rfl rfl)
theorem dX3_counter_85 : decode cX3_counter 85 = .ok (.getfield 47, 3) := dk_180 0 47 (dk_at dksX3_counter_3 14 rfl rfl)
theorem dX3_counter_88 : decode cX3_counter 88 = .ok (.iload_n 1, 1) := dk_27 (dk_at dksX3_counter_3 17 rfl rfl)
theorem dX3_counter_89 : decode cX3_counter 89 = .ok (.iload_n 3, 1) := dk_29 (dk_at dksX3_counter_3 18 rfl rfl)
theorem dX3_counter_90 : decode cX3_counter 90 = .ok (.iastore, 1) := dk_79 (dk_at dksX3_counter_3 19 rfl rfl)
theorem dX3_counter_91 : decode cX3_counter 91 = .ok (.return_, 1) := dk_177 (dk_at dksX3_counter_3 20 rfl rfl)
abbrev cX3_accept : ByteArray := prog_12_method_69_code
def yX3_accept : MethodName := ⟨RX3, "accept", "(I)I"⟩
def dkwX3_accept_4 : List UInt8 := [182, 0, 172, 42, 182, 0, 246, 42, 27, 182, 0, 175, 172]
abbrev dktX3_accept_4 : List UInt8 := dkwX3_accept_4 ++ []
def dkwX3_accept_3 : List UInt8 := [42, 42, 180, 0, 118, 27, 42, 180, 0, 237, 182, 0, 172, 42, 27, 42, 180, 0, 118, 42, 180, 0, 240]
abbrev dktX3_accept_3 : List UInt8 := dkwX3_accept_3 ++ dktX3_accept_4
def dkwX3_accept_2 : List UInt8 := [182, 0, 169, 153, 0, 15, 42, 27, 42, 180, 0, 240, 182, 0, 169, 154, 0, 9, 42, 5, 182, 0, 149, 172]
abbrev dktX3_accept_2 : List UInt8 := dkwX3_accept_2 ++ dktX3_accept_3
def dkwX3_accept_1 : List UInt8 := [180, 0, 237, 153, 0, 38, 27, 42, 180, 0, 118, 159, 0, 30, 42, 42, 180, 0, 118, 42, 180, 0, 237]
abbrev dktX3_accept_1 : List UInt8 := dkwX3_accept_1 ++ dktX3_accept_2
def dkwX3_accept_0 : List UInt8 := [42, 27, 184, 0, 159, 182, 0, 127, 154, 0, 5, 3, 172, 42, 180, 0, 115, 5, 160, 0, 45, 42]
abbrev dktX3_accept_0 : List UInt8 := dkwX3_accept_0 ++ dktX3_accept_1
theorem dksX3_accept_0 : cX3_accept.data.toList.drop 0 = dktX3_accept_0 := by decide +kernel
theorem dksX3_accept_1 : cX3_accept.data.toList.drop 22 = dktX3_accept_1 := dk_seg dksX3_accept_0 22 rfl rfl
theorem dksX3_accept_2 : cX3_accept.data.toList.drop 45 = dktX3_accept_2 := dk_seg dksX3_accept_1 23 rfl rfl
theorem dksX3_accept_3 : cX3_accept.data.toList.drop 69 = dktX3_accept_3 := dk_seg dksX3_accept_2 24 rfl rfl
theorem dksX3_accept_4 : cX3_accept.data.toList.drop 92 = dktX3_accept_4 := dk_seg dksX3_accept_3 23 rfl rfl
theorem dX3_accept_0 : decode cX3_accept 0 = .ok (.aload_n 0, 1) := dk_42 (dk_at dksX3_accept_0 0 rfl rfl)
theorem dX3_accept_1 : decode cX3_accept 1 = .ok (.iload_n 1, 1) := dk_27 (dk_at dksX3_accept_0 1 rfl rfl)
theorem dX3_accept_2 : decode cX3_accept 2 = .ok (.invokestatic 159, 3) := dk_184 0 159 (dk_at dksX3_accept_0 2 rfl rfl)
theorem dX3_accept_5 : decode cX3_accept 5 = .ok (.invokevirtual 127, 3) := dk_182 0 127 (dk_at dksX3_accept_0 5 rfl rfl)
theorem dX3_accept_8 : decode cX3_accept 8 = .ok (.ifCond .ne 5, 3) := dk_154 0 5 (dk_at dksX3_accept_0 8 rfl rfl)
theorem dX3_accept_11 : decode cX3_accept 11 = .ok (.iconst 0, 1) := dk_3 (dk_at dksX3_accept_0 11 rfl rfl)
theorem dX3_accept_12 : decode cX3_accept 12 = .ok (.ireturn, 1) := dk_172 (dk_at dksX3_accept_0 12 rfl rfl)
theorem dX3_accept_13 : decode cX3_accept 13 = .ok (.aload_n 0, 1) := dk_42 (dk_at dksX3_accept_0 13 rfl rfl)
theorem dX3_accept_14 : decode cX3_accept 14 = .ok (.getfield 115, 3) := dk_180 0 115 (dk_at dksX3_accept_0 14 rfl rfl)
theorem dX3_accept_17 : decode cX3_accept 17 = .ok (.iconst 2, 1) := dk_5 (dk_at dksX3_accept_0 17 rfl rfl)
theorem dX3_accept_18 : decode cX3_accept 18 = .ok (.if_icmp .ne 45, 3) := dk_160 0 45 (dk_at dksX3_accept_0 18 rfl rfl)
theorem dX3_accept_21 : decode cX3_accept 21 = .ok (.aload_n 0, 1) := dk_42 (dk_at dksX3_accept_0 21 rfl rfl)
theorem dX3_accept_22 : decode cX3_accept 22 = .ok (.getfield 237, 3) := dk_180 0 237 (dk_at dksX3_accept_1 0 rfl rfl)
theorem dX3_accept_25 : decode cX3_accept 25 = .ok (.ifCond .eq 38, 3) := dk_153 0 38 (dk_at dksX3_accept_1 3 rfl rfl)
theorem dX3_accept_28 : decode cX3_accept 28 = .ok (.iload_n 1, 1) := dk_27 (dk_at dksX3_accept_1 6 rfl rfl)
theorem dX3_accept_29 : decode cX3_accept 29 = .ok (.aload_n 0, 1) := dk_42 (dk_at dksX3_accept_1 7 rfl rfl)
theorem dX3_accept_30 : decode cX3_accept 30 = .ok (.getfield 118, 3) := dk_180 0 118 (dk_at dksX3_accept_1 8 rfl rfl)
theorem dX3_accept_33 : decode cX3_accept 33 = .ok (.if_icmp .eq 30, 3) := dk_159 0 30 (dk_at dksX3_accept_1 11 rfl rfl)
theorem dX3_accept_36 : decode cX3_accept 36 = .ok (.aload_n 0, 1) := dk_42 (dk_at dksX3_accept_1 14 rfl rfl)
theorem dX3_accept_37 : decode cX3_accept 37 = .ok (.aload_n 0, 1) := dk_42 (dk_at dksX3_accept_1 15 rfl rfl)
theorem dX3_accept_38 : decode cX3_accept 38 = .ok (.getfield 118, 3) := dk_180 0 118 (dk_at dksX3_accept_1 16 rfl rfl)
theorem dX3_accept_41 : decode cX3_accept 41 = .ok (.aload_n 0, 1) := dk_42 (dk_at dksX3_accept_1 19 rfl rfl)
theorem dX3_accept_42 : decode cX3_accept 42 = .ok (.getfield 237, 3) := dk_180 0 237 (dk_at dksX3_accept_1 20 rfl rfl)
theorem dX3_accept_45 : decode cX3_accept 45 = .ok (.invokevirtual 169, 3) := dk_182 0 169 (dk_at dksX3_accept_2 0 rfl rfl)
theorem dX3_accept_48 : decode cX3_accept 48 = .ok (.ifCond .eq 15, 3) := dk_153 0 15 (dk_at dksX3_accept_2 3 rfl rfl)
theorem dX3_accept_51 : decode cX3_accept 51 = .ok (.aload_n 0, 1) := dk_42 (dk_at dksX3_accept_2 6 rfl rfl)
theorem dX3_accept_52 : decode cX3_accept 52 = .ok (.iload_n 1, 1) := dk_27 (dk_at dksX3_accept_2 7 rfl rfl)
theorem dX3_accept_53 : decode cX3_accept 53 = .ok (.aload_n 0, 1) := dk_42 (dk_at dksX3_accept_2 8 rfl rfl)
theorem dX3_accept_54 : decode cX3_accept 54 = .ok (.getfield 240, 3) := dk_180 0 240 (dk_at dksX3_accept_2 9 rfl rfl)
theorem dX3_accept_57 : decode cX3_accept 57 = .ok (.invokevirtual 169, 3) := dk_182 0 169 (dk_at dksX3_accept_2 12 rfl rfl)
theorem dX3_accept_60 : decode cX3_accept 60 = .ok (.ifCond .ne 9, 3) := dk_154 0 9 (dk_at dksX3_accept_2 15 rfl rfl)
theorem dX3_accept_63 : decode cX3_accept 63 = .ok (.aload_n 0, 1) := dk_42 (dk_at dksX3_accept_2 18 rfl rfl)
theorem dX3_accept_64 : decode cX3_accept 64 = .ok (.iconst 2, 1) := dk_5 (dk_at dksX3_accept_2 19 rfl rfl)
theorem dX3_accept_65 : decode cX3_accept 65 = .ok (.invokevirtual 149, 3) := dk_182 0 149 (dk_at dksX3_accept_2 20 rfl rfl)
theorem dX3_accept_68 : decode cX3_accept 68 = .ok (.ireturn, 1) := dk_172 (dk_at dksX3_accept_2 23 rfl rfl)
theorem dX3_accept_69 : decode cX3_accept 69 = .ok (.aload_n 0, 1) := dk_42 (dk_at dksX3_accept_3 0 rfl rfl)
theorem dX3_accept_70 : decode cX3_accept 70 = .ok (.aload_n 0, 1) := dk_42 (dk_at dksX3_accept_3 1 rfl rfl)
theorem dX3_accept_71 : decode cX3_accept 71 = .ok (.getfield 118, 3) := dk_180 0 118 (dk_at dksX3_accept_3 2 rfl rfl)
theorem dX3_accept_74 : decode cX3_accept 74 = .ok (.iload_n 1, 1) := dk_27 (dk_at dksX3_accept_3 5 rfl rfl)
theorem dX3_accept_75 : decode cX3_accept 75 = .ok (.aload_n 0, 1) := dk_42 (dk_at dksX3_accept_3 6 rfl rfl)
theorem dX3_accept_76 : decode cX3_accept 76 = .ok (.getfield 237, 3) := dk_180 0 237 (dk_at dksX3_accept_3 7 rfl rfl)
theorem dX3_accept_79 : decode cX3_accept 79 = .ok (.invokevirtual 172, 3) := dk_182 0 172 (dk_at dksX3_accept_3 10 rfl rfl)
theorem dX3_accept_82 : decode cX3_accept 82 = .ok (.aload_n 0, 1) := dk_42 (dk_at dksX3_accept_3 13 rfl rfl)
theorem dX3_accept_83 : decode cX3_accept 83 = .ok (.iload_n 1, 1) := dk_27 (dk_at dksX3_accept_3 14 rfl rfl)
theorem dX3_accept_84 : decode cX3_accept 84 = .ok (.aload_n 0, 1) := dk_42 (dk_at dksX3_accept_3 15 rfl rfl)
theorem dX3_accept_85 : decode cX3_accept 85 = .ok (.getfield 118, 3) := dk_180 0 118 (dk_at dksX3_accept_3 16 rfl rfl)
theorem dX3_accept_88 : decode cX3_accept 88 = .ok (.aload_n 0, 1) := dk_42 (dk_at dksX3_accept_3 19 rfl rfl)
theorem dX3_accept_89 : decode cX3_accept 89 = .ok (.getfield 240, 3) := dk_180 0 240 (dk_at dksX3_accept_3 20 rfl rfl)
theorem dX3_accept_92 : decode cX3_accept 92 = .ok (.invokevirtual 172, 3) := dk_182 0 172 (dk_at dksX3_accept_4 0 rfl rfl)
theorem dX3_accept_95 : decode cX3_accept 95 = .ok (.aload_n 0, 1) := dk_42 (dk_at dksX3_accept_4 3 rfl rfl)
theorem dX3_accept_96 : decode cX3_accept 96 = .ok (.invokevirtual 246, 3) := dk_182 0 246 (dk_at dksX3_accept_4 4 rfl rfl)
theorem dX3_accept_99 : decode cX3_accept 99 = .ok (.aload_n 0, 1) := dk_42 (dk_at dksX3_accept_4 7 rfl rfl)
theorem dX3_accept_100 : decode cX3_accept 100 = .ok (.iload_n 1, 1) := dk_27 (dk_at dksX3_accept_4 8 rfl rfl)
theorem dX3_accept_101 : decode cX3_accept 101 = .ok (.invokevirtual 175, 3) := dk_182 0 175 (dk_at dksX3_accept_4 9 rfl rfl)
theorem dX3_accept_104 : decode cX3_accept 104 = .ok (.ireturn, 1) := dk_172 (dk_at dksX3_accept_4 12 rfl rfl)
abbrev cX3_agree : ByteArray := prog_12_method_70_code
def yX3_agree : MethodName := ⟨RX3, "agree", "(I)I"⟩
def dkwX3_agree_4 : List UInt8 := [42, 180, 0, 118, 27, 29, 182, 0, 172, 42, 182, 0, 246, 42, 42, 180, 0, 118, 182, 0, 175, 172]
abbrev dktX3_agree_4 : List UInt8 := dkwX3_agree_4 ++ []
def dkwX3_agree_3 : List UInt8 := [180, 0, 44, 27, 46, 61, 42, 180, 0, 47, 27, 46, 62, 42, 27, 42, 180, 0, 118, 28, 182, 0, 172, 42]
abbrev dktX3_agree_3 : List UInt8 := dkwX3_agree_3 ++ dktX3_agree_4
def dkwX3_agree_2 : List UInt8 := [180, 0, 118, 42, 180, 0, 47, 27, 46, 182, 0, 169, 154, 0, 9, 42, 5, 182, 0, 149, 172, 42]
abbrev dktX3_agree_2 : List UInt8 := dkwX3_agree_2 ++ dktX3_agree_3
def dkwX3_agree_1 : List UInt8 := [180, 0, 44, 27, 46, 153, 0, 34, 42, 27, 42, 180, 0, 44, 27, 46, 182, 0, 169, 153, 0, 20, 42, 42]
abbrev dktX3_agree_1 : List UInt8 := dkwX3_agree_1 ++ dktX3_agree_2
def dkwX3_agree_0 : List UInt8 := [42, 27, 184, 0, 159, 182, 0, 127, 154, 0, 5, 3, 172, 42, 180, 0, 115, 5, 160, 0, 43, 42]
abbrev dktX3_agree_0 : List UInt8 := dkwX3_agree_0 ++ dktX3_agree_1
theorem dksX3_agree_0 : cX3_agree.data.toList.drop 0 = dktX3_agree_0 := by decide +kernel
theorem dksX3_agree_1 : cX3_agree.data.toList.drop 22 = dktX3_agree_1 := dk_seg dksX3_agree_0 22 rfl rfl
theorem dksX3_agree_2 : cX3_agree.data.toList.drop 46 = dktX3_agree_2 := dk_seg dksX3_agree_1 24 rfl rfl
theorem dksX3_agree_3 : cX3_agree.data.toList.drop 68 = dktX3_agree_3 := dk_seg dksX3_agree_2 22 rfl rfl
theorem dksX3_agree_4 : cX3_agree.data.toList.drop 92 = dktX3_agree_4 := dk_seg dksX3_agree_3 24 rfl rfl
theorem dX3_agree_0 : decode cX3_agree 0 = .ok (.aload_n 0, 1) := dk_42 (dk_at dksX3_agree_0 0 rfl rfl)
theorem dX3_agree_1 : decode cX3_agree 1 = .ok (.iload_n 1, 1) := dk_27 (dk_at dksX3_agree_0 1 rfl rfl)
theorem dX3_agree_2 : decode cX3_agree 2 = .ok (.invokestatic 159, 3) := dk_184 0 159 (dk_at dksX3_agree_0 2 rfl rfl)
theorem dX3_agree_5 : decode cX3_agree 5 = .ok (.invokevirtual 127, 3) := dk_182 0 127 (dk_at dksX3_agree_0 5 rfl rfl)
theorem dX3_agree_8 : decode cX3_agree 8 = .ok (.ifCond .ne 5, 3) := dk_154 0 5 (dk_at dksX3_agree_0 8 rfl rfl)
theorem dX3_agree_11 : decode cX3_agree 11 = .ok (.iconst 0, 1) := dk_3 (dk_at dksX3_agree_0 11 rfl rfl)
theorem dX3_agree_12 : decode cX3_agree 12 = .ok (.ireturn, 1) := dk_172 (dk_at dksX3_agree_0 12 rfl rfl)
theorem dX3_agree_13 : decode cX3_agree 13 = .ok (.aload_n 0, 1) := dk_42 (dk_at dksX3_agree_0 13 rfl rfl)
theorem dX3_agree_14 : decode cX3_agree 14 = .ok (.getfield 115, 3) := dk_180 0 115 (dk_at dksX3_agree_0 14 rfl rfl)
theorem dX3_agree_17 : decode cX3_agree 17 = .ok (.iconst 2, 1) := dk_5 (dk_at dksX3_agree_0 17 rfl rfl)
theorem dX3_agree_18 : decode cX3_agree 18 = .ok (.if_icmp .ne 43, 3) := dk_160 0 43 (dk_at dksX3_agree_0 18 rfl rfl)
theorem dX3_agree_21 : decode cX3_agree 21 = .ok (.aload_n 0, 1) := dk_42 (dk_at dksX3_agree_0 21 rfl rfl)
theorem dX3_agree_22 : decode cX3_agree 22 = .ok (.getfield 44, 3) := dk_180 0 44 (dk_at dksX3_agree_1 0 rfl rfl)
theorem dX3_agree_25 : decode cX3_agree 25 = .ok (.iload_n 1, 1) := dk_27 (dk_at dksX3_agree_1 3 rfl rfl)
theorem dX3_agree_26 : decode cX3_agree 26 = .ok (.iaload, 1) := dk_46 (dk_at dksX3_agree_1 4 rfl rfl)
theorem dX3_agree_27 : decode cX3_agree 27 = .ok (.ifCond .eq 34, 3) := dk_153 0 34 (dk_at dksX3_agree_1 5 rfl rfl)
theorem dX3_agree_30 : decode cX3_agree 30 = .ok (.aload_n 0, 1) := dk_42 (dk_at dksX3_agree_1 8 rfl rfl)
theorem dX3_agree_31 : decode cX3_agree 31 = .ok (.iload_n 1, 1) := dk_27 (dk_at dksX3_agree_1 9 rfl rfl)
theorem dX3_agree_32 : decode cX3_agree 32 = .ok (.aload_n 0, 1) := dk_42 (dk_at dksX3_agree_1 10 rfl rfl)
theorem dX3_agree_33 : decode cX3_agree 33 = .ok (.getfield 44, 3) := dk_180 0 44 (dk_at dksX3_agree_1 11 rfl rfl)
theorem dX3_agree_36 : decode cX3_agree 36 = .ok (.iload_n 1, 1) := dk_27 (dk_at dksX3_agree_1 14 rfl rfl)
theorem dX3_agree_37 : decode cX3_agree 37 = .ok (.iaload, 1) := dk_46 (dk_at dksX3_agree_1 15 rfl rfl)
theorem dX3_agree_38 : decode cX3_agree 38 = .ok (.invokevirtual 169, 3) := dk_182 0 169 (dk_at dksX3_agree_1 16 rfl rfl)
theorem dX3_agree_41 : decode cX3_agree 41 = .ok (.ifCond .eq 20, 3) := dk_153 0 20 (dk_at dksX3_agree_1 19 rfl rfl)
theorem dX3_agree_44 : decode cX3_agree 44 = .ok (.aload_n 0, 1) := dk_42 (dk_at dksX3_agree_1 22 rfl rfl)
theorem dX3_agree_45 : decode cX3_agree 45 = .ok (.aload_n 0, 1) := dk_42 (dk_at dksX3_agree_1 23 rfl rfl)
theorem dX3_agree_46 : decode cX3_agree 46 = .ok (.getfield 118, 3) := dk_180 0 118 (dk_at dksX3_agree_2 0 rfl rfl)
theorem dX3_agree_49 : decode cX3_agree 49 = .ok (.aload_n 0, 1) := dk_42 (dk_at dksX3_agree_2 3 rfl rfl)
theorem dX3_agree_50 : decode cX3_agree 50 = .ok (.getfield 47, 3) := dk_180 0 47 (dk_at dksX3_agree_2 4 rfl rfl)
theorem dX3_agree_53 : decode cX3_agree 53 = .ok (.iload_n 1, 1) := dk_27 (dk_at dksX3_agree_2 7 rfl rfl)
theorem dX3_agree_54 : decode cX3_agree 54 = .ok (.iaload, 1) := dk_46 (dk_at dksX3_agree_2 8 rfl rfl)
theorem dX3_agree_55 : decode cX3_agree 55 = .ok (.invokevirtual 169, 3) := dk_182 0 169 (dk_at dksX3_agree_2 9 rfl rfl)
theorem dX3_agree_58 : decode cX3_agree 58 = .ok (.ifCond .ne 9, 3) := dk_154 0 9 (dk_at dksX3_agree_2 12 rfl rfl)
theorem dX3_agree_61 : decode cX3_agree 61 = .ok (.aload_n 0, 1) := dk_42 (dk_at dksX3_agree_2 15 rfl rfl)
theorem dX3_agree_62 : decode cX3_agree 62 = .ok (.iconst 2, 1) := dk_5 (dk_at dksX3_agree_2 16 rfl rfl)
theorem dX3_agree_63 : decode cX3_agree 63 = .ok (.invokevirtual 149, 3) := dk_182 0 149 (dk_at dksX3_agree_2 17 rfl rfl)
theorem dX3_agree_66 : decode cX3_agree 66 = .ok (.ireturn, 1) := dk_172 (dk_at dksX3_agree_2 20 rfl rfl)
theorem dX3_agree_67 : decode cX3_agree 67 = .ok (.aload_n 0, 1) := dk_42 (dk_at dksX3_agree_2 21 rfl rfl)
theorem dX3_agree_68 : decode cX3_agree 68 = .ok (.getfield 44, 3) := dk_180 0 44 (dk_at dksX3_agree_3 0 rfl rfl)
theorem dX3_agree_71 : decode cX3_agree 71 = .ok (.iload_n 1, 1) := dk_27 (dk_at dksX3_agree_3 3 rfl rfl)
theorem dX3_agree_72 : decode cX3_agree 72 = .ok (.iaload, 1) := dk_46 (dk_at dksX3_agree_3 4 rfl rfl)
theorem dX3_agree_73 : decode cX3_agree 73 = .ok (.istore_n 2, 1) := dk_61 (dk_at dksX3_agree_3 5 rfl rfl)
theorem dX3_agree_74 : decode cX3_agree 74 = .ok (.aload_n 0, 1) := dk_42 (dk_at dksX3_agree_3 6 rfl rfl)
theorem dX3_agree_75 : decode cX3_agree 75 = .ok (.getfield 47, 3) := dk_180 0 47 (dk_at dksX3_agree_3 7 rfl rfl)
theorem dX3_agree_78 : decode cX3_agree 78 = .ok (.iload_n 1, 1) := dk_27 (dk_at dksX3_agree_3 10 rfl rfl)
theorem dX3_agree_79 : decode cX3_agree 79 = .ok (.iaload, 1) := dk_46 (dk_at dksX3_agree_3 11 rfl rfl)
theorem dX3_agree_80 : decode cX3_agree 80 = .ok (.istore_n 3, 1) := dk_62 (dk_at dksX3_agree_3 12 rfl rfl)
theorem dX3_agree_81 : decode cX3_agree 81 = .ok (.aload_n 0, 1) := dk_42 (dk_at dksX3_agree_3 13 rfl rfl)
theorem dX3_agree_82 : decode cX3_agree 82 = .ok (.iload_n 1, 1) := dk_27 (dk_at dksX3_agree_3 14 rfl rfl)
theorem dX3_agree_83 : decode cX3_agree 83 = .ok (.aload_n 0, 1) := dk_42 (dk_at dksX3_agree_3 15 rfl rfl)
theorem dX3_agree_84 : decode cX3_agree 84 = .ok (.getfield 118, 3) := dk_180 0 118 (dk_at dksX3_agree_3 16 rfl rfl)
theorem dX3_agree_87 : decode cX3_agree 87 = .ok (.iload_n 2, 1) := dk_28 (dk_at dksX3_agree_3 19 rfl rfl)
theorem dX3_agree_88 : decode cX3_agree 88 = .ok (.invokevirtual 172, 3) := dk_182 0 172 (dk_at dksX3_agree_3 20 rfl rfl)
theorem dX3_agree_91 : decode cX3_agree 91 = .ok (.aload_n 0, 1) := dk_42 (dk_at dksX3_agree_3 23 rfl rfl)
theorem dX3_agree_92 : decode cX3_agree 92 = .ok (.aload_n 0, 1) := dk_42 (dk_at dksX3_agree_4 0 rfl rfl)
theorem dX3_agree_93 : decode cX3_agree 93 = .ok (.getfield 118, 3) := dk_180 0 118 (dk_at dksX3_agree_4 1 rfl rfl)
theorem dX3_agree_96 : decode cX3_agree 96 = .ok (.iload_n 1, 1) := dk_27 (dk_at dksX3_agree_4 4 rfl rfl)
theorem dX3_agree_97 : decode cX3_agree 97 = .ok (.iload_n 3, 1) := dk_29 (dk_at dksX3_agree_4 5 rfl rfl)
theorem dX3_agree_98 : decode cX3_agree 98 = .ok (.invokevirtual 172, 3) := dk_182 0 172 (dk_at dksX3_agree_4 6 rfl rfl)
theorem dX3_agree_101 : decode cX3_agree 101 = .ok (.aload_n 0, 1) := dk_42 (dk_at dksX3_agree_4 9 rfl rfl)
theorem dX3_agree_102 : decode cX3_agree 102 = .ok (.invokevirtual 246, 3) := dk_182 0 246 (dk_at dksX3_agree_4 10 rfl rfl)
theorem dX3_agree_105 : decode cX3_agree 105 = .ok (.aload_n 0, 1) := dk_42 (dk_at dksX3_agree_4 13 rfl rfl)
theorem dX3_agree_106 : decode cX3_agree 106 = .ok (.aload_n 0, 1) := dk_42 (dk_at dksX3_agree_4 14 rfl rfl)
theorem dX3_agree_107 : decode cX3_agree 107 = .ok (.getfield 118, 3) := dk_180 0 118 (dk_at dksX3_agree_4 15 rfl rfl)
theorem dX3_agree_110 : decode cX3_agree 110 = .ok (.invokevirtual 175, 3) := dk_182 0 175 (dk_at dksX3_agree_4 18 rfl rfl)
theorem dX3_agree_113 : decode cX3_agree 113 = .ok (.ireturn, 1) := dk_172 (dk_at dksX3_agree_4 21 rfl rfl)
abbrev cX3_endTurn : ByteArray := prog_12_method_71_code
def yX3_endTurn : MethodName := ⟨RX3, "endTurn", "()I"⟩
def dkwX3_endTurn_3 : List UInt8 := [182, 0, 209, 42, 180, 0, 118, 172]
abbrev dktX3_endTurn_3 : List UInt8 := dkwX3_endTurn_3 ++ []
def dkwX3_endTurn_2 : List UInt8 := [132, 1, 1, 167, 255, 241, 42, 42, 180, 0, 118, 4, 96, 6, 112, 181, 0, 118, 42, 4, 181, 0, 115, 42]
abbrev dktX3_endTurn_2 : List UInt8 := dkwX3_endTurn_2 ++ dktX3_endTurn_3
def dkwX3_endTurn_1 : List UInt8 := [182, 0, 246, 42, 3, 181, 0, 218, 3, 60, 27, 8, 162, 0, 16, 42, 180, 0, 31, 27, 3, 79]
abbrev dktX3_endTurn_1 : List UInt8 := dkwX3_endTurn_1 ++ dktX3_endTurn_2
def dkwX3_endTurn_0 : List UInt8 := [42, 42, 180, 0, 115, 5, 160, 0, 7, 4, 167, 0, 4, 3, 182, 0, 127, 154, 0, 5, 3, 172, 42]
abbrev dktX3_endTurn_0 : List UInt8 := dkwX3_endTurn_0 ++ dktX3_endTurn_1
theorem dksX3_endTurn_0 : cX3_endTurn.data.toList.drop 0 = dktX3_endTurn_0 := by decide +kernel
theorem dksX3_endTurn_1 : cX3_endTurn.data.toList.drop 23 = dktX3_endTurn_1 := dk_seg dksX3_endTurn_0 23 rfl rfl
theorem dksX3_endTurn_2 : cX3_endTurn.data.toList.drop 45 = dktX3_endTurn_2 := dk_seg dksX3_endTurn_1 22 rfl rfl
theorem dksX3_endTurn_3 : cX3_endTurn.data.toList.drop 69 = dktX3_endTurn_3 := dk_seg dksX3_endTurn_2 24 rfl rfl
theorem dX3_endTurn_0 : decode cX3_endTurn 0 = .ok (.aload_n 0, 1) := dk_42 (dk_at dksX3_endTurn_0 0 rfl rfl)
theorem dX3_endTurn_1 : decode cX3_endTurn 1 = .ok (.aload_n 0, 1) := dk_42 (dk_at dksX3_endTurn_0 1 rfl rfl)
theorem dX3_endTurn_2 : decode cX3_endTurn 2 = .ok (.getfield 115, 3) := dk_180 0 115 (dk_at dksX3_endTurn_0 2 rfl rfl)
theorem dX3_endTurn_5 : decode cX3_endTurn 5 = .ok (.iconst 2, 1) := dk_5 (dk_at dksX3_endTurn_0 5 rfl rfl)
theorem dX3_endTurn_6 : decode cX3_endTurn 6 = .ok (.if_icmp .ne 7, 3) := dk_160 0 7 (dk_at dksX3_endTurn_0 6 rfl rfl)
theorem dX3_endTurn_9 : decode cX3_endTurn 9 = .ok (.iconst 1, 1) := dk_4 (dk_at dksX3_endTurn_0 9 rfl rfl)
theorem dX3_endTurn_10 : decode cX3_endTurn 10 = .ok (.goto 4, 3) := dk_167 0 4 (dk_at dksX3_endTurn_0 10 rfl rfl)
theorem dX3_endTurn_13 : decode cX3_endTurn 13 = .ok (.iconst 0, 1) := dk_3 (dk_at dksX3_endTurn_0 13 rfl rfl)
theorem dX3_endTurn_14 : decode cX3_endTurn 14 = .ok (.invokevirtual 127, 3) := dk_182 0 127 (dk_at dksX3_endTurn_0 14 rfl rfl)
theorem dX3_endTurn_17 : decode cX3_endTurn 17 = .ok (.ifCond .ne 5, 3) := dk_154 0 5 (dk_at dksX3_endTurn_0 17 rfl rfl)
theorem dX3_endTurn_20 : decode cX3_endTurn 20 = .ok (.iconst 0, 1) := dk_3 (dk_at dksX3_endTurn_0 20 rfl rfl)
theorem dX3_endTurn_21 : decode cX3_endTurn 21 = .ok (.ireturn, 1) := dk_172 (dk_at dksX3_endTurn_0 21 rfl rfl)
theorem dX3_endTurn_22 : decode cX3_endTurn 22 = .ok (.aload_n 0, 1) := dk_42 (dk_at dksX3_endTurn_0 22 rfl rfl)
theorem dX3_endTurn_23 : decode cX3_endTurn 23 = .ok (.invokevirtual 246, 3) := dk_182 0 246 (dk_at dksX3_endTurn_1 0 rfl rfl)
theorem dX3_endTurn_26 : decode cX3_endTurn 26 = .ok (.aload_n 0, 1) := dk_42 (dk_at dksX3_endTurn_1 3 rfl rfl)
theorem dX3_endTurn_27 : decode cX3_endTurn 27 = .ok (.iconst 0, 1) := dk_3 (dk_at dksX3_endTurn_1 4 rfl rfl)
theorem dX3_endTurn_28 : decode cX3_endTurn 28 = .ok (.putfield 218, 3) := dk_181 0 218 (dk_at dksX3_endTurn_1 5 rfl rfl)
theorem dX3_endTurn_31 : decode cX3_endTurn 31 = .ok (.iconst 0, 1) := dk_3 (dk_at dksX3_endTurn_1 8 rfl rfl)
theorem dX3_endTurn_32 : decode cX3_endTurn 32 = .ok (.istore_n 1, 1) := dk_60 (dk_at dksX3_endTurn_1 9 rfl rfl)
theorem dX3_endTurn_33 : decode cX3_endTurn 33 = .ok (.iload_n 1, 1) := dk_27 (dk_at dksX3_endTurn_1 10 rfl rfl)
theorem dX3_endTurn_34 : decode cX3_endTurn 34 = .ok (.iconst 5, 1) := dk_8 (dk_at dksX3_endTurn_1 11 rfl rfl)
theorem dX3_endTurn_35 : decode cX3_endTurn 35 = .ok (.if_icmp .ge 16, 3) := dk_162 0 16 (dk_at dksX3_endTurn_1 12 rfl rfl)
theorem dX3_endTurn_38 : decode cX3_endTurn 38 = .ok (.aload_n 0, 1) := dk_42 (dk_at dksX3_endTurn_1 15 rfl rfl)
theorem dX3_endTurn_39 : decode cX3_endTurn 39 = .ok (.getfield 31, 3) := dk_180 0 31 (dk_at dksX3_endTurn_1 16 rfl rfl)
theorem dX3_endTurn_42 : decode cX3_endTurn 42 = .ok (.iload_n 1, 1) := dk_27 (dk_at dksX3_endTurn_1 19 rfl rfl)
theorem dX3_endTurn_43 : decode cX3_endTurn 43 = .ok (.iconst 0, 1) := dk_3 (dk_at dksX3_endTurn_1 20 rfl rfl)
theorem dX3_endTurn_44 : decode cX3_endTurn 44 = .ok (.iastore, 1) := dk_79 (dk_at dksX3_endTurn_1 21 rfl rfl)
theorem dX3_endTurn_45 : decode cX3_endTurn 45 = .ok (.iinc 1 1, 3) := dk_132 1 1 (dk_at dksX3_endTurn_2 0 rfl rfl)
theorem dX3_endTurn_48 : decode cX3_endTurn 48 = .ok (.goto (-15), 3) := dk_167 255 241 (dk_at dksX3_endTurn_2 3 rfl rfl)
theorem dX3_endTurn_51 : decode cX3_endTurn 51 = .ok (.aload_n 0, 1) := dk_42 (dk_at dksX3_endTurn_2 6 rfl rfl)
theorem dX3_endTurn_52 : decode cX3_endTurn 52 = .ok (.aload_n 0, 1) := dk_42 (dk_at dksX3_endTurn_2 7 rfl rfl)
theorem dX3_endTurn_53 : decode cX3_endTurn 53 = .ok (.getfield 118, 3) := dk_180 0 118 (dk_at dksX3_endTurn_2 8 rfl rfl)
theorem dX3_endTurn_56 : decode cX3_endTurn 56 = .ok (.iconst 1, 1) := dk_4 (dk_at dksX3_endTurn_2 11 rfl rfl)
theorem dX3_endTurn_57 : decode cX3_endTurn 57 = .ok (.iadd, 1) := dk_96 (dk_at dksX3_endTurn_2 12 rfl rfl)
theorem dX3_endTurn_58 : decode cX3_endTurn 58 = .ok (.iconst 3, 1) := dk_6 (dk_at dksX3_endTurn_2 13 rfl rfl)
theorem dX3_endTurn_59 : decode cX3_endTurn 59 = .ok (.irem, 1) := dk_112 (dk_at dksX3_endTurn_2 14 rfl rfl)
theorem dX3_endTurn_60 : decode cX3_endTurn 60 = .ok (.putfield 118, 3) := dk_181 0 118 (dk_at dksX3_endTurn_2 15 rfl rfl)
theorem dX3_endTurn_63 : decode cX3_endTurn 63 = .ok (.aload_n 0, 1) := dk_42 (dk_at dksX3_endTurn_2 18 rfl rfl)
theorem dX3_endTurn_64 : decode cX3_endTurn 64 = .ok (.iconst 1, 1) := dk_4 (dk_at dksX3_endTurn_2 19 rfl rfl)
theorem dX3_endTurn_65 : decode cX3_endTurn 65 = .ok (.putfield 115, 3) := dk_181 0 115 (dk_at dksX3_endTurn_2 20 rfl rfl)
theorem dX3_endTurn_68 : decode cX3_endTurn 68 = .ok (.aload_n 0, 1) := dk_42 (dk_at dksX3_endTurn_2 23 rfl rfl)
theorem dX3_endTurn_69 : decode cX3_endTurn 69 = .ok (.invokevirtual 209, 3) := dk_182 0 209 (dk_at dksX3_endTurn_3 0 rfl rfl)
theorem dX3_endTurn_72 : decode cX3_endTurn 72 = .ok (.aload_n 0, 1) := dk_42 (dk_at dksX3_endTurn_3 3 rfl rfl)
theorem dX3_endTurn_73 : decode cX3_endTurn 73 = .ok (.getfield 118, 3) := dk_180 0 118 (dk_at dksX3_endTurn_3 4 rfl rfl)
theorem dX3_endTurn_76 : decode cX3_endTurn 76 = .ok (.ireturn, 1) := dk_172 (dk_at dksX3_endTurn_3 7 rfl rfl)
abbrev cX3_phase : ByteArray := prog_12_method_72_code
def yX3_phase : MethodName := ⟨RX3, "phase", "()I"⟩
def dkwX3_phase_0 : List UInt8 := [42, 3, 181, 0, 59, 42, 180, 0, 115, 172]
abbrev dktX3_phase_0 : List UInt8 := dkwX3_phase_0 ++ []
theorem dksX3_phase_0 : cX3_phase.data.toList.drop 0 = dktX3_phase_0 := by decide +kernel
theorem dX3_phase_0 : decode cX3_phase 0 = .ok (.aload_n 0, 1) := dk_42 (dk_at dksX3_phase_0 0 rfl rfl)
theorem dX3_phase_1 : decode cX3_phase 1 = .ok (.iconst 0, 1) := dk_3 (dk_at dksX3_phase_0 1 rfl rfl)
theorem dX3_phase_2 : decode cX3_phase 2 = .ok (.putfield 59, 3) := dk_181 0 59 (dk_at dksX3_phase_0 2 rfl rfl)
theorem dX3_phase_5 : decode cX3_phase 5 = .ok (.aload_n 0, 1) := dk_42 (dk_at dksX3_phase_0 5 rfl rfl)
theorem dX3_phase_6 : decode cX3_phase 6 = .ok (.getfield 115, 3) := dk_180 0 115 (dk_at dksX3_phase_0 6 rfl rfl)
theorem dX3_phase_9 : decode cX3_phase 9 = .ok (.ireturn, 1) := dk_172 (dk_at dksX3_phase_0 9 rfl rfl)
abbrev cX3_turn : ByteArray := prog_12_method_73_code
def yX3_turn : MethodName := ⟨RX3, "turn", "()I"⟩
def dkwX3_turn_0 : List UInt8 := [42, 3, 181, 0, 59, 42, 180, 0, 118, 172]
abbrev dktX3_turn_0 : List UInt8 := dkwX3_turn_0 ++ []
theorem dksX3_turn_0 : cX3_turn.data.toList.drop 0 = dktX3_turn_0 := by decide +kernel
theorem dX3_turn_0 : decode cX3_turn 0 = .ok (.aload_n 0, 1) := dk_42 (dk_at dksX3_turn_0 0 rfl rfl)
theorem dX3_turn_1 : decode cX3_turn 1 = .ok (.iconst 0, 1) := dk_3 (dk_at dksX3_turn_0 1 rfl rfl)
theorem dX3_turn_2 : decode cX3_turn 2 = .ok (.putfield 59, 3) := dk_181 0 59 (dk_at dksX3_turn_0 2 rfl rfl)
theorem dX3_turn_5 : decode cX3_turn 5 = .ok (.aload_n 0, 1) := dk_42 (dk_at dksX3_turn_0 5 rfl rfl)
theorem dX3_turn_6 : decode cX3_turn 6 = .ok (.getfield 118, 3) := dk_180 0 118 (dk_at dksX3_turn_0 6 rfl rfl)
theorem dX3_turn_9 : decode cX3_turn 9 = .ok (.ireturn, 1) := dk_172 (dk_at dksX3_turn_0 9 rfl rfl)
abbrev cX3_hand : ByteArray := prog_12_method_75_code
def yX3_hand : MethodName := ⟨RX3, "hand", "(II)I"⟩
def dkwX3_hand_0 : List UInt8 := [42, 27, 28, 182, 0, 249, 172]
abbrev dktX3_hand_0 : List UInt8 := dkwX3_hand_0 ++ []
theorem dksX3_hand_0 : cX3_hand.data.toList.drop 0 = dktX3_hand_0 := by decide +kernel
theorem dX3_hand_0 : decode cX3_hand 0 = .ok (.aload_n 0, 1) := dk_42 (dk_at dksX3_hand_0 0 rfl rfl)
theorem dX3_hand_1 : decode cX3_hand 1 = .ok (.iload_n 1, 1) := dk_27 (dk_at dksX3_hand_0 1 rfl rfl)
theorem dX3_hand_2 : decode cX3_hand 2 = .ok (.iload_n 2, 1) := dk_28 (dk_at dksX3_hand_0 2 rfl rfl)
theorem dX3_hand_3 : decode cX3_hand 3 = .ok (.invokevirtual 249, 3) := dk_182 0 249 (dk_at dksX3_hand_0 3 rfl rfl)
theorem dX3_hand_6 : decode cX3_hand 6 = .ok (.ireturn, 1) := dk_172 (dk_at dksX3_hand_0 6 rfl rfl)
abbrev cX3_handNow : ByteArray := prog_12_method_74_code
def yX3_handNow : MethodName := ⟨RX3, "handNow", "(II)I"⟩
def dkwX3_handNow_1 : List UInt8 := [180, 0, 22, 8, 27, 104, 28, 96, 46, 167, 0, 8, 42, 5, 182, 0, 149, 172]
abbrev dktX3_handNow_1 : List UInt8 := dkwX3_handNow_1 ++ []
def dkwX3_handNow_0 : List UInt8 := [42, 27, 3, 6, 184, 0, 131, 182, 0, 127, 154, 0, 5, 3, 172, 28, 184, 0, 227, 153, 0, 16, 42]
abbrev dktX3_handNow_0 : List UInt8 := dkwX3_handNow_0 ++ dktX3_handNow_1
theorem dksX3_handNow_0 : cX3_handNow.data.toList.drop 0 = dktX3_handNow_0 := by decide +kernel
theorem dksX3_handNow_1 : cX3_handNow.data.toList.drop 23 = dktX3_handNow_1 := dk_seg dksX3_handNow_0 23 rfl rfl
theorem dX3_handNow_0 : decode cX3_handNow 0 = .ok (.aload_n 0, 1) := dk_42 (dk_at dksX3_handNow_0 0 rfl rfl)
theorem dX3_handNow_1 : decode cX3_handNow 1 = .ok (.iload_n 1, 1) := dk_27 (dk_at dksX3_handNow_0 1 rfl rfl)
theorem dX3_handNow_2 : decode cX3_handNow 2 = .ok (.iconst 0, 1) := dk_3 (dk_at dksX3_handNow_0 2 rfl rfl)
theorem dX3_handNow_3 : decode cX3_handNow 3 = .ok (.iconst 3, 1) := dk_6 (dk_at dksX3_handNow_0 3 rfl rfl)
theorem dX3_handNow_4 : decode cX3_handNow 4 = .ok (.invokestatic 131, 3) := dk_184 0 131 (dk_at dksX3_handNow_0 4 rfl rfl)
theorem dX3_handNow_7 : decode cX3_handNow 7 = .ok (.invokevirtual 127, 3) := dk_182 0 127 (dk_at dksX3_handNow_0 7 rfl rfl)
theorem dX3_handNow_10 : decode cX3_handNow 10 = .ok (.ifCond .ne 5, 3) := dk_154 0 5 (dk_at dksX3_handNow_0 10 rfl rfl)
theorem dX3_handNow_13 : decode cX3_handNow 13 = .ok (.iconst 0, 1) := dk_3 (dk_at dksX3_handNow_0 13 rfl rfl)
theorem dX3_handNow_14 : decode cX3_handNow 14 = .ok (.ireturn, 1) := dk_172 (dk_at dksX3_handNow_0 14 rfl rfl)
theorem dX3_handNow_15 : decode cX3_handNow 15 = .ok (.iload_n 2, 1) := dk_28 (dk_at dksX3_handNow_0 15 rfl rfl)
theorem dX3_handNow_16 : decode cX3_handNow 16 = .ok (.invokestatic 227, 3) := dk_184 0 227 (dk_at dksX3_handNow_0 16 rfl rfl)
theorem dX3_handNow_19 : decode cX3_handNow 19 = .ok (.ifCond .eq 16, 3) := dk_153 0 16 (dk_at dksX3_handNow_0 19 rfl rfl)
theorem dX3_handNow_22 : decode cX3_handNow 22 = .ok (.aload_n 0, 1) := dk_42 (dk_at dksX3_handNow_0 22 rfl rfl)
theorem dX3_handNow_23 : decode cX3_handNow 23 = .ok (.getfield 22, 3) := dk_180 0 22 (dk_at dksX3_handNow_1 0 rfl rfl)
theorem dX3_handNow_26 : decode cX3_handNow 26 = .ok (.iconst 5, 1) := dk_8 (dk_at dksX3_handNow_1 3 rfl rfl)
theorem dX3_handNow_27 : decode cX3_handNow 27 = .ok (.iload_n 1, 1) := dk_27 (dk_at dksX3_handNow_1 4 rfl rfl)
theorem dX3_handNow_28 : decode cX3_handNow 28 = .ok (.imul, 1) := dk_104 (dk_at dksX3_handNow_1 5 rfl rfl)
theorem dX3_handNow_29 : decode cX3_handNow 29 = .ok (.iload_n 2, 1) := dk_28 (dk_at dksX3_handNow_1 6 rfl rfl)
theorem dX3_handNow_30 : decode cX3_handNow 30 = .ok (.iadd, 1) := dk_96 (dk_at dksX3_handNow_1 7 rfl rfl)
theorem dX3_handNow_31 : decode cX3_handNow 31 = .ok (.iaload, 1) := dk_46 (dk_at dksX3_handNow_1 8 rfl rfl)
theorem dX3_handNow_32 : decode cX3_handNow 32 = .ok (.goto 8, 3) := dk_167 0 8 (dk_at dksX3_handNow_1 9 rfl rfl)
theorem dX3_handNow_35 : decode cX3_handNow 35 = .ok (.aload_n 0, 1) := dk_42 (dk_at dksX3_handNow_1 12 rfl rfl)
theorem dX3_handNow_36 : decode cX3_handNow 36 = .ok (.iconst 2, 1) := dk_5 (dk_at dksX3_handNow_1 13 rfl rfl)
theorem dX3_handNow_37 : decode cX3_handNow 37 = .ok (.invokevirtual 149, 3) := dk_182 0 149 (dk_at dksX3_handNow_1 14 rfl rfl)
theorem dX3_handNow_40 : decode cX3_handNow 40 = .ok (.ireturn, 1) := dk_172 (dk_at dksX3_handNow_1 17 rfl rfl)
abbrev cX3_handByMoves : ByteArray := prog_12_method_76_code
def yX3_handByMoves : MethodName := ⟨RX3, "handByMoves", "(II)I"⟩
def dkwX3_handByMoves_0 : List UInt8 := [42, 27, 28, 182, 0, 249, 172]
abbrev dktX3_handByMoves_0 : List UInt8 := dkwX3_handByMoves_0 ++ []
theorem dksX3_handByMoves_0 : cX3_handByMoves.data.toList.drop 0 = dktX3_handByMoves_0 := by decide +kernel
theorem dX3_handByMoves_0 : decode cX3_handByMoves 0 = .ok (.aload_n 0, 1) := dk_42 (dk_at dksX3_handByMoves_0 0 rfl rfl)
theorem dX3_handByMoves_1 : decode cX3_handByMoves 1 = .ok (.iload_n 1, 1) := dk_27 (dk_at dksX3_handByMoves_0 1 rfl rfl)
theorem dX3_handByMoves_2 : decode cX3_handByMoves 2 = .ok (.iload_n 2, 1) := dk_28 (dk_at dksX3_handByMoves_0 2 rfl rfl)
theorem dX3_handByMoves_3 : decode cX3_handByMoves 3 = .ok (.invokevirtual 249, 3) := dk_182 0 249 (dk_at dksX3_handByMoves_0 3 rfl rfl)
theorem dX3_handByMoves_6 : decode cX3_handByMoves 6 = .ok (.ireturn, 1) := dk_172 (dk_at dksX3_handByMoves_0 6 rfl rfl)
abbrev cX3_due : ByteArray := prog_12_method_77_code
def yX3_due : MethodName := ⟨RX3, "due", "(I)I"⟩
def dkwX3_due_0 : List UInt8 := [42, 27, 184, 0, 159, 182, 0, 127, 153, 0, 12, 42, 180, 0, 25, 27, 46, 167, 0, 4, 3, 172]
abbrev dktX3_due_0 : List UInt8 := dkwX3_due_0 ++ []
theorem dksX3_due_0 : cX3_due.data.toList.drop 0 = dktX3_due_0 := by decide +kernel
theorem dX3_due_0 : decode cX3_due 0 = .ok (.aload_n 0, 1) := dk_42 (dk_at dksX3_due_0 0 rfl rfl)
theorem dX3_due_1 : decode cX3_due 1 = .ok (.iload_n 1, 1) := dk_27 (dk_at dksX3_due_0 1 rfl rfl)
theorem dX3_due_2 : decode cX3_due 2 = .ok (.invokestatic 159, 3) := dk_184 0 159 (dk_at dksX3_due_0 2 rfl rfl)
theorem dX3_due_5 : decode cX3_due 5 = .ok (.invokevirtual 127, 3) := dk_182 0 127 (dk_at dksX3_due_0 5 rfl rfl)
theorem dX3_due_8 : decode cX3_due 8 = .ok (.ifCond .eq 12, 3) := dk_153 0 12 (dk_at dksX3_due_0 8 rfl rfl)
theorem dX3_due_11 : decode cX3_due 11 = .ok (.aload_n 0, 1) := dk_42 (dk_at dksX3_due_0 11 rfl rfl)
theorem dX3_due_12 : decode cX3_due 12 = .ok (.getfield 25, 3) := dk_180 0 25 (dk_at dksX3_due_0 12 rfl rfl)
theorem dX3_due_15 : decode cX3_due 15 = .ok (.iload_n 1, 1) := dk_27 (dk_at dksX3_due_0 15 rfl rfl)
theorem dX3_due_16 : decode cX3_due 16 = .ok (.iaload, 1) := dk_46 (dk_at dksX3_due_0 16 rfl rfl)
theorem dX3_due_17 : decode cX3_due 17 = .ok (.goto 4, 3) := dk_167 0 4 (dk_at dksX3_due_0 17 rfl rfl)
theorem dX3_due_20 : decode cX3_due 20 = .ok (.iconst 0, 1) := dk_3 (dk_at dksX3_due_0 20 rfl rfl)
theorem dX3_due_21 : decode cX3_due 21 = .ok (.ireturn, 1) := dk_172 (dk_at dksX3_due_0 21 rfl rfl)
abbrev cX3_points : ByteArray := prog_12_method_78_code
def yX3_points : MethodName := ⟨RX3, "points", "(I)I"⟩
def dkwX3_points_0 : List UInt8 := [42, 27, 184, 0, 159, 182, 0, 127, 153, 0, 11, 42, 27, 182, 0, 121, 167, 0, 4, 3, 172]
abbrev dktX3_points_0 : List UInt8 := dkwX3_points_0 ++ []
theorem dksX3_points_0 : cX3_points.data.toList.drop 0 = dktX3_points_0 := by decide +kernel
theorem dX3_points_0 : decode cX3_points 0 = .ok (.aload_n 0, 1) := dk_42 (dk_at dksX3_points_0 0 rfl rfl)
theorem dX3_points_1 : decode cX3_points 1 = .ok (.iload_n 1, 1) := dk_27 (dk_at dksX3_points_0 1 rfl rfl)
theorem dX3_points_2 : decode cX3_points 2 = .ok (.invokestatic 159, 3) := dk_184 0 159 (dk_at dksX3_points_0 2 rfl rfl)
theorem dX3_points_5 : decode cX3_points 5 = .ok (.invokevirtual 127, 3) := dk_182 0 127 (dk_at dksX3_points_0 5 rfl rfl)
theorem dX3_points_8 : decode cX3_points 8 = .ok (.ifCond .eq 11, 3) := dk_153 0 11 (dk_at dksX3_points_0 8 rfl rfl)
theorem dX3_points_11 : decode cX3_points 11 = .ok (.aload_n 0, 1) := dk_42 (dk_at dksX3_points_0 11 rfl rfl)
theorem dX3_points_12 : decode cX3_points 12 = .ok (.iload_n 1, 1) := dk_27 (dk_at dksX3_points_0 12 rfl rfl)
theorem dX3_points_13 : decode cX3_points 13 = .ok (.invokevirtual 121, 3) := dk_182 0 121 (dk_at dksX3_points_0 13 rfl rfl)
theorem dX3_points_16 : decode cX3_points 16 = .ok (.goto 4, 3) := dk_167 0 4 (dk_at dksX3_points_0 16 rfl rfl)
theorem dX3_points_19 : decode cX3_points 19 = .ok (.iconst 0, 1) := dk_3 (dk_at dksX3_points_0 19 rfl rfl)
theorem dX3_points_20 : decode cX3_points 20 = .ok (.ireturn, 1) := dk_172 (dk_at dksX3_points_0 20 rfl rfl)
abbrev cX3_trail : ByteArray := prog_12_method_79_code
def yX3_trail : MethodName := ⟨RX3, "trail", "(I)I"⟩
def dkwX3_trail_0 : List UInt8 := [42, 27, 184, 0, 159, 182, 0, 127, 153, 0, 11, 42, 27, 182, 0, 104, 167, 0, 4, 3, 172]
abbrev dktX3_trail_0 : List UInt8 := dkwX3_trail_0 ++ []
theorem dksX3_trail_0 : cX3_trail.data.toList.drop 0 = dktX3_trail_0 := by decide +kernel
theorem dX3_trail_0 : decode cX3_trail 0 = .ok (.aload_n 0, 1) := dk_42 (dk_at dksX3_trail_0 0 rfl rfl)
theorem dX3_trail_1 : decode cX3_trail 1 = .ok (.iload_n 1, 1) := dk_27 (dk_at dksX3_trail_0 1 rfl rfl)
theorem dX3_trail_2 : decode cX3_trail 2 = .ok (.invokestatic 159, 3) := dk_184 0 159 (dk_at dksX3_trail_0 2 rfl rfl)
theorem dX3_trail_5 : decode cX3_trail 5 = .ok (.invokevirtual 127, 3) := dk_182 0 127 (dk_at dksX3_trail_0 5 rfl rfl)
theorem dX3_trail_8 : decode cX3_trail 8 = .ok (.ifCond .eq 11, 3) := dk_153 0 11 (dk_at dksX3_trail_0 8 rfl rfl)
theorem dX3_trail_11 : decode cX3_trail 11 = .ok (.aload_n 0, 1) := dk_42 (dk_at dksX3_trail_0 11 rfl rfl)
theorem dX3_trail_12 : decode cX3_trail 12 = .ok (.iload_n 1, 1) := dk_27 (dk_at dksX3_trail_0 12 rfl rfl)
theorem dX3_trail_13 : decode cX3_trail 13 = .ok (.invokevirtual 104, 3) := dk_182 0 104 (dk_at dksX3_trail_0 13 rfl rfl)
theorem dX3_trail_16 : decode cX3_trail 16 = .ok (.goto 4, 3) := dk_167 0 4 (dk_at dksX3_trail_0 16 rfl rfl)
theorem dX3_trail_19 : decode cX3_trail 19 = .ok (.iconst 0, 1) := dk_3 (dk_at dksX3_trail_0 19 rfl rfl)
theorem dX3_trail_20 : decode cX3_trail 20 = .ok (.ireturn, 1) := dk_172 (dk_at dksX3_trail_0 20 rfl rfl)
abbrev cX3_trailBySets : ByteArray := prog_12_method_80_code
def yX3_trailBySets : MethodName := ⟨RX3, "trailBySets", "(I)I"⟩
def dkwX3_trailBySets_0 : List UInt8 := [42, 27, 184, 0, 159, 182, 0, 127, 153, 0, 11, 42, 27, 182, 0, 104, 167, 0, 4, 3, 172]
abbrev dktX3_trailBySets_0 : List UInt8 := dkwX3_trailBySets_0 ++ []
theorem dksX3_trailBySets_0 : cX3_trailBySets.data.toList.drop 0 = dktX3_trailBySets_0 := by decide +kernel
theorem dX3_trailBySets_0 : decode cX3_trailBySets 0 = .ok (.aload_n 0, 1) := dk_42 (dk_at dksX3_trailBySets_0 0 rfl rfl)
theorem dX3_trailBySets_1 : decode cX3_trailBySets 1 = .ok (.iload_n 1, 1) := dk_27 (dk_at dksX3_trailBySets_0 1 rfl rfl)
theorem dX3_trailBySets_2 : decode cX3_trailBySets 2 = .ok (.invokestatic 159, 3) := dk_184 0 159 (dk_at dksX3_trailBySets_0 2 rfl rfl)
theorem dX3_trailBySets_5 : decode cX3_trailBySets 5 = .ok (.invokevirtual 127, 3) := dk_182 0 127 (dk_at dksX3_trailBySets_0 5 rfl rfl)
theorem dX3_trailBySets_8 : decode cX3_trailBySets 8 = .ok (.ifCond .eq 11, 3) := dk_153 0 11 (dk_at dksX3_trailBySets_0 8 rfl rfl)
theorem dX3_trailBySets_11 : decode cX3_trailBySets 11 = .ok (.aload_n 0, 1) := dk_42 (dk_at dksX3_trailBySets_0 11 rfl rfl)
theorem dX3_trailBySets_12 : decode cX3_trailBySets 12 = .ok (.iload_n 1, 1) := dk_27 (dk_at dksX3_trailBySets_0 12 rfl rfl)
theorem dX3_trailBySets_13 : decode cX3_trailBySets 13 = .ok (.invokevirtual 104, 3) := dk_182 0 104 (dk_at dksX3_trailBySets_0 13 rfl rfl)
theorem dX3_trailBySets_16 : decode cX3_trailBySets 16 = .ok (.goto 4, 3) := dk_167 0 4 (dk_at dksX3_trailBySets_0 16 rfl rfl)
theorem dX3_trailBySets_19 : decode cX3_trailBySets 19 = .ok (.iconst 0, 1) := dk_3 (dk_at dksX3_trailBySets_0 19 rfl rfl)
theorem dX3_trailBySets_20 : decode cX3_trailBySets 20 = .ok (.ireturn, 1) := dk_172 (dk_at dksX3_trailBySets_0 20 rfl rfl)
abbrev cX3_holder : ByteArray := prog_12_method_81_code
def yX3_holder : MethodName := ⟨RX3, "holder", "(Z)I"⟩
def dkwX3_holder_0 : List UInt8 := [42, 3, 181, 0, 59, 27, 153, 0, 10, 42, 180, 0, 37, 167, 0, 7, 42, 180, 0, 41, 172]
abbrev dktX3_holder_0 : List UInt8 := dkwX3_holder_0 ++ []
theorem dksX3_holder_0 : cX3_holder.data.toList.drop 0 = dktX3_holder_0 := by decide +kernel
theorem dX3_holder_0 : decode cX3_holder 0 = .ok (.aload_n 0, 1) := dk_42 (dk_at dksX3_holder_0 0 rfl rfl)
theorem dX3_holder_1 : decode cX3_holder 1 = .ok (.iconst 0, 1) := dk_3 (dk_at dksX3_holder_0 1 rfl rfl)
theorem dX3_holder_2 : decode cX3_holder 2 = .ok (.putfield 59, 3) := dk_181 0 59 (dk_at dksX3_holder_0 2 rfl rfl)
theorem dX3_holder_5 : decode cX3_holder 5 = .ok (.iload_n 1, 1) := dk_27 (dk_at dksX3_holder_0 5 rfl rfl)
theorem dX3_holder_6 : decode cX3_holder 6 = .ok (.ifCond .eq 10, 3) := dk_153 0 10 (dk_at dksX3_holder_0 6 rfl rfl)
theorem dX3_holder_9 : decode cX3_holder 9 = .ok (.aload_n 0, 1) := dk_42 (dk_at dksX3_holder_0 9 rfl rfl)
theorem dX3_holder_10 : decode cX3_holder 10 = .ok (.getfield 37, 3) := dk_180 0 37 (dk_at dksX3_holder_0 10 rfl rfl)
theorem dX3_holder_13 : decode cX3_holder 13 = .ok (.goto 7, 3) := dk_167 0 7 (dk_at dksX3_holder_0 13 rfl rfl)
theorem dX3_holder_16 : decode cX3_holder 16 = .ok (.aload_n 0, 1) := dk_42 (dk_at dksX3_holder_0 16 rfl rfl)
theorem dX3_holder_17 : decode cX3_holder 17 = .ok (.getfield 41, 3) := dk_180 0 41 (dk_at dksX3_holder_0 17 rfl rfl)
theorem dX3_holder_20 : decode cX3_holder 20 = .ok (.ireturn, 1) := dk_172 (dk_at dksX3_holder_0 20 rfl rfl)
abbrev cX3_knights : ByteArray := prog_12_method_82_code
def yX3_knights : MethodName := ⟨RX3, "knights", "(I)I"⟩
def dkwX3_knights_0 : List UInt8 := [42, 27, 184, 0, 159, 182, 0, 127, 153, 0, 12, 42, 180, 0, 34, 27, 46, 167, 0, 4, 3, 172]
abbrev dktX3_knights_0 : List UInt8 := dkwX3_knights_0 ++ []
theorem dksX3_knights_0 : cX3_knights.data.toList.drop 0 = dktX3_knights_0 := by decide +kernel
theorem dX3_knights_0 : decode cX3_knights 0 = .ok (.aload_n 0, 1) := dk_42 (dk_at dksX3_knights_0 0 rfl rfl)
theorem dX3_knights_1 : decode cX3_knights 1 = .ok (.iload_n 1, 1) := dk_27 (dk_at dksX3_knights_0 1 rfl rfl)
theorem dX3_knights_2 : decode cX3_knights 2 = .ok (.invokestatic 159, 3) := dk_184 0 159 (dk_at dksX3_knights_0 2 rfl rfl)
theorem dX3_knights_5 : decode cX3_knights 5 = .ok (.invokevirtual 127, 3) := dk_182 0 127 (dk_at dksX3_knights_0 5 rfl rfl)
theorem dX3_knights_8 : decode cX3_knights 8 = .ok (.ifCond .eq 12, 3) := dk_153 0 12 (dk_at dksX3_knights_0 8 rfl rfl)
theorem dX3_knights_11 : decode cX3_knights 11 = .ok (.aload_n 0, 1) := dk_42 (dk_at dksX3_knights_0 11 rfl rfl)
theorem dX3_knights_12 : decode cX3_knights 12 = .ok (.getfield 34, 3) := dk_180 0 34 (dk_at dksX3_knights_0 12 rfl rfl)
theorem dX3_knights_15 : decode cX3_knights 15 = .ok (.iload_n 1, 1) := dk_27 (dk_at dksX3_knights_0 15 rfl rfl)
theorem dX3_knights_16 : decode cX3_knights 16 = .ok (.iaload, 1) := dk_46 (dk_at dksX3_knights_0 16 rfl rfl)
theorem dX3_knights_17 : decode cX3_knights 17 = .ok (.goto 4, 3) := dk_167 0 4 (dk_at dksX3_knights_0 17 rfl rfl)
theorem dX3_knights_20 : decode cX3_knights 20 = .ok (.iconst 0, 1) := dk_3 (dk_at dksX3_knights_0 20 rfl rfl)
theorem dX3_knights_21 : decode cX3_knights 21 = .ok (.ireturn, 1) := dk_172 (dk_at dksX3_knights_0 21 rfl rfl)
abbrev cX3_cards : ByteArray := prog_12_method_83_code
def yX3_cards : MethodName := ⟨RX3, "cards", "(II)I"⟩
def dkwX3_cards_1 : List UInt8 := [180, 0, 28, 8, 27, 104, 28, 96, 46, 167, 0, 8, 42, 5, 182, 0, 149, 172]
abbrev dktX3_cards_1 : List UInt8 := dkwX3_cards_1 ++ []
def dkwX3_cards_0 : List UInt8 := [42, 27, 184, 0, 159, 182, 0, 127, 154, 0, 5, 3, 172, 28, 3, 7, 184, 0, 131, 153, 0, 16, 42]
abbrev dktX3_cards_0 : List UInt8 := dkwX3_cards_0 ++ dktX3_cards_1
theorem dksX3_cards_0 : cX3_cards.data.toList.drop 0 = dktX3_cards_0 := by decide +kernel
theorem dksX3_cards_1 : cX3_cards.data.toList.drop 23 = dktX3_cards_1 := dk_seg dksX3_cards_0 23 rfl rfl
theorem dX3_cards_0 : decode cX3_cards 0 = .ok (.aload_n 0, 1) := dk_42 (dk_at dksX3_cards_0 0 rfl rfl)
theorem dX3_cards_1 : decode cX3_cards 1 = .ok (.iload_n 1, 1) := dk_27 (dk_at dksX3_cards_0 1 rfl rfl)
theorem dX3_cards_2 : decode cX3_cards 2 = .ok (.invokestatic 159, 3) := dk_184 0 159 (dk_at dksX3_cards_0 2 rfl rfl)
theorem dX3_cards_5 : decode cX3_cards 5 = .ok (.invokevirtual 127, 3) := dk_182 0 127 (dk_at dksX3_cards_0 5 rfl rfl)
theorem dX3_cards_8 : decode cX3_cards 8 = .ok (.ifCond .ne 5, 3) := dk_154 0 5 (dk_at dksX3_cards_0 8 rfl rfl)
theorem dX3_cards_11 : decode cX3_cards 11 = .ok (.iconst 0, 1) := dk_3 (dk_at dksX3_cards_0 11 rfl rfl)
theorem dX3_cards_12 : decode cX3_cards 12 = .ok (.ireturn, 1) := dk_172 (dk_at dksX3_cards_0 12 rfl rfl)
theorem dX3_cards_13 : decode cX3_cards 13 = .ok (.iload_n 2, 1) := dk_28 (dk_at dksX3_cards_0 13 rfl rfl)
theorem dX3_cards_14 : decode cX3_cards 14 = .ok (.iconst 0, 1) := dk_3 (dk_at dksX3_cards_0 14 rfl rfl)
theorem dX3_cards_15 : decode cX3_cards 15 = .ok (.iconst 4, 1) := dk_7 (dk_at dksX3_cards_0 15 rfl rfl)
theorem dX3_cards_16 : decode cX3_cards 16 = .ok (.invokestatic 131, 3) := dk_184 0 131 (dk_at dksX3_cards_0 16 rfl rfl)
theorem dX3_cards_19 : decode cX3_cards 19 = .ok (.ifCond .eq 16, 3) := dk_153 0 16 (dk_at dksX3_cards_0 19 rfl rfl)
theorem dX3_cards_22 : decode cX3_cards 22 = .ok (.aload_n 0, 1) := dk_42 (dk_at dksX3_cards_0 22 rfl rfl)
theorem dX3_cards_23 : decode cX3_cards 23 = .ok (.getfield 28, 3) := dk_180 0 28 (dk_at dksX3_cards_1 0 rfl rfl)
theorem dX3_cards_26 : decode cX3_cards 26 = .ok (.iconst 5, 1) := dk_8 (dk_at dksX3_cards_1 3 rfl rfl)
theorem dX3_cards_27 : decode cX3_cards 27 = .ok (.iload_n 1, 1) := dk_27 (dk_at dksX3_cards_1 4 rfl rfl)
theorem dX3_cards_28 : decode cX3_cards 28 = .ok (.imul, 1) := dk_104 (dk_at dksX3_cards_1 5 rfl rfl)
theorem dX3_cards_29 : decode cX3_cards 29 = .ok (.iload_n 2, 1) := dk_28 (dk_at dksX3_cards_1 6 rfl rfl)
theorem dX3_cards_30 : decode cX3_cards 30 = .ok (.iadd, 1) := dk_96 (dk_at dksX3_cards_1 7 rfl rfl)
theorem dX3_cards_31 : decode cX3_cards 31 = .ok (.iaload, 1) := dk_46 (dk_at dksX3_cards_1 8 rfl rfl)
theorem dX3_cards_32 : decode cX3_cards 32 = .ok (.goto 8, 3) := dk_167 0 8 (dk_at dksX3_cards_1 9 rfl rfl)
theorem dX3_cards_35 : decode cX3_cards 35 = .ok (.aload_n 0, 1) := dk_42 (dk_at dksX3_cards_1 12 rfl rfl)
theorem dX3_cards_36 : decode cX3_cards 36 = .ok (.iconst 2, 1) := dk_5 (dk_at dksX3_cards_1 13 rfl rfl)
theorem dX3_cards_37 : decode cX3_cards 37 = .ok (.invokevirtual 149, 3) := dk_182 0 149 (dk_at dksX3_cards_1 14 rfl rfl)
theorem dX3_cards_40 : decode cX3_cards 40 = .ok (.ireturn, 1) := dk_172 (dk_at dksX3_cards_1 17 rfl rfl)
abbrev cX3_buildingAt : ByteArray := prog_12_method_84_code
def yX3_buildingAt : MethodName := ⟨RX3, "buildingAt", "(I)I"⟩
def dkwX3_buildingAt_0 : List UInt8 := [42, 27, 184, 0, 140, 182, 0, 127, 153, 0, 14, 42, 180, 0, 19, 27, 46, 4, 100, 167, 0, 4, 3, 172]
abbrev dktX3_buildingAt_0 : List UInt8 := dkwX3_buildingAt_0 ++ []
theorem dksX3_buildingAt_0 : cX3_buildingAt.data.toList.drop 0 = dktX3_buildingAt_0 := by decide +kernel
theorem dX3_buildingAt_0 : decode cX3_buildingAt 0 = .ok (.aload_n 0, 1) := dk_42 (dk_at dksX3_buildingAt_0 0 rfl rfl)
theorem dX3_buildingAt_1 : decode cX3_buildingAt 1 = .ok (.iload_n 1, 1) := dk_27 (dk_at dksX3_buildingAt_0 1 rfl rfl)
theorem dX3_buildingAt_2 : decode cX3_buildingAt 2 = .ok (.invokestatic 140, 3) := dk_184 0 140 (dk_at dksX3_buildingAt_0 2 rfl rfl)
theorem dX3_buildingAt_5 : decode cX3_buildingAt 5 = .ok (.invokevirtual 127, 3) := dk_182 0 127 (dk_at dksX3_buildingAt_0 5 rfl rfl)
theorem dX3_buildingAt_8 : decode cX3_buildingAt 8 = .ok (.ifCond .eq 14, 3) := dk_153 0 14 (dk_at dksX3_buildingAt_0 8 rfl rfl)
theorem dX3_buildingAt_11 : decode cX3_buildingAt 11 = .ok (.aload_n 0, 1) := dk_42 (dk_at dksX3_buildingAt_0 11 rfl rfl)
theorem dX3_buildingAt_12 : decode cX3_buildingAt 12 = .ok (.getfield 19, 3) := dk_180 0 19 (dk_at dksX3_buildingAt_0 12 rfl rfl)
theorem dX3_buildingAt_15 : decode cX3_buildingAt 15 = .ok (.iload_n 1, 1) := dk_27 (dk_at dksX3_buildingAt_0 15 rfl rfl)
theorem dX3_buildingAt_16 : decode cX3_buildingAt 16 = .ok (.iaload, 1) := dk_46 (dk_at dksX3_buildingAt_0 16 rfl rfl)
theorem dX3_buildingAt_17 : decode cX3_buildingAt 17 = .ok (.iconst 1, 1) := dk_4 (dk_at dksX3_buildingAt_0 17 rfl rfl)
theorem dX3_buildingAt_18 : decode cX3_buildingAt 18 = .ok (.isub, 1) := dk_100 (dk_at dksX3_buildingAt_0 18 rfl rfl)
theorem dX3_buildingAt_19 : decode cX3_buildingAt 19 = .ok (.goto 4, 3) := dk_167 0 4 (dk_at dksX3_buildingAt_0 19 rfl rfl)
theorem dX3_buildingAt_22 : decode cX3_buildingAt 22 = .ok (.iconst 0, 1) := dk_3 (dk_at dksX3_buildingAt_0 22 rfl rfl)
theorem dX3_buildingAt_23 : decode cX3_buildingAt 23 = .ok (.ireturn, 1) := dk_172 (dk_at dksX3_buildingAt_0 23 rfl rfl)
abbrev cX3_roadAt : ByteArray := prog_12_method_85_code
def yX3_roadAt : MethodName := ⟨RX3, "roadAt", "(I)I"⟩
def dkwX3_roadAt_0 : List UInt8 := [42, 27, 184, 0, 143, 182, 0, 127, 153, 0, 14, 42, 180, 0, 16, 27, 46, 4, 100, 167, 0, 4, 3, 172]
abbrev dktX3_roadAt_0 : List UInt8 := dkwX3_roadAt_0 ++ []
theorem dksX3_roadAt_0 : cX3_roadAt.data.toList.drop 0 = dktX3_roadAt_0 := by decide +kernel
theorem dX3_roadAt_0 : decode cX3_roadAt 0 = .ok (.aload_n 0, 1) := dk_42 (dk_at dksX3_roadAt_0 0 rfl rfl)
theorem dX3_roadAt_1 : decode cX3_roadAt 1 = .ok (.iload_n 1, 1) := dk_27 (dk_at dksX3_roadAt_0 1 rfl rfl)
theorem dX3_roadAt_2 : decode cX3_roadAt 2 = .ok (.invokestatic 143, 3) := dk_184 0 143 (dk_at dksX3_roadAt_0 2 rfl rfl)
theorem dX3_roadAt_5 : decode cX3_roadAt 5 = .ok (.invokevirtual 127, 3) := dk_182 0 127 (dk_at dksX3_roadAt_0 5 rfl rfl)
theorem dX3_roadAt_8 : decode cX3_roadAt 8 = .ok (.ifCond .eq 14, 3) := dk_153 0 14 (dk_at dksX3_roadAt_0 8 rfl rfl)
theorem dX3_roadAt_11 : decode cX3_roadAt 11 = .ok (.aload_n 0, 1) := dk_42 (dk_at dksX3_roadAt_0 11 rfl rfl)
theorem dX3_roadAt_12 : decode cX3_roadAt 12 = .ok (.getfield 16, 3) := dk_180 0 16 (dk_at dksX3_roadAt_0 12 rfl rfl)
theorem dX3_roadAt_15 : decode cX3_roadAt 15 = .ok (.iload_n 1, 1) := dk_27 (dk_at dksX3_roadAt_0 15 rfl rfl)
theorem dX3_roadAt_16 : decode cX3_roadAt 16 = .ok (.iaload, 1) := dk_46 (dk_at dksX3_roadAt_0 16 rfl rfl)
theorem dX3_roadAt_17 : decode cX3_roadAt 17 = .ok (.iconst 1, 1) := dk_4 (dk_at dksX3_roadAt_0 17 rfl rfl)
theorem dX3_roadAt_18 : decode cX3_roadAt 18 = .ok (.isub, 1) := dk_100 (dk_at dksX3_roadAt_0 18 rfl rfl)
theorem dX3_roadAt_19 : decode cX3_roadAt 19 = .ok (.goto 4, 3) := dk_167 0 4 (dk_at dksX3_roadAt_0 19 rfl rfl)
theorem dX3_roadAt_22 : decode cX3_roadAt 22 = .ok (.iconst 0, 1) := dk_3 (dk_at dksX3_roadAt_0 22 rfl rfl)
theorem dX3_roadAt_23 : decode cX3_roadAt 23 = .ok (.ireturn, 1) := dk_172 (dk_at dksX3_roadAt_0 23 rfl rfl)
abbrev cX3_robber : ByteArray := prog_12_method_86_code
def yX3_robber : MethodName := ⟨RX3, "robber", "()I"⟩
def dkwX3_robber_0 : List UInt8 := [42, 3, 181, 0, 59, 42, 180, 0, 178, 172]
abbrev dktX3_robber_0 : List UInt8 := dkwX3_robber_0 ++ []
theorem dksX3_robber_0 : cX3_robber.data.toList.drop 0 = dktX3_robber_0 := by decide +kernel
theorem dX3_robber_0 : decode cX3_robber 0 = .ok (.aload_n 0, 1) := dk_42 (dk_at dksX3_robber_0 0 rfl rfl)
theorem dX3_robber_1 : decode cX3_robber 1 = .ok (.iconst 0, 1) := dk_3 (dk_at dksX3_robber_0 1 rfl rfl)
theorem dX3_robber_2 : decode cX3_robber 2 = .ok (.putfield 59, 3) := dk_181 0 59 (dk_at dksX3_robber_0 2 rfl rfl)
theorem dX3_robber_5 : decode cX3_robber 5 = .ok (.aload_n 0, 1) := dk_42 (dk_at dksX3_robber_0 5 rfl rfl)
theorem dX3_robber_6 : decode cX3_robber 6 = .ok (.getfield 178, 3) := dk_180 0 178 (dk_at dksX3_robber_0 6 rfl rfl)
theorem dX3_robber_9 : decode cX3_robber 9 = .ok (.ireturn, 1) := dk_172 (dk_at dksX3_robber_0 9 rfl rfl)
abbrev cX3_rate : ByteArray := prog_12_method_87_code
def yX3_rate : MethodName := ⟨RX3, "rate", "(II)I"⟩
def dkwX3_rate_1 : List UInt8 := [182, 0, 234, 167, 0, 8, 42, 5, 182, 0, 149, 172]
abbrev dktX3_rate_1 : List UInt8 := dkwX3_rate_1 ++ []
def dkwX3_rate_0 : List UInt8 := [42, 27, 184, 0, 159, 182, 0, 127, 154, 0, 5, 3, 172, 28, 184, 0, 227, 153, 0, 12, 42, 27, 28]
abbrev dktX3_rate_0 : List UInt8 := dkwX3_rate_0 ++ dktX3_rate_1
theorem dksX3_rate_0 : cX3_rate.data.toList.drop 0 = dktX3_rate_0 := by decide +kernel
theorem dksX3_rate_1 : cX3_rate.data.toList.drop 23 = dktX3_rate_1 := dk_seg dksX3_rate_0 23 rfl rfl
theorem dX3_rate_0 : decode cX3_rate 0 = .ok (.aload_n 0, 1) := dk_42 (dk_at dksX3_rate_0 0 rfl rfl)
theorem dX3_rate_1 : decode cX3_rate 1 = .ok (.iload_n 1, 1) := dk_27 (dk_at dksX3_rate_0 1 rfl rfl)
theorem dX3_rate_2 : decode cX3_rate 2 = .ok (.invokestatic 159, 3) := dk_184 0 159 (dk_at dksX3_rate_0 2 rfl rfl)
theorem dX3_rate_5 : decode cX3_rate 5 = .ok (.invokevirtual 127, 3) := dk_182 0 127 (dk_at dksX3_rate_0 5 rfl rfl)
theorem dX3_rate_8 : decode cX3_rate 8 = .ok (.ifCond .ne 5, 3) := dk_154 0 5 (dk_at dksX3_rate_0 8 rfl rfl)
theorem dX3_rate_11 : decode cX3_rate 11 = .ok (.iconst 0, 1) := dk_3 (dk_at dksX3_rate_0 11 rfl rfl)
theorem dX3_rate_12 : decode cX3_rate 12 = .ok (.ireturn, 1) := dk_172 (dk_at dksX3_rate_0 12 rfl rfl)
theorem dX3_rate_13 : decode cX3_rate 13 = .ok (.iload_n 2, 1) := dk_28 (dk_at dksX3_rate_0 13 rfl rfl)
theorem dX3_rate_14 : decode cX3_rate 14 = .ok (.invokestatic 227, 3) := dk_184 0 227 (dk_at dksX3_rate_0 14 rfl rfl)
theorem dX3_rate_17 : decode cX3_rate 17 = .ok (.ifCond .eq 12, 3) := dk_153 0 12 (dk_at dksX3_rate_0 17 rfl rfl)
theorem dX3_rate_20 : decode cX3_rate 20 = .ok (.aload_n 0, 1) := dk_42 (dk_at dksX3_rate_0 20 rfl rfl)
theorem dX3_rate_21 : decode cX3_rate 21 = .ok (.iload_n 1, 1) := dk_27 (dk_at dksX3_rate_0 21 rfl rfl)
theorem dX3_rate_22 : decode cX3_rate 22 = .ok (.iload_n 2, 1) := dk_28 (dk_at dksX3_rate_0 22 rfl rfl)
theorem dX3_rate_23 : decode cX3_rate 23 = .ok (.invokevirtual 234, 3) := dk_182 0 234 (dk_at dksX3_rate_1 0 rfl rfl)
theorem dX3_rate_26 : decode cX3_rate 26 = .ok (.goto 8, 3) := dk_167 0 8 (dk_at dksX3_rate_1 3 rfl rfl)
theorem dX3_rate_29 : decode cX3_rate 29 = .ok (.aload_n 0, 1) := dk_42 (dk_at dksX3_rate_1 6 rfl rfl)
theorem dX3_rate_30 : decode cX3_rate 30 = .ok (.iconst 2, 1) := dk_5 (dk_at dksX3_rate_1 7 rfl rfl)
theorem dX3_rate_31 : decode cX3_rate 31 = .ok (.invokevirtual 149, 3) := dk_182 0 149 (dk_at dksX3_rate_1 8 rfl rfl)
theorem dX3_rate_34 : decode cX3_rate 34 = .ok (.ireturn, 1) := dk_172 (dk_at dksX3_rate_1 11 rfl rfl)
abbrev cX3_wouldGet : ByteArray := prog_12_method_88_code
def yX3_wouldGet : MethodName := ⟨RX3, "wouldGet", "(III)I"⟩
def dkwX3_wouldGet_2 : List UInt8 := [28, 96, 46, 172]
abbrev dktX3_wouldGet_2 : List UInt8 := dkwX3_wouldGet_2 ++ []
def dkwX3_wouldGet_1 : List UInt8 := [184, 0, 131, 154, 0, 9, 42, 5, 182, 0, 149, 172, 42, 29, 182, 0, 181, 42, 180, 0, 56, 8, 27, 104]
abbrev dktX3_wouldGet_1 : List UInt8 := dkwX3_wouldGet_1 ++ dktX3_wouldGet_2
def dkwX3_wouldGet_0 : List UInt8 := [42, 27, 184, 0, 159, 182, 0, 127, 154, 0, 5, 3, 172, 28, 184, 0, 227, 153, 0, 13, 29, 5, 16, 12]
abbrev dktX3_wouldGet_0 : List UInt8 := dkwX3_wouldGet_0 ++ dktX3_wouldGet_1
theorem dksX3_wouldGet_0 : cX3_wouldGet.data.toList.drop 0 = dktX3_wouldGet_0 := by decide +kernel
theorem dksX3_wouldGet_1 : cX3_wouldGet.data.toList.drop 24 = dktX3_wouldGet_1 := dk_seg dksX3_wouldGet_0 24 rfl rfl
theorem dksX3_wouldGet_2 : cX3_wouldGet.data.toList.drop 48 = dktX3_wouldGet_2 := dk_seg dksX3_wouldGet_1 24 rfl rfl
theorem dX3_wouldGet_0 : decode cX3_wouldGet 0 = .ok (.aload_n 0, 1) := dk_42 (dk_at dksX3_wouldGet_0 0 rfl rfl)
theorem dX3_wouldGet_1 : decode cX3_wouldGet 1 = .ok (.iload_n 1, 1) := dk_27 (dk_at dksX3_wouldGet_0 1 rfl rfl)
theorem dX3_wouldGet_2 : decode cX3_wouldGet 2 = .ok (.invokestatic 159, 3) := dk_184 0 159 (dk_at dksX3_wouldGet_0 2 rfl rfl)
theorem dX3_wouldGet_5 : decode cX3_wouldGet 5 = .ok (.invokevirtual 127, 3) := dk_182 0 127 (dk_at dksX3_wouldGet_0 5 rfl rfl)
theorem dX3_wouldGet_8 : decode cX3_wouldGet 8 = .ok (.ifCond .ne 5, 3) := dk_154 0 5 (dk_at dksX3_wouldGet_0 8 rfl rfl)
theorem dX3_wouldGet_11 : decode cX3_wouldGet 11 = .ok (.iconst 0, 1) := dk_3 (dk_at dksX3_wouldGet_0 11 rfl rfl)
theorem dX3_wouldGet_12 : decode cX3_wouldGet 12 = .ok (.ireturn, 1) := dk_172 (dk_at dksX3_wouldGet_0 12 rfl rfl)
theorem dX3_wouldGet_13 : decode cX3_wouldGet 13 = .ok (.iload_n 2, 1) := dk_28 (dk_at dksX3_wouldGet_0 13 rfl rfl)
theorem dX3_wouldGet_14 : decode cX3_wouldGet 14 = .ok (.invokestatic 227, 3) := dk_184 0 227 (dk_at dksX3_wouldGet_0 14 rfl rfl)
theorem dX3_wouldGet_17 : decode cX3_wouldGet 17 = .ok (.ifCond .eq 13, 3) := dk_153 0 13 (dk_at dksX3_wouldGet_0 17 rfl rfl)
theorem dX3_wouldGet_20 : decode cX3_wouldGet 20 = .ok (.iload_n 3, 1) := dk_29 (dk_at dksX3_wouldGet_0 20 rfl rfl)
theorem dX3_wouldGet_21 : decode cX3_wouldGet 21 = .ok (.iconst 2, 1) := dk_5 (dk_at dksX3_wouldGet_0 21 rfl rfl)
theorem dX3_wouldGet_22 : decode cX3_wouldGet 22 = .ok (.bipush 12, 2) := dk_16 12 (dk_at dksX3_wouldGet_0 22 rfl rfl)
theorem dX3_wouldGet_24 : decode cX3_wouldGet 24 = .ok (.invokestatic 131, 3) := dk_184 0 131 (dk_at dksX3_wouldGet_1 0 rfl rfl)
theorem dX3_wouldGet_27 : decode cX3_wouldGet 27 = .ok (.ifCond .ne 9, 3) := dk_154 0 9 (dk_at dksX3_wouldGet_1 3 rfl rfl)
theorem dX3_wouldGet_30 : decode cX3_wouldGet 30 = .ok (.aload_n 0, 1) := dk_42 (dk_at dksX3_wouldGet_1 6 rfl rfl)
theorem dX3_wouldGet_31 : decode cX3_wouldGet 31 = .ok (.iconst 2, 1) := dk_5 (dk_at dksX3_wouldGet_1 7 rfl rfl)
theorem dX3_wouldGet_32 : decode cX3_wouldGet 32 = .ok (.invokevirtual 149, 3) := dk_182 0 149 (dk_at dksX3_wouldGet_1 8 rfl rfl)
theorem dX3_wouldGet_35 : decode cX3_wouldGet 35 = .ok (.ireturn, 1) := dk_172 (dk_at dksX3_wouldGet_1 11 rfl rfl)
theorem dX3_wouldGet_36 : decode cX3_wouldGet 36 = .ok (.aload_n 0, 1) := dk_42 (dk_at dksX3_wouldGet_1 12 rfl rfl)
theorem dX3_wouldGet_37 : decode cX3_wouldGet 37 = .ok (.iload_n 3, 1) := dk_29 (dk_at dksX3_wouldGet_1 13 rfl rfl)
theorem dX3_wouldGet_38 : decode cX3_wouldGet 38 = .ok (.invokevirtual 181, 3) := dk_182 0 181 (dk_at dksX3_wouldGet_1 14 rfl rfl)
theorem dX3_wouldGet_41 : decode cX3_wouldGet 41 = .ok (.aload_n 0, 1) := dk_42 (dk_at dksX3_wouldGet_1 17 rfl rfl)
theorem dX3_wouldGet_42 : decode cX3_wouldGet 42 = .ok (.getfield 56, 3) := dk_180 0 56 (dk_at dksX3_wouldGet_1 18 rfl rfl)
theorem dX3_wouldGet_45 : decode cX3_wouldGet 45 = .ok (.iconst 5, 1) := dk_8 (dk_at dksX3_wouldGet_1 21 rfl rfl)
theorem dX3_wouldGet_46 : decode cX3_wouldGet 46 = .ok (.iload_n 1, 1) := dk_27 (dk_at dksX3_wouldGet_1 22 rfl rfl)
theorem dX3_wouldGet_47 : decode cX3_wouldGet 47 = .ok (.imul, 1) := dk_104 (dk_at dksX3_wouldGet_1 23 rfl rfl)
theorem dX3_wouldGet_48 : decode cX3_wouldGet 48 = .ok (.iload_n 2, 1) := dk_28 (dk_at dksX3_wouldGet_2 0 rfl rfl)
theorem dX3_wouldGet_49 : decode cX3_wouldGet 49 = .ok (.iadd, 1) := dk_96 (dk_at dksX3_wouldGet_2 1 rfl rfl)
theorem dX3_wouldGet_50 : decode cX3_wouldGet 50 = .ok (.iaload, 1) := dk_46 (dk_at dksX3_wouldGet_2 2 rfl rfl)
theorem dX3_wouldGet_51 : decode cX3_wouldGet 51 = .ok (.ireturn, 1) := dk_172 (dk_at dksX3_wouldGet_2 3 rfl rfl)
theorem q76 : (Jvm.Cond.initialized "HexsteadModel") ∈ lw_all := lw_g (lw_at lw_m1 6 rfl) rfl
theorem q489 : (Jvm.Cond.selects "HexsteadModel" ({ cls := "java/lang/Object", name := "getClass", desc := "()Ljava/lang/Class;" } : Jvm.MethodName) ({ cls := "java/lang/Object", name := "getClass", desc := "()Ljava/lang/Class;" } : Jvm.MethodName)) ∈ lw_all := lw_g (lw_at lw_m2 179 rfl) rfl
theorem q1042 : (Jvm.Cond.instantiable "HexsteadModel" (26 : Nat)) ∈ lw_all := lw_g (lw_at lw_m5 12 rfl) rfl
theorem q1044 : (Jvm.Cond.instanceMethod ({ cls := "HexsteadModel", name := "<init>", desc := "()V" } : Jvm.MethodName)) ∈ lw_all := lw_g (lw_at lw_m5 14 rfl) rfl
theorem q1045 : (Jvm.Cond.code ({ cls := "HexsteadModel", name := "<init>", desc := "()V" } : Jvm.MethodName) prog_12_method_1_code (2 : Nat) (Option.none : Option Jvm.ClassFile.FieldType)) ∈ lw_all := lw_g (lw_at lw_m5 15 rfl) rfl
theorem q1046 : (Jvm.Cond.methodLink "HexsteadModel" (1 : Nat) ({ cls := "java/lang/Object", name := "<init>", desc := "()V" } : Jvm.MethodName)) ∈ lw_all := lw_g (lw_at lw_m5 16 rfl) rfl
theorem q1047 : (Jvm.Cond.fieldLink "HexsteadModel" (7 : Nat) "HexsteadModel" "good" "[I") ∈ lw_all := lw_g (lw_at lw_m5 17 rfl) rfl
theorem q1048 : (Jvm.Cond.fieldLink "HexsteadModel" (13 : Nat) "HexsteadModel" "number" "[I") ∈ lw_all := lw_g (lw_at lw_m5 18 rfl) rfl
theorem q1049 : (Jvm.Cond.fieldLink "HexsteadModel" (178 : Nat) "HexsteadModel" "robber" "I") ∈ lw_all := lw_g (lw_at lw_m5 19 rfl) rfl
theorem q1050 : (Jvm.Cond.fieldLink "HexsteadModel" (16 : Nat) "HexsteadModel" "road" "[I") ∈ lw_all := lw_g (lw_at lw_m5 20 rfl) rfl
theorem q1051 : (Jvm.Cond.fieldLink "HexsteadModel" (19 : Nat) "HexsteadModel" "building" "[I") ∈ lw_all := lw_g (lw_at lw_m5 21 rfl) rfl
theorem q1052 : (Jvm.Cond.fieldLink "HexsteadModel" (22 : Nat) "HexsteadModel" "hand" "[I") ∈ lw_all := lw_g (lw_at lw_m5 22 rfl) rfl
theorem q1053 : (Jvm.Cond.fieldLink "HexsteadModel" (25 : Nat) "HexsteadModel" "due" "[I") ∈ lw_all := lw_g (lw_at lw_m5 23 rfl) rfl
theorem q1054 : (Jvm.Cond.fieldLink "HexsteadModel" (115 : Nat) "HexsteadModel" "phase" "I") ∈ lw_all := lw_g (lw_at lw_m5 24 rfl) rfl
theorem q1055 : (Jvm.Cond.fieldLink "HexsteadModel" (118 : Nat) "HexsteadModel" "turn" "I") ∈ lw_all := lw_g (lw_at lw_m5 25 rfl) rfl
theorem q1056 : (Jvm.Cond.fieldLink "HexsteadModel" (134 : Nat) "HexsteadModel" "placed" "I") ∈ lw_all := lw_g (lw_at lw_m5 26 rfl) rfl
theorem q1057 : (Jvm.Cond.fieldLink "HexsteadModel" (165 : Nat) "HexsteadModel" "isRolled" "Z") ∈ lw_all := lw_g (lw_at lw_m5 27 rfl) rfl
theorem q1058 : (Jvm.Cond.fieldLink "HexsteadModel" (28 : Nat) "HexsteadModel" "cards" "[I") ∈ lw_all := lw_g (lw_at lw_m5 28 rfl) rfl
theorem q1059 : (Jvm.Cond.fieldLink "HexsteadModel" (31 : Nat) "HexsteadModel" "fresh" "[I") ∈ lw_all := lw_g (lw_at lw_m5 29 rfl) rfl
theorem q1060 : (Jvm.Cond.fieldLink "HexsteadModel" (212 : Nat) "HexsteadModel" "bought" "I") ∈ lw_all := lw_g (lw_at lw_m5 30 rfl) rfl
theorem q1061 : (Jvm.Cond.fieldLink "HexsteadModel" (218 : Nat) "HexsteadModel" "isUsed" "Z") ∈ lw_all := lw_g (lw_at lw_m5 31 rfl) rfl
theorem q1062 : (Jvm.Cond.fieldLink "HexsteadModel" (34 : Nat) "HexsteadModel" "knights" "[I") ∈ lw_all := lw_g (lw_at lw_m5 32 rfl) rfl
theorem q1063 : (Jvm.Cond.fieldLink "HexsteadModel" (37 : Nat) "HexsteadModel" "army" "I") ∈ lw_all := lw_g (lw_at lw_m5 33 rfl) rfl
theorem q1064 : (Jvm.Cond.fieldLink "HexsteadModel" (41 : Nat) "HexsteadModel" "longest" "I") ∈ lw_all := lw_g (lw_at lw_m5 34 rfl) rfl
theorem q1065 : (Jvm.Cond.fieldLink "HexsteadModel" (237 : Nat) "HexsteadModel" "give" "I") ∈ lw_all := lw_g (lw_at lw_m5 35 rfl) rfl
theorem q1066 : (Jvm.Cond.fieldLink "HexsteadModel" (240 : Nat) "HexsteadModel" "want" "I") ∈ lw_all := lw_g (lw_at lw_m5 36 rfl) rfl
theorem q1067 : (Jvm.Cond.fieldLink "HexsteadModel" (44 : Nat) "HexsteadModel" "gives" "[I") ∈ lw_all := lw_g (lw_at lw_m5 37 rfl) rfl
theorem q1068 : (Jvm.Cond.fieldLink "HexsteadModel" (47 : Nat) "HexsteadModel" "wants" "[I") ∈ lw_all := lw_g (lw_at lw_m5 38 rfl) rfl
theorem q1069 : (Jvm.Cond.fieldLink "HexsteadModel" (50 : Nat) "HexsteadModel" "own" "[I") ∈ lw_all := lw_g (lw_at lw_m5 39 rfl) rfl
theorem q1070 : (Jvm.Cond.fieldLink "HexsteadModel" (53 : Nat) "HexsteadModel" "degree" "[I") ∈ lw_all := lw_g (lw_at lw_m5 40 rfl) rfl
theorem q1071 : (Jvm.Cond.fieldLink "HexsteadModel" (56 : Nat) "HexsteadModel" "yield" "[I") ∈ lw_all := lw_g (lw_at lw_m5 41 rfl) rfl
theorem q1072 : (Jvm.Cond.fieldLink "HexsteadModel" (59 : Nat) "HexsteadModel" "thrown" "I") ∈ lw_all := lw_g (lw_at lw_m5 42 rfl) rfl
theorem q1073 : (Jvm.Cond.laysFinal "HexsteadModel" "HexsteadModel" "good" "[I") ∈ lw_all := lw_g (lw_at lw_m5 43 rfl) rfl
theorem q1074 : (Jvm.Cond.soleField "HexsteadModel" "good") ∈ lw_all := lw_g (lw_at lw_m5 44 rfl) rfl
theorem q1075 : (Jvm.Cond.laysFinal "HexsteadModel" "HexsteadModel" "number" "[I") ∈ lw_all := lw_g (lw_at lw_m5 45 rfl) rfl
theorem q1076 : (Jvm.Cond.soleField "HexsteadModel" "number") ∈ lw_all := lw_g (lw_at lw_m5 46 rfl) rfl
theorem q1077 : (Jvm.Cond.lays "HexsteadModel" "HexsteadModel" "robber" "I") ∈ lw_all := lw_g (lw_at lw_m5 47 rfl) rfl
theorem q1078 : (Jvm.Cond.soleField "HexsteadModel" "robber") ∈ lw_all := lw_g (lw_at lw_m5 48 rfl) rfl
theorem q1079 : (Jvm.Cond.laysFinal "HexsteadModel" "HexsteadModel" "road" "[I") ∈ lw_all := lw_g (lw_at lw_m5 49 rfl) rfl
theorem q1080 : (Jvm.Cond.soleField "HexsteadModel" "road") ∈ lw_all := lw_g (lw_at lw_m5 50 rfl) rfl
theorem q1081 : (Jvm.Cond.laysFinal "HexsteadModel" "HexsteadModel" "building" "[I") ∈ lw_all := lw_g (lw_at lw_m5 51 rfl) rfl
theorem q1082 : (Jvm.Cond.soleField "HexsteadModel" "building") ∈ lw_all := lw_g (lw_at lw_m5 52 rfl) rfl
theorem q1083 : (Jvm.Cond.laysFinal "HexsteadModel" "HexsteadModel" "hand" "[I") ∈ lw_all := lw_g (lw_at lw_m5 53 rfl) rfl
theorem q1084 : (Jvm.Cond.soleField "HexsteadModel" "hand") ∈ lw_all := lw_g (lw_at lw_m5 54 rfl) rfl
theorem q1085 : (Jvm.Cond.laysFinal "HexsteadModel" "HexsteadModel" "due" "[I") ∈ lw_all := lw_g (lw_at lw_m5 55 rfl) rfl
theorem q1086 : (Jvm.Cond.soleField "HexsteadModel" "due") ∈ lw_all := lw_g (lw_at lw_m5 56 rfl) rfl
theorem q1087 : (Jvm.Cond.lays "HexsteadModel" "HexsteadModel" "phase" "I") ∈ lw_all := lw_g (lw_at lw_m5 57 rfl) rfl
theorem q1088 : (Jvm.Cond.soleField "HexsteadModel" "phase") ∈ lw_all := lw_g (lw_at lw_m5 58 rfl) rfl
theorem q1089 : (Jvm.Cond.lays "HexsteadModel" "HexsteadModel" "turn" "I") ∈ lw_all := lw_g (lw_at lw_m5 59 rfl) rfl
theorem q1090 : (Jvm.Cond.soleField "HexsteadModel" "turn") ∈ lw_all := lw_g (lw_at lw_m5 60 rfl) rfl
theorem q1091 : (Jvm.Cond.lays "HexsteadModel" "HexsteadModel" "placed" "I") ∈ lw_all := lw_g (lw_at lw_m5 61 rfl) rfl
theorem q1092 : (Jvm.Cond.soleField "HexsteadModel" "placed") ∈ lw_all := lw_g (lw_at lw_m5 62 rfl) rfl
theorem q1093 : (Jvm.Cond.lays "HexsteadModel" "HexsteadModel" "isRolled" "Z") ∈ lw_all := lw_g (lw_at lw_m5 63 rfl) rfl
theorem q1094 : (Jvm.Cond.soleField "HexsteadModel" "isRolled") ∈ lw_all := lw_g (lw_at lw_m5 64 rfl) rfl
theorem q1095 : (Jvm.Cond.laysFinal "HexsteadModel" "HexsteadModel" "cards" "[I") ∈ lw_all := lw_g (lw_at lw_m5 65 rfl) rfl
theorem q1096 : (Jvm.Cond.soleField "HexsteadModel" "cards") ∈ lw_all := lw_g (lw_at lw_m5 66 rfl) rfl
theorem q1097 : (Jvm.Cond.laysFinal "HexsteadModel" "HexsteadModel" "fresh" "[I") ∈ lw_all := lw_g (lw_at lw_m5 67 rfl) rfl
theorem q1098 : (Jvm.Cond.soleField "HexsteadModel" "fresh") ∈ lw_all := lw_g (lw_at lw_m5 68 rfl) rfl
theorem q1099 : (Jvm.Cond.lays "HexsteadModel" "HexsteadModel" "bought" "I") ∈ lw_all := lw_g (lw_at lw_m5 69 rfl) rfl
theorem q1100 : (Jvm.Cond.soleField "HexsteadModel" "bought") ∈ lw_all := lw_g (lw_at lw_m5 70 rfl) rfl
theorem q1101 : (Jvm.Cond.lays "HexsteadModel" "HexsteadModel" "isUsed" "Z") ∈ lw_all := lw_g (lw_at lw_m5 71 rfl) rfl
theorem q1102 : (Jvm.Cond.soleField "HexsteadModel" "isUsed") ∈ lw_all := lw_g (lw_at lw_m5 72 rfl) rfl
theorem q1103 : (Jvm.Cond.laysFinal "HexsteadModel" "HexsteadModel" "knights" "[I") ∈ lw_all := lw_g (lw_at lw_m5 73 rfl) rfl
theorem q1104 : (Jvm.Cond.soleField "HexsteadModel" "knights") ∈ lw_all := lw_g (lw_at lw_m5 74 rfl) rfl
theorem q1105 : (Jvm.Cond.lays "HexsteadModel" "HexsteadModel" "army" "I") ∈ lw_all := lw_g (lw_at lw_m5 75 rfl) rfl
theorem q1106 : (Jvm.Cond.soleField "HexsteadModel" "army") ∈ lw_all := lw_g (lw_at lw_m5 76 rfl) rfl
theorem q1107 : (Jvm.Cond.lays "HexsteadModel" "HexsteadModel" "longest" "I") ∈ lw_all := lw_g (lw_at lw_m5 77 rfl) rfl
theorem q1108 : (Jvm.Cond.soleField "HexsteadModel" "longest") ∈ lw_all := lw_g (lw_at lw_m5 78 rfl) rfl
theorem q1109 : (Jvm.Cond.lays "HexsteadModel" "HexsteadModel" "give" "I") ∈ lw_all := lw_g (lw_at lw_m5 79 rfl) rfl
theorem q1110 : (Jvm.Cond.soleField "HexsteadModel" "give") ∈ lw_all := lw_g (lw_at lw_m5 80 rfl) rfl
theorem q1111 : (Jvm.Cond.lays "HexsteadModel" "HexsteadModel" "want" "I") ∈ lw_all := lw_g (lw_at lw_m5 81 rfl) rfl
theorem q1112 : (Jvm.Cond.soleField "HexsteadModel" "want") ∈ lw_all := lw_g (lw_at lw_m5 82 rfl) rfl
theorem q1113 : (Jvm.Cond.laysFinal "HexsteadModel" "HexsteadModel" "gives" "[I") ∈ lw_all := lw_g (lw_at lw_m5 83 rfl) rfl
theorem q1114 : (Jvm.Cond.soleField "HexsteadModel" "gives") ∈ lw_all := lw_g (lw_at lw_m5 84 rfl) rfl
theorem q1115 : (Jvm.Cond.laysFinal "HexsteadModel" "HexsteadModel" "wants" "[I") ∈ lw_all := lw_g (lw_at lw_m5 85 rfl) rfl
theorem q1116 : (Jvm.Cond.soleField "HexsteadModel" "wants") ∈ lw_all := lw_g (lw_at lw_m5 86 rfl) rfl
theorem q1117 : (Jvm.Cond.laysFinal "HexsteadModel" "HexsteadModel" "own" "[I") ∈ lw_all := lw_g (lw_at lw_m5 87 rfl) rfl
theorem q1118 : (Jvm.Cond.soleField "HexsteadModel" "own") ∈ lw_all := lw_g (lw_at lw_m5 88 rfl) rfl
theorem q1119 : (Jvm.Cond.laysFinal "HexsteadModel" "HexsteadModel" "degree" "[I") ∈ lw_all := lw_g (lw_at lw_m5 89 rfl) rfl
theorem q1120 : (Jvm.Cond.soleField "HexsteadModel" "degree") ∈ lw_all := lw_g (lw_at lw_m5 90 rfl) rfl
theorem q1121 : (Jvm.Cond.laysFinal "HexsteadModel" "HexsteadModel" "yield" "[I") ∈ lw_all := lw_g (lw_at lw_m5 91 rfl) rfl
theorem q1122 : (Jvm.Cond.soleField "HexsteadModel" "yield") ∈ lw_all := lw_g (lw_at lw_m5 92 rfl) rfl
theorem q1123 : (Jvm.Cond.lays "HexsteadModel" "HexsteadModel" "thrown" "I") ∈ lw_all := lw_g (lw_at lw_m5 93 rfl) rfl
theorem q1124 : (Jvm.Cond.soleField "HexsteadModel" "thrown") ∈ lw_all := lw_g (lw_at lw_m5 94 rfl) rfl
theorem q1125 : (Jvm.Cond.superclass "HexsteadModel" "java/lang/Object") ∈ lw_all := lw_g (lw_at lw_m5 95 rfl) rfl
theorem q1127 : (Jvm.Cond.instanceMethod ({ cls := "HexsteadModel", name := "thrown", desc := "()I" } : Jvm.MethodName)) ∈ lw_all := lw_g (lw_at lw_m5 97 rfl) rfl
theorem q1128 : (Jvm.Cond.selects "HexsteadModel" ({ cls := "HexsteadModel", name := "thrown", desc := "()I" } : Jvm.MethodName) ({ cls := "HexsteadModel", name := "thrown", desc := "()I" } : Jvm.MethodName)) ∈ lw_all := lw_g (lw_at lw_m5 98 rfl) rfl
theorem q1129 : (Jvm.Cond.code ({ cls := "HexsteadModel", name := "thrown", desc := "()I" } : Jvm.MethodName) prog_12_method_2_code (1 : Nat) (Option.some Jvm.ClassFile.FieldType.int)) ∈ lw_all := lw_g (lw_at lw_m5 99 rfl) rfl
theorem q1131 : (Jvm.Cond.instanceMethod ({ cls := "HexsteadModel", name := "layHex", desc := "(III)V" } : Jvm.MethodName)) ∈ lw_all := lw_g (lw_at lw_m5 101 rfl) rfl
theorem q1132 : (Jvm.Cond.selects "HexsteadModel" ({ cls := "HexsteadModel", name := "layHex", desc := "(III)V" } : Jvm.MethodName) ({ cls := "HexsteadModel", name := "layHex", desc := "(III)V" } : Jvm.MethodName)) ∈ lw_all := lw_g (lw_at lw_m5 102 rfl) rfl
theorem q1133 : (Jvm.Cond.code ({ cls := "HexsteadModel", name := "layHex", desc := "(III)V" } : Jvm.MethodName) prog_12_method_37_code (4 : Nat) (Option.none : Option Jvm.ClassFile.FieldType)) ∈ lw_all := lw_g (lw_at lw_m5 103 rfl) rfl
theorem q1134 : (Jvm.Cond.methodLink "HexsteadModel" (124 : Nat) ({ cls := "HexsteadModel", name := "isHex", desc := "(I)Z" } : Jvm.MethodName)) ∈ lw_all := lw_g (lw_at lw_m5 104 rfl) rfl
theorem q1135 : (Jvm.Cond.static ({ cls := "HexsteadModel", name := "isHex", desc := "(I)Z" } : Jvm.MethodName)) ∈ lw_all := lw_g (lw_at lw_m5 105 rfl) rfl
theorem q1136 : (Jvm.Cond.code ({ cls := "HexsteadModel", name := "isHex", desc := "(I)Z" } : Jvm.MethodName) prog_12_method_9_code (1 : Nat) (Option.some Jvm.ClassFile.FieldType.boolean)) ∈ lw_all := lw_g (lw_at lw_m5 106 rfl) rfl
theorem q1137 : (Jvm.Cond.methodLink "HexsteadModel" (127 : Nat) ({ cls := "HexsteadModel", name := "asks", desc := "(Z)Z" } : Jvm.MethodName)) ∈ lw_all := lw_g (lw_at lw_m5 107 rfl) rfl
theorem q1138 : (Jvm.Cond.privateMethod ({ cls := "HexsteadModel", name := "asks", desc := "(Z)Z" } : Jvm.MethodName)) ∈ lw_tbl := lw_at lw_m5 108 rfl
theorem q1139 : (Jvm.Cond.instanceMethod ({ cls := "HexsteadModel", name := "asks", desc := "(Z)Z" } : Jvm.MethodName)) ∈ lw_all := lw_g (lw_at lw_m5 109 rfl) rfl
theorem q1140 : (Jvm.Cond.code ({ cls := "HexsteadModel", name := "asks", desc := "(Z)Z" } : Jvm.MethodName) prog_12_method_4_code (2 : Nat) (Option.some Jvm.ClassFile.FieldType.boolean)) ∈ lw_all := lw_g (lw_at lw_m5 110 rfl) rfl
theorem q1141 : (Jvm.Cond.methodLink "HexsteadModel" (131 : Nat) ({ cls := "HexsteadModel", name := "in", desc := "(III)Z" } : Jvm.MethodName)) ∈ lw_all := lw_g (lw_at lw_m5 111 rfl) rfl
theorem q1142 : (Jvm.Cond.static ({ cls := "HexsteadModel", name := "in", desc := "(III)Z" } : Jvm.MethodName)) ∈ lw_all := lw_g (lw_at lw_m5 112 rfl) rfl
theorem q1143 : (Jvm.Cond.code ({ cls := "HexsteadModel", name := "in", desc := "(III)Z" } : Jvm.MethodName) prog_12_method_5_code (3 : Nat) (Option.some Jvm.ClassFile.FieldType.boolean)) ∈ lw_all := lw_g (lw_at lw_m5 113 rfl) rfl
theorem q1145 : (Jvm.Cond.instanceMethod ({ cls := "HexsteadModel", name := "place", desc := "(II)I" } : Jvm.MethodName)) ∈ lw_all := lw_g (lw_at lw_m5 115 rfl) rfl
theorem q1146 : (Jvm.Cond.selects "HexsteadModel" ({ cls := "HexsteadModel", name := "place", desc := "(II)I" } : Jvm.MethodName) ({ cls := "HexsteadModel", name := "place", desc := "(II)I" } : Jvm.MethodName)) ∈ lw_all := lw_g (lw_at lw_m5 116 rfl) rfl
theorem q1147 : (Jvm.Cond.code ({ cls := "HexsteadModel", name := "place", desc := "(II)I" } : Jvm.MethodName) prog_12_method_39_code (3 : Nat) (Option.some Jvm.ClassFile.FieldType.int)) ∈ lw_all := lw_g (lw_at lw_m5 117 rfl) rfl
theorem q1148 : (Jvm.Cond.methodLink "HexsteadModel" (140 : Nat) ({ cls := "HexsteadModel", name := "isCorner", desc := "(I)Z" } : Jvm.MethodName)) ∈ lw_all := lw_g (lw_at lw_m5 118 rfl) rfl
theorem q1149 : (Jvm.Cond.static ({ cls := "HexsteadModel", name := "isCorner", desc := "(I)Z" } : Jvm.MethodName)) ∈ lw_all := lw_g (lw_at lw_m5 119 rfl) rfl
theorem q1150 : (Jvm.Cond.code ({ cls := "HexsteadModel", name := "isCorner", desc := "(I)Z" } : Jvm.MethodName) prog_12_method_7_code (1 : Nat) (Option.some Jvm.ClassFile.FieldType.boolean)) ∈ lw_all := lw_g (lw_at lw_m5 120 rfl) rfl
theorem q1151 : (Jvm.Cond.methodLink "HexsteadModel" (143 : Nat) ({ cls := "HexsteadModel", name := "isEdge", desc := "(I)Z" } : Jvm.MethodName)) ∈ lw_all := lw_g (lw_at lw_m5 121 rfl) rfl
theorem q1152 : (Jvm.Cond.static ({ cls := "HexsteadModel", name := "isEdge", desc := "(I)Z" } : Jvm.MethodName)) ∈ lw_all := lw_g (lw_at lw_m5 122 rfl) rfl
theorem q1153 : (Jvm.Cond.code ({ cls := "HexsteadModel", name := "isEdge", desc := "(I)Z" } : Jvm.MethodName) prog_12_method_8_code (1 : Nat) (Option.some Jvm.ClassFile.FieldType.boolean)) ∈ lw_all := lw_g (lw_at lw_m5 123 rfl) rfl
theorem q1154 : (Jvm.Cond.methodLink "HexsteadModel" (146 : Nat) ({ cls := "HexsteadModel", name := "isFree", desc := "(I)Z" } : Jvm.MethodName)) ∈ lw_all := lw_g (lw_at lw_m5 124 rfl) rfl
theorem q1155 : (Jvm.Cond.privateMethod ({ cls := "HexsteadModel", name := "isFree", desc := "(I)Z" } : Jvm.MethodName)) ∈ lw_tbl := lw_at lw_m5 125 rfl
theorem q1156 : (Jvm.Cond.instanceMethod ({ cls := "HexsteadModel", name := "isFree", desc := "(I)Z" } : Jvm.MethodName)) ∈ lw_all := lw_g (lw_at lw_m5 126 rfl) rfl
theorem q1157 : (Jvm.Cond.code ({ cls := "HexsteadModel", name := "isFree", desc := "(I)Z" } : Jvm.MethodName) prog_12_method_18_code (4 : Nat) (Option.some Jvm.ClassFile.FieldType.boolean)) ∈ lw_all := lw_g (lw_at lw_m5 127 rfl) rfl
theorem q1158 : (Jvm.Cond.methodLink "HexsteadModel" (70 : Nat) ({ cls := "HexsteadModel", name := "hasCorner", desc := "(II)Z" } : Jvm.MethodName)) ∈ lw_all := lw_g (lw_at lw_m5 128 rfl) rfl
theorem q1159 : (Jvm.Cond.static ({ cls := "HexsteadModel", name := "hasCorner", desc := "(II)Z" } : Jvm.MethodName)) ∈ lw_all := lw_g (lw_at lw_m5 129 rfl) rfl
theorem q1160 : (Jvm.Cond.code ({ cls := "HexsteadModel", name := "hasCorner", desc := "(II)Z" } : Jvm.MethodName) prog_12_method_14_code (2 : Nat) (Option.some Jvm.ClassFile.FieldType.boolean)) ∈ lw_all := lw_g (lw_at lw_m5 130 rfl) rfl
theorem q1161 : (Jvm.Cond.methodLink "HexsteadModel" (63 : Nat) ({ cls := "HexsteadModel", name := "oneEnd", desc := "(I)I" } : Jvm.MethodName)) ∈ lw_all := lw_g (lw_at lw_m5 131 rfl) rfl
theorem q1162 : (Jvm.Cond.static ({ cls := "HexsteadModel", name := "oneEnd", desc := "(I)I" } : Jvm.MethodName)) ∈ lw_all := lw_g (lw_at lw_m5 132 rfl) rfl
theorem q1163 : (Jvm.Cond.code ({ cls := "HexsteadModel", name := "oneEnd", desc := "(I)I" } : Jvm.MethodName) prog_12_method_12_code (1 : Nat) (Option.some Jvm.ClassFile.FieldType.int)) ∈ lw_all := lw_g (lw_at lw_m5 133 rfl) rfl
theorem q1164 : (Jvm.Cond.methodLink "HexsteadModel" (67 : Nat) ({ cls := "HexsteadModel", name := "otherEnd", desc := "(I)I" } : Jvm.MethodName)) ∈ lw_all := lw_g (lw_at lw_m5 134 rfl) rfl
theorem q1165 : (Jvm.Cond.static ({ cls := "HexsteadModel", name := "otherEnd", desc := "(I)I" } : Jvm.MethodName)) ∈ lw_all := lw_g (lw_at lw_m5 135 rfl) rfl
theorem q1166 : (Jvm.Cond.code ({ cls := "HexsteadModel", name := "otherEnd", desc := "(I)I" } : Jvm.MethodName) prog_12_method_13_code (1 : Nat) (Option.some Jvm.ClassFile.FieldType.int)) ∈ lw_all := lw_g (lw_at lw_m5 136 rfl) rfl
theorem q1167 : (Jvm.Cond.methodLink "HexsteadModel" (149 : Nat) ({ cls := "HexsteadModel", name := "fails", desc := "(I)I" } : Jvm.MethodName)) ∈ lw_all := lw_g (lw_at lw_m5 137 rfl) rfl
theorem q1168 : (Jvm.Cond.privateMethod ({ cls := "HexsteadModel", name := "fails", desc := "(I)I" } : Jvm.MethodName)) ∈ lw_tbl := lw_at lw_m5 138 rfl
theorem q1169 : (Jvm.Cond.instanceMethod ({ cls := "HexsteadModel", name := "fails", desc := "(I)I" } : Jvm.MethodName)) ∈ lw_all := lw_g (lw_at lw_m5 139 rfl) rfl
theorem q1170 : (Jvm.Cond.code ({ cls := "HexsteadModel", name := "fails", desc := "(I)I" } : Jvm.MethodName) prog_12_method_3_code (2 : Nat) (Option.some Jvm.ClassFile.FieldType.int)) ∈ lw_all := lw_g (lw_at lw_m5 140 rfl) rfl
theorem q1171 : (Jvm.Cond.methodLink "HexsteadModel" (152 : Nat) ({ cls := "HexsteadModel", name := "yieldsFirst", desc := "(II)V" } : Jvm.MethodName)) ∈ lw_all := lw_g (lw_at lw_m5 141 rfl) rfl
theorem q1172 : (Jvm.Cond.privateMethod ({ cls := "HexsteadModel", name := "yieldsFirst", desc := "(II)V" } : Jvm.MethodName)) ∈ lw_tbl := lw_at lw_m5 142 rfl
theorem q1173 : (Jvm.Cond.instanceMethod ({ cls := "HexsteadModel", name := "yieldsFirst", desc := "(II)V" } : Jvm.MethodName)) ∈ lw_all := lw_g (lw_at lw_m5 143 rfl) rfl
theorem q1174 : (Jvm.Cond.code ({ cls := "HexsteadModel", name := "yieldsFirst", desc := "(II)V" } : Jvm.MethodName) prog_12_method_38_code (5 : Nat) (Option.none : Option Jvm.ClassFile.FieldType)) ∈ lw_all := lw_g (lw_at lw_m5 144 rfl) rfl
theorem q1175 : (Jvm.Cond.methodLink "HexsteadModel" (137 : Nat) ({ cls := "HexsteadModel", name := "isOf", desc := "(II)Z" } : Jvm.MethodName)) ∈ lw_all := lw_g (lw_at lw_m5 145 rfl) rfl
theorem q1176 : (Jvm.Cond.static ({ cls := "HexsteadModel", name := "isOf", desc := "(II)Z" } : Jvm.MethodName)) ∈ lw_all := lw_g (lw_at lw_m5 146 rfl) rfl
theorem q1177 : (Jvm.Cond.code ({ cls := "HexsteadModel", name := "isOf", desc := "(II)Z" } : Jvm.MethodName) prog_12_method_15_code (3 : Nat) (Option.some Jvm.ClassFile.FieldType.boolean)) ∈ lw_all := lw_g (lw_at lw_m5 147 rfl) rfl
theorem q1178 : (Jvm.Cond.methodLink "HexsteadModel" (156 : Nat) ({ cls := "HexsteadModel", name := "looksAtTrails", desc := "()V" } : Jvm.MethodName)) ∈ lw_all := lw_g (lw_at lw_m5 148 rfl) rfl
theorem q1179 : (Jvm.Cond.privateMethod ({ cls := "HexsteadModel", name := "looksAtTrails", desc := "()V" } : Jvm.MethodName)) ∈ lw_tbl := lw_at lw_m5 149 rfl
theorem q1180 : (Jvm.Cond.instanceMethod ({ cls := "HexsteadModel", name := "looksAtTrails", desc := "()V" } : Jvm.MethodName)) ∈ lw_all := lw_g (lw_at lw_m5 150 rfl) rfl
theorem q1181 : (Jvm.Cond.code ({ cls := "HexsteadModel", name := "looksAtTrails", desc := "()V" } : Jvm.MethodName) prog_12_method_29_code (7 : Nat) (Option.none : Option Jvm.ClassFile.FieldType)) ∈ lw_all := lw_g (lw_at lw_m5 151 rfl) rfl
theorem q1182 : (Jvm.Cond.methodLink "HexsteadModel" (104 : Nat) ({ cls := "HexsteadModel", name := "trailOf", desc := "(I)I" } : Jvm.MethodName)) ∈ lw_all := lw_g (lw_at lw_m5 152 rfl) rfl
theorem q1183 : (Jvm.Cond.privateMethod ({ cls := "HexsteadModel", name := "trailOf", desc := "(I)I" } : Jvm.MethodName)) ∈ lw_tbl := lw_at lw_m5 153 rfl
theorem q1184 : (Jvm.Cond.instanceMethod ({ cls := "HexsteadModel", name := "trailOf", desc := "(I)I" } : Jvm.MethodName)) ∈ lw_all := lw_g (lw_at lw_m5 154 rfl) rfl
theorem q1185 : (Jvm.Cond.code ({ cls := "HexsteadModel", name := "trailOf", desc := "(I)I" } : Jvm.MethodName) prog_12_method_28_code (5 : Nat) (Option.some Jvm.ClassFile.FieldType.int)) ∈ lw_all := lw_g (lw_at lw_m5 155 rfl) rfl
theorem q1186 : (Jvm.Cond.methodLink "HexsteadModel" (94 : Nat) ({ cls := "HexsteadModel", name := "ones", desc := "(I)I" } : Jvm.MethodName)) ∈ lw_all := lw_g (lw_at lw_m5 156 rfl) rfl
theorem q1187 : (Jvm.Cond.static ({ cls := "HexsteadModel", name := "ones", desc := "(I)I" } : Jvm.MethodName)) ∈ lw_all := lw_g (lw_at lw_m5 157 rfl) rfl
theorem q1188 : (Jvm.Cond.code ({ cls := "HexsteadModel", name := "ones", desc := "(I)I" } : Jvm.MethodName) prog_12_method_27_code (3 : Nat) (Option.some Jvm.ClassFile.FieldType.int)) ∈ lw_all := lw_g (lw_at lw_m5 158 rfl) rfl
theorem q1189 : (Jvm.Cond.methodLink "HexsteadModel" (97 : Nat) ({ cls := "HexsteadModel", name := "ends", desc := "(III)I" } : Jvm.MethodName)) ∈ lw_all := lw_g (lw_at lw_m5 159 rfl) rfl
theorem q1190 : (Jvm.Cond.privateMethod ({ cls := "HexsteadModel", name := "ends", desc := "(III)I" } : Jvm.MethodName)) ∈ lw_tbl := lw_at lw_m5 160 rfl
theorem q1191 : (Jvm.Cond.instanceMethod ({ cls := "HexsteadModel", name := "ends", desc := "(III)I" } : Jvm.MethodName)) ∈ lw_all := lw_g (lw_at lw_m5 161 rfl) rfl
theorem q1192 : (Jvm.Cond.code ({ cls := "HexsteadModel", name := "ends", desc := "(III)I" } : Jvm.MethodName) prog_12_method_26_code (8 : Nat) (Option.some Jvm.ClassFile.FieldType.int)) ∈ lw_all := lw_g (lw_at lw_m5 162 rfl) rfl
theorem q1193 : (Jvm.Cond.methodLink "HexsteadModel" (74 : Nat) ({ cls := "HexsteadModel", name := "ownerAt", desc := "(I)I" } : Jvm.MethodName)) ∈ lw_all := lw_g (lw_at lw_m5 163 rfl) rfl
theorem q1194 : (Jvm.Cond.privateMethod ({ cls := "HexsteadModel", name := "ownerAt", desc := "(I)I" } : Jvm.MethodName)) ∈ lw_tbl := lw_at lw_m5 164 rfl
theorem q1195 : (Jvm.Cond.instanceMethod ({ cls := "HexsteadModel", name := "ownerAt", desc := "(I)I" } : Jvm.MethodName)) ∈ lw_all := lw_g (lw_at lw_m5 165 rfl) rfl
theorem q1196 : (Jvm.Cond.code ({ cls := "HexsteadModel", name := "ownerAt", desc := "(I)I" } : Jvm.MethodName) prog_12_method_16_code (2 : Nat) (Option.some Jvm.ClassFile.FieldType.int)) ∈ lw_all := lw_g (lw_at lw_m5 166 rfl) rfl
theorem q1197 : (Jvm.Cond.methodLink "HexsteadModel" (101 : Nat) ({ cls := "HexsteadModel", name := "spread", desc := "(III)I" } : Jvm.MethodName)) ∈ lw_all := lw_g (lw_at lw_m5 167 rfl) rfl
theorem q1198 : (Jvm.Cond.privateMethod ({ cls := "HexsteadModel", name := "spread", desc := "(III)I" } : Jvm.MethodName)) ∈ lw_tbl := lw_at lw_m5 168 rfl
theorem q1199 : (Jvm.Cond.instanceMethod ({ cls := "HexsteadModel", name := "spread", desc := "(III)I" } : Jvm.MethodName)) ∈ lw_all := lw_g (lw_at lw_m5 169 rfl) rfl
theorem q1200 : (Jvm.Cond.code ({ cls := "HexsteadModel", name := "spread", desc := "(III)I" } : Jvm.MethodName) prog_12_method_25_code (10 : Nat) (Option.some Jvm.ClassFile.FieldType.int)) ∈ lw_all := lw_g (lw_at lw_m5 170 rfl) rfl
theorem q1201 : (Jvm.Cond.methodLink "HexsteadModel" (91 : Nat) ({ cls := "HexsteadModel", name := "meet", desc := "(III)Z" } : Jvm.MethodName)) ∈ lw_all := lw_g (lw_at lw_m5 171 rfl) rfl
theorem q1202 : (Jvm.Cond.privateMethod ({ cls := "HexsteadModel", name := "meet", desc := "(III)Z" } : Jvm.MethodName)) ∈ lw_tbl := lw_at lw_m5 172 rfl
theorem q1203 : (Jvm.Cond.instanceMethod ({ cls := "HexsteadModel", name := "meet", desc := "(III)Z" } : Jvm.MethodName)) ∈ lw_all := lw_g (lw_at lw_m5 173 rfl) rfl
theorem q1204 : (Jvm.Cond.code ({ cls := "HexsteadModel", name := "meet", desc := "(III)Z" } : Jvm.MethodName) prog_12_method_24_code (5 : Nat) (Option.some Jvm.ClassFile.FieldType.boolean)) ∈ lw_all := lw_g (lw_at lw_m5 174 rfl) rfl
theorem q1206 : (Jvm.Cond.instanceMethod ({ cls := "HexsteadModel", name := "deal", desc := "(II)I" } : Jvm.MethodName)) ∈ lw_all := lw_g (lw_at lw_m5 176 rfl) rfl
theorem q1207 : (Jvm.Cond.selects "HexsteadModel" ({ cls := "HexsteadModel", name := "deal", desc := "(II)I" } : Jvm.MethodName) ({ cls := "HexsteadModel", name := "deal", desc := "(II)I" } : Jvm.MethodName)) ∈ lw_all := lw_g (lw_at lw_m5 177 rfl) rfl
theorem q1208 : (Jvm.Cond.code ({ cls := "HexsteadModel", name := "deal", desc := "(II)I" } : Jvm.MethodName) prog_12_method_40_code (3 : Nat) (Option.some Jvm.ClassFile.FieldType.int)) ∈ lw_all := lw_g (lw_at lw_m5 178 rfl) rfl
theorem q1209 : (Jvm.Cond.methodLink "HexsteadModel" (159 : Nat) ({ cls := "HexsteadModel", name := "isPlayer", desc := "(I)Z" } : Jvm.MethodName)) ∈ lw_all := lw_g (lw_at lw_m5 179 rfl) rfl
theorem q1210 : (Jvm.Cond.static ({ cls := "HexsteadModel", name := "isPlayer", desc := "(I)Z" } : Jvm.MethodName)) ∈ lw_all := lw_g (lw_at lw_m5 180 rfl) rfl
theorem q1211 : (Jvm.Cond.code ({ cls := "HexsteadModel", name := "isPlayer", desc := "(I)Z" } : Jvm.MethodName) prog_12_method_6_code (1 : Nat) (Option.some Jvm.ClassFile.FieldType.boolean)) ∈ lw_all := lw_g (lw_at lw_m5 181 rfl) rfl
theorem q1212 : (Jvm.Cond.methodLink "HexsteadModel" (162 : Nat) ({ cls := "HexsteadModel", name := "areGoods", desc := "(I)Z" } : Jvm.MethodName)) ∈ lw_all := lw_g (lw_at lw_m5 182 rfl) rfl
theorem q1213 : (Jvm.Cond.static ({ cls := "HexsteadModel", name := "areGoods", desc := "(I)Z" } : Jvm.MethodName)) ∈ lw_all := lw_g (lw_at lw_m5 183 rfl) rfl
theorem q1214 : (Jvm.Cond.code ({ cls := "HexsteadModel", name := "areGoods", desc := "(I)Z" } : Jvm.MethodName) prog_12_method_11_code (1 : Nat) (Option.some Jvm.ClassFile.FieldType.boolean)) ∈ lw_all := lw_g (lw_at lw_m5 184 rfl) rfl
theorem q1215 : (Jvm.Cond.constant "HexsteadModel" (62 : Nat) (99999 : Int32)) ∈ lw_all := lw_g (lw_at lw_m5 185 rfl) rfl
theorem q1216 : (Jvm.Cond.methodLink "HexsteadModel" (169 : Nat) ({ cls := "HexsteadModel", name := "hasAll", desc := "(II)Z" } : Jvm.MethodName)) ∈ lw_all := lw_g (lw_at lw_m5 186 rfl) rfl
theorem q1217 : (Jvm.Cond.privateMethod ({ cls := "HexsteadModel", name := "hasAll", desc := "(II)Z" } : Jvm.MethodName)) ∈ lw_tbl := lw_at lw_m5 187 rfl
theorem q1218 : (Jvm.Cond.instanceMethod ({ cls := "HexsteadModel", name := "hasAll", desc := "(II)Z" } : Jvm.MethodName)) ∈ lw_all := lw_g (lw_at lw_m5 188 rfl) rfl
theorem q1219 : (Jvm.Cond.code ({ cls := "HexsteadModel", name := "hasAll", desc := "(II)Z" } : Jvm.MethodName) prog_12_method_31_code (5 : Nat) (Option.some Jvm.ClassFile.FieldType.boolean)) ∈ lw_all := lw_g (lw_at lw_m5 189 rfl) rfl
theorem q1220 : (Jvm.Cond.methodLink "HexsteadModel" (107 : Nat) ({ cls := "HexsteadModel", name := "digit", desc := "(II)I" } : Jvm.MethodName)) ∈ lw_all := lw_g (lw_at lw_m5 190 rfl) rfl
theorem q1221 : (Jvm.Cond.static ({ cls := "HexsteadModel", name := "digit", desc := "(II)I" } : Jvm.MethodName)) ∈ lw_all := lw_g (lw_at lw_m5 191 rfl) rfl
theorem q1222 : (Jvm.Cond.code ({ cls := "HexsteadModel", name := "digit", desc := "(II)I" } : Jvm.MethodName) prog_12_method_30_code (4 : Nat) (Option.some Jvm.ClassFile.FieldType.int)) ∈ lw_all := lw_g (lw_at lw_m5 192 rfl) rfl
theorem q1223 : (Jvm.Cond.methodLink "HexsteadModel" (172 : Nat) ({ cls := "HexsteadModel", name := "gives", desc := "(III)V" } : Jvm.MethodName)) ∈ lw_all := lw_g (lw_at lw_m5 193 rfl) rfl
theorem q1224 : (Jvm.Cond.privateMethod ({ cls := "HexsteadModel", name := "gives", desc := "(III)V" } : Jvm.MethodName)) ∈ lw_tbl := lw_at lw_m5 194 rfl
theorem q1225 : (Jvm.Cond.instanceMethod ({ cls := "HexsteadModel", name := "gives", desc := "(III)V" } : Jvm.MethodName)) ∈ lw_all := lw_g (lw_at lw_m5 195 rfl) rfl
theorem q1226 : (Jvm.Cond.code ({ cls := "HexsteadModel", name := "gives", desc := "(III)V" } : Jvm.MethodName) prog_12_method_32_code (5 : Nat) (Option.none : Option Jvm.ClassFile.FieldType)) ∈ lw_all := lw_g (lw_at lw_m5 196 rfl) rfl
theorem q1227 : (Jvm.Cond.methodLink "HexsteadModel" (175 : Nat) ({ cls := "HexsteadModel", name := "handOf", desc := "(I)I" } : Jvm.MethodName)) ∈ lw_all := lw_g (lw_at lw_m5 197 rfl) rfl
theorem q1228 : (Jvm.Cond.privateMethod ({ cls := "HexsteadModel", name := "handOf", desc := "(I)I" } : Jvm.MethodName)) ∈ lw_tbl := lw_at lw_m5 198 rfl
theorem q1229 : (Jvm.Cond.instanceMethod ({ cls := "HexsteadModel", name := "handOf", desc := "(I)I" } : Jvm.MethodName)) ∈ lw_all := lw_g (lw_at lw_m5 199 rfl) rfl
theorem q1230 : (Jvm.Cond.code ({ cls := "HexsteadModel", name := "handOf", desc := "(I)I" } : Jvm.MethodName) prog_12_method_33_code (4 : Nat) (Option.some Jvm.ClassFile.FieldType.int)) ∈ lw_all := lw_g (lw_at lw_m5 200 rfl) rfl
theorem q1232 : (Jvm.Cond.instanceMethod ({ cls := "HexsteadModel", name := "roll", desc := "(II)I" } : Jvm.MethodName)) ∈ lw_all := lw_g (lw_at lw_m5 202 rfl) rfl
theorem q1233 : (Jvm.Cond.selects "HexsteadModel" ({ cls := "HexsteadModel", name := "roll", desc := "(II)I" } : Jvm.MethodName) ({ cls := "HexsteadModel", name := "roll", desc := "(II)I" } : Jvm.MethodName)) ∈ lw_all := lw_g (lw_at lw_m5 203 rfl) rfl
theorem q1234 : (Jvm.Cond.code ({ cls := "HexsteadModel", name := "roll", desc := "(II)I" } : Jvm.MethodName) prog_12_method_42_code (5 : Nat) (Option.some Jvm.ClassFile.FieldType.int)) ∈ lw_all := lw_g (lw_at lw_m5 204 rfl) rfl
theorem q1235 : (Jvm.Cond.methodLink "HexsteadModel" (181 : Nat) ({ cls := "HexsteadModel", name := "reckons", desc := "(I)V" } : Jvm.MethodName)) ∈ lw_all := lw_g (lw_at lw_m5 205 rfl) rfl
theorem q1236 : (Jvm.Cond.privateMethod ({ cls := "HexsteadModel", name := "reckons", desc := "(I)V" } : Jvm.MethodName)) ∈ lw_tbl := lw_at lw_m5 206 rfl
theorem q1237 : (Jvm.Cond.instanceMethod ({ cls := "HexsteadModel", name := "reckons", desc := "(I)V" } : Jvm.MethodName)) ∈ lw_all := lw_g (lw_at lw_m5 207 rfl) rfl
theorem q1238 : (Jvm.Cond.code ({ cls := "HexsteadModel", name := "reckons", desc := "(I)V" } : Jvm.MethodName) prog_12_method_41_code (6 : Nat) (Option.none : Option Jvm.ClassFile.FieldType)) ∈ lw_all := lw_g (lw_at lw_m5 208 rfl) rfl
theorem q1239 : (Jvm.Cond.methodLink "HexsteadModel" (87 : Nat) ({ cls := "HexsteadModel", name := "isCity", desc := "(I)Z" } : Jvm.MethodName)) ∈ lw_all := lw_g (lw_at lw_m5 209 rfl) rfl
theorem q1240 : (Jvm.Cond.privateMethod ({ cls := "HexsteadModel", name := "isCity", desc := "(I)Z" } : Jvm.MethodName)) ∈ lw_tbl := lw_at lw_m5 210 rfl
theorem q1241 : (Jvm.Cond.instanceMethod ({ cls := "HexsteadModel", name := "isCity", desc := "(I)Z" } : Jvm.MethodName)) ∈ lw_all := lw_g (lw_at lw_m5 211 rfl) rfl
theorem q1242 : (Jvm.Cond.code ({ cls := "HexsteadModel", name := "isCity", desc := "(I)Z" } : Jvm.MethodName) prog_12_method_17_code (2 : Nat) (Option.some Jvm.ClassFile.FieldType.boolean)) ∈ lw_all := lw_g (lw_at lw_m5 212 rfl) rfl
theorem q1244 : (Jvm.Cond.instanceMethod ({ cls := "HexsteadModel", name := "discard", desc := "(II)I" } : Jvm.MethodName)) ∈ lw_all := lw_g (lw_at lw_m5 214 rfl) rfl
theorem q1245 : (Jvm.Cond.selects "HexsteadModel" ({ cls := "HexsteadModel", name := "discard", desc := "(II)I" } : Jvm.MethodName) ({ cls := "HexsteadModel", name := "discard", desc := "(II)I" } : Jvm.MethodName)) ∈ lw_all := lw_g (lw_at lw_m5 215 rfl) rfl
theorem q1246 : (Jvm.Cond.code ({ cls := "HexsteadModel", name := "discard", desc := "(II)I" } : Jvm.MethodName) prog_12_method_43_code (3 : Nat) (Option.some Jvm.ClassFile.FieldType.int)) ∈ lw_all := lw_g (lw_at lw_m5 216 rfl) rfl
theorem q1247 : (Jvm.Cond.methodLink "HexsteadModel" (185 : Nat) ({ cls := "HexsteadModel", name := "sizeOf", desc := "(I)I" } : Jvm.MethodName)) ∈ lw_all := lw_g (lw_at lw_m5 217 rfl) rfl
theorem q1248 : (Jvm.Cond.static ({ cls := "HexsteadModel", name := "sizeOf", desc := "(I)I" } : Jvm.MethodName)) ∈ lw_all := lw_g (lw_at lw_m5 218 rfl) rfl
theorem q1249 : (Jvm.Cond.code ({ cls := "HexsteadModel", name := "sizeOf", desc := "(I)I" } : Jvm.MethodName) prog_12_method_34_code (3 : Nat) (Option.some Jvm.ClassFile.FieldType.int)) ∈ lw_all := lw_g (lw_at lw_m5 219 rfl) rfl
theorem q1251 : (Jvm.Cond.instanceMethod ({ cls := "HexsteadModel", name := "rob", desc := "(III)I" } : Jvm.MethodName)) ∈ lw_all := lw_g (lw_at lw_m5 221 rfl) rfl
theorem q1252 : (Jvm.Cond.selects "HexsteadModel" ({ cls := "HexsteadModel", name := "rob", desc := "(III)I" } : Jvm.MethodName) ({ cls := "HexsteadModel", name := "rob", desc := "(III)I" } : Jvm.MethodName)) ∈ lw_all := lw_g (lw_at lw_m5 222 rfl) rfl
theorem q1253 : (Jvm.Cond.code ({ cls := "HexsteadModel", name := "rob", desc := "(III)I" } : Jvm.MethodName) prog_12_method_48_code (4 : Nat) (Option.some Jvm.ClassFile.FieldType.int)) ∈ lw_all := lw_g (lw_at lw_m5 223 rfl) rfl
theorem q1254 : (Jvm.Cond.methodLink "HexsteadModel" (191 : Nat) ({ cls := "HexsteadModel", name := "asksRob", desc := "(III)Z" } : Jvm.MethodName)) ∈ lw_all := lw_g (lw_at lw_m5 224 rfl) rfl
theorem q1255 : (Jvm.Cond.privateMethod ({ cls := "HexsteadModel", name := "asksRob", desc := "(III)Z" } : Jvm.MethodName)) ∈ lw_tbl := lw_at lw_m5 225 rfl
theorem q1256 : (Jvm.Cond.instanceMethod ({ cls := "HexsteadModel", name := "asksRob", desc := "(III)Z" } : Jvm.MethodName)) ∈ lw_all := lw_g (lw_at lw_m5 226 rfl) rfl
theorem q1257 : (Jvm.Cond.code ({ cls := "HexsteadModel", name := "asksRob", desc := "(III)Z" } : Jvm.MethodName) prog_12_method_47_code (4 : Nat) (Option.some Jvm.ClassFile.FieldType.boolean)) ∈ lw_all := lw_g (lw_at lw_m5 227 rfl) rfl
theorem q1258 : (Jvm.Cond.methodLink "HexsteadModel" (194 : Nat) ({ cls := "HexsteadModel", name := "mayRob", desc := "(II)Z" } : Jvm.MethodName)) ∈ lw_all := lw_g (lw_at lw_m5 228 rfl) rfl
theorem q1259 : (Jvm.Cond.privateMethod ({ cls := "HexsteadModel", name := "mayRob", desc := "(II)Z" } : Jvm.MethodName)) ∈ lw_tbl := lw_at lw_m5 229 rfl
theorem q1260 : (Jvm.Cond.instanceMethod ({ cls := "HexsteadModel", name := "mayRob", desc := "(II)Z" } : Jvm.MethodName)) ∈ lw_all := lw_g (lw_at lw_m5 230 rfl) rfl
theorem q1261 : (Jvm.Cond.code ({ cls := "HexsteadModel", name := "mayRob", desc := "(II)Z" } : Jvm.MethodName) prog_12_method_45_code (4 : Nat) (Option.some Jvm.ClassFile.FieldType.boolean)) ∈ lw_all := lw_g (lw_at lw_m5 231 rfl) rfl
theorem q1262 : (Jvm.Cond.methodLink "HexsteadModel" (188 : Nat) ({ cls := "HexsteadModel", name := "isVictim", desc := "(II)Z" } : Jvm.MethodName)) ∈ lw_all := lw_g (lw_at lw_m5 232 rfl) rfl
theorem q1263 : (Jvm.Cond.privateMethod ({ cls := "HexsteadModel", name := "isVictim", desc := "(II)Z" } : Jvm.MethodName)) ∈ lw_tbl := lw_at lw_m5 233 rfl
theorem q1264 : (Jvm.Cond.instanceMethod ({ cls := "HexsteadModel", name := "isVictim", desc := "(II)Z" } : Jvm.MethodName)) ∈ lw_all := lw_g (lw_at lw_m5 234 rfl) rfl
theorem q1265 : (Jvm.Cond.code ({ cls := "HexsteadModel", name := "isVictim", desc := "(II)Z" } : Jvm.MethodName) prog_12_method_44_code (5 : Nat) (Option.some Jvm.ClassFile.FieldType.boolean)) ∈ lw_all := lw_g (lw_at lw_m5 235 rfl) rfl
theorem q1266 : (Jvm.Cond.methodLink "HexsteadModel" (197 : Nat) ({ cls := "HexsteadModel", name := "robs", desc := "(III)I" } : Jvm.MethodName)) ∈ lw_all := lw_g (lw_at lw_m5 236 rfl) rfl
theorem q1267 : (Jvm.Cond.privateMethod ({ cls := "HexsteadModel", name := "robs", desc := "(III)I" } : Jvm.MethodName)) ∈ lw_tbl := lw_at lw_m5 237 rfl
theorem q1268 : (Jvm.Cond.instanceMethod ({ cls := "HexsteadModel", name := "robs", desc := "(III)I" } : Jvm.MethodName)) ∈ lw_all := lw_g (lw_at lw_m5 238 rfl) rfl
theorem q1269 : (Jvm.Cond.code ({ cls := "HexsteadModel", name := "robs", desc := "(III)I" } : Jvm.MethodName) prog_12_method_46_code (6 : Nat) (Option.some Jvm.ClassFile.FieldType.int)) ∈ lw_all := lw_g (lw_at lw_m5 239 rfl) rfl
theorem q1271 : (Jvm.Cond.instanceMethod ({ cls := "HexsteadModel", name := "road", desc := "(I)I" } : Jvm.MethodName)) ∈ lw_all := lw_g (lw_at lw_m6 1 rfl) rfl
theorem q1272 : (Jvm.Cond.selects "HexsteadModel" ({ cls := "HexsteadModel", name := "road", desc := "(I)I" } : Jvm.MethodName) ({ cls := "HexsteadModel", name := "road", desc := "(I)I" } : Jvm.MethodName)) ∈ lw_all := lw_g (lw_at lw_m6 2 rfl) rfl
theorem q1273 : (Jvm.Cond.code ({ cls := "HexsteadModel", name := "road", desc := "(I)I" } : Jvm.MethodName) prog_12_method_51_code (2 : Nat) (Option.some Jvm.ClassFile.FieldType.int)) ∈ lw_all := lw_g (lw_at lw_m6 3 rfl) rfl
theorem q1274 : (Jvm.Cond.methodLink "HexsteadModel" (200 : Nat) ({ cls := "HexsteadModel", name := "mayRoad", desc := "(II)Z" } : Jvm.MethodName)) ∈ lw_all := lw_g (lw_at lw_m6 4 rfl) rfl
theorem q1275 : (Jvm.Cond.privateMethod ({ cls := "HexsteadModel", name := "mayRoad", desc := "(II)Z" } : Jvm.MethodName)) ∈ lw_tbl := lw_at lw_m6 5 rfl
theorem q1276 : (Jvm.Cond.instanceMethod ({ cls := "HexsteadModel", name := "mayRoad", desc := "(II)Z" } : Jvm.MethodName)) ∈ lw_all := lw_g (lw_at lw_m6 6 rfl) rfl
theorem q1277 : (Jvm.Cond.code ({ cls := "HexsteadModel", name := "mayRoad", desc := "(II)Z" } : Jvm.MethodName) prog_12_method_22_code (3 : Nat) (Option.some Jvm.ClassFile.FieldType.boolean)) ∈ lw_all := lw_g (lw_at lw_m6 7 rfl) rfl
theorem q1278 : (Jvm.Cond.methodLink "HexsteadModel" (81 : Nat) ({ cls := "HexsteadModel", name := "roadsOf", desc := "(I)I" } : Jvm.MethodName)) ∈ lw_all := lw_g (lw_at lw_m6 8 rfl) rfl
theorem q1279 : (Jvm.Cond.privateMethod ({ cls := "HexsteadModel", name := "roadsOf", desc := "(I)I" } : Jvm.MethodName)) ∈ lw_tbl := lw_at lw_m6 9 rfl
theorem q1280 : (Jvm.Cond.instanceMethod ({ cls := "HexsteadModel", name := "roadsOf", desc := "(I)I" } : Jvm.MethodName)) ∈ lw_all := lw_g (lw_at lw_m6 10 rfl) rfl
theorem q1281 : (Jvm.Cond.code ({ cls := "HexsteadModel", name := "roadsOf", desc := "(I)I" } : Jvm.MethodName) prog_12_method_21_code (4 : Nat) (Option.some Jvm.ClassFile.FieldType.int)) ∈ lw_all := lw_g (lw_at lw_m6 11 rfl) rfl
theorem q1282 : (Jvm.Cond.methodLink "HexsteadModel" (84 : Nat) ({ cls := "HexsteadModel", name := "leads", desc := "(III)Z" } : Jvm.MethodName)) ∈ lw_all := lw_g (lw_at lw_m6 12 rfl) rfl
theorem q1283 : (Jvm.Cond.privateMethod ({ cls := "HexsteadModel", name := "leads", desc := "(III)Z" } : Jvm.MethodName)) ∈ lw_tbl := lw_at lw_m6 13 rfl
theorem q1284 : (Jvm.Cond.instanceMethod ({ cls := "HexsteadModel", name := "leads", desc := "(III)Z" } : Jvm.MethodName)) ∈ lw_all := lw_g (lw_at lw_m6 14 rfl) rfl
theorem q1285 : (Jvm.Cond.code ({ cls := "HexsteadModel", name := "leads", desc := "(III)Z" } : Jvm.MethodName) prog_12_method_20_code (4 : Nat) (Option.some Jvm.ClassFile.FieldType.boolean)) ∈ lw_all := lw_g (lw_at lw_m6 15 rfl) rfl
theorem q1286 : (Jvm.Cond.methodLink "HexsteadModel" (77 : Nat) ({ cls := "HexsteadModel", name := "hasRoadAt", desc := "(III)Z" } : Jvm.MethodName)) ∈ lw_all := lw_g (lw_at lw_m6 16 rfl) rfl
theorem q1287 : (Jvm.Cond.privateMethod ({ cls := "HexsteadModel", name := "hasRoadAt", desc := "(III)Z" } : Jvm.MethodName)) ∈ lw_tbl := lw_at lw_m6 17 rfl
theorem q1288 : (Jvm.Cond.instanceMethod ({ cls := "HexsteadModel", name := "hasRoadAt", desc := "(III)Z" } : Jvm.MethodName)) ∈ lw_all := lw_g (lw_at lw_m6 18 rfl) rfl
theorem q1289 : (Jvm.Cond.code ({ cls := "HexsteadModel", name := "hasRoadAt", desc := "(III)Z" } : Jvm.MethodName) prog_12_method_19_code (6 : Nat) (Option.some Jvm.ClassFile.FieldType.boolean)) ∈ lw_all := lw_g (lw_at lw_m6 19 rfl) rfl
theorem q1290 : (Jvm.Cond.methodLink "HexsteadModel" (203 : Nat) ({ cls := "HexsteadModel", name := "pays", desc := "(I)V" } : Jvm.MethodName)) ∈ lw_all := lw_g (lw_at lw_m6 20 rfl) rfl
theorem q1291 : (Jvm.Cond.privateMethod ({ cls := "HexsteadModel", name := "pays", desc := "(I)V" } : Jvm.MethodName)) ∈ lw_tbl := lw_at lw_m6 21 rfl
theorem q1292 : (Jvm.Cond.instanceMethod ({ cls := "HexsteadModel", name := "pays", desc := "(I)V" } : Jvm.MethodName)) ∈ lw_all := lw_g (lw_at lw_m6 22 rfl) rfl
theorem q1293 : (Jvm.Cond.code ({ cls := "HexsteadModel", name := "pays", desc := "(I)V" } : Jvm.MethodName) prog_12_method_49_code (2 : Nat) (Option.none : Option Jvm.ClassFile.FieldType)) ∈ lw_all := lw_g (lw_at lw_m6 23 rfl) rfl
theorem q1294 : (Jvm.Cond.methodLink "HexsteadModel" (206 : Nat) ({ cls := "HexsteadModel", name := "lays", desc := "(I)V" } : Jvm.MethodName)) ∈ lw_all := lw_g (lw_at lw_m6 24 rfl) rfl
theorem q1295 : (Jvm.Cond.privateMethod ({ cls := "HexsteadModel", name := "lays", desc := "(I)V" } : Jvm.MethodName)) ∈ lw_tbl := lw_at lw_m6 25 rfl
theorem q1296 : (Jvm.Cond.instanceMethod ({ cls := "HexsteadModel", name := "lays", desc := "(I)V" } : Jvm.MethodName)) ∈ lw_all := lw_g (lw_at lw_m6 26 rfl) rfl
theorem q1297 : (Jvm.Cond.code ({ cls := "HexsteadModel", name := "lays", desc := "(I)V" } : Jvm.MethodName) prog_12_method_50_code (2 : Nat) (Option.none : Option Jvm.ClassFile.FieldType)) ∈ lw_all := lw_g (lw_at lw_m6 27 rfl) rfl
theorem q1298 : (Jvm.Cond.methodLink "HexsteadModel" (209 : Nat) ({ cls := "HexsteadModel", name := "looksAtWinner", desc := "()V" } : Jvm.MethodName)) ∈ lw_all := lw_g (lw_at lw_m6 28 rfl) rfl
theorem q1299 : (Jvm.Cond.privateMethod ({ cls := "HexsteadModel", name := "looksAtWinner", desc := "()V" } : Jvm.MethodName)) ∈ lw_tbl := lw_at lw_m6 29 rfl
theorem q1300 : (Jvm.Cond.instanceMethod ({ cls := "HexsteadModel", name := "looksAtWinner", desc := "()V" } : Jvm.MethodName)) ∈ lw_all := lw_g (lw_at lw_m6 30 rfl) rfl
theorem q1301 : (Jvm.Cond.code ({ cls := "HexsteadModel", name := "looksAtWinner", desc := "()V" } : Jvm.MethodName) prog_12_method_36_code (1 : Nat) (Option.none : Option Jvm.ClassFile.FieldType)) ∈ lw_all := lw_g (lw_at lw_m6 31 rfl) rfl
theorem q1302 : (Jvm.Cond.methodLink "HexsteadModel" (121 : Nat) ({ cls := "HexsteadModel", name := "pointsOf", desc := "(I)I" } : Jvm.MethodName)) ∈ lw_all := lw_g (lw_at lw_m6 32 rfl) rfl
theorem q1303 : (Jvm.Cond.privateMethod ({ cls := "HexsteadModel", name := "pointsOf", desc := "(I)I" } : Jvm.MethodName)) ∈ lw_tbl := lw_at lw_m6 33 rfl
theorem q1304 : (Jvm.Cond.instanceMethod ({ cls := "HexsteadModel", name := "pointsOf", desc := "(I)I" } : Jvm.MethodName)) ∈ lw_all := lw_g (lw_at lw_m6 34 rfl) rfl
theorem q1305 : (Jvm.Cond.code ({ cls := "HexsteadModel", name := "pointsOf", desc := "(I)I" } : Jvm.MethodName) prog_12_method_35_code (2 : Nat) (Option.some Jvm.ClassFile.FieldType.int)) ∈ lw_all := lw_g (lw_at lw_m6 35 rfl) rfl
theorem q1306 : (Jvm.Cond.methodLink "HexsteadModel" (111 : Nat) ({ cls := "HexsteadModel", name := "buildings", desc := "(IZ)I" } : Jvm.MethodName)) ∈ lw_all := lw_g (lw_at lw_m6 36 rfl) rfl
theorem q1307 : (Jvm.Cond.privateMethod ({ cls := "HexsteadModel", name := "buildings", desc := "(IZ)I" } : Jvm.MethodName)) ∈ lw_tbl := lw_at lw_m6 37 rfl
theorem q1308 : (Jvm.Cond.instanceMethod ({ cls := "HexsteadModel", name := "buildings", desc := "(IZ)I" } : Jvm.MethodName)) ∈ lw_all := lw_g (lw_at lw_m6 38 rfl) rfl
theorem q1309 : (Jvm.Cond.code ({ cls := "HexsteadModel", name := "buildings", desc := "(IZ)I" } : Jvm.MethodName) prog_12_method_23_code (5 : Nat) (Option.some Jvm.ClassFile.FieldType.int)) ∈ lw_all := lw_g (lw_at lw_m6 39 rfl) rfl
theorem q1311 : (Jvm.Cond.instanceMethod ({ cls := "HexsteadModel", name := "house", desc := "(I)I" } : Jvm.MethodName)) ∈ lw_all := lw_g (lw_at lw_m6 41 rfl) rfl
theorem q1312 : (Jvm.Cond.selects "HexsteadModel" ({ cls := "HexsteadModel", name := "house", desc := "(I)I" } : Jvm.MethodName) ({ cls := "HexsteadModel", name := "house", desc := "(I)I" } : Jvm.MethodName)) ∈ lw_all := lw_g (lw_at lw_m6 42 rfl) rfl
theorem q1313 : (Jvm.Cond.code ({ cls := "HexsteadModel", name := "house", desc := "(I)I" } : Jvm.MethodName) prog_12_method_52_code (2 : Nat) (Option.some Jvm.ClassFile.FieldType.int)) ∈ lw_all := lw_g (lw_at lw_m6 43 rfl) rfl
theorem q1315 : (Jvm.Cond.instanceMethod ({ cls := "HexsteadModel", name := "city", desc := "(I)I" } : Jvm.MethodName)) ∈ lw_all := lw_g (lw_at lw_m6 45 rfl) rfl
theorem q1316 : (Jvm.Cond.selects "HexsteadModel" ({ cls := "HexsteadModel", name := "city", desc := "(I)I" } : Jvm.MethodName) ({ cls := "HexsteadModel", name := "city", desc := "(I)I" } : Jvm.MethodName)) ∈ lw_all := lw_g (lw_at lw_m6 46 rfl) rfl
theorem q1317 : (Jvm.Cond.code ({ cls := "HexsteadModel", name := "city", desc := "(I)I" } : Jvm.MethodName) prog_12_method_53_code (2 : Nat) (Option.some Jvm.ClassFile.FieldType.int)) ∈ lw_all := lw_g (lw_at lw_m6 47 rfl) rfl
theorem q1319 : (Jvm.Cond.instanceMethod ({ cls := "HexsteadModel", name := "buy", desc := "()I" } : Jvm.MethodName)) ∈ lw_all := lw_g (lw_at lw_m6 49 rfl) rfl
theorem q1320 : (Jvm.Cond.selects "HexsteadModel" ({ cls := "HexsteadModel", name := "buy", desc := "()I" } : Jvm.MethodName) ({ cls := "HexsteadModel", name := "buy", desc := "()I" } : Jvm.MethodName)) ∈ lw_all := lw_g (lw_at lw_m6 50 rfl) rfl
theorem q1321 : (Jvm.Cond.code ({ cls := "HexsteadModel", name := "buy", desc := "()I" } : Jvm.MethodName) prog_12_method_55_code (2 : Nat) (Option.some Jvm.ClassFile.FieldType.int)) ∈ lw_all := lw_g (lw_at lw_m6 51 rfl) rfl
theorem q1322 : (Jvm.Cond.methodLink "HexsteadModel" (215 : Nat) ({ cls := "HexsteadModel", name := "kindOf", desc := "(I)I" } : Jvm.MethodName)) ∈ lw_all := lw_g (lw_at lw_m6 52 rfl) rfl
theorem q1323 : (Jvm.Cond.static ({ cls := "HexsteadModel", name := "kindOf", desc := "(I)I" } : Jvm.MethodName)) ∈ lw_all := lw_g (lw_at lw_m6 53 rfl) rfl
theorem q1324 : (Jvm.Cond.code ({ cls := "HexsteadModel", name := "kindOf", desc := "(I)I" } : Jvm.MethodName) prog_12_method_54_code (1 : Nat) (Option.some Jvm.ClassFile.FieldType.int)) ∈ lw_all := lw_g (lw_at lw_m6 54 rfl) rfl
theorem q1326 : (Jvm.Cond.instanceMethod ({ cls := "HexsteadModel", name := "knight", desc := "(III)I" } : Jvm.MethodName)) ∈ lw_all := lw_g (lw_at lw_m6 56 rfl) rfl
theorem q1327 : (Jvm.Cond.selects "HexsteadModel" ({ cls := "HexsteadModel", name := "knight", desc := "(III)I" } : Jvm.MethodName) ({ cls := "HexsteadModel", name := "knight", desc := "(III)I" } : Jvm.MethodName)) ∈ lw_all := lw_g (lw_at lw_m6 57 rfl) rfl
theorem q1328 : (Jvm.Cond.code ({ cls := "HexsteadModel", name := "knight", desc := "(III)I" } : Jvm.MethodName) prog_12_method_58_code (6 : Nat) (Option.some Jvm.ClassFile.FieldType.int)) ∈ lw_all := lw_g (lw_at lw_m6 58 rfl) rfl
theorem q1329 : (Jvm.Cond.methodLink "HexsteadModel" (221 : Nat) ({ cls := "HexsteadModel", name := "mayUse", desc := "(I)Z" } : Jvm.MethodName)) ∈ lw_all := lw_g (lw_at lw_m6 59 rfl) rfl
theorem q1330 : (Jvm.Cond.privateMethod ({ cls := "HexsteadModel", name := "mayUse", desc := "(I)Z" } : Jvm.MethodName)) ∈ lw_tbl := lw_at lw_m6 60 rfl
theorem q1331 : (Jvm.Cond.instanceMethod ({ cls := "HexsteadModel", name := "mayUse", desc := "(I)Z" } : Jvm.MethodName)) ∈ lw_all := lw_g (lw_at lw_m6 61 rfl) rfl
theorem q1332 : (Jvm.Cond.code ({ cls := "HexsteadModel", name := "mayUse", desc := "(I)Z" } : Jvm.MethodName) prog_12_method_56_code (2 : Nat) (Option.some Jvm.ClassFile.FieldType.boolean)) ∈ lw_all := lw_g (lw_at lw_m6 62 rfl) rfl
theorem q1333 : (Jvm.Cond.methodLink "HexsteadModel" (224 : Nat) ({ cls := "HexsteadModel", name := "uses", desc := "(I)V" } : Jvm.MethodName)) ∈ lw_all := lw_g (lw_at lw_m6 63 rfl) rfl
theorem q1334 : (Jvm.Cond.privateMethod ({ cls := "HexsteadModel", name := "uses", desc := "(I)V" } : Jvm.MethodName)) ∈ lw_tbl := lw_at lw_m6 64 rfl
theorem q1335 : (Jvm.Cond.instanceMethod ({ cls := "HexsteadModel", name := "uses", desc := "(I)V" } : Jvm.MethodName)) ∈ lw_all := lw_g (lw_at lw_m6 65 rfl) rfl
theorem q1336 : (Jvm.Cond.code ({ cls := "HexsteadModel", name := "uses", desc := "(I)V" } : Jvm.MethodName) prog_12_method_57_code (2 : Nat) (Option.none : Option Jvm.ClassFile.FieldType)) ∈ lw_all := lw_g (lw_at lw_m6 66 rfl) rfl
theorem q1338 : (Jvm.Cond.instanceMethod ({ cls := "HexsteadModel", name := "roads", desc := "(II)I" } : Jvm.MethodName)) ∈ lw_all := lw_g (lw_at lw_m6 68 rfl) rfl
theorem q1339 : (Jvm.Cond.selects "HexsteadModel" ({ cls := "HexsteadModel", name := "roads", desc := "(II)I" } : Jvm.MethodName) ({ cls := "HexsteadModel", name := "roads", desc := "(II)I" } : Jvm.MethodName)) ∈ lw_all := lw_g (lw_at lw_m6 69 rfl) rfl
theorem q1340 : (Jvm.Cond.code ({ cls := "HexsteadModel", name := "roads", desc := "(II)I" } : Jvm.MethodName) prog_12_method_59_code (4 : Nat) (Option.some Jvm.ClassFile.FieldType.int)) ∈ lw_all := lw_g (lw_at lw_m6 70 rfl) rfl
theorem q1342 : (Jvm.Cond.instanceMethod ({ cls := "HexsteadModel", name := "plenty", desc := "(II)I" } : Jvm.MethodName)) ∈ lw_all := lw_g (lw_at lw_m6 72 rfl) rfl
theorem q1343 : (Jvm.Cond.selects "HexsteadModel" ({ cls := "HexsteadModel", name := "plenty", desc := "(II)I" } : Jvm.MethodName) ({ cls := "HexsteadModel", name := "plenty", desc := "(II)I" } : Jvm.MethodName)) ∈ lw_all := lw_g (lw_at lw_m6 73 rfl) rfl
theorem q1344 : (Jvm.Cond.code ({ cls := "HexsteadModel", name := "plenty", desc := "(II)I" } : Jvm.MethodName) prog_12_method_60_code (4 : Nat) (Option.some Jvm.ClassFile.FieldType.int)) ∈ lw_all := lw_g (lw_at lw_m6 74 rfl) rfl
theorem q1345 : (Jvm.Cond.methodLink "HexsteadModel" (227 : Nat) ({ cls := "HexsteadModel", name := "isGood", desc := "(I)Z" } : Jvm.MethodName)) ∈ lw_all := lw_g (lw_at lw_m6 75 rfl) rfl
theorem q1346 : (Jvm.Cond.static ({ cls := "HexsteadModel", name := "isGood", desc := "(I)Z" } : Jvm.MethodName)) ∈ lw_all := lw_g (lw_at lw_m6 76 rfl) rfl
theorem q1347 : (Jvm.Cond.code ({ cls := "HexsteadModel", name := "isGood", desc := "(I)Z" } : Jvm.MethodName) prog_12_method_10_code (1 : Nat) (Option.some Jvm.ClassFile.FieldType.boolean)) ∈ lw_all := lw_g (lw_at lw_m6 77 rfl) rfl
theorem q1348 : (Jvm.Cond.methodLink "HexsteadModel" (230 : Nat) ({ cls := "HexsteadModel", name := "moves", desc := "(IIII)V" } : Jvm.MethodName)) ∈ lw_all := lw_g (lw_at lw_m6 78 rfl) rfl
theorem q1349 : (Jvm.Cond.privateMethod ({ cls := "HexsteadModel", name := "moves", desc := "(IIII)V" } : Jvm.MethodName)) ∈ lw_tbl := lw_at lw_m6 79 rfl
theorem q1350 : (Jvm.Cond.instanceMethod ({ cls := "HexsteadModel", name := "moves", desc := "(IIII)V" } : Jvm.MethodName)) ∈ lw_all := lw_g (lw_at lw_m6 80 rfl) rfl
theorem q1351 : (Jvm.Cond.code ({ cls := "HexsteadModel", name := "moves", desc := "(IIII)V" } : Jvm.MethodName) prog_12_method_61_code (5 : Nat) (Option.none : Option Jvm.ClassFile.FieldType)) ∈ lw_all := lw_g (lw_at lw_m6 81 rfl) rfl
theorem q1353 : (Jvm.Cond.instanceMethod ({ cls := "HexsteadModel", name := "monopoly", desc := "(I)I" } : Jvm.MethodName)) ∈ lw_all := lw_g (lw_at lw_m6 83 rfl) rfl
theorem q1354 : (Jvm.Cond.selects "HexsteadModel" ({ cls := "HexsteadModel", name := "monopoly", desc := "(I)I" } : Jvm.MethodName) ({ cls := "HexsteadModel", name := "monopoly", desc := "(I)I" } : Jvm.MethodName)) ∈ lw_all := lw_g (lw_at lw_m6 84 rfl) rfl
theorem q1355 : (Jvm.Cond.code ({ cls := "HexsteadModel", name := "monopoly", desc := "(I)I" } : Jvm.MethodName) prog_12_method_62_code (5 : Nat) (Option.some Jvm.ClassFile.FieldType.int)) ∈ lw_all := lw_g (lw_at lw_m6 85 rfl) rfl
theorem q1357 : (Jvm.Cond.instanceMethod ({ cls := "HexsteadModel", name := "swap", desc := "(II)I" } : Jvm.MethodName)) ∈ lw_all := lw_g (lw_at lw_m6 87 rfl) rfl
theorem q1358 : (Jvm.Cond.selects "HexsteadModel" ({ cls := "HexsteadModel", name := "swap", desc := "(II)I" } : Jvm.MethodName) ({ cls := "HexsteadModel", name := "swap", desc := "(II)I" } : Jvm.MethodName)) ∈ lw_all := lw_g (lw_at lw_m6 88 rfl) rfl
theorem q1359 : (Jvm.Cond.code ({ cls := "HexsteadModel", name := "swap", desc := "(II)I" } : Jvm.MethodName) prog_12_method_64_code (4 : Nat) (Option.some Jvm.ClassFile.FieldType.int)) ∈ lw_all := lw_g (lw_at lw_m6 89 rfl) rfl
theorem q1360 : (Jvm.Cond.methodLink "HexsteadModel" (234 : Nat) ({ cls := "HexsteadModel", name := "rateOf", desc := "(II)I" } : Jvm.MethodName)) ∈ lw_all := lw_g (lw_at lw_m6 90 rfl) rfl
theorem q1361 : (Jvm.Cond.privateMethod ({ cls := "HexsteadModel", name := "rateOf", desc := "(II)I" } : Jvm.MethodName)) ∈ lw_tbl := lw_at lw_m6 91 rfl
theorem q1362 : (Jvm.Cond.instanceMethod ({ cls := "HexsteadModel", name := "rateOf", desc := "(II)I" } : Jvm.MethodName)) ∈ lw_all := lw_g (lw_at lw_m6 92 rfl) rfl
theorem q1363 : (Jvm.Cond.code ({ cls := "HexsteadModel", name := "rateOf", desc := "(II)I" } : Jvm.MethodName) prog_12_method_63_code (7 : Nat) (Option.some Jvm.ClassFile.FieldType.int)) ∈ lw_all := lw_g (lw_at lw_m6 93 rfl) rfl
theorem q1365 : (Jvm.Cond.instanceMethod ({ cls := "HexsteadModel", name := "offer", desc := "(II)V" } : Jvm.MethodName)) ∈ lw_all := lw_g (lw_at lw_m6 95 rfl) rfl
theorem q1366 : (Jvm.Cond.selects "HexsteadModel" ({ cls := "HexsteadModel", name := "offer", desc := "(II)V" } : Jvm.MethodName) ({ cls := "HexsteadModel", name := "offer", desc := "(II)V" } : Jvm.MethodName)) ∈ lw_all := lw_g (lw_at lw_m6 96 rfl) rfl
theorem q1367 : (Jvm.Cond.code ({ cls := "HexsteadModel", name := "offer", desc := "(II)V" } : Jvm.MethodName) prog_12_method_67_code (3 : Nat) (Option.none : Option Jvm.ClassFile.FieldType)) ∈ lw_all := lw_g (lw_at lw_m6 97 rfl) rfl
theorem q1368 : (Jvm.Cond.methodLink "HexsteadModel" (243 : Nat) ({ cls := "HexsteadModel", name := "isSome", desc := "(I)Z" } : Jvm.MethodName)) ∈ lw_all := lw_g (lw_at lw_m6 98 rfl) rfl
theorem q1369 : (Jvm.Cond.static ({ cls := "HexsteadModel", name := "isSome", desc := "(I)Z" } : Jvm.MethodName)) ∈ lw_all := lw_g (lw_at lw_m6 99 rfl) rfl
theorem q1370 : (Jvm.Cond.code ({ cls := "HexsteadModel", name := "isSome", desc := "(I)Z" } : Jvm.MethodName) prog_12_method_66_code (1 : Nat) (Option.some Jvm.ClassFile.FieldType.boolean)) ∈ lw_all := lw_g (lw_at lw_m6 100 rfl) rfl
theorem q1371 : (Jvm.Cond.methodLink "HexsteadModel" (246 : Nat) ({ cls := "HexsteadModel", name := "endsOffers", desc := "()V" } : Jvm.MethodName)) ∈ lw_all := lw_g (lw_at lw_m6 101 rfl) rfl
theorem q1372 : (Jvm.Cond.privateMethod ({ cls := "HexsteadModel", name := "endsOffers", desc := "()V" } : Jvm.MethodName)) ∈ lw_tbl := lw_at lw_m6 102 rfl
theorem q1373 : (Jvm.Cond.instanceMethod ({ cls := "HexsteadModel", name := "endsOffers", desc := "()V" } : Jvm.MethodName)) ∈ lw_all := lw_g (lw_at lw_m6 103 rfl) rfl
theorem q1374 : (Jvm.Cond.code ({ cls := "HexsteadModel", name := "endsOffers", desc := "()V" } : Jvm.MethodName) prog_12_method_65_code (2 : Nat) (Option.none : Option Jvm.ClassFile.FieldType)) ∈ lw_all := lw_g (lw_at lw_m6 104 rfl) rfl
theorem q1376 : (Jvm.Cond.instanceMethod ({ cls := "HexsteadModel", name := "counter", desc := "(III)V" } : Jvm.MethodName)) ∈ lw_all := lw_g (lw_at lw_m6 106 rfl) rfl
theorem q1377 : (Jvm.Cond.selects "HexsteadModel" ({ cls := "HexsteadModel", name := "counter", desc := "(III)V" } : Jvm.MethodName) ({ cls := "HexsteadModel", name := "counter", desc := "(III)V" } : Jvm.MethodName)) ∈ lw_all := lw_g (lw_at lw_m6 107 rfl) rfl
theorem q1378 : (Jvm.Cond.code ({ cls := "HexsteadModel", name := "counter", desc := "(III)V" } : Jvm.MethodName) prog_12_method_68_code (4 : Nat) (Option.none : Option Jvm.ClassFile.FieldType)) ∈ lw_all := lw_g (lw_at lw_m6 108 rfl) rfl
theorem q1380 : (Jvm.Cond.instanceMethod ({ cls := "HexsteadModel", name := "accept", desc := "(I)I" } : Jvm.MethodName)) ∈ lw_all := lw_g (lw_at lw_m6 110 rfl) rfl
theorem q1381 : (Jvm.Cond.selects "HexsteadModel" ({ cls := "HexsteadModel", name := "accept", desc := "(I)I" } : Jvm.MethodName) ({ cls := "HexsteadModel", name := "accept", desc := "(I)I" } : Jvm.MethodName)) ∈ lw_all := lw_g (lw_at lw_m6 111 rfl) rfl
theorem q1382 : (Jvm.Cond.code ({ cls := "HexsteadModel", name := "accept", desc := "(I)I" } : Jvm.MethodName) prog_12_method_69_code (2 : Nat) (Option.some Jvm.ClassFile.FieldType.int)) ∈ lw_all := lw_g (lw_at lw_m6 112 rfl) rfl
theorem q1384 : (Jvm.Cond.instanceMethod ({ cls := "HexsteadModel", name := "agree", desc := "(I)I" } : Jvm.MethodName)) ∈ lw_all := lw_g (lw_at lw_m6 114 rfl) rfl
theorem q1385 : (Jvm.Cond.selects "HexsteadModel" ({ cls := "HexsteadModel", name := "agree", desc := "(I)I" } : Jvm.MethodName) ({ cls := "HexsteadModel", name := "agree", desc := "(I)I" } : Jvm.MethodName)) ∈ lw_all := lw_g (lw_at lw_m6 115 rfl) rfl
theorem q1386 : (Jvm.Cond.code ({ cls := "HexsteadModel", name := "agree", desc := "(I)I" } : Jvm.MethodName) prog_12_method_70_code (4 : Nat) (Option.some Jvm.ClassFile.FieldType.int)) ∈ lw_all := lw_g (lw_at lw_m6 116 rfl) rfl
theorem q1388 : (Jvm.Cond.instanceMethod ({ cls := "HexsteadModel", name := "endTurn", desc := "()I" } : Jvm.MethodName)) ∈ lw_all := lw_g (lw_at lw_m6 118 rfl) rfl
theorem q1389 : (Jvm.Cond.selects "HexsteadModel" ({ cls := "HexsteadModel", name := "endTurn", desc := "()I" } : Jvm.MethodName) ({ cls := "HexsteadModel", name := "endTurn", desc := "()I" } : Jvm.MethodName)) ∈ lw_all := lw_g (lw_at lw_m6 119 rfl) rfl
theorem q1390 : (Jvm.Cond.code ({ cls := "HexsteadModel", name := "endTurn", desc := "()I" } : Jvm.MethodName) prog_12_method_71_code (2 : Nat) (Option.some Jvm.ClassFile.FieldType.int)) ∈ lw_all := lw_g (lw_at lw_m6 120 rfl) rfl
theorem q1392 : (Jvm.Cond.instanceMethod ({ cls := "HexsteadModel", name := "phase", desc := "()I" } : Jvm.MethodName)) ∈ lw_all := lw_g (lw_at lw_m6 122 rfl) rfl
theorem q1393 : (Jvm.Cond.selects "HexsteadModel" ({ cls := "HexsteadModel", name := "phase", desc := "()I" } : Jvm.MethodName) ({ cls := "HexsteadModel", name := "phase", desc := "()I" } : Jvm.MethodName)) ∈ lw_all := lw_g (lw_at lw_m6 123 rfl) rfl
theorem q1394 : (Jvm.Cond.code ({ cls := "HexsteadModel", name := "phase", desc := "()I" } : Jvm.MethodName) prog_12_method_72_code (1 : Nat) (Option.some Jvm.ClassFile.FieldType.int)) ∈ lw_all := lw_g (lw_at lw_m6 124 rfl) rfl
theorem q1396 : (Jvm.Cond.instanceMethod ({ cls := "HexsteadModel", name := "turn", desc := "()I" } : Jvm.MethodName)) ∈ lw_all := lw_g (lw_at lw_m6 126 rfl) rfl
theorem q1397 : (Jvm.Cond.selects "HexsteadModel" ({ cls := "HexsteadModel", name := "turn", desc := "()I" } : Jvm.MethodName) ({ cls := "HexsteadModel", name := "turn", desc := "()I" } : Jvm.MethodName)) ∈ lw_all := lw_g (lw_at lw_m6 127 rfl) rfl
theorem q1398 : (Jvm.Cond.code ({ cls := "HexsteadModel", name := "turn", desc := "()I" } : Jvm.MethodName) prog_12_method_73_code (1 : Nat) (Option.some Jvm.ClassFile.FieldType.int)) ∈ lw_all := lw_g (lw_at lw_m6 128 rfl) rfl
theorem q1400 : (Jvm.Cond.instanceMethod ({ cls := "HexsteadModel", name := "hand", desc := "(II)I" } : Jvm.MethodName)) ∈ lw_all := lw_g (lw_at lw_m6 130 rfl) rfl
theorem q1401 : (Jvm.Cond.selects "HexsteadModel" ({ cls := "HexsteadModel", name := "hand", desc := "(II)I" } : Jvm.MethodName) ({ cls := "HexsteadModel", name := "hand", desc := "(II)I" } : Jvm.MethodName)) ∈ lw_all := lw_g (lw_at lw_m6 131 rfl) rfl
theorem q1402 : (Jvm.Cond.code ({ cls := "HexsteadModel", name := "hand", desc := "(II)I" } : Jvm.MethodName) prog_12_method_75_code (3 : Nat) (Option.some Jvm.ClassFile.FieldType.int)) ∈ lw_all := lw_g (lw_at lw_m6 132 rfl) rfl
theorem q1403 : (Jvm.Cond.methodLink "HexsteadModel" (249 : Nat) ({ cls := "HexsteadModel", name := "handNow", desc := "(II)I" } : Jvm.MethodName)) ∈ lw_all := lw_g (lw_at lw_m6 133 rfl) rfl
theorem q1404 : (Jvm.Cond.privateMethod ({ cls := "HexsteadModel", name := "handNow", desc := "(II)I" } : Jvm.MethodName)) ∈ lw_tbl := lw_at lw_m6 134 rfl
theorem q1405 : (Jvm.Cond.instanceMethod ({ cls := "HexsteadModel", name := "handNow", desc := "(II)I" } : Jvm.MethodName)) ∈ lw_all := lw_g (lw_at lw_m6 135 rfl) rfl
theorem q1406 : (Jvm.Cond.code ({ cls := "HexsteadModel", name := "handNow", desc := "(II)I" } : Jvm.MethodName) prog_12_method_74_code (3 : Nat) (Option.some Jvm.ClassFile.FieldType.int)) ∈ lw_all := lw_g (lw_at lw_m6 136 rfl) rfl
theorem q1408 : (Jvm.Cond.instanceMethod ({ cls := "HexsteadModel", name := "handByMoves", desc := "(II)I" } : Jvm.MethodName)) ∈ lw_all := lw_g (lw_at lw_m6 138 rfl) rfl
theorem q1409 : (Jvm.Cond.selects "HexsteadModel" ({ cls := "HexsteadModel", name := "handByMoves", desc := "(II)I" } : Jvm.MethodName) ({ cls := "HexsteadModel", name := "handByMoves", desc := "(II)I" } : Jvm.MethodName)) ∈ lw_all := lw_g (lw_at lw_m6 139 rfl) rfl
theorem q1410 : (Jvm.Cond.code ({ cls := "HexsteadModel", name := "handByMoves", desc := "(II)I" } : Jvm.MethodName) prog_12_method_76_code (3 : Nat) (Option.some Jvm.ClassFile.FieldType.int)) ∈ lw_all := lw_g (lw_at lw_m6 140 rfl) rfl
theorem q1412 : (Jvm.Cond.instanceMethod ({ cls := "HexsteadModel", name := "due", desc := "(I)I" } : Jvm.MethodName)) ∈ lw_all := lw_g (lw_at lw_m6 142 rfl) rfl
theorem q1413 : (Jvm.Cond.selects "HexsteadModel" ({ cls := "HexsteadModel", name := "due", desc := "(I)I" } : Jvm.MethodName) ({ cls := "HexsteadModel", name := "due", desc := "(I)I" } : Jvm.MethodName)) ∈ lw_all := lw_g (lw_at lw_m6 143 rfl) rfl
theorem q1414 : (Jvm.Cond.code ({ cls := "HexsteadModel", name := "due", desc := "(I)I" } : Jvm.MethodName) prog_12_method_77_code (2 : Nat) (Option.some Jvm.ClassFile.FieldType.int)) ∈ lw_all := lw_g (lw_at lw_m6 144 rfl) rfl
theorem q1416 : (Jvm.Cond.instanceMethod ({ cls := "HexsteadModel", name := "points", desc := "(I)I" } : Jvm.MethodName)) ∈ lw_all := lw_g (lw_at lw_m6 146 rfl) rfl
theorem q1417 : (Jvm.Cond.selects "HexsteadModel" ({ cls := "HexsteadModel", name := "points", desc := "(I)I" } : Jvm.MethodName) ({ cls := "HexsteadModel", name := "points", desc := "(I)I" } : Jvm.MethodName)) ∈ lw_all := lw_g (lw_at lw_m6 147 rfl) rfl
theorem q1418 : (Jvm.Cond.code ({ cls := "HexsteadModel", name := "points", desc := "(I)I" } : Jvm.MethodName) prog_12_method_78_code (2 : Nat) (Option.some Jvm.ClassFile.FieldType.int)) ∈ lw_all := lw_g (lw_at lw_m6 148 rfl) rfl
theorem q1420 : (Jvm.Cond.instanceMethod ({ cls := "HexsteadModel", name := "trail", desc := "(I)I" } : Jvm.MethodName)) ∈ lw_all := lw_g (lw_at lw_m6 150 rfl) rfl
theorem q1421 : (Jvm.Cond.selects "HexsteadModel" ({ cls := "HexsteadModel", name := "trail", desc := "(I)I" } : Jvm.MethodName) ({ cls := "HexsteadModel", name := "trail", desc := "(I)I" } : Jvm.MethodName)) ∈ lw_all := lw_g (lw_at lw_m6 151 rfl) rfl
theorem q1422 : (Jvm.Cond.code ({ cls := "HexsteadModel", name := "trail", desc := "(I)I" } : Jvm.MethodName) prog_12_method_79_code (2 : Nat) (Option.some Jvm.ClassFile.FieldType.int)) ∈ lw_all := lw_g (lw_at lw_m6 152 rfl) rfl
theorem q1424 : (Jvm.Cond.instanceMethod ({ cls := "HexsteadModel", name := "trailBySets", desc := "(I)I" } : Jvm.MethodName)) ∈ lw_all := lw_g (lw_at lw_m6 154 rfl) rfl
theorem q1425 : (Jvm.Cond.selects "HexsteadModel" ({ cls := "HexsteadModel", name := "trailBySets", desc := "(I)I" } : Jvm.MethodName) ({ cls := "HexsteadModel", name := "trailBySets", desc := "(I)I" } : Jvm.MethodName)) ∈ lw_all := lw_g (lw_at lw_m6 155 rfl) rfl
theorem q1426 : (Jvm.Cond.code ({ cls := "HexsteadModel", name := "trailBySets", desc := "(I)I" } : Jvm.MethodName) prog_12_method_80_code (2 : Nat) (Option.some Jvm.ClassFile.FieldType.int)) ∈ lw_all := lw_g (lw_at lw_m6 156 rfl) rfl
theorem q1428 : (Jvm.Cond.instanceMethod ({ cls := "HexsteadModel", name := "holder", desc := "(Z)I" } : Jvm.MethodName)) ∈ lw_all := lw_g (lw_at lw_m6 158 rfl) rfl
theorem q1429 : (Jvm.Cond.selects "HexsteadModel" ({ cls := "HexsteadModel", name := "holder", desc := "(Z)I" } : Jvm.MethodName) ({ cls := "HexsteadModel", name := "holder", desc := "(Z)I" } : Jvm.MethodName)) ∈ lw_all := lw_g (lw_at lw_m6 159 rfl) rfl
theorem q1430 : (Jvm.Cond.code ({ cls := "HexsteadModel", name := "holder", desc := "(Z)I" } : Jvm.MethodName) prog_12_method_81_code (2 : Nat) (Option.some Jvm.ClassFile.FieldType.int)) ∈ lw_all := lw_g (lw_at lw_m6 160 rfl) rfl
theorem q1432 : (Jvm.Cond.instanceMethod ({ cls := "HexsteadModel", name := "knights", desc := "(I)I" } : Jvm.MethodName)) ∈ lw_all := lw_g (lw_at lw_m6 162 rfl) rfl
theorem q1433 : (Jvm.Cond.selects "HexsteadModel" ({ cls := "HexsteadModel", name := "knights", desc := "(I)I" } : Jvm.MethodName) ({ cls := "HexsteadModel", name := "knights", desc := "(I)I" } : Jvm.MethodName)) ∈ lw_all := lw_g (lw_at lw_m6 163 rfl) rfl
theorem q1434 : (Jvm.Cond.code ({ cls := "HexsteadModel", name := "knights", desc := "(I)I" } : Jvm.MethodName) prog_12_method_82_code (2 : Nat) (Option.some Jvm.ClassFile.FieldType.int)) ∈ lw_all := lw_g (lw_at lw_m6 164 rfl) rfl
theorem q1436 : (Jvm.Cond.instanceMethod ({ cls := "HexsteadModel", name := "cards", desc := "(II)I" } : Jvm.MethodName)) ∈ lw_all := lw_g (lw_at lw_m6 166 rfl) rfl
theorem q1437 : (Jvm.Cond.selects "HexsteadModel" ({ cls := "HexsteadModel", name := "cards", desc := "(II)I" } : Jvm.MethodName) ({ cls := "HexsteadModel", name := "cards", desc := "(II)I" } : Jvm.MethodName)) ∈ lw_all := lw_g (lw_at lw_m6 167 rfl) rfl
theorem q1438 : (Jvm.Cond.code ({ cls := "HexsteadModel", name := "cards", desc := "(II)I" } : Jvm.MethodName) prog_12_method_83_code (3 : Nat) (Option.some Jvm.ClassFile.FieldType.int)) ∈ lw_all := lw_g (lw_at lw_m6 168 rfl) rfl
theorem q1440 : (Jvm.Cond.instanceMethod ({ cls := "HexsteadModel", name := "buildingAt", desc := "(I)I" } : Jvm.MethodName)) ∈ lw_all := lw_g (lw_at lw_m6 170 rfl) rfl
theorem q1441 : (Jvm.Cond.selects "HexsteadModel" ({ cls := "HexsteadModel", name := "buildingAt", desc := "(I)I" } : Jvm.MethodName) ({ cls := "HexsteadModel", name := "buildingAt", desc := "(I)I" } : Jvm.MethodName)) ∈ lw_all := lw_g (lw_at lw_m6 171 rfl) rfl
theorem q1442 : (Jvm.Cond.code ({ cls := "HexsteadModel", name := "buildingAt", desc := "(I)I" } : Jvm.MethodName) prog_12_method_84_code (2 : Nat) (Option.some Jvm.ClassFile.FieldType.int)) ∈ lw_all := lw_g (lw_at lw_m6 172 rfl) rfl
theorem q1444 : (Jvm.Cond.instanceMethod ({ cls := "HexsteadModel", name := "roadAt", desc := "(I)I" } : Jvm.MethodName)) ∈ lw_all := lw_g (lw_at lw_m6 174 rfl) rfl
theorem q1445 : (Jvm.Cond.selects "HexsteadModel" ({ cls := "HexsteadModel", name := "roadAt", desc := "(I)I" } : Jvm.MethodName) ({ cls := "HexsteadModel", name := "roadAt", desc := "(I)I" } : Jvm.MethodName)) ∈ lw_all := lw_g (lw_at lw_m6 175 rfl) rfl
theorem q1446 : (Jvm.Cond.code ({ cls := "HexsteadModel", name := "roadAt", desc := "(I)I" } : Jvm.MethodName) prog_12_method_85_code (2 : Nat) (Option.some Jvm.ClassFile.FieldType.int)) ∈ lw_all := lw_g (lw_at lw_m6 176 rfl) rfl
theorem q1448 : (Jvm.Cond.instanceMethod ({ cls := "HexsteadModel", name := "robber", desc := "()I" } : Jvm.MethodName)) ∈ lw_all := lw_g (lw_at lw_m6 178 rfl) rfl
theorem q1449 : (Jvm.Cond.selects "HexsteadModel" ({ cls := "HexsteadModel", name := "robber", desc := "()I" } : Jvm.MethodName) ({ cls := "HexsteadModel", name := "robber", desc := "()I" } : Jvm.MethodName)) ∈ lw_all := lw_g (lw_at lw_m6 179 rfl) rfl
theorem q1450 : (Jvm.Cond.code ({ cls := "HexsteadModel", name := "robber", desc := "()I" } : Jvm.MethodName) prog_12_method_86_code (1 : Nat) (Option.some Jvm.ClassFile.FieldType.int)) ∈ lw_all := lw_g (lw_at lw_m6 180 rfl) rfl
theorem q1452 : (Jvm.Cond.instanceMethod ({ cls := "HexsteadModel", name := "rate", desc := "(II)I" } : Jvm.MethodName)) ∈ lw_all := lw_g (lw_at lw_m6 182 rfl) rfl
theorem q1453 : (Jvm.Cond.selects "HexsteadModel" ({ cls := "HexsteadModel", name := "rate", desc := "(II)I" } : Jvm.MethodName) ({ cls := "HexsteadModel", name := "rate", desc := "(II)I" } : Jvm.MethodName)) ∈ lw_all := lw_g (lw_at lw_m6 183 rfl) rfl
theorem q1454 : (Jvm.Cond.code ({ cls := "HexsteadModel", name := "rate", desc := "(II)I" } : Jvm.MethodName) prog_12_method_87_code (3 : Nat) (Option.some Jvm.ClassFile.FieldType.int)) ∈ lw_all := lw_g (lw_at lw_m6 184 rfl) rfl
theorem q1456 : (Jvm.Cond.instanceMethod ({ cls := "HexsteadModel", name := "wouldGet", desc := "(III)I" } : Jvm.MethodName)) ∈ lw_all := lw_g (lw_at lw_m6 186 rfl) rfl
theorem q1457 : (Jvm.Cond.selects "HexsteadModel" ({ cls := "HexsteadModel", name := "wouldGet", desc := "(III)I" } : Jvm.MethodName) ({ cls := "HexsteadModel", name := "wouldGet", desc := "(III)I" } : Jvm.MethodName)) ∈ lw_all := lw_g (lw_at lw_m6 187 rfl) rfl
theorem q1458 : (Jvm.Cond.code ({ cls := "HexsteadModel", name := "wouldGet", desc := "(III)I" } : Jvm.MethodName) prog_12_method_88_code (4 : Nat) (Option.some Jvm.ClassFile.FieldType.int)) ∈ lw_all := lw_g (lw_at lw_m6 188 rfl) rfl
theorem q1470 : (Jvm.Cond.castable "HexsteadModel" "java/lang/Object") ∈ lw_tbl := lw_at lw_m6 200 rfl
theorem in_X3 : ∀ w ∈ wsX30, w ∈ lw_all := lw_in wsX30 [1073, 1075, 1077, 1079, 1081, 1083, 1085, 1087, 1089, 1091, 1093, 1095, 1097, 1099, 1101, 1103, 1105, 1107, 1109, 1111, 1113, 1115, 1117, 1119, 1121, 1123] (by decide +kernel) (by decide +kernel)
