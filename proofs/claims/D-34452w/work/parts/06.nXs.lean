/-! Hexstead$Hex -/
set_option maxRecDepth 100000
def RX2 : String := "Hexstead$Hex"
def TX2 : u_T := fun k => match k with
  | 0 => ("Hexstead$Hex", "corners", "[I", true)
  | 1 => ("Hexstead$Hex", "good", "I", false)
  | _ => ("Hexstead$Hex", "number", "I", false)
def tyX2 : Nat → FieldType := fun k => match k with
  | 0 => .array .int
  | 1 => .int
  | _ => .int
abbrev wsX20 : List Cond := u_ws RX2 TX2 3
theorem nmX2 : ∀ a, a < 3 → ∀ b, b < 3 → a ≠ b → (TX2 a).2.1 ≠ (TX2 b).2.1 := by decide +kernel
theorem tyX2_ok : ∀ k, k < 3 → parseFieldDescriptor (TX2 k).2.2.1 = some (tyX2 k) := by decide +kernel
abbrev cX2_init : ByteArray := prog_5_method_1_code
def yX2_init : MethodName := ⟨RX2, "<init>", "(III)V"⟩
def dkwX2_init_3 : List UInt8 := [16, 6, 6, 27, 4, 100, 104, 21, 4, 96, 5, 100, 16, 18, 112, 96, 79, 132, 4, 1, 167, 255, 190, 177]
abbrev dktX2_init_3 : List UInt8 := dkwX2_init_3 ++ []
def dkwX2_init_2 : List UInt8 := [21, 4, 154, 0, 9, 27, 4, 100, 167, 0, 32, 21, 4, 4, 160, 0, 10, 27, 16, 6, 112, 167, 0, 19]
abbrev dktX2_init_2 : List UInt8 := dkwX2_init_2 ++ dktX2_init_3
def dkwX2_init_1 : List UInt8 := [54, 4, 21, 4, 16, 6, 162, 0, 65, 42, 180, 0, 9, 21, 4, 27, 154, 0, 8, 21, 4, 167, 0, 43]
abbrev dktX2_init_1 : List UInt8 := dkwX2_init_1 ++ dktX2_init_2
def dkwX2_init_0 : List UInt8 := [42, 183, 0, 3, 42, 16, 6, 188, 10, 181, 0, 9, 42, 28, 181, 0, 15, 42, 29, 181, 0, 19, 3]
abbrev dktX2_init_0 : List UInt8 := dkwX2_init_0 ++ dktX2_init_1
theorem dksX2_init_0 : cX2_init.data.toList.drop 0 = dktX2_init_0 := by decide +kernel
theorem dksX2_init_1 : cX2_init.data.toList.drop 23 = dktX2_init_1 := dk_seg dksX2_init_0 23 rfl rfl
theorem dksX2_init_2 : cX2_init.data.toList.drop 47 = dktX2_init_2 := dk_seg dksX2_init_1 24 rfl rfl
theorem dksX2_init_3 : cX2_init.data.toList.drop 71 = dktX2_init_3 := dk_seg dksX2_init_2 24 rfl rfl
theorem dX2_init_0 : decode cX2_init 0 = .ok (.aload_n 0, 1) := dk_42 (dk_at dksX2_init_0 0 rfl rfl)
theorem dX2_init_1 : decode cX2_init 1 = .ok (.invokespecial 3, 3) := dk_183 0 3 (dk_at dksX2_init_0 1 rfl rfl)
theorem dX2_init_4 : decode cX2_init 4 = .ok (.aload_n 0, 1) := dk_42 (dk_at dksX2_init_0 4 rfl rfl)
theorem dX2_init_5 : decode cX2_init 5 = .ok (.bipush 6, 2) := dk_16 6 (dk_at dksX2_init_0 5 rfl rfl)
theorem dX2_init_7 : decode cX2_init 7 = .ok (.newarray .int, 2) := dk_188_10 (dk_at dksX2_init_0 7 rfl rfl)
theorem dX2_init_9 : decode cX2_init 9 = .ok (.putfield 9, 3) := dk_181 0 9 (dk_at dksX2_init_0 9 rfl rfl)
theorem dX2_init_12 : decode cX2_init 12 = .ok (.aload_n 0, 1) := dk_42 (dk_at dksX2_init_0 12 rfl rfl)
theorem dX2_init_13 : decode cX2_init 13 = .ok (.iload_n 2, 1) := dk_28 (dk_at dksX2_init_0 13 rfl rfl)
theorem dX2_init_14 : decode cX2_init 14 = .ok (.putfield 15, 3) := dk_181 0 15 (dk_at dksX2_init_0 14 rfl rfl)
theorem dX2_init_17 : decode cX2_init 17 = .ok (.aload_n 0, 1) := dk_42 (dk_at dksX2_init_0 17 rfl rfl)
theorem dX2_init_18 : decode cX2_init 18 = .ok (.iload_n 3, 1) := dk_29 (dk_at dksX2_init_0 18 rfl rfl)
theorem dX2_init_19 : decode cX2_init 19 = .ok (.putfield 19, 3) := dk_181 0 19 (dk_at dksX2_init_0 19 rfl rfl)
theorem dX2_init_22 : decode cX2_init 22 = .ok (.iconst 0, 1) := dk_3 (dk_at dksX2_init_0 22 rfl rfl)
theorem dX2_init_23 : decode cX2_init 23 = .ok (.istore 4, 2) := dk_54 4 (dk_at dksX2_init_1 0 rfl rfl)
theorem dX2_init_25 : decode cX2_init 25 = .ok (.iload 4, 2) := dk_21 4 (dk_at dksX2_init_1 2 rfl rfl)
theorem dX2_init_27 : decode cX2_init 27 = .ok (.bipush 6, 2) := dk_16 6 (dk_at dksX2_init_1 4 rfl rfl)
theorem dX2_init_29 : decode cX2_init 29 = .ok (.if_icmp .ge 65, 3) := dk_162 0 65 (dk_at dksX2_init_1 6 rfl rfl)
theorem dX2_init_32 : decode cX2_init 32 = .ok (.aload_n 0, 1) := dk_42 (dk_at dksX2_init_1 9 rfl rfl)
theorem dX2_init_33 : decode cX2_init 33 = .ok (.getfield 9, 3) := dk_180 0 9 (dk_at dksX2_init_1 10 rfl rfl)
theorem dX2_init_36 : decode cX2_init 36 = .ok (.iload 4, 2) := dk_21 4 (dk_at dksX2_init_1 13 rfl rfl)
theorem dX2_init_38 : decode cX2_init 38 = .ok (.iload_n 1, 1) := dk_27 (dk_at dksX2_init_1 15 rfl rfl)
theorem dX2_init_39 : decode cX2_init 39 = .ok (.ifCond .ne 8, 3) := dk_154 0 8 (dk_at dksX2_init_1 16 rfl rfl)
theorem dX2_init_42 : decode cX2_init 42 = .ok (.iload 4, 2) := dk_21 4 (dk_at dksX2_init_1 19 rfl rfl)
theorem dX2_init_44 : decode cX2_init 44 = .ok (.goto 43, 3) := dk_167 0 43 (dk_at dksX2_init_1 21 rfl rfl)
theorem dX2_init_47 : decode cX2_init 47 = .ok (.iload 4, 2) := dk_21 4 (dk_at dksX2_init_2 0 rfl rfl)
theorem dX2_init_49 : decode cX2_init 49 = .ok (.ifCond .ne 9, 3) := dk_154 0 9 (dk_at dksX2_init_2 2 rfl rfl)
theorem dX2_init_52 : decode cX2_init 52 = .ok (.iload_n 1, 1) := dk_27 (dk_at dksX2_init_2 5 rfl rfl)
theorem dX2_init_53 : decode cX2_init 53 = .ok (.iconst 1, 1) := dk_4 (dk_at dksX2_init_2 6 rfl rfl)
theorem dX2_init_54 : decode cX2_init 54 = .ok (.isub, 1) := dk_100 (dk_at dksX2_init_2 7 rfl rfl)
theorem dX2_init_55 : decode cX2_init 55 = .ok (.goto 32, 3) := dk_167 0 32 (dk_at dksX2_init_2 8 rfl rfl)
theorem dX2_init_58 : decode cX2_init 58 = .ok (.iload 4, 2) := dk_21 4 (dk_at dksX2_init_2 11 rfl rfl)
theorem dX2_init_60 : decode cX2_init 60 = .ok (.iconst 1, 1) := dk_4 (dk_at dksX2_init_2 13 rfl rfl)
theorem dX2_init_61 : decode cX2_init 61 = .ok (.if_icmp .ne 10, 3) := dk_160 0 10 (dk_at dksX2_init_2 14 rfl rfl)
theorem dX2_init_64 : decode cX2_init 64 = .ok (.iload_n 1, 1) := dk_27 (dk_at dksX2_init_2 17 rfl rfl)
theorem dX2_init_65 : decode cX2_init 65 = .ok (.bipush 6, 2) := dk_16 6 (dk_at dksX2_init_2 18 rfl rfl)
theorem dX2_init_67 : decode cX2_init 67 = .ok (.irem, 1) := dk_112 (dk_at dksX2_init_2 20 rfl rfl)
theorem dX2_init_68 : decode cX2_init 68 = .ok (.goto 19, 3) := dk_167 0 19 (dk_at dksX2_init_2 21 rfl rfl)
theorem dX2_init_71 : decode cX2_init 71 = .ok (.bipush 6, 2) := dk_16 6 (dk_at dksX2_init_3 0 rfl rfl)
theorem dX2_init_73 : decode cX2_init 73 = .ok (.iconst 3, 1) := dk_6 (dk_at dksX2_init_3 2 rfl rfl)
theorem dX2_init_74 : decode cX2_init 74 = .ok (.iload_n 1, 1) := dk_27 (dk_at dksX2_init_3 3 rfl rfl)
theorem dX2_init_75 : decode cX2_init 75 = .ok (.iconst 1, 1) := dk_4 (dk_at dksX2_init_3 4 rfl rfl)
theorem dX2_init_76 : decode cX2_init 76 = .ok (.isub, 1) := dk_100 (dk_at dksX2_init_3 5 rfl rfl)
theorem dX2_init_77 : decode cX2_init 77 = .ok (.imul, 1) := dk_104 (dk_at dksX2_init_3 6 rfl rfl)
theorem dX2_init_78 : decode cX2_init 78 = .ok (.iload 4, 2) := dk_21 4 (dk_at dksX2_init_3 7 rfl rfl)
theorem dX2_init_80 : decode cX2_init 80 = .ok (.iadd, 1) := dk_96 (dk_at dksX2_init_3 9 rfl rfl)
theorem dX2_init_81 : decode cX2_init 81 = .ok (.iconst 2, 1) := dk_5 (dk_at dksX2_init_3 10 rfl rfl)
theorem dX2_init_82 : decode cX2_init 82 = .ok (.isub, 1) := dk_100 (dk_at dksX2_init_3 11 rfl rfl)
theorem dX2_init_83 : decode cX2_init 83 = .ok (.bipush 18, 2) := dk_16 18 (dk_at dksX2_init_3 12 rfl rfl)
theorem dX2_init_85 : decode cX2_init 85 = .ok (.irem, 1) := dk_112 (dk_at dksX2_init_3 14 rfl rfl)
theorem dX2_init_86 : decode cX2_init 86 = .ok (.iadd, 1) := dk_96 (dk_at dksX2_init_3 15 rfl rfl)
theorem dX2_init_87 : decode cX2_init 87 = .ok (.iastore, 1) := dk_79 (dk_at dksX2_init_3 16 rfl rfl)
theorem dX2_init_88 : decode cX2_init 88 = .ok (.iinc 4 1, 3) := dk_132 4 1 (dk_at dksX2_init_3 17 rfl rfl)
theorem dX2_init_91 : decode cX2_init 91 = .ok (.goto (-66), 3) := dk_167 255 190 (dk_at dksX2_init_3 20 rfl rfl)
theorem dX2_init_94 : decode cX2_init 94 = .ok (.return_, 1) := dk_177 (dk_at dksX2_init_3 23 rfl rfl)
abbrev cX2_has : ByteArray := prog_5_method_2_code
def yX2_has : MethodName := ⟨RX2, "has", "(I)Z"⟩
def dkwX2_has_2 : List UInt8 := [172]
abbrev dktX2_has_2 : List UInt8 := dkwX2_has_2 ++ []
def dkwX2_has_1 : List UInt8 := [46, 54, 6, 28, 21, 6, 27, 160, 0, 7, 4, 167, 0, 4, 3, 128, 61, 132, 5, 1, 167, 255, 226, 28]
abbrev dktX2_has_1 : List UInt8 := dkwX2_has_1 ++ dktX2_has_2
def dkwX2_has_0 : List UInt8 := [3, 61, 42, 180, 0, 9, 78, 45, 190, 54, 4, 3, 54, 5, 21, 5, 21, 4, 162, 0, 29, 45, 21, 5]
abbrev dktX2_has_0 : List UInt8 := dkwX2_has_0 ++ dktX2_has_1
theorem dksX2_has_0 : cX2_has.data.toList.drop 0 = dktX2_has_0 := by decide +kernel
theorem dksX2_has_1 : cX2_has.data.toList.drop 24 = dktX2_has_1 := dk_seg dksX2_has_0 24 rfl rfl
theorem dksX2_has_2 : cX2_has.data.toList.drop 48 = dktX2_has_2 := dk_seg dksX2_has_1 24 rfl rfl
theorem dX2_has_0 : decode cX2_has 0 = .ok (.iconst 0, 1) := dk_3 (dk_at dksX2_has_0 0 rfl rfl)
theorem dX2_has_1 : decode cX2_has 1 = .ok (.istore_n 2, 1) := dk_61 (dk_at dksX2_has_0 1 rfl rfl)
theorem dX2_has_2 : decode cX2_has 2 = .ok (.aload_n 0, 1) := dk_42 (dk_at dksX2_has_0 2 rfl rfl)
theorem dX2_has_3 : decode cX2_has 3 = .ok (.getfield 9, 3) := dk_180 0 9 (dk_at dksX2_has_0 3 rfl rfl)
theorem dX2_has_6 : decode cX2_has 6 = .ok (.astore_n 3, 1) := dk_78 (dk_at dksX2_has_0 6 rfl rfl)
theorem dX2_has_7 : decode cX2_has 7 = .ok (.aload_n 3, 1) := dk_45 (dk_at dksX2_has_0 7 rfl rfl)
theorem dX2_has_8 : decode cX2_has 8 = .ok (.arraylength, 1) := dk_190 (dk_at dksX2_has_0 8 rfl rfl)
theorem dX2_has_9 : decode cX2_has 9 = .ok (.istore 4, 2) := dk_54 4 (dk_at dksX2_has_0 9 rfl rfl)
theorem dX2_has_11 : decode cX2_has 11 = .ok (.iconst 0, 1) := dk_3 (dk_at dksX2_has_0 11 rfl rfl)
theorem dX2_has_12 : decode cX2_has 12 = .ok (.istore 5, 2) := dk_54 5 (dk_at dksX2_has_0 12 rfl rfl)
theorem dX2_has_14 : decode cX2_has 14 = .ok (.iload 5, 2) := dk_21 5 (dk_at dksX2_has_0 14 rfl rfl)
theorem dX2_has_16 : decode cX2_has 16 = .ok (.iload 4, 2) := dk_21 4 (dk_at dksX2_has_0 16 rfl rfl)
theorem dX2_has_18 : decode cX2_has 18 = .ok (.if_icmp .ge 29, 3) := dk_162 0 29 (dk_at dksX2_has_0 18 rfl rfl)
theorem dX2_has_21 : decode cX2_has 21 = .ok (.aload_n 3, 1) := dk_45 (dk_at dksX2_has_0 21 rfl rfl)
theorem dX2_has_22 : decode cX2_has 22 = .ok (.iload 5, 2) := dk_21 5 (dk_at dksX2_has_0 22 rfl rfl)
theorem dX2_has_24 : decode cX2_has 24 = .ok (.iaload, 1) := dk_46 (dk_at dksX2_has_1 0 rfl rfl)
theorem dX2_has_25 : decode cX2_has 25 = .ok (.istore 6, 2) := dk_54 6 (dk_at dksX2_has_1 1 rfl rfl)
theorem dX2_has_27 : decode cX2_has 27 = .ok (.iload_n 2, 1) := dk_28 (dk_at dksX2_has_1 3 rfl rfl)
theorem dX2_has_28 : decode cX2_has 28 = .ok (.iload 6, 2) := dk_21 6 (dk_at dksX2_has_1 4 rfl rfl)
theorem dX2_has_30 : decode cX2_has 30 = .ok (.iload_n 1, 1) := dk_27 (dk_at dksX2_has_1 6 rfl rfl)
theorem dX2_has_31 : decode cX2_has 31 = .ok (.if_icmp .ne 7, 3) := dk_160 0 7 (dk_at dksX2_has_1 7 rfl rfl)
theorem dX2_has_34 : decode cX2_has 34 = .ok (.iconst 1, 1) := dk_4 (dk_at dksX2_has_1 10 rfl rfl)
theorem dX2_has_35 : decode cX2_has 35 = .ok (.goto 4, 3) := dk_167 0 4 (dk_at dksX2_has_1 11 rfl rfl)
theorem dX2_has_38 : decode cX2_has 38 = .ok (.iconst 0, 1) := dk_3 (dk_at dksX2_has_1 14 rfl rfl)
theorem dX2_has_39 : decode cX2_has 39 = .ok (.ior, 1) := dk_128 (dk_at dksX2_has_1 15 rfl rfl)
theorem dX2_has_40 : decode cX2_has 40 = .ok (.istore_n 2, 1) := dk_61 (dk_at dksX2_has_1 16 rfl rfl)
theorem dX2_has_41 : decode cX2_has 41 = .ok (.iinc 5 1, 3) := dk_132 5 1 (dk_at dksX2_has_1 17 rfl rfl)
theorem dX2_has_44 : decode cX2_has 44 = .ok (.goto (-30), 3) := dk_167 255 226 (dk_at dksX2_has_1 20 rfl rfl)
theorem dX2_has_47 : decode cX2_has 47 = .ok (.iload_n 2, 1) := dk_28 (dk_at dksX2_has_1 23 rfl rfl)
theorem dX2_has_48 : decode cX2_has 48 = .ok (.ireturn, 1) := dk_172 (dk_at dksX2_has_2 0 rfl rfl)
theorem q75 : (Jvm.Cond.initialized "Hexstead$Hex") ∈ lw_all := lw_g (lw_at lw_m1 5 rfl) rfl
theorem q144 : (Jvm.Cond.instantiable "Hexstead$Hex" (3 : Nat)) ∈ lw_all := lw_g (lw_at lw_m1 74 rfl) rfl
theorem q146 : (Jvm.Cond.instanceMethod ({ cls := "Hexstead$Hex", name := "<init>", desc := "(III)V" } : Jvm.MethodName)) ∈ lw_all := lw_g (lw_at lw_m1 76 rfl) rfl
theorem q147 : (Jvm.Cond.code ({ cls := "Hexstead$Hex", name := "<init>", desc := "(III)V" } : Jvm.MethodName) prog_5_method_1_code (5 : Nat) (Option.none : Option Jvm.ClassFile.FieldType)) ∈ lw_all := lw_g (lw_at lw_m1 77 rfl) rfl
theorem q148 : (Jvm.Cond.methodLink "Hexstead$Hex" (3 : Nat) ({ cls := "java/lang/Object", name := "<init>", desc := "()V" } : Jvm.MethodName)) ∈ lw_all := lw_g (lw_at lw_m1 78 rfl) rfl
theorem q149 : (Jvm.Cond.fieldLink "Hexstead$Hex" (9 : Nat) "Hexstead$Hex" "corners" "[I") ∈ lw_all := lw_g (lw_at lw_m1 79 rfl) rfl
theorem q151 : (Jvm.Cond.fieldLink "Hexstead$Hex" (15 : Nat) "Hexstead$Hex" "good" "I") ∈ lw_all := lw_g (lw_at lw_m1 81 rfl) rfl
theorem q153 : (Jvm.Cond.fieldLink "Hexstead$Hex" (19 : Nat) "Hexstead$Hex" "number" "I") ∈ lw_all := lw_g (lw_at lw_m1 83 rfl) rfl
theorem q155 : (Jvm.Cond.laysFinal "Hexstead$Hex" "Hexstead$Hex" "corners" "[I") ∈ lw_all := lw_g (lw_at lw_m1 85 rfl) rfl
theorem q156 : (Jvm.Cond.soleField "Hexstead$Hex" "corners") ∈ lw_all := lw_g (lw_at lw_m1 86 rfl) rfl
theorem q157 : (Jvm.Cond.lays "Hexstead$Hex" "Hexstead$Hex" "good" "I") ∈ lw_all := lw_g (lw_at lw_m1 87 rfl) rfl
theorem q158 : (Jvm.Cond.soleField "Hexstead$Hex" "good") ∈ lw_all := lw_g (lw_at lw_m1 88 rfl) rfl
theorem q159 : (Jvm.Cond.lays "Hexstead$Hex" "Hexstead$Hex" "number" "I") ∈ lw_all := lw_g (lw_at lw_m1 89 rfl) rfl
theorem q160 : (Jvm.Cond.soleField "Hexstead$Hex" "number") ∈ lw_all := lw_g (lw_at lw_m1 90 rfl) rfl
theorem q161 : (Jvm.Cond.superclass "Hexstead$Hex" "java/lang/Object") ∈ lw_all := lw_g (lw_at lw_m1 91 rfl) rfl
theorem q413 : (Jvm.Cond.instanceMethod ({ cls := "Hexstead$Hex", name := "has", desc := "(I)Z" } : Jvm.MethodName)) ∈ lw_all := lw_g (lw_at lw_m2 103 rfl) rfl
theorem q414 : (Jvm.Cond.selects "Hexstead$Hex" ({ cls := "Hexstead$Hex", name := "has", desc := "(I)Z" } : Jvm.MethodName) ({ cls := "Hexstead$Hex", name := "has", desc := "(I)Z" } : Jvm.MethodName)) ∈ lw_all := lw_g (lw_at lw_m2 104 rfl) rfl
theorem q415 : (Jvm.Cond.code ({ cls := "Hexstead$Hex", name := "has", desc := "(I)Z" } : Jvm.MethodName) prog_5_method_2_code (7 : Nat) (Option.some Jvm.ClassFile.FieldType.boolean)) ∈ lw_all := lw_g (lw_at lw_m2 105 rfl) rfl
theorem q483 : (Jvm.Cond.selects "Hexstead$Hex" ({ cls := "java/lang/Object", name := "getClass", desc := "()Ljava/lang/Class;" } : Jvm.MethodName) ({ cls := "java/lang/Object", name := "getClass", desc := "()Ljava/lang/Class;" } : Jvm.MethodName)) ∈ lw_all := lw_g (lw_at lw_m2 173 rfl) rfl
theorem q1464 : (Jvm.Cond.castable "Hexstead$Hex" "java/lang/Object") ∈ lw_tbl := lw_at lw_m6 194 rfl
theorem in_X2 : ∀ w ∈ wsX20, w ∈ lw_all := lw_in wsX20 [155, 157, 159] (by decide +kernel) (by decide +kernel)
/-! Hexstead$House -/
set_option maxRecDepth 100000
def RX4 : String := "Hexstead$House"
def TX4 : u_T := fun k => match k with
  | _ => ("Hexstead$House", "owner", "I", true)
def tyX4 : Nat → FieldType := fun k => match k with
  | _ => .int
abbrev wsX40 : List Cond := u_ws RX4 TX4 1
theorem nmX4 : ∀ a, a < 1 → ∀ b, b < 1 → a ≠ b → (TX4 a).2.1 ≠ (TX4 b).2.1 := by decide +kernel
theorem tyX4_ok : ∀ k, k < 1 → parseFieldDescriptor (TX4 k).2.2.1 = some (tyX4 k) := by decide +kernel
abbrev cX4_init : ByteArray := prog_6_method_1_code
def yX4_init : MethodName := ⟨RX4, "<init>", "(I)V"⟩
def dkwX4_init_0 : List UInt8 := [42, 183, 0, 1, 42, 27, 181, 0, 7, 177]
abbrev dktX4_init_0 : List UInt8 := dkwX4_init_0 ++ []
theorem dksX4_init_0 : cX4_init.data.toList.drop 0 = dktX4_init_0 := by decide +kernel
theorem dX4_init_0 : decode cX4_init 0 = .ok (.aload_n 0, 1) := dk_42 (dk_at dksX4_init_0 0 rfl rfl)
theorem dX4_init_1 : decode cX4_init 1 = .ok (.invokespecial 1, 3) := dk_183 0 1 (dk_at dksX4_init_0 1 rfl rfl)
theorem dX4_init_4 : decode cX4_init 4 = .ok (.aload_n 0, 1) := dk_42 (dk_at dksX4_init_0 4 rfl rfl)
theorem dX4_init_5 : decode cX4_init 5 = .ok (.iload_n 1, 1) := dk_27 (dk_at dksX4_init_0 5 rfl rfl)
theorem dX4_init_6 : decode cX4_init 6 = .ok (.putfield 7, 3) := dk_181 0 7 (dk_at dksX4_init_0 6 rfl rfl)
theorem dX4_init_9 : decode cX4_init 9 = .ok (.return_, 1) := dk_177 (dk_at dksX4_init_0 9 rfl rfl)
abbrev cX4_owner : ByteArray := prog_6_method_2_code
def yX4_owner : MethodName := ⟨RX4, "owner", "()I"⟩
theorem dX4_owner_0 : decode cX4_owner 0 = .ok (.aload_n 0, 1) := by decide +kernel
theorem dX4_owner_1 : decode cX4_owner 1 = .ok (.getfield 7, 3) := by decide +kernel
theorem dX4_owner_4 : decode cX4_owner 4 = .ok (.ireturn, 1) := by decide +kernel
abbrev cX4_gets : ByteArray := prog_6_method_3_code
def yX4_gets : MethodName := ⟨RX4, "gets", "()I"⟩
theorem dX4_gets_0 : decode cX4_gets 0 = .ok (.iconst 1, 1) := by decide +kernel
theorem dX4_gets_1 : decode cX4_gets 1 = .ok (.ireturn, 1) := by decide +kernel
theorem q85 : (Jvm.Cond.initialized "Hexstead$House") ∈ lw_all := lw_g (lw_at lw_m1 15 rfl) rfl
theorem q403 : (Jvm.Cond.instantiable "Hexstead$House" (1 : Nat)) ∈ lw_all := lw_g (lw_at lw_m2 93 rfl) rfl
theorem q405 : (Jvm.Cond.instanceMethod ({ cls := "Hexstead$House", name := "<init>", desc := "(I)V" } : Jvm.MethodName)) ∈ lw_all := lw_g (lw_at lw_m2 95 rfl) rfl
theorem q406 : (Jvm.Cond.code ({ cls := "Hexstead$House", name := "<init>", desc := "(I)V" } : Jvm.MethodName) prog_6_method_1_code (2 : Nat) (Option.none : Option Jvm.ClassFile.FieldType)) ∈ lw_all := lw_g (lw_at lw_m2 96 rfl) rfl
theorem q407 : (Jvm.Cond.methodLink "Hexstead$House" (1 : Nat) ({ cls := "java/lang/Object", name := "<init>", desc := "()V" } : Jvm.MethodName)) ∈ lw_all := lw_g (lw_at lw_m2 97 rfl) rfl
theorem q408 : (Jvm.Cond.fieldLink "Hexstead$House" (7 : Nat) "Hexstead$House" "owner" "I") ∈ lw_all := lw_g (lw_at lw_m2 98 rfl) rfl
theorem q409 : (Jvm.Cond.laysFinal "Hexstead$House" "Hexstead$House" "owner" "I") ∈ lw_all := lw_g (lw_at lw_m2 99 rfl) rfl
theorem q410 : (Jvm.Cond.soleField "Hexstead$House" "owner") ∈ lw_all := lw_g (lw_at lw_m2 100 rfl) rfl
theorem q411 : (Jvm.Cond.superclass "Hexstead$House" "java/lang/Object") ∈ lw_all := lw_g (lw_at lw_m2 101 rfl) rfl
theorem q484 : (Jvm.Cond.selects "Hexstead$House" ({ cls := "java/lang/Object", name := "getClass", desc := "()Ljava/lang/Class;" } : Jvm.MethodName) ({ cls := "java/lang/Object", name := "getClass", desc := "()Ljava/lang/Class;" } : Jvm.MethodName)) ∈ lw_all := lw_g (lw_at lw_m2 174 rfl) rfl
theorem q540 : (Jvm.Cond.castable "Hexstead$House" "Hexstead$Building") ∈ lw_tbl := lw_at lw_m2 230 rfl
theorem q541 : (Jvm.Cond.selects "Hexstead$House" ({ cls := "Hexstead$Building", name := "owner", desc := "()I" } : Jvm.MethodName) ({ cls := "Hexstead$House", name := "owner", desc := "()I" } : Jvm.MethodName)) ∈ lw_all := lw_g (lw_at lw_m2 231 rfl) rfl
theorem q542 : (Jvm.Cond.unhidden "Hexstead$House" "owner" "()I") ∈ lw_tbl := lw_at lw_m2 232 rfl
theorem q543 : (Jvm.Cond.instanceMethod ({ cls := "Hexstead$House", name := "owner", desc := "()I" } : Jvm.MethodName)) ∈ lw_all := lw_g (lw_at lw_m2 233 rfl) rfl
theorem q544 : (Jvm.Cond.publicMethod ({ cls := "Hexstead$House", name := "owner", desc := "()I" } : Jvm.MethodName)) ∈ lw_tbl := lw_at lw_m2 234 rfl
theorem q545 : (Jvm.Cond.code ({ cls := "Hexstead$House", name := "owner", desc := "()I" } : Jvm.MethodName) prog_6_method_2_code (1 : Nat) (Option.some Jvm.ClassFile.FieldType.int)) ∈ lw_all := lw_g (lw_at lw_m2 235 rfl) rfl
theorem q571 : (Jvm.Cond.selects "Hexstead$House" ({ cls := "Hexstead$Building", name := "gets", desc := "()I" } : Jvm.MethodName) ({ cls := "Hexstead$House", name := "gets", desc := "()I" } : Jvm.MethodName)) ∈ lw_all := lw_g (lw_at lw_m3 21 rfl) rfl
theorem q572 : (Jvm.Cond.unhidden "Hexstead$House" "gets" "()I") ∈ lw_tbl := lw_at lw_m3 22 rfl
theorem q573 : (Jvm.Cond.instanceMethod ({ cls := "Hexstead$House", name := "gets", desc := "()I" } : Jvm.MethodName)) ∈ lw_all := lw_g (lw_at lw_m3 23 rfl) rfl
theorem q574 : (Jvm.Cond.publicMethod ({ cls := "Hexstead$House", name := "gets", desc := "()I" } : Jvm.MethodName)) ∈ lw_tbl := lw_at lw_m3 24 rfl
theorem q575 : (Jvm.Cond.code ({ cls := "Hexstead$House", name := "gets", desc := "()I" } : Jvm.MethodName) prog_6_method_3_code (1 : Nat) (Option.some Jvm.ClassFile.FieldType.int)) ∈ lw_all := lw_g (lw_at lw_m3 25 rfl) rfl
theorem q576 : (Jvm.Cond.unhidden "Hexstead$House" "points" "()I") ∈ lw_tbl := lw_at lw_m3 26 rfl
theorem q1475 : (Jvm.Cond.castable "Hexstead$House" "java/lang/Object") ∈ lw_tbl := lw_at lw_m6 205 rfl
theorem in_X4 : ∀ w ∈ wsX40, w ∈ lw_all := lw_in wsX40 [409] (by decide +kernel) (by decide +kernel)
/-! Hexstead$Move -/
set_option maxRecDepth 100000
def RX5 : String := "Hexstead$Move"
def TX5 : u_T := fun k => match k with
  | 0 => ("Hexstead$Move", "from", "I", true)
  | 1 => ("Hexstead$Move", "to", "I", true)
  | 2 => ("Hexstead$Move", "good", "I", true)
  | _ => ("Hexstead$Move", "many", "I", true)
def tyX5 : Nat → FieldType := fun k => match k with
  | 0 => .int
  | 1 => .int
  | 2 => .int
  | _ => .int
abbrev wsX50 : List Cond := u_ws RX5 TX5 4
theorem nmX5 : ∀ a, a < 4 → ∀ b, b < 4 → a ≠ b → (TX5 a).2.1 ≠ (TX5 b).2.1 := by decide +kernel
theorem tyX5_ok : ∀ k, k < 4 → parseFieldDescriptor (TX5 k).2.2.1 = some (tyX5 k) := by decide +kernel
abbrev cX5_init : ByteArray := prog_9_method_1_code
def yX5_init : MethodName := ⟨RX5, "<init>", "(IIII)V"⟩
def dkwX5_init_1 : List UInt8 := [181, 0, 19, 177]
abbrev dktX5_init_1 : List UInt8 := dkwX5_init_1 ++ []
def dkwX5_init_0 : List UInt8 := [42, 183, 0, 1, 42, 27, 181, 0, 7, 42, 28, 181, 0, 13, 42, 29, 181, 0, 16, 42, 21, 4]
abbrev dktX5_init_0 : List UInt8 := dkwX5_init_0 ++ dktX5_init_1
theorem dksX5_init_0 : cX5_init.data.toList.drop 0 = dktX5_init_0 := by decide +kernel
theorem dksX5_init_1 : cX5_init.data.toList.drop 22 = dktX5_init_1 := dk_seg dksX5_init_0 22 rfl rfl
theorem dX5_init_0 : decode cX5_init 0 = .ok (.aload_n 0, 1) := dk_42 (dk_at dksX5_init_0 0 rfl rfl)
theorem dX5_init_1 : decode cX5_init 1 = .ok (.invokespecial 1, 3) := dk_183 0 1 (dk_at dksX5_init_0 1 rfl rfl)
theorem dX5_init_4 : decode cX5_init 4 = .ok (.aload_n 0, 1) := dk_42 (dk_at dksX5_init_0 4 rfl rfl)
theorem dX5_init_5 : decode cX5_init 5 = .ok (.iload_n 1, 1) := dk_27 (dk_at dksX5_init_0 5 rfl rfl)
theorem dX5_init_6 : decode cX5_init 6 = .ok (.putfield 7, 3) := dk_181 0 7 (dk_at dksX5_init_0 6 rfl rfl)
theorem dX5_init_9 : decode cX5_init 9 = .ok (.aload_n 0, 1) := dk_42 (dk_at dksX5_init_0 9 rfl rfl)
theorem dX5_init_10 : decode cX5_init 10 = .ok (.iload_n 2, 1) := dk_28 (dk_at dksX5_init_0 10 rfl rfl)
theorem dX5_init_11 : decode cX5_init 11 = .ok (.putfield 13, 3) := dk_181 0 13 (dk_at dksX5_init_0 11 rfl rfl)
theorem dX5_init_14 : decode cX5_init 14 = .ok (.aload_n 0, 1) := dk_42 (dk_at dksX5_init_0 14 rfl rfl)
theorem dX5_init_15 : decode cX5_init 15 = .ok (.iload_n 3, 1) := dk_29 (dk_at dksX5_init_0 15 rfl rfl)
theorem dX5_init_16 : decode cX5_init 16 = .ok (.putfield 16, 3) := dk_181 0 16 (dk_at dksX5_init_0 16 rfl rfl)
theorem dX5_init_19 : decode cX5_init 19 = .ok (.aload_n 0, 1) := dk_42 (dk_at dksX5_init_0 19 rfl rfl)
theorem dX5_init_20 : decode cX5_init 20 = .ok (.iload 4, 2) := dk_21 4 (dk_at dksX5_init_0 20 rfl rfl)
theorem dX5_init_22 : decode cX5_init 22 = .ok (.putfield 19, 3) := dk_181 0 19 (dk_at dksX5_init_1 0 rfl rfl)
theorem dX5_init_25 : decode cX5_init 25 = .ok (.return_, 1) := dk_177 (dk_at dksX5_init_1 3 rfl rfl)
abbrev cX5_gain : ByteArray := prog_9_method_2_code
def yX5_gain : MethodName := ⟨RX5, "gain", "(II)I"⟩
def dkwX5_gain_1 : List UInt8 := [167, 0, 4, 3, 42, 180, 0, 7, 27, 160, 0, 10, 42, 180, 0, 19, 167, 0, 4, 3, 100, 172]
abbrev dktX5_gain_1 : List UInt8 := dkwX5_gain_1 ++ []
def dkwX5_gain_0 : List UInt8 := [28, 42, 180, 0, 16, 159, 0, 7, 3, 167, 0, 36, 42, 180, 0, 13, 27, 160, 0, 10, 42, 180, 0, 19]
abbrev dktX5_gain_0 : List UInt8 := dkwX5_gain_0 ++ dktX5_gain_1
theorem dksX5_gain_0 : cX5_gain.data.toList.drop 0 = dktX5_gain_0 := by decide +kernel
theorem dksX5_gain_1 : cX5_gain.data.toList.drop 24 = dktX5_gain_1 := dk_seg dksX5_gain_0 24 rfl rfl
theorem dX5_gain_0 : decode cX5_gain 0 = .ok (.iload_n 2, 1) := dk_28 (dk_at dksX5_gain_0 0 rfl rfl)
theorem dX5_gain_1 : decode cX5_gain 1 = .ok (.aload_n 0, 1) := dk_42 (dk_at dksX5_gain_0 1 rfl rfl)
theorem dX5_gain_2 : decode cX5_gain 2 = .ok (.getfield 16, 3) := dk_180 0 16 (dk_at dksX5_gain_0 2 rfl rfl)
theorem dX5_gain_5 : decode cX5_gain 5 = .ok (.if_icmp .eq 7, 3) := dk_159 0 7 (dk_at dksX5_gain_0 5 rfl rfl)
theorem dX5_gain_8 : decode cX5_gain 8 = .ok (.iconst 0, 1) := dk_3 (dk_at dksX5_gain_0 8 rfl rfl)
theorem dX5_gain_9 : decode cX5_gain 9 = .ok (.goto 36, 3) := dk_167 0 36 (dk_at dksX5_gain_0 9 rfl rfl)
theorem dX5_gain_12 : decode cX5_gain 12 = .ok (.aload_n 0, 1) := dk_42 (dk_at dksX5_gain_0 12 rfl rfl)
theorem dX5_gain_13 : decode cX5_gain 13 = .ok (.getfield 13, 3) := dk_180 0 13 (dk_at dksX5_gain_0 13 rfl rfl)
theorem dX5_gain_16 : decode cX5_gain 16 = .ok (.iload_n 1, 1) := dk_27 (dk_at dksX5_gain_0 16 rfl rfl)
theorem dX5_gain_17 : decode cX5_gain 17 = .ok (.if_icmp .ne 10, 3) := dk_160 0 10 (dk_at dksX5_gain_0 17 rfl rfl)
theorem dX5_gain_20 : decode cX5_gain 20 = .ok (.aload_n 0, 1) := dk_42 (dk_at dksX5_gain_0 20 rfl rfl)
theorem dX5_gain_21 : decode cX5_gain 21 = .ok (.getfield 19, 3) := dk_180 0 19 (dk_at dksX5_gain_0 21 rfl rfl)
theorem dX5_gain_24 : decode cX5_gain 24 = .ok (.goto 4, 3) := dk_167 0 4 (dk_at dksX5_gain_1 0 rfl rfl)
theorem dX5_gain_27 : decode cX5_gain 27 = .ok (.iconst 0, 1) := dk_3 (dk_at dksX5_gain_1 3 rfl rfl)
theorem dX5_gain_28 : decode cX5_gain 28 = .ok (.aload_n 0, 1) := dk_42 (dk_at dksX5_gain_1 4 rfl rfl)
theorem dX5_gain_29 : decode cX5_gain 29 = .ok (.getfield 7, 3) := dk_180 0 7 (dk_at dksX5_gain_1 5 rfl rfl)
theorem dX5_gain_32 : decode cX5_gain 32 = .ok (.iload_n 1, 1) := dk_27 (dk_at dksX5_gain_1 8 rfl rfl)
theorem dX5_gain_33 : decode cX5_gain 33 = .ok (.if_icmp .ne 10, 3) := dk_160 0 10 (dk_at dksX5_gain_1 9 rfl rfl)
theorem dX5_gain_36 : decode cX5_gain 36 = .ok (.aload_n 0, 1) := dk_42 (dk_at dksX5_gain_1 12 rfl rfl)
theorem dX5_gain_37 : decode cX5_gain 37 = .ok (.getfield 19, 3) := dk_180 0 19 (dk_at dksX5_gain_1 13 rfl rfl)
theorem dX5_gain_40 : decode cX5_gain 40 = .ok (.goto 4, 3) := dk_167 0 4 (dk_at dksX5_gain_1 16 rfl rfl)
theorem dX5_gain_43 : decode cX5_gain 43 = .ok (.iconst 0, 1) := dk_3 (dk_at dksX5_gain_1 19 rfl rfl)
theorem dX5_gain_44 : decode cX5_gain 44 = .ok (.isub, 1) := dk_100 (dk_at dksX5_gain_1 20 rfl rfl)
theorem dX5_gain_45 : decode cX5_gain 45 = .ok (.ireturn, 1) := dk_172 (dk_at dksX5_gain_1 21 rfl rfl)
theorem q87 : (Jvm.Cond.initialized "Hexstead$Move") ∈ lw_all := lw_g (lw_at lw_m1 17 rfl) rfl
theorem q424 : (Jvm.Cond.instantiable "Hexstead$Move" (4 : Nat)) ∈ lw_all := lw_g (lw_at lw_m2 114 rfl) rfl
theorem q426 : (Jvm.Cond.instanceMethod ({ cls := "Hexstead$Move", name := "<init>", desc := "(IIII)V" } : Jvm.MethodName)) ∈ lw_all := lw_g (lw_at lw_m2 116 rfl) rfl
theorem q427 : (Jvm.Cond.code ({ cls := "Hexstead$Move", name := "<init>", desc := "(IIII)V" } : Jvm.MethodName) prog_9_method_1_code (5 : Nat) (Option.none : Option Jvm.ClassFile.FieldType)) ∈ lw_all := lw_g (lw_at lw_m2 117 rfl) rfl
theorem q428 : (Jvm.Cond.methodLink "Hexstead$Move" (1 : Nat) ({ cls := "java/lang/Object", name := "<init>", desc := "()V" } : Jvm.MethodName)) ∈ lw_all := lw_g (lw_at lw_m2 118 rfl) rfl
theorem q429 : (Jvm.Cond.fieldLink "Hexstead$Move" (7 : Nat) "Hexstead$Move" "from" "I") ∈ lw_all := lw_g (lw_at lw_m2 119 rfl) rfl
theorem q430 : (Jvm.Cond.fieldLink "Hexstead$Move" (13 : Nat) "Hexstead$Move" "to" "I") ∈ lw_all := lw_g (lw_at lw_m2 120 rfl) rfl
theorem q431 : (Jvm.Cond.fieldLink "Hexstead$Move" (16 : Nat) "Hexstead$Move" "good" "I") ∈ lw_all := lw_g (lw_at lw_m2 121 rfl) rfl
theorem q432 : (Jvm.Cond.fieldLink "Hexstead$Move" (19 : Nat) "Hexstead$Move" "many" "I") ∈ lw_all := lw_g (lw_at lw_m2 122 rfl) rfl
theorem q433 : (Jvm.Cond.laysFinal "Hexstead$Move" "Hexstead$Move" "from" "I") ∈ lw_all := lw_g (lw_at lw_m2 123 rfl) rfl
theorem q434 : (Jvm.Cond.soleField "Hexstead$Move" "from") ∈ lw_all := lw_g (lw_at lw_m2 124 rfl) rfl
theorem q435 : (Jvm.Cond.laysFinal "Hexstead$Move" "Hexstead$Move" "to" "I") ∈ lw_all := lw_g (lw_at lw_m2 125 rfl) rfl
theorem q436 : (Jvm.Cond.soleField "Hexstead$Move" "to") ∈ lw_all := lw_g (lw_at lw_m2 126 rfl) rfl
theorem q437 : (Jvm.Cond.laysFinal "Hexstead$Move" "Hexstead$Move" "good" "I") ∈ lw_all := lw_g (lw_at lw_m2 127 rfl) rfl
theorem q438 : (Jvm.Cond.soleField "Hexstead$Move" "good") ∈ lw_all := lw_g (lw_at lw_m2 128 rfl) rfl
theorem q439 : (Jvm.Cond.laysFinal "Hexstead$Move" "Hexstead$Move" "many" "I") ∈ lw_all := lw_g (lw_at lw_m2 129 rfl) rfl
theorem q440 : (Jvm.Cond.soleField "Hexstead$Move" "many") ∈ lw_all := lw_g (lw_at lw_m2 130 rfl) rfl
theorem q441 : (Jvm.Cond.superclass "Hexstead$Move" "java/lang/Object") ∈ lw_all := lw_g (lw_at lw_m2 131 rfl) rfl
theorem q487 : (Jvm.Cond.selects "Hexstead$Move" ({ cls := "java/lang/Object", name := "getClass", desc := "()Ljava/lang/Class;" } : Jvm.MethodName) ({ cls := "java/lang/Object", name := "getClass", desc := "()Ljava/lang/Class;" } : Jvm.MethodName)) ∈ lw_all := lw_g (lw_at lw_m2 177 rfl) rfl
theorem q951 : (Jvm.Cond.instanceMethod ({ cls := "Hexstead$Move", name := "gain", desc := "(II)I" } : Jvm.MethodName)) ∈ lw_all := lw_g (lw_at lw_m4 161 rfl) rfl
theorem q952 : (Jvm.Cond.selects "Hexstead$Move" ({ cls := "Hexstead$Move", name := "gain", desc := "(II)I" } : Jvm.MethodName) ({ cls := "Hexstead$Move", name := "gain", desc := "(II)I" } : Jvm.MethodName)) ∈ lw_all := lw_g (lw_at lw_m4 162 rfl) rfl
theorem q953 : (Jvm.Cond.code ({ cls := "Hexstead$Move", name := "gain", desc := "(II)I" } : Jvm.MethodName) prog_9_method_2_code (3 : Nat) (Option.some Jvm.ClassFile.FieldType.int)) ∈ lw_all := lw_g (lw_at lw_m4 163 rfl) rfl
theorem q1476 : (Jvm.Cond.castable "Hexstead$Move" "java/lang/Object") ∈ lw_tbl := lw_at lw_m6 206 rfl
theorem in_X5 : ∀ w ∈ wsX50, w ∈ lw_all := lw_in wsX50 [433, 435, 437, 439] (by decide +kernel) (by decide +kernel)
/-! Hexstead$City -/
set_option maxRecDepth 100000
def RX6 : String := "Hexstead$City"
def TX6 : u_T := fun k => match k with
  | _ => ("Hexstead$City", "owner", "I", true)
def tyX6 : Nat → FieldType := fun k => match k with
  | _ => .int
abbrev wsX60 : List Cond := u_ws RX6 TX6 1
theorem nmX6 : ∀ a, a < 1 → ∀ b, b < 1 → a ≠ b → (TX6 a).2.1 ≠ (TX6 b).2.1 := by decide +kernel
theorem tyX6_ok : ∀ k, k < 1 → parseFieldDescriptor (TX6 k).2.2.1 = some (tyX6 k) := by decide +kernel
abbrev cX6_owner : ByteArray := prog_4_method_2_code
def yX6_owner : MethodName := ⟨RX6, "owner", "()I"⟩
theorem dX6_owner_0 : decode cX6_owner 0 = .ok (.aload_n 0, 1) := by decide +kernel
theorem dX6_owner_1 : decode cX6_owner 1 = .ok (.getfield 7, 3) := by decide +kernel
theorem dX6_owner_4 : decode cX6_owner 4 = .ok (.ireturn, 1) := by decide +kernel
abbrev cX6_gets : ByteArray := prog_4_method_3_code
def yX6_gets : MethodName := ⟨RX6, "gets", "()I"⟩
theorem dX6_gets_0 : decode cX6_gets 0 = .ok (.iconst 2, 1) := by decide +kernel
theorem dX6_gets_1 : decode cX6_gets 1 = .ok (.ireturn, 1) := by decide +kernel
abbrev cX6_init : ByteArray := prog_4_method_1_code
def yX6_init : MethodName := ⟨RX6, "<init>", "(I)V"⟩
def dkwX6_init_0 : List UInt8 := [42, 183, 0, 1, 42, 27, 181, 0, 7, 177]
abbrev dktX6_init_0 : List UInt8 := dkwX6_init_0 ++ []
theorem dksX6_init_0 : cX6_init.data.toList.drop 0 = dktX6_init_0 := by decide +kernel
theorem dX6_init_0 : decode cX6_init 0 = .ok (.aload_n 0, 1) := dk_42 (dk_at dksX6_init_0 0 rfl rfl)
theorem dX6_init_1 : decode cX6_init 1 = .ok (.invokespecial 1, 3) := dk_183 0 1 (dk_at dksX6_init_0 1 rfl rfl)
theorem dX6_init_4 : decode cX6_init 4 = .ok (.aload_n 0, 1) := dk_42 (dk_at dksX6_init_0 4 rfl rfl)
theorem dX6_init_5 : decode cX6_init 5 = .ok (.iload_n 1, 1) := dk_27 (dk_at dksX6_init_0 5 rfl rfl)
theorem dX6_init_6 : decode cX6_init 6 = .ok (.putfield 7, 3) := dk_181 0 7 (dk_at dksX6_init_0 6 rfl rfl)
theorem dX6_init_9 : decode cX6_init 9 = .ok (.return_, 1) := dk_177 (dk_at dksX6_init_0 9 rfl rfl)
theorem q92 : (Jvm.Cond.initialized "Hexstead$City") ∈ lw_all := lw_g (lw_at lw_m1 22 rfl) rfl
theorem q482 : (Jvm.Cond.selects "Hexstead$City" ({ cls := "java/lang/Object", name := "getClass", desc := "()Ljava/lang/Class;" } : Jvm.MethodName) ({ cls := "java/lang/Object", name := "getClass", desc := "()Ljava/lang/Class;" } : Jvm.MethodName)) ∈ lw_all := lw_g (lw_at lw_m2 172 rfl) rfl
theorem q534 : (Jvm.Cond.castable "Hexstead$City" "Hexstead$Building") ∈ lw_tbl := lw_at lw_m2 224 rfl
theorem q535 : (Jvm.Cond.selects "Hexstead$City" ({ cls := "Hexstead$Building", name := "owner", desc := "()I" } : Jvm.MethodName) ({ cls := "Hexstead$City", name := "owner", desc := "()I" } : Jvm.MethodName)) ∈ lw_all := lw_g (lw_at lw_m2 225 rfl) rfl
theorem q536 : (Jvm.Cond.unhidden "Hexstead$City" "owner" "()I") ∈ lw_tbl := lw_at lw_m2 226 rfl
theorem q537 : (Jvm.Cond.instanceMethod ({ cls := "Hexstead$City", name := "owner", desc := "()I" } : Jvm.MethodName)) ∈ lw_all := lw_g (lw_at lw_m2 227 rfl) rfl
theorem q538 : (Jvm.Cond.publicMethod ({ cls := "Hexstead$City", name := "owner", desc := "()I" } : Jvm.MethodName)) ∈ lw_tbl := lw_at lw_m2 228 rfl
theorem q539 : (Jvm.Cond.code ({ cls := "Hexstead$City", name := "owner", desc := "()I" } : Jvm.MethodName) prog_4_method_2_code (1 : Nat) (Option.some Jvm.ClassFile.FieldType.int)) ∈ lw_all := lw_g (lw_at lw_m2 229 rfl) rfl
theorem q558 : (Jvm.Cond.unhidden "Hexstead$City" "points" "()I") ∈ lw_tbl := lw_at lw_m3 8 rfl
theorem q566 : (Jvm.Cond.selects "Hexstead$City" ({ cls := "Hexstead$Building", name := "gets", desc := "()I" } : Jvm.MethodName) ({ cls := "Hexstead$City", name := "gets", desc := "()I" } : Jvm.MethodName)) ∈ lw_all := lw_g (lw_at lw_m3 16 rfl) rfl
theorem q567 : (Jvm.Cond.unhidden "Hexstead$City" "gets" "()I") ∈ lw_tbl := lw_at lw_m3 17 rfl
theorem q568 : (Jvm.Cond.instanceMethod ({ cls := "Hexstead$City", name := "gets", desc := "()I" } : Jvm.MethodName)) ∈ lw_all := lw_g (lw_at lw_m3 18 rfl) rfl
theorem q569 : (Jvm.Cond.publicMethod ({ cls := "Hexstead$City", name := "gets", desc := "()I" } : Jvm.MethodName)) ∈ lw_tbl := lw_at lw_m3 19 rfl
theorem q570 : (Jvm.Cond.code ({ cls := "Hexstead$City", name := "gets", desc := "()I" } : Jvm.MethodName) prog_4_method_3_code (1 : Nat) (Option.some Jvm.ClassFile.FieldType.int)) ∈ lw_all := lw_g (lw_at lw_m3 20 rfl) rfl
theorem q762 : (Jvm.Cond.instantiable "Hexstead$City" (1 : Nat)) ∈ lw_all := lw_g (lw_at lw_m3 212 rfl) rfl
theorem q764 : (Jvm.Cond.instanceMethod ({ cls := "Hexstead$City", name := "<init>", desc := "(I)V" } : Jvm.MethodName)) ∈ lw_all := lw_g (lw_at lw_m3 214 rfl) rfl
theorem q765 : (Jvm.Cond.code ({ cls := "Hexstead$City", name := "<init>", desc := "(I)V" } : Jvm.MethodName) prog_4_method_1_code (2 : Nat) (Option.none : Option Jvm.ClassFile.FieldType)) ∈ lw_all := lw_g (lw_at lw_m3 215 rfl) rfl
theorem q766 : (Jvm.Cond.methodLink "Hexstead$City" (1 : Nat) ({ cls := "java/lang/Object", name := "<init>", desc := "()V" } : Jvm.MethodName)) ∈ lw_all := lw_g (lw_at lw_m3 216 rfl) rfl
theorem q767 : (Jvm.Cond.fieldLink "Hexstead$City" (7 : Nat) "Hexstead$City" "owner" "I") ∈ lw_all := lw_g (lw_at lw_m3 217 rfl) rfl
theorem q768 : (Jvm.Cond.laysFinal "Hexstead$City" "Hexstead$City" "owner" "I") ∈ lw_all := lw_g (lw_at lw_m3 218 rfl) rfl
theorem q769 : (Jvm.Cond.soleField "Hexstead$City" "owner") ∈ lw_all := lw_g (lw_at lw_m3 219 rfl) rfl
theorem q770 : (Jvm.Cond.superclass "Hexstead$City" "java/lang/Object") ∈ lw_all := lw_g (lw_at lw_m3 220 rfl) rfl
theorem q1478 : (Jvm.Cond.castable "Hexstead$City" "java/lang/Object") ∈ lw_tbl := lw_at lw_m6 208 rfl
theorem in_X6 : ∀ w ∈ wsX60, w ∈ lw_all := lw_in wsX60 [768] (by decide +kernel) (by decide +kernel)
/-! Hexstead$Kind -/
set_option maxRecDepth 100000
def RX7 : String := "Hexstead$Kind"
abbrev cX7_points : ByteArray := prog_7_method_4_code
def yX7_points : MethodName := ⟨RX7, "points", "()I"⟩
theorem dX7_points_0 : decode cX7_points 0 = .ok (.iconst 0, 1) := by decide +kernel
theorem dX7_points_1 : decode cX7_points 1 = .ok (.ireturn, 1) := by decide +kernel
theorem q94 : (Jvm.Cond.initialized "Hexstead$Kind") ∈ lw_all := lw_g (lw_at lw_m1 24 rfl) rfl
theorem q485 : (Jvm.Cond.selects "Hexstead$Kind" ({ cls := "java/lang/Object", name := "getClass", desc := "()Ljava/lang/Class;" } : Jvm.MethodName) ({ cls := "java/lang/Object", name := "getClass", desc := "()Ljava/lang/Class;" } : Jvm.MethodName)) ∈ lw_all := lw_g (lw_at lw_m2 175 rfl) rfl
theorem q630 : (Jvm.Cond.instanceMethod ({ cls := "Hexstead$Kind", name := "points", desc := "()I" } : Jvm.MethodName)) ∈ lw_all := lw_g (lw_at lw_m3 80 rfl) rfl
theorem q631 : (Jvm.Cond.selects "Hexstead$Kind" ({ cls := "Hexstead$Kind", name := "points", desc := "()I" } : Jvm.MethodName) ({ cls := "Hexstead$Kind", name := "points", desc := "()I" } : Jvm.MethodName)) ∈ lw_all := lw_g (lw_at lw_m3 81 rfl) rfl
theorem q632 : (Jvm.Cond.sameMethod "Hexstead$Kind" "Hexstead$Kind" "points" "()I") ∈ lw_all := lw_g (lw_at lw_m3 82 rfl) rfl
theorem q636 : (Jvm.Cond.code ({ cls := "Hexstead$Kind", name := "points", desc := "()I" } : Jvm.MethodName) prog_7_method_4_code (1 : Nat) (Option.some Jvm.ClassFile.FieldType.int)) ∈ lw_all := lw_g (lw_at lw_m3 86 rfl) rfl
theorem q788 : (Jvm.Cond.laysStatic "Hexstead$Kind" "DECK" "[LHexstead$Kind;") ∈ lw_tbl := lw_at lw_m3 238 rfl
theorem q811 : (Jvm.Cond.sameMethod "Hexstead$Kind" "java/lang/Enum" "ordinal" "()I") ∈ lw_all := lw_g (lw_at lw_m4 21 rfl) rfl
theorem q813 : (Jvm.Cond.selects "Hexstead$Kind" ({ cls := "Hexstead$Kind", name := "ordinal", desc := "()I" } : Jvm.MethodName) ({ cls := "java/lang/Enum", name := "ordinal", desc := "()I" } : Jvm.MethodName)) ∈ lw_all := lw_g (lw_at lw_m4 23 rfl) rfl
theorem q825 : (Jvm.Cond.laysStatic "Hexstead$Kind" "KNIGHTS" "LHexstead$Kind;") ∈ lw_tbl := lw_at lw_m4 35 rfl
theorem q842 : (Jvm.Cond.laysStatic "Hexstead$Kind" "OF_ROADS" "LHexstead$Kind;") ∈ lw_tbl := lw_at lw_m4 52 rfl
theorem q854 : (Jvm.Cond.laysStatic "Hexstead$Kind" "OF_PLENTY" "LHexstead$Kind;") ∈ lw_tbl := lw_at lw_m4 64 rfl
theorem q863 : (Jvm.Cond.laysStatic "Hexstead$Kind" "OF_MONOPOLY" "LHexstead$Kind;") ∈ lw_tbl := lw_at lw_m4 73 rfl
theorem q1467 : (Jvm.Cond.castable "Hexstead$Kind" "java/lang/Object") ∈ lw_tbl := lw_at lw_m6 197 rfl
theorem q1496 : (Jvm.Cond.laysStatic "Hexstead$Kind" "OF_POINT" "LHexstead$Kind;") ∈ lw_tbl := lw_at lw_m6 226 rfl
/-! Hexstead$Card -/
set_option maxRecDepth 100000
def RX8 : String := "Hexstead$Card"
def TX8 : u_T := fun k => match k with
  | 0 => ("Hexstead$Card", "kind", "LHexstead$Kind;", true)
  | 1 => ("Hexstead$Card", "owner", "I", true)
  | 2 => ("Hexstead$Card", "bought", "I", true)
  | _ => ("Hexstead$Card", "isUsed", "Z", false)
def tyX8 : Nat → FieldType := fun k => match k with
  | 0 => .object "Hexstead$Kind"
  | 1 => .int
  | 2 => .int
  | _ => .boolean
abbrev wsX80 : List Cond := u_ws RX8 TX8 4
theorem nmX8 : ∀ a, a < 4 → ∀ b, b < 4 → a ≠ b → (TX8 a).2.1 ≠ (TX8 b).2.1 := by decide +kernel
theorem tyX8_ok : ∀ k, k < 4 → parseFieldDescriptor (TX8 k).2.2.1 = some (tyX8 k) := by decide +kernel
abbrev cX8_init : ByteArray := prog_3_method_1_code
def yX8_init : MethodName := ⟨RX8, "<init>", "(LHexstead$Kind;II)V"⟩
def dkwX8_init_0 : List UInt8 := [42, 183, 0, 1, 42, 43, 181, 0, 7, 42, 28, 181, 0, 13, 42, 29, 181, 0, 17, 177]
abbrev dktX8_init_0 : List UInt8 := dkwX8_init_0 ++ []
theorem dksX8_init_0 : cX8_init.data.toList.drop 0 = dktX8_init_0 := by decide +kernel
theorem dX8_init_0 : decode cX8_init 0 = .ok (.aload_n 0, 1) := dk_42 (dk_at dksX8_init_0 0 rfl rfl)
theorem dX8_init_1 : decode cX8_init 1 = .ok (.invokespecial 1, 3) := dk_183 0 1 (dk_at dksX8_init_0 1 rfl rfl)
theorem dX8_init_4 : decode cX8_init 4 = .ok (.aload_n 0, 1) := dk_42 (dk_at dksX8_init_0 4 rfl rfl)
theorem dX8_init_5 : decode cX8_init 5 = .ok (.aload_n 1, 1) := dk_43 (dk_at dksX8_init_0 5 rfl rfl)
theorem dX8_init_6 : decode cX8_init 6 = .ok (.putfield 7, 3) := dk_181 0 7 (dk_at dksX8_init_0 6 rfl rfl)
theorem dX8_init_9 : decode cX8_init 9 = .ok (.aload_n 0, 1) := dk_42 (dk_at dksX8_init_0 9 rfl rfl)
theorem dX8_init_10 : decode cX8_init 10 = .ok (.iload_n 2, 1) := dk_28 (dk_at dksX8_init_0 10 rfl rfl)
theorem dX8_init_11 : decode cX8_init 11 = .ok (.putfield 13, 3) := dk_181 0 13 (dk_at dksX8_init_0 11 rfl rfl)
theorem dX8_init_14 : decode cX8_init 14 = .ok (.aload_n 0, 1) := dk_42 (dk_at dksX8_init_0 14 rfl rfl)
theorem dX8_init_15 : decode cX8_init 15 = .ok (.iload_n 3, 1) := dk_29 (dk_at dksX8_init_0 15 rfl rfl)
theorem dX8_init_16 : decode cX8_init 16 = .ok (.putfield 17, 3) := dk_181 0 17 (dk_at dksX8_init_0 16 rfl rfl)
theorem dX8_init_19 : decode cX8_init 19 = .ok (.return_, 1) := dk_177 (dk_at dksX8_init_0 19 rfl rfl)
theorem q95 : (Jvm.Cond.initialized "Hexstead$Card") ∈ lw_all := lw_g (lw_at lw_m1 25 rfl) rfl
theorem q481 : (Jvm.Cond.selects "Hexstead$Card" ({ cls := "java/lang/Object", name := "getClass", desc := "()Ljava/lang/Class;" } : Jvm.MethodName) ({ cls := "java/lang/Object", name := "getClass", desc := "()Ljava/lang/Class;" } : Jvm.MethodName)) ∈ lw_all := lw_g (lw_at lw_m2 171 rfl) rfl
theorem q789 : (Jvm.Cond.instantiable "Hexstead$Card" (4 : Nat)) ∈ lw_all := lw_g (lw_at lw_m3 239 rfl) rfl
theorem q791 : (Jvm.Cond.instanceMethod ({ cls := "Hexstead$Card", name := "<init>", desc := "(LHexstead$Kind;II)V" } : Jvm.MethodName)) ∈ lw_all := lw_g (lw_at lw_m4 1 rfl) rfl
theorem q792 : (Jvm.Cond.code ({ cls := "Hexstead$Card", name := "<init>", desc := "(LHexstead$Kind;II)V" } : Jvm.MethodName) prog_3_method_1_code (4 : Nat) (Option.none : Option Jvm.ClassFile.FieldType)) ∈ lw_all := lw_g (lw_at lw_m4 2 rfl) rfl
theorem q793 : (Jvm.Cond.methodLink "Hexstead$Card" (1 : Nat) ({ cls := "java/lang/Object", name := "<init>", desc := "()V" } : Jvm.MethodName)) ∈ lw_all := lw_g (lw_at lw_m4 3 rfl) rfl
theorem q794 : (Jvm.Cond.fieldLink "Hexstead$Card" (7 : Nat) "Hexstead$Card" "kind" "LHexstead$Kind;") ∈ lw_all := lw_g (lw_at lw_m4 4 rfl) rfl
theorem q796 : (Jvm.Cond.fieldLink "Hexstead$Card" (13 : Nat) "Hexstead$Card" "owner" "I") ∈ lw_all := lw_g (lw_at lw_m4 6 rfl) rfl
theorem q798 : (Jvm.Cond.fieldLink "Hexstead$Card" (17 : Nat) "Hexstead$Card" "bought" "I") ∈ lw_all := lw_g (lw_at lw_m4 8 rfl) rfl
theorem q801 : (Jvm.Cond.laysFinal "Hexstead$Card" "Hexstead$Card" "kind" "LHexstead$Kind;") ∈ lw_all := lw_g (lw_at lw_m4 11 rfl) rfl
theorem q802 : (Jvm.Cond.soleField "Hexstead$Card" "kind") ∈ lw_all := lw_g (lw_at lw_m4 12 rfl) rfl
theorem q803 : (Jvm.Cond.laysFinal "Hexstead$Card" "Hexstead$Card" "owner" "I") ∈ lw_all := lw_g (lw_at lw_m4 13 rfl) rfl
theorem q804 : (Jvm.Cond.soleField "Hexstead$Card" "owner") ∈ lw_all := lw_g (lw_at lw_m4 14 rfl) rfl
theorem q805 : (Jvm.Cond.laysFinal "Hexstead$Card" "Hexstead$Card" "bought" "I") ∈ lw_all := lw_g (lw_at lw_m4 15 rfl) rfl
theorem q806 : (Jvm.Cond.soleField "Hexstead$Card" "bought") ∈ lw_all := lw_g (lw_at lw_m4 16 rfl) rfl
theorem q807 : (Jvm.Cond.lays "Hexstead$Card" "Hexstead$Card" "isUsed" "Z") ∈ lw_all := lw_g (lw_at lw_m4 17 rfl) rfl
theorem q808 : (Jvm.Cond.soleField "Hexstead$Card" "isUsed") ∈ lw_all := lw_g (lw_at lw_m4 18 rfl) rfl
theorem q809 : (Jvm.Cond.superclass "Hexstead$Card" "java/lang/Object") ∈ lw_all := lw_g (lw_at lw_m4 19 rfl) rfl
theorem q1480 : (Jvm.Cond.castable "Hexstead$Card" "java/lang/Object") ∈ lw_tbl := lw_at lw_m6 210 rfl
theorem in_X8 : ∀ w ∈ wsX80, w ∈ lw_all := lw_in wsX80 [801, 803, 805, 807] (by decide +kernel) (by decide +kernel)
/-! Hexstead$Offer -/
set_option maxRecDepth 100000
def RX9 : String := "Hexstead$Offer"
def TX9 : u_T := fun k => match k with
  | 0 => ("Hexstead$Offer", "give", "I", true)
  | _ => ("Hexstead$Offer", "want", "I", true)
def tyX9 : Nat → FieldType := fun k => match k with
  | 0 => .int
  | _ => .int
abbrev wsX90 : List Cond := u_ws RX9 TX9 2
theorem nmX9 : ∀ a, a < 2 → ∀ b, b < 2 → a ≠ b → (TX9 a).2.1 ≠ (TX9 b).2.1 := by decide +kernel
theorem tyX9_ok : ∀ k, k < 2 → parseFieldDescriptor (TX9 k).2.2.1 = some (tyX9 k) := by decide +kernel
abbrev cX9_init : ByteArray := prog_10_method_1_code
def yX9_init : MethodName := ⟨RX9, "<init>", "(II)V"⟩
def dkwX9_init_0 : List UInt8 := [42, 183, 0, 1, 42, 27, 181, 0, 7, 42, 28, 181, 0, 13, 177]
abbrev dktX9_init_0 : List UInt8 := dkwX9_init_0 ++ []
theorem dksX9_init_0 : cX9_init.data.toList.drop 0 = dktX9_init_0 := by decide +kernel
theorem dX9_init_0 : decode cX9_init 0 = .ok (.aload_n 0, 1) := dk_42 (dk_at dksX9_init_0 0 rfl rfl)
theorem dX9_init_1 : decode cX9_init 1 = .ok (.invokespecial 1, 3) := dk_183 0 1 (dk_at dksX9_init_0 1 rfl rfl)
theorem dX9_init_4 : decode cX9_init 4 = .ok (.aload_n 0, 1) := dk_42 (dk_at dksX9_init_0 4 rfl rfl)
theorem dX9_init_5 : decode cX9_init 5 = .ok (.iload_n 1, 1) := dk_27 (dk_at dksX9_init_0 5 rfl rfl)
theorem dX9_init_6 : decode cX9_init 6 = .ok (.putfield 7, 3) := dk_181 0 7 (dk_at dksX9_init_0 6 rfl rfl)
theorem dX9_init_9 : decode cX9_init 9 = .ok (.aload_n 0, 1) := dk_42 (dk_at dksX9_init_0 9 rfl rfl)
theorem dX9_init_10 : decode cX9_init 10 = .ok (.iload_n 2, 1) := dk_28 (dk_at dksX9_init_0 10 rfl rfl)
theorem dX9_init_11 : decode cX9_init 11 = .ok (.putfield 13, 3) := dk_181 0 13 (dk_at dksX9_init_0 11 rfl rfl)
theorem dX9_init_14 : decode cX9_init 14 = .ok (.return_, 1) := dk_177 (dk_at dksX9_init_0 14 rfl rfl)
theorem q96 : (Jvm.Cond.initialized "Hexstead$Offer") ∈ lw_all := lw_g (lw_at lw_m1 26 rfl) rfl
theorem q488 : (Jvm.Cond.selects "Hexstead$Offer" ({ cls := "java/lang/Object", name := "getClass", desc := "()Ljava/lang/Class;" } : Jvm.MethodName) ({ cls := "java/lang/Object", name := "getClass", desc := "()Ljava/lang/Class;" } : Jvm.MethodName)) ∈ lw_all := lw_g (lw_at lw_m2 178 rfl) rfl
theorem q890 : (Jvm.Cond.instantiable "Hexstead$Offer" (2 : Nat)) ∈ lw_all := lw_g (lw_at lw_m4 100 rfl) rfl
theorem q892 : (Jvm.Cond.instanceMethod ({ cls := "Hexstead$Offer", name := "<init>", desc := "(II)V" } : Jvm.MethodName)) ∈ lw_all := lw_g (lw_at lw_m4 102 rfl) rfl
theorem q893 : (Jvm.Cond.code ({ cls := "Hexstead$Offer", name := "<init>", desc := "(II)V" } : Jvm.MethodName) prog_10_method_1_code (3 : Nat) (Option.none : Option Jvm.ClassFile.FieldType)) ∈ lw_all := lw_g (lw_at lw_m4 103 rfl) rfl
theorem q894 : (Jvm.Cond.methodLink "Hexstead$Offer" (1 : Nat) ({ cls := "java/lang/Object", name := "<init>", desc := "()V" } : Jvm.MethodName)) ∈ lw_all := lw_g (lw_at lw_m4 104 rfl) rfl
theorem q895 : (Jvm.Cond.fieldLink "Hexstead$Offer" (7 : Nat) "Hexstead$Offer" "give" "I") ∈ lw_all := lw_g (lw_at lw_m4 105 rfl) rfl
theorem q897 : (Jvm.Cond.fieldLink "Hexstead$Offer" (13 : Nat) "Hexstead$Offer" "want" "I") ∈ lw_all := lw_g (lw_at lw_m4 107 rfl) rfl
theorem q899 : (Jvm.Cond.laysFinal "Hexstead$Offer" "Hexstead$Offer" "give" "I") ∈ lw_all := lw_g (lw_at lw_m4 109 rfl) rfl
theorem q900 : (Jvm.Cond.soleField "Hexstead$Offer" "give") ∈ lw_all := lw_g (lw_at lw_m4 110 rfl) rfl
theorem q901 : (Jvm.Cond.laysFinal "Hexstead$Offer" "Hexstead$Offer" "want" "I") ∈ lw_all := lw_g (lw_at lw_m4 111 rfl) rfl
theorem q902 : (Jvm.Cond.soleField "Hexstead$Offer" "want") ∈ lw_all := lw_g (lw_at lw_m4 112 rfl) rfl
theorem q903 : (Jvm.Cond.superclass "Hexstead$Offer" "java/lang/Object") ∈ lw_all := lw_g (lw_at lw_m4 113 rfl) rfl
theorem q1466 : (Jvm.Cond.castable "Hexstead$Offer" "java/lang/Object") ∈ lw_tbl := lw_at lw_m6 196 rfl
theorem in_X9 : ∀ w ∈ wsX90, w ∈ lw_all := lw_in wsX90 [899, 901] (by decide +kernel) (by decide +kernel)
/-! Hexstead$Kind$1 -/
set_option maxRecDepth 100000
def RX10 : String := "Hexstead$Kind$1"
abbrev cX10_points : ByteArray := prog_8_method_2_code
def yX10_points : MethodName := ⟨RX10, "points", "()I"⟩
theorem dX10_points_0 : decode cX10_points 0 = .ok (.iconst 1, 1) := by decide +kernel
theorem dX10_points_1 : decode cX10_points 1 = .ok (.ireturn, 1) := by decide +kernel
theorem q486 : (Jvm.Cond.selects "Hexstead$Kind$1" ({ cls := "java/lang/Object", name := "getClass", desc := "()Ljava/lang/Class;" } : Jvm.MethodName) ({ cls := "java/lang/Object", name := "getClass", desc := "()Ljava/lang/Class;" } : Jvm.MethodName)) ∈ lw_all := lw_g (lw_at lw_m2 176 rfl) rfl
theorem q633 : (Jvm.Cond.selects "Hexstead$Kind$1" ({ cls := "Hexstead$Kind", name := "points", desc := "()I" } : Jvm.MethodName) ({ cls := "Hexstead$Kind$1", name := "points", desc := "()I" } : Jvm.MethodName)) ∈ lw_all := lw_g (lw_at lw_m3 83 rfl) rfl
theorem q634 : (Jvm.Cond.instanceMethod ({ cls := "Hexstead$Kind$1", name := "points", desc := "()I" } : Jvm.MethodName)) ∈ lw_all := lw_g (lw_at lw_m3 84 rfl) rfl
theorem q635 : (Jvm.Cond.code ({ cls := "Hexstead$Kind$1", name := "points", desc := "()I" } : Jvm.MethodName) prog_8_method_2_code (1 : Nat) (Option.some Jvm.ClassFile.FieldType.int)) ∈ lw_all := lw_g (lw_at lw_m3 85 rfl) rfl
theorem q814 : (Jvm.Cond.selects "Hexstead$Kind$1" ({ cls := "Hexstead$Kind", name := "ordinal", desc := "()I" } : Jvm.MethodName) ({ cls := "java/lang/Enum", name := "ordinal", desc := "()I" } : Jvm.MethodName)) ∈ lw_all := lw_g (lw_at lw_m4 24 rfl) rfl
theorem q1479 : (Jvm.Cond.castable "Hexstead$Kind$1" "java/lang/Object") ∈ lw_tbl := lw_at lw_m6 209 rfl
/-! Hexstead$Building -/
set_option maxRecDepth 100000
def RX11 : String := "Hexstead$Building"
abbrev cX11_points : ByteArray := prog_2_method_3_code
def yX11_points : MethodName := ⟨RX11, "points", "()I"⟩
theorem dX11_points_0 : decode cX11_points 0 = .ok (.aload_n 0, 1) := by decide +kernel
theorem dX11_points_1 : decode cX11_points 1 = .ok (.invokeinterface 1 1, 5) := by decide +kernel
theorem dX11_points_6 : decode cX11_points 6 = .ok (.ireturn, 1) := by decide +kernel
theorem q532 : (Jvm.Cond.interfaceMethod "Hexstead$Building" "Hexstead$Building" "owner" "()I") ∈ lw_tbl := lw_at lw_m2 222 rfl
theorem q533 : (Jvm.Cond.declares ({ cls := "Hexstead$Building", name := "owner", desc := "()I" } : Jvm.MethodName)) ∈ lw_tbl := lw_at lw_m2 223 rfl
theorem q556 : (Jvm.Cond.interfaceMethod "Hexstead$Building" "Hexstead$Building" "points" "()I") ∈ lw_tbl := lw_at lw_m3 6 rfl
theorem q557 : (Jvm.Cond.declares ({ cls := "Hexstead$Building", name := "points", desc := "()I" } : Jvm.MethodName)) ∈ lw_tbl := lw_at lw_m3 7 rfl
theorem q559 : (Jvm.Cond.instanceMethod ({ cls := "Hexstead$Building", name := "points", desc := "()I" } : Jvm.MethodName)) ∈ lw_all := lw_g (lw_at lw_m3 9 rfl) rfl
theorem q560 : (Jvm.Cond.publicMethod ({ cls := "Hexstead$Building", name := "points", desc := "()I" } : Jvm.MethodName)) ∈ lw_tbl := lw_at lw_m3 10 rfl
theorem q561 : (Jvm.Cond.code ({ cls := "Hexstead$Building", name := "points", desc := "()I" } : Jvm.MethodName) prog_2_method_3_code (1 : Nat) (Option.some Jvm.ClassFile.FieldType.int)) ∈ lw_all := lw_g (lw_at lw_m3 11 rfl) rfl
theorem q562 : (Jvm.Cond.interfaceEntry "Hexstead$Building" (1 : Nat)) ∈ lw_tbl := lw_at lw_m3 12 rfl
theorem q563 : (Jvm.Cond.methodLink "Hexstead$Building" (1 : Nat) ({ cls := "Hexstead$Building", name := "gets", desc := "()I" } : Jvm.MethodName)) ∈ lw_all := lw_g (lw_at lw_m3 13 rfl) rfl
theorem q564 : (Jvm.Cond.interfaceMethod "Hexstead$Building" "Hexstead$Building" "gets" "()I") ∈ lw_tbl := lw_at lw_m3 14 rfl
theorem q565 : (Jvm.Cond.declares ({ cls := "Hexstead$Building", name := "gets", desc := "()I" } : Jvm.MethodName)) ∈ lw_tbl := lw_at lw_m3 15 rfl
theorem q1462 : (Jvm.Cond.initialized "Hexstead$Building") ∈ lw_all := lw_g (lw_at lw_m6 192 rfl) rfl
theorem q1465 : (Jvm.Cond.castable "Hexstead$Building" "java/lang/Object") ∈ lw_tbl := lw_at lw_m6 195 rfl
